/-! TypesAtPrime$Sheet -/
set_option maxRecDepth 100000
def RX1 : String := "TypesAtPrime$Sheet"
def TX1 : u_T := fun k => match k with
  | _ => ("TypesAtPrime$Sheet", "row", "Ljava/lang/Object;", false)
def tyX1 : Nat → FieldType := fun k => match k with
  | _ => .object "java/lang/Object"
abbrev wsX10 : List Cond := u_ws RX1 TX1 1
theorem nmX1 : ∀ a, a < 1 → ∀ b, b < 1 → a ≠ b → (TX1 a).2.1 ≠ (TX1 b).2.1 := by decide +kernel
theorem tyX1_ok : ∀ k, k < 1 → parseFieldDescriptor (TX1 k).2.2.1 = some (tyX1 k) := by decide +kernel
abbrev cX1_init : ByteArray := prog_13_method_1_code
def yX1_init : MethodName := ⟨RX1, "<init>", "()V"⟩
theorem dX1_init_0 : decode cX1_init 0 = .ok (.aload_n 0, 1) := by decide +kernel
theorem dX1_init_1 : decode cX1_init 1 = .ok (.invokespecial 1, 3) := by decide +kernel
theorem dX1_init_4 : decode cX1_init 4 = .ok (.return_, 1) := by decide +kernel
abbrev cX1_first : ByteArray := prog_13_method_6_code
def yX1_first : MethodName := ⟨RX1, "first", "()I"⟩
def dkwX1_first_1 : List UInt8 := [27, 42, 182, 0, 17, 162, 0, 7, 27, 167, 0, 4, 2, 172]
abbrev dktX1_first_1 : List UInt8 := dkwX1_first_1 ++ []
def dkwX1_first_0 : List UInt8 := [3, 60, 27, 42, 182, 0, 17, 162, 0, 17, 42, 27, 182, 0, 21, 156, 0, 9, 132, 1, 1, 167, 255, 237]
abbrev dktX1_first_0 : List UInt8 := dkwX1_first_0 ++ dktX1_first_1
theorem dksX1_first_0 : cX1_first.data.toList.drop 0 = dktX1_first_0 := by decide +kernel
theorem dksX1_first_1 : cX1_first.data.toList.drop 24 = dktX1_first_1 := dk_seg dksX1_first_0 24 rfl rfl
theorem dX1_first_0 : decode cX1_first 0 = .ok (.iconst 0, 1) := dk_3 (dk_at dksX1_first_0 0 rfl rfl)
theorem dX1_first_1 : decode cX1_first 1 = .ok (.istore_n 1, 1) := dk_60 (dk_at dksX1_first_0 1 rfl rfl)
theorem dX1_first_2 : decode cX1_first 2 = .ok (.iload_n 1, 1) := dk_27 (dk_at dksX1_first_0 2 rfl rfl)
theorem dX1_first_3 : decode cX1_first 3 = .ok (.aload_n 0, 1) := dk_42 (dk_at dksX1_first_0 3 rfl rfl)
theorem dX1_first_4 : decode cX1_first 4 = .ok (.invokevirtual 17, 3) := dk_182 0 17 (dk_at dksX1_first_0 4 rfl rfl)
theorem dX1_first_7 : decode cX1_first 7 = .ok (.if_icmp .ge 17, 3) := dk_162 0 17 (dk_at dksX1_first_0 7 rfl rfl)
theorem dX1_first_10 : decode cX1_first 10 = .ok (.aload_n 0, 1) := dk_42 (dk_at dksX1_first_0 10 rfl rfl)
theorem dX1_first_11 : decode cX1_first 11 = .ok (.iload_n 1, 1) := dk_27 (dk_at dksX1_first_0 11 rfl rfl)
theorem dX1_first_12 : decode cX1_first 12 = .ok (.invokevirtual 21, 3) := dk_182 0 21 (dk_at dksX1_first_0 12 rfl rfl)
theorem dX1_first_15 : decode cX1_first 15 = .ok (.ifCond .ge 9, 3) := dk_156 0 9 (dk_at dksX1_first_0 15 rfl rfl)
theorem dX1_first_18 : decode cX1_first 18 = .ok (.iinc 1 1, 3) := dk_132 1 1 (dk_at dksX1_first_0 18 rfl rfl)
theorem dX1_first_21 : decode cX1_first 21 = .ok (.goto (-19), 3) := dk_167 255 237 (dk_at dksX1_first_0 21 rfl rfl)
theorem dX1_first_24 : decode cX1_first 24 = .ok (.iload_n 1, 1) := dk_27 (dk_at dksX1_first_1 0 rfl rfl)
theorem dX1_first_25 : decode cX1_first 25 = .ok (.aload_n 0, 1) := dk_42 (dk_at dksX1_first_1 1 rfl rfl)
theorem dX1_first_26 : decode cX1_first 26 = .ok (.invokevirtual 17, 3) := dk_182 0 17 (dk_at dksX1_first_1 2 rfl rfl)
theorem dX1_first_29 : decode cX1_first 29 = .ok (.if_icmp .ge 7, 3) := dk_162 0 7 (dk_at dksX1_first_1 5 rfl rfl)
theorem dX1_first_32 : decode cX1_first 32 = .ok (.iload_n 1, 1) := dk_27 (dk_at dksX1_first_1 8 rfl rfl)
theorem dX1_first_33 : decode cX1_first 33 = .ok (.goto 4, 3) := dk_167 0 4 (dk_at dksX1_first_1 9 rfl rfl)
theorem dX1_first_36 : decode cX1_first 36 = .ok (.iconst (-1), 1) := dk_2 (dk_at dksX1_first_1 12 rfl rfl)
theorem dX1_first_37 : decode cX1_first 37 = .ok (.ireturn, 1) := dk_172 (dk_at dksX1_first_1 13 rfl rfl)
abbrev cX1_size : ByteArray := prog_13_method_2_code
def yX1_size : MethodName := ⟨RX1, "size", "()I"⟩
def dkwX1_size_1 : List UInt8 := [180, 0, 7, 192, 0, 15, 190, 172]
abbrev dktX1_size_1 : List UInt8 := dkwX1_size_1 ++ []
def dkwX1_size_0 : List UInt8 := [42, 180, 0, 7, 77, 44, 193, 0, 13, 153, 0, 13, 44, 192, 0, 13, 76, 43, 190, 167, 0, 11, 42]
abbrev dktX1_size_0 : List UInt8 := dkwX1_size_0 ++ dktX1_size_1
theorem dksX1_size_0 : cX1_size.data.toList.drop 0 = dktX1_size_0 := by decide +kernel
theorem dksX1_size_1 : cX1_size.data.toList.drop 23 = dktX1_size_1 := dk_seg dksX1_size_0 23 rfl rfl
theorem dX1_size_0 : decode cX1_size 0 = .ok (.aload_n 0, 1) := dk_42 (dk_at dksX1_size_0 0 rfl rfl)
theorem dX1_size_1 : decode cX1_size 1 = .ok (.getfield 7, 3) := dk_180 0 7 (dk_at dksX1_size_0 1 rfl rfl)
theorem dX1_size_4 : decode cX1_size 4 = .ok (.astore_n 2, 1) := dk_77 (dk_at dksX1_size_0 4 rfl rfl)
theorem dX1_size_5 : decode cX1_size 5 = .ok (.aload_n 2, 1) := dk_44 (dk_at dksX1_size_0 5 rfl rfl)
theorem dX1_size_6 : decode cX1_size 6 = .ok (.instanceof 13, 3) := dk_193 0 13 (dk_at dksX1_size_0 6 rfl rfl)
theorem dX1_size_9 : decode cX1_size 9 = .ok (.ifCond .eq 13, 3) := dk_153 0 13 (dk_at dksX1_size_0 9 rfl rfl)
theorem dX1_size_12 : decode cX1_size 12 = .ok (.aload_n 2, 1) := dk_44 (dk_at dksX1_size_0 12 rfl rfl)
theorem dX1_size_13 : decode cX1_size 13 = .ok (.checkcast 13, 3) := dk_192 0 13 (dk_at dksX1_size_0 13 rfl rfl)
theorem dX1_size_16 : decode cX1_size 16 = .ok (.astore_n 1, 1) := dk_76 (dk_at dksX1_size_0 16 rfl rfl)
theorem dX1_size_17 : decode cX1_size 17 = .ok (.aload_n 1, 1) := dk_43 (dk_at dksX1_size_0 17 rfl rfl)
theorem dX1_size_18 : decode cX1_size 18 = .ok (.arraylength, 1) := dk_190 (dk_at dksX1_size_0 18 rfl rfl)
theorem dX1_size_19 : decode cX1_size 19 = .ok (.goto 11, 3) := dk_167 0 11 (dk_at dksX1_size_0 19 rfl rfl)
theorem dX1_size_22 : decode cX1_size 22 = .ok (.aload_n 0, 1) := dk_42 (dk_at dksX1_size_0 22 rfl rfl)
theorem dX1_size_23 : decode cX1_size 23 = .ok (.getfield 7, 3) := dk_180 0 7 (dk_at dksX1_size_1 0 rfl rfl)
theorem dX1_size_26 : decode cX1_size 26 = .ok (.checkcast 15, 3) := dk_192 0 15 (dk_at dksX1_size_1 3 rfl rfl)
theorem dX1_size_29 : decode cX1_size 29 = .ok (.arraylength, 1) := dk_190 (dk_at dksX1_size_1 6 rfl rfl)
theorem dX1_size_30 : decode cX1_size 30 = .ok (.ireturn, 1) := dk_172 (dk_at dksX1_size_1 7 rfl rfl)
abbrev cX1_get : ByteArray := prog_13_method_3_code
def yX1_get : MethodName := ⟨RX1, "get", "(I)I"⟩
def dkwX1_get_1 : List UInt8 := [180, 0, 7, 192, 0, 15, 27, 46, 172]
abbrev dktX1_get_1 : List UInt8 := dkwX1_get_1 ++ []
def dkwX1_get_0 : List UInt8 := [42, 180, 0, 7, 78, 45, 193, 0, 13, 153, 0, 14, 45, 192, 0, 13, 77, 44, 27, 51, 167, 0, 12, 42]
abbrev dktX1_get_0 : List UInt8 := dkwX1_get_0 ++ dktX1_get_1
theorem dksX1_get_0 : cX1_get.data.toList.drop 0 = dktX1_get_0 := by decide +kernel
theorem dksX1_get_1 : cX1_get.data.toList.drop 24 = dktX1_get_1 := dk_seg dksX1_get_0 24 rfl rfl
theorem dX1_get_0 : decode cX1_get 0 = .ok (.aload_n 0, 1) := dk_42 (dk_at dksX1_get_0 0 rfl rfl)
theorem dX1_get_1 : decode cX1_get 1 = .ok (.getfield 7, 3) := dk_180 0 7 (dk_at dksX1_get_0 1 rfl rfl)
theorem dX1_get_4 : decode cX1_get 4 = .ok (.astore_n 3, 1) := dk_78 (dk_at dksX1_get_0 4 rfl rfl)
theorem dX1_get_5 : decode cX1_get 5 = .ok (.aload_n 3, 1) := dk_45 (dk_at dksX1_get_0 5 rfl rfl)
theorem dX1_get_6 : decode cX1_get 6 = .ok (.instanceof 13, 3) := dk_193 0 13 (dk_at dksX1_get_0 6 rfl rfl)
theorem dX1_get_9 : decode cX1_get 9 = .ok (.ifCond .eq 14, 3) := dk_153 0 14 (dk_at dksX1_get_0 9 rfl rfl)
theorem dX1_get_12 : decode cX1_get 12 = .ok (.aload_n 3, 1) := dk_45 (dk_at dksX1_get_0 12 rfl rfl)
theorem dX1_get_13 : decode cX1_get 13 = .ok (.checkcast 13, 3) := dk_192 0 13 (dk_at dksX1_get_0 13 rfl rfl)
theorem dX1_get_16 : decode cX1_get 16 = .ok (.astore_n 2, 1) := dk_77 (dk_at dksX1_get_0 16 rfl rfl)
theorem dX1_get_17 : decode cX1_get 17 = .ok (.aload_n 2, 1) := dk_44 (dk_at dksX1_get_0 17 rfl rfl)
theorem dX1_get_18 : decode cX1_get 18 = .ok (.iload_n 1, 1) := dk_27 (dk_at dksX1_get_0 18 rfl rfl)
theorem dX1_get_19 : decode cX1_get 19 = .ok (.baload, 1) := dk_51 (dk_at dksX1_get_0 19 rfl rfl)
theorem dX1_get_20 : decode cX1_get 20 = .ok (.goto 12, 3) := dk_167 0 12 (dk_at dksX1_get_0 20 rfl rfl)
theorem dX1_get_23 : decode cX1_get 23 = .ok (.aload_n 0, 1) := dk_42 (dk_at dksX1_get_0 23 rfl rfl)
theorem dX1_get_24 : decode cX1_get 24 = .ok (.getfield 7, 3) := dk_180 0 7 (dk_at dksX1_get_1 0 rfl rfl)
theorem dX1_get_27 : decode cX1_get 27 = .ok (.checkcast 15, 3) := dk_192 0 15 (dk_at dksX1_get_1 3 rfl rfl)
theorem dX1_get_30 : decode cX1_get 30 = .ok (.iload_n 1, 1) := dk_27 (dk_at dksX1_get_1 6 rfl rfl)
theorem dX1_get_31 : decode cX1_get 31 = .ok (.iaload, 1) := dk_46 (dk_at dksX1_get_1 7 rfl rfl)
theorem dX1_get_32 : decode cX1_get 32 = .ok (.ireturn, 1) := dk_172 (dk_at dksX1_get_1 8 rfl rfl)
abbrev cX1_next : ByteArray := prog_13_method_5_code
def yX1_next : MethodName := ⟨RX1, "next", "(I)I"⟩
def dkwX1_next_4 : List UInt8 := [172]
abbrev dktX1_next_4 : List UInt8 := dkwX1_next_4 ++ []
def dkwX1_next_3 : List UInt8 := [167, 0, 4, 3, 54, 4, 21, 4, 153, 0, 7, 29, 167, 0, 4, 28, 61, 132, 3, 1, 167, 255, 172, 28]
abbrev dktX1_next_3 : List UInt8 := dkwX1_next_3 ++ dktX1_next_4
def dkwX1_next_2 : List UInt8 := [105, 42, 28, 182, 0, 21, 133, 42, 27, 182, 0, 21, 133, 101, 29, 27, 100, 133, 105, 148, 157, 0, 7, 4]
abbrev dktX1_next_2 : List UInt8 := dkwX1_next_2 ++ dktX1_next_3
def dkwX1_next_1 : List UInt8 := [167, 0, 65, 28, 155, 0, 43, 42, 29, 182, 0, 21, 133, 42, 27, 182, 0, 21, 133, 101, 28, 27, 100, 133]
abbrev dktX1_next_1 : List UInt8 := dkwX1_next_1 ++ dktX1_next_2
def dkwX1_next_0 : List UInt8 := [2, 61, 27, 4, 96, 62, 29, 42, 182, 0, 17, 162, 0, 82, 42, 29, 182, 0, 21, 156, 0, 6]
abbrev dktX1_next_0 : List UInt8 := dkwX1_next_0 ++ dktX1_next_1
theorem dksX1_next_0 : cX1_next.data.toList.drop 0 = dktX1_next_0 := by decide +kernel
theorem dksX1_next_1 : cX1_next.data.toList.drop 22 = dktX1_next_1 := dk_seg dksX1_next_0 22 rfl rfl
theorem dksX1_next_2 : cX1_next.data.toList.drop 46 = dktX1_next_2 := dk_seg dksX1_next_1 24 rfl rfl
theorem dksX1_next_3 : cX1_next.data.toList.drop 70 = dktX1_next_3 := dk_seg dksX1_next_2 24 rfl rfl
theorem dksX1_next_4 : cX1_next.data.toList.drop 94 = dktX1_next_4 := dk_seg dksX1_next_3 24 rfl rfl
theorem dX1_next_0 : decode cX1_next 0 = .ok (.iconst (-1), 1) := dk_2 (dk_at dksX1_next_0 0 rfl rfl)
theorem dX1_next_1 : decode cX1_next 1 = .ok (.istore_n 2, 1) := dk_61 (dk_at dksX1_next_0 1 rfl rfl)
theorem dX1_next_2 : decode cX1_next 2 = .ok (.iload_n 1, 1) := dk_27 (dk_at dksX1_next_0 2 rfl rfl)
theorem dX1_next_3 : decode cX1_next 3 = .ok (.iconst 1, 1) := dk_4 (dk_at dksX1_next_0 3 rfl rfl)
theorem dX1_next_4 : decode cX1_next 4 = .ok (.iadd, 1) := dk_96 (dk_at dksX1_next_0 4 rfl rfl)
theorem dX1_next_5 : decode cX1_next 5 = .ok (.istore_n 3, 1) := dk_62 (dk_at dksX1_next_0 5 rfl rfl)
theorem dX1_next_6 : decode cX1_next 6 = .ok (.iload_n 3, 1) := dk_29 (dk_at dksX1_next_0 6 rfl rfl)
theorem dX1_next_7 : decode cX1_next 7 = .ok (.aload_n 0, 1) := dk_42 (dk_at dksX1_next_0 7 rfl rfl)
theorem dX1_next_8 : decode cX1_next 8 = .ok (.invokevirtual 17, 3) := dk_182 0 17 (dk_at dksX1_next_0 8 rfl rfl)
theorem dX1_next_11 : decode cX1_next 11 = .ok (.if_icmp .ge 82, 3) := dk_162 0 82 (dk_at dksX1_next_0 11 rfl rfl)
theorem dX1_next_14 : decode cX1_next 14 = .ok (.aload_n 0, 1) := dk_42 (dk_at dksX1_next_0 14 rfl rfl)
theorem dX1_next_15 : decode cX1_next 15 = .ok (.iload_n 3, 1) := dk_29 (dk_at dksX1_next_0 15 rfl rfl)
theorem dX1_next_16 : decode cX1_next 16 = .ok (.invokevirtual 21, 3) := dk_182 0 21 (dk_at dksX1_next_0 16 rfl rfl)
theorem dX1_next_19 : decode cX1_next 19 = .ok (.ifCond .ge 6, 3) := dk_156 0 6 (dk_at dksX1_next_0 19 rfl rfl)
theorem dX1_next_22 : decode cX1_next 22 = .ok (.goto 65, 3) := dk_167 0 65 (dk_at dksX1_next_1 0 rfl rfl)
theorem dX1_next_25 : decode cX1_next 25 = .ok (.iload_n 2, 1) := dk_28 (dk_at dksX1_next_1 3 rfl rfl)
theorem dX1_next_26 : decode cX1_next 26 = .ok (.ifCond .lt 43, 3) := dk_155 0 43 (dk_at dksX1_next_1 4 rfl rfl)
theorem dX1_next_29 : decode cX1_next 29 = .ok (.aload_n 0, 1) := dk_42 (dk_at dksX1_next_1 7 rfl rfl)
theorem dX1_next_30 : decode cX1_next 30 = .ok (.iload_n 3, 1) := dk_29 (dk_at dksX1_next_1 8 rfl rfl)
theorem dX1_next_31 : decode cX1_next 31 = .ok (.invokevirtual 21, 3) := dk_182 0 21 (dk_at dksX1_next_1 9 rfl rfl)
theorem dX1_next_34 : decode cX1_next 34 = .ok (.i2l, 1) := dk_133 (dk_at dksX1_next_1 12 rfl rfl)
theorem dX1_next_35 : decode cX1_next 35 = .ok (.aload_n 0, 1) := dk_42 (dk_at dksX1_next_1 13 rfl rfl)
theorem dX1_next_36 : decode cX1_next 36 = .ok (.iload_n 1, 1) := dk_27 (dk_at dksX1_next_1 14 rfl rfl)
theorem dX1_next_37 : decode cX1_next 37 = .ok (.invokevirtual 21, 3) := dk_182 0 21 (dk_at dksX1_next_1 15 rfl rfl)
theorem dX1_next_40 : decode cX1_next 40 = .ok (.i2l, 1) := dk_133 (dk_at dksX1_next_1 18 rfl rfl)
theorem dX1_next_41 : decode cX1_next 41 = .ok (.lsub, 1) := dk_101 (dk_at dksX1_next_1 19 rfl rfl)
theorem dX1_next_42 : decode cX1_next 42 = .ok (.iload_n 2, 1) := dk_28 (dk_at dksX1_next_1 20 rfl rfl)
theorem dX1_next_43 : decode cX1_next 43 = .ok (.iload_n 1, 1) := dk_27 (dk_at dksX1_next_1 21 rfl rfl)
theorem dX1_next_44 : decode cX1_next 44 = .ok (.isub, 1) := dk_100 (dk_at dksX1_next_1 22 rfl rfl)
theorem dX1_next_45 : decode cX1_next 45 = .ok (.i2l, 1) := dk_133 (dk_at dksX1_next_1 23 rfl rfl)
theorem dX1_next_46 : decode cX1_next 46 = .ok (.lmul, 1) := dk_105 (dk_at dksX1_next_2 0 rfl rfl)
theorem dX1_next_47 : decode cX1_next 47 = .ok (.aload_n 0, 1) := dk_42 (dk_at dksX1_next_2 1 rfl rfl)
theorem dX1_next_48 : decode cX1_next 48 = .ok (.iload_n 2, 1) := dk_28 (dk_at dksX1_next_2 2 rfl rfl)
theorem dX1_next_49 : decode cX1_next 49 = .ok (.invokevirtual 21, 3) := dk_182 0 21 (dk_at dksX1_next_2 3 rfl rfl)
theorem dX1_next_52 : decode cX1_next 52 = .ok (.i2l, 1) := dk_133 (dk_at dksX1_next_2 6 rfl rfl)
theorem dX1_next_53 : decode cX1_next 53 = .ok (.aload_n 0, 1) := dk_42 (dk_at dksX1_next_2 7 rfl rfl)
theorem dX1_next_54 : decode cX1_next 54 = .ok (.iload_n 1, 1) := dk_27 (dk_at dksX1_next_2 8 rfl rfl)
theorem dX1_next_55 : decode cX1_next 55 = .ok (.invokevirtual 21, 3) := dk_182 0 21 (dk_at dksX1_next_2 9 rfl rfl)
theorem dX1_next_58 : decode cX1_next 58 = .ok (.i2l, 1) := dk_133 (dk_at dksX1_next_2 12 rfl rfl)
theorem dX1_next_59 : decode cX1_next 59 = .ok (.lsub, 1) := dk_101 (dk_at dksX1_next_2 13 rfl rfl)
theorem dX1_next_60 : decode cX1_next 60 = .ok (.iload_n 3, 1) := dk_29 (dk_at dksX1_next_2 14 rfl rfl)
theorem dX1_next_61 : decode cX1_next 61 = .ok (.iload_n 1, 1) := dk_27 (dk_at dksX1_next_2 15 rfl rfl)
theorem dX1_next_62 : decode cX1_next 62 = .ok (.isub, 1) := dk_100 (dk_at dksX1_next_2 16 rfl rfl)
theorem dX1_next_63 : decode cX1_next 63 = .ok (.i2l, 1) := dk_133 (dk_at dksX1_next_2 17 rfl rfl)
theorem dX1_next_64 : decode cX1_next 64 = .ok (.lmul, 1) := dk_105 (dk_at dksX1_next_2 18 rfl rfl)
theorem dX1_next_65 : decode cX1_next 65 = .ok (.lcmp, 1) := dk_148 (dk_at dksX1_next_2 19 rfl rfl)
theorem dX1_next_66 : decode cX1_next 66 = .ok (.ifCond .gt 7, 3) := dk_157 0 7 (dk_at dksX1_next_2 20 rfl rfl)
theorem dX1_next_69 : decode cX1_next 69 = .ok (.iconst 1, 1) := dk_4 (dk_at dksX1_next_2 23 rfl rfl)
theorem dX1_next_70 : decode cX1_next 70 = .ok (.goto 4, 3) := dk_167 0 4 (dk_at dksX1_next_3 0 rfl rfl)
theorem dX1_next_73 : decode cX1_next 73 = .ok (.iconst 0, 1) := dk_3 (dk_at dksX1_next_3 3 rfl rfl)
theorem dX1_next_74 : decode cX1_next 74 = .ok (.istore 4, 2) := dk_54 4 (dk_at dksX1_next_3 4 rfl rfl)
theorem dX1_next_76 : decode cX1_next 76 = .ok (.iload 4, 2) := dk_21 4 (dk_at dksX1_next_3 6 rfl rfl)
theorem dX1_next_78 : decode cX1_next 78 = .ok (.ifCond .eq 7, 3) := dk_153 0 7 (dk_at dksX1_next_3 8 rfl rfl)
theorem dX1_next_81 : decode cX1_next 81 = .ok (.iload_n 3, 1) := dk_29 (dk_at dksX1_next_3 11 rfl rfl)
theorem dX1_next_82 : decode cX1_next 82 = .ok (.goto 4, 3) := dk_167 0 4 (dk_at dksX1_next_3 12 rfl rfl)
theorem dX1_next_85 : decode cX1_next 85 = .ok (.iload_n 2, 1) := dk_28 (dk_at dksX1_next_3 15 rfl rfl)
theorem dX1_next_86 : decode cX1_next 86 = .ok (.istore_n 2, 1) := dk_61 (dk_at dksX1_next_3 16 rfl rfl)
theorem dX1_next_87 : decode cX1_next 87 = .ok (.iinc 3 1, 3) := dk_132 3 1 (dk_at dksX1_next_3 17 rfl rfl)
theorem dX1_next_90 : decode cX1_next 90 = .ok (.goto (-84), 3) := dk_167 255 172 (dk_at dksX1_next_3 20 rfl rfl)
theorem dX1_next_93 : decode cX1_next 93 = .ok (.iload_n 2, 1) := dk_28 (dk_at dksX1_next_3 23 rfl rfl)
theorem dX1_next_94 : decode cX1_next 94 = .ok (.ireturn, 1) := dk_172 (dk_at dksX1_next_4 0 rfl rfl)
abbrev cX1_put : ByteArray := prog_13_method_4_code
def yX1_put : MethodName := ⟨RX1, "put", "(II)V"⟩
def dkwX1_put_1 : List UInt8 := [84, 167, 0, 13, 42, 180, 0, 7, 192, 0, 15, 27, 28, 79, 177]
abbrev dktX1_put_1 : List UInt8 := dkwX1_put_1 ++ []
def dkwX1_put_0 : List UInt8 := [42, 180, 0, 7, 58, 4, 25, 4, 193, 0, 13, 153, 0, 17, 25, 4, 192, 0, 13, 78, 45, 27, 28, 145]
abbrev dktX1_put_0 : List UInt8 := dkwX1_put_0 ++ dktX1_put_1
theorem dksX1_put_0 : cX1_put.data.toList.drop 0 = dktX1_put_0 := by decide +kernel
theorem dksX1_put_1 : cX1_put.data.toList.drop 24 = dktX1_put_1 := dk_seg dksX1_put_0 24 rfl rfl
theorem dX1_put_0 : decode cX1_put 0 = .ok (.aload_n 0, 1) := dk_42 (dk_at dksX1_put_0 0 rfl rfl)
theorem dX1_put_1 : decode cX1_put 1 = .ok (.getfield 7, 3) := dk_180 0 7 (dk_at dksX1_put_0 1 rfl rfl)
theorem dX1_put_4 : decode cX1_put 4 = .ok (.astore 4, 2) := dk_58 4 (dk_at dksX1_put_0 4 rfl rfl)
theorem dX1_put_6 : decode cX1_put 6 = .ok (.aload 4, 2) := dk_25 4 (dk_at dksX1_put_0 6 rfl rfl)
theorem dX1_put_8 : decode cX1_put 8 = .ok (.instanceof 13, 3) := dk_193 0 13 (dk_at dksX1_put_0 8 rfl rfl)
theorem dX1_put_11 : decode cX1_put 11 = .ok (.ifCond .eq 17, 3) := dk_153 0 17 (dk_at dksX1_put_0 11 rfl rfl)
theorem dX1_put_14 : decode cX1_put 14 = .ok (.aload 4, 2) := dk_25 4 (dk_at dksX1_put_0 14 rfl rfl)
theorem dX1_put_16 : decode cX1_put 16 = .ok (.checkcast 13, 3) := dk_192 0 13 (dk_at dksX1_put_0 16 rfl rfl)
theorem dX1_put_19 : decode cX1_put 19 = .ok (.astore_n 3, 1) := dk_78 (dk_at dksX1_put_0 19 rfl rfl)
theorem dX1_put_20 : decode cX1_put 20 = .ok (.aload_n 3, 1) := dk_45 (dk_at dksX1_put_0 20 rfl rfl)
theorem dX1_put_21 : decode cX1_put 21 = .ok (.iload_n 1, 1) := dk_27 (dk_at dksX1_put_0 21 rfl rfl)
theorem dX1_put_22 : decode cX1_put 22 = .ok (.iload_n 2, 1) := dk_28 (dk_at dksX1_put_0 22 rfl rfl)
theorem dX1_put_23 : decode cX1_put 23 = .ok (.i2b, 1) := dk_145 (dk_at dksX1_put_0 23 rfl rfl)
theorem dX1_put_24 : decode cX1_put 24 = .ok (.bastore, 1) := dk_84 (dk_at dksX1_put_1 0 rfl rfl)
theorem dX1_put_25 : decode cX1_put 25 = .ok (.goto 13, 3) := dk_167 0 13 (dk_at dksX1_put_1 1 rfl rfl)
theorem dX1_put_28 : decode cX1_put 28 = .ok (.aload_n 0, 1) := dk_42 (dk_at dksX1_put_1 4 rfl rfl)
theorem dX1_put_29 : decode cX1_put 29 = .ok (.getfield 7, 3) := dk_180 0 7 (dk_at dksX1_put_1 5 rfl rfl)
theorem dX1_put_32 : decode cX1_put 32 = .ok (.checkcast 15, 3) := dk_192 0 15 (dk_at dksX1_put_1 8 rfl rfl)
theorem dX1_put_35 : decode cX1_put 35 = .ok (.iload_n 1, 1) := dk_27 (dk_at dksX1_put_1 11 rfl rfl)
theorem dX1_put_36 : decode cX1_put 36 = .ok (.iload_n 2, 1) := dk_28 (dk_at dksX1_put_1 12 rfl rfl)
theorem dX1_put_37 : decode cX1_put 37 = .ok (.iastore, 1) := dk_79 (dk_at dksX1_put_1 13 rfl rfl)
theorem dX1_put_38 : decode cX1_put 38 = .ok (.return_, 1) := dk_177 (dk_at dksX1_put_1 14 rfl rfl)
theorem q112 : (Jvm.Cond.initialized "TypesAtPrime$Sheet") ∈ lw_all := lw_g (lw_at lw_m1 10 rfl) rfl
theorem q282 : (Jvm.Cond.instantiable "TypesAtPrime$Sheet" (1 : Nat)) ∈ lw_all := lw_g (lw_at lw_m1 180 rfl) rfl
theorem q284 : (Jvm.Cond.instanceMethod ({ cls := "TypesAtPrime$Sheet", name := "<init>", desc := "()V" } : Jvm.MethodName)) ∈ lw_all := lw_g (lw_at lw_m1 182 rfl) rfl
theorem q285 : (Jvm.Cond.code ({ cls := "TypesAtPrime$Sheet", name := "<init>", desc := "()V" } : Jvm.MethodName) prog_13_method_1_code (1 : Nat) (Option.none : Option Jvm.ClassFile.FieldType)) ∈ lw_all := lw_g (lw_at lw_m1 183 rfl) rfl
theorem q286 : (Jvm.Cond.methodLink "TypesAtPrime$Sheet" (1 : Nat) ({ cls := "java/lang/Object", name := "<init>", desc := "()V" } : Jvm.MethodName)) ∈ lw_all := lw_g (lw_at lw_m1 184 rfl) rfl
theorem q287 : (Jvm.Cond.fieldLink "TypesAtPrime$Sheet" (7 : Nat) "TypesAtPrime$Sheet" "row" "Ljava/lang/Object;") ∈ lw_all := lw_g (lw_at lw_m1 185 rfl) rfl
theorem q289 : (Jvm.Cond.lays "TypesAtPrime$Sheet" "TypesAtPrime$Sheet" "row" "Ljava/lang/Object;") ∈ lw_all := lw_g (lw_at lw_m1 187 rfl) rfl
theorem q290 : (Jvm.Cond.soleField "TypesAtPrime$Sheet" "row") ∈ lw_all := lw_g (lw_at lw_m1 188 rfl) rfl
theorem q291 : (Jvm.Cond.superclass "TypesAtPrime$Sheet" "java/lang/Object") ∈ lw_all := lw_g (lw_at lw_m1 189 rfl) rfl
theorem q584 : (Jvm.Cond.selects "TypesAtPrime$Sheet" ({ cls := "java/lang/Object", name := "getClass", desc := "()Ljava/lang/Class;" } : Jvm.MethodName) ({ cls := "java/lang/Object", name := "getClass", desc := "()Ljava/lang/Class;" } : Jvm.MethodName)) ∈ lw_all := lw_g (lw_at lw_m3 2 rfl) rfl
theorem q1579 : (Jvm.Cond.selects "TypesAtPrime$Sheet" ({ cls := "java/lang/Object", name := "toString", desc := "()Ljava/lang/String;" } : Jvm.MethodName) ({ cls := "java/lang/Object", name := "toString", desc := "()Ljava/lang/String;" } : Jvm.MethodName)) ∈ lw_all := lw_g (lw_at lw_m7 37 rfl) rfl
theorem q1888 : (Jvm.Cond.instanceMethod ({ cls := "TypesAtPrime$Sheet", name := "first", desc := "()I" } : Jvm.MethodName)) ∈ lw_all := lw_g (lw_at lw_m8 106 rfl) rfl
theorem q1889 : (Jvm.Cond.selects "TypesAtPrime$Sheet" ({ cls := "TypesAtPrime$Sheet", name := "first", desc := "()I" } : Jvm.MethodName) ({ cls := "TypesAtPrime$Sheet", name := "first", desc := "()I" } : Jvm.MethodName)) ∈ lw_all := lw_g (lw_at lw_m8 107 rfl) rfl
theorem q1890 : (Jvm.Cond.code ({ cls := "TypesAtPrime$Sheet", name := "first", desc := "()I" } : Jvm.MethodName) prog_13_method_6_code (2 : Nat) (Option.some Jvm.ClassFile.FieldType.int)) ∈ lw_all := lw_g (lw_at lw_m8 108 rfl) rfl
theorem q1891 : (Jvm.Cond.methodLink "TypesAtPrime$Sheet" (17 : Nat) ({ cls := "TypesAtPrime$Sheet", name := "size", desc := "()I" } : Jvm.MethodName)) ∈ lw_all := lw_g (lw_at lw_m8 109 rfl) rfl
theorem q1892 : (Jvm.Cond.instanceMethod ({ cls := "TypesAtPrime$Sheet", name := "size", desc := "()I" } : Jvm.MethodName)) ∈ lw_all := lw_g (lw_at lw_m8 110 rfl) rfl
theorem q1893 : (Jvm.Cond.selects "TypesAtPrime$Sheet" ({ cls := "TypesAtPrime$Sheet", name := "size", desc := "()I" } : Jvm.MethodName) ({ cls := "TypesAtPrime$Sheet", name := "size", desc := "()I" } : Jvm.MethodName)) ∈ lw_all := lw_g (lw_at lw_m8 111 rfl) rfl
theorem q1894 : (Jvm.Cond.code ({ cls := "TypesAtPrime$Sheet", name := "size", desc := "()I" } : Jvm.MethodName) prog_13_method_2_code (3 : Nat) (Option.some Jvm.ClassFile.FieldType.int)) ∈ lw_all := lw_g (lw_at lw_m8 112 rfl) rfl
theorem q1895 : (Jvm.Cond.classLink "TypesAtPrime$Sheet" (13 : Nat) "[B") ∈ lw_all := lw_g (lw_at lw_m8 113 rfl) rfl
theorem q1896 : (Jvm.Cond.classLink "TypesAtPrime$Sheet" (15 : Nat) "[I") ∈ lw_all := lw_g (lw_at lw_m8 114 rfl) rfl
theorem q1897 : (Jvm.Cond.methodLink "TypesAtPrime$Sheet" (21 : Nat) ({ cls := "TypesAtPrime$Sheet", name := "get", desc := "(I)I" } : Jvm.MethodName)) ∈ lw_all := lw_g (lw_at lw_m8 115 rfl) rfl
theorem q1898 : (Jvm.Cond.instanceMethod ({ cls := "TypesAtPrime$Sheet", name := "get", desc := "(I)I" } : Jvm.MethodName)) ∈ lw_all := lw_g (lw_at lw_m8 116 rfl) rfl
theorem q1899 : (Jvm.Cond.selects "TypesAtPrime$Sheet" ({ cls := "TypesAtPrime$Sheet", name := "get", desc := "(I)I" } : Jvm.MethodName) ({ cls := "TypesAtPrime$Sheet", name := "get", desc := "(I)I" } : Jvm.MethodName)) ∈ lw_all := lw_g (lw_at lw_m8 117 rfl) rfl
theorem q1900 : (Jvm.Cond.code ({ cls := "TypesAtPrime$Sheet", name := "get", desc := "(I)I" } : Jvm.MethodName) prog_13_method_3_code (4 : Nat) (Option.some Jvm.ClassFile.FieldType.int)) ∈ lw_all := lw_g (lw_at lw_m8 118 rfl) rfl
theorem q1902 : (Jvm.Cond.instanceMethod ({ cls := "TypesAtPrime$Sheet", name := "next", desc := "(I)I" } : Jvm.MethodName)) ∈ lw_all := lw_g (lw_at lw_m8 120 rfl) rfl
theorem q1903 : (Jvm.Cond.selects "TypesAtPrime$Sheet" ({ cls := "TypesAtPrime$Sheet", name := "next", desc := "(I)I" } : Jvm.MethodName) ({ cls := "TypesAtPrime$Sheet", name := "next", desc := "(I)I" } : Jvm.MethodName)) ∈ lw_all := lw_g (lw_at lw_m8 121 rfl) rfl
theorem q1904 : (Jvm.Cond.code ({ cls := "TypesAtPrime$Sheet", name := "next", desc := "(I)I" } : Jvm.MethodName) prog_13_method_5_code (5 : Nat) (Option.some Jvm.ClassFile.FieldType.int)) ∈ lw_all := lw_g (lw_at lw_m8 122 rfl) rfl
theorem q1927 : (Jvm.Cond.instanceMethod ({ cls := "TypesAtPrime$Sheet", name := "put", desc := "(II)V" } : Jvm.MethodName)) ∈ lw_all := lw_g (lw_at lw_m8 145 rfl) rfl
theorem q1928 : (Jvm.Cond.selects "TypesAtPrime$Sheet" ({ cls := "TypesAtPrime$Sheet", name := "put", desc := "(II)V" } : Jvm.MethodName) ({ cls := "TypesAtPrime$Sheet", name := "put", desc := "(II)V" } : Jvm.MethodName)) ∈ lw_all := lw_g (lw_at lw_m8 146 rfl) rfl
theorem q1929 : (Jvm.Cond.code ({ cls := "TypesAtPrime$Sheet", name := "put", desc := "(II)V" } : Jvm.MethodName) prog_13_method_4_code (5 : Nat) (Option.none : Option Jvm.ClassFile.FieldType)) ∈ lw_all := lw_g (lw_at lw_m8 147 rfl) rfl
theorem q2627 : (Jvm.Cond.castable "TypesAtPrime$Sheet" "java/lang/Object") ∈ lw_tbl := lw_at lw_m11 125 rfl
theorem in_X1 : ∀ w ∈ wsX10, w ∈ lw_all := lw_in wsX10 [289] (by decide +kernel) (by decide +kernel)

/-! TypesAtPrime$Reader -/
set_option maxRecDepth 100000
def RX3 : String := "TypesAtPrime$Reader"
def TX3 : u_T := fun k => match k with
  | 0 => ("TypesAtPrime$Reader", "text", "Ljava/lang/CharSequence;", true)
  | 1 => ("TypesAtPrime$Reader", "parts", "[J", true)
  | _ => ("TypesAtPrime$Reader", "at", "I", false)
def tyX3 : Nat → FieldType := fun k => match k with
  | 0 => .object "java/lang/CharSequence"
  | 1 => .array .long
  | _ => .int
abbrev wsX30 : List Cond := u_ws RX3 TX3 3
theorem nmX3 : ∀ a, a < 3 → ∀ b, b < 3 → a ≠ b → (TX3 a).2.1 ≠ (TX3 b).2.1 := by decide +kernel
theorem tyX3_ok : ∀ k, k < 3 → parseFieldDescriptor (TX3 k).2.2.1 = some (tyX3 k) := by decide +kernel
abbrev cX3_init : ByteArray := prog_11_method_1_code
def yX3_init : MethodName := ⟨RX3, "<init>", "(Ljava/lang/CharSequence;)V"⟩
def dkwX3_init_0 : List UInt8 := [42, 183, 0, 3, 42, 16, 9, 188, 11, 181, 0, 9, 42, 43, 181, 0, 15, 177]
abbrev dktX3_init_0 : List UInt8 := dkwX3_init_0 ++ []
theorem dksX3_init_0 : cX3_init.data.toList.drop 0 = dktX3_init_0 := by decide +kernel
theorem dX3_init_0 : decode cX3_init 0 = .ok (.aload_n 0, 1) := dk_42 (dk_at dksX3_init_0 0 rfl rfl)
theorem dX3_init_1 : decode cX3_init 1 = .ok (.invokespecial 3, 3) := dk_183 0 3 (dk_at dksX3_init_0 1 rfl rfl)
theorem dX3_init_4 : decode cX3_init 4 = .ok (.aload_n 0, 1) := dk_42 (dk_at dksX3_init_0 4 rfl rfl)
theorem dX3_init_5 : decode cX3_init 5 = .ok (.bipush 9, 2) := dk_16 9 (dk_at dksX3_init_0 5 rfl rfl)
theorem dX3_init_7 : decode cX3_init 7 = .ok (.newarray .long, 2) := dk_188_11 (dk_at dksX3_init_0 7 rfl rfl)
theorem dX3_init_9 : decode cX3_init 9 = .ok (.putfield 9, 3) := dk_181 0 9 (dk_at dksX3_init_0 9 rfl rfl)
theorem dX3_init_12 : decode cX3_init 12 = .ok (.aload_n 0, 1) := dk_42 (dk_at dksX3_init_0 12 rfl rfl)
theorem dX3_init_13 : decode cX3_init 13 = .ok (.aload_n 1, 1) := dk_43 (dk_at dksX3_init_0 13 rfl rfl)
theorem dX3_init_14 : decode cX3_init 14 = .ok (.putfield 15, 3) := dk_181 0 15 (dk_at dksX3_init_0 14 rfl rfl)
theorem dX3_init_17 : decode cX3_init 17 = .ok (.return_, 1) := dk_177 (dk_at dksX3_init_0 17 rfl rfl)
abbrev cX3_reads : ByteArray := prog_11_method_9_code
def yX3_reads : MethodName := ⟨RX3, "reads", "()[J"⟩
def dkwX3_reads_2 : List UInt8 := [182, 0, 68, 167, 255, 230, 42, 180, 0, 9, 176]
abbrev dktX3_reads_2 : List UInt8 := dkwX3_reads_2 ++ []
def dkwX3_reads_1 : List UInt8 := [180, 0, 19, 42, 180, 0, 15, 185, 0, 23, 1, 0, 162, 0, 16, 42, 182, 0, 65, 60, 42, 27]
abbrev dktX3_reads_1 : List UInt8 := dkwX3_reads_1 ++ dktX3_reads_2
def dkwX3_reads_0 : List UInt8 := [42, 182, 0, 38, 16, 45, 160, 0, 10, 42, 182, 0, 65, 167, 0, 4, 4, 60, 42, 27, 182, 0, 68, 42]
abbrev dktX3_reads_0 : List UInt8 := dkwX3_reads_0 ++ dktX3_reads_1
theorem dksX3_reads_0 : cX3_reads.data.toList.drop 0 = dktX3_reads_0 := by decide +kernel
theorem dksX3_reads_1 : cX3_reads.data.toList.drop 24 = dktX3_reads_1 := dk_seg dksX3_reads_0 24 rfl rfl
theorem dksX3_reads_2 : cX3_reads.data.toList.drop 46 = dktX3_reads_2 := dk_seg dksX3_reads_1 22 rfl rfl
theorem dX3_reads_0 : decode cX3_reads 0 = .ok (.aload_n 0, 1) := dk_42 (dk_at dksX3_reads_0 0 rfl rfl)
theorem dX3_reads_1 : decode cX3_reads 1 = .ok (.invokevirtual 38, 3) := dk_182 0 38 (dk_at dksX3_reads_0 1 rfl rfl)
theorem dX3_reads_4 : decode cX3_reads 4 = .ok (.bipush 45, 2) := dk_16 45 (dk_at dksX3_reads_0 4 rfl rfl)
theorem dX3_reads_6 : decode cX3_reads 6 = .ok (.if_icmp .ne 10, 3) := dk_160 0 10 (dk_at dksX3_reads_0 6 rfl rfl)
theorem dX3_reads_9 : decode cX3_reads 9 = .ok (.aload_n 0, 1) := dk_42 (dk_at dksX3_reads_0 9 rfl rfl)
theorem dX3_reads_10 : decode cX3_reads 10 = .ok (.invokevirtual 65, 3) := dk_182 0 65 (dk_at dksX3_reads_0 10 rfl rfl)
theorem dX3_reads_13 : decode cX3_reads 13 = .ok (.goto 4, 3) := dk_167 0 4 (dk_at dksX3_reads_0 13 rfl rfl)
theorem dX3_reads_16 : decode cX3_reads 16 = .ok (.iconst 1, 1) := dk_4 (dk_at dksX3_reads_0 16 rfl rfl)
theorem dX3_reads_17 : decode cX3_reads 17 = .ok (.istore_n 1, 1) := dk_60 (dk_at dksX3_reads_0 17 rfl rfl)
theorem dX3_reads_18 : decode cX3_reads 18 = .ok (.aload_n 0, 1) := dk_42 (dk_at dksX3_reads_0 18 rfl rfl)
theorem dX3_reads_19 : decode cX3_reads 19 = .ok (.iload_n 1, 1) := dk_27 (dk_at dksX3_reads_0 19 rfl rfl)
theorem dX3_reads_20 : decode cX3_reads 20 = .ok (.invokevirtual 68, 3) := dk_182 0 68 (dk_at dksX3_reads_0 20 rfl rfl)
theorem dX3_reads_23 : decode cX3_reads 23 = .ok (.aload_n 0, 1) := dk_42 (dk_at dksX3_reads_0 23 rfl rfl)
theorem dX3_reads_24 : decode cX3_reads 24 = .ok (.getfield 19, 3) := dk_180 0 19 (dk_at dksX3_reads_1 0 rfl rfl)
theorem dX3_reads_27 : decode cX3_reads 27 = .ok (.aload_n 0, 1) := dk_42 (dk_at dksX3_reads_1 3 rfl rfl)
theorem dX3_reads_28 : decode cX3_reads 28 = .ok (.getfield 15, 3) := dk_180 0 15 (dk_at dksX3_reads_1 4 rfl rfl)
theorem dX3_reads_31 : decode cX3_reads 31 = .ok (.invokeinterface 23 1, 5) := by decide +kernel
theorem dX3_reads_36 : decode cX3_reads 36 = .ok (.if_icmp .ge 16, 3) := dk_162 0 16 (dk_at dksX3_reads_1 12 rfl rfl)
theorem dX3_reads_39 : decode cX3_reads 39 = .ok (.aload_n 0, 1) := dk_42 (dk_at dksX3_reads_1 15 rfl rfl)
theorem dX3_reads_40 : decode cX3_reads 40 = .ok (.invokevirtual 65, 3) := dk_182 0 65 (dk_at dksX3_reads_1 16 rfl rfl)
theorem dX3_reads_43 : decode cX3_reads 43 = .ok (.istore_n 1, 1) := dk_60 (dk_at dksX3_reads_1 19 rfl rfl)
theorem dX3_reads_44 : decode cX3_reads 44 = .ok (.aload_n 0, 1) := dk_42 (dk_at dksX3_reads_1 20 rfl rfl)
theorem dX3_reads_45 : decode cX3_reads 45 = .ok (.iload_n 1, 1) := dk_27 (dk_at dksX3_reads_1 21 rfl rfl)
theorem dX3_reads_46 : decode cX3_reads 46 = .ok (.invokevirtual 68, 3) := dk_182 0 68 (dk_at dksX3_reads_2 0 rfl rfl)
theorem dX3_reads_49 : decode cX3_reads 49 = .ok (.goto (-26), 3) := dk_167 255 230 (dk_at dksX3_reads_2 3 rfl rfl)
theorem dX3_reads_52 : decode cX3_reads 52 = .ok (.aload_n 0, 1) := dk_42 (dk_at dksX3_reads_2 6 rfl rfl)
theorem dX3_reads_53 : decode cX3_reads 53 = .ok (.getfield 9, 3) := dk_180 0 9 (dk_at dksX3_reads_2 7 rfl rfl)
theorem dX3_reads_56 : decode cX3_reads 56 = .ok (.areturn, 1) := dk_176 (dk_at dksX3_reads_2 10 rfl rfl)
abbrev cX3_here : ByteArray := prog_11_method_2_code
def yX3_here : MethodName := ⟨RX3, "here", "()I"⟩
def dkwX3_here_1 : List UInt8 := [185, 0, 29, 2, 0, 167, 0, 4, 2, 172]
abbrev dktX3_here_1 : List UInt8 := dkwX3_here_1 ++ []
def dkwX3_here_0 : List UInt8 := [42, 180, 0, 19, 42, 180, 0, 15, 185, 0, 23, 1, 0, 162, 0, 19, 42, 180, 0, 15, 42, 180, 0, 19]
abbrev dktX3_here_0 : List UInt8 := dkwX3_here_0 ++ dktX3_here_1
theorem dksX3_here_0 : cX3_here.data.toList.drop 0 = dktX3_here_0 := by decide +kernel
theorem dksX3_here_1 : cX3_here.data.toList.drop 24 = dktX3_here_1 := dk_seg dksX3_here_0 24 rfl rfl
theorem dX3_here_0 : decode cX3_here 0 = .ok (.aload_n 0, 1) := dk_42 (dk_at dksX3_here_0 0 rfl rfl)
theorem dX3_here_1 : decode cX3_here 1 = .ok (.getfield 19, 3) := dk_180 0 19 (dk_at dksX3_here_0 1 rfl rfl)
theorem dX3_here_4 : decode cX3_here 4 = .ok (.aload_n 0, 1) := dk_42 (dk_at dksX3_here_0 4 rfl rfl)
theorem dX3_here_5 : decode cX3_here 5 = .ok (.getfield 15, 3) := dk_180 0 15 (dk_at dksX3_here_0 5 rfl rfl)
theorem dX3_here_8 : decode cX3_here 8 = .ok (.invokeinterface 23 1, 5) := by decide +kernel
theorem dX3_here_13 : decode cX3_here 13 = .ok (.if_icmp .ge 19, 3) := dk_162 0 19 (dk_at dksX3_here_0 13 rfl rfl)
theorem dX3_here_16 : decode cX3_here 16 = .ok (.aload_n 0, 1) := dk_42 (dk_at dksX3_here_0 16 rfl rfl)
theorem dX3_here_17 : decode cX3_here 17 = .ok (.getfield 15, 3) := dk_180 0 15 (dk_at dksX3_here_0 17 rfl rfl)
theorem dX3_here_20 : decode cX3_here 20 = .ok (.aload_n 0, 1) := dk_42 (dk_at dksX3_here_0 20 rfl rfl)
theorem dX3_here_21 : decode cX3_here 21 = .ok (.getfield 19, 3) := dk_180 0 19 (dk_at dksX3_here_0 21 rfl rfl)
theorem dX3_here_24 : decode cX3_here 24 = .ok (.invokeinterface 29 2, 5) := by decide +kernel
theorem dX3_here_29 : decode cX3_here 29 = .ok (.goto 4, 3) := dk_167 0 4 (dk_at dksX3_here_1 5 rfl rfl)
theorem dX3_here_32 : decode cX3_here 32 = .ok (.iconst (-1), 1) := dk_2 (dk_at dksX3_here_1 8 rfl rfl)
theorem dX3_here_33 : decode cX3_here 33 = .ok (.ireturn, 1) := dk_172 (dk_at dksX3_here_1 9 rfl rfl)
abbrev cX3_readsSign : ByteArray := prog_11_method_8_code
def yX3_readsSign : MethodName := ⟨RX3, "readsSign", "()I"⟩
def dkwX3_readsSign_2 : List UInt8 := [180, 0, 19, 4, 96, 181, 0, 19, 27, 172]
abbrev dktX3_readsSign_2 : List UInt8 := dkwX3_readsSign_2 ++ []
def dkwX3_readsSign_1 : List UInt8 := [159, 0, 12, 42, 182, 0, 38, 16, 43, 160, 0, 7, 4, 167, 0, 4, 3, 182, 0, 53, 42, 89]
abbrev dktX3_readsSign_1 : List UInt8 := dkwX3_readsSign_1 ++ dktX3_readsSign_2
def dkwX3_readsSign_0 : List UInt8 := [42, 182, 0, 38, 16, 45, 160, 0, 7, 2, 167, 0, 4, 4, 60, 42, 42, 182, 0, 38, 16, 45]
abbrev dktX3_readsSign_0 : List UInt8 := dkwX3_readsSign_0 ++ dktX3_readsSign_1
theorem dksX3_readsSign_0 : cX3_readsSign.data.toList.drop 0 = dktX3_readsSign_0 := by decide +kernel
theorem dksX3_readsSign_1 : cX3_readsSign.data.toList.drop 22 = dktX3_readsSign_1 := dk_seg dksX3_readsSign_0 22 rfl rfl
theorem dksX3_readsSign_2 : cX3_readsSign.data.toList.drop 44 = dktX3_readsSign_2 := dk_seg dksX3_readsSign_1 22 rfl rfl
theorem dX3_readsSign_0 : decode cX3_readsSign 0 = .ok (.aload_n 0, 1) := dk_42 (dk_at dksX3_readsSign_0 0 rfl rfl)
theorem dX3_readsSign_1 : decode cX3_readsSign 1 = .ok (.invokevirtual 38, 3) := dk_182 0 38 (dk_at dksX3_readsSign_0 1 rfl rfl)
theorem dX3_readsSign_4 : decode cX3_readsSign 4 = .ok (.bipush 45, 2) := dk_16 45 (dk_at dksX3_readsSign_0 4 rfl rfl)
theorem dX3_readsSign_6 : decode cX3_readsSign 6 = .ok (.if_icmp .ne 7, 3) := dk_160 0 7 (dk_at dksX3_readsSign_0 6 rfl rfl)
theorem dX3_readsSign_9 : decode cX3_readsSign 9 = .ok (.iconst (-1), 1) := dk_2 (dk_at dksX3_readsSign_0 9 rfl rfl)
theorem dX3_readsSign_10 : decode cX3_readsSign 10 = .ok (.goto 4, 3) := dk_167 0 4 (dk_at dksX3_readsSign_0 10 rfl rfl)
theorem dX3_readsSign_13 : decode cX3_readsSign 13 = .ok (.iconst 1, 1) := dk_4 (dk_at dksX3_readsSign_0 13 rfl rfl)
theorem dX3_readsSign_14 : decode cX3_readsSign 14 = .ok (.istore_n 1, 1) := dk_60 (dk_at dksX3_readsSign_0 14 rfl rfl)
theorem dX3_readsSign_15 : decode cX3_readsSign 15 = .ok (.aload_n 0, 1) := dk_42 (dk_at dksX3_readsSign_0 15 rfl rfl)
theorem dX3_readsSign_16 : decode cX3_readsSign 16 = .ok (.aload_n 0, 1) := dk_42 (dk_at dksX3_readsSign_0 16 rfl rfl)
theorem dX3_readsSign_17 : decode cX3_readsSign 17 = .ok (.invokevirtual 38, 3) := dk_182 0 38 (dk_at dksX3_readsSign_0 17 rfl rfl)
theorem dX3_readsSign_20 : decode cX3_readsSign 20 = .ok (.bipush 45, 2) := dk_16 45 (dk_at dksX3_readsSign_0 20 rfl rfl)
theorem dX3_readsSign_22 : decode cX3_readsSign 22 = .ok (.if_icmp .eq 12, 3) := dk_159 0 12 (dk_at dksX3_readsSign_1 0 rfl rfl)
theorem dX3_readsSign_25 : decode cX3_readsSign 25 = .ok (.aload_n 0, 1) := dk_42 (dk_at dksX3_readsSign_1 3 rfl rfl)
theorem dX3_readsSign_26 : decode cX3_readsSign 26 = .ok (.invokevirtual 38, 3) := dk_182 0 38 (dk_at dksX3_readsSign_1 4 rfl rfl)
theorem dX3_readsSign_29 : decode cX3_readsSign 29 = .ok (.bipush 43, 2) := dk_16 43 (dk_at dksX3_readsSign_1 7 rfl rfl)
theorem dX3_readsSign_31 : decode cX3_readsSign 31 = .ok (.if_icmp .ne 7, 3) := dk_160 0 7 (dk_at dksX3_readsSign_1 9 rfl rfl)
theorem dX3_readsSign_34 : decode cX3_readsSign 34 = .ok (.iconst 1, 1) := dk_4 (dk_at dksX3_readsSign_1 12 rfl rfl)
theorem dX3_readsSign_35 : decode cX3_readsSign 35 = .ok (.goto 4, 3) := dk_167 0 4 (dk_at dksX3_readsSign_1 13 rfl rfl)
theorem dX3_readsSign_38 : decode cX3_readsSign 38 = .ok (.iconst 0, 1) := dk_3 (dk_at dksX3_readsSign_1 16 rfl rfl)
theorem dX3_readsSign_39 : decode cX3_readsSign 39 = .ok (.invokevirtual 53, 3) := dk_182 0 53 (dk_at dksX3_readsSign_1 17 rfl rfl)
theorem dX3_readsSign_42 : decode cX3_readsSign 42 = .ok (.aload_n 0, 1) := dk_42 (dk_at dksX3_readsSign_1 20 rfl rfl)
theorem dX3_readsSign_43 : decode cX3_readsSign 43 = .ok (.dup, 1) := dk_89 (dk_at dksX3_readsSign_1 21 rfl rfl)
theorem dX3_readsSign_44 : decode cX3_readsSign 44 = .ok (.getfield 19, 3) := dk_180 0 19 (dk_at dksX3_readsSign_2 0 rfl rfl)
theorem dX3_readsSign_47 : decode cX3_readsSign 47 = .ok (.iconst 1, 1) := dk_4 (dk_at dksX3_readsSign_2 3 rfl rfl)
theorem dX3_readsSign_48 : decode cX3_readsSign 48 = .ok (.iadd, 1) := dk_96 (dk_at dksX3_readsSign_2 4 rfl rfl)
theorem dX3_readsSign_49 : decode cX3_readsSign 49 = .ok (.putfield 19, 3) := dk_181 0 19 (dk_at dksX3_readsSign_2 5 rfl rfl)
theorem dX3_readsSign_52 : decode cX3_readsSign 52 = .ok (.iload_n 1, 1) := dk_27 (dk_at dksX3_readsSign_2 8 rfl rfl)
theorem dX3_readsSign_53 : decode cX3_readsSign 53 = .ok (.ireturn, 1) := dk_172 (dk_at dksX3_readsSign_2 9 rfl rfl)
abbrev cX3_needs : ByteArray := prog_11_method_3_code
def yX3_needs : MethodName := ⟨RX3, "needs", "(Z)V"⟩
def dkwX3_needs_0 : List UInt8 := [27, 154, 0, 18, 187, 0, 33, 89, 16, 156, 42, 180, 0, 19, 100, 183, 0, 35, 191, 177]
abbrev dktX3_needs_0 : List UInt8 := dkwX3_needs_0 ++ []
theorem dksX3_needs_0 : cX3_needs.data.toList.drop 0 = dktX3_needs_0 := by decide +kernel
theorem dX3_needs_0 : decode cX3_needs 0 = .ok (.iload_n 1, 1) := dk_27 (dk_at dksX3_needs_0 0 rfl rfl)
theorem dX3_needs_1 : decode cX3_needs 1 = .ok (.ifCond .ne 18, 3) := dk_154 0 18 (dk_at dksX3_needs_0 1 rfl rfl)
theorem dX3_needs_4 : decode cX3_needs 4 = .ok (.new 33, 3) := dk_187 0 33 (dk_at dksX3_needs_0 4 rfl rfl)
theorem dX3_needs_7 : decode cX3_needs 7 = .ok (.dup, 1) := dk_89 (dk_at dksX3_needs_0 7 rfl rfl)
theorem dX3_needs_8 : decode cX3_needs 8 = .ok (.bipush (-100), 2) := dk_16 156 (dk_at dksX3_needs_0 8 rfl rfl)
theorem dX3_needs_10 : decode cX3_needs 10 = .ok (.aload_n 0, 1) := dk_42 (dk_at dksX3_needs_0 10 rfl rfl)
theorem dX3_needs_11 : decode cX3_needs 11 = .ok (.getfield 19, 3) := dk_180 0 19 (dk_at dksX3_needs_0 11 rfl rfl)
theorem dX3_needs_14 : decode cX3_needs 14 = .ok (.isub, 1) := dk_100 (dk_at dksX3_needs_0 14 rfl rfl)
theorem dX3_needs_15 : decode cX3_needs 15 = .ok (.invokespecial 35, 3) := dk_183 0 35 (dk_at dksX3_needs_0 15 rfl rfl)
theorem dX3_needs_18 : decode cX3_needs 18 = .ok (.athrow, 1) := dk_191 (dk_at dksX3_needs_0 18 rfl rfl)
theorem dX3_needs_19 : decode cX3_needs 19 = .ok (.return_, 1) := dk_177 (dk_at dksX3_needs_0 19 rfl rfl)
abbrev cX3_readsTerm : ByteArray := prog_11_method_7_code
def yX3_readsTerm : MethodName := ⟨RX3, "readsTerm", "(I)V"⟩
def dkwX3_readsTerm_2 : List UInt8 := [181, 0, 19, 42, 182, 0, 59, 62, 42, 180, 0, 9, 29, 92, 47, 27, 133, 28, 133, 105, 97, 80, 177]
abbrev dktX3_readsTerm_2 : List UInt8 := dkwX3_readsTerm_2 ++ []
def dkwX3_readsTerm_1 : List UInt8 := [182, 0, 62, 61, 3, 62, 42, 182, 0, 38, 16, 42, 160, 0, 18, 42, 89, 180, 0, 19, 4, 96]
abbrev dktX3_readsTerm_1 : List UInt8 := dkwX3_readsTerm_1 ++ dktX3_readsTerm_2
def dkwX3_readsTerm_0 : List UInt8 := [42, 182, 0, 49, 154, 0, 18, 42, 180, 0, 9, 42, 182, 0, 59, 92, 47, 27, 133, 97, 80, 177, 42]
abbrev dktX3_readsTerm_0 : List UInt8 := dkwX3_readsTerm_0 ++ dktX3_readsTerm_1
theorem dksX3_readsTerm_0 : cX3_readsTerm.data.toList.drop 0 = dktX3_readsTerm_0 := by decide +kernel
theorem dksX3_readsTerm_1 : cX3_readsTerm.data.toList.drop 23 = dktX3_readsTerm_1 := dk_seg dksX3_readsTerm_0 23 rfl rfl
theorem dksX3_readsTerm_2 : cX3_readsTerm.data.toList.drop 45 = dktX3_readsTerm_2 := dk_seg dksX3_readsTerm_1 22 rfl rfl
theorem dX3_readsTerm_0 : decode cX3_readsTerm 0 = .ok (.aload_n 0, 1) := dk_42 (dk_at dksX3_readsTerm_0 0 rfl rfl)
theorem dX3_readsTerm_1 : decode cX3_readsTerm 1 = .ok (.invokevirtual 49, 3) := dk_182 0 49 (dk_at dksX3_readsTerm_0 1 rfl rfl)
theorem dX3_readsTerm_4 : decode cX3_readsTerm 4 = .ok (.ifCond .ne 18, 3) := dk_154 0 18 (dk_at dksX3_readsTerm_0 4 rfl rfl)
theorem dX3_readsTerm_7 : decode cX3_readsTerm 7 = .ok (.aload_n 0, 1) := dk_42 (dk_at dksX3_readsTerm_0 7 rfl rfl)
theorem dX3_readsTerm_8 : decode cX3_readsTerm 8 = .ok (.getfield 9, 3) := dk_180 0 9 (dk_at dksX3_readsTerm_0 8 rfl rfl)
theorem dX3_readsTerm_11 : decode cX3_readsTerm 11 = .ok (.aload_n 0, 1) := dk_42 (dk_at dksX3_readsTerm_0 11 rfl rfl)
theorem dX3_readsTerm_12 : decode cX3_readsTerm 12 = .ok (.invokevirtual 59, 3) := dk_182 0 59 (dk_at dksX3_readsTerm_0 12 rfl rfl)
theorem dX3_readsTerm_15 : decode cX3_readsTerm 15 = .ok (.dup2, 1) := dk_92 (dk_at dksX3_readsTerm_0 15 rfl rfl)
theorem dX3_readsTerm_16 : decode cX3_readsTerm 16 = .ok (.laload, 1) := dk_47 (dk_at dksX3_readsTerm_0 16 rfl rfl)
theorem dX3_readsTerm_17 : decode cX3_readsTerm 17 = .ok (.iload_n 1, 1) := dk_27 (dk_at dksX3_readsTerm_0 17 rfl rfl)
theorem dX3_readsTerm_18 : decode cX3_readsTerm 18 = .ok (.i2l, 1) := dk_133 (dk_at dksX3_readsTerm_0 18 rfl rfl)
theorem dX3_readsTerm_19 : decode cX3_readsTerm 19 = .ok (.ladd, 1) := dk_97 (dk_at dksX3_readsTerm_0 19 rfl rfl)
theorem dX3_readsTerm_20 : decode cX3_readsTerm 20 = .ok (.lastore, 1) := dk_80 (dk_at dksX3_readsTerm_0 20 rfl rfl)
theorem dX3_readsTerm_21 : decode cX3_readsTerm 21 = .ok (.return_, 1) := dk_177 (dk_at dksX3_readsTerm_0 21 rfl rfl)
theorem dX3_readsTerm_22 : decode cX3_readsTerm 22 = .ok (.aload_n 0, 1) := dk_42 (dk_at dksX3_readsTerm_0 22 rfl rfl)
theorem dX3_readsTerm_23 : decode cX3_readsTerm 23 = .ok (.invokevirtual 62, 3) := dk_182 0 62 (dk_at dksX3_readsTerm_1 0 rfl rfl)
theorem dX3_readsTerm_26 : decode cX3_readsTerm 26 = .ok (.istore_n 2, 1) := dk_61 (dk_at dksX3_readsTerm_1 3 rfl rfl)
theorem dX3_readsTerm_27 : decode cX3_readsTerm 27 = .ok (.iconst 0, 1) := dk_3 (dk_at dksX3_readsTerm_1 4 rfl rfl)
theorem dX3_readsTerm_28 : decode cX3_readsTerm 28 = .ok (.istore_n 3, 1) := dk_62 (dk_at dksX3_readsTerm_1 5 rfl rfl)
theorem dX3_readsTerm_29 : decode cX3_readsTerm 29 = .ok (.aload_n 0, 1) := dk_42 (dk_at dksX3_readsTerm_1 6 rfl rfl)
theorem dX3_readsTerm_30 : decode cX3_readsTerm 30 = .ok (.invokevirtual 38, 3) := dk_182 0 38 (dk_at dksX3_readsTerm_1 7 rfl rfl)
theorem dX3_readsTerm_33 : decode cX3_readsTerm 33 = .ok (.bipush 42, 2) := dk_16 42 (dk_at dksX3_readsTerm_1 10 rfl rfl)
theorem dX3_readsTerm_35 : decode cX3_readsTerm 35 = .ok (.if_icmp .ne 18, 3) := dk_160 0 18 (dk_at dksX3_readsTerm_1 12 rfl rfl)
theorem dX3_readsTerm_38 : decode cX3_readsTerm 38 = .ok (.aload_n 0, 1) := dk_42 (dk_at dksX3_readsTerm_1 15 rfl rfl)
theorem dX3_readsTerm_39 : decode cX3_readsTerm 39 = .ok (.dup, 1) := dk_89 (dk_at dksX3_readsTerm_1 16 rfl rfl)
theorem dX3_readsTerm_40 : decode cX3_readsTerm 40 = .ok (.getfield 19, 3) := dk_180 0 19 (dk_at dksX3_readsTerm_1 17 rfl rfl)
theorem dX3_readsTerm_43 : decode cX3_readsTerm 43 = .ok (.iconst 1, 1) := dk_4 (dk_at dksX3_readsTerm_1 20 rfl rfl)
theorem dX3_readsTerm_44 : decode cX3_readsTerm 44 = .ok (.iadd, 1) := dk_96 (dk_at dksX3_readsTerm_1 21 rfl rfl)
theorem dX3_readsTerm_45 : decode cX3_readsTerm 45 = .ok (.putfield 19, 3) := dk_181 0 19 (dk_at dksX3_readsTerm_2 0 rfl rfl)
theorem dX3_readsTerm_48 : decode cX3_readsTerm 48 = .ok (.aload_n 0, 1) := dk_42 (dk_at dksX3_readsTerm_2 3 rfl rfl)
theorem dX3_readsTerm_49 : decode cX3_readsTerm 49 = .ok (.invokevirtual 59, 3) := dk_182 0 59 (dk_at dksX3_readsTerm_2 4 rfl rfl)
theorem dX3_readsTerm_52 : decode cX3_readsTerm 52 = .ok (.istore_n 3, 1) := dk_62 (dk_at dksX3_readsTerm_2 7 rfl rfl)
theorem dX3_readsTerm_53 : decode cX3_readsTerm 53 = .ok (.aload_n 0, 1) := dk_42 (dk_at dksX3_readsTerm_2 8 rfl rfl)
theorem dX3_readsTerm_54 : decode cX3_readsTerm 54 = .ok (.getfield 9, 3) := dk_180 0 9 (dk_at dksX3_readsTerm_2 9 rfl rfl)
theorem dX3_readsTerm_57 : decode cX3_readsTerm 57 = .ok (.iload_n 3, 1) := dk_29 (dk_at dksX3_readsTerm_2 12 rfl rfl)
theorem dX3_readsTerm_58 : decode cX3_readsTerm 58 = .ok (.dup2, 1) := dk_92 (dk_at dksX3_readsTerm_2 13 rfl rfl)
theorem dX3_readsTerm_59 : decode cX3_readsTerm 59 = .ok (.laload, 1) := dk_47 (dk_at dksX3_readsTerm_2 14 rfl rfl)
theorem dX3_readsTerm_60 : decode cX3_readsTerm 60 = .ok (.iload_n 1, 1) := dk_27 (dk_at dksX3_readsTerm_2 15 rfl rfl)
theorem dX3_readsTerm_61 : decode cX3_readsTerm 61 = .ok (.i2l, 1) := dk_133 (dk_at dksX3_readsTerm_2 16 rfl rfl)
theorem dX3_readsTerm_62 : decode cX3_readsTerm 62 = .ok (.iload_n 2, 1) := dk_28 (dk_at dksX3_readsTerm_2 17 rfl rfl)
theorem dX3_readsTerm_63 : decode cX3_readsTerm 63 = .ok (.i2l, 1) := dk_133 (dk_at dksX3_readsTerm_2 18 rfl rfl)
theorem dX3_readsTerm_64 : decode cX3_readsTerm 64 = .ok (.lmul, 1) := dk_105 (dk_at dksX3_readsTerm_2 19 rfl rfl)
theorem dX3_readsTerm_65 : decode cX3_readsTerm 65 = .ok (.ladd, 1) := dk_97 (dk_at dksX3_readsTerm_2 20 rfl rfl)
theorem dX3_readsTerm_66 : decode cX3_readsTerm 66 = .ok (.lastore, 1) := dk_80 (dk_at dksX3_readsTerm_2 21 rfl rfl)
theorem dX3_readsTerm_67 : decode cX3_readsTerm 67 = .ok (.return_, 1) := dk_177 (dk_at dksX3_readsTerm_2 22 rfl rfl)
abbrev cX3_isDigit : ByteArray := prog_11_method_4_code
def yX3_isDigit : MethodName := ⟨RX3, "isDigit", "()Z"⟩
def dkwX3_isDigit_0 : List UInt8 := [42, 182, 0, 38, 133, 20, 0, 41, 20, 0, 43, 184, 0, 45, 172]
abbrev dktX3_isDigit_0 : List UInt8 := dkwX3_isDigit_0 ++ []
theorem dksX3_isDigit_0 : cX3_isDigit.data.toList.drop 0 = dktX3_isDigit_0 := by decide +kernel
theorem dX3_isDigit_0 : decode cX3_isDigit 0 = .ok (.aload_n 0, 1) := dk_42 (dk_at dksX3_isDigit_0 0 rfl rfl)
theorem dX3_isDigit_1 : decode cX3_isDigit 1 = .ok (.invokevirtual 38, 3) := dk_182 0 38 (dk_at dksX3_isDigit_0 1 rfl rfl)
theorem dX3_isDigit_4 : decode cX3_isDigit 4 = .ok (.i2l, 1) := dk_133 (dk_at dksX3_isDigit_0 4 rfl rfl)
theorem dX3_isDigit_5 : decode cX3_isDigit 5 = .ok (.ldc2_w 41, 3) := dk_20 0 41 (dk_at dksX3_isDigit_0 5 rfl rfl)
theorem dX3_isDigit_8 : decode cX3_isDigit 8 = .ok (.ldc2_w 43, 3) := dk_20 0 43 (dk_at dksX3_isDigit_0 8 rfl rfl)
theorem dX3_isDigit_11 : decode cX3_isDigit 11 = .ok (.invokestatic 45, 3) := dk_184 0 45 (dk_at dksX3_isDigit_0 11 rfl rfl)
theorem dX3_isDigit_14 : decode cX3_isDigit 14 = .ok (.ireturn, 1) := dk_172 (dk_at dksX3_isDigit_0 14 rfl rfl)
abbrev cX3_readsPower : ByteArray := prog_11_method_6_code
def yX3_readsPower : MethodName := ⟨RX3, "readsPower", "()I"⟩
def dkwX3_readsPower_4 : List UInt8 := [16, 48, 100, 172]
abbrev dktX3_readsPower_4 : List UInt8 := dkwX3_readsPower_4 ++ []
def dkwX3_readsPower_3 : List UInt8 := [180, 0, 19, 4, 96, 181, 0, 19, 42, 180, 0, 15, 42, 180, 0, 19, 4, 100, 185, 0, 29, 2, 0]
abbrev dktX3_readsPower_3 : List UInt8 := dkwX3_readsPower_3 ++ dktX3_readsPower_4
def dkwX3_readsPower_2 : List UInt8 := [181, 0, 19, 42, 42, 182, 0, 38, 133, 20, 0, 41, 20, 0, 57, 184, 0, 45, 182, 0, 53, 42, 89]
abbrev dktX3_readsPower_2 : List UInt8 := dkwX3_readsPower_2 ++ dktX3_readsPower_3
def dkwX3_readsPower_1 : List UInt8 := [96, 181, 0, 19, 42, 182, 0, 38, 16, 94, 159, 0, 5, 4, 172, 42, 89, 180, 0, 19, 4, 96]
abbrev dktX3_readsPower_1 : List UInt8 := dkwX3_readsPower_1 ++ dktX3_readsPower_2
def dkwX3_readsPower_0 : List UInt8 := [42, 42, 182, 0, 38, 16, 120, 160, 0, 7, 4, 167, 0, 4, 3, 182, 0, 53, 42, 89, 180, 0, 19, 4]
abbrev dktX3_readsPower_0 : List UInt8 := dkwX3_readsPower_0 ++ dktX3_readsPower_1
theorem dksX3_readsPower_0 : cX3_readsPower.data.toList.drop 0 = dktX3_readsPower_0 := by decide +kernel
theorem dksX3_readsPower_1 : cX3_readsPower.data.toList.drop 24 = dktX3_readsPower_1 := dk_seg dksX3_readsPower_0 24 rfl rfl
theorem dksX3_readsPower_2 : cX3_readsPower.data.toList.drop 46 = dktX3_readsPower_2 := dk_seg dksX3_readsPower_1 22 rfl rfl
theorem dksX3_readsPower_3 : cX3_readsPower.data.toList.drop 69 = dktX3_readsPower_3 := dk_seg dksX3_readsPower_2 23 rfl rfl
theorem dksX3_readsPower_4 : cX3_readsPower.data.toList.drop 92 = dktX3_readsPower_4 := dk_seg dksX3_readsPower_3 23 rfl rfl
theorem dX3_readsPower_0 : decode cX3_readsPower 0 = .ok (.aload_n 0, 1) := dk_42 (dk_at dksX3_readsPower_0 0 rfl rfl)
theorem dX3_readsPower_1 : decode cX3_readsPower 1 = .ok (.aload_n 0, 1) := dk_42 (dk_at dksX3_readsPower_0 1 rfl rfl)
theorem dX3_readsPower_2 : decode cX3_readsPower 2 = .ok (.invokevirtual 38, 3) := dk_182 0 38 (dk_at dksX3_readsPower_0 2 rfl rfl)
theorem dX3_readsPower_5 : decode cX3_readsPower 5 = .ok (.bipush 120, 2) := dk_16 120 (dk_at dksX3_readsPower_0 5 rfl rfl)
theorem dX3_readsPower_7 : decode cX3_readsPower 7 = .ok (.if_icmp .ne 7, 3) := dk_160 0 7 (dk_at dksX3_readsPower_0 7 rfl rfl)
theorem dX3_readsPower_10 : decode cX3_readsPower 10 = .ok (.iconst 1, 1) := dk_4 (dk_at dksX3_readsPower_0 10 rfl rfl)
theorem dX3_readsPower_11 : decode cX3_readsPower 11 = .ok (.goto 4, 3) := dk_167 0 4 (dk_at dksX3_readsPower_0 11 rfl rfl)
theorem dX3_readsPower_14 : decode cX3_readsPower 14 = .ok (.iconst 0, 1) := dk_3 (dk_at dksX3_readsPower_0 14 rfl rfl)
theorem dX3_readsPower_15 : decode cX3_readsPower 15 = .ok (.invokevirtual 53, 3) := dk_182 0 53 (dk_at dksX3_readsPower_0 15 rfl rfl)
theorem dX3_readsPower_18 : decode cX3_readsPower 18 = .ok (.aload_n 0, 1) := dk_42 (dk_at dksX3_readsPower_0 18 rfl rfl)
theorem dX3_readsPower_19 : decode cX3_readsPower 19 = .ok (.dup, 1) := dk_89 (dk_at dksX3_readsPower_0 19 rfl rfl)
theorem dX3_readsPower_20 : decode cX3_readsPower 20 = .ok (.getfield 19, 3) := dk_180 0 19 (dk_at dksX3_readsPower_0 20 rfl rfl)
theorem dX3_readsPower_23 : decode cX3_readsPower 23 = .ok (.iconst 1, 1) := dk_4 (dk_at dksX3_readsPower_0 23 rfl rfl)
theorem dX3_readsPower_24 : decode cX3_readsPower 24 = .ok (.iadd, 1) := dk_96 (dk_at dksX3_readsPower_1 0 rfl rfl)
theorem dX3_readsPower_25 : decode cX3_readsPower 25 = .ok (.putfield 19, 3) := dk_181 0 19 (dk_at dksX3_readsPower_1 1 rfl rfl)
theorem dX3_readsPower_28 : decode cX3_readsPower 28 = .ok (.aload_n 0, 1) := dk_42 (dk_at dksX3_readsPower_1 4 rfl rfl)
theorem dX3_readsPower_29 : decode cX3_readsPower 29 = .ok (.invokevirtual 38, 3) := dk_182 0 38 (dk_at dksX3_readsPower_1 5 rfl rfl)
theorem dX3_readsPower_32 : decode cX3_readsPower 32 = .ok (.bipush 94, 2) := dk_16 94 (dk_at dksX3_readsPower_1 8 rfl rfl)
theorem dX3_readsPower_34 : decode cX3_readsPower 34 = .ok (.if_icmp .eq 5, 3) := dk_159 0 5 (dk_at dksX3_readsPower_1 10 rfl rfl)
theorem dX3_readsPower_37 : decode cX3_readsPower 37 = .ok (.iconst 1, 1) := dk_4 (dk_at dksX3_readsPower_1 13 rfl rfl)
theorem dX3_readsPower_38 : decode cX3_readsPower 38 = .ok (.ireturn, 1) := dk_172 (dk_at dksX3_readsPower_1 14 rfl rfl)
theorem dX3_readsPower_39 : decode cX3_readsPower 39 = .ok (.aload_n 0, 1) := dk_42 (dk_at dksX3_readsPower_1 15 rfl rfl)
theorem dX3_readsPower_40 : decode cX3_readsPower 40 = .ok (.dup, 1) := dk_89 (dk_at dksX3_readsPower_1 16 rfl rfl)
theorem dX3_readsPower_41 : decode cX3_readsPower 41 = .ok (.getfield 19, 3) := dk_180 0 19 (dk_at dksX3_readsPower_1 17 rfl rfl)
theorem dX3_readsPower_44 : decode cX3_readsPower 44 = .ok (.iconst 1, 1) := dk_4 (dk_at dksX3_readsPower_1 20 rfl rfl)
theorem dX3_readsPower_45 : decode cX3_readsPower 45 = .ok (.iadd, 1) := dk_96 (dk_at dksX3_readsPower_1 21 rfl rfl)
theorem dX3_readsPower_46 : decode cX3_readsPower 46 = .ok (.putfield 19, 3) := dk_181 0 19 (dk_at dksX3_readsPower_2 0 rfl rfl)
theorem dX3_readsPower_49 : decode cX3_readsPower 49 = .ok (.aload_n 0, 1) := dk_42 (dk_at dksX3_readsPower_2 3 rfl rfl)
theorem dX3_readsPower_50 : decode cX3_readsPower 50 = .ok (.aload_n 0, 1) := dk_42 (dk_at dksX3_readsPower_2 4 rfl rfl)
theorem dX3_readsPower_51 : decode cX3_readsPower 51 = .ok (.invokevirtual 38, 3) := dk_182 0 38 (dk_at dksX3_readsPower_2 5 rfl rfl)
theorem dX3_readsPower_54 : decode cX3_readsPower 54 = .ok (.i2l, 1) := dk_133 (dk_at dksX3_readsPower_2 8 rfl rfl)
theorem dX3_readsPower_55 : decode cX3_readsPower 55 = .ok (.ldc2_w 41, 3) := dk_20 0 41 (dk_at dksX3_readsPower_2 9 rfl rfl)
theorem dX3_readsPower_58 : decode cX3_readsPower 58 = .ok (.ldc2_w 57, 3) := dk_20 0 57 (dk_at dksX3_readsPower_2 12 rfl rfl)
theorem dX3_readsPower_61 : decode cX3_readsPower 61 = .ok (.invokestatic 45, 3) := dk_184 0 45 (dk_at dksX3_readsPower_2 15 rfl rfl)
theorem dX3_readsPower_64 : decode cX3_readsPower 64 = .ok (.invokevirtual 53, 3) := dk_182 0 53 (dk_at dksX3_readsPower_2 18 rfl rfl)
theorem dX3_readsPower_67 : decode cX3_readsPower 67 = .ok (.aload_n 0, 1) := dk_42 (dk_at dksX3_readsPower_2 21 rfl rfl)
theorem dX3_readsPower_68 : decode cX3_readsPower 68 = .ok (.dup, 1) := dk_89 (dk_at dksX3_readsPower_2 22 rfl rfl)
theorem dX3_readsPower_69 : decode cX3_readsPower 69 = .ok (.getfield 19, 3) := dk_180 0 19 (dk_at dksX3_readsPower_3 0 rfl rfl)
theorem dX3_readsPower_72 : decode cX3_readsPower 72 = .ok (.iconst 1, 1) := dk_4 (dk_at dksX3_readsPower_3 3 rfl rfl)
theorem dX3_readsPower_73 : decode cX3_readsPower 73 = .ok (.iadd, 1) := dk_96 (dk_at dksX3_readsPower_3 4 rfl rfl)
theorem dX3_readsPower_74 : decode cX3_readsPower 74 = .ok (.putfield 19, 3) := dk_181 0 19 (dk_at dksX3_readsPower_3 5 rfl rfl)
theorem dX3_readsPower_77 : decode cX3_readsPower 77 = .ok (.aload_n 0, 1) := dk_42 (dk_at dksX3_readsPower_3 8 rfl rfl)
theorem dX3_readsPower_78 : decode cX3_readsPower 78 = .ok (.getfield 15, 3) := dk_180 0 15 (dk_at dksX3_readsPower_3 9 rfl rfl)
theorem dX3_readsPower_81 : decode cX3_readsPower 81 = .ok (.aload_n 0, 1) := dk_42 (dk_at dksX3_readsPower_3 12 rfl rfl)
theorem dX3_readsPower_82 : decode cX3_readsPower 82 = .ok (.getfield 19, 3) := dk_180 0 19 (dk_at dksX3_readsPower_3 13 rfl rfl)
theorem dX3_readsPower_85 : decode cX3_readsPower 85 = .ok (.iconst 1, 1) := dk_4 (dk_at dksX3_readsPower_3 16 rfl rfl)
theorem dX3_readsPower_86 : decode cX3_readsPower 86 = .ok (.isub, 1) := dk_100 (dk_at dksX3_readsPower_3 17 rfl rfl)
theorem dX3_readsPower_87 : decode cX3_readsPower 87 = .ok (.invokeinterface 29 2, 5) := by decide +kernel
theorem dX3_readsPower_92 : decode cX3_readsPower 92 = .ok (.bipush 48, 2) := dk_16 48 (dk_at dksX3_readsPower_4 0 rfl rfl)
theorem dX3_readsPower_94 : decode cX3_readsPower 94 = .ok (.isub, 1) := dk_100 (dk_at dksX3_readsPower_4 2 rfl rfl)
theorem dX3_readsPower_95 : decode cX3_readsPower 95 = .ok (.ireturn, 1) := dk_172 (dk_at dksX3_readsPower_4 3 rfl rfl)
abbrev cX3_number : ByteArray := prog_11_method_5_code
def yX3_number : MethodName := ⟨RX3, "number", "()I"⟩
def dkwX3_number_1 : List UInt8 := [96, 16, 48, 100, 60, 42, 89, 180, 0, 19, 4, 96, 181, 0, 19, 132, 2, 1, 167, 255, 218, 27, 172]
abbrev dktX3_number_1 : List UInt8 := dkwX3_number_1 ++ []
def dkwX3_number_0 : List UInt8 := [3, 60, 3, 61, 28, 7, 162, 0, 39, 42, 182, 0, 49, 153, 0, 32, 16, 10, 27, 104, 42, 182, 0, 38]
abbrev dktX3_number_0 : List UInt8 := dkwX3_number_0 ++ dktX3_number_1
theorem dksX3_number_0 : cX3_number.data.toList.drop 0 = dktX3_number_0 := by decide +kernel
theorem dksX3_number_1 : cX3_number.data.toList.drop 24 = dktX3_number_1 := dk_seg dksX3_number_0 24 rfl rfl
theorem dX3_number_0 : decode cX3_number 0 = .ok (.iconst 0, 1) := dk_3 (dk_at dksX3_number_0 0 rfl rfl)
theorem dX3_number_1 : decode cX3_number 1 = .ok (.istore_n 1, 1) := dk_60 (dk_at dksX3_number_0 1 rfl rfl)
theorem dX3_number_2 : decode cX3_number 2 = .ok (.iconst 0, 1) := dk_3 (dk_at dksX3_number_0 2 rfl rfl)
theorem dX3_number_3 : decode cX3_number 3 = .ok (.istore_n 2, 1) := dk_61 (dk_at dksX3_number_0 3 rfl rfl)
theorem dX3_number_4 : decode cX3_number 4 = .ok (.iload_n 2, 1) := dk_28 (dk_at dksX3_number_0 4 rfl rfl)
theorem dX3_number_5 : decode cX3_number 5 = .ok (.iconst 4, 1) := dk_7 (dk_at dksX3_number_0 5 rfl rfl)
theorem dX3_number_6 : decode cX3_number 6 = .ok (.if_icmp .ge 39, 3) := dk_162 0 39 (dk_at dksX3_number_0 6 rfl rfl)
theorem dX3_number_9 : decode cX3_number 9 = .ok (.aload_n 0, 1) := dk_42 (dk_at dksX3_number_0 9 rfl rfl)
theorem dX3_number_10 : decode cX3_number 10 = .ok (.invokevirtual 49, 3) := dk_182 0 49 (dk_at dksX3_number_0 10 rfl rfl)
theorem dX3_number_13 : decode cX3_number 13 = .ok (.ifCond .eq 32, 3) := dk_153 0 32 (dk_at dksX3_number_0 13 rfl rfl)
theorem dX3_number_16 : decode cX3_number 16 = .ok (.bipush 10, 2) := dk_16 10 (dk_at dksX3_number_0 16 rfl rfl)
theorem dX3_number_18 : decode cX3_number 18 = .ok (.iload_n 1, 1) := dk_27 (dk_at dksX3_number_0 18 rfl rfl)
theorem dX3_number_19 : decode cX3_number 19 = .ok (.imul, 1) := dk_104 (dk_at dksX3_number_0 19 rfl rfl)
theorem dX3_number_20 : decode cX3_number 20 = .ok (.aload_n 0, 1) := dk_42 (dk_at dksX3_number_0 20 rfl rfl)
theorem dX3_number_21 : decode cX3_number 21 = .ok (.invokevirtual 38, 3) := dk_182 0 38 (dk_at dksX3_number_0 21 rfl rfl)
theorem dX3_number_24 : decode cX3_number 24 = .ok (.iadd, 1) := dk_96 (dk_at dksX3_number_1 0 rfl rfl)
theorem dX3_number_25 : decode cX3_number 25 = .ok (.bipush 48, 2) := dk_16 48 (dk_at dksX3_number_1 1 rfl rfl)
theorem dX3_number_27 : decode cX3_number 27 = .ok (.isub, 1) := dk_100 (dk_at dksX3_number_1 3 rfl rfl)
theorem dX3_number_28 : decode cX3_number 28 = .ok (.istore_n 1, 1) := dk_60 (dk_at dksX3_number_1 4 rfl rfl)
theorem dX3_number_29 : decode cX3_number 29 = .ok (.aload_n 0, 1) := dk_42 (dk_at dksX3_number_1 5 rfl rfl)
theorem dX3_number_30 : decode cX3_number 30 = .ok (.dup, 1) := dk_89 (dk_at dksX3_number_1 6 rfl rfl)
theorem dX3_number_31 : decode cX3_number 31 = .ok (.getfield 19, 3) := dk_180 0 19 (dk_at dksX3_number_1 7 rfl rfl)
theorem dX3_number_34 : decode cX3_number 34 = .ok (.iconst 1, 1) := dk_4 (dk_at dksX3_number_1 10 rfl rfl)
theorem dX3_number_35 : decode cX3_number 35 = .ok (.iadd, 1) := dk_96 (dk_at dksX3_number_1 11 rfl rfl)
theorem dX3_number_36 : decode cX3_number 36 = .ok (.putfield 19, 3) := dk_181 0 19 (dk_at dksX3_number_1 12 rfl rfl)
theorem dX3_number_39 : decode cX3_number 39 = .ok (.iinc 2 1, 3) := dk_132 2 1 (dk_at dksX3_number_1 15 rfl rfl)
theorem dX3_number_42 : decode cX3_number 42 = .ok (.goto (-38), 3) := dk_167 255 218 (dk_at dksX3_number_1 18 rfl rfl)
theorem dX3_number_45 : decode cX3_number 45 = .ok (.iload_n 1, 1) := dk_27 (dk_at dksX3_number_1 21 rfl rfl)
theorem dX3_number_46 : decode cX3_number 46 = .ok (.ireturn, 1) := dk_172 (dk_at dksX3_number_1 22 rfl rfl)
theorem q125 : (Jvm.Cond.initialized "TypesAtPrime$Reader") ∈ lw_all := lw_g (lw_at lw_m1 23 rfl) rfl
theorem q582 : (Jvm.Cond.selects "TypesAtPrime$Reader" ({ cls := "java/lang/Object", name := "getClass", desc := "()Ljava/lang/Class;" } : Jvm.MethodName) ({ cls := "java/lang/Object", name := "getClass", desc := "()Ljava/lang/Class;" } : Jvm.MethodName)) ∈ lw_all := lw_g (lw_at lw_m3 0 rfl) rfl
theorem q922 : (Jvm.Cond.instantiable "TypesAtPrime$Reader" (3 : Nat)) ∈ lw_all := lw_g (lw_at lw_m4 100 rfl) rfl
theorem q929 : (Jvm.Cond.instanceMethod ({ cls := "TypesAtPrime$Reader", name := "<init>", desc := "(Ljava/lang/CharSequence;)V" } : Jvm.MethodName)) ∈ lw_all := lw_g (lw_at lw_m4 107 rfl) rfl
theorem q930 : (Jvm.Cond.code ({ cls := "TypesAtPrime$Reader", name := "<init>", desc := "(Ljava/lang/CharSequence;)V" } : Jvm.MethodName) prog_11_method_1_code (2 : Nat) (Option.none : Option Jvm.ClassFile.FieldType)) ∈ lw_all := lw_g (lw_at lw_m4 108 rfl) rfl
theorem q931 : (Jvm.Cond.methodLink "TypesAtPrime$Reader" (3 : Nat) ({ cls := "java/lang/Object", name := "<init>", desc := "()V" } : Jvm.MethodName)) ∈ lw_all := lw_g (lw_at lw_m4 109 rfl) rfl
theorem q932 : (Jvm.Cond.fieldLink "TypesAtPrime$Reader" (15 : Nat) "TypesAtPrime$Reader" "text" "Ljava/lang/CharSequence;") ∈ lw_all := lw_g (lw_at lw_m4 110 rfl) rfl
theorem q933 : (Jvm.Cond.fieldLink "TypesAtPrime$Reader" (9 : Nat) "TypesAtPrime$Reader" "parts" "[J") ∈ lw_all := lw_g (lw_at lw_m4 111 rfl) rfl
theorem q934 : (Jvm.Cond.fieldLink "TypesAtPrime$Reader" (19 : Nat) "TypesAtPrime$Reader" "at" "I") ∈ lw_all := lw_g (lw_at lw_m4 112 rfl) rfl
theorem q935 : (Jvm.Cond.laysFinal "TypesAtPrime$Reader" "TypesAtPrime$Reader" "text" "Ljava/lang/CharSequence;") ∈ lw_all := lw_g (lw_at lw_m4 113 rfl) rfl
theorem q936 : (Jvm.Cond.soleField "TypesAtPrime$Reader" "text") ∈ lw_all := lw_g (lw_at lw_m4 114 rfl) rfl
theorem q937 : (Jvm.Cond.laysFinal "TypesAtPrime$Reader" "TypesAtPrime$Reader" "parts" "[J") ∈ lw_all := lw_g (lw_at lw_m4 115 rfl) rfl
theorem q938 : (Jvm.Cond.soleField "TypesAtPrime$Reader" "parts") ∈ lw_all := lw_g (lw_at lw_m4 116 rfl) rfl
theorem q939 : (Jvm.Cond.lays "TypesAtPrime$Reader" "TypesAtPrime$Reader" "at" "I") ∈ lw_all := lw_g (lw_at lw_m4 117 rfl) rfl
theorem q940 : (Jvm.Cond.soleField "TypesAtPrime$Reader" "at") ∈ lw_all := lw_g (lw_at lw_m4 118 rfl) rfl
theorem q941 : (Jvm.Cond.superclass "TypesAtPrime$Reader" "java/lang/Object") ∈ lw_all := lw_g (lw_at lw_m4 119 rfl) rfl
theorem q943 : (Jvm.Cond.instanceMethod ({ cls := "TypesAtPrime$Reader", name := "reads", desc := "()[J" } : Jvm.MethodName)) ∈ lw_all := lw_g (lw_at lw_m4 121 rfl) rfl
theorem q944 : (Jvm.Cond.selects "TypesAtPrime$Reader" ({ cls := "TypesAtPrime$Reader", name := "reads", desc := "()[J" } : Jvm.MethodName) ({ cls := "TypesAtPrime$Reader", name := "reads", desc := "()[J" } : Jvm.MethodName)) ∈ lw_all := lw_g (lw_at lw_m4 122 rfl) rfl
theorem q945 : (Jvm.Cond.code ({ cls := "TypesAtPrime$Reader", name := "reads", desc := "()[J" } : Jvm.MethodName) prog_11_method_9_code (2 : Nat) (Option.some (Jvm.ClassFile.FieldType.array Jvm.ClassFile.FieldType.long))) ∈ lw_all := lw_g (lw_at lw_m4 123 rfl) rfl
theorem q946 : (Jvm.Cond.methodLink "TypesAtPrime$Reader" (38 : Nat) ({ cls := "TypesAtPrime$Reader", name := "here", desc := "()I" } : Jvm.MethodName)) ∈ lw_all := lw_g (lw_at lw_m4 124 rfl) rfl
theorem q947 : (Jvm.Cond.privateMethod ({ cls := "TypesAtPrime$Reader", name := "here", desc := "()I" } : Jvm.MethodName)) ∈ lw_tbl := lw_at lw_m4 125 rfl
theorem q948 : (Jvm.Cond.instanceMethod ({ cls := "TypesAtPrime$Reader", name := "here", desc := "()I" } : Jvm.MethodName)) ∈ lw_all := lw_g (lw_at lw_m4 126 rfl) rfl
theorem q949 : (Jvm.Cond.code ({ cls := "TypesAtPrime$Reader", name := "here", desc := "()I" } : Jvm.MethodName) prog_11_method_2_code (1 : Nat) (Option.some Jvm.ClassFile.FieldType.int)) ∈ lw_all := lw_g (lw_at lw_m4 127 rfl) rfl
theorem q950 : (Jvm.Cond.interfaceEntry "TypesAtPrime$Reader" (23 : Nat)) ∈ lw_tbl := lw_at lw_m4 128 rfl
theorem q951 : (Jvm.Cond.methodLink "TypesAtPrime$Reader" (23 : Nat) ({ cls := "java/lang/CharSequence", name := "length", desc := "()I" } : Jvm.MethodName)) ∈ lw_all := lw_g (lw_at lw_m4 129 rfl) rfl
theorem q962 : (Jvm.Cond.interfaceEntry "TypesAtPrime$Reader" (29 : Nat)) ∈ lw_tbl := lw_at lw_m4 140 rfl
theorem q963 : (Jvm.Cond.methodLink "TypesAtPrime$Reader" (29 : Nat) ({ cls := "java/lang/CharSequence", name := "charAt", desc := "(I)C" } : Jvm.MethodName)) ∈ lw_all := lw_g (lw_at lw_m4 141 rfl) rfl
theorem q993 : (Jvm.Cond.methodLink "TypesAtPrime$Reader" (65 : Nat) ({ cls := "TypesAtPrime$Reader", name := "readsSign", desc := "()I" } : Jvm.MethodName)) ∈ lw_all := lw_g (lw_at lw_m4 171 rfl) rfl
theorem q994 : (Jvm.Cond.privateMethod ({ cls := "TypesAtPrime$Reader", name := "readsSign", desc := "()I" } : Jvm.MethodName)) ∈ lw_tbl := lw_at lw_m4 172 rfl
theorem q995 : (Jvm.Cond.instanceMethod ({ cls := "TypesAtPrime$Reader", name := "readsSign", desc := "()I" } : Jvm.MethodName)) ∈ lw_all := lw_g (lw_at lw_m4 173 rfl) rfl
theorem q996 : (Jvm.Cond.code ({ cls := "TypesAtPrime$Reader", name := "readsSign", desc := "()I" } : Jvm.MethodName) prog_11_method_8_code (2 : Nat) (Option.some Jvm.ClassFile.FieldType.int)) ∈ lw_all := lw_g (lw_at lw_m4 174 rfl) rfl
theorem q997 : (Jvm.Cond.methodLink "TypesAtPrime$Reader" (53 : Nat) ({ cls := "TypesAtPrime$Reader", name := "needs", desc := "(Z)V" } : Jvm.MethodName)) ∈ lw_all := lw_g (lw_at lw_m4 175 rfl) rfl
theorem q998 : (Jvm.Cond.privateMethod ({ cls := "TypesAtPrime$Reader", name := "needs", desc := "(Z)V" } : Jvm.MethodName)) ∈ lw_tbl := lw_at lw_m4 176 rfl
theorem q999 : (Jvm.Cond.instanceMethod ({ cls := "TypesAtPrime$Reader", name := "needs", desc := "(Z)V" } : Jvm.MethodName)) ∈ lw_all := lw_g (lw_at lw_m4 177 rfl) rfl
theorem q1000 : (Jvm.Cond.code ({ cls := "TypesAtPrime$Reader", name := "needs", desc := "(Z)V" } : Jvm.MethodName) prog_11_method_3_code (2 : Nat) (Option.none : Option Jvm.ClassFile.FieldType)) ∈ lw_all := lw_g (lw_at lw_m4 178 rfl) rfl
theorem q1001 : (Jvm.Cond.classLink "TypesAtPrime$Reader" (33 : Nat) "TypesAtPrime$Refusal") ∈ lw_all := lw_g (lw_at lw_m4 179 rfl) rfl
theorem q1010 : (Jvm.Cond.methodLink "TypesAtPrime$Reader" (35 : Nat) ({ cls := "TypesAtPrime$Refusal", name := "<init>", desc := "(I)V" } : Jvm.MethodName)) ∈ lw_all := lw_g (lw_at lw_m4 188 rfl) rfl
theorem q1028 : (Jvm.Cond.methodLink "TypesAtPrime$Reader" (68 : Nat) ({ cls := "TypesAtPrime$Reader", name := "readsTerm", desc := "(I)V" } : Jvm.MethodName)) ∈ lw_all := lw_g (lw_at lw_m4 206 rfl) rfl
theorem q1029 : (Jvm.Cond.privateMethod ({ cls := "TypesAtPrime$Reader", name := "readsTerm", desc := "(I)V" } : Jvm.MethodName)) ∈ lw_tbl := lw_at lw_m4 207 rfl
theorem q1030 : (Jvm.Cond.instanceMethod ({ cls := "TypesAtPrime$Reader", name := "readsTerm", desc := "(I)V" } : Jvm.MethodName)) ∈ lw_all := lw_g (lw_at lw_m4 208 rfl) rfl
theorem q1031 : (Jvm.Cond.code ({ cls := "TypesAtPrime$Reader", name := "readsTerm", desc := "(I)V" } : Jvm.MethodName) prog_11_method_7_code (4 : Nat) (Option.none : Option Jvm.ClassFile.FieldType)) ∈ lw_all := lw_g (lw_at lw_m4 209 rfl) rfl
theorem q1032 : (Jvm.Cond.methodLink "TypesAtPrime$Reader" (49 : Nat) ({ cls := "TypesAtPrime$Reader", name := "isDigit", desc := "()Z" } : Jvm.MethodName)) ∈ lw_all := lw_g (lw_at lw_m4 210 rfl) rfl
theorem q1033 : (Jvm.Cond.privateMethod ({ cls := "TypesAtPrime$Reader", name := "isDigit", desc := "()Z" } : Jvm.MethodName)) ∈ lw_tbl := lw_at lw_m4 211 rfl
theorem q1034 : (Jvm.Cond.instanceMethod ({ cls := "TypesAtPrime$Reader", name := "isDigit", desc := "()Z" } : Jvm.MethodName)) ∈ lw_all := lw_g (lw_at lw_m4 212 rfl) rfl
theorem q1035 : (Jvm.Cond.code ({ cls := "TypesAtPrime$Reader", name := "isDigit", desc := "()Z" } : Jvm.MethodName) prog_11_method_4_code (1 : Nat) (Option.some Jvm.ClassFile.FieldType.boolean)) ∈ lw_all := lw_g (lw_at lw_m4 213 rfl) rfl
theorem q1036 : (Jvm.Cond.constantLong "TypesAtPrime$Reader" (41 : Nat) (48 : Int64)) ∈ lw_all := lw_g (lw_at lw_m4 214 rfl) rfl
theorem q1037 : (Jvm.Cond.constantLong "TypesAtPrime$Reader" (43 : Nat) (57 : Int64)) ∈ lw_all := lw_g (lw_at lw_m4 215 rfl) rfl
theorem q1038 : (Jvm.Cond.methodLinkNest "TypesAtPrime$Reader" (45 : Nat) ({ cls := "TypesAtPrime", name := "in", desc := "(JJJ)Z" } : Jvm.MethodName) "TypesAtPrime") ∈ lw_tbl := lw_at lw_m4 216 rfl
theorem q1039 : (Jvm.Cond.methodLink "TypesAtPrime$Reader" (59 : Nat) ({ cls := "TypesAtPrime$Reader", name := "readsPower", desc := "()I" } : Jvm.MethodName)) ∈ lw_all := lw_g (lw_at lw_m4 217 rfl) rfl
theorem q1040 : (Jvm.Cond.privateMethod ({ cls := "TypesAtPrime$Reader", name := "readsPower", desc := "()I" } : Jvm.MethodName)) ∈ lw_tbl := lw_at lw_m4 218 rfl
theorem q1041 : (Jvm.Cond.instanceMethod ({ cls := "TypesAtPrime$Reader", name := "readsPower", desc := "()I" } : Jvm.MethodName)) ∈ lw_all := lw_g (lw_at lw_m4 219 rfl) rfl
theorem q1042 : (Jvm.Cond.code ({ cls := "TypesAtPrime$Reader", name := "readsPower", desc := "()I" } : Jvm.MethodName) prog_11_method_6_code (1 : Nat) (Option.some Jvm.ClassFile.FieldType.int)) ∈ lw_all := lw_g (lw_at lw_m4 220 rfl) rfl
theorem q1043 : (Jvm.Cond.constantLong "TypesAtPrime$Reader" (57 : Nat) (56 : Int64)) ∈ lw_all := lw_g (lw_at lw_m4 221 rfl) rfl
theorem q1044 : (Jvm.Cond.methodLink "TypesAtPrime$Reader" (62 : Nat) ({ cls := "TypesAtPrime$Reader", name := "number", desc := "()I" } : Jvm.MethodName)) ∈ lw_all := lw_g (lw_at lw_m4 222 rfl) rfl
theorem q1045 : (Jvm.Cond.privateMethod ({ cls := "TypesAtPrime$Reader", name := "number", desc := "()I" } : Jvm.MethodName)) ∈ lw_tbl := lw_at lw_m4 223 rfl
theorem q1046 : (Jvm.Cond.instanceMethod ({ cls := "TypesAtPrime$Reader", name := "number", desc := "()I" } : Jvm.MethodName)) ∈ lw_all := lw_g (lw_at lw_m4 224 rfl) rfl
theorem q1047 : (Jvm.Cond.code ({ cls := "TypesAtPrime$Reader", name := "number", desc := "()I" } : Jvm.MethodName) prog_11_method_5_code (3 : Nat) (Option.some Jvm.ClassFile.FieldType.int)) ∈ lw_all := lw_g (lw_at lw_m4 225 rfl) rfl
theorem q1542 : (Jvm.Cond.selects "TypesAtPrime$Reader" ({ cls := "java/lang/Object", name := "toString", desc := "()Ljava/lang/String;" } : Jvm.MethodName) ({ cls := "java/lang/Object", name := "toString", desc := "()Ljava/lang/String;" } : Jvm.MethodName)) ∈ lw_all := lw_g (lw_at lw_m7 0 rfl) rfl
theorem q2636 : (Jvm.Cond.castable "TypesAtPrime$Reader" "java/lang/Object") ∈ lw_tbl := lw_at lw_m11 134 rfl
theorem in_X3 : ∀ w ∈ wsX30, w ∈ lw_all := lw_in wsX30 [935, 937, 939] (by decide +kernel) (by decide +kernel)

/-! TypesAtPrime$Refusal -/
set_option maxRecDepth 100000
def RX4 : String := "TypesAtPrime$Refusal"
def TX4 : u_T := fun k => match k with
  | 0 => ("java/lang/Throwable", "cause", "Ljava/lang/Throwable;", false)
  | 1 => ("java/lang/Throwable", "stackTrace", "[Ljava/lang/StackTraceElement;", false)
  | 2 => ("java/lang/Throwable", "suppressedExceptions", "Ljava/util/List;", false)
  | 3 => ("java/lang/Throwable", "detailMessage", "Ljava/lang/String;", false)
  | 4 => ("java/lang/Throwable", "backtrace", "Ljava/lang/Object;", false)
  | 5 => ("java/lang/Throwable", "depth", "I", false)
  | _ => ("TypesAtPrime$Refusal", "answer", "I", true)
def tyX4 : Nat → FieldType := fun k => match k with
  | 0 => .object "java/lang/Throwable"
  | 1 => .array (.object "java/lang/StackTraceElement")
  | 2 => .object "java/util/List"
  | 3 => .object "java/lang/String"
  | 4 => .object "java/lang/Object"
  | 5 => .int
  | _ => .int
abbrev wsX40 : List Cond := u_ws RX4 TX4 7
theorem nmX4 : ∀ a, a < 7 → ∀ b, b < 7 → a ≠ b → (TX4 a).2.1 ≠ (TX4 b).2.1 := by decide +kernel
theorem tyX4_ok : ∀ k, k < 7 → parseFieldDescriptor (TX4 k).2.2.1 = some (tyX4 k) := by decide +kernel
abbrev cX4_init : ByteArray := prog_12_method_1_code
def yX4_init : MethodName := ⟨RX4, "<init>", "(I)V"⟩
def dkwX4_init_0 : List UInt8 := [42, 1, 1, 3, 3, 183, 0, 1, 42, 27, 181, 0, 7, 177]
abbrev dktX4_init_0 : List UInt8 := dkwX4_init_0 ++ []
theorem dksX4_init_0 : cX4_init.data.toList.drop 0 = dktX4_init_0 := by decide +kernel
theorem dX4_init_0 : decode cX4_init 0 = .ok (.aload_n 0, 1) := dk_42 (dk_at dksX4_init_0 0 rfl rfl)
theorem dX4_init_1 : decode cX4_init 1 = .ok (.aconst_null, 1) := dk_1 (dk_at dksX4_init_0 1 rfl rfl)
theorem dX4_init_2 : decode cX4_init 2 = .ok (.aconst_null, 1) := dk_1 (dk_at dksX4_init_0 2 rfl rfl)
theorem dX4_init_3 : decode cX4_init 3 = .ok (.iconst 0, 1) := dk_3 (dk_at dksX4_init_0 3 rfl rfl)
theorem dX4_init_4 : decode cX4_init 4 = .ok (.iconst 0, 1) := dk_3 (dk_at dksX4_init_0 4 rfl rfl)
theorem dX4_init_5 : decode cX4_init 5 = .ok (.invokespecial 1, 3) := dk_183 0 1 (dk_at dksX4_init_0 5 rfl rfl)
theorem dX4_init_8 : decode cX4_init 8 = .ok (.aload_n 0, 1) := dk_42 (dk_at dksX4_init_0 8 rfl rfl)
theorem dX4_init_9 : decode cX4_init 9 = .ok (.iload_n 1, 1) := dk_27 (dk_at dksX4_init_0 9 rfl rfl)
theorem dX4_init_10 : decode cX4_init 10 = .ok (.putfield 7, 3) := dk_181 0 7 (dk_at dksX4_init_0 10 rfl rfl)
theorem dX4_init_13 : decode cX4_init 13 = .ok (.return_, 1) := dk_177 (dk_at dksX4_init_0 13 rfl rfl)
theorem q126 : (Jvm.Cond.initialized "TypesAtPrime$Refusal") ∈ lw_all := lw_g (lw_at lw_m1 24 rfl) rfl
theorem q214 : (Jvm.Cond.selects "TypesAtPrime$Refusal" ({ cls := "java/lang/Throwable", name := "fillInStackTrace", desc := "()Ljava/lang/Throwable;" } : Jvm.MethodName) ({ cls := "java/lang/Throwable", name := "fillInStackTrace", desc := "()Ljava/lang/Throwable;" } : Jvm.MethodName)) ∈ lw_all := lw_g (lw_at lw_m1 112 rfl) rfl
theorem q583 : (Jvm.Cond.selects "TypesAtPrime$Refusal" ({ cls := "java/lang/Object", name := "getClass", desc := "()Ljava/lang/Class;" } : Jvm.MethodName) ({ cls := "java/lang/Object", name := "getClass", desc := "()Ljava/lang/Class;" } : Jvm.MethodName)) ∈ lw_all := lw_g (lw_at lw_m3 1 rfl) rfl
theorem q1002 : (Jvm.Cond.instantiable "TypesAtPrime$Refusal" (7 : Nat)) ∈ lw_all := lw_g (lw_at lw_m4 180 rfl) rfl
theorem q1003 : (Jvm.Cond.castable "TypesAtPrime$Refusal" "TypesAtPrime$Refusal") ∈ lw_tbl := lw_at lw_m4 181 rfl
theorem q1004 : (Jvm.Cond.selects "TypesAtPrime$Refusal" ({ cls := "java/lang/Throwable", name := "fillInStackTrace", desc := "(I)Ljava/lang/Throwable;" } : Jvm.MethodName) ({ cls := "java/lang/Throwable", name := "fillInStackTrace", desc := "(I)Ljava/lang/Throwable;" } : Jvm.MethodName)) ∈ lw_all := lw_g (lw_at lw_m4 182 rfl) rfl
theorem q1005 : (Jvm.Cond.lays "TypesAtPrime$Refusal" "java/lang/Throwable" "cause" "Ljava/lang/Throwable;") ∈ lw_all := lw_g (lw_at lw_m4 183 rfl) rfl
theorem q1006 : (Jvm.Cond.lays "TypesAtPrime$Refusal" "java/lang/Throwable" "stackTrace" "[Ljava/lang/StackTraceElement;") ∈ lw_all := lw_g (lw_at lw_m4 184 rfl) rfl
theorem q1007 : (Jvm.Cond.lays "TypesAtPrime$Refusal" "java/lang/Throwable" "suppressedExceptions" "Ljava/util/List;") ∈ lw_all := lw_g (lw_at lw_m4 185 rfl) rfl
theorem q1008 : (Jvm.Cond.lays "TypesAtPrime$Refusal" "java/lang/Throwable" "detailMessage" "Ljava/lang/String;") ∈ lw_all := lw_g (lw_at lw_m4 186 rfl) rfl
theorem q1009 : (Jvm.Cond.lays "TypesAtPrime$Refusal" "java/lang/Throwable" "backtrace" "Ljava/lang/Object;") ∈ lw_all := lw_g (lw_at lw_m4 187 rfl) rfl
theorem q1011 : (Jvm.Cond.instanceMethod ({ cls := "TypesAtPrime$Refusal", name := "<init>", desc := "(I)V" } : Jvm.MethodName)) ∈ lw_all := lw_g (lw_at lw_m4 189 rfl) rfl
theorem q1012 : (Jvm.Cond.code ({ cls := "TypesAtPrime$Refusal", name := "<init>", desc := "(I)V" } : Jvm.MethodName) prog_12_method_1_code (2 : Nat) (Option.none : Option Jvm.ClassFile.FieldType)) ∈ lw_all := lw_g (lw_at lw_m4 190 rfl) rfl
theorem q1013 : (Jvm.Cond.methodLink "TypesAtPrime$Refusal" (1 : Nat) ({ cls := "java/lang/RuntimeException", name := "<init>", desc := "(Ljava/lang/String;Ljava/lang/Throwable;ZZ)V" } : Jvm.MethodName)) ∈ lw_all := lw_g (lw_at lw_m4 191 rfl) rfl
theorem q1022 : (Jvm.Cond.fieldLink "TypesAtPrime$Refusal" (7 : Nat) "TypesAtPrime$Refusal" "answer" "I") ∈ lw_all := lw_g (lw_at lw_m4 200 rfl) rfl
theorem q1024 : (Jvm.Cond.laysFinal "TypesAtPrime$Refusal" "TypesAtPrime$Refusal" "answer" "I") ∈ lw_all := lw_g (lw_at lw_m4 202 rfl) rfl
theorem q1025 : (Jvm.Cond.soleField "TypesAtPrime$Refusal" "answer") ∈ lw_all := lw_g (lw_at lw_m4 203 rfl) rfl
theorem q1026 : (Jvm.Cond.lays "TypesAtPrime$Refusal" "java/lang/Throwable" "depth" "I") ∈ lw_all := lw_g (lw_at lw_m4 204 rfl) rfl
theorem q1027 : (Jvm.Cond.superclass "TypesAtPrime$Refusal" "java/lang/RuntimeException") ∈ lw_all := lw_g (lw_at lw_m4 205 rfl) rfl
theorem q1543 : (Jvm.Cond.selects "TypesAtPrime$Refusal" ({ cls := "java/lang/Object", name := "toString", desc := "()Ljava/lang/String;" } : Jvm.MethodName) ({ cls := "java/lang/Throwable", name := "toString", desc := "()Ljava/lang/String;" } : Jvm.MethodName)) ∈ lw_all := lw_g (lw_at lw_m7 1 rfl) rfl
theorem q1550 : (Jvm.Cond.selects "TypesAtPrime$Refusal" ({ cls := "java/lang/Throwable", name := "getLocalizedMessage", desc := "()Ljava/lang/String;" } : Jvm.MethodName) ({ cls := "java/lang/Throwable", name := "getLocalizedMessage", desc := "()Ljava/lang/String;" } : Jvm.MethodName)) ∈ lw_all := lw_g (lw_at lw_m7 8 rfl) rfl
theorem q1561 : (Jvm.Cond.selects "TypesAtPrime$Refusal" ({ cls := "java/lang/Throwable", name := "getMessage", desc := "()Ljava/lang/String;" } : Jvm.MethodName) ({ cls := "java/lang/Throwable", name := "getMessage", desc := "()Ljava/lang/String;" } : Jvm.MethodName)) ∈ lw_all := lw_g (lw_at lw_m7 19 rfl) rfl
theorem q2637 : (Jvm.Cond.castable "TypesAtPrime$Refusal" "java/lang/Object") ∈ lw_tbl := lw_at lw_m11 135 rfl
theorem in_X4 : ∀ w ∈ wsX40, w ∈ lw_all := lw_in wsX40 [1005, 1006, 1007, 1008, 1009, 1026, 1024] (by decide +kernel) (by decide +kernel)

/-! TypesAtPrime$Factor -/
set_option maxRecDepth 100000
def RX5 : String := "TypesAtPrime$Factor"
def TX5 : u_T := fun k => match k with
  | 0 => ("TypesAtPrime$Factor", "parts", "[I", true)
  | 1 => ("TypesAtPrime$Factor", "degree", "I", true)
  | _ => ("TypesAtPrime$Factor", "times", "I", false)
def tyX5 : Nat → FieldType := fun k => match k with
  | 0 => .array .int
  | 1 => .int
  | _ => .int
abbrev wsX50 : List Cond := u_ws RX5 TX5 3
theorem nmX5 : ∀ a, a < 3 → ∀ b, b < 3 → a ≠ b → (TX5 a).2.1 ≠ (TX5 b).2.1 := by decide +kernel
theorem tyX5_ok : ∀ k, k < 3 → parseFieldDescriptor (TX5 k).2.2.1 = some (tyX5 k) := by decide +kernel
abbrev cX5_init : ByteArray := prog_5_method_1_code
def yX5_init : MethodName := ⟨RX5, "<init>", "([II)V"⟩
def dkwX5_init_0 : List UInt8 := [42, 183, 0, 1, 42, 43, 181, 0, 7, 42, 28, 181, 0, 13, 177]
abbrev dktX5_init_0 : List UInt8 := dkwX5_init_0 ++ []
theorem dksX5_init_0 : cX5_init.data.toList.drop 0 = dktX5_init_0 := by decide +kernel
theorem dX5_init_0 : decode cX5_init 0 = .ok (.aload_n 0, 1) := dk_42 (dk_at dksX5_init_0 0 rfl rfl)
theorem dX5_init_1 : decode cX5_init 1 = .ok (.invokespecial 1, 3) := dk_183 0 1 (dk_at dksX5_init_0 1 rfl rfl)
theorem dX5_init_4 : decode cX5_init 4 = .ok (.aload_n 0, 1) := dk_42 (dk_at dksX5_init_0 4 rfl rfl)
theorem dX5_init_5 : decode cX5_init 5 = .ok (.aload_n 1, 1) := dk_43 (dk_at dksX5_init_0 5 rfl rfl)
theorem dX5_init_6 : decode cX5_init 6 = .ok (.putfield 7, 3) := dk_181 0 7 (dk_at dksX5_init_0 6 rfl rfl)
theorem dX5_init_9 : decode cX5_init 9 = .ok (.aload_n 0, 1) := dk_42 (dk_at dksX5_init_0 9 rfl rfl)
theorem dX5_init_10 : decode cX5_init 10 = .ok (.iload_n 2, 1) := dk_28 (dk_at dksX5_init_0 10 rfl rfl)
theorem dX5_init_11 : decode cX5_init 11 = .ok (.putfield 13, 3) := dk_181 0 13 (dk_at dksX5_init_0 11 rfl rfl)
theorem dX5_init_14 : decode cX5_init 14 = .ok (.return_, 1) := dk_177 (dk_at dksX5_init_0 14 rfl rfl)
theorem q131 : (Jvm.Cond.initialized "TypesAtPrime$Factor") ∈ lw_all := lw_g (lw_at lw_m1 29 rfl) rfl
theorem q521 : (Jvm.Cond.instantiable "TypesAtPrime$Factor" (3 : Nat)) ∈ lw_all := lw_g (lw_at lw_m2 179 rfl) rfl
theorem q523 : (Jvm.Cond.instanceMethod ({ cls := "TypesAtPrime$Factor", name := "<init>", desc := "([II)V" } : Jvm.MethodName)) ∈ lw_all := lw_g (lw_at lw_m2 181 rfl) rfl
theorem q524 : (Jvm.Cond.code ({ cls := "TypesAtPrime$Factor", name := "<init>", desc := "([II)V" } : Jvm.MethodName) prog_5_method_1_code (3 : Nat) (Option.none : Option Jvm.ClassFile.FieldType)) ∈ lw_all := lw_g (lw_at lw_m2 182 rfl) rfl
theorem q525 : (Jvm.Cond.methodLink "TypesAtPrime$Factor" (1 : Nat) ({ cls := "java/lang/Object", name := "<init>", desc := "()V" } : Jvm.MethodName)) ∈ lw_all := lw_g (lw_at lw_m2 183 rfl) rfl
theorem q526 : (Jvm.Cond.fieldLink "TypesAtPrime$Factor" (7 : Nat) "TypesAtPrime$Factor" "parts" "[I") ∈ lw_all := lw_g (lw_at lw_m2 184 rfl) rfl
theorem q529 : (Jvm.Cond.fieldLink "TypesAtPrime$Factor" (13 : Nat) "TypesAtPrime$Factor" "degree" "I") ∈ lw_all := lw_g (lw_at lw_m2 187 rfl) rfl
theorem q534 : (Jvm.Cond.laysFinal "TypesAtPrime$Factor" "TypesAtPrime$Factor" "parts" "[I") ∈ lw_all := lw_g (lw_at lw_m2 192 rfl) rfl
theorem q535 : (Jvm.Cond.soleField "TypesAtPrime$Factor" "parts") ∈ lw_all := lw_g (lw_at lw_m2 193 rfl) rfl
theorem q536 : (Jvm.Cond.laysFinal "TypesAtPrime$Factor" "TypesAtPrime$Factor" "degree" "I") ∈ lw_all := lw_g (lw_at lw_m2 194 rfl) rfl
theorem q537 : (Jvm.Cond.soleField "TypesAtPrime$Factor" "degree") ∈ lw_all := lw_g (lw_at lw_m2 195 rfl) rfl
theorem q538 : (Jvm.Cond.lays "TypesAtPrime$Factor" "TypesAtPrime$Factor" "times" "I") ∈ lw_all := lw_g (lw_at lw_m2 196 rfl) rfl
theorem q539 : (Jvm.Cond.soleField "TypesAtPrime$Factor" "times") ∈ lw_all := lw_g (lw_at lw_m2 197 rfl) rfl
theorem q540 : (Jvm.Cond.superclass "TypesAtPrime$Factor" "java/lang/Object") ∈ lw_all := lw_g (lw_at lw_m2 198 rfl) rfl
theorem q577 : (Jvm.Cond.selects "TypesAtPrime$Factor" ({ cls := "java/lang/Object", name := "getClass", desc := "()Ljava/lang/Class;" } : Jvm.MethodName) ({ cls := "java/lang/Object", name := "getClass", desc := "()Ljava/lang/Class;" } : Jvm.MethodName)) ∈ lw_all := lw_g (lw_at lw_m2 235 rfl) rfl
theorem q1537 : (Jvm.Cond.selects "TypesAtPrime$Factor" ({ cls := "java/lang/Object", name := "toString", desc := "()Ljava/lang/String;" } : Jvm.MethodName) ({ cls := "java/lang/Object", name := "toString", desc := "()Ljava/lang/String;" } : Jvm.MethodName)) ∈ lw_all := lw_g (lw_at lw_m6 235 rfl) rfl
theorem q2640 : (Jvm.Cond.castable "TypesAtPrime$Factor" "java/lang/Object") ∈ lw_tbl := lw_at lw_m11 138 rfl
theorem in_X5 : ∀ w ∈ wsX50, w ∈ lw_all := lw_in wsX50 [534, 536, 538] (by decide +kernel) (by decide +kernel)

/-! TypesAtPrime$Tree -/
set_option maxRecDepth 100000
def RX6 : String := "TypesAtPrime$Tree"
def TX6 : u_T := fun k => match k with
  | 0 => ("TypesAtPrime$Tree", "f", "[J", true)
  | 1 => ("TypesAtPrime$Tree", "degree", "I", true)
  | 2 => ("TypesAtPrime$Tree", "knots", "Ljava/util/ArrayList;", true)
  | 3 => ("TypesAtPrime$Tree", "leaves", "Ljava/util/ArrayList;", true)
  | 4 => ("TypesAtPrime$Tree", "powers", "[I", true)
  | 5 => ("TypesAtPrime$Tree", "head", "LTypesAtPrime$Monomial;", false)
  | 6 => ("TypesAtPrime$Tree", "headValue", "J", false)
  | _ => ("TypesAtPrime$Tree", "this$0", "LTypesAtPrime;", true)
def tyX6 : Nat → FieldType := fun k => match k with
  | 0 => .array .long
  | 1 => .int
  | 2 => .object "java/util/ArrayList"
  | 3 => .object "java/util/ArrayList"
  | 4 => .array .int
  | 5 => .object "TypesAtPrime$Monomial"
  | 6 => .long
  | _ => .object "TypesAtPrime"
abbrev wsX60 : List Cond := u_ws RX6 TX6 8
theorem nmX6 : ∀ a, a < 8 → ∀ b, b < 8 → a ≠ b → (TX6 a).2.1 ≠ (TX6 b).2.1 := by decide +kernel
theorem tyX6_ok : ∀ k, k < 8 → parseFieldDescriptor (TX6 k).2.2.1 = some (tyX6 k) := by decide +kernel
abbrev cX6_init : ByteArray := prog_16_method_1_code
def yX6_init : MethodName := ⟨RX6, "<init>", "(LTypesAtPrime;[I)V"⟩
def dkwX6_init_9 : List UInt8 := [1, 25, 4, 180, 0, 74, 25, 4, 180, 0, 69, 104, 183, 0, 113, 182, 0, 78, 87, 167, 255, 94, 177]
abbrev dktX6_init_9 : List UInt8 := dkwX6_init_9 ++ []
def dkwX6_init_8 : List UInt8 := [42, 180, 0, 18, 182, 0, 100, 183, 0, 104, 182, 0, 107, 167, 0, 30, 42, 180, 0, 22, 187, 0, 111, 89]
abbrev dktX6_init_8 : List UInt8 := dkwX6_init_8 ++ dktX6_init_9
def dkwX6_init_7 : List UInt8 := [184, 0, 92, 80, 25, 5, 4, 10, 80, 42, 187, 0, 98, 89, 1, 1, 3, 25, 5, 25, 4, 180, 0, 69]
abbrev dktX6_init_7 : List UInt8 := dkwX6_init_7 ++ dktX6_init_8
def dkwX6_init_6 : List UInt8 := [3, 43, 180, 0, 82, 25, 4, 180, 0, 85, 3, 46, 100, 43, 180, 0, 82, 112, 116, 133, 43, 180, 0, 88]
abbrev dktX6_init_6 : List UInt8 := dkwX6_init_6 ++ dktX6_init_7
def dkwX6_init_5 : List UInt8 := [182, 0, 78, 87, 167, 0, 111, 25, 4, 180, 0, 74, 4, 160, 0, 75, 16, 9, 188, 11, 58, 5, 25, 5]
abbrev dktX6_init_5 : List UInt8 := dkwX6_init_5 ++ dktX6_init_6
def dkwX6_init_4 : List UInt8 := [4, 160, 0, 28, 42, 180, 0, 22, 187, 0, 72, 89, 1, 4, 25, 4, 180, 0, 74, 183, 0, 75]
abbrev dktX6_init_4 : List UInt8 := dkwX6_init_4 ++ dktX6_init_5
def dkwX6_init_3 : List UInt8 := [185, 0, 57, 1, 0, 153, 0, 159, 45, 185, 0, 63, 1, 0, 192, 0, 67, 58, 4, 25, 4, 180, 0, 69]
abbrev dktX6_init_3 : List UInt8 := dkwX6_init_3 ++ dktX6_init_4
def dkwX6_init_2 : List UInt8 := [42, 44, 184, 0, 37, 181, 0, 41, 43, 43, 44, 182, 0, 45, 182, 0, 49, 182, 0, 53, 78, 45]
abbrev dktX6_init_2 : List UInt8 := dkwX6_init_2 ++ dktX6_init_3
def dkwX6_init_1 : List UInt8 := [89, 183, 0, 17, 181, 0, 22, 42, 16, 7, 188, 10, 181, 0, 25, 42, 43, 44, 182, 0, 29, 181, 0, 33]
abbrev dktX6_init_1 : List UInt8 := dkwX6_init_1 ++ dktX6_init_2
def dkwX6_init_0 : List UInt8 := [42, 43, 181, 0, 3, 42, 183, 0, 9, 42, 187, 0, 15, 89, 183, 0, 17, 181, 0, 18, 42, 187, 0, 15]
abbrev dktX6_init_0 : List UInt8 := dkwX6_init_0 ++ dktX6_init_1
theorem dksX6_init_0 : cX6_init.data.toList.drop 0 = dktX6_init_0 := by decide +kernel
theorem dksX6_init_1 : cX6_init.data.toList.drop 24 = dktX6_init_1 := dk_seg dksX6_init_0 24 rfl rfl
theorem dksX6_init_2 : cX6_init.data.toList.drop 48 = dktX6_init_2 := dk_seg dksX6_init_1 24 rfl rfl
theorem dksX6_init_3 : cX6_init.data.toList.drop 70 = dktX6_init_3 := dk_seg dksX6_init_2 22 rfl rfl
theorem dksX6_init_4 : cX6_init.data.toList.drop 94 = dktX6_init_4 := dk_seg dksX6_init_3 24 rfl rfl
theorem dksX6_init_5 : cX6_init.data.toList.drop 116 = dktX6_init_5 := dk_seg dksX6_init_4 22 rfl rfl
theorem dksX6_init_6 : cX6_init.data.toList.drop 140 = dktX6_init_6 := dk_seg dksX6_init_5 24 rfl rfl
theorem dksX6_init_7 : cX6_init.data.toList.drop 164 = dktX6_init_7 := dk_seg dksX6_init_6 24 rfl rfl
theorem dksX6_init_8 : cX6_init.data.toList.drop 188 = dktX6_init_8 := dk_seg dksX6_init_7 24 rfl rfl
theorem dksX6_init_9 : cX6_init.data.toList.drop 212 = dktX6_init_9 := dk_seg dksX6_init_8 24 rfl rfl
theorem dX6_init_0 : decode cX6_init 0 = .ok (.aload_n 0, 1) := dk_42 (dk_at dksX6_init_0 0 rfl rfl)
theorem dX6_init_1 : decode cX6_init 1 = .ok (.aload_n 1, 1) := dk_43 (dk_at dksX6_init_0 1 rfl rfl)
theorem dX6_init_2 : decode cX6_init 2 = .ok (.putfield 3, 3) := dk_181 0 3 (dk_at dksX6_init_0 2 rfl rfl)
theorem dX6_init_5 : decode cX6_init 5 = .ok (.aload_n 0, 1) := dk_42 (dk_at dksX6_init_0 5 rfl rfl)
theorem dX6_init_6 : decode cX6_init 6 = .ok (.invokespecial 9, 3) := dk_183 0 9 (dk_at dksX6_init_0 6 rfl rfl)
theorem dX6_init_9 : decode cX6_init 9 = .ok (.aload_n 0, 1) := dk_42 (dk_at dksX6_init_0 9 rfl rfl)
theorem dX6_init_10 : decode cX6_init 10 = .ok (.new 15, 3) := dk_187 0 15 (dk_at dksX6_init_0 10 rfl rfl)
theorem dX6_init_13 : decode cX6_init 13 = .ok (.dup, 1) := dk_89 (dk_at dksX6_init_0 13 rfl rfl)
theorem dX6_init_14 : decode cX6_init 14 = .ok (.invokespecial 17, 3) := dk_183 0 17 (dk_at dksX6_init_0 14 rfl rfl)
theorem dX6_init_17 : decode cX6_init 17 = .ok (.putfield 18, 3) := dk_181 0 18 (dk_at dksX6_init_0 17 rfl rfl)
theorem dX6_init_20 : decode cX6_init 20 = .ok (.aload_n 0, 1) := dk_42 (dk_at dksX6_init_0 20 rfl rfl)
theorem dX6_init_21 : decode cX6_init 21 = .ok (.new 15, 3) := dk_187 0 15 (dk_at dksX6_init_0 21 rfl rfl)
theorem dX6_init_24 : decode cX6_init 24 = .ok (.dup, 1) := dk_89 (dk_at dksX6_init_1 0 rfl rfl)
theorem dX6_init_25 : decode cX6_init 25 = .ok (.invokespecial 17, 3) := dk_183 0 17 (dk_at dksX6_init_1 1 rfl rfl)
theorem dX6_init_28 : decode cX6_init 28 = .ok (.putfield 22, 3) := dk_181 0 22 (dk_at dksX6_init_1 4 rfl rfl)
theorem dX6_init_31 : decode cX6_init 31 = .ok (.aload_n 0, 1) := dk_42 (dk_at dksX6_init_1 7 rfl rfl)
theorem dX6_init_32 : decode cX6_init 32 = .ok (.bipush 7, 2) := dk_16 7 (dk_at dksX6_init_1 8 rfl rfl)
theorem dX6_init_34 : decode cX6_init 34 = .ok (.newarray .int, 2) := dk_188_10 (dk_at dksX6_init_1 10 rfl rfl)
theorem dX6_init_36 : decode cX6_init 36 = .ok (.putfield 25, 3) := dk_181 0 25 (dk_at dksX6_init_1 12 rfl rfl)
theorem dX6_init_39 : decode cX6_init 39 = .ok (.aload_n 0, 1) := dk_42 (dk_at dksX6_init_1 15 rfl rfl)
theorem dX6_init_40 : decode cX6_init 40 = .ok (.aload_n 1, 1) := dk_43 (dk_at dksX6_init_1 16 rfl rfl)
theorem dX6_init_41 : decode cX6_init 41 = .ok (.aload_n 2, 1) := dk_44 (dk_at dksX6_init_1 17 rfl rfl)
theorem dX6_init_42 : decode cX6_init 42 = .ok (.invokevirtual 29, 3) := dk_182 0 29 (dk_at dksX6_init_1 18 rfl rfl)
theorem dX6_init_45 : decode cX6_init 45 = .ok (.putfield 33, 3) := dk_181 0 33 (dk_at dksX6_init_1 21 rfl rfl)
theorem dX6_init_48 : decode cX6_init 48 = .ok (.aload_n 0, 1) := dk_42 (dk_at dksX6_init_2 0 rfl rfl)
theorem dX6_init_49 : decode cX6_init 49 = .ok (.aload_n 2, 1) := dk_44 (dk_at dksX6_init_2 1 rfl rfl)
theorem dX6_init_50 : decode cX6_init 50 = .ok (.invokestatic 37, 3) := dk_184 0 37 (dk_at dksX6_init_2 2 rfl rfl)
theorem dX6_init_53 : decode cX6_init 53 = .ok (.putfield 41, 3) := dk_181 0 41 (dk_at dksX6_init_2 5 rfl rfl)
theorem dX6_init_56 : decode cX6_init 56 = .ok (.aload_n 1, 1) := dk_43 (dk_at dksX6_init_2 8 rfl rfl)
theorem dX6_init_57 : decode cX6_init 57 = .ok (.aload_n 1, 1) := dk_43 (dk_at dksX6_init_2 9 rfl rfl)
theorem dX6_init_58 : decode cX6_init 58 = .ok (.aload_n 2, 1) := dk_44 (dk_at dksX6_init_2 10 rfl rfl)
theorem dX6_init_59 : decode cX6_init 59 = .ok (.invokevirtual 45, 3) := dk_182 0 45 (dk_at dksX6_init_2 11 rfl rfl)
theorem dX6_init_62 : decode cX6_init 62 = .ok (.invokevirtual 49, 3) := dk_182 0 49 (dk_at dksX6_init_2 14 rfl rfl)
theorem dX6_init_65 : decode cX6_init 65 = .ok (.invokevirtual 53, 3) := dk_182 0 53 (dk_at dksX6_init_2 17 rfl rfl)
theorem dX6_init_68 : decode cX6_init 68 = .ok (.astore_n 3, 1) := dk_78 (dk_at dksX6_init_2 20 rfl rfl)
theorem dX6_init_69 : decode cX6_init 69 = .ok (.aload_n 3, 1) := dk_45 (dk_at dksX6_init_2 21 rfl rfl)
theorem dX6_init_70 : decode cX6_init 70 = .ok (.invokeinterface 57 1, 5) := by decide +kernel
theorem dX6_init_75 : decode cX6_init 75 = .ok (.ifCond .eq 159, 3) := dk_153 0 159 (dk_at dksX6_init_3 5 rfl rfl)
theorem dX6_init_78 : decode cX6_init 78 = .ok (.aload_n 3, 1) := dk_45 (dk_at dksX6_init_3 8 rfl rfl)
theorem dX6_init_79 : decode cX6_init 79 = .ok (.invokeinterface 63 1, 5) := by decide +kernel
theorem dX6_init_84 : decode cX6_init 84 = .ok (.checkcast 67, 3) := dk_192 0 67 (dk_at dksX6_init_3 14 rfl rfl)
theorem dX6_init_87 : decode cX6_init 87 = .ok (.astore 4, 2) := dk_58 4 (dk_at dksX6_init_3 17 rfl rfl)
theorem dX6_init_89 : decode cX6_init 89 = .ok (.aload 4, 2) := dk_25 4 (dk_at dksX6_init_3 19 rfl rfl)
theorem dX6_init_91 : decode cX6_init 91 = .ok (.getfield 69, 3) := dk_180 0 69 (dk_at dksX6_init_3 21 rfl rfl)
theorem dX6_init_94 : decode cX6_init 94 = .ok (.iconst 1, 1) := dk_4 (dk_at dksX6_init_4 0 rfl rfl)
theorem dX6_init_95 : decode cX6_init 95 = .ok (.if_icmp .ne 28, 3) := dk_160 0 28 (dk_at dksX6_init_4 1 rfl rfl)
theorem dX6_init_98 : decode cX6_init 98 = .ok (.aload_n 0, 1) := dk_42 (dk_at dksX6_init_4 4 rfl rfl)
theorem dX6_init_99 : decode cX6_init 99 = .ok (.getfield 22, 3) := dk_180 0 22 (dk_at dksX6_init_4 5 rfl rfl)
theorem dX6_init_102 : decode cX6_init 102 = .ok (.new 72, 3) := dk_187 0 72 (dk_at dksX6_init_4 8 rfl rfl)
theorem dX6_init_105 : decode cX6_init 105 = .ok (.dup, 1) := dk_89 (dk_at dksX6_init_4 11 rfl rfl)
theorem dX6_init_106 : decode cX6_init 106 = .ok (.aconst_null, 1) := dk_1 (dk_at dksX6_init_4 12 rfl rfl)
theorem dX6_init_107 : decode cX6_init 107 = .ok (.iconst 1, 1) := dk_4 (dk_at dksX6_init_4 13 rfl rfl)
theorem dX6_init_108 : decode cX6_init 108 = .ok (.aload 4, 2) := dk_25 4 (dk_at dksX6_init_4 14 rfl rfl)
theorem dX6_init_110 : decode cX6_init 110 = .ok (.getfield 74, 3) := dk_180 0 74 (dk_at dksX6_init_4 16 rfl rfl)
theorem dX6_init_113 : decode cX6_init 113 = .ok (.invokespecial 75, 3) := dk_183 0 75 (dk_at dksX6_init_4 19 rfl rfl)
theorem dX6_init_116 : decode cX6_init 116 = .ok (.invokevirtual 78, 3) := dk_182 0 78 (dk_at dksX6_init_5 0 rfl rfl)
theorem dX6_init_119 : decode cX6_init 119 = .ok (.pop, 1) := dk_87 (dk_at dksX6_init_5 3 rfl rfl)
theorem dX6_init_120 : decode cX6_init 120 = .ok (.goto 111, 3) := dk_167 0 111 (dk_at dksX6_init_5 4 rfl rfl)
theorem dX6_init_123 : decode cX6_init 123 = .ok (.aload 4, 2) := dk_25 4 (dk_at dksX6_init_5 7 rfl rfl)
theorem dX6_init_125 : decode cX6_init 125 = .ok (.getfield 74, 3) := dk_180 0 74 (dk_at dksX6_init_5 9 rfl rfl)
theorem dX6_init_128 : decode cX6_init 128 = .ok (.iconst 1, 1) := dk_4 (dk_at dksX6_init_5 12 rfl rfl)
theorem dX6_init_129 : decode cX6_init 129 = .ok (.if_icmp .ne 75, 3) := dk_160 0 75 (dk_at dksX6_init_5 13 rfl rfl)
theorem dX6_init_132 : decode cX6_init 132 = .ok (.bipush 9, 2) := dk_16 9 (dk_at dksX6_init_5 16 rfl rfl)
theorem dX6_init_134 : decode cX6_init 134 = .ok (.newarray .long, 2) := dk_188_11 (dk_at dksX6_init_5 18 rfl rfl)
theorem dX6_init_136 : decode cX6_init 136 = .ok (.astore 5, 2) := dk_58 5 (dk_at dksX6_init_5 20 rfl rfl)
theorem dX6_init_138 : decode cX6_init 138 = .ok (.aload 5, 2) := dk_25 5 (dk_at dksX6_init_5 22 rfl rfl)
theorem dX6_init_140 : decode cX6_init 140 = .ok (.iconst 0, 1) := dk_3 (dk_at dksX6_init_6 0 rfl rfl)
theorem dX6_init_141 : decode cX6_init 141 = .ok (.aload_n 1, 1) := dk_43 (dk_at dksX6_init_6 1 rfl rfl)
theorem dX6_init_142 : decode cX6_init 142 = .ok (.getfield 82, 3) := dk_180 0 82 (dk_at dksX6_init_6 2 rfl rfl)
theorem dX6_init_145 : decode cX6_init 145 = .ok (.aload 4, 2) := dk_25 4 (dk_at dksX6_init_6 5 rfl rfl)
theorem dX6_init_147 : decode cX6_init 147 = .ok (.getfield 85, 3) := dk_180 0 85 (dk_at dksX6_init_6 7 rfl rfl)
theorem dX6_init_150 : decode cX6_init 150 = .ok (.iconst 0, 1) := dk_3 (dk_at dksX6_init_6 10 rfl rfl)
theorem dX6_init_151 : decode cX6_init 151 = .ok (.iaload, 1) := dk_46 (dk_at dksX6_init_6 11 rfl rfl)
theorem dX6_init_152 : decode cX6_init 152 = .ok (.isub, 1) := dk_100 (dk_at dksX6_init_6 12 rfl rfl)
theorem dX6_init_153 : decode cX6_init 153 = .ok (.aload_n 1, 1) := dk_43 (dk_at dksX6_init_6 13 rfl rfl)
theorem dX6_init_154 : decode cX6_init 154 = .ok (.getfield 82, 3) := dk_180 0 82 (dk_at dksX6_init_6 14 rfl rfl)
theorem dX6_init_157 : decode cX6_init 157 = .ok (.irem, 1) := dk_112 (dk_at dksX6_init_6 17 rfl rfl)
theorem dX6_init_158 : decode cX6_init 158 = .ok (.ineg, 1) := dk_116 (dk_at dksX6_init_6 18 rfl rfl)
theorem dX6_init_159 : decode cX6_init 159 = .ok (.i2l, 1) := dk_133 (dk_at dksX6_init_6 19 rfl rfl)
theorem dX6_init_160 : decode cX6_init 160 = .ok (.aload_n 1, 1) := dk_43 (dk_at dksX6_init_6 20 rfl rfl)
theorem dX6_init_161 : decode cX6_init 161 = .ok (.getfield 88, 3) := dk_180 0 88 (dk_at dksX6_init_6 21 rfl rfl)
theorem dX6_init_164 : decode cX6_init 164 = .ok (.invokestatic 92, 3) := dk_184 0 92 (dk_at dksX6_init_7 0 rfl rfl)
theorem dX6_init_167 : decode cX6_init 167 = .ok (.lastore, 1) := dk_80 (dk_at dksX6_init_7 3 rfl rfl)
theorem dX6_init_168 : decode cX6_init 168 = .ok (.aload 5, 2) := dk_25 5 (dk_at dksX6_init_7 4 rfl rfl)
theorem dX6_init_170 : decode cX6_init 170 = .ok (.iconst 1, 1) := dk_4 (dk_at dksX6_init_7 6 rfl rfl)
theorem dX6_init_171 : decode cX6_init 171 = .ok (.lconst 1, 1) := dk_10 (dk_at dksX6_init_7 7 rfl rfl)
theorem dX6_init_172 : decode cX6_init 172 = .ok (.lastore, 1) := dk_80 (dk_at dksX6_init_7 8 rfl rfl)
theorem dX6_init_173 : decode cX6_init 173 = .ok (.aload_n 0, 1) := dk_42 (dk_at dksX6_init_7 9 rfl rfl)
theorem dX6_init_174 : decode cX6_init 174 = .ok (.new 98, 3) := dk_187 0 98 (dk_at dksX6_init_7 10 rfl rfl)
theorem dX6_init_177 : decode cX6_init 177 = .ok (.dup, 1) := dk_89 (dk_at dksX6_init_7 13 rfl rfl)
theorem dX6_init_178 : decode cX6_init 178 = .ok (.aconst_null, 1) := dk_1 (dk_at dksX6_init_7 14 rfl rfl)
theorem dX6_init_179 : decode cX6_init 179 = .ok (.aconst_null, 1) := dk_1 (dk_at dksX6_init_7 15 rfl rfl)
theorem dX6_init_180 : decode cX6_init 180 = .ok (.iconst 0, 1) := dk_3 (dk_at dksX6_init_7 16 rfl rfl)
theorem dX6_init_181 : decode cX6_init 181 = .ok (.aload 5, 2) := dk_25 5 (dk_at dksX6_init_7 17 rfl rfl)
theorem dX6_init_183 : decode cX6_init 183 = .ok (.aload 4, 2) := dk_25 4 (dk_at dksX6_init_7 19 rfl rfl)
theorem dX6_init_185 : decode cX6_init 185 = .ok (.getfield 69, 3) := dk_180 0 69 (dk_at dksX6_init_7 21 rfl rfl)
theorem dX6_init_188 : decode cX6_init 188 = .ok (.aload_n 0, 1) := dk_42 (dk_at dksX6_init_8 0 rfl rfl)
theorem dX6_init_189 : decode cX6_init 189 = .ok (.getfield 18, 3) := dk_180 0 18 (dk_at dksX6_init_8 1 rfl rfl)
theorem dX6_init_192 : decode cX6_init 192 = .ok (.invokevirtual 100, 3) := dk_182 0 100 (dk_at dksX6_init_8 4 rfl rfl)
theorem dX6_init_195 : decode cX6_init 195 = .ok (.invokespecial 104, 3) := dk_183 0 104 (dk_at dksX6_init_8 7 rfl rfl)
theorem dX6_init_198 : decode cX6_init 198 = .ok (.invokevirtual 107, 3) := dk_182 0 107 (dk_at dksX6_init_8 10 rfl rfl)
theorem dX6_init_201 : decode cX6_init 201 = .ok (.goto 30, 3) := dk_167 0 30 (dk_at dksX6_init_8 13 rfl rfl)
theorem dX6_init_204 : decode cX6_init 204 = .ok (.aload_n 0, 1) := dk_42 (dk_at dksX6_init_8 16 rfl rfl)
theorem dX6_init_205 : decode cX6_init 205 = .ok (.getfield 22, 3) := dk_180 0 22 (dk_at dksX6_init_8 17 rfl rfl)
theorem dX6_init_208 : decode cX6_init 208 = .ok (.new 111, 3) := dk_187 0 111 (dk_at dksX6_init_8 20 rfl rfl)
theorem dX6_init_211 : decode cX6_init 211 = .ok (.dup, 1) := dk_89 (dk_at dksX6_init_8 23 rfl rfl)
theorem dX6_init_212 : decode cX6_init 212 = .ok (.aconst_null, 1) := dk_1 (dk_at dksX6_init_9 0 rfl rfl)
theorem dX6_init_213 : decode cX6_init 213 = .ok (.aload 4, 2) := dk_25 4 (dk_at dksX6_init_9 1 rfl rfl)
theorem dX6_init_215 : decode cX6_init 215 = .ok (.getfield 74, 3) := dk_180 0 74 (dk_at dksX6_init_9 3 rfl rfl)
theorem dX6_init_218 : decode cX6_init 218 = .ok (.aload 4, 2) := dk_25 4 (dk_at dksX6_init_9 6 rfl rfl)
theorem dX6_init_220 : decode cX6_init 220 = .ok (.getfield 69, 3) := dk_180 0 69 (dk_at dksX6_init_9 8 rfl rfl)
theorem dX6_init_223 : decode cX6_init 223 = .ok (.imul, 1) := dk_104 (dk_at dksX6_init_9 11 rfl rfl)
theorem dX6_init_224 : decode cX6_init 224 = .ok (.invokespecial 113, 3) := dk_183 0 113 (dk_at dksX6_init_9 12 rfl rfl)
theorem dX6_init_227 : decode cX6_init 227 = .ok (.invokevirtual 78, 3) := dk_182 0 78 (dk_at dksX6_init_9 15 rfl rfl)
theorem dX6_init_230 : decode cX6_init 230 = .ok (.pop, 1) := dk_87 (dk_at dksX6_init_9 18 rfl rfl)
theorem dX6_init_231 : decode cX6_init 231 = .ok (.goto (-162), 3) := dk_167 255 94 (dk_at dksX6_init_9 19 rfl rfl)
theorem dX6_init_234 : decode cX6_init 234 = .ok (.return_, 1) := dk_177 (dk_at dksX6_init_9 22 rfl rfl)
abbrev cX6_grows : ByteArray := prog_16_method_8_code
def yX6_grows : MethodName := ⟨RX6, "grows", "(LTypesAtPrime$Knot;)V"⟩
def dkwX6_grows_12 : List UInt8 := [192, 0, 136, 58, 6, 42, 43, 25, 6, 45, 182, 0, 239, 167, 255, 226, 177]
abbrev dktX6_grows_12 : List UInt8 := dkwX6_grows_12 ++ []
def dkwX6_grows_11 : List UInt8 := [182, 0, 53, 58, 5, 25, 5, 185, 0, 57, 1, 0, 153, 0, 26, 25, 5, 185, 0, 63, 1, 0]
abbrev dktX6_grows_11 : List UInt8 := dkwX6_grows_11 ++ dktX6_grows_12
def dkwX6_grows_10 : List UInt8 := [21, 4, 153, 0, 17, 42, 43, 182, 0, 226, 43, 42, 43, 182, 0, 229, 181, 0, 233, 43, 180, 0, 236]
abbrev dktX6_grows_10 : List UInt8 := dkwX6_grows_10 ++ dktX6_grows_11
def dkwX6_grows_9 : List UInt8 := [160, 0, 23, 42, 180, 0, 22, 187, 0, 223, 89, 43, 43, 180, 0, 152, 183, 0, 225, 182, 0, 78, 87]
abbrev dktX6_grows_9 : List UInt8 := dkwX6_grows_9 ++ dktX6_grows_10
def dkwX6_grows_8 : List UInt8 := [180, 0, 201, 43, 180, 0, 152, 104, 183, 0, 222, 182, 0, 78, 87, 167, 0, 31, 43, 180, 0, 201, 4]
abbrev dktX6_grows_8 : List UInt8 := dkwX6_grows_8 ++ dktX6_grows_9
def dkwX6_grows_7 : List UInt8 := [180, 0, 207, 181, 0, 201, 43, 180, 0, 201, 4, 164, 0, 31, 42, 180, 0, 22, 187, 0, 220, 89, 43, 43]
abbrev dktX6_grows_7 : List UInt8 := dkwX6_grows_7 ++ dktX6_grows_8
def dkwX6_grows_6 : List UInt8 := [155, 0, 7, 4, 167, 0, 4, 3, 54, 4, 43, 21, 4, 153, 0, 10, 43, 180, 0, 201, 167, 0, 7, 43]
abbrev dktX6_grows_6 : List UInt8 := dkwX6_grows_6 ++ dktX6_grows_7
def dkwX6_grows_5 : List UInt8 := [21, 4, 167, 0, 7, 43, 180, 0, 201, 181, 0, 201, 132, 4, 1, 167, 255, 166, 43, 180, 0, 201]
abbrev dktX6_grows_5 : List UInt8 := dkwX6_grows_5 ++ dktX6_grows_6
def dkwX6_grows_4 : List UInt8 := [21, 4, 42, 180, 0, 159, 136, 21, 4, 43, 180, 0, 217, 104, 96, 79, 43, 43, 180, 0, 201, 156, 0, 8]
abbrev dktX6_grows_4 : List UInt8 := dkwX6_grows_4 ++ dktX6_grows_5
def dkwX6_grows_3 : List UInt8 := [184, 0, 210, 155, 0, 56, 45, 21, 4, 42, 43, 44, 21, 4, 50, 182, 0, 213, 83, 43, 180, 0, 204]
abbrev dktX6_grows_3 : List UInt8 := dkwX6_grows_3 ++ dktX6_grows_4
def dkwX6_grows_2 : List UInt8 := [162, 0, 89, 43, 180, 0, 204, 21, 4, 2, 79, 21, 4, 43, 180, 0, 207, 163, 0, 66, 44, 21, 4, 50]
abbrev dktX6_grows_2 : List UInt8 := dkwX6_grows_2 ++ dktX6_grows_3
def dkwX6_grows_1 : List UInt8 := [182, 0, 127, 77, 16, 9, 189, 0, 162, 78, 43, 2, 181, 0, 201, 3, 54, 4, 21, 4, 16, 9]
abbrev dktX6_grows_1 : List UInt8 := dkwX6_grows_1 ++ dktX6_grows_2
def dkwX6_grows_0 : List UInt8 := [42, 180, 0, 18, 43, 182, 0, 78, 87, 42, 180, 0, 3, 42, 180, 0, 33, 43, 180, 0, 124, 3]
abbrev dktX6_grows_0 : List UInt8 := dkwX6_grows_0 ++ dktX6_grows_1
theorem dksX6_grows_0 : cX6_grows.data.toList.drop 0 = dktX6_grows_0 := by decide +kernel
theorem dksX6_grows_1 : cX6_grows.data.toList.drop 22 = dktX6_grows_1 := dk_seg dksX6_grows_0 22 rfl rfl
theorem dksX6_grows_2 : cX6_grows.data.toList.drop 44 = dktX6_grows_2 := dk_seg dksX6_grows_1 22 rfl rfl
theorem dksX6_grows_3 : cX6_grows.data.toList.drop 68 = dktX6_grows_3 := dk_seg dksX6_grows_2 24 rfl rfl
theorem dksX6_grows_4 : cX6_grows.data.toList.drop 91 = dktX6_grows_4 := dk_seg dksX6_grows_3 23 rfl rfl
theorem dksX6_grows_5 : cX6_grows.data.toList.drop 115 = dktX6_grows_5 := dk_seg dksX6_grows_4 24 rfl rfl
theorem dksX6_grows_6 : cX6_grows.data.toList.drop 137 = dktX6_grows_6 := dk_seg dksX6_grows_5 22 rfl rfl
theorem dksX6_grows_7 : cX6_grows.data.toList.drop 161 = dktX6_grows_7 := dk_seg dksX6_grows_6 24 rfl rfl
theorem dksX6_grows_8 : cX6_grows.data.toList.drop 185 = dktX6_grows_8 := dk_seg dksX6_grows_7 24 rfl rfl
theorem dksX6_grows_9 : cX6_grows.data.toList.drop 208 = dktX6_grows_9 := dk_seg dksX6_grows_8 23 rfl rfl
theorem dksX6_grows_10 : cX6_grows.data.toList.drop 231 = dktX6_grows_10 := dk_seg dksX6_grows_9 23 rfl rfl
theorem dksX6_grows_11 : cX6_grows.data.toList.drop 254 = dktX6_grows_11 := dk_seg dksX6_grows_10 23 rfl rfl
theorem dksX6_grows_12 : cX6_grows.data.toList.drop 276 = dktX6_grows_12 := dk_seg dksX6_grows_11 22 rfl rfl
theorem dX6_grows_0 : decode cX6_grows 0 = .ok (.aload_n 0, 1) := dk_42 (dk_at dksX6_grows_0 0 rfl rfl)
theorem dX6_grows_1 : decode cX6_grows 1 = .ok (.getfield 18, 3) := dk_180 0 18 (dk_at dksX6_grows_0 1 rfl rfl)
theorem dX6_grows_4 : decode cX6_grows 4 = .ok (.aload_n 1, 1) := dk_43 (dk_at dksX6_grows_0 4 rfl rfl)
theorem dX6_grows_5 : decode cX6_grows 5 = .ok (.invokevirtual 78, 3) := dk_182 0 78 (dk_at dksX6_grows_0 5 rfl rfl)
theorem dX6_grows_8 : decode cX6_grows 8 = .ok (.pop, 1) := dk_87 (dk_at dksX6_grows_0 8 rfl rfl)
theorem dX6_grows_9 : decode cX6_grows 9 = .ok (.aload_n 0, 1) := dk_42 (dk_at dksX6_grows_0 9 rfl rfl)
theorem dX6_grows_10 : decode cX6_grows 10 = .ok (.getfield 3, 3) := dk_180 0 3 (dk_at dksX6_grows_0 10 rfl rfl)
theorem dX6_grows_13 : decode cX6_grows 13 = .ok (.aload_n 0, 1) := dk_42 (dk_at dksX6_grows_0 13 rfl rfl)
theorem dX6_grows_14 : decode cX6_grows 14 = .ok (.getfield 33, 3) := dk_180 0 33 (dk_at dksX6_grows_0 14 rfl rfl)
theorem dX6_grows_17 : decode cX6_grows 17 = .ok (.aload_n 1, 1) := dk_43 (dk_at dksX6_grows_0 17 rfl rfl)
theorem dX6_grows_18 : decode cX6_grows 18 = .ok (.getfield 124, 3) := dk_180 0 124 (dk_at dksX6_grows_0 18 rfl rfl)
theorem dX6_grows_21 : decode cX6_grows 21 = .ok (.iconst 0, 1) := dk_3 (dk_at dksX6_grows_0 21 rfl rfl)
theorem dX6_grows_22 : decode cX6_grows 22 = .ok (.invokevirtual 127, 3) := dk_182 0 127 (dk_at dksX6_grows_1 0 rfl rfl)
theorem dX6_grows_25 : decode cX6_grows 25 = .ok (.astore_n 2, 1) := dk_77 (dk_at dksX6_grows_1 3 rfl rfl)
theorem dX6_grows_26 : decode cX6_grows 26 = .ok (.bipush 9, 2) := dk_16 9 (dk_at dksX6_grows_1 4 rfl rfl)
theorem dX6_grows_28 : decode cX6_grows 28 = .ok (.anewarray 162, 3) := dk_189 0 162 (dk_at dksX6_grows_1 6 rfl rfl)
theorem dX6_grows_31 : decode cX6_grows 31 = .ok (.astore_n 3, 1) := dk_78 (dk_at dksX6_grows_1 9 rfl rfl)
theorem dX6_grows_32 : decode cX6_grows 32 = .ok (.aload_n 1, 1) := dk_43 (dk_at dksX6_grows_1 10 rfl rfl)
theorem dX6_grows_33 : decode cX6_grows 33 = .ok (.iconst (-1), 1) := dk_2 (dk_at dksX6_grows_1 11 rfl rfl)
theorem dX6_grows_34 : decode cX6_grows 34 = .ok (.putfield 201, 3) := dk_181 0 201 (dk_at dksX6_grows_1 12 rfl rfl)
theorem dX6_grows_37 : decode cX6_grows 37 = .ok (.iconst 0, 1) := dk_3 (dk_at dksX6_grows_1 15 rfl rfl)
theorem dX6_grows_38 : decode cX6_grows 38 = .ok (.istore 4, 2) := dk_54 4 (dk_at dksX6_grows_1 16 rfl rfl)
theorem dX6_grows_40 : decode cX6_grows 40 = .ok (.iload 4, 2) := dk_21 4 (dk_at dksX6_grows_1 18 rfl rfl)
theorem dX6_grows_42 : decode cX6_grows 42 = .ok (.bipush 9, 2) := dk_16 9 (dk_at dksX6_grows_1 20 rfl rfl)
theorem dX6_grows_44 : decode cX6_grows 44 = .ok (.if_icmp .ge 89, 3) := dk_162 0 89 (dk_at dksX6_grows_2 0 rfl rfl)
theorem dX6_grows_47 : decode cX6_grows 47 = .ok (.aload_n 1, 1) := dk_43 (dk_at dksX6_grows_2 3 rfl rfl)
theorem dX6_grows_48 : decode cX6_grows 48 = .ok (.getfield 204, 3) := dk_180 0 204 (dk_at dksX6_grows_2 4 rfl rfl)
theorem dX6_grows_51 : decode cX6_grows 51 = .ok (.iload 4, 2) := dk_21 4 (dk_at dksX6_grows_2 7 rfl rfl)
theorem dX6_grows_53 : decode cX6_grows 53 = .ok (.iconst (-1), 1) := dk_2 (dk_at dksX6_grows_2 9 rfl rfl)
theorem dX6_grows_54 : decode cX6_grows 54 = .ok (.iastore, 1) := dk_79 (dk_at dksX6_grows_2 10 rfl rfl)
theorem dX6_grows_55 : decode cX6_grows 55 = .ok (.iload 4, 2) := dk_21 4 (dk_at dksX6_grows_2 11 rfl rfl)
theorem dX6_grows_57 : decode cX6_grows 57 = .ok (.aload_n 1, 1) := dk_43 (dk_at dksX6_grows_2 13 rfl rfl)
theorem dX6_grows_58 : decode cX6_grows 58 = .ok (.getfield 207, 3) := dk_180 0 207 (dk_at dksX6_grows_2 14 rfl rfl)
theorem dX6_grows_61 : decode cX6_grows 61 = .ok (.if_icmp .gt 66, 3) := dk_163 0 66 (dk_at dksX6_grows_2 17 rfl rfl)
theorem dX6_grows_64 : decode cX6_grows 64 = .ok (.aload_n 2, 1) := dk_44 (dk_at dksX6_grows_2 20 rfl rfl)
theorem dX6_grows_65 : decode cX6_grows 65 = .ok (.iload 4, 2) := dk_21 4 (dk_at dksX6_grows_2 21 rfl rfl)
theorem dX6_grows_67 : decode cX6_grows 67 = .ok (.aaload, 1) := dk_50 (dk_at dksX6_grows_2 23 rfl rfl)
theorem dX6_grows_68 : decode cX6_grows 68 = .ok (.invokestatic 210, 3) := dk_184 0 210 (dk_at dksX6_grows_3 0 rfl rfl)
theorem dX6_grows_71 : decode cX6_grows 71 = .ok (.ifCond .lt 56, 3) := dk_155 0 56 (dk_at dksX6_grows_3 3 rfl rfl)
theorem dX6_grows_74 : decode cX6_grows 74 = .ok (.aload_n 3, 1) := dk_45 (dk_at dksX6_grows_3 6 rfl rfl)
theorem dX6_grows_75 : decode cX6_grows 75 = .ok (.iload 4, 2) := dk_21 4 (dk_at dksX6_grows_3 7 rfl rfl)
theorem dX6_grows_77 : decode cX6_grows 77 = .ok (.aload_n 0, 1) := dk_42 (dk_at dksX6_grows_3 9 rfl rfl)
theorem dX6_grows_78 : decode cX6_grows 78 = .ok (.aload_n 1, 1) := dk_43 (dk_at dksX6_grows_3 10 rfl rfl)
theorem dX6_grows_79 : decode cX6_grows 79 = .ok (.aload_n 2, 1) := dk_44 (dk_at dksX6_grows_3 11 rfl rfl)
theorem dX6_grows_80 : decode cX6_grows 80 = .ok (.iload 4, 2) := dk_21 4 (dk_at dksX6_grows_3 12 rfl rfl)
theorem dX6_grows_82 : decode cX6_grows 82 = .ok (.aaload, 1) := dk_50 (dk_at dksX6_grows_3 14 rfl rfl)
theorem dX6_grows_83 : decode cX6_grows 83 = .ok (.invokevirtual 213, 3) := dk_182 0 213 (dk_at dksX6_grows_3 15 rfl rfl)
theorem dX6_grows_86 : decode cX6_grows 86 = .ok (.aastore, 1) := dk_83 (dk_at dksX6_grows_3 18 rfl rfl)
theorem dX6_grows_87 : decode cX6_grows 87 = .ok (.aload_n 1, 1) := dk_43 (dk_at dksX6_grows_3 19 rfl rfl)
theorem dX6_grows_88 : decode cX6_grows 88 = .ok (.getfield 204, 3) := dk_180 0 204 (dk_at dksX6_grows_3 20 rfl rfl)
theorem dX6_grows_91 : decode cX6_grows 91 = .ok (.iload 4, 2) := dk_21 4 (dk_at dksX6_grows_4 0 rfl rfl)
theorem dX6_grows_93 : decode cX6_grows 93 = .ok (.aload_n 0, 1) := dk_42 (dk_at dksX6_grows_4 2 rfl rfl)
theorem dX6_grows_94 : decode cX6_grows 94 = .ok (.getfield 159, 3) := dk_180 0 159 (dk_at dksX6_grows_4 3 rfl rfl)
theorem dX6_grows_97 : decode cX6_grows 97 = .ok (.l2i, 1) := dk_136 (dk_at dksX6_grows_4 6 rfl rfl)
theorem dX6_grows_98 : decode cX6_grows 98 = .ok (.iload 4, 2) := dk_21 4 (dk_at dksX6_grows_4 7 rfl rfl)
theorem dX6_grows_100 : decode cX6_grows 100 = .ok (.aload_n 1, 1) := dk_43 (dk_at dksX6_grows_4 9 rfl rfl)
theorem dX6_grows_101 : decode cX6_grows 101 = .ok (.getfield 217, 3) := dk_180 0 217 (dk_at dksX6_grows_4 10 rfl rfl)
theorem dX6_grows_104 : decode cX6_grows 104 = .ok (.imul, 1) := dk_104 (dk_at dksX6_grows_4 13 rfl rfl)
theorem dX6_grows_105 : decode cX6_grows 105 = .ok (.iadd, 1) := dk_96 (dk_at dksX6_grows_4 14 rfl rfl)
theorem dX6_grows_106 : decode cX6_grows 106 = .ok (.iastore, 1) := dk_79 (dk_at dksX6_grows_4 15 rfl rfl)
theorem dX6_grows_107 : decode cX6_grows 107 = .ok (.aload_n 1, 1) := dk_43 (dk_at dksX6_grows_4 16 rfl rfl)
theorem dX6_grows_108 : decode cX6_grows 108 = .ok (.aload_n 1, 1) := dk_43 (dk_at dksX6_grows_4 17 rfl rfl)
theorem dX6_grows_109 : decode cX6_grows 109 = .ok (.getfield 201, 3) := dk_180 0 201 (dk_at dksX6_grows_4 18 rfl rfl)
theorem dX6_grows_112 : decode cX6_grows 112 = .ok (.ifCond .ge 8, 3) := dk_156 0 8 (dk_at dksX6_grows_4 21 rfl rfl)
theorem dX6_grows_115 : decode cX6_grows 115 = .ok (.iload 4, 2) := dk_21 4 (dk_at dksX6_grows_5 0 rfl rfl)
theorem dX6_grows_117 : decode cX6_grows 117 = .ok (.goto 7, 3) := dk_167 0 7 (dk_at dksX6_grows_5 2 rfl rfl)
theorem dX6_grows_120 : decode cX6_grows 120 = .ok (.aload_n 1, 1) := dk_43 (dk_at dksX6_grows_5 5 rfl rfl)
theorem dX6_grows_121 : decode cX6_grows 121 = .ok (.getfield 201, 3) := dk_180 0 201 (dk_at dksX6_grows_5 6 rfl rfl)
theorem dX6_grows_124 : decode cX6_grows 124 = .ok (.putfield 201, 3) := dk_181 0 201 (dk_at dksX6_grows_5 9 rfl rfl)
theorem dX6_grows_127 : decode cX6_grows 127 = .ok (.iinc 4 1, 3) := dk_132 4 1 (dk_at dksX6_grows_5 12 rfl rfl)
theorem dX6_grows_130 : decode cX6_grows 130 = .ok (.goto (-90), 3) := dk_167 255 166 (dk_at dksX6_grows_5 15 rfl rfl)
theorem dX6_grows_133 : decode cX6_grows 133 = .ok (.aload_n 1, 1) := dk_43 (dk_at dksX6_grows_5 18 rfl rfl)
theorem dX6_grows_134 : decode cX6_grows 134 = .ok (.getfield 201, 3) := dk_180 0 201 (dk_at dksX6_grows_5 19 rfl rfl)
theorem dX6_grows_137 : decode cX6_grows 137 = .ok (.ifCond .lt 7, 3) := dk_155 0 7 (dk_at dksX6_grows_6 0 rfl rfl)
theorem dX6_grows_140 : decode cX6_grows 140 = .ok (.iconst 1, 1) := dk_4 (dk_at dksX6_grows_6 3 rfl rfl)
theorem dX6_grows_141 : decode cX6_grows 141 = .ok (.goto 4, 3) := dk_167 0 4 (dk_at dksX6_grows_6 4 rfl rfl)
theorem dX6_grows_144 : decode cX6_grows 144 = .ok (.iconst 0, 1) := dk_3 (dk_at dksX6_grows_6 7 rfl rfl)
theorem dX6_grows_145 : decode cX6_grows 145 = .ok (.istore 4, 2) := dk_54 4 (dk_at dksX6_grows_6 8 rfl rfl)
theorem dX6_grows_147 : decode cX6_grows 147 = .ok (.aload_n 1, 1) := dk_43 (dk_at dksX6_grows_6 10 rfl rfl)
theorem dX6_grows_148 : decode cX6_grows 148 = .ok (.iload 4, 2) := dk_21 4 (dk_at dksX6_grows_6 11 rfl rfl)
theorem dX6_grows_150 : decode cX6_grows 150 = .ok (.ifCond .eq 10, 3) := dk_153 0 10 (dk_at dksX6_grows_6 13 rfl rfl)
theorem dX6_grows_153 : decode cX6_grows 153 = .ok (.aload_n 1, 1) := dk_43 (dk_at dksX6_grows_6 16 rfl rfl)
theorem dX6_grows_154 : decode cX6_grows 154 = .ok (.getfield 201, 3) := dk_180 0 201 (dk_at dksX6_grows_6 17 rfl rfl)
theorem dX6_grows_157 : decode cX6_grows 157 = .ok (.goto 7, 3) := dk_167 0 7 (dk_at dksX6_grows_6 20 rfl rfl)
theorem dX6_grows_160 : decode cX6_grows 160 = .ok (.aload_n 1, 1) := dk_43 (dk_at dksX6_grows_6 23 rfl rfl)
theorem dX6_grows_161 : decode cX6_grows 161 = .ok (.getfield 207, 3) := dk_180 0 207 (dk_at dksX6_grows_7 0 rfl rfl)
theorem dX6_grows_164 : decode cX6_grows 164 = .ok (.putfield 201, 3) := dk_181 0 201 (dk_at dksX6_grows_7 3 rfl rfl)
theorem dX6_grows_167 : decode cX6_grows 167 = .ok (.aload_n 1, 1) := dk_43 (dk_at dksX6_grows_7 6 rfl rfl)
theorem dX6_grows_168 : decode cX6_grows 168 = .ok (.getfield 201, 3) := dk_180 0 201 (dk_at dksX6_grows_7 7 rfl rfl)
theorem dX6_grows_171 : decode cX6_grows 171 = .ok (.iconst 1, 1) := dk_4 (dk_at dksX6_grows_7 10 rfl rfl)
theorem dX6_grows_172 : decode cX6_grows 172 = .ok (.if_icmp .le 31, 3) := dk_164 0 31 (dk_at dksX6_grows_7 11 rfl rfl)
theorem dX6_grows_175 : decode cX6_grows 175 = .ok (.aload_n 0, 1) := dk_42 (dk_at dksX6_grows_7 14 rfl rfl)
theorem dX6_grows_176 : decode cX6_grows 176 = .ok (.getfield 22, 3) := dk_180 0 22 (dk_at dksX6_grows_7 15 rfl rfl)
theorem dX6_grows_179 : decode cX6_grows 179 = .ok (.new 220, 3) := dk_187 0 220 (dk_at dksX6_grows_7 18 rfl rfl)
theorem dX6_grows_182 : decode cX6_grows 182 = .ok (.dup, 1) := dk_89 (dk_at dksX6_grows_7 21 rfl rfl)
theorem dX6_grows_183 : decode cX6_grows 183 = .ok (.aload_n 1, 1) := dk_43 (dk_at dksX6_grows_7 22 rfl rfl)
theorem dX6_grows_184 : decode cX6_grows 184 = .ok (.aload_n 1, 1) := dk_43 (dk_at dksX6_grows_7 23 rfl rfl)
theorem dX6_grows_185 : decode cX6_grows 185 = .ok (.getfield 201, 3) := dk_180 0 201 (dk_at dksX6_grows_8 0 rfl rfl)
theorem dX6_grows_188 : decode cX6_grows 188 = .ok (.aload_n 1, 1) := dk_43 (dk_at dksX6_grows_8 3 rfl rfl)
theorem dX6_grows_189 : decode cX6_grows 189 = .ok (.getfield 152, 3) := dk_180 0 152 (dk_at dksX6_grows_8 4 rfl rfl)
theorem dX6_grows_192 : decode cX6_grows 192 = .ok (.imul, 1) := dk_104 (dk_at dksX6_grows_8 7 rfl rfl)
theorem dX6_grows_193 : decode cX6_grows 193 = .ok (.invokespecial 222, 3) := dk_183 0 222 (dk_at dksX6_grows_8 8 rfl rfl)
theorem dX6_grows_196 : decode cX6_grows 196 = .ok (.invokevirtual 78, 3) := dk_182 0 78 (dk_at dksX6_grows_8 11 rfl rfl)
theorem dX6_grows_199 : decode cX6_grows 199 = .ok (.pop, 1) := dk_87 (dk_at dksX6_grows_8 14 rfl rfl)
theorem dX6_grows_200 : decode cX6_grows 200 = .ok (.goto 31, 3) := dk_167 0 31 (dk_at dksX6_grows_8 15 rfl rfl)
theorem dX6_grows_203 : decode cX6_grows 203 = .ok (.aload_n 1, 1) := dk_43 (dk_at dksX6_grows_8 18 rfl rfl)
theorem dX6_grows_204 : decode cX6_grows 204 = .ok (.getfield 201, 3) := dk_180 0 201 (dk_at dksX6_grows_8 19 rfl rfl)
theorem dX6_grows_207 : decode cX6_grows 207 = .ok (.iconst 1, 1) := dk_4 (dk_at dksX6_grows_8 22 rfl rfl)
theorem dX6_grows_208 : decode cX6_grows 208 = .ok (.if_icmp .ne 23, 3) := dk_160 0 23 (dk_at dksX6_grows_9 0 rfl rfl)
theorem dX6_grows_211 : decode cX6_grows 211 = .ok (.aload_n 0, 1) := dk_42 (dk_at dksX6_grows_9 3 rfl rfl)
theorem dX6_grows_212 : decode cX6_grows 212 = .ok (.getfield 22, 3) := dk_180 0 22 (dk_at dksX6_grows_9 4 rfl rfl)
theorem dX6_grows_215 : decode cX6_grows 215 = .ok (.new 223, 3) := dk_187 0 223 (dk_at dksX6_grows_9 7 rfl rfl)
theorem dX6_grows_218 : decode cX6_grows 218 = .ok (.dup, 1) := dk_89 (dk_at dksX6_grows_9 10 rfl rfl)
theorem dX6_grows_219 : decode cX6_grows 219 = .ok (.aload_n 1, 1) := dk_43 (dk_at dksX6_grows_9 11 rfl rfl)
theorem dX6_grows_220 : decode cX6_grows 220 = .ok (.aload_n 1, 1) := dk_43 (dk_at dksX6_grows_9 12 rfl rfl)
theorem dX6_grows_221 : decode cX6_grows 221 = .ok (.getfield 152, 3) := dk_180 0 152 (dk_at dksX6_grows_9 13 rfl rfl)
theorem dX6_grows_224 : decode cX6_grows 224 = .ok (.invokespecial 225, 3) := dk_183 0 225 (dk_at dksX6_grows_9 16 rfl rfl)
theorem dX6_grows_227 : decode cX6_grows 227 = .ok (.invokevirtual 78, 3) := dk_182 0 78 (dk_at dksX6_grows_9 19 rfl rfl)
theorem dX6_grows_230 : decode cX6_grows 230 = .ok (.pop, 1) := dk_87 (dk_at dksX6_grows_9 22 rfl rfl)
theorem dX6_grows_231 : decode cX6_grows 231 = .ok (.iload 4, 2) := dk_21 4 (dk_at dksX6_grows_10 0 rfl rfl)
theorem dX6_grows_233 : decode cX6_grows 233 = .ok (.ifCond .eq 17, 3) := dk_153 0 17 (dk_at dksX6_grows_10 2 rfl rfl)
theorem dX6_grows_236 : decode cX6_grows 236 = .ok (.aload_n 0, 1) := dk_42 (dk_at dksX6_grows_10 5 rfl rfl)
theorem dX6_grows_237 : decode cX6_grows 237 = .ok (.aload_n 1, 1) := dk_43 (dk_at dksX6_grows_10 6 rfl rfl)
theorem dX6_grows_238 : decode cX6_grows 238 = .ok (.invokevirtual 226, 3) := dk_182 0 226 (dk_at dksX6_grows_10 7 rfl rfl)
theorem dX6_grows_241 : decode cX6_grows 241 = .ok (.aload_n 1, 1) := dk_43 (dk_at dksX6_grows_10 10 rfl rfl)
theorem dX6_grows_242 : decode cX6_grows 242 = .ok (.aload_n 0, 1) := dk_42 (dk_at dksX6_grows_10 11 rfl rfl)
theorem dX6_grows_243 : decode cX6_grows 243 = .ok (.aload_n 1, 1) := dk_43 (dk_at dksX6_grows_10 12 rfl rfl)
theorem dX6_grows_244 : decode cX6_grows 244 = .ok (.invokevirtual 229, 3) := dk_182 0 229 (dk_at dksX6_grows_10 13 rfl rfl)
theorem dX6_grows_247 : decode cX6_grows 247 = .ok (.putfield 233, 3) := dk_181 0 233 (dk_at dksX6_grows_10 16 rfl rfl)
theorem dX6_grows_250 : decode cX6_grows 250 = .ok (.aload_n 1, 1) := dk_43 (dk_at dksX6_grows_10 19 rfl rfl)
theorem dX6_grows_251 : decode cX6_grows 251 = .ok (.getfield 236, 3) := dk_180 0 236 (dk_at dksX6_grows_10 20 rfl rfl)
theorem dX6_grows_254 : decode cX6_grows 254 = .ok (.invokevirtual 53, 3) := dk_182 0 53 (dk_at dksX6_grows_11 0 rfl rfl)
theorem dX6_grows_257 : decode cX6_grows 257 = .ok (.astore 5, 2) := dk_58 5 (dk_at dksX6_grows_11 3 rfl rfl)
theorem dX6_grows_259 : decode cX6_grows 259 = .ok (.aload 5, 2) := dk_25 5 (dk_at dksX6_grows_11 5 rfl rfl)
theorem dX6_grows_261 : decode cX6_grows 261 = .ok (.invokeinterface 57 1, 5) := by decide +kernel
theorem dX6_grows_266 : decode cX6_grows 266 = .ok (.ifCond .eq 26, 3) := dk_153 0 26 (dk_at dksX6_grows_11 12 rfl rfl)
theorem dX6_grows_269 : decode cX6_grows 269 = .ok (.aload 5, 2) := dk_25 5 (dk_at dksX6_grows_11 15 rfl rfl)
theorem dX6_grows_271 : decode cX6_grows 271 = .ok (.invokeinterface 63 1, 5) := by decide +kernel
theorem dX6_grows_276 : decode cX6_grows 276 = .ok (.checkcast 136, 3) := dk_192 0 136 (dk_at dksX6_grows_12 0 rfl rfl)
theorem dX6_grows_279 : decode cX6_grows 279 = .ok (.astore 6, 2) := dk_58 6 (dk_at dksX6_grows_12 3 rfl rfl)
theorem dX6_grows_281 : decode cX6_grows 281 = .ok (.aload_n 0, 1) := dk_42 (dk_at dksX6_grows_12 5 rfl rfl)
theorem dX6_grows_282 : decode cX6_grows 282 = .ok (.aload_n 1, 1) := dk_43 (dk_at dksX6_grows_12 6 rfl rfl)
theorem dX6_grows_283 : decode cX6_grows 283 = .ok (.aload 6, 2) := dk_25 6 (dk_at dksX6_grows_12 7 rfl rfl)
theorem dX6_grows_285 : decode cX6_grows 285 = .ok (.aload_n 3, 1) := dk_45 (dk_at dksX6_grows_12 9 rfl rfl)
theorem dX6_grows_286 : decode cX6_grows 286 = .ok (.invokevirtual 239, 3) := dk_182 0 239 (dk_at dksX6_grows_12 10 rfl rfl)
theorem dX6_grows_289 : decode cX6_grows 289 = .ok (.goto (-30), 3) := dk_167 255 226 (dk_at dksX6_grows_12 13 rfl rfl)
theorem dX6_grows_292 : decode cX6_grows 292 = .ok (.return_, 1) := dk_177 (dk_at dksX6_grows_12 16 rfl rfl)
abbrev cX6_headOf : ByteArray := prog_16_method_4_code
def yX6_headOf : MethodName := ⟨RX6, "headOf", "(LTypesAtPrime$Knot;[J)LTypesAtPrime$Monomial;"⟩
def dkwX6_headOf_1 : List UInt8 := [180, 0, 155, 176]
abbrev dktX6_headOf_1 : List UInt8 := dkwX6_headOf_1 ++ []
def dkwX6_headOf_0 : List UInt8 := [42, 1, 181, 0, 155, 42, 43, 44, 43, 180, 0, 181, 4, 100, 42, 180, 0, 25, 9, 182, 0, 144, 42]
abbrev dktX6_headOf_0 : List UInt8 := dkwX6_headOf_0 ++ dktX6_headOf_1
theorem dksX6_headOf_0 : cX6_headOf.data.toList.drop 0 = dktX6_headOf_0 := by decide +kernel
theorem dksX6_headOf_1 : cX6_headOf.data.toList.drop 23 = dktX6_headOf_1 := dk_seg dksX6_headOf_0 23 rfl rfl
theorem dX6_headOf_0 : decode cX6_headOf 0 = .ok (.aload_n 0, 1) := dk_42 (dk_at dksX6_headOf_0 0 rfl rfl)
theorem dX6_headOf_1 : decode cX6_headOf 1 = .ok (.aconst_null, 1) := dk_1 (dk_at dksX6_headOf_0 1 rfl rfl)
theorem dX6_headOf_2 : decode cX6_headOf 2 = .ok (.putfield 155, 3) := dk_181 0 155 (dk_at dksX6_headOf_0 2 rfl rfl)
theorem dX6_headOf_5 : decode cX6_headOf 5 = .ok (.aload_n 0, 1) := dk_42 (dk_at dksX6_headOf_0 5 rfl rfl)
theorem dX6_headOf_6 : decode cX6_headOf 6 = .ok (.aload_n 1, 1) := dk_43 (dk_at dksX6_headOf_0 6 rfl rfl)
theorem dX6_headOf_7 : decode cX6_headOf 7 = .ok (.aload_n 2, 1) := dk_44 (dk_at dksX6_headOf_0 7 rfl rfl)
theorem dX6_headOf_8 : decode cX6_headOf 8 = .ok (.aload_n 1, 1) := dk_43 (dk_at dksX6_headOf_0 8 rfl rfl)
theorem dX6_headOf_9 : decode cX6_headOf 9 = .ok (.getfield 181, 3) := dk_180 0 181 (dk_at dksX6_headOf_0 9 rfl rfl)
theorem dX6_headOf_12 : decode cX6_headOf 12 = .ok (.iconst 1, 1) := dk_4 (dk_at dksX6_headOf_0 12 rfl rfl)
theorem dX6_headOf_13 : decode cX6_headOf 13 = .ok (.isub, 1) := dk_100 (dk_at dksX6_headOf_0 13 rfl rfl)
theorem dX6_headOf_14 : decode cX6_headOf 14 = .ok (.aload_n 0, 1) := dk_42 (dk_at dksX6_headOf_0 14 rfl rfl)
theorem dX6_headOf_15 : decode cX6_headOf 15 = .ok (.getfield 25, 3) := dk_180 0 25 (dk_at dksX6_headOf_0 15 rfl rfl)
theorem dX6_headOf_18 : decode cX6_headOf 18 = .ok (.lconst 0, 1) := dk_9 (dk_at dksX6_headOf_0 18 rfl rfl)
theorem dX6_headOf_19 : decode cX6_headOf 19 = .ok (.invokevirtual 144, 3) := dk_182 0 144 (dk_at dksX6_headOf_0 19 rfl rfl)
theorem dX6_headOf_22 : decode cX6_headOf 22 = .ok (.aload_n 0, 1) := dk_42 (dk_at dksX6_headOf_0 22 rfl rfl)
theorem dX6_headOf_23 : decode cX6_headOf 23 = .ok (.getfield 155, 3) := dk_180 0 155 (dk_at dksX6_headOf_1 0 rfl rfl)
theorem dX6_headOf_26 : decode cX6_headOf 26 = .ok (.areturn, 1) := dk_176 (dk_at dksX6_headOf_1 3 rfl rfl)
abbrev cX6_looks : ByteArray := prog_16_method_2_code
def yX6_looks : MethodName := ⟨RX6, "looks", "(LTypesAtPrime$Knot;[JI[IJ)V"⟩
def dkwX6_looks_4 : List UInt8 := [132, 8, 1, 167, 255, 206, 25, 4, 29, 3, 79, 177]
abbrev dktX6_looks_4 : List UInt8 := dkwX6_looks_4 ++ []
def dkwX6_looks_3 : List UInt8 := [21, 8, 50, 29, 4, 100, 25, 4, 22, 5, 21, 8, 133, 43, 29, 182, 0, 140, 133, 105, 97, 182, 0, 144]
abbrev dktX6_looks_3 : List UInt8 := dkwX6_looks_3 ++ dktX6_looks_4
def dkwX6_looks_2 : List UInt8 := [21, 8, 43, 29, 182, 0, 131, 180, 0, 135, 162, 0, 43, 25, 4, 29, 21, 8, 79, 42, 43, 25, 7]
abbrev dktX6_looks_2 : List UInt8 := dkwX6_looks_2 ++ dktX6_looks_3
def dkwX6_looks_1 : List UInt8 := [177, 42, 180, 0, 3, 44, 43, 29, 182, 0, 120, 180, 0, 124, 29, 182, 0, 127, 58, 7, 3, 54, 8]
abbrev dktX6_looks_1 : List UInt8 := dkwX6_looks_1 ++ dktX6_looks_2
def dkwX6_looks_0 : List UInt8 := [29, 154, 0, 24, 44, 3, 47, 9, 148, 153, 0, 15, 42, 43, 44, 3, 47, 25, 4, 22, 5, 182, 0, 116]
abbrev dktX6_looks_0 : List UInt8 := dkwX6_looks_0 ++ dktX6_looks_1
theorem dksX6_looks_0 : cX6_looks.data.toList.drop 0 = dktX6_looks_0 := by decide +kernel
theorem dksX6_looks_1 : cX6_looks.data.toList.drop 24 = dktX6_looks_1 := dk_seg dksX6_looks_0 24 rfl rfl
theorem dksX6_looks_2 : cX6_looks.data.toList.drop 47 = dktX6_looks_2 := dk_seg dksX6_looks_1 23 rfl rfl
theorem dksX6_looks_3 : cX6_looks.data.toList.drop 70 = dktX6_looks_3 := dk_seg dksX6_looks_2 23 rfl rfl
theorem dksX6_looks_4 : cX6_looks.data.toList.drop 94 = dktX6_looks_4 := dk_seg dksX6_looks_3 24 rfl rfl
theorem dX6_looks_0 : decode cX6_looks 0 = .ok (.iload_n 3, 1) := dk_29 (dk_at dksX6_looks_0 0 rfl rfl)
theorem dX6_looks_1 : decode cX6_looks 1 = .ok (.ifCond .ne 24, 3) := dk_154 0 24 (dk_at dksX6_looks_0 1 rfl rfl)
theorem dX6_looks_4 : decode cX6_looks 4 = .ok (.aload_n 2, 1) := dk_44 (dk_at dksX6_looks_0 4 rfl rfl)
theorem dX6_looks_5 : decode cX6_looks 5 = .ok (.iconst 0, 1) := dk_3 (dk_at dksX6_looks_0 5 rfl rfl)
theorem dX6_looks_6 : decode cX6_looks 6 = .ok (.laload, 1) := dk_47 (dk_at dksX6_looks_0 6 rfl rfl)
theorem dX6_looks_7 : decode cX6_looks 7 = .ok (.lconst 0, 1) := dk_9 (dk_at dksX6_looks_0 7 rfl rfl)
theorem dX6_looks_8 : decode cX6_looks 8 = .ok (.lcmp, 1) := dk_148 (dk_at dksX6_looks_0 8 rfl rfl)
theorem dX6_looks_9 : decode cX6_looks 9 = .ok (.ifCond .eq 15, 3) := dk_153 0 15 (dk_at dksX6_looks_0 9 rfl rfl)
theorem dX6_looks_12 : decode cX6_looks 12 = .ok (.aload_n 0, 1) := dk_42 (dk_at dksX6_looks_0 12 rfl rfl)
theorem dX6_looks_13 : decode cX6_looks 13 = .ok (.aload_n 1, 1) := dk_43 (dk_at dksX6_looks_0 13 rfl rfl)
theorem dX6_looks_14 : decode cX6_looks 14 = .ok (.aload_n 2, 1) := dk_44 (dk_at dksX6_looks_0 14 rfl rfl)
theorem dX6_looks_15 : decode cX6_looks 15 = .ok (.iconst 0, 1) := dk_3 (dk_at dksX6_looks_0 15 rfl rfl)
theorem dX6_looks_16 : decode cX6_looks 16 = .ok (.laload, 1) := dk_47 (dk_at dksX6_looks_0 16 rfl rfl)
theorem dX6_looks_17 : decode cX6_looks 17 = .ok (.aload 4, 2) := dk_25 4 (dk_at dksX6_looks_0 17 rfl rfl)
theorem dX6_looks_19 : decode cX6_looks 19 = .ok (.lload 5, 2) := dk_22 5 (dk_at dksX6_looks_0 19 rfl rfl)
theorem dX6_looks_21 : decode cX6_looks 21 = .ok (.invokevirtual 116, 3) := dk_182 0 116 (dk_at dksX6_looks_0 21 rfl rfl)
theorem dX6_looks_24 : decode cX6_looks 24 = .ok (.return_, 1) := dk_177 (dk_at dksX6_looks_1 0 rfl rfl)
theorem dX6_looks_25 : decode cX6_looks 25 = .ok (.aload_n 0, 1) := dk_42 (dk_at dksX6_looks_1 1 rfl rfl)
theorem dX6_looks_26 : decode cX6_looks 26 = .ok (.getfield 3, 3) := dk_180 0 3 (dk_at dksX6_looks_1 2 rfl rfl)
theorem dX6_looks_29 : decode cX6_looks 29 = .ok (.aload_n 2, 1) := dk_44 (dk_at dksX6_looks_1 5 rfl rfl)
theorem dX6_looks_30 : decode cX6_looks 30 = .ok (.aload_n 1, 1) := dk_43 (dk_at dksX6_looks_1 6 rfl rfl)
theorem dX6_looks_31 : decode cX6_looks 31 = .ok (.iload_n 3, 1) := dk_29 (dk_at dksX6_looks_1 7 rfl rfl)
theorem dX6_looks_32 : decode cX6_looks 32 = .ok (.invokevirtual 120, 3) := dk_182 0 120 (dk_at dksX6_looks_1 8 rfl rfl)
theorem dX6_looks_35 : decode cX6_looks 35 = .ok (.getfield 124, 3) := dk_180 0 124 (dk_at dksX6_looks_1 11 rfl rfl)
theorem dX6_looks_38 : decode cX6_looks 38 = .ok (.iload_n 3, 1) := dk_29 (dk_at dksX6_looks_1 14 rfl rfl)
theorem dX6_looks_39 : decode cX6_looks 39 = .ok (.invokevirtual 127, 3) := dk_182 0 127 (dk_at dksX6_looks_1 15 rfl rfl)
theorem dX6_looks_42 : decode cX6_looks 42 = .ok (.astore 7, 2) := dk_58 7 (dk_at dksX6_looks_1 18 rfl rfl)
theorem dX6_looks_44 : decode cX6_looks 44 = .ok (.iconst 0, 1) := dk_3 (dk_at dksX6_looks_1 20 rfl rfl)
theorem dX6_looks_45 : decode cX6_looks 45 = .ok (.istore 8, 2) := dk_54 8 (dk_at dksX6_looks_1 21 rfl rfl)
theorem dX6_looks_47 : decode cX6_looks 47 = .ok (.iload 8, 2) := dk_21 8 (dk_at dksX6_looks_2 0 rfl rfl)
theorem dX6_looks_49 : decode cX6_looks 49 = .ok (.aload_n 1, 1) := dk_43 (dk_at dksX6_looks_2 2 rfl rfl)
theorem dX6_looks_50 : decode cX6_looks 50 = .ok (.iload_n 3, 1) := dk_29 (dk_at dksX6_looks_2 3 rfl rfl)
theorem dX6_looks_51 : decode cX6_looks 51 = .ok (.invokevirtual 131, 3) := dk_182 0 131 (dk_at dksX6_looks_2 4 rfl rfl)
theorem dX6_looks_54 : decode cX6_looks 54 = .ok (.getfield 135, 3) := dk_180 0 135 (dk_at dksX6_looks_2 7 rfl rfl)
theorem dX6_looks_57 : decode cX6_looks 57 = .ok (.if_icmp .ge 43, 3) := dk_162 0 43 (dk_at dksX6_looks_2 10 rfl rfl)
theorem dX6_looks_60 : decode cX6_looks 60 = .ok (.aload 4, 2) := dk_25 4 (dk_at dksX6_looks_2 13 rfl rfl)
theorem dX6_looks_62 : decode cX6_looks 62 = .ok (.iload_n 3, 1) := dk_29 (dk_at dksX6_looks_2 15 rfl rfl)
theorem dX6_looks_63 : decode cX6_looks 63 = .ok (.iload 8, 2) := dk_21 8 (dk_at dksX6_looks_2 16 rfl rfl)
theorem dX6_looks_65 : decode cX6_looks 65 = .ok (.iastore, 1) := dk_79 (dk_at dksX6_looks_2 18 rfl rfl)
theorem dX6_looks_66 : decode cX6_looks 66 = .ok (.aload_n 0, 1) := dk_42 (dk_at dksX6_looks_2 19 rfl rfl)
theorem dX6_looks_67 : decode cX6_looks 67 = .ok (.aload_n 1, 1) := dk_43 (dk_at dksX6_looks_2 20 rfl rfl)
theorem dX6_looks_68 : decode cX6_looks 68 = .ok (.aload 7, 2) := dk_25 7 (dk_at dksX6_looks_2 21 rfl rfl)
theorem dX6_looks_70 : decode cX6_looks 70 = .ok (.iload 8, 2) := dk_21 8 (dk_at dksX6_looks_3 0 rfl rfl)
theorem dX6_looks_72 : decode cX6_looks 72 = .ok (.aaload, 1) := dk_50 (dk_at dksX6_looks_3 2 rfl rfl)
theorem dX6_looks_73 : decode cX6_looks 73 = .ok (.iload_n 3, 1) := dk_29 (dk_at dksX6_looks_3 3 rfl rfl)
theorem dX6_looks_74 : decode cX6_looks 74 = .ok (.iconst 1, 1) := dk_4 (dk_at dksX6_looks_3 4 rfl rfl)
theorem dX6_looks_75 : decode cX6_looks 75 = .ok (.isub, 1) := dk_100 (dk_at dksX6_looks_3 5 rfl rfl)
theorem dX6_looks_76 : decode cX6_looks 76 = .ok (.aload 4, 2) := dk_25 4 (dk_at dksX6_looks_3 6 rfl rfl)
theorem dX6_looks_78 : decode cX6_looks 78 = .ok (.lload 5, 2) := dk_22 5 (dk_at dksX6_looks_3 8 rfl rfl)
theorem dX6_looks_80 : decode cX6_looks 80 = .ok (.iload 8, 2) := dk_21 8 (dk_at dksX6_looks_3 10 rfl rfl)
theorem dX6_looks_82 : decode cX6_looks 82 = .ok (.i2l, 1) := dk_133 (dk_at dksX6_looks_3 12 rfl rfl)
theorem dX6_looks_83 : decode cX6_looks 83 = .ok (.aload_n 1, 1) := dk_43 (dk_at dksX6_looks_3 13 rfl rfl)
theorem dX6_looks_84 : decode cX6_looks 84 = .ok (.iload_n 3, 1) := dk_29 (dk_at dksX6_looks_3 14 rfl rfl)
theorem dX6_looks_85 : decode cX6_looks 85 = .ok (.invokevirtual 140, 3) := dk_182 0 140 (dk_at dksX6_looks_3 15 rfl rfl)
theorem dX6_looks_88 : decode cX6_looks 88 = .ok (.i2l, 1) := dk_133 (dk_at dksX6_looks_3 18 rfl rfl)
theorem dX6_looks_89 : decode cX6_looks 89 = .ok (.lmul, 1) := dk_105 (dk_at dksX6_looks_3 19 rfl rfl)
theorem dX6_looks_90 : decode cX6_looks 90 = .ok (.ladd, 1) := dk_97 (dk_at dksX6_looks_3 20 rfl rfl)
theorem dX6_looks_91 : decode cX6_looks 91 = .ok (.invokevirtual 144, 3) := dk_182 0 144 (dk_at dksX6_looks_3 21 rfl rfl)
theorem dX6_looks_94 : decode cX6_looks 94 = .ok (.iinc 8 1, 3) := dk_132 8 1 (dk_at dksX6_looks_4 0 rfl rfl)
theorem dX6_looks_97 : decode cX6_looks 97 = .ok (.goto (-50), 3) := dk_167 255 206 (dk_at dksX6_looks_4 3 rfl rfl)
theorem dX6_looks_100 : decode cX6_looks 100 = .ok (.aload 4, 2) := dk_25 4 (dk_at dksX6_looks_4 6 rfl rfl)
theorem dX6_looks_102 : decode cX6_looks 102 = .ok (.iload_n 3, 1) := dk_29 (dk_at dksX6_looks_4 8 rfl rfl)
theorem dX6_looks_103 : decode cX6_looks 103 = .ok (.iconst 0, 1) := dk_3 (dk_at dksX6_looks_4 9 rfl rfl)
theorem dX6_looks_104 : decode cX6_looks 104 = .ok (.iastore, 1) := dk_79 (dk_at dksX6_looks_4 10 rfl rfl)
theorem dX6_looks_105 : decode cX6_looks 105 = .ok (.return_, 1) := dk_177 (dk_at dksX6_looks_4 11 rfl rfl)
abbrev cX6_meets : ByteArray := prog_16_method_3_code
def yX6_meets : MethodName := ⟨RX6, "meets", "(LTypesAtPrime$Knot;J[IJ)V"⟩
def dkwX6_meets_5 : List UInt8 := [184, 0, 174, 109, 42, 180, 0, 3, 180, 0, 82, 133, 113, 136, 181, 0, 178, 177]
abbrev dktX6_meets_5 : List UInt8 := dkwX6_meets_5 ++ []
def dkwX6_meets_4 : List UInt8 := [180, 0, 165, 3, 21, 7, 79, 42, 180, 0, 155, 32, 42, 180, 0, 3, 180, 0, 82, 133, 21, 7]
abbrev dktX6_meets_4 : List UInt8 := dkwX6_meets_4 ++ dktX6_meets_5
def dkwX6_meets_3 : List UInt8 := [181, 0, 159, 25, 4, 3, 42, 180, 0, 155, 180, 0, 165, 3, 16, 7, 184, 0, 168, 42, 180, 0, 155]
abbrev dktX6_meets_3 : List UInt8 := dkwX6_meets_3 ++ dktX6_meets_4
def dkwX6_meets_2 : List UInt8 := [199, 0, 13, 187, 0, 162, 89, 183, 0, 164, 167, 0, 7, 42, 180, 0, 155, 181, 0, 155, 42, 22, 8]
abbrev dktX6_meets_2 : List UInt8 := dkwX6_meets_2 ++ dktX6_meets_3
def dkwX6_meets_1 : List UInt8 := [42, 180, 0, 155, 198, 0, 14, 42, 180, 0, 159, 22, 8, 148, 157, 0, 4, 177, 42, 42, 180, 0, 155]
abbrev dktX6_meets_1 : List UInt8 := dkwX6_meets_1 ++ dktX6_meets_2
def dkwX6_meets_0 : List UInt8 := [42, 180, 0, 3, 32, 182, 0, 148, 54, 7, 22, 5, 21, 7, 133, 43, 180, 0, 152, 133, 105, 97, 55, 8]
abbrev dktX6_meets_0 : List UInt8 := dkwX6_meets_0 ++ dktX6_meets_1
theorem dksX6_meets_0 : cX6_meets.data.toList.drop 0 = dktX6_meets_0 := by decide +kernel
theorem dksX6_meets_1 : cX6_meets.data.toList.drop 24 = dktX6_meets_1 := dk_seg dksX6_meets_0 24 rfl rfl
theorem dksX6_meets_2 : cX6_meets.data.toList.drop 47 = dktX6_meets_2 := dk_seg dksX6_meets_1 23 rfl rfl
theorem dksX6_meets_3 : cX6_meets.data.toList.drop 70 = dktX6_meets_3 := dk_seg dksX6_meets_2 23 rfl rfl
theorem dksX6_meets_4 : cX6_meets.data.toList.drop 93 = dktX6_meets_4 := dk_seg dksX6_meets_3 23 rfl rfl
theorem dksX6_meets_5 : cX6_meets.data.toList.drop 115 = dktX6_meets_5 := dk_seg dksX6_meets_4 22 rfl rfl
theorem dX6_meets_0 : decode cX6_meets 0 = .ok (.aload_n 0, 1) := dk_42 (dk_at dksX6_meets_0 0 rfl rfl)
theorem dX6_meets_1 : decode cX6_meets 1 = .ok (.getfield 3, 3) := dk_180 0 3 (dk_at dksX6_meets_0 1 rfl rfl)
theorem dX6_meets_4 : decode cX6_meets 4 = .ok (.lload_n 2, 1) := dk_32 (dk_at dksX6_meets_0 4 rfl rfl)
theorem dX6_meets_5 : decode cX6_meets 5 = .ok (.invokevirtual 148, 3) := dk_182 0 148 (dk_at dksX6_meets_0 5 rfl rfl)
theorem dX6_meets_8 : decode cX6_meets 8 = .ok (.istore 7, 2) := dk_54 7 (dk_at dksX6_meets_0 8 rfl rfl)
theorem dX6_meets_10 : decode cX6_meets 10 = .ok (.lload 5, 2) := dk_22 5 (dk_at dksX6_meets_0 10 rfl rfl)
theorem dX6_meets_12 : decode cX6_meets 12 = .ok (.iload 7, 2) := dk_21 7 (dk_at dksX6_meets_0 12 rfl rfl)
theorem dX6_meets_14 : decode cX6_meets 14 = .ok (.i2l, 1) := dk_133 (dk_at dksX6_meets_0 14 rfl rfl)
theorem dX6_meets_15 : decode cX6_meets 15 = .ok (.aload_n 1, 1) := dk_43 (dk_at dksX6_meets_0 15 rfl rfl)
theorem dX6_meets_16 : decode cX6_meets 16 = .ok (.getfield 152, 3) := dk_180 0 152 (dk_at dksX6_meets_0 16 rfl rfl)
theorem dX6_meets_19 : decode cX6_meets 19 = .ok (.i2l, 1) := dk_133 (dk_at dksX6_meets_0 19 rfl rfl)
theorem dX6_meets_20 : decode cX6_meets 20 = .ok (.lmul, 1) := dk_105 (dk_at dksX6_meets_0 20 rfl rfl)
theorem dX6_meets_21 : decode cX6_meets 21 = .ok (.ladd, 1) := dk_97 (dk_at dksX6_meets_0 21 rfl rfl)
theorem dX6_meets_22 : decode cX6_meets 22 = .ok (.lstore 8, 2) := dk_55 8 (dk_at dksX6_meets_0 22 rfl rfl)
theorem dX6_meets_24 : decode cX6_meets 24 = .ok (.aload_n 0, 1) := dk_42 (dk_at dksX6_meets_1 0 rfl rfl)
theorem dX6_meets_25 : decode cX6_meets 25 = .ok (.getfield 155, 3) := dk_180 0 155 (dk_at dksX6_meets_1 1 rfl rfl)
theorem dX6_meets_28 : decode cX6_meets 28 = .ok (.ifnull 14, 3) := dk_198 0 14 (dk_at dksX6_meets_1 4 rfl rfl)
theorem dX6_meets_31 : decode cX6_meets 31 = .ok (.aload_n 0, 1) := dk_42 (dk_at dksX6_meets_1 7 rfl rfl)
theorem dX6_meets_32 : decode cX6_meets 32 = .ok (.getfield 159, 3) := dk_180 0 159 (dk_at dksX6_meets_1 8 rfl rfl)
theorem dX6_meets_35 : decode cX6_meets 35 = .ok (.lload 8, 2) := dk_22 8 (dk_at dksX6_meets_1 11 rfl rfl)
theorem dX6_meets_37 : decode cX6_meets 37 = .ok (.lcmp, 1) := dk_148 (dk_at dksX6_meets_1 13 rfl rfl)
theorem dX6_meets_38 : decode cX6_meets 38 = .ok (.ifCond .gt 4, 3) := dk_157 0 4 (dk_at dksX6_meets_1 14 rfl rfl)
theorem dX6_meets_41 : decode cX6_meets 41 = .ok (.return_, 1) := dk_177 (dk_at dksX6_meets_1 17 rfl rfl)
theorem dX6_meets_42 : decode cX6_meets 42 = .ok (.aload_n 0, 1) := dk_42 (dk_at dksX6_meets_1 18 rfl rfl)
theorem dX6_meets_43 : decode cX6_meets 43 = .ok (.aload_n 0, 1) := dk_42 (dk_at dksX6_meets_1 19 rfl rfl)
theorem dX6_meets_44 : decode cX6_meets 44 = .ok (.getfield 155, 3) := dk_180 0 155 (dk_at dksX6_meets_1 20 rfl rfl)
theorem dX6_meets_47 : decode cX6_meets 47 = .ok (.ifnonnull 13, 3) := dk_199 0 13 (dk_at dksX6_meets_2 0 rfl rfl)
theorem dX6_meets_50 : decode cX6_meets 50 = .ok (.new 162, 3) := dk_187 0 162 (dk_at dksX6_meets_2 3 rfl rfl)
theorem dX6_meets_53 : decode cX6_meets 53 = .ok (.dup, 1) := dk_89 (dk_at dksX6_meets_2 6 rfl rfl)
theorem dX6_meets_54 : decode cX6_meets 54 = .ok (.invokespecial 164, 3) := dk_183 0 164 (dk_at dksX6_meets_2 7 rfl rfl)
theorem dX6_meets_57 : decode cX6_meets 57 = .ok (.goto 7, 3) := dk_167 0 7 (dk_at dksX6_meets_2 10 rfl rfl)
theorem dX6_meets_60 : decode cX6_meets 60 = .ok (.aload_n 0, 1) := dk_42 (dk_at dksX6_meets_2 13 rfl rfl)
theorem dX6_meets_61 : decode cX6_meets 61 = .ok (.getfield 155, 3) := dk_180 0 155 (dk_at dksX6_meets_2 14 rfl rfl)
theorem dX6_meets_64 : decode cX6_meets 64 = .ok (.putfield 155, 3) := dk_181 0 155 (dk_at dksX6_meets_2 17 rfl rfl)
theorem dX6_meets_67 : decode cX6_meets 67 = .ok (.aload_n 0, 1) := dk_42 (dk_at dksX6_meets_2 20 rfl rfl)
theorem dX6_meets_68 : decode cX6_meets 68 = .ok (.lload 8, 2) := dk_22 8 (dk_at dksX6_meets_2 21 rfl rfl)
theorem dX6_meets_70 : decode cX6_meets 70 = .ok (.putfield 159, 3) := dk_181 0 159 (dk_at dksX6_meets_3 0 rfl rfl)
theorem dX6_meets_73 : decode cX6_meets 73 = .ok (.aload 4, 2) := dk_25 4 (dk_at dksX6_meets_3 3 rfl rfl)
theorem dX6_meets_75 : decode cX6_meets 75 = .ok (.iconst 0, 1) := dk_3 (dk_at dksX6_meets_3 5 rfl rfl)
theorem dX6_meets_76 : decode cX6_meets 76 = .ok (.aload_n 0, 1) := dk_42 (dk_at dksX6_meets_3 6 rfl rfl)
theorem dX6_meets_77 : decode cX6_meets 77 = .ok (.getfield 155, 3) := dk_180 0 155 (dk_at dksX6_meets_3 7 rfl rfl)
theorem dX6_meets_80 : decode cX6_meets 80 = .ok (.getfield 165, 3) := dk_180 0 165 (dk_at dksX6_meets_3 10 rfl rfl)
theorem dX6_meets_83 : decode cX6_meets 83 = .ok (.iconst 0, 1) := dk_3 (dk_at dksX6_meets_3 13 rfl rfl)
theorem dX6_meets_84 : decode cX6_meets 84 = .ok (.bipush 7, 2) := dk_16 7 (dk_at dksX6_meets_3 14 rfl rfl)
theorem dX6_meets_86 : decode cX6_meets 86 = .ok (.invokestatic 168, 3) := dk_184 0 168 (dk_at dksX6_meets_3 16 rfl rfl)
theorem dX6_meets_89 : decode cX6_meets 89 = .ok (.aload_n 0, 1) := dk_42 (dk_at dksX6_meets_3 19 rfl rfl)
theorem dX6_meets_90 : decode cX6_meets 90 = .ok (.getfield 155, 3) := dk_180 0 155 (dk_at dksX6_meets_3 20 rfl rfl)
theorem dX6_meets_93 : decode cX6_meets 93 = .ok (.getfield 165, 3) := dk_180 0 165 (dk_at dksX6_meets_4 0 rfl rfl)
theorem dX6_meets_96 : decode cX6_meets 96 = .ok (.iconst 0, 1) := dk_3 (dk_at dksX6_meets_4 3 rfl rfl)
theorem dX6_meets_97 : decode cX6_meets 97 = .ok (.iload 7, 2) := dk_21 7 (dk_at dksX6_meets_4 4 rfl rfl)
theorem dX6_meets_99 : decode cX6_meets 99 = .ok (.iastore, 1) := dk_79 (dk_at dksX6_meets_4 6 rfl rfl)
theorem dX6_meets_100 : decode cX6_meets 100 = .ok (.aload_n 0, 1) := dk_42 (dk_at dksX6_meets_4 7 rfl rfl)
theorem dX6_meets_101 : decode cX6_meets 101 = .ok (.getfield 155, 3) := dk_180 0 155 (dk_at dksX6_meets_4 8 rfl rfl)
theorem dX6_meets_104 : decode cX6_meets 104 = .ok (.lload_n 2, 1) := dk_32 (dk_at dksX6_meets_4 11 rfl rfl)
theorem dX6_meets_105 : decode cX6_meets 105 = .ok (.aload_n 0, 1) := dk_42 (dk_at dksX6_meets_4 12 rfl rfl)
theorem dX6_meets_106 : decode cX6_meets 106 = .ok (.getfield 3, 3) := dk_180 0 3 (dk_at dksX6_meets_4 13 rfl rfl)
theorem dX6_meets_109 : decode cX6_meets 109 = .ok (.getfield 82, 3) := dk_180 0 82 (dk_at dksX6_meets_4 16 rfl rfl)
theorem dX6_meets_112 : decode cX6_meets 112 = .ok (.i2l, 1) := dk_133 (dk_at dksX6_meets_4 19 rfl rfl)
theorem dX6_meets_113 : decode cX6_meets 113 = .ok (.iload 7, 2) := dk_21 7 (dk_at dksX6_meets_4 20 rfl rfl)
theorem dX6_meets_115 : decode cX6_meets 115 = .ok (.invokestatic 174, 3) := dk_184 0 174 (dk_at dksX6_meets_5 0 rfl rfl)
theorem dX6_meets_118 : decode cX6_meets 118 = .ok (.ldiv, 1) := dk_109 (dk_at dksX6_meets_5 3 rfl rfl)
theorem dX6_meets_119 : decode cX6_meets 119 = .ok (.aload_n 0, 1) := dk_42 (dk_at dksX6_meets_5 4 rfl rfl)
theorem dX6_meets_120 : decode cX6_meets 120 = .ok (.getfield 3, 3) := dk_180 0 3 (dk_at dksX6_meets_5 5 rfl rfl)
theorem dX6_meets_123 : decode cX6_meets 123 = .ok (.getfield 82, 3) := dk_180 0 82 (dk_at dksX6_meets_5 8 rfl rfl)
theorem dX6_meets_126 : decode cX6_meets 126 = .ok (.i2l, 1) := dk_133 (dk_at dksX6_meets_5 11 rfl rfl)
theorem dX6_meets_127 : decode cX6_meets 127 = .ok (.lrem, 1) := dk_113 (dk_at dksX6_meets_5 12 rfl rfl)
theorem dX6_meets_128 : decode cX6_meets 128 = .ok (.l2i, 1) := dk_136 (dk_at dksX6_meets_5 13 rfl rfl)
theorem dX6_meets_129 : decode cX6_meets 129 = .ok (.putfield 178, 3) := dk_181 0 178 (dk_at dksX6_meets_5 14 rfl rfl)
theorem dX6_meets_132 : decode cX6_meets 132 = .ok (.return_, 1) := dk_177 (dk_at dksX6_meets_5 17 rfl rfl)
abbrev cX6_findsSides : ByteArray := prog_16_method_9_code
def yX6_findsSides : MethodName := ⟨RX6, "findsSides", "(LTypesAtPrime$Knot;)V"⟩
def dkwX6_findsSides_7 : List UInt8 := [167, 255, 100, 177]
abbrev dktX6_findsSides_7 : List UInt8 := dkwX6_findsSides_7 ++ []
def dkwX6_findsSides_6 : List UInt8 := [29, 153, 0, 22, 43, 180, 0, 236, 42, 43, 28, 21, 4, 182, 0, 243, 182, 0, 78, 87, 21, 4, 61]
abbrev dktX6_findsSides_6 : List UInt8 := dkwX6_findsSides_6 ++ dktX6_findsSides_7
def dkwX6_findsSides_5 : List UInt8 := [167, 0, 5, 21, 4, 54, 4, 132, 5, 1, 167, 255, 149, 21, 4, 155, 0, 7, 4, 167, 0, 4, 3, 62]
abbrev dktX6_findsSides_5 : List UInt8 := dkwX6_findsSides_5 ++ dktX6_findsSides_6
def dkwX6_findsSides_4 : List UInt8 := [28, 100, 133, 105, 148, 155, 0, 7, 4, 167, 0, 4, 3, 54, 7, 21, 7, 153, 0, 8, 21, 5]
abbrev dktX6_findsSides_4 : List UInt8 := dkwX6_findsSides_4 ++ dktX6_findsSides_5
def dkwX6_findsSides_3 : List UInt8 := [133, 21, 4, 28, 100, 133, 105, 43, 180, 0, 204, 28, 46, 43, 180, 0, 204, 21, 4, 46, 100, 133, 21, 5]
abbrev dktX6_findsSides_3 : List UInt8 := dkwX6_findsSides_3 ++ dktX6_findsSides_4
def dkwX6_findsSides_2 : List UInt8 := [28, 46, 43, 180, 0, 204, 21, 5, 46, 100, 54, 6, 21, 6, 158, 0, 46, 21, 4, 155, 0, 37, 21, 6]
abbrev dktX6_findsSides_2 : List UInt8 := dkwX6_findsSides_2 ++ dktX6_findsSides_3
def dkwX6_findsSides_1 : List UInt8 := [180, 0, 207, 163, 0, 104, 43, 180, 0, 204, 21, 5, 46, 156, 0, 7, 3, 167, 0, 17, 43, 180, 0, 204]
abbrev dktX6_findsSides_1 : List UInt8 := dkwX6_findsSides_1 ++ dktX6_findsSides_2
def dkwX6_findsSides_0 : List UInt8 := [43, 180, 0, 201, 61, 4, 62, 29, 153, 0, 158, 2, 54, 4, 28, 4, 96, 54, 5, 21, 5, 43]
abbrev dktX6_findsSides_0 : List UInt8 := dkwX6_findsSides_0 ++ dktX6_findsSides_1
theorem dksX6_findsSides_0 : cX6_findsSides.data.toList.drop 0 = dktX6_findsSides_0 := by decide +kernel
theorem dksX6_findsSides_1 : cX6_findsSides.data.toList.drop 22 = dktX6_findsSides_1 := dk_seg dksX6_findsSides_0 22 rfl rfl
theorem dksX6_findsSides_2 : cX6_findsSides.data.toList.drop 46 = dktX6_findsSides_2 := dk_seg dksX6_findsSides_1 24 rfl rfl
theorem dksX6_findsSides_3 : cX6_findsSides.data.toList.drop 70 = dktX6_findsSides_3 := dk_seg dksX6_findsSides_2 24 rfl rfl
theorem dksX6_findsSides_4 : cX6_findsSides.data.toList.drop 94 = dktX6_findsSides_4 := dk_seg dksX6_findsSides_3 24 rfl rfl
theorem dksX6_findsSides_5 : cX6_findsSides.data.toList.drop 116 = dktX6_findsSides_5 := dk_seg dksX6_findsSides_4 22 rfl rfl
theorem dksX6_findsSides_6 : cX6_findsSides.data.toList.drop 140 = dktX6_findsSides_6 := dk_seg dksX6_findsSides_5 24 rfl rfl
theorem dksX6_findsSides_7 : cX6_findsSides.data.toList.drop 163 = dktX6_findsSides_7 := dk_seg dksX6_findsSides_6 23 rfl rfl
theorem dX6_findsSides_0 : decode cX6_findsSides 0 = .ok (.aload_n 1, 1) := dk_43 (dk_at dksX6_findsSides_0 0 rfl rfl)
theorem dX6_findsSides_1 : decode cX6_findsSides 1 = .ok (.getfield 201, 3) := dk_180 0 201 (dk_at dksX6_findsSides_0 1 rfl rfl)
theorem dX6_findsSides_4 : decode cX6_findsSides 4 = .ok (.istore_n 2, 1) := dk_61 (dk_at dksX6_findsSides_0 4 rfl rfl)
theorem dX6_findsSides_5 : decode cX6_findsSides 5 = .ok (.iconst 1, 1) := dk_4 (dk_at dksX6_findsSides_0 5 rfl rfl)
theorem dX6_findsSides_6 : decode cX6_findsSides 6 = .ok (.istore_n 3, 1) := dk_62 (dk_at dksX6_findsSides_0 6 rfl rfl)
theorem dX6_findsSides_7 : decode cX6_findsSides 7 = .ok (.iload_n 3, 1) := dk_29 (dk_at dksX6_findsSides_0 7 rfl rfl)
theorem dX6_findsSides_8 : decode cX6_findsSides 8 = .ok (.ifCond .eq 158, 3) := dk_153 0 158 (dk_at dksX6_findsSides_0 8 rfl rfl)
theorem dX6_findsSides_11 : decode cX6_findsSides 11 = .ok (.iconst (-1), 1) := dk_2 (dk_at dksX6_findsSides_0 11 rfl rfl)
theorem dX6_findsSides_12 : decode cX6_findsSides 12 = .ok (.istore 4, 2) := dk_54 4 (dk_at dksX6_findsSides_0 12 rfl rfl)
theorem dX6_findsSides_14 : decode cX6_findsSides 14 = .ok (.iload_n 2, 1) := dk_28 (dk_at dksX6_findsSides_0 14 rfl rfl)
theorem dX6_findsSides_15 : decode cX6_findsSides 15 = .ok (.iconst 1, 1) := dk_4 (dk_at dksX6_findsSides_0 15 rfl rfl)
theorem dX6_findsSides_16 : decode cX6_findsSides 16 = .ok (.iadd, 1) := dk_96 (dk_at dksX6_findsSides_0 16 rfl rfl)
theorem dX6_findsSides_17 : decode cX6_findsSides 17 = .ok (.istore 5, 2) := dk_54 5 (dk_at dksX6_findsSides_0 17 rfl rfl)
theorem dX6_findsSides_19 : decode cX6_findsSides 19 = .ok (.iload 5, 2) := dk_21 5 (dk_at dksX6_findsSides_0 19 rfl rfl)
theorem dX6_findsSides_21 : decode cX6_findsSides 21 = .ok (.aload_n 1, 1) := dk_43 (dk_at dksX6_findsSides_0 21 rfl rfl)
theorem dX6_findsSides_22 : decode cX6_findsSides 22 = .ok (.getfield 207, 3) := dk_180 0 207 (dk_at dksX6_findsSides_1 0 rfl rfl)
theorem dX6_findsSides_25 : decode cX6_findsSides 25 = .ok (.if_icmp .gt 104, 3) := dk_163 0 104 (dk_at dksX6_findsSides_1 3 rfl rfl)
theorem dX6_findsSides_28 : decode cX6_findsSides 28 = .ok (.aload_n 1, 1) := dk_43 (dk_at dksX6_findsSides_1 6 rfl rfl)
theorem dX6_findsSides_29 : decode cX6_findsSides 29 = .ok (.getfield 204, 3) := dk_180 0 204 (dk_at dksX6_findsSides_1 7 rfl rfl)
theorem dX6_findsSides_32 : decode cX6_findsSides 32 = .ok (.iload 5, 2) := dk_21 5 (dk_at dksX6_findsSides_1 10 rfl rfl)
theorem dX6_findsSides_34 : decode cX6_findsSides 34 = .ok (.iaload, 1) := dk_46 (dk_at dksX6_findsSides_1 12 rfl rfl)
theorem dX6_findsSides_35 : decode cX6_findsSides 35 = .ok (.ifCond .ge 7, 3) := dk_156 0 7 (dk_at dksX6_findsSides_1 13 rfl rfl)
theorem dX6_findsSides_38 : decode cX6_findsSides 38 = .ok (.iconst 0, 1) := dk_3 (dk_at dksX6_findsSides_1 16 rfl rfl)
theorem dX6_findsSides_39 : decode cX6_findsSides 39 = .ok (.goto 17, 3) := dk_167 0 17 (dk_at dksX6_findsSides_1 17 rfl rfl)
theorem dX6_findsSides_42 : decode cX6_findsSides 42 = .ok (.aload_n 1, 1) := dk_43 (dk_at dksX6_findsSides_1 20 rfl rfl)
theorem dX6_findsSides_43 : decode cX6_findsSides 43 = .ok (.getfield 204, 3) := dk_180 0 204 (dk_at dksX6_findsSides_1 21 rfl rfl)
theorem dX6_findsSides_46 : decode cX6_findsSides 46 = .ok (.iload_n 2, 1) := dk_28 (dk_at dksX6_findsSides_2 0 rfl rfl)
theorem dX6_findsSides_47 : decode cX6_findsSides 47 = .ok (.iaload, 1) := dk_46 (dk_at dksX6_findsSides_2 1 rfl rfl)
theorem dX6_findsSides_48 : decode cX6_findsSides 48 = .ok (.aload_n 1, 1) := dk_43 (dk_at dksX6_findsSides_2 2 rfl rfl)
theorem dX6_findsSides_49 : decode cX6_findsSides 49 = .ok (.getfield 204, 3) := dk_180 0 204 (dk_at dksX6_findsSides_2 3 rfl rfl)
theorem dX6_findsSides_52 : decode cX6_findsSides 52 = .ok (.iload 5, 2) := dk_21 5 (dk_at dksX6_findsSides_2 6 rfl rfl)
theorem dX6_findsSides_54 : decode cX6_findsSides 54 = .ok (.iaload, 1) := dk_46 (dk_at dksX6_findsSides_2 8 rfl rfl)
theorem dX6_findsSides_55 : decode cX6_findsSides 55 = .ok (.isub, 1) := dk_100 (dk_at dksX6_findsSides_2 9 rfl rfl)
theorem dX6_findsSides_56 : decode cX6_findsSides 56 = .ok (.istore 6, 2) := dk_54 6 (dk_at dksX6_findsSides_2 10 rfl rfl)
theorem dX6_findsSides_58 : decode cX6_findsSides 58 = .ok (.iload 6, 2) := dk_21 6 (dk_at dksX6_findsSides_2 12 rfl rfl)
theorem dX6_findsSides_60 : decode cX6_findsSides 60 = .ok (.ifCond .le 46, 3) := dk_158 0 46 (dk_at dksX6_findsSides_2 14 rfl rfl)
theorem dX6_findsSides_63 : decode cX6_findsSides 63 = .ok (.iload 4, 2) := dk_21 4 (dk_at dksX6_findsSides_2 17 rfl rfl)
theorem dX6_findsSides_65 : decode cX6_findsSides 65 = .ok (.ifCond .lt 37, 3) := dk_155 0 37 (dk_at dksX6_findsSides_2 19 rfl rfl)
theorem dX6_findsSides_68 : decode cX6_findsSides 68 = .ok (.iload 6, 2) := dk_21 6 (dk_at dksX6_findsSides_2 22 rfl rfl)
theorem dX6_findsSides_70 : decode cX6_findsSides 70 = .ok (.i2l, 1) := dk_133 (dk_at dksX6_findsSides_3 0 rfl rfl)
theorem dX6_findsSides_71 : decode cX6_findsSides 71 = .ok (.iload 4, 2) := dk_21 4 (dk_at dksX6_findsSides_3 1 rfl rfl)
theorem dX6_findsSides_73 : decode cX6_findsSides 73 = .ok (.iload_n 2, 1) := dk_28 (dk_at dksX6_findsSides_3 3 rfl rfl)
theorem dX6_findsSides_74 : decode cX6_findsSides 74 = .ok (.isub, 1) := dk_100 (dk_at dksX6_findsSides_3 4 rfl rfl)
theorem dX6_findsSides_75 : decode cX6_findsSides 75 = .ok (.i2l, 1) := dk_133 (dk_at dksX6_findsSides_3 5 rfl rfl)
theorem dX6_findsSides_76 : decode cX6_findsSides 76 = .ok (.lmul, 1) := dk_105 (dk_at dksX6_findsSides_3 6 rfl rfl)
theorem dX6_findsSides_77 : decode cX6_findsSides 77 = .ok (.aload_n 1, 1) := dk_43 (dk_at dksX6_findsSides_3 7 rfl rfl)
theorem dX6_findsSides_78 : decode cX6_findsSides 78 = .ok (.getfield 204, 3) := dk_180 0 204 (dk_at dksX6_findsSides_3 8 rfl rfl)
theorem dX6_findsSides_81 : decode cX6_findsSides 81 = .ok (.iload_n 2, 1) := dk_28 (dk_at dksX6_findsSides_3 11 rfl rfl)
theorem dX6_findsSides_82 : decode cX6_findsSides 82 = .ok (.iaload, 1) := dk_46 (dk_at dksX6_findsSides_3 12 rfl rfl)
theorem dX6_findsSides_83 : decode cX6_findsSides 83 = .ok (.aload_n 1, 1) := dk_43 (dk_at dksX6_findsSides_3 13 rfl rfl)
theorem dX6_findsSides_84 : decode cX6_findsSides 84 = .ok (.getfield 204, 3) := dk_180 0 204 (dk_at dksX6_findsSides_3 14 rfl rfl)
theorem dX6_findsSides_87 : decode cX6_findsSides 87 = .ok (.iload 4, 2) := dk_21 4 (dk_at dksX6_findsSides_3 17 rfl rfl)
theorem dX6_findsSides_89 : decode cX6_findsSides 89 = .ok (.iaload, 1) := dk_46 (dk_at dksX6_findsSides_3 19 rfl rfl)
theorem dX6_findsSides_90 : decode cX6_findsSides 90 = .ok (.isub, 1) := dk_100 (dk_at dksX6_findsSides_3 20 rfl rfl)
theorem dX6_findsSides_91 : decode cX6_findsSides 91 = .ok (.i2l, 1) := dk_133 (dk_at dksX6_findsSides_3 21 rfl rfl)
theorem dX6_findsSides_92 : decode cX6_findsSides 92 = .ok (.iload 5, 2) := dk_21 5 (dk_at dksX6_findsSides_3 22 rfl rfl)
theorem dX6_findsSides_94 : decode cX6_findsSides 94 = .ok (.iload_n 2, 1) := dk_28 (dk_at dksX6_findsSides_4 0 rfl rfl)
theorem dX6_findsSides_95 : decode cX6_findsSides 95 = .ok (.isub, 1) := dk_100 (dk_at dksX6_findsSides_4 1 rfl rfl)
theorem dX6_findsSides_96 : decode cX6_findsSides 96 = .ok (.i2l, 1) := dk_133 (dk_at dksX6_findsSides_4 2 rfl rfl)
theorem dX6_findsSides_97 : decode cX6_findsSides 97 = .ok (.lmul, 1) := dk_105 (dk_at dksX6_findsSides_4 3 rfl rfl)
theorem dX6_findsSides_98 : decode cX6_findsSides 98 = .ok (.lcmp, 1) := dk_148 (dk_at dksX6_findsSides_4 4 rfl rfl)
theorem dX6_findsSides_99 : decode cX6_findsSides 99 = .ok (.ifCond .lt 7, 3) := dk_155 0 7 (dk_at dksX6_findsSides_4 5 rfl rfl)
theorem dX6_findsSides_102 : decode cX6_findsSides 102 = .ok (.iconst 1, 1) := dk_4 (dk_at dksX6_findsSides_4 8 rfl rfl)
theorem dX6_findsSides_103 : decode cX6_findsSides 103 = .ok (.goto 4, 3) := dk_167 0 4 (dk_at dksX6_findsSides_4 9 rfl rfl)
theorem dX6_findsSides_106 : decode cX6_findsSides 106 = .ok (.iconst 0, 1) := dk_3 (dk_at dksX6_findsSides_4 12 rfl rfl)
theorem dX6_findsSides_107 : decode cX6_findsSides 107 = .ok (.istore 7, 2) := dk_54 7 (dk_at dksX6_findsSides_4 13 rfl rfl)
theorem dX6_findsSides_109 : decode cX6_findsSides 109 = .ok (.iload 7, 2) := dk_21 7 (dk_at dksX6_findsSides_4 15 rfl rfl)
theorem dX6_findsSides_111 : decode cX6_findsSides 111 = .ok (.ifCond .eq 8, 3) := dk_153 0 8 (dk_at dksX6_findsSides_4 17 rfl rfl)
theorem dX6_findsSides_114 : decode cX6_findsSides 114 = .ok (.iload 5, 2) := dk_21 5 (dk_at dksX6_findsSides_4 20 rfl rfl)
theorem dX6_findsSides_116 : decode cX6_findsSides 116 = .ok (.goto 5, 3) := dk_167 0 5 (dk_at dksX6_findsSides_5 0 rfl rfl)
theorem dX6_findsSides_119 : decode cX6_findsSides 119 = .ok (.iload 4, 2) := dk_21 4 (dk_at dksX6_findsSides_5 3 rfl rfl)
theorem dX6_findsSides_121 : decode cX6_findsSides 121 = .ok (.istore 4, 2) := dk_54 4 (dk_at dksX6_findsSides_5 5 rfl rfl)
theorem dX6_findsSides_123 : decode cX6_findsSides 123 = .ok (.iinc 5 1, 3) := dk_132 5 1 (dk_at dksX6_findsSides_5 7 rfl rfl)
theorem dX6_findsSides_126 : decode cX6_findsSides 126 = .ok (.goto (-107), 3) := dk_167 255 149 (dk_at dksX6_findsSides_5 10 rfl rfl)
theorem dX6_findsSides_129 : decode cX6_findsSides 129 = .ok (.iload 4, 2) := dk_21 4 (dk_at dksX6_findsSides_5 13 rfl rfl)
theorem dX6_findsSides_131 : decode cX6_findsSides 131 = .ok (.ifCond .lt 7, 3) := dk_155 0 7 (dk_at dksX6_findsSides_5 15 rfl rfl)
theorem dX6_findsSides_134 : decode cX6_findsSides 134 = .ok (.iconst 1, 1) := dk_4 (dk_at dksX6_findsSides_5 18 rfl rfl)
theorem dX6_findsSides_135 : decode cX6_findsSides 135 = .ok (.goto 4, 3) := dk_167 0 4 (dk_at dksX6_findsSides_5 19 rfl rfl)
theorem dX6_findsSides_138 : decode cX6_findsSides 138 = .ok (.iconst 0, 1) := dk_3 (dk_at dksX6_findsSides_5 22 rfl rfl)
theorem dX6_findsSides_139 : decode cX6_findsSides 139 = .ok (.istore_n 3, 1) := dk_62 (dk_at dksX6_findsSides_5 23 rfl rfl)
theorem dX6_findsSides_140 : decode cX6_findsSides 140 = .ok (.iload_n 3, 1) := dk_29 (dk_at dksX6_findsSides_6 0 rfl rfl)
theorem dX6_findsSides_141 : decode cX6_findsSides 141 = .ok (.ifCond .eq 22, 3) := dk_153 0 22 (dk_at dksX6_findsSides_6 1 rfl rfl)
theorem dX6_findsSides_144 : decode cX6_findsSides 144 = .ok (.aload_n 1, 1) := dk_43 (dk_at dksX6_findsSides_6 4 rfl rfl)
theorem dX6_findsSides_145 : decode cX6_findsSides 145 = .ok (.getfield 236, 3) := dk_180 0 236 (dk_at dksX6_findsSides_6 5 rfl rfl)
theorem dX6_findsSides_148 : decode cX6_findsSides 148 = .ok (.aload_n 0, 1) := dk_42 (dk_at dksX6_findsSides_6 8 rfl rfl)
theorem dX6_findsSides_149 : decode cX6_findsSides 149 = .ok (.aload_n 1, 1) := dk_43 (dk_at dksX6_findsSides_6 9 rfl rfl)
theorem dX6_findsSides_150 : decode cX6_findsSides 150 = .ok (.iload_n 2, 1) := dk_28 (dk_at dksX6_findsSides_6 10 rfl rfl)
theorem dX6_findsSides_151 : decode cX6_findsSides 151 = .ok (.iload 4, 2) := dk_21 4 (dk_at dksX6_findsSides_6 11 rfl rfl)
theorem dX6_findsSides_153 : decode cX6_findsSides 153 = .ok (.invokevirtual 243, 3) := dk_182 0 243 (dk_at dksX6_findsSides_6 13 rfl rfl)
theorem dX6_findsSides_156 : decode cX6_findsSides 156 = .ok (.invokevirtual 78, 3) := dk_182 0 78 (dk_at dksX6_findsSides_6 16 rfl rfl)
theorem dX6_findsSides_159 : decode cX6_findsSides 159 = .ok (.pop, 1) := dk_87 (dk_at dksX6_findsSides_6 19 rfl rfl)
theorem dX6_findsSides_160 : decode cX6_findsSides 160 = .ok (.iload 4, 2) := dk_21 4 (dk_at dksX6_findsSides_6 20 rfl rfl)
theorem dX6_findsSides_162 : decode cX6_findsSides 162 = .ok (.istore_n 2, 1) := dk_61 (dk_at dksX6_findsSides_6 22 rfl rfl)
theorem dX6_findsSides_163 : decode cX6_findsSides 163 = .ok (.goto (-156), 3) := dk_167 255 100 (dk_at dksX6_findsSides_7 0 rfl rfl)
theorem dX6_findsSides_166 : decode cX6_findsSides 166 = .ok (.return_, 1) := dk_177 (dk_at dksX6_findsSides_7 3 rfl rfl)
abbrev cX6_sideOf : ByteArray := prog_16_method_10_code
def yX6_sideOf : MethodName := ⟨RX6, "sideOf", "(LTypesAtPrime$Knot;II)LTypesAtPrime$Side;"⟩
def dkwX6_sideOf_2 : List UInt8 := [181, 0, 254, 25, 4, 42, 43, 25, 4, 180, 0, 254, 182, 1, 1, 181, 0, 184, 25, 4, 176]
abbrev dktX6_sideOf_2 : List UInt8 := dkwX6_sideOf_2 ++ []
def dkwX6_sideOf_1 : List UInt8 := [25, 4, 43, 180, 0, 217, 25, 4, 180, 0, 135, 104, 25, 4, 180, 0, 250, 25, 4, 180, 0, 253, 108, 96]
abbrev dktX6_sideOf_1 : List UInt8 := dkwX6_sideOf_1 ++ dktX6_sideOf_2
def dkwX6_sideOf_0 : List UInt8 := [187, 0, 136, 89, 28, 29, 43, 180, 0, 204, 28, 46, 43, 180, 0, 204, 29, 46, 100, 183, 0, 247, 58, 4]
abbrev dktX6_sideOf_0 : List UInt8 := dkwX6_sideOf_0 ++ dktX6_sideOf_1
theorem dksX6_sideOf_0 : cX6_sideOf.data.toList.drop 0 = dktX6_sideOf_0 := by decide +kernel
theorem dksX6_sideOf_1 : cX6_sideOf.data.toList.drop 24 = dktX6_sideOf_1 := dk_seg dksX6_sideOf_0 24 rfl rfl
theorem dksX6_sideOf_2 : cX6_sideOf.data.toList.drop 48 = dktX6_sideOf_2 := dk_seg dksX6_sideOf_1 24 rfl rfl
theorem dX6_sideOf_0 : decode cX6_sideOf 0 = .ok (.new 136, 3) := dk_187 0 136 (dk_at dksX6_sideOf_0 0 rfl rfl)
theorem dX6_sideOf_3 : decode cX6_sideOf 3 = .ok (.dup, 1) := dk_89 (dk_at dksX6_sideOf_0 3 rfl rfl)
theorem dX6_sideOf_4 : decode cX6_sideOf 4 = .ok (.iload_n 2, 1) := dk_28 (dk_at dksX6_sideOf_0 4 rfl rfl)
theorem dX6_sideOf_5 : decode cX6_sideOf 5 = .ok (.iload_n 3, 1) := dk_29 (dk_at dksX6_sideOf_0 5 rfl rfl)
theorem dX6_sideOf_6 : decode cX6_sideOf 6 = .ok (.aload_n 1, 1) := dk_43 (dk_at dksX6_sideOf_0 6 rfl rfl)
theorem dX6_sideOf_7 : decode cX6_sideOf 7 = .ok (.getfield 204, 3) := dk_180 0 204 (dk_at dksX6_sideOf_0 7 rfl rfl)
theorem dX6_sideOf_10 : decode cX6_sideOf 10 = .ok (.iload_n 2, 1) := dk_28 (dk_at dksX6_sideOf_0 10 rfl rfl)
theorem dX6_sideOf_11 : decode cX6_sideOf 11 = .ok (.iaload, 1) := dk_46 (dk_at dksX6_sideOf_0 11 rfl rfl)
theorem dX6_sideOf_12 : decode cX6_sideOf 12 = .ok (.aload_n 1, 1) := dk_43 (dk_at dksX6_sideOf_0 12 rfl rfl)
theorem dX6_sideOf_13 : decode cX6_sideOf 13 = .ok (.getfield 204, 3) := dk_180 0 204 (dk_at dksX6_sideOf_0 13 rfl rfl)
theorem dX6_sideOf_16 : decode cX6_sideOf 16 = .ok (.iload_n 3, 1) := dk_29 (dk_at dksX6_sideOf_0 16 rfl rfl)
theorem dX6_sideOf_17 : decode cX6_sideOf 17 = .ok (.iaload, 1) := dk_46 (dk_at dksX6_sideOf_0 17 rfl rfl)
theorem dX6_sideOf_18 : decode cX6_sideOf 18 = .ok (.isub, 1) := dk_100 (dk_at dksX6_sideOf_0 18 rfl rfl)
theorem dX6_sideOf_19 : decode cX6_sideOf 19 = .ok (.invokespecial 247, 3) := dk_183 0 247 (dk_at dksX6_sideOf_0 19 rfl rfl)
theorem dX6_sideOf_22 : decode cX6_sideOf 22 = .ok (.astore 4, 2) := dk_58 4 (dk_at dksX6_sideOf_0 22 rfl rfl)
theorem dX6_sideOf_24 : decode cX6_sideOf 24 = .ok (.aload 4, 2) := dk_25 4 (dk_at dksX6_sideOf_1 0 rfl rfl)
theorem dX6_sideOf_26 : decode cX6_sideOf 26 = .ok (.aload_n 1, 1) := dk_43 (dk_at dksX6_sideOf_1 2 rfl rfl)
theorem dX6_sideOf_27 : decode cX6_sideOf 27 = .ok (.getfield 217, 3) := dk_180 0 217 (dk_at dksX6_sideOf_1 3 rfl rfl)
theorem dX6_sideOf_30 : decode cX6_sideOf 30 = .ok (.aload 4, 2) := dk_25 4 (dk_at dksX6_sideOf_1 6 rfl rfl)
theorem dX6_sideOf_32 : decode cX6_sideOf 32 = .ok (.getfield 135, 3) := dk_180 0 135 (dk_at dksX6_sideOf_1 8 rfl rfl)
theorem dX6_sideOf_35 : decode cX6_sideOf 35 = .ok (.imul, 1) := dk_104 (dk_at dksX6_sideOf_1 11 rfl rfl)
theorem dX6_sideOf_36 : decode cX6_sideOf 36 = .ok (.aload 4, 2) := dk_25 4 (dk_at dksX6_sideOf_1 12 rfl rfl)
theorem dX6_sideOf_38 : decode cX6_sideOf 38 = .ok (.getfield 250, 3) := dk_180 0 250 (dk_at dksX6_sideOf_1 14 rfl rfl)
theorem dX6_sideOf_41 : decode cX6_sideOf 41 = .ok (.aload 4, 2) := dk_25 4 (dk_at dksX6_sideOf_1 17 rfl rfl)
theorem dX6_sideOf_43 : decode cX6_sideOf 43 = .ok (.getfield 253, 3) := dk_180 0 253 (dk_at dksX6_sideOf_1 19 rfl rfl)
theorem dX6_sideOf_46 : decode cX6_sideOf 46 = .ok (.idiv, 1) := dk_108 (dk_at dksX6_sideOf_1 22 rfl rfl)
theorem dX6_sideOf_47 : decode cX6_sideOf 47 = .ok (.iadd, 1) := dk_96 (dk_at dksX6_sideOf_1 23 rfl rfl)
theorem dX6_sideOf_48 : decode cX6_sideOf 48 = .ok (.putfield 254, 3) := dk_181 0 254 (dk_at dksX6_sideOf_2 0 rfl rfl)
theorem dX6_sideOf_51 : decode cX6_sideOf 51 = .ok (.aload 4, 2) := dk_25 4 (dk_at dksX6_sideOf_2 3 rfl rfl)
theorem dX6_sideOf_53 : decode cX6_sideOf 53 = .ok (.aload_n 0, 1) := dk_42 (dk_at dksX6_sideOf_2 5 rfl rfl)
theorem dX6_sideOf_54 : decode cX6_sideOf 54 = .ok (.aload_n 1, 1) := dk_43 (dk_at dksX6_sideOf_2 6 rfl rfl)
theorem dX6_sideOf_55 : decode cX6_sideOf 55 = .ok (.aload 4, 2) := dk_25 4 (dk_at dksX6_sideOf_2 7 rfl rfl)
theorem dX6_sideOf_57 : decode cX6_sideOf 57 = .ok (.getfield 254, 3) := dk_180 0 254 (dk_at dksX6_sideOf_2 9 rfl rfl)
theorem dX6_sideOf_60 : decode cX6_sideOf 60 = .ok (.invokevirtual 257, 3) := dk_182 1 1 (dk_at dksX6_sideOf_2 12 rfl rfl)
theorem dX6_sideOf_63 : decode cX6_sideOf 63 = .ok (.putfield 184, 3) := dk_181 0 184 (dk_at dksX6_sideOf_2 15 rfl rfl)
theorem dX6_sideOf_66 : decode cX6_sideOf 66 = .ok (.aload 4, 2) := dk_25 4 (dk_at dksX6_sideOf_2 18 rfl rfl)
theorem dX6_sideOf_68 : decode cX6_sideOf 68 = .ok (.areturn, 1) := dk_176 (dk_at dksX6_sideOf_2 20 rfl rfl)
abbrev cX6_ofValue : ByteArray := prog_16_method_6_code
def yX6_ofValue : MethodName := ⟨RX6, "ofValue", "(LTypesAtPrime$Knot;I)LTypesAtPrime$Monomial;"⟩
def dkwX6_ofValue_3 : List UInt8 := [167, 255, 226, 132, 5, 255, 167, 255, 199, 45, 180, 0, 165, 3, 21, 4, 43, 180, 0, 152, 108, 79, 45, 176]
abbrev dktX6_ofValue_3 : List UInt8 := dkwX6_ofValue_3 ++ []
def dkwX6_ofValue_2 : List UInt8 := [21, 4, 43, 21, 5, 182, 0, 140, 100, 54, 4, 45, 180, 0, 165, 21, 5, 92, 46, 4, 96, 79]
abbrev dktX6_ofValue_2 : List UInt8 := dkwX6_ofValue_2 ++ dktX6_ofValue_3
def dkwX6_ofValue_1 : List UInt8 := [43, 180, 0, 152, 43, 21, 5, 182, 0, 120, 180, 0, 152, 108, 54, 6, 21, 4, 21, 6, 112, 153, 0, 28]
abbrev dktX6_ofValue_1 : List UInt8 := dkwX6_ofValue_1 ++ dktX6_ofValue_2
def dkwX6_ofValue_0 : List UInt8 := [187, 0, 162, 89, 183, 0, 164, 78, 28, 54, 4, 43, 180, 0, 181, 4, 100, 54, 5, 21, 5, 158, 0, 58]
abbrev dktX6_ofValue_0 : List UInt8 := dkwX6_ofValue_0 ++ dktX6_ofValue_1
theorem dksX6_ofValue_0 : cX6_ofValue.data.toList.drop 0 = dktX6_ofValue_0 := by decide +kernel
theorem dksX6_ofValue_1 : cX6_ofValue.data.toList.drop 24 = dktX6_ofValue_1 := dk_seg dksX6_ofValue_0 24 rfl rfl
theorem dksX6_ofValue_2 : cX6_ofValue.data.toList.drop 48 = dktX6_ofValue_2 := dk_seg dksX6_ofValue_1 24 rfl rfl
theorem dksX6_ofValue_3 : cX6_ofValue.data.toList.drop 70 = dktX6_ofValue_3 := dk_seg dksX6_ofValue_2 22 rfl rfl
theorem dX6_ofValue_0 : decode cX6_ofValue 0 = .ok (.new 162, 3) := dk_187 0 162 (dk_at dksX6_ofValue_0 0 rfl rfl)
theorem dX6_ofValue_3 : decode cX6_ofValue 3 = .ok (.dup, 1) := dk_89 (dk_at dksX6_ofValue_0 3 rfl rfl)
theorem dX6_ofValue_4 : decode cX6_ofValue 4 = .ok (.invokespecial 164, 3) := dk_183 0 164 (dk_at dksX6_ofValue_0 4 rfl rfl)
theorem dX6_ofValue_7 : decode cX6_ofValue 7 = .ok (.astore_n 3, 1) := dk_78 (dk_at dksX6_ofValue_0 7 rfl rfl)
theorem dX6_ofValue_8 : decode cX6_ofValue 8 = .ok (.iload_n 2, 1) := dk_28 (dk_at dksX6_ofValue_0 8 rfl rfl)
theorem dX6_ofValue_9 : decode cX6_ofValue 9 = .ok (.istore 4, 2) := dk_54 4 (dk_at dksX6_ofValue_0 9 rfl rfl)
theorem dX6_ofValue_11 : decode cX6_ofValue 11 = .ok (.aload_n 1, 1) := dk_43 (dk_at dksX6_ofValue_0 11 rfl rfl)
theorem dX6_ofValue_12 : decode cX6_ofValue 12 = .ok (.getfield 181, 3) := dk_180 0 181 (dk_at dksX6_ofValue_0 12 rfl rfl)
theorem dX6_ofValue_15 : decode cX6_ofValue 15 = .ok (.iconst 1, 1) := dk_4 (dk_at dksX6_ofValue_0 15 rfl rfl)
theorem dX6_ofValue_16 : decode cX6_ofValue 16 = .ok (.isub, 1) := dk_100 (dk_at dksX6_ofValue_0 16 rfl rfl)
theorem dX6_ofValue_17 : decode cX6_ofValue 17 = .ok (.istore 5, 2) := dk_54 5 (dk_at dksX6_ofValue_0 17 rfl rfl)
theorem dX6_ofValue_19 : decode cX6_ofValue 19 = .ok (.iload 5, 2) := dk_21 5 (dk_at dksX6_ofValue_0 19 rfl rfl)
theorem dX6_ofValue_21 : decode cX6_ofValue 21 = .ok (.ifCond .le 58, 3) := dk_158 0 58 (dk_at dksX6_ofValue_0 21 rfl rfl)
theorem dX6_ofValue_24 : decode cX6_ofValue 24 = .ok (.aload_n 1, 1) := dk_43 (dk_at dksX6_ofValue_1 0 rfl rfl)
theorem dX6_ofValue_25 : decode cX6_ofValue 25 = .ok (.getfield 152, 3) := dk_180 0 152 (dk_at dksX6_ofValue_1 1 rfl rfl)
theorem dX6_ofValue_28 : decode cX6_ofValue 28 = .ok (.aload_n 1, 1) := dk_43 (dk_at dksX6_ofValue_1 4 rfl rfl)
theorem dX6_ofValue_29 : decode cX6_ofValue 29 = .ok (.iload 5, 2) := dk_21 5 (dk_at dksX6_ofValue_1 5 rfl rfl)
theorem dX6_ofValue_31 : decode cX6_ofValue 31 = .ok (.invokevirtual 120, 3) := dk_182 0 120 (dk_at dksX6_ofValue_1 7 rfl rfl)
theorem dX6_ofValue_34 : decode cX6_ofValue 34 = .ok (.getfield 152, 3) := dk_180 0 152 (dk_at dksX6_ofValue_1 10 rfl rfl)
theorem dX6_ofValue_37 : decode cX6_ofValue 37 = .ok (.idiv, 1) := dk_108 (dk_at dksX6_ofValue_1 13 rfl rfl)
theorem dX6_ofValue_38 : decode cX6_ofValue 38 = .ok (.istore 6, 2) := dk_54 6 (dk_at dksX6_ofValue_1 14 rfl rfl)
theorem dX6_ofValue_40 : decode cX6_ofValue 40 = .ok (.iload 4, 2) := dk_21 4 (dk_at dksX6_ofValue_1 16 rfl rfl)
theorem dX6_ofValue_42 : decode cX6_ofValue 42 = .ok (.iload 6, 2) := dk_21 6 (dk_at dksX6_ofValue_1 18 rfl rfl)
theorem dX6_ofValue_44 : decode cX6_ofValue 44 = .ok (.irem, 1) := dk_112 (dk_at dksX6_ofValue_1 20 rfl rfl)
theorem dX6_ofValue_45 : decode cX6_ofValue 45 = .ok (.ifCond .eq 28, 3) := dk_153 0 28 (dk_at dksX6_ofValue_1 21 rfl rfl)
theorem dX6_ofValue_48 : decode cX6_ofValue 48 = .ok (.iload 4, 2) := dk_21 4 (dk_at dksX6_ofValue_2 0 rfl rfl)
theorem dX6_ofValue_50 : decode cX6_ofValue 50 = .ok (.aload_n 1, 1) := dk_43 (dk_at dksX6_ofValue_2 2 rfl rfl)
theorem dX6_ofValue_51 : decode cX6_ofValue 51 = .ok (.iload 5, 2) := dk_21 5 (dk_at dksX6_ofValue_2 3 rfl rfl)
theorem dX6_ofValue_53 : decode cX6_ofValue 53 = .ok (.invokevirtual 140, 3) := dk_182 0 140 (dk_at dksX6_ofValue_2 5 rfl rfl)
theorem dX6_ofValue_56 : decode cX6_ofValue 56 = .ok (.isub, 1) := dk_100 (dk_at dksX6_ofValue_2 8 rfl rfl)
theorem dX6_ofValue_57 : decode cX6_ofValue 57 = .ok (.istore 4, 2) := dk_54 4 (dk_at dksX6_ofValue_2 9 rfl rfl)
theorem dX6_ofValue_59 : decode cX6_ofValue 59 = .ok (.aload_n 3, 1) := dk_45 (dk_at dksX6_ofValue_2 11 rfl rfl)
theorem dX6_ofValue_60 : decode cX6_ofValue 60 = .ok (.getfield 165, 3) := dk_180 0 165 (dk_at dksX6_ofValue_2 12 rfl rfl)
theorem dX6_ofValue_63 : decode cX6_ofValue 63 = .ok (.iload 5, 2) := dk_21 5 (dk_at dksX6_ofValue_2 15 rfl rfl)
theorem dX6_ofValue_65 : decode cX6_ofValue 65 = .ok (.dup2, 1) := dk_92 (dk_at dksX6_ofValue_2 17 rfl rfl)
theorem dX6_ofValue_66 : decode cX6_ofValue 66 = .ok (.iaload, 1) := dk_46 (dk_at dksX6_ofValue_2 18 rfl rfl)
theorem dX6_ofValue_67 : decode cX6_ofValue 67 = .ok (.iconst 1, 1) := dk_4 (dk_at dksX6_ofValue_2 19 rfl rfl)
theorem dX6_ofValue_68 : decode cX6_ofValue 68 = .ok (.iadd, 1) := dk_96 (dk_at dksX6_ofValue_2 20 rfl rfl)
theorem dX6_ofValue_69 : decode cX6_ofValue 69 = .ok (.iastore, 1) := dk_79 (dk_at dksX6_ofValue_2 21 rfl rfl)
theorem dX6_ofValue_70 : decode cX6_ofValue 70 = .ok (.goto (-30), 3) := dk_167 255 226 (dk_at dksX6_ofValue_3 0 rfl rfl)
theorem dX6_ofValue_73 : decode cX6_ofValue 73 = .ok (.iinc 5 (-1), 3) := dk_132 5 255 (dk_at dksX6_ofValue_3 3 rfl rfl)
theorem dX6_ofValue_76 : decode cX6_ofValue 76 = .ok (.goto (-57), 3) := dk_167 255 199 (dk_at dksX6_ofValue_3 6 rfl rfl)
theorem dX6_ofValue_79 : decode cX6_ofValue 79 = .ok (.aload_n 3, 1) := dk_45 (dk_at dksX6_ofValue_3 9 rfl rfl)
theorem dX6_ofValue_80 : decode cX6_ofValue 80 = .ok (.getfield 165, 3) := dk_180 0 165 (dk_at dksX6_ofValue_3 10 rfl rfl)
theorem dX6_ofValue_83 : decode cX6_ofValue 83 = .ok (.iconst 0, 1) := dk_3 (dk_at dksX6_ofValue_3 13 rfl rfl)
theorem dX6_ofValue_84 : decode cX6_ofValue 84 = .ok (.iload 4, 2) := dk_21 4 (dk_at dksX6_ofValue_3 14 rfl rfl)
theorem dX6_ofValue_86 : decode cX6_ofValue 86 = .ok (.aload_n 1, 1) := dk_43 (dk_at dksX6_ofValue_3 16 rfl rfl)
theorem dX6_ofValue_87 : decode cX6_ofValue 87 = .ok (.getfield 152, 3) := dk_180 0 152 (dk_at dksX6_ofValue_3 17 rfl rfl)
theorem dX6_ofValue_90 : decode cX6_ofValue 90 = .ok (.idiv, 1) := dk_108 (dk_at dksX6_ofValue_3 20 rfl rfl)
theorem dX6_ofValue_91 : decode cX6_ofValue 91 = .ok (.iastore, 1) := dk_79 (dk_at dksX6_ofValue_3 21 rfl rfl)
theorem dX6_ofValue_92 : decode cX6_ofValue 92 = .ok (.aload_n 3, 1) := dk_45 (dk_at dksX6_ofValue_3 22 rfl rfl)
theorem dX6_ofValue_93 : decode cX6_ofValue 93 = .ok (.areturn, 1) := dk_176 (dk_at dksX6_ofValue_3 23 rfl rfl)
abbrev cX6_pointsBelow : ByteArray := prog_16_method_11_code
def yX6_pointsBelow : MethodName := ⟨RX6, "pointsBelow", "(LTypesAtPrime$Knot;)I"⟩
def dkwX6_pointsBelow_6 : List UInt8 := [21, 7, 21, 5, 100, 184, 1, 15, 96, 61, 132, 6, 1, 167, 255, 178, 167, 255, 115, 28, 172]
abbrev dktX6_pointsBelow_6 : List UInt8 := dkwX6_pointsBelow_6 ++ []
def dkwX6_pointsBelow_5 : List UInt8 := [180, 1, 12, 100, 104, 100, 25, 4, 180, 1, 9, 25, 4, 180, 1, 12, 100, 184, 1, 19, 54, 7, 28, 3]
abbrev dktX6_pointsBelow_5 : List UInt8 := dkwX6_pointsBelow_5 ++ dktX6_pointsBelow_6
def dkwX6_pointsBelow_4 : List UInt8 := [46, 25, 4, 180, 1, 9, 25, 4, 180, 1, 12, 100, 104, 25, 4, 180, 0, 250, 21, 6, 25, 4]
abbrev dktX6_pointsBelow_4 : List UInt8 := dkwX6_pointsBelow_4 ++ dktX6_pointsBelow_5
def dkwX6_pointsBelow_3 : List UInt8 := [184, 1, 15, 54, 6, 21, 6, 25, 4, 180, 1, 9, 162, 0, 74, 43, 180, 0, 204, 25, 4, 180, 1, 12]
abbrev dktX6_pointsBelow_3 : List UInt8 := dkwX6_pointsBelow_3 ++ dktX6_pointsBelow_4
def dkwX6_pointsBelow_2 : List UInt8 := [182, 0, 100, 4, 100, 182, 1, 5, 192, 0, 136, 180, 1, 9, 46, 54, 5, 25, 4, 180, 1, 12, 4]
abbrev dktX6_pointsBelow_2 : List UInt8 := dkwX6_pointsBelow_2 ++ dktX6_pointsBelow_3
def dkwX6_pointsBelow_1 : List UInt8 := [185, 0, 63, 1, 0, 192, 0, 136, 58, 4, 43, 180, 0, 204, 43, 180, 0, 236, 43, 180, 0, 236]
abbrev dktX6_pointsBelow_1 : List UInt8 := dkwX6_pointsBelow_1 ++ dktX6_pointsBelow_2
def dkwX6_pointsBelow_0 : List UInt8 := [3, 61, 43, 180, 0, 236, 182, 0, 53, 78, 45, 185, 0, 57, 1, 0, 153, 0, 138, 45]
abbrev dktX6_pointsBelow_0 : List UInt8 := dkwX6_pointsBelow_0 ++ dktX6_pointsBelow_1
theorem dksX6_pointsBelow_0 : cX6_pointsBelow.data.toList.drop 0 = dktX6_pointsBelow_0 := by decide +kernel
theorem dksX6_pointsBelow_1 : cX6_pointsBelow.data.toList.drop 20 = dktX6_pointsBelow_1 := dk_seg dksX6_pointsBelow_0 20 rfl rfl
theorem dksX6_pointsBelow_2 : cX6_pointsBelow.data.toList.drop 42 = dktX6_pointsBelow_2 := dk_seg dksX6_pointsBelow_1 22 rfl rfl
theorem dksX6_pointsBelow_3 : cX6_pointsBelow.data.toList.drop 65 = dktX6_pointsBelow_3 := dk_seg dksX6_pointsBelow_2 23 rfl rfl
theorem dksX6_pointsBelow_4 : cX6_pointsBelow.data.toList.drop 89 = dktX6_pointsBelow_4 := dk_seg dksX6_pointsBelow_3 24 rfl rfl
theorem dksX6_pointsBelow_5 : cX6_pointsBelow.data.toList.drop 111 = dktX6_pointsBelow_5 := dk_seg dksX6_pointsBelow_4 22 rfl rfl
theorem dksX6_pointsBelow_6 : cX6_pointsBelow.data.toList.drop 135 = dktX6_pointsBelow_6 := dk_seg dksX6_pointsBelow_5 24 rfl rfl
theorem dX6_pointsBelow_0 : decode cX6_pointsBelow 0 = .ok (.iconst 0, 1) := dk_3 (dk_at dksX6_pointsBelow_0 0 rfl rfl)
theorem dX6_pointsBelow_1 : decode cX6_pointsBelow 1 = .ok (.istore_n 2, 1) := dk_61 (dk_at dksX6_pointsBelow_0 1 rfl rfl)
theorem dX6_pointsBelow_2 : decode cX6_pointsBelow 2 = .ok (.aload_n 1, 1) := dk_43 (dk_at dksX6_pointsBelow_0 2 rfl rfl)
theorem dX6_pointsBelow_3 : decode cX6_pointsBelow 3 = .ok (.getfield 236, 3) := dk_180 0 236 (dk_at dksX6_pointsBelow_0 3 rfl rfl)
theorem dX6_pointsBelow_6 : decode cX6_pointsBelow 6 = .ok (.invokevirtual 53, 3) := dk_182 0 53 (dk_at dksX6_pointsBelow_0 6 rfl rfl)
theorem dX6_pointsBelow_9 : decode cX6_pointsBelow 9 = .ok (.astore_n 3, 1) := dk_78 (dk_at dksX6_pointsBelow_0 9 rfl rfl)
theorem dX6_pointsBelow_10 : decode cX6_pointsBelow 10 = .ok (.aload_n 3, 1) := dk_45 (dk_at dksX6_pointsBelow_0 10 rfl rfl)
theorem dX6_pointsBelow_11 : decode cX6_pointsBelow 11 = .ok (.invokeinterface 57 1, 5) := by decide +kernel
theorem dX6_pointsBelow_16 : decode cX6_pointsBelow 16 = .ok (.ifCond .eq 138, 3) := dk_153 0 138 (dk_at dksX6_pointsBelow_0 16 rfl rfl)
theorem dX6_pointsBelow_19 : decode cX6_pointsBelow 19 = .ok (.aload_n 3, 1) := dk_45 (dk_at dksX6_pointsBelow_0 19 rfl rfl)
theorem dX6_pointsBelow_20 : decode cX6_pointsBelow 20 = .ok (.invokeinterface 63 1, 5) := by decide +kernel
theorem dX6_pointsBelow_25 : decode cX6_pointsBelow 25 = .ok (.checkcast 136, 3) := dk_192 0 136 (dk_at dksX6_pointsBelow_1 5 rfl rfl)
theorem dX6_pointsBelow_28 : decode cX6_pointsBelow 28 = .ok (.astore 4, 2) := dk_58 4 (dk_at dksX6_pointsBelow_1 8 rfl rfl)
theorem dX6_pointsBelow_30 : decode cX6_pointsBelow 30 = .ok (.aload_n 1, 1) := dk_43 (dk_at dksX6_pointsBelow_1 10 rfl rfl)
theorem dX6_pointsBelow_31 : decode cX6_pointsBelow 31 = .ok (.getfield 204, 3) := dk_180 0 204 (dk_at dksX6_pointsBelow_1 11 rfl rfl)
theorem dX6_pointsBelow_34 : decode cX6_pointsBelow 34 = .ok (.aload_n 1, 1) := dk_43 (dk_at dksX6_pointsBelow_1 14 rfl rfl)
theorem dX6_pointsBelow_35 : decode cX6_pointsBelow 35 = .ok (.getfield 236, 3) := dk_180 0 236 (dk_at dksX6_pointsBelow_1 15 rfl rfl)
theorem dX6_pointsBelow_38 : decode cX6_pointsBelow 38 = .ok (.aload_n 1, 1) := dk_43 (dk_at dksX6_pointsBelow_1 18 rfl rfl)
theorem dX6_pointsBelow_39 : decode cX6_pointsBelow 39 = .ok (.getfield 236, 3) := dk_180 0 236 (dk_at dksX6_pointsBelow_1 19 rfl rfl)
theorem dX6_pointsBelow_42 : decode cX6_pointsBelow 42 = .ok (.invokevirtual 100, 3) := dk_182 0 100 (dk_at dksX6_pointsBelow_2 0 rfl rfl)
theorem dX6_pointsBelow_45 : decode cX6_pointsBelow 45 = .ok (.iconst 1, 1) := dk_4 (dk_at dksX6_pointsBelow_2 3 rfl rfl)
theorem dX6_pointsBelow_46 : decode cX6_pointsBelow 46 = .ok (.isub, 1) := dk_100 (dk_at dksX6_pointsBelow_2 4 rfl rfl)
theorem dX6_pointsBelow_47 : decode cX6_pointsBelow 47 = .ok (.invokevirtual 261, 3) := dk_182 1 5 (dk_at dksX6_pointsBelow_2 5 rfl rfl)
theorem dX6_pointsBelow_50 : decode cX6_pointsBelow 50 = .ok (.checkcast 136, 3) := dk_192 0 136 (dk_at dksX6_pointsBelow_2 8 rfl rfl)
theorem dX6_pointsBelow_53 : decode cX6_pointsBelow 53 = .ok (.getfield 265, 3) := dk_180 1 9 (dk_at dksX6_pointsBelow_2 11 rfl rfl)
theorem dX6_pointsBelow_56 : decode cX6_pointsBelow 56 = .ok (.iaload, 1) := dk_46 (dk_at dksX6_pointsBelow_2 14 rfl rfl)
theorem dX6_pointsBelow_57 : decode cX6_pointsBelow 57 = .ok (.istore 5, 2) := dk_54 5 (dk_at dksX6_pointsBelow_2 15 rfl rfl)
theorem dX6_pointsBelow_59 : decode cX6_pointsBelow 59 = .ok (.aload 4, 2) := dk_25 4 (dk_at dksX6_pointsBelow_2 17 rfl rfl)
theorem dX6_pointsBelow_61 : decode cX6_pointsBelow 61 = .ok (.getfield 268, 3) := dk_180 1 12 (dk_at dksX6_pointsBelow_2 19 rfl rfl)
theorem dX6_pointsBelow_64 : decode cX6_pointsBelow 64 = .ok (.iconst 1, 1) := dk_4 (dk_at dksX6_pointsBelow_2 22 rfl rfl)
theorem dX6_pointsBelow_65 : decode cX6_pointsBelow 65 = .ok (.invokestatic 271, 3) := dk_184 1 15 (dk_at dksX6_pointsBelow_3 0 rfl rfl)
theorem dX6_pointsBelow_68 : decode cX6_pointsBelow 68 = .ok (.istore 6, 2) := dk_54 6 (dk_at dksX6_pointsBelow_3 3 rfl rfl)
theorem dX6_pointsBelow_70 : decode cX6_pointsBelow 70 = .ok (.iload 6, 2) := dk_21 6 (dk_at dksX6_pointsBelow_3 5 rfl rfl)
theorem dX6_pointsBelow_72 : decode cX6_pointsBelow 72 = .ok (.aload 4, 2) := dk_25 4 (dk_at dksX6_pointsBelow_3 7 rfl rfl)
theorem dX6_pointsBelow_74 : decode cX6_pointsBelow 74 = .ok (.getfield 265, 3) := dk_180 1 9 (dk_at dksX6_pointsBelow_3 9 rfl rfl)
theorem dX6_pointsBelow_77 : decode cX6_pointsBelow 77 = .ok (.if_icmp .ge 74, 3) := dk_162 0 74 (dk_at dksX6_pointsBelow_3 12 rfl rfl)
theorem dX6_pointsBelow_80 : decode cX6_pointsBelow 80 = .ok (.aload_n 1, 1) := dk_43 (dk_at dksX6_pointsBelow_3 15 rfl rfl)
theorem dX6_pointsBelow_81 : decode cX6_pointsBelow 81 = .ok (.getfield 204, 3) := dk_180 0 204 (dk_at dksX6_pointsBelow_3 16 rfl rfl)
theorem dX6_pointsBelow_84 : decode cX6_pointsBelow 84 = .ok (.aload 4, 2) := dk_25 4 (dk_at dksX6_pointsBelow_3 19 rfl rfl)
theorem dX6_pointsBelow_86 : decode cX6_pointsBelow 86 = .ok (.getfield 268, 3) := dk_180 1 12 (dk_at dksX6_pointsBelow_3 21 rfl rfl)
theorem dX6_pointsBelow_89 : decode cX6_pointsBelow 89 = .ok (.iaload, 1) := dk_46 (dk_at dksX6_pointsBelow_4 0 rfl rfl)
theorem dX6_pointsBelow_90 : decode cX6_pointsBelow 90 = .ok (.aload 4, 2) := dk_25 4 (dk_at dksX6_pointsBelow_4 1 rfl rfl)
theorem dX6_pointsBelow_92 : decode cX6_pointsBelow 92 = .ok (.getfield 265, 3) := dk_180 1 9 (dk_at dksX6_pointsBelow_4 3 rfl rfl)
theorem dX6_pointsBelow_95 : decode cX6_pointsBelow 95 = .ok (.aload 4, 2) := dk_25 4 (dk_at dksX6_pointsBelow_4 6 rfl rfl)
theorem dX6_pointsBelow_97 : decode cX6_pointsBelow 97 = .ok (.getfield 268, 3) := dk_180 1 12 (dk_at dksX6_pointsBelow_4 8 rfl rfl)
theorem dX6_pointsBelow_100 : decode cX6_pointsBelow 100 = .ok (.isub, 1) := dk_100 (dk_at dksX6_pointsBelow_4 11 rfl rfl)
theorem dX6_pointsBelow_101 : decode cX6_pointsBelow 101 = .ok (.imul, 1) := dk_104 (dk_at dksX6_pointsBelow_4 12 rfl rfl)
theorem dX6_pointsBelow_102 : decode cX6_pointsBelow 102 = .ok (.aload 4, 2) := dk_25 4 (dk_at dksX6_pointsBelow_4 13 rfl rfl)
theorem dX6_pointsBelow_104 : decode cX6_pointsBelow 104 = .ok (.getfield 250, 3) := dk_180 0 250 (dk_at dksX6_pointsBelow_4 15 rfl rfl)
theorem dX6_pointsBelow_107 : decode cX6_pointsBelow 107 = .ok (.iload 6, 2) := dk_21 6 (dk_at dksX6_pointsBelow_4 18 rfl rfl)
theorem dX6_pointsBelow_109 : decode cX6_pointsBelow 109 = .ok (.aload 4, 2) := dk_25 4 (dk_at dksX6_pointsBelow_4 20 rfl rfl)
theorem dX6_pointsBelow_111 : decode cX6_pointsBelow 111 = .ok (.getfield 268, 3) := dk_180 1 12 (dk_at dksX6_pointsBelow_5 0 rfl rfl)
theorem dX6_pointsBelow_114 : decode cX6_pointsBelow 114 = .ok (.isub, 1) := dk_100 (dk_at dksX6_pointsBelow_5 3 rfl rfl)
theorem dX6_pointsBelow_115 : decode cX6_pointsBelow 115 = .ok (.imul, 1) := dk_104 (dk_at dksX6_pointsBelow_5 4 rfl rfl)
theorem dX6_pointsBelow_116 : decode cX6_pointsBelow 116 = .ok (.isub, 1) := dk_100 (dk_at dksX6_pointsBelow_5 5 rfl rfl)
theorem dX6_pointsBelow_117 : decode cX6_pointsBelow 117 = .ok (.aload 4, 2) := dk_25 4 (dk_at dksX6_pointsBelow_5 6 rfl rfl)
theorem dX6_pointsBelow_119 : decode cX6_pointsBelow 119 = .ok (.getfield 265, 3) := dk_180 1 9 (dk_at dksX6_pointsBelow_5 8 rfl rfl)
theorem dX6_pointsBelow_122 : decode cX6_pointsBelow 122 = .ok (.aload 4, 2) := dk_25 4 (dk_at dksX6_pointsBelow_5 11 rfl rfl)
theorem dX6_pointsBelow_124 : decode cX6_pointsBelow 124 = .ok (.getfield 268, 3) := dk_180 1 12 (dk_at dksX6_pointsBelow_5 13 rfl rfl)
theorem dX6_pointsBelow_127 : decode cX6_pointsBelow 127 = .ok (.isub, 1) := dk_100 (dk_at dksX6_pointsBelow_5 16 rfl rfl)
theorem dX6_pointsBelow_128 : decode cX6_pointsBelow 128 = .ok (.invokestatic 275, 3) := dk_184 1 19 (dk_at dksX6_pointsBelow_5 17 rfl rfl)
theorem dX6_pointsBelow_131 : decode cX6_pointsBelow 131 = .ok (.istore 7, 2) := dk_54 7 (dk_at dksX6_pointsBelow_5 20 rfl rfl)
theorem dX6_pointsBelow_133 : decode cX6_pointsBelow 133 = .ok (.iload_n 2, 1) := dk_28 (dk_at dksX6_pointsBelow_5 22 rfl rfl)
theorem dX6_pointsBelow_134 : decode cX6_pointsBelow 134 = .ok (.iconst 0, 1) := dk_3 (dk_at dksX6_pointsBelow_5 23 rfl rfl)
theorem dX6_pointsBelow_135 : decode cX6_pointsBelow 135 = .ok (.iload 7, 2) := dk_21 7 (dk_at dksX6_pointsBelow_6 0 rfl rfl)
theorem dX6_pointsBelow_137 : decode cX6_pointsBelow 137 = .ok (.iload 5, 2) := dk_21 5 (dk_at dksX6_pointsBelow_6 2 rfl rfl)
theorem dX6_pointsBelow_139 : decode cX6_pointsBelow 139 = .ok (.isub, 1) := dk_100 (dk_at dksX6_pointsBelow_6 4 rfl rfl)
theorem dX6_pointsBelow_140 : decode cX6_pointsBelow 140 = .ok (.invokestatic 271, 3) := dk_184 1 15 (dk_at dksX6_pointsBelow_6 5 rfl rfl)
theorem dX6_pointsBelow_143 : decode cX6_pointsBelow 143 = .ok (.iadd, 1) := dk_96 (dk_at dksX6_pointsBelow_6 8 rfl rfl)
theorem dX6_pointsBelow_144 : decode cX6_pointsBelow 144 = .ok (.istore_n 2, 1) := dk_61 (dk_at dksX6_pointsBelow_6 9 rfl rfl)
theorem dX6_pointsBelow_145 : decode cX6_pointsBelow 145 = .ok (.iinc 6 1, 3) := dk_132 6 1 (dk_at dksX6_pointsBelow_6 10 rfl rfl)
theorem dX6_pointsBelow_148 : decode cX6_pointsBelow 148 = .ok (.goto (-78), 3) := dk_167 255 178 (dk_at dksX6_pointsBelow_6 13 rfl rfl)
theorem dX6_pointsBelow_151 : decode cX6_pointsBelow 151 = .ok (.goto (-141), 3) := dk_167 255 115 (dk_at dksX6_pointsBelow_6 16 rfl rfl)
theorem dX6_pointsBelow_154 : decode cX6_pointsBelow 154 = .ok (.iload_n 2, 1) := dk_28 (dk_at dksX6_pointsBelow_6 19 rfl rfl)
theorem dX6_pointsBelow_155 : decode cX6_pointsBelow 155 = .ok (.ireturn, 1) := dk_172 (dk_at dksX6_pointsBelow_6 20 rfl rfl)
abbrev cX6_splits : ByteArray := prog_16_method_12_code
def yX6_splits : MethodName := ⟨RX6, "splits", "(LTypesAtPrime$Knot;LTypesAtPrime$Side;[LTypesAtPrime$Monomial;)V"⟩
def dkwX6_splits_17 : List UInt8 := [177]
abbrev dktX6_splits_17 : List UInt8 := dkwX6_splits_17 ++ []
def dkwX6_splits_16 : List UInt8 := [182, 1, 32, 25, 6, 180, 0, 69, 42, 180, 0, 18, 182, 0, 100, 183, 0, 104, 182, 0, 107, 167, 255, 44]
abbrev dktX6_splits_16 : List UInt8 := dkwX6_splits_16 ++ dktX6_splits_17
def dkwX6_splits_15 : List UInt8 := [180, 0, 3, 180, 0, 82, 25, 6, 180, 0, 85, 3, 46, 100, 42, 180, 0, 3, 180, 0, 82, 112]
abbrev dktX6_splits_15 : List UInt8 := dkwX6_splits_15 ++ dktX6_splits_16
def dkwX6_splits_14 : List UInt8 := [180, 0, 82, 25, 6, 180, 0, 85, 3, 46, 100, 42, 180, 0, 3, 180, 0, 82, 112, 42, 43, 44, 42]
abbrev dktX6_splits_14 : List UInt8 := dkwX6_splits_14 ++ dktX6_splits_15
def dkwX6_splits_13 : List UInt8 := [104, 183, 1, 31, 182, 0, 78, 87, 167, 0, 80, 42, 187, 0, 98, 89, 43, 44, 42, 180, 0, 3]
abbrev dktX6_splits_13 : List UInt8 := dkwX6_splits_13 ++ dktX6_splits_14
def dkwX6_splits_12 : List UInt8 := [180, 0, 181, 16, 6, 160, 0, 30, 42, 180, 0, 22, 187, 1, 29, 89, 43, 25, 6, 180, 0, 69, 21, 4]
abbrev dktX6_splits_12 : List UInt8 := dkwX6_splits_12 ++ dktX6_splits_13
def dkwX6_splits_11 : List UInt8 := [180, 0, 74, 25, 6, 180, 0, 69, 104, 21, 4, 104, 183, 0, 113, 182, 0, 78, 87, 167, 0, 116, 43]
abbrev dktX6_splits_11 : List UInt8 := dkwX6_splits_11 ++ dktX6_splits_12
def dkwX6_splits_10 : List UInt8 := [167, 0, 158, 25, 6, 180, 0, 74, 4, 164, 0, 36, 42, 180, 0, 22, 187, 0, 111, 89, 43, 25, 6]
abbrev dktX6_splits_10 : List UInt8 := dkwX6_splits_10 ++ dktX6_splits_11
def dkwX6_splits_9 : List UInt8 := [42, 180, 0, 22, 187, 0, 72, 89, 43, 21, 4, 25, 6, 180, 0, 74, 183, 0, 75, 182, 0, 78, 87]
abbrev dktX6_splits_9 : List UInt8 := dkwX6_splits_9 ++ dktX6_splits_10
def dkwX6_splits_8 : List UInt8 := [153, 0, 208, 25, 5, 185, 0, 63, 1, 0, 192, 0, 67, 58, 6, 25, 6, 180, 0, 69, 4, 160, 0, 29]
abbrev dktX6_splits_8 : List UInt8 := dkwX6_splits_8 ++ dktX6_splits_9
def dkwX6_splits_7 : List UInt8 := [180, 0, 3, 44, 180, 1, 22, 182, 0, 49, 182, 0, 53, 58, 5, 25, 5, 185, 0, 57, 1, 0]
abbrev dktX6_splits_7 : List UInt8 := dkwX6_splits_7 ++ dktX6_splits_8
def dkwX6_splits_6 : List UInt8 := [25, 7, 180, 0, 178, 79, 132, 4, 1, 167, 255, 115, 43, 180, 0, 152, 44, 180, 0, 135, 104, 54, 4, 42]
abbrev dktX6_splits_6 : List UInt8 := dkwX6_splits_6 ++ dktX6_splits_7
def dkwX6_splits_5 : List UInt8 := [25, 7, 44, 180, 0, 184, 21, 4, 182, 0, 187, 42, 43, 25, 7, 182, 1, 25, 44, 180, 1, 22, 21, 4]
abbrev dktX6_splits_5 : List UInt8 := dkwX6_splits_5 ++ dktX6_splits_6
def dkwX6_splits_4 : List UInt8 := [58, 7, 25, 7, 45, 21, 5, 50, 4, 182, 0, 187, 25, 7, 45, 21, 5, 50, 180, 0, 178, 181, 0, 178]
abbrev dktX6_splits_4 : List UInt8 := dkwX6_splits_4 ++ dktX6_splits_5
def dkwX6_splits_3 : List UInt8 := [104, 160, 0, 7, 4, 167, 0, 4, 3, 54, 6, 21, 6, 153, 0, 64, 187, 0, 162, 89, 183, 0, 164]
abbrev dktX6_splits_3 : List UInt8 := dkwX6_splits_3 ++ dktX6_splits_4
def dkwX6_splits_2 : List UInt8 := [44, 180, 1, 12, 46, 43, 180, 0, 204, 21, 5, 46, 100, 44, 180, 0, 250, 44, 180, 0, 253, 108, 21, 4]
abbrev dktX6_splits_2 : List UInt8 := dkwX6_splits_2 ++ dktX6_splits_3
def dkwX6_splits_1 : List UInt8 := [21, 4, 44, 180, 0, 135, 104, 96, 54, 5, 43, 180, 0, 204, 21, 5, 46, 155, 0, 39, 43, 180, 0, 204]
abbrev dktX6_splits_1 : List UInt8 := dkwX6_splits_1 ++ dktX6_splits_2
def dkwX6_splits_0 : List UInt8 := [44, 16, 9, 188, 10, 181, 1, 22, 3, 54, 4, 21, 4, 44, 180, 0, 253, 163, 0, 138, 44, 180, 1, 12]
abbrev dktX6_splits_0 : List UInt8 := dkwX6_splits_0 ++ dktX6_splits_1
theorem dksX6_splits_0 : cX6_splits.data.toList.drop 0 = dktX6_splits_0 := by decide +kernel
theorem dksX6_splits_1 : cX6_splits.data.toList.drop 24 = dktX6_splits_1 := dk_seg dksX6_splits_0 24 rfl rfl
theorem dksX6_splits_2 : cX6_splits.data.toList.drop 48 = dktX6_splits_2 := dk_seg dksX6_splits_1 24 rfl rfl
theorem dksX6_splits_3 : cX6_splits.data.toList.drop 72 = dktX6_splits_3 := dk_seg dksX6_splits_2 24 rfl rfl
theorem dksX6_splits_4 : cX6_splits.data.toList.drop 95 = dktX6_splits_4 := dk_seg dksX6_splits_3 23 rfl rfl
theorem dksX6_splits_5 : cX6_splits.data.toList.drop 119 = dktX6_splits_5 := dk_seg dksX6_splits_4 24 rfl rfl
theorem dksX6_splits_6 : cX6_splits.data.toList.drop 143 = dktX6_splits_6 := dk_seg dksX6_splits_5 24 rfl rfl
theorem dksX6_splits_7 : cX6_splits.data.toList.drop 167 = dktX6_splits_7 := dk_seg dksX6_splits_6 24 rfl rfl
theorem dksX6_splits_8 : cX6_splits.data.toList.drop 189 = dktX6_splits_8 := dk_seg dksX6_splits_7 22 rfl rfl
theorem dksX6_splits_9 : cX6_splits.data.toList.drop 213 = dktX6_splits_9 := dk_seg dksX6_splits_8 24 rfl rfl
theorem dksX6_splits_10 : cX6_splits.data.toList.drop 236 = dktX6_splits_10 := dk_seg dksX6_splits_9 23 rfl rfl
theorem dksX6_splits_11 : cX6_splits.data.toList.drop 259 = dktX6_splits_11 := dk_seg dksX6_splits_10 23 rfl rfl
theorem dksX6_splits_12 : cX6_splits.data.toList.drop 282 = dktX6_splits_12 := dk_seg dksX6_splits_11 23 rfl rfl
theorem dksX6_splits_13 : cX6_splits.data.toList.drop 306 = dktX6_splits_13 := dk_seg dksX6_splits_12 24 rfl rfl
theorem dksX6_splits_14 : cX6_splits.data.toList.drop 328 = dktX6_splits_14 := dk_seg dksX6_splits_13 22 rfl rfl
theorem dksX6_splits_15 : cX6_splits.data.toList.drop 351 = dktX6_splits_15 := dk_seg dksX6_splits_14 23 rfl rfl
theorem dksX6_splits_16 : cX6_splits.data.toList.drop 373 = dktX6_splits_16 := dk_seg dksX6_splits_15 22 rfl rfl
theorem dksX6_splits_17 : cX6_splits.data.toList.drop 397 = dktX6_splits_17 := dk_seg dksX6_splits_16 24 rfl rfl
theorem dX6_splits_0 : decode cX6_splits 0 = .ok (.aload_n 2, 1) := dk_44 (dk_at dksX6_splits_0 0 rfl rfl)
theorem dX6_splits_1 : decode cX6_splits 1 = .ok (.bipush 9, 2) := dk_16 9 (dk_at dksX6_splits_0 1 rfl rfl)
theorem dX6_splits_3 : decode cX6_splits 3 = .ok (.newarray .int, 2) := dk_188_10 (dk_at dksX6_splits_0 3 rfl rfl)
theorem dX6_splits_5 : decode cX6_splits 5 = .ok (.putfield 278, 3) := dk_181 1 22 (dk_at dksX6_splits_0 5 rfl rfl)
theorem dX6_splits_8 : decode cX6_splits 8 = .ok (.iconst 0, 1) := dk_3 (dk_at dksX6_splits_0 8 rfl rfl)
theorem dX6_splits_9 : decode cX6_splits 9 = .ok (.istore 4, 2) := dk_54 4 (dk_at dksX6_splits_0 9 rfl rfl)
theorem dX6_splits_11 : decode cX6_splits 11 = .ok (.iload 4, 2) := dk_21 4 (dk_at dksX6_splits_0 11 rfl rfl)
theorem dX6_splits_13 : decode cX6_splits 13 = .ok (.aload_n 2, 1) := dk_44 (dk_at dksX6_splits_0 13 rfl rfl)
theorem dX6_splits_14 : decode cX6_splits 14 = .ok (.getfield 253, 3) := dk_180 0 253 (dk_at dksX6_splits_0 14 rfl rfl)
theorem dX6_splits_17 : decode cX6_splits 17 = .ok (.if_icmp .gt 138, 3) := dk_163 0 138 (dk_at dksX6_splits_0 17 rfl rfl)
theorem dX6_splits_20 : decode cX6_splits 20 = .ok (.aload_n 2, 1) := dk_44 (dk_at dksX6_splits_0 20 rfl rfl)
theorem dX6_splits_21 : decode cX6_splits 21 = .ok (.getfield 268, 3) := dk_180 1 12 (dk_at dksX6_splits_0 21 rfl rfl)
theorem dX6_splits_24 : decode cX6_splits 24 = .ok (.iload 4, 2) := dk_21 4 (dk_at dksX6_splits_1 0 rfl rfl)
theorem dX6_splits_26 : decode cX6_splits 26 = .ok (.aload_n 2, 1) := dk_44 (dk_at dksX6_splits_1 2 rfl rfl)
theorem dX6_splits_27 : decode cX6_splits 27 = .ok (.getfield 135, 3) := dk_180 0 135 (dk_at dksX6_splits_1 3 rfl rfl)
theorem dX6_splits_30 : decode cX6_splits 30 = .ok (.imul, 1) := dk_104 (dk_at dksX6_splits_1 6 rfl rfl)
theorem dX6_splits_31 : decode cX6_splits 31 = .ok (.iadd, 1) := dk_96 (dk_at dksX6_splits_1 7 rfl rfl)
theorem dX6_splits_32 : decode cX6_splits 32 = .ok (.istore 5, 2) := dk_54 5 (dk_at dksX6_splits_1 8 rfl rfl)
theorem dX6_splits_34 : decode cX6_splits 34 = .ok (.aload_n 1, 1) := dk_43 (dk_at dksX6_splits_1 10 rfl rfl)
theorem dX6_splits_35 : decode cX6_splits 35 = .ok (.getfield 204, 3) := dk_180 0 204 (dk_at dksX6_splits_1 11 rfl rfl)
theorem dX6_splits_38 : decode cX6_splits 38 = .ok (.iload 5, 2) := dk_21 5 (dk_at dksX6_splits_1 14 rfl rfl)
theorem dX6_splits_40 : decode cX6_splits 40 = .ok (.iaload, 1) := dk_46 (dk_at dksX6_splits_1 16 rfl rfl)
theorem dX6_splits_41 : decode cX6_splits 41 = .ok (.ifCond .lt 39, 3) := dk_155 0 39 (dk_at dksX6_splits_1 17 rfl rfl)
theorem dX6_splits_44 : decode cX6_splits 44 = .ok (.aload_n 1, 1) := dk_43 (dk_at dksX6_splits_1 20 rfl rfl)
theorem dX6_splits_45 : decode cX6_splits 45 = .ok (.getfield 204, 3) := dk_180 0 204 (dk_at dksX6_splits_1 21 rfl rfl)
theorem dX6_splits_48 : decode cX6_splits 48 = .ok (.aload_n 2, 1) := dk_44 (dk_at dksX6_splits_2 0 rfl rfl)
theorem dX6_splits_49 : decode cX6_splits 49 = .ok (.getfield 268, 3) := dk_180 1 12 (dk_at dksX6_splits_2 1 rfl rfl)
theorem dX6_splits_52 : decode cX6_splits 52 = .ok (.iaload, 1) := dk_46 (dk_at dksX6_splits_2 4 rfl rfl)
theorem dX6_splits_53 : decode cX6_splits 53 = .ok (.aload_n 1, 1) := dk_43 (dk_at dksX6_splits_2 5 rfl rfl)
theorem dX6_splits_54 : decode cX6_splits 54 = .ok (.getfield 204, 3) := dk_180 0 204 (dk_at dksX6_splits_2 6 rfl rfl)
theorem dX6_splits_57 : decode cX6_splits 57 = .ok (.iload 5, 2) := dk_21 5 (dk_at dksX6_splits_2 9 rfl rfl)
theorem dX6_splits_59 : decode cX6_splits 59 = .ok (.iaload, 1) := dk_46 (dk_at dksX6_splits_2 11 rfl rfl)
theorem dX6_splits_60 : decode cX6_splits 60 = .ok (.isub, 1) := dk_100 (dk_at dksX6_splits_2 12 rfl rfl)
theorem dX6_splits_61 : decode cX6_splits 61 = .ok (.aload_n 2, 1) := dk_44 (dk_at dksX6_splits_2 13 rfl rfl)
theorem dX6_splits_62 : decode cX6_splits 62 = .ok (.getfield 250, 3) := dk_180 0 250 (dk_at dksX6_splits_2 14 rfl rfl)
theorem dX6_splits_65 : decode cX6_splits 65 = .ok (.aload_n 2, 1) := dk_44 (dk_at dksX6_splits_2 17 rfl rfl)
theorem dX6_splits_66 : decode cX6_splits 66 = .ok (.getfield 253, 3) := dk_180 0 253 (dk_at dksX6_splits_2 18 rfl rfl)
theorem dX6_splits_69 : decode cX6_splits 69 = .ok (.idiv, 1) := dk_108 (dk_at dksX6_splits_2 21 rfl rfl)
theorem dX6_splits_70 : decode cX6_splits 70 = .ok (.iload 4, 2) := dk_21 4 (dk_at dksX6_splits_2 22 rfl rfl)
theorem dX6_splits_72 : decode cX6_splits 72 = .ok (.imul, 1) := dk_104 (dk_at dksX6_splits_3 0 rfl rfl)
theorem dX6_splits_73 : decode cX6_splits 73 = .ok (.if_icmp .ne 7, 3) := dk_160 0 7 (dk_at dksX6_splits_3 1 rfl rfl)
theorem dX6_splits_76 : decode cX6_splits 76 = .ok (.iconst 1, 1) := dk_4 (dk_at dksX6_splits_3 4 rfl rfl)
theorem dX6_splits_77 : decode cX6_splits 77 = .ok (.goto 4, 3) := dk_167 0 4 (dk_at dksX6_splits_3 5 rfl rfl)
theorem dX6_splits_80 : decode cX6_splits 80 = .ok (.iconst 0, 1) := dk_3 (dk_at dksX6_splits_3 8 rfl rfl)
theorem dX6_splits_81 : decode cX6_splits 81 = .ok (.istore 6, 2) := dk_54 6 (dk_at dksX6_splits_3 9 rfl rfl)
theorem dX6_splits_83 : decode cX6_splits 83 = .ok (.iload 6, 2) := dk_21 6 (dk_at dksX6_splits_3 11 rfl rfl)
theorem dX6_splits_85 : decode cX6_splits 85 = .ok (.ifCond .eq 64, 3) := dk_153 0 64 (dk_at dksX6_splits_3 13 rfl rfl)
theorem dX6_splits_88 : decode cX6_splits 88 = .ok (.new 162, 3) := dk_187 0 162 (dk_at dksX6_splits_3 16 rfl rfl)
theorem dX6_splits_91 : decode cX6_splits 91 = .ok (.dup, 1) := dk_89 (dk_at dksX6_splits_3 19 rfl rfl)
theorem dX6_splits_92 : decode cX6_splits 92 = .ok (.invokespecial 164, 3) := dk_183 0 164 (dk_at dksX6_splits_3 20 rfl rfl)
theorem dX6_splits_95 : decode cX6_splits 95 = .ok (.astore 7, 2) := dk_58 7 (dk_at dksX6_splits_4 0 rfl rfl)
theorem dX6_splits_97 : decode cX6_splits 97 = .ok (.aload 7, 2) := dk_25 7 (dk_at dksX6_splits_4 2 rfl rfl)
theorem dX6_splits_99 : decode cX6_splits 99 = .ok (.aload_n 3, 1) := dk_45 (dk_at dksX6_splits_4 4 rfl rfl)
theorem dX6_splits_100 : decode cX6_splits 100 = .ok (.iload 5, 2) := dk_21 5 (dk_at dksX6_splits_4 5 rfl rfl)
theorem dX6_splits_102 : decode cX6_splits 102 = .ok (.aaload, 1) := dk_50 (dk_at dksX6_splits_4 7 rfl rfl)
theorem dX6_splits_103 : decode cX6_splits 103 = .ok (.iconst 1, 1) := dk_4 (dk_at dksX6_splits_4 8 rfl rfl)
theorem dX6_splits_104 : decode cX6_splits 104 = .ok (.invokevirtual 187, 3) := dk_182 0 187 (dk_at dksX6_splits_4 9 rfl rfl)
theorem dX6_splits_107 : decode cX6_splits 107 = .ok (.aload 7, 2) := dk_25 7 (dk_at dksX6_splits_4 12 rfl rfl)
theorem dX6_splits_109 : decode cX6_splits 109 = .ok (.aload_n 3, 1) := dk_45 (dk_at dksX6_splits_4 14 rfl rfl)
theorem dX6_splits_110 : decode cX6_splits 110 = .ok (.iload 5, 2) := dk_21 5 (dk_at dksX6_splits_4 15 rfl rfl)
theorem dX6_splits_112 : decode cX6_splits 112 = .ok (.aaload, 1) := dk_50 (dk_at dksX6_splits_4 17 rfl rfl)
theorem dX6_splits_113 : decode cX6_splits 113 = .ok (.getfield 178, 3) := dk_180 0 178 (dk_at dksX6_splits_4 18 rfl rfl)
theorem dX6_splits_116 : decode cX6_splits 116 = .ok (.putfield 178, 3) := dk_181 0 178 (dk_at dksX6_splits_4 21 rfl rfl)
theorem dX6_splits_119 : decode cX6_splits 119 = .ok (.aload 7, 2) := dk_25 7 (dk_at dksX6_splits_5 0 rfl rfl)
theorem dX6_splits_121 : decode cX6_splits 121 = .ok (.aload_n 2, 1) := dk_44 (dk_at dksX6_splits_5 2 rfl rfl)
theorem dX6_splits_122 : decode cX6_splits 122 = .ok (.getfield 184, 3) := dk_180 0 184 (dk_at dksX6_splits_5 3 rfl rfl)
theorem dX6_splits_125 : decode cX6_splits 125 = .ok (.iload 4, 2) := dk_21 4 (dk_at dksX6_splits_5 6 rfl rfl)
theorem dX6_splits_127 : decode cX6_splits 127 = .ok (.invokevirtual 187, 3) := dk_182 0 187 (dk_at dksX6_splits_5 8 rfl rfl)
theorem dX6_splits_130 : decode cX6_splits 130 = .ok (.aload_n 0, 1) := dk_42 (dk_at dksX6_splits_5 11 rfl rfl)
theorem dX6_splits_131 : decode cX6_splits 131 = .ok (.aload_n 1, 1) := dk_43 (dk_at dksX6_splits_5 12 rfl rfl)
theorem dX6_splits_132 : decode cX6_splits 132 = .ok (.aload 7, 2) := dk_25 7 (dk_at dksX6_splits_5 13 rfl rfl)
theorem dX6_splits_134 : decode cX6_splits 134 = .ok (.invokevirtual 281, 3) := dk_182 1 25 (dk_at dksX6_splits_5 15 rfl rfl)
theorem dX6_splits_137 : decode cX6_splits 137 = .ok (.aload_n 2, 1) := dk_44 (dk_at dksX6_splits_5 18 rfl rfl)
theorem dX6_splits_138 : decode cX6_splits 138 = .ok (.getfield 278, 3) := dk_180 1 22 (dk_at dksX6_splits_5 19 rfl rfl)
theorem dX6_splits_141 : decode cX6_splits 141 = .ok (.iload 4, 2) := dk_21 4 (dk_at dksX6_splits_5 22 rfl rfl)
theorem dX6_splits_143 : decode cX6_splits 143 = .ok (.aload 7, 2) := dk_25 7 (dk_at dksX6_splits_6 0 rfl rfl)
theorem dX6_splits_145 : decode cX6_splits 145 = .ok (.getfield 178, 3) := dk_180 0 178 (dk_at dksX6_splits_6 2 rfl rfl)
theorem dX6_splits_148 : decode cX6_splits 148 = .ok (.iastore, 1) := dk_79 (dk_at dksX6_splits_6 5 rfl rfl)
theorem dX6_splits_149 : decode cX6_splits 149 = .ok (.iinc 4 1, 3) := dk_132 4 1 (dk_at dksX6_splits_6 6 rfl rfl)
theorem dX6_splits_152 : decode cX6_splits 152 = .ok (.goto (-141), 3) := dk_167 255 115 (dk_at dksX6_splits_6 9 rfl rfl)
theorem dX6_splits_155 : decode cX6_splits 155 = .ok (.aload_n 1, 1) := dk_43 (dk_at dksX6_splits_6 12 rfl rfl)
theorem dX6_splits_156 : decode cX6_splits 156 = .ok (.getfield 152, 3) := dk_180 0 152 (dk_at dksX6_splits_6 13 rfl rfl)
theorem dX6_splits_159 : decode cX6_splits 159 = .ok (.aload_n 2, 1) := dk_44 (dk_at dksX6_splits_6 16 rfl rfl)
theorem dX6_splits_160 : decode cX6_splits 160 = .ok (.getfield 135, 3) := dk_180 0 135 (dk_at dksX6_splits_6 17 rfl rfl)
theorem dX6_splits_163 : decode cX6_splits 163 = .ok (.imul, 1) := dk_104 (dk_at dksX6_splits_6 20 rfl rfl)
theorem dX6_splits_164 : decode cX6_splits 164 = .ok (.istore 4, 2) := dk_54 4 (dk_at dksX6_splits_6 21 rfl rfl)
theorem dX6_splits_166 : decode cX6_splits 166 = .ok (.aload_n 0, 1) := dk_42 (dk_at dksX6_splits_6 23 rfl rfl)
theorem dX6_splits_167 : decode cX6_splits 167 = .ok (.getfield 3, 3) := dk_180 0 3 (dk_at dksX6_splits_7 0 rfl rfl)
theorem dX6_splits_170 : decode cX6_splits 170 = .ok (.aload_n 2, 1) := dk_44 (dk_at dksX6_splits_7 3 rfl rfl)
theorem dX6_splits_171 : decode cX6_splits 171 = .ok (.getfield 278, 3) := dk_180 1 22 (dk_at dksX6_splits_7 4 rfl rfl)
theorem dX6_splits_174 : decode cX6_splits 174 = .ok (.invokevirtual 49, 3) := dk_182 0 49 (dk_at dksX6_splits_7 7 rfl rfl)
theorem dX6_splits_177 : decode cX6_splits 177 = .ok (.invokevirtual 53, 3) := dk_182 0 53 (dk_at dksX6_splits_7 10 rfl rfl)
theorem dX6_splits_180 : decode cX6_splits 180 = .ok (.astore 5, 2) := dk_58 5 (dk_at dksX6_splits_7 13 rfl rfl)
theorem dX6_splits_182 : decode cX6_splits 182 = .ok (.aload 5, 2) := dk_25 5 (dk_at dksX6_splits_7 15 rfl rfl)
theorem dX6_splits_184 : decode cX6_splits 184 = .ok (.invokeinterface 57 1, 5) := by decide +kernel
theorem dX6_splits_189 : decode cX6_splits 189 = .ok (.ifCond .eq 208, 3) := dk_153 0 208 (dk_at dksX6_splits_8 0 rfl rfl)
theorem dX6_splits_192 : decode cX6_splits 192 = .ok (.aload 5, 2) := dk_25 5 (dk_at dksX6_splits_8 3 rfl rfl)
theorem dX6_splits_194 : decode cX6_splits 194 = .ok (.invokeinterface 63 1, 5) := by decide +kernel
theorem dX6_splits_199 : decode cX6_splits 199 = .ok (.checkcast 67, 3) := dk_192 0 67 (dk_at dksX6_splits_8 10 rfl rfl)
theorem dX6_splits_202 : decode cX6_splits 202 = .ok (.astore 6, 2) := dk_58 6 (dk_at dksX6_splits_8 13 rfl rfl)
theorem dX6_splits_204 : decode cX6_splits 204 = .ok (.aload 6, 2) := dk_25 6 (dk_at dksX6_splits_8 15 rfl rfl)
theorem dX6_splits_206 : decode cX6_splits 206 = .ok (.getfield 69, 3) := dk_180 0 69 (dk_at dksX6_splits_8 17 rfl rfl)
theorem dX6_splits_209 : decode cX6_splits 209 = .ok (.iconst 1, 1) := dk_4 (dk_at dksX6_splits_8 20 rfl rfl)
theorem dX6_splits_210 : decode cX6_splits 210 = .ok (.if_icmp .ne 29, 3) := dk_160 0 29 (dk_at dksX6_splits_8 21 rfl rfl)
theorem dX6_splits_213 : decode cX6_splits 213 = .ok (.aload_n 0, 1) := dk_42 (dk_at dksX6_splits_9 0 rfl rfl)
theorem dX6_splits_214 : decode cX6_splits 214 = .ok (.getfield 22, 3) := dk_180 0 22 (dk_at dksX6_splits_9 1 rfl rfl)
theorem dX6_splits_217 : decode cX6_splits 217 = .ok (.new 72, 3) := dk_187 0 72 (dk_at dksX6_splits_9 4 rfl rfl)
theorem dX6_splits_220 : decode cX6_splits 220 = .ok (.dup, 1) := dk_89 (dk_at dksX6_splits_9 7 rfl rfl)
theorem dX6_splits_221 : decode cX6_splits 221 = .ok (.aload_n 1, 1) := dk_43 (dk_at dksX6_splits_9 8 rfl rfl)
theorem dX6_splits_222 : decode cX6_splits 222 = .ok (.iload 4, 2) := dk_21 4 (dk_at dksX6_splits_9 9 rfl rfl)
theorem dX6_splits_224 : decode cX6_splits 224 = .ok (.aload 6, 2) := dk_25 6 (dk_at dksX6_splits_9 11 rfl rfl)
theorem dX6_splits_226 : decode cX6_splits 226 = .ok (.getfield 74, 3) := dk_180 0 74 (dk_at dksX6_splits_9 13 rfl rfl)
theorem dX6_splits_229 : decode cX6_splits 229 = .ok (.invokespecial 75, 3) := dk_183 0 75 (dk_at dksX6_splits_9 16 rfl rfl)
theorem dX6_splits_232 : decode cX6_splits 232 = .ok (.invokevirtual 78, 3) := dk_182 0 78 (dk_at dksX6_splits_9 19 rfl rfl)
theorem dX6_splits_235 : decode cX6_splits 235 = .ok (.pop, 1) := dk_87 (dk_at dksX6_splits_9 22 rfl rfl)
theorem dX6_splits_236 : decode cX6_splits 236 = .ok (.goto 158, 3) := dk_167 0 158 (dk_at dksX6_splits_10 0 rfl rfl)
theorem dX6_splits_239 : decode cX6_splits 239 = .ok (.aload 6, 2) := dk_25 6 (dk_at dksX6_splits_10 3 rfl rfl)
theorem dX6_splits_241 : decode cX6_splits 241 = .ok (.getfield 74, 3) := dk_180 0 74 (dk_at dksX6_splits_10 5 rfl rfl)
theorem dX6_splits_244 : decode cX6_splits 244 = .ok (.iconst 1, 1) := dk_4 (dk_at dksX6_splits_10 8 rfl rfl)
theorem dX6_splits_245 : decode cX6_splits 245 = .ok (.if_icmp .le 36, 3) := dk_164 0 36 (dk_at dksX6_splits_10 9 rfl rfl)
theorem dX6_splits_248 : decode cX6_splits 248 = .ok (.aload_n 0, 1) := dk_42 (dk_at dksX6_splits_10 12 rfl rfl)
theorem dX6_splits_249 : decode cX6_splits 249 = .ok (.getfield 22, 3) := dk_180 0 22 (dk_at dksX6_splits_10 13 rfl rfl)
theorem dX6_splits_252 : decode cX6_splits 252 = .ok (.new 111, 3) := dk_187 0 111 (dk_at dksX6_splits_10 16 rfl rfl)
theorem dX6_splits_255 : decode cX6_splits 255 = .ok (.dup, 1) := dk_89 (dk_at dksX6_splits_10 19 rfl rfl)
theorem dX6_splits_256 : decode cX6_splits 256 = .ok (.aload_n 1, 1) := dk_43 (dk_at dksX6_splits_10 20 rfl rfl)
theorem dX6_splits_257 : decode cX6_splits 257 = .ok (.aload 6, 2) := dk_25 6 (dk_at dksX6_splits_10 21 rfl rfl)
theorem dX6_splits_259 : decode cX6_splits 259 = .ok (.getfield 74, 3) := dk_180 0 74 (dk_at dksX6_splits_11 0 rfl rfl)
theorem dX6_splits_262 : decode cX6_splits 262 = .ok (.aload 6, 2) := dk_25 6 (dk_at dksX6_splits_11 3 rfl rfl)
theorem dX6_splits_264 : decode cX6_splits 264 = .ok (.getfield 69, 3) := dk_180 0 69 (dk_at dksX6_splits_11 5 rfl rfl)
theorem dX6_splits_267 : decode cX6_splits 267 = .ok (.imul, 1) := dk_104 (dk_at dksX6_splits_11 8 rfl rfl)
theorem dX6_splits_268 : decode cX6_splits 268 = .ok (.iload 4, 2) := dk_21 4 (dk_at dksX6_splits_11 9 rfl rfl)
theorem dX6_splits_270 : decode cX6_splits 270 = .ok (.imul, 1) := dk_104 (dk_at dksX6_splits_11 11 rfl rfl)
theorem dX6_splits_271 : decode cX6_splits 271 = .ok (.invokespecial 113, 3) := dk_183 0 113 (dk_at dksX6_splits_11 12 rfl rfl)
theorem dX6_splits_274 : decode cX6_splits 274 = .ok (.invokevirtual 78, 3) := dk_182 0 78 (dk_at dksX6_splits_11 15 rfl rfl)
theorem dX6_splits_277 : decode cX6_splits 277 = .ok (.pop, 1) := dk_87 (dk_at dksX6_splits_11 18 rfl rfl)
theorem dX6_splits_278 : decode cX6_splits 278 = .ok (.goto 116, 3) := dk_167 0 116 (dk_at dksX6_splits_11 19 rfl rfl)
theorem dX6_splits_281 : decode cX6_splits 281 = .ok (.aload_n 1, 1) := dk_43 (dk_at dksX6_splits_11 22 rfl rfl)
theorem dX6_splits_282 : decode cX6_splits 282 = .ok (.getfield 181, 3) := dk_180 0 181 (dk_at dksX6_splits_12 0 rfl rfl)
theorem dX6_splits_285 : decode cX6_splits 285 = .ok (.bipush 6, 2) := dk_16 6 (dk_at dksX6_splits_12 3 rfl rfl)
theorem dX6_splits_287 : decode cX6_splits 287 = .ok (.if_icmp .ne 30, 3) := dk_160 0 30 (dk_at dksX6_splits_12 5 rfl rfl)
theorem dX6_splits_290 : decode cX6_splits 290 = .ok (.aload_n 0, 1) := dk_42 (dk_at dksX6_splits_12 8 rfl rfl)
theorem dX6_splits_291 : decode cX6_splits 291 = .ok (.getfield 22, 3) := dk_180 0 22 (dk_at dksX6_splits_12 9 rfl rfl)
theorem dX6_splits_294 : decode cX6_splits 294 = .ok (.new 285, 3) := dk_187 1 29 (dk_at dksX6_splits_12 12 rfl rfl)
theorem dX6_splits_297 : decode cX6_splits 297 = .ok (.dup, 1) := dk_89 (dk_at dksX6_splits_12 15 rfl rfl)
theorem dX6_splits_298 : decode cX6_splits 298 = .ok (.aload_n 1, 1) := dk_43 (dk_at dksX6_splits_12 16 rfl rfl)
theorem dX6_splits_299 : decode cX6_splits 299 = .ok (.aload 6, 2) := dk_25 6 (dk_at dksX6_splits_12 17 rfl rfl)
theorem dX6_splits_301 : decode cX6_splits 301 = .ok (.getfield 69, 3) := dk_180 0 69 (dk_at dksX6_splits_12 19 rfl rfl)
theorem dX6_splits_304 : decode cX6_splits 304 = .ok (.iload 4, 2) := dk_21 4 (dk_at dksX6_splits_12 22 rfl rfl)
theorem dX6_splits_306 : decode cX6_splits 306 = .ok (.imul, 1) := dk_104 (dk_at dksX6_splits_13 0 rfl rfl)
theorem dX6_splits_307 : decode cX6_splits 307 = .ok (.invokespecial 287, 3) := dk_183 1 31 (dk_at dksX6_splits_13 1 rfl rfl)
theorem dX6_splits_310 : decode cX6_splits 310 = .ok (.invokevirtual 78, 3) := dk_182 0 78 (dk_at dksX6_splits_13 4 rfl rfl)
theorem dX6_splits_313 : decode cX6_splits 313 = .ok (.pop, 1) := dk_87 (dk_at dksX6_splits_13 7 rfl rfl)
theorem dX6_splits_314 : decode cX6_splits 314 = .ok (.goto 80, 3) := dk_167 0 80 (dk_at dksX6_splits_13 8 rfl rfl)
theorem dX6_splits_317 : decode cX6_splits 317 = .ok (.aload_n 0, 1) := dk_42 (dk_at dksX6_splits_13 11 rfl rfl)
theorem dX6_splits_318 : decode cX6_splits 318 = .ok (.new 98, 3) := dk_187 0 98 (dk_at dksX6_splits_13 12 rfl rfl)
theorem dX6_splits_321 : decode cX6_splits 321 = .ok (.dup, 1) := dk_89 (dk_at dksX6_splits_13 15 rfl rfl)
theorem dX6_splits_322 : decode cX6_splits 322 = .ok (.aload_n 1, 1) := dk_43 (dk_at dksX6_splits_13 16 rfl rfl)
theorem dX6_splits_323 : decode cX6_splits 323 = .ok (.aload_n 2, 1) := dk_44 (dk_at dksX6_splits_13 17 rfl rfl)
theorem dX6_splits_324 : decode cX6_splits 324 = .ok (.aload_n 0, 1) := dk_42 (dk_at dksX6_splits_13 18 rfl rfl)
theorem dX6_splits_325 : decode cX6_splits 325 = .ok (.getfield 3, 3) := dk_180 0 3 (dk_at dksX6_splits_13 19 rfl rfl)
theorem dX6_splits_328 : decode cX6_splits 328 = .ok (.getfield 82, 3) := dk_180 0 82 (dk_at dksX6_splits_14 0 rfl rfl)
theorem dX6_splits_331 : decode cX6_splits 331 = .ok (.aload 6, 2) := dk_25 6 (dk_at dksX6_splits_14 3 rfl rfl)
theorem dX6_splits_333 : decode cX6_splits 333 = .ok (.getfield 85, 3) := dk_180 0 85 (dk_at dksX6_splits_14 5 rfl rfl)
theorem dX6_splits_336 : decode cX6_splits 336 = .ok (.iconst 0, 1) := dk_3 (dk_at dksX6_splits_14 8 rfl rfl)
theorem dX6_splits_337 : decode cX6_splits 337 = .ok (.iaload, 1) := dk_46 (dk_at dksX6_splits_14 9 rfl rfl)
theorem dX6_splits_338 : decode cX6_splits 338 = .ok (.isub, 1) := dk_100 (dk_at dksX6_splits_14 10 rfl rfl)
theorem dX6_splits_339 : decode cX6_splits 339 = .ok (.aload_n 0, 1) := dk_42 (dk_at dksX6_splits_14 11 rfl rfl)
theorem dX6_splits_340 : decode cX6_splits 340 = .ok (.getfield 3, 3) := dk_180 0 3 (dk_at dksX6_splits_14 12 rfl rfl)
theorem dX6_splits_343 : decode cX6_splits 343 = .ok (.getfield 82, 3) := dk_180 0 82 (dk_at dksX6_splits_14 15 rfl rfl)
theorem dX6_splits_346 : decode cX6_splits 346 = .ok (.irem, 1) := dk_112 (dk_at dksX6_splits_14 18 rfl rfl)
theorem dX6_splits_347 : decode cX6_splits 347 = .ok (.aload_n 0, 1) := dk_42 (dk_at dksX6_splits_14 19 rfl rfl)
theorem dX6_splits_348 : decode cX6_splits 348 = .ok (.aload_n 1, 1) := dk_43 (dk_at dksX6_splits_14 20 rfl rfl)
theorem dX6_splits_349 : decode cX6_splits 349 = .ok (.aload_n 2, 1) := dk_44 (dk_at dksX6_splits_14 21 rfl rfl)
theorem dX6_splits_350 : decode cX6_splits 350 = .ok (.aload_n 0, 1) := dk_42 (dk_at dksX6_splits_14 22 rfl rfl)
theorem dX6_splits_351 : decode cX6_splits 351 = .ok (.getfield 3, 3) := dk_180 0 3 (dk_at dksX6_splits_15 0 rfl rfl)
theorem dX6_splits_354 : decode cX6_splits 354 = .ok (.getfield 82, 3) := dk_180 0 82 (dk_at dksX6_splits_15 3 rfl rfl)
theorem dX6_splits_357 : decode cX6_splits 357 = .ok (.aload 6, 2) := dk_25 6 (dk_at dksX6_splits_15 6 rfl rfl)
theorem dX6_splits_359 : decode cX6_splits 359 = .ok (.getfield 85, 3) := dk_180 0 85 (dk_at dksX6_splits_15 8 rfl rfl)
theorem dX6_splits_362 : decode cX6_splits 362 = .ok (.iconst 0, 1) := dk_3 (dk_at dksX6_splits_15 11 rfl rfl)
theorem dX6_splits_363 : decode cX6_splits 363 = .ok (.iaload, 1) := dk_46 (dk_at dksX6_splits_15 12 rfl rfl)
theorem dX6_splits_364 : decode cX6_splits 364 = .ok (.isub, 1) := dk_100 (dk_at dksX6_splits_15 13 rfl rfl)
theorem dX6_splits_365 : decode cX6_splits 365 = .ok (.aload_n 0, 1) := dk_42 (dk_at dksX6_splits_15 14 rfl rfl)
theorem dX6_splits_366 : decode cX6_splits 366 = .ok (.getfield 3, 3) := dk_180 0 3 (dk_at dksX6_splits_15 15 rfl rfl)
theorem dX6_splits_369 : decode cX6_splits 369 = .ok (.getfield 82, 3) := dk_180 0 82 (dk_at dksX6_splits_15 18 rfl rfl)
theorem dX6_splits_372 : decode cX6_splits 372 = .ok (.irem, 1) := dk_112 (dk_at dksX6_splits_15 21 rfl rfl)
theorem dX6_splits_373 : decode cX6_splits 373 = .ok (.invokevirtual 288, 3) := dk_182 1 32 (dk_at dksX6_splits_16 0 rfl rfl)
theorem dX6_splits_376 : decode cX6_splits 376 = .ok (.aload 6, 2) := dk_25 6 (dk_at dksX6_splits_16 3 rfl rfl)
theorem dX6_splits_378 : decode cX6_splits 378 = .ok (.getfield 69, 3) := dk_180 0 69 (dk_at dksX6_splits_16 5 rfl rfl)
theorem dX6_splits_381 : decode cX6_splits 381 = .ok (.aload_n 0, 1) := dk_42 (dk_at dksX6_splits_16 8 rfl rfl)
theorem dX6_splits_382 : decode cX6_splits 382 = .ok (.getfield 18, 3) := dk_180 0 18 (dk_at dksX6_splits_16 9 rfl rfl)
theorem dX6_splits_385 : decode cX6_splits 385 = .ok (.invokevirtual 100, 3) := dk_182 0 100 (dk_at dksX6_splits_16 12 rfl rfl)
theorem dX6_splits_388 : decode cX6_splits 388 = .ok (.invokespecial 104, 3) := dk_183 0 104 (dk_at dksX6_splits_16 15 rfl rfl)
theorem dX6_splits_391 : decode cX6_splits 391 = .ok (.invokevirtual 107, 3) := dk_182 0 107 (dk_at dksX6_splits_16 18 rfl rfl)
theorem dX6_splits_394 : decode cX6_splits 394 = .ok (.goto (-212), 3) := dk_167 255 44 (dk_at dksX6_splits_16 21 rfl rfl)
theorem dX6_splits_397 : decode cX6_splits 397 = .ok (.return_, 1) := dk_177 (dk_at dksX6_splits_17 0 rfl rfl)
abbrev cX6_carries : ByteArray := prog_16_method_5_code
def yX6_carries : MethodName := ⟨RX6, "carries", "(LTypesAtPrime$Knot;LTypesAtPrime$Monomial;)V"⟩
def dkwX6_carries_3 : List UInt8 := [180, 0, 82, 112, 181, 0, 178, 167, 255, 196, 132, 3, 255, 167, 255, 179, 177]
abbrev dktX6_carries_3 : List UInt8 := dkwX6_carries_3 ++ []
def dkwX6_carries_2 : List UInt8 := [25, 4, 180, 0, 184, 4, 182, 0, 187, 44, 44, 180, 0, 178, 43, 29, 182, 0, 191, 104, 42, 180, 0, 3]
abbrev dktX6_carries_2 : List UInt8 := dkwX6_carries_2 ++ dktX6_carries_3
def dkwX6_carries_1 : List UInt8 := [25, 4, 180, 0, 135, 161, 0, 52, 44, 180, 0, 165, 29, 92, 46, 25, 4, 180, 0, 135, 100, 79, 44]
abbrev dktX6_carries_1 : List UInt8 := dkwX6_carries_1 ++ dktX6_carries_2
def dkwX6_carries_0 : List UInt8 := [43, 180, 0, 181, 4, 100, 62, 29, 158, 0, 79, 43, 29, 182, 0, 131, 58, 4, 44, 180, 0, 165, 29, 46]
abbrev dktX6_carries_0 : List UInt8 := dkwX6_carries_0 ++ dktX6_carries_1
theorem dksX6_carries_0 : cX6_carries.data.toList.drop 0 = dktX6_carries_0 := by decide +kernel
theorem dksX6_carries_1 : cX6_carries.data.toList.drop 24 = dktX6_carries_1 := dk_seg dksX6_carries_0 24 rfl rfl
theorem dksX6_carries_2 : cX6_carries.data.toList.drop 47 = dktX6_carries_2 := dk_seg dksX6_carries_1 23 rfl rfl
theorem dksX6_carries_3 : cX6_carries.data.toList.drop 71 = dktX6_carries_3 := dk_seg dksX6_carries_2 24 rfl rfl
theorem dX6_carries_0 : decode cX6_carries 0 = .ok (.aload_n 1, 1) := dk_43 (dk_at dksX6_carries_0 0 rfl rfl)
theorem dX6_carries_1 : decode cX6_carries 1 = .ok (.getfield 181, 3) := dk_180 0 181 (dk_at dksX6_carries_0 1 rfl rfl)
theorem dX6_carries_4 : decode cX6_carries 4 = .ok (.iconst 1, 1) := dk_4 (dk_at dksX6_carries_0 4 rfl rfl)
theorem dX6_carries_5 : decode cX6_carries 5 = .ok (.isub, 1) := dk_100 (dk_at dksX6_carries_0 5 rfl rfl)
theorem dX6_carries_6 : decode cX6_carries 6 = .ok (.istore_n 3, 1) := dk_62 (dk_at dksX6_carries_0 6 rfl rfl)
theorem dX6_carries_7 : decode cX6_carries 7 = .ok (.iload_n 3, 1) := dk_29 (dk_at dksX6_carries_0 7 rfl rfl)
theorem dX6_carries_8 : decode cX6_carries 8 = .ok (.ifCond .le 79, 3) := dk_158 0 79 (dk_at dksX6_carries_0 8 rfl rfl)
theorem dX6_carries_11 : decode cX6_carries 11 = .ok (.aload_n 1, 1) := dk_43 (dk_at dksX6_carries_0 11 rfl rfl)
theorem dX6_carries_12 : decode cX6_carries 12 = .ok (.iload_n 3, 1) := dk_29 (dk_at dksX6_carries_0 12 rfl rfl)
theorem dX6_carries_13 : decode cX6_carries 13 = .ok (.invokevirtual 131, 3) := dk_182 0 131 (dk_at dksX6_carries_0 13 rfl rfl)
theorem dX6_carries_16 : decode cX6_carries 16 = .ok (.astore 4, 2) := dk_58 4 (dk_at dksX6_carries_0 16 rfl rfl)
theorem dX6_carries_18 : decode cX6_carries 18 = .ok (.aload_n 2, 1) := dk_44 (dk_at dksX6_carries_0 18 rfl rfl)
theorem dX6_carries_19 : decode cX6_carries 19 = .ok (.getfield 165, 3) := dk_180 0 165 (dk_at dksX6_carries_0 19 rfl rfl)
theorem dX6_carries_22 : decode cX6_carries 22 = .ok (.iload_n 3, 1) := dk_29 (dk_at dksX6_carries_0 22 rfl rfl)
theorem dX6_carries_23 : decode cX6_carries 23 = .ok (.iaload, 1) := dk_46 (dk_at dksX6_carries_0 23 rfl rfl)
theorem dX6_carries_24 : decode cX6_carries 24 = .ok (.aload 4, 2) := dk_25 4 (dk_at dksX6_carries_1 0 rfl rfl)
theorem dX6_carries_26 : decode cX6_carries 26 = .ok (.getfield 135, 3) := dk_180 0 135 (dk_at dksX6_carries_1 2 rfl rfl)
theorem dX6_carries_29 : decode cX6_carries 29 = .ok (.if_icmp .lt 52, 3) := dk_161 0 52 (dk_at dksX6_carries_1 5 rfl rfl)
theorem dX6_carries_32 : decode cX6_carries 32 = .ok (.aload_n 2, 1) := dk_44 (dk_at dksX6_carries_1 8 rfl rfl)
theorem dX6_carries_33 : decode cX6_carries 33 = .ok (.getfield 165, 3) := dk_180 0 165 (dk_at dksX6_carries_1 9 rfl rfl)
theorem dX6_carries_36 : decode cX6_carries 36 = .ok (.iload_n 3, 1) := dk_29 (dk_at dksX6_carries_1 12 rfl rfl)
theorem dX6_carries_37 : decode cX6_carries 37 = .ok (.dup2, 1) := dk_92 (dk_at dksX6_carries_1 13 rfl rfl)
theorem dX6_carries_38 : decode cX6_carries 38 = .ok (.iaload, 1) := dk_46 (dk_at dksX6_carries_1 14 rfl rfl)
theorem dX6_carries_39 : decode cX6_carries 39 = .ok (.aload 4, 2) := dk_25 4 (dk_at dksX6_carries_1 15 rfl rfl)
theorem dX6_carries_41 : decode cX6_carries 41 = .ok (.getfield 135, 3) := dk_180 0 135 (dk_at dksX6_carries_1 17 rfl rfl)
theorem dX6_carries_44 : decode cX6_carries 44 = .ok (.isub, 1) := dk_100 (dk_at dksX6_carries_1 20 rfl rfl)
theorem dX6_carries_45 : decode cX6_carries 45 = .ok (.iastore, 1) := dk_79 (dk_at dksX6_carries_1 21 rfl rfl)
theorem dX6_carries_46 : decode cX6_carries 46 = .ok (.aload_n 2, 1) := dk_44 (dk_at dksX6_carries_1 22 rfl rfl)
theorem dX6_carries_47 : decode cX6_carries 47 = .ok (.aload 4, 2) := dk_25 4 (dk_at dksX6_carries_2 0 rfl rfl)
theorem dX6_carries_49 : decode cX6_carries 49 = .ok (.getfield 184, 3) := dk_180 0 184 (dk_at dksX6_carries_2 2 rfl rfl)
theorem dX6_carries_52 : decode cX6_carries 52 = .ok (.iconst 1, 1) := dk_4 (dk_at dksX6_carries_2 5 rfl rfl)
theorem dX6_carries_53 : decode cX6_carries 53 = .ok (.invokevirtual 187, 3) := dk_182 0 187 (dk_at dksX6_carries_2 6 rfl rfl)
theorem dX6_carries_56 : decode cX6_carries 56 = .ok (.aload_n 2, 1) := dk_44 (dk_at dksX6_carries_2 9 rfl rfl)
theorem dX6_carries_57 : decode cX6_carries 57 = .ok (.aload_n 2, 1) := dk_44 (dk_at dksX6_carries_2 10 rfl rfl)
theorem dX6_carries_58 : decode cX6_carries 58 = .ok (.getfield 178, 3) := dk_180 0 178 (dk_at dksX6_carries_2 11 rfl rfl)
theorem dX6_carries_61 : decode cX6_carries 61 = .ok (.aload_n 1, 1) := dk_43 (dk_at dksX6_carries_2 14 rfl rfl)
theorem dX6_carries_62 : decode cX6_carries 62 = .ok (.iload_n 3, 1) := dk_29 (dk_at dksX6_carries_2 15 rfl rfl)
theorem dX6_carries_63 : decode cX6_carries 63 = .ok (.invokevirtual 191, 3) := dk_182 0 191 (dk_at dksX6_carries_2 16 rfl rfl)
theorem dX6_carries_66 : decode cX6_carries 66 = .ok (.imul, 1) := dk_104 (dk_at dksX6_carries_2 19 rfl rfl)
theorem dX6_carries_67 : decode cX6_carries 67 = .ok (.aload_n 0, 1) := dk_42 (dk_at dksX6_carries_2 20 rfl rfl)
theorem dX6_carries_68 : decode cX6_carries 68 = .ok (.getfield 3, 3) := dk_180 0 3 (dk_at dksX6_carries_2 21 rfl rfl)
theorem dX6_carries_71 : decode cX6_carries 71 = .ok (.getfield 82, 3) := dk_180 0 82 (dk_at dksX6_carries_3 0 rfl rfl)
theorem dX6_carries_74 : decode cX6_carries 74 = .ok (.irem, 1) := dk_112 (dk_at dksX6_carries_3 3 rfl rfl)
theorem dX6_carries_75 : decode cX6_carries 75 = .ok (.putfield 178, 3) := dk_181 0 178 (dk_at dksX6_carries_3 4 rfl rfl)
theorem dX6_carries_78 : decode cX6_carries 78 = .ok (.goto (-60), 3) := dk_167 255 196 (dk_at dksX6_carries_3 7 rfl rfl)
theorem dX6_carries_81 : decode cX6_carries 81 = .ok (.iinc 3 (-1), 3) := dk_132 3 255 (dk_at dksX6_carries_3 10 rfl rfl)
theorem dX6_carries_84 : decode cX6_carries 84 = .ok (.goto (-77), 3) := dk_167 255 179 (dk_at dksX6_carries_3 13 rfl rfl)
theorem dX6_carries_87 : decode cX6_carries 87 = .ok (.return_, 1) := dk_177 (dk_at dksX6_carries_3 16 rfl rfl)
abbrev cX6_nextKey : ByteArray := prog_16_method_13_code
def yX6_nextKey : MethodName := ⟨RX6, "nextKey", "(LTypesAtPrime$Knot;LTypesAtPrime$Side;I)[J"⟩
def dkwX6_nextKey_4 : List UInt8 := [132, 6, 1, 167, 255, 217, 25, 4, 176]
abbrev dktX6_nextKey_4 : List UInt8 := dkwX6_nextKey_4 ++ []
def dkwX6_nextKey_3 : List UInt8 := [21, 6, 47, 29, 133, 25, 5, 21, 6, 47, 105, 101, 42, 180, 0, 3, 180, 0, 88, 184, 0, 92, 80]
abbrev dktX6_nextKey_3 : List UInt8 := dkwX6_nextKey_3 ++ dktX6_nextKey_4
def dkwX6_nextKey_2 : List UInt8 := [180, 0, 184, 182, 1, 36, 58, 5, 3, 54, 6, 21, 6, 16, 9, 162, 0, 38, 25, 4, 21, 6, 25, 4]
abbrev dktX6_nextKey_2 : List UInt8 := dkwX6_nextKey_2 ++ dktX6_nextKey_3
def dkwX6_nextKey_1 : List UInt8 := [180, 0, 3, 25, 4, 43, 180, 0, 124, 182, 0, 197, 58, 4, 132, 5, 1, 167, 255, 229, 42, 43, 44]
abbrev dktX6_nextKey_1 : List UInt8 := dkwX6_nextKey_1 ++ dktX6_nextKey_2
def dkwX6_nextKey_0 : List UInt8 := [16, 9, 188, 11, 58, 4, 25, 4, 3, 10, 80, 3, 54, 5, 21, 5, 44, 180, 0, 135, 162, 0, 24, 42]
abbrev dktX6_nextKey_0 : List UInt8 := dkwX6_nextKey_0 ++ dktX6_nextKey_1
theorem dksX6_nextKey_0 : cX6_nextKey.data.toList.drop 0 = dktX6_nextKey_0 := by decide +kernel
theorem dksX6_nextKey_1 : cX6_nextKey.data.toList.drop 24 = dktX6_nextKey_1 := dk_seg dksX6_nextKey_0 24 rfl rfl
theorem dksX6_nextKey_2 : cX6_nextKey.data.toList.drop 47 = dktX6_nextKey_2 := dk_seg dksX6_nextKey_1 23 rfl rfl
theorem dksX6_nextKey_3 : cX6_nextKey.data.toList.drop 71 = dktX6_nextKey_3 := dk_seg dksX6_nextKey_2 24 rfl rfl
theorem dksX6_nextKey_4 : cX6_nextKey.data.toList.drop 94 = dktX6_nextKey_4 := dk_seg dksX6_nextKey_3 23 rfl rfl
theorem dX6_nextKey_0 : decode cX6_nextKey 0 = .ok (.bipush 9, 2) := dk_16 9 (dk_at dksX6_nextKey_0 0 rfl rfl)
theorem dX6_nextKey_2 : decode cX6_nextKey 2 = .ok (.newarray .long, 2) := dk_188_11 (dk_at dksX6_nextKey_0 2 rfl rfl)
theorem dX6_nextKey_4 : decode cX6_nextKey 4 = .ok (.astore 4, 2) := dk_58 4 (dk_at dksX6_nextKey_0 4 rfl rfl)
theorem dX6_nextKey_6 : decode cX6_nextKey 6 = .ok (.aload 4, 2) := dk_25 4 (dk_at dksX6_nextKey_0 6 rfl rfl)
theorem dX6_nextKey_8 : decode cX6_nextKey 8 = .ok (.iconst 0, 1) := dk_3 (dk_at dksX6_nextKey_0 8 rfl rfl)
theorem dX6_nextKey_9 : decode cX6_nextKey 9 = .ok (.lconst 1, 1) := dk_10 (dk_at dksX6_nextKey_0 9 rfl rfl)
theorem dX6_nextKey_10 : decode cX6_nextKey 10 = .ok (.lastore, 1) := dk_80 (dk_at dksX6_nextKey_0 10 rfl rfl)
theorem dX6_nextKey_11 : decode cX6_nextKey 11 = .ok (.iconst 0, 1) := dk_3 (dk_at dksX6_nextKey_0 11 rfl rfl)
theorem dX6_nextKey_12 : decode cX6_nextKey 12 = .ok (.istore 5, 2) := dk_54 5 (dk_at dksX6_nextKey_0 12 rfl rfl)
theorem dX6_nextKey_14 : decode cX6_nextKey 14 = .ok (.iload 5, 2) := dk_21 5 (dk_at dksX6_nextKey_0 14 rfl rfl)
theorem dX6_nextKey_16 : decode cX6_nextKey 16 = .ok (.aload_n 2, 1) := dk_44 (dk_at dksX6_nextKey_0 16 rfl rfl)
theorem dX6_nextKey_17 : decode cX6_nextKey 17 = .ok (.getfield 135, 3) := dk_180 0 135 (dk_at dksX6_nextKey_0 17 rfl rfl)
theorem dX6_nextKey_20 : decode cX6_nextKey 20 = .ok (.if_icmp .ge 24, 3) := dk_162 0 24 (dk_at dksX6_nextKey_0 20 rfl rfl)
theorem dX6_nextKey_23 : decode cX6_nextKey 23 = .ok (.aload_n 0, 1) := dk_42 (dk_at dksX6_nextKey_0 23 rfl rfl)
theorem dX6_nextKey_24 : decode cX6_nextKey 24 = .ok (.getfield 3, 3) := dk_180 0 3 (dk_at dksX6_nextKey_1 0 rfl rfl)
theorem dX6_nextKey_27 : decode cX6_nextKey 27 = .ok (.aload 4, 2) := dk_25 4 (dk_at dksX6_nextKey_1 3 rfl rfl)
theorem dX6_nextKey_29 : decode cX6_nextKey 29 = .ok (.aload_n 1, 1) := dk_43 (dk_at dksX6_nextKey_1 5 rfl rfl)
theorem dX6_nextKey_30 : decode cX6_nextKey 30 = .ok (.getfield 124, 3) := dk_180 0 124 (dk_at dksX6_nextKey_1 6 rfl rfl)
theorem dX6_nextKey_33 : decode cX6_nextKey 33 = .ok (.invokevirtual 197, 3) := dk_182 0 197 (dk_at dksX6_nextKey_1 9 rfl rfl)
theorem dX6_nextKey_36 : decode cX6_nextKey 36 = .ok (.astore 4, 2) := dk_58 4 (dk_at dksX6_nextKey_1 12 rfl rfl)
theorem dX6_nextKey_38 : decode cX6_nextKey 38 = .ok (.iinc 5 1, 3) := dk_132 5 1 (dk_at dksX6_nextKey_1 14 rfl rfl)
theorem dX6_nextKey_41 : decode cX6_nextKey 41 = .ok (.goto (-27), 3) := dk_167 255 229 (dk_at dksX6_nextKey_1 17 rfl rfl)
theorem dX6_nextKey_44 : decode cX6_nextKey 44 = .ok (.aload_n 0, 1) := dk_42 (dk_at dksX6_nextKey_1 20 rfl rfl)
theorem dX6_nextKey_45 : decode cX6_nextKey 45 = .ok (.aload_n 1, 1) := dk_43 (dk_at dksX6_nextKey_1 21 rfl rfl)
theorem dX6_nextKey_46 : decode cX6_nextKey 46 = .ok (.aload_n 2, 1) := dk_44 (dk_at dksX6_nextKey_1 22 rfl rfl)
theorem dX6_nextKey_47 : decode cX6_nextKey 47 = .ok (.getfield 184, 3) := dk_180 0 184 (dk_at dksX6_nextKey_2 0 rfl rfl)
theorem dX6_nextKey_50 : decode cX6_nextKey 50 = .ok (.invokevirtual 292, 3) := dk_182 1 36 (dk_at dksX6_nextKey_2 3 rfl rfl)
theorem dX6_nextKey_53 : decode cX6_nextKey 53 = .ok (.astore 5, 2) := dk_58 5 (dk_at dksX6_nextKey_2 6 rfl rfl)
theorem dX6_nextKey_55 : decode cX6_nextKey 55 = .ok (.iconst 0, 1) := dk_3 (dk_at dksX6_nextKey_2 8 rfl rfl)
theorem dX6_nextKey_56 : decode cX6_nextKey 56 = .ok (.istore 6, 2) := dk_54 6 (dk_at dksX6_nextKey_2 9 rfl rfl)
theorem dX6_nextKey_58 : decode cX6_nextKey 58 = .ok (.iload 6, 2) := dk_21 6 (dk_at dksX6_nextKey_2 11 rfl rfl)
theorem dX6_nextKey_60 : decode cX6_nextKey 60 = .ok (.bipush 9, 2) := dk_16 9 (dk_at dksX6_nextKey_2 13 rfl rfl)
theorem dX6_nextKey_62 : decode cX6_nextKey 62 = .ok (.if_icmp .ge 38, 3) := dk_162 0 38 (dk_at dksX6_nextKey_2 15 rfl rfl)
theorem dX6_nextKey_65 : decode cX6_nextKey 65 = .ok (.aload 4, 2) := dk_25 4 (dk_at dksX6_nextKey_2 18 rfl rfl)
theorem dX6_nextKey_67 : decode cX6_nextKey 67 = .ok (.iload 6, 2) := dk_21 6 (dk_at dksX6_nextKey_2 20 rfl rfl)
theorem dX6_nextKey_69 : decode cX6_nextKey 69 = .ok (.aload 4, 2) := dk_25 4 (dk_at dksX6_nextKey_2 22 rfl rfl)
theorem dX6_nextKey_71 : decode cX6_nextKey 71 = .ok (.iload 6, 2) := dk_21 6 (dk_at dksX6_nextKey_3 0 rfl rfl)
theorem dX6_nextKey_73 : decode cX6_nextKey 73 = .ok (.laload, 1) := dk_47 (dk_at dksX6_nextKey_3 2 rfl rfl)
theorem dX6_nextKey_74 : decode cX6_nextKey 74 = .ok (.iload_n 3, 1) := dk_29 (dk_at dksX6_nextKey_3 3 rfl rfl)
theorem dX6_nextKey_75 : decode cX6_nextKey 75 = .ok (.i2l, 1) := dk_133 (dk_at dksX6_nextKey_3 4 rfl rfl)
theorem dX6_nextKey_76 : decode cX6_nextKey 76 = .ok (.aload 5, 2) := dk_25 5 (dk_at dksX6_nextKey_3 5 rfl rfl)
theorem dX6_nextKey_78 : decode cX6_nextKey 78 = .ok (.iload 6, 2) := dk_21 6 (dk_at dksX6_nextKey_3 7 rfl rfl)
theorem dX6_nextKey_80 : decode cX6_nextKey 80 = .ok (.laload, 1) := dk_47 (dk_at dksX6_nextKey_3 9 rfl rfl)
theorem dX6_nextKey_81 : decode cX6_nextKey 81 = .ok (.lmul, 1) := dk_105 (dk_at dksX6_nextKey_3 10 rfl rfl)
theorem dX6_nextKey_82 : decode cX6_nextKey 82 = .ok (.lsub, 1) := dk_101 (dk_at dksX6_nextKey_3 11 rfl rfl)
theorem dX6_nextKey_83 : decode cX6_nextKey 83 = .ok (.aload_n 0, 1) := dk_42 (dk_at dksX6_nextKey_3 12 rfl rfl)
theorem dX6_nextKey_84 : decode cX6_nextKey 84 = .ok (.getfield 3, 3) := dk_180 0 3 (dk_at dksX6_nextKey_3 13 rfl rfl)
theorem dX6_nextKey_87 : decode cX6_nextKey 87 = .ok (.getfield 88, 3) := dk_180 0 88 (dk_at dksX6_nextKey_3 16 rfl rfl)
theorem dX6_nextKey_90 : decode cX6_nextKey 90 = .ok (.invokestatic 92, 3) := dk_184 0 92 (dk_at dksX6_nextKey_3 19 rfl rfl)
theorem dX6_nextKey_93 : decode cX6_nextKey 93 = .ok (.lastore, 1) := dk_80 (dk_at dksX6_nextKey_3 22 rfl rfl)
theorem dX6_nextKey_94 : decode cX6_nextKey 94 = .ok (.iinc 6 1, 3) := dk_132 6 1 (dk_at dksX6_nextKey_4 0 rfl rfl)
theorem dX6_nextKey_97 : decode cX6_nextKey 97 = .ok (.goto (-39), 3) := dk_167 255 217 (dk_at dksX6_nextKey_4 3 rfl rfl)
theorem dX6_nextKey_100 : decode cX6_nextKey 100 = .ok (.aload 4, 2) := dk_25 4 (dk_at dksX6_nextKey_4 6 rfl rfl)
theorem dX6_nextKey_102 : decode cX6_nextKey 102 = .ok (.areturn, 1) := dk_176 (dk_at dksX6_nextKey_4 8 rfl rfl)
abbrev cX6_asNumbers : ByteArray := prog_16_method_7_code
def yX6_asNumbers : MethodName := ⟨RX6, "asNumbers", "(LTypesAtPrime$Knot;LTypesAtPrime$Monomial;)[J"⟩
def dkwX6_asNumbers_4 : List UInt8 := [132, 4, 1, 167, 255, 205, 45, 176]
abbrev dktX6_asNumbers_4 : List UInt8 := dkwX6_asNumbers_4 ++ []
def dkwX6_asNumbers_3 : List UInt8 := [42, 180, 0, 3, 45, 43, 21, 4, 182, 0, 120, 180, 0, 124, 182, 0, 197, 78, 132, 5, 1, 167, 255, 223]
abbrev dktX6_asNumbers_3 : List UInt8 := dkwX6_asNumbers_3 ++ dktX6_asNumbers_4
def dkwX6_asNumbers_2 : List UInt8 := [21, 4, 43, 180, 0, 181, 162, 0, 48, 3, 54, 5, 21, 5, 44, 180, 0, 165, 21, 4, 46, 162, 0, 27]
abbrev dktX6_asNumbers_2 : List UInt8 := dkwX6_asNumbers_2 ++ dktX6_asNumbers_3
def dkwX6_asNumbers_1 : List UInt8 := [167, 0, 20, 42, 180, 0, 3, 180, 0, 82, 133, 44, 180, 0, 165, 3, 46, 184, 0, 174, 80, 4, 54, 4]
abbrev dktX6_asNumbers_1 : List UInt8 := dkwX6_asNumbers_1 ++ dktX6_asNumbers_2
def dkwX6_asNumbers_0 : List UInt8 := [16, 9, 188, 11, 78, 45, 3, 44, 180, 0, 165, 3, 46, 42, 180, 0, 3, 182, 0, 194, 161, 0, 7, 9]
abbrev dktX6_asNumbers_0 : List UInt8 := dkwX6_asNumbers_0 ++ dktX6_asNumbers_1
theorem dksX6_asNumbers_0 : cX6_asNumbers.data.toList.drop 0 = dktX6_asNumbers_0 := by decide +kernel
theorem dksX6_asNumbers_1 : cX6_asNumbers.data.toList.drop 24 = dktX6_asNumbers_1 := dk_seg dksX6_asNumbers_0 24 rfl rfl
theorem dksX6_asNumbers_2 : cX6_asNumbers.data.toList.drop 48 = dktX6_asNumbers_2 := dk_seg dksX6_asNumbers_1 24 rfl rfl
theorem dksX6_asNumbers_3 : cX6_asNumbers.data.toList.drop 72 = dktX6_asNumbers_3 := dk_seg dksX6_asNumbers_2 24 rfl rfl
theorem dksX6_asNumbers_4 : cX6_asNumbers.data.toList.drop 96 = dktX6_asNumbers_4 := dk_seg dksX6_asNumbers_3 24 rfl rfl
theorem dX6_asNumbers_0 : decode cX6_asNumbers 0 = .ok (.bipush 9, 2) := dk_16 9 (dk_at dksX6_asNumbers_0 0 rfl rfl)
theorem dX6_asNumbers_2 : decode cX6_asNumbers 2 = .ok (.newarray .long, 2) := dk_188_11 (dk_at dksX6_asNumbers_0 2 rfl rfl)
theorem dX6_asNumbers_4 : decode cX6_asNumbers 4 = .ok (.astore_n 3, 1) := dk_78 (dk_at dksX6_asNumbers_0 4 rfl rfl)
theorem dX6_asNumbers_5 : decode cX6_asNumbers 5 = .ok (.aload_n 3, 1) := dk_45 (dk_at dksX6_asNumbers_0 5 rfl rfl)
theorem dX6_asNumbers_6 : decode cX6_asNumbers 6 = .ok (.iconst 0, 1) := dk_3 (dk_at dksX6_asNumbers_0 6 rfl rfl)
theorem dX6_asNumbers_7 : decode cX6_asNumbers 7 = .ok (.aload_n 2, 1) := dk_44 (dk_at dksX6_asNumbers_0 7 rfl rfl)
theorem dX6_asNumbers_8 : decode cX6_asNumbers 8 = .ok (.getfield 165, 3) := dk_180 0 165 (dk_at dksX6_asNumbers_0 8 rfl rfl)
theorem dX6_asNumbers_11 : decode cX6_asNumbers 11 = .ok (.iconst 0, 1) := dk_3 (dk_at dksX6_asNumbers_0 11 rfl rfl)
theorem dX6_asNumbers_12 : decode cX6_asNumbers 12 = .ok (.iaload, 1) := dk_46 (dk_at dksX6_asNumbers_0 12 rfl rfl)
theorem dX6_asNumbers_13 : decode cX6_asNumbers 13 = .ok (.aload_n 0, 1) := dk_42 (dk_at dksX6_asNumbers_0 13 rfl rfl)
theorem dX6_asNumbers_14 : decode cX6_asNumbers 14 = .ok (.getfield 3, 3) := dk_180 0 3 (dk_at dksX6_asNumbers_0 14 rfl rfl)
theorem dX6_asNumbers_17 : decode cX6_asNumbers 17 = .ok (.invokevirtual 194, 3) := dk_182 0 194 (dk_at dksX6_asNumbers_0 17 rfl rfl)
theorem dX6_asNumbers_20 : decode cX6_asNumbers 20 = .ok (.if_icmp .lt 7, 3) := dk_161 0 7 (dk_at dksX6_asNumbers_0 20 rfl rfl)
theorem dX6_asNumbers_23 : decode cX6_asNumbers 23 = .ok (.lconst 0, 1) := dk_9 (dk_at dksX6_asNumbers_0 23 rfl rfl)
theorem dX6_asNumbers_24 : decode cX6_asNumbers 24 = .ok (.goto 20, 3) := dk_167 0 20 (dk_at dksX6_asNumbers_1 0 rfl rfl)
theorem dX6_asNumbers_27 : decode cX6_asNumbers 27 = .ok (.aload_n 0, 1) := dk_42 (dk_at dksX6_asNumbers_1 3 rfl rfl)
theorem dX6_asNumbers_28 : decode cX6_asNumbers 28 = .ok (.getfield 3, 3) := dk_180 0 3 (dk_at dksX6_asNumbers_1 4 rfl rfl)
theorem dX6_asNumbers_31 : decode cX6_asNumbers 31 = .ok (.getfield 82, 3) := dk_180 0 82 (dk_at dksX6_asNumbers_1 7 rfl rfl)
theorem dX6_asNumbers_34 : decode cX6_asNumbers 34 = .ok (.i2l, 1) := dk_133 (dk_at dksX6_asNumbers_1 10 rfl rfl)
theorem dX6_asNumbers_35 : decode cX6_asNumbers 35 = .ok (.aload_n 2, 1) := dk_44 (dk_at dksX6_asNumbers_1 11 rfl rfl)
theorem dX6_asNumbers_36 : decode cX6_asNumbers 36 = .ok (.getfield 165, 3) := dk_180 0 165 (dk_at dksX6_asNumbers_1 12 rfl rfl)
theorem dX6_asNumbers_39 : decode cX6_asNumbers 39 = .ok (.iconst 0, 1) := dk_3 (dk_at dksX6_asNumbers_1 15 rfl rfl)
theorem dX6_asNumbers_40 : decode cX6_asNumbers 40 = .ok (.iaload, 1) := dk_46 (dk_at dksX6_asNumbers_1 16 rfl rfl)
theorem dX6_asNumbers_41 : decode cX6_asNumbers 41 = .ok (.invokestatic 174, 3) := dk_184 0 174 (dk_at dksX6_asNumbers_1 17 rfl rfl)
theorem dX6_asNumbers_44 : decode cX6_asNumbers 44 = .ok (.lastore, 1) := dk_80 (dk_at dksX6_asNumbers_1 20 rfl rfl)
theorem dX6_asNumbers_45 : decode cX6_asNumbers 45 = .ok (.iconst 1, 1) := dk_4 (dk_at dksX6_asNumbers_1 21 rfl rfl)
theorem dX6_asNumbers_46 : decode cX6_asNumbers 46 = .ok (.istore 4, 2) := dk_54 4 (dk_at dksX6_asNumbers_1 22 rfl rfl)
theorem dX6_asNumbers_48 : decode cX6_asNumbers 48 = .ok (.iload 4, 2) := dk_21 4 (dk_at dksX6_asNumbers_2 0 rfl rfl)
theorem dX6_asNumbers_50 : decode cX6_asNumbers 50 = .ok (.aload_n 1, 1) := dk_43 (dk_at dksX6_asNumbers_2 2 rfl rfl)
theorem dX6_asNumbers_51 : decode cX6_asNumbers 51 = .ok (.getfield 181, 3) := dk_180 0 181 (dk_at dksX6_asNumbers_2 3 rfl rfl)
theorem dX6_asNumbers_54 : decode cX6_asNumbers 54 = .ok (.if_icmp .ge 48, 3) := dk_162 0 48 (dk_at dksX6_asNumbers_2 6 rfl rfl)
theorem dX6_asNumbers_57 : decode cX6_asNumbers 57 = .ok (.iconst 0, 1) := dk_3 (dk_at dksX6_asNumbers_2 9 rfl rfl)
theorem dX6_asNumbers_58 : decode cX6_asNumbers 58 = .ok (.istore 5, 2) := dk_54 5 (dk_at dksX6_asNumbers_2 10 rfl rfl)
theorem dX6_asNumbers_60 : decode cX6_asNumbers 60 = .ok (.iload 5, 2) := dk_21 5 (dk_at dksX6_asNumbers_2 12 rfl rfl)
theorem dX6_asNumbers_62 : decode cX6_asNumbers 62 = .ok (.aload_n 2, 1) := dk_44 (dk_at dksX6_asNumbers_2 14 rfl rfl)
theorem dX6_asNumbers_63 : decode cX6_asNumbers 63 = .ok (.getfield 165, 3) := dk_180 0 165 (dk_at dksX6_asNumbers_2 15 rfl rfl)
theorem dX6_asNumbers_66 : decode cX6_asNumbers 66 = .ok (.iload 4, 2) := dk_21 4 (dk_at dksX6_asNumbers_2 18 rfl rfl)
theorem dX6_asNumbers_68 : decode cX6_asNumbers 68 = .ok (.iaload, 1) := dk_46 (dk_at dksX6_asNumbers_2 20 rfl rfl)
theorem dX6_asNumbers_69 : decode cX6_asNumbers 69 = .ok (.if_icmp .ge 27, 3) := dk_162 0 27 (dk_at dksX6_asNumbers_2 21 rfl rfl)
theorem dX6_asNumbers_72 : decode cX6_asNumbers 72 = .ok (.aload_n 0, 1) := dk_42 (dk_at dksX6_asNumbers_3 0 rfl rfl)
theorem dX6_asNumbers_73 : decode cX6_asNumbers 73 = .ok (.getfield 3, 3) := dk_180 0 3 (dk_at dksX6_asNumbers_3 1 rfl rfl)
theorem dX6_asNumbers_76 : decode cX6_asNumbers 76 = .ok (.aload_n 3, 1) := dk_45 (dk_at dksX6_asNumbers_3 4 rfl rfl)
theorem dX6_asNumbers_77 : decode cX6_asNumbers 77 = .ok (.aload_n 1, 1) := dk_43 (dk_at dksX6_asNumbers_3 5 rfl rfl)
theorem dX6_asNumbers_78 : decode cX6_asNumbers 78 = .ok (.iload 4, 2) := dk_21 4 (dk_at dksX6_asNumbers_3 6 rfl rfl)
theorem dX6_asNumbers_80 : decode cX6_asNumbers 80 = .ok (.invokevirtual 120, 3) := dk_182 0 120 (dk_at dksX6_asNumbers_3 8 rfl rfl)
theorem dX6_asNumbers_83 : decode cX6_asNumbers 83 = .ok (.getfield 124, 3) := dk_180 0 124 (dk_at dksX6_asNumbers_3 11 rfl rfl)
theorem dX6_asNumbers_86 : decode cX6_asNumbers 86 = .ok (.invokevirtual 197, 3) := dk_182 0 197 (dk_at dksX6_asNumbers_3 14 rfl rfl)
theorem dX6_asNumbers_89 : decode cX6_asNumbers 89 = .ok (.astore_n 3, 1) := dk_78 (dk_at dksX6_asNumbers_3 17 rfl rfl)
theorem dX6_asNumbers_90 : decode cX6_asNumbers 90 = .ok (.iinc 5 1, 3) := dk_132 5 1 (dk_at dksX6_asNumbers_3 18 rfl rfl)
theorem dX6_asNumbers_93 : decode cX6_asNumbers 93 = .ok (.goto (-33), 3) := dk_167 255 223 (dk_at dksX6_asNumbers_3 21 rfl rfl)
theorem dX6_asNumbers_96 : decode cX6_asNumbers 96 = .ok (.iinc 4 1, 3) := dk_132 4 1 (dk_at dksX6_asNumbers_4 0 rfl rfl)
theorem dX6_asNumbers_99 : decode cX6_asNumbers 99 = .ok (.goto (-51), 3) := dk_167 255 205 (dk_at dksX6_asNumbers_4 3 rfl rfl)
theorem dX6_asNumbers_102 : decode cX6_asNumbers 102 = .ok (.aload_n 3, 1) := dk_45 (dk_at dksX6_asNumbers_4 6 rfl rfl)
theorem dX6_asNumbers_103 : decode cX6_asNumbers 103 = .ok (.areturn, 1) := dk_176 (dk_at dksX6_asNumbers_4 7 rfl rfl)
abbrev cX6_index : ByteArray := prog_16_method_14_code
def yX6_index : MethodName := ⟨RX6, "index", "()I"⟩
def dkwX6_index_1 : List UInt8 := [185, 0, 63, 1, 0, 192, 0, 98, 78, 27, 45, 180, 0, 233, 96, 60, 167, 255, 230, 27, 172]
abbrev dktX6_index_1 : List UInt8 := dkwX6_index_1 ++ []
def dkwX6_index_0 : List UInt8 := [3, 60, 42, 180, 0, 18, 182, 0, 53, 77, 44, 185, 0, 57, 1, 0, 153, 0, 23, 44]
abbrev dktX6_index_0 : List UInt8 := dkwX6_index_0 ++ dktX6_index_1
theorem dksX6_index_0 : cX6_index.data.toList.drop 0 = dktX6_index_0 := by decide +kernel
theorem dksX6_index_1 : cX6_index.data.toList.drop 20 = dktX6_index_1 := dk_seg dksX6_index_0 20 rfl rfl
theorem dX6_index_0 : decode cX6_index 0 = .ok (.iconst 0, 1) := dk_3 (dk_at dksX6_index_0 0 rfl rfl)
theorem dX6_index_1 : decode cX6_index 1 = .ok (.istore_n 1, 1) := dk_60 (dk_at dksX6_index_0 1 rfl rfl)
theorem dX6_index_2 : decode cX6_index 2 = .ok (.aload_n 0, 1) := dk_42 (dk_at dksX6_index_0 2 rfl rfl)
theorem dX6_index_3 : decode cX6_index 3 = .ok (.getfield 18, 3) := dk_180 0 18 (dk_at dksX6_index_0 3 rfl rfl)
theorem dX6_index_6 : decode cX6_index 6 = .ok (.invokevirtual 53, 3) := dk_182 0 53 (dk_at dksX6_index_0 6 rfl rfl)
theorem dX6_index_9 : decode cX6_index 9 = .ok (.astore_n 2, 1) := dk_77 (dk_at dksX6_index_0 9 rfl rfl)
theorem dX6_index_10 : decode cX6_index 10 = .ok (.aload_n 2, 1) := dk_44 (dk_at dksX6_index_0 10 rfl rfl)
theorem dX6_index_11 : decode cX6_index 11 = .ok (.invokeinterface 57 1, 5) := by decide +kernel
theorem dX6_index_16 : decode cX6_index 16 = .ok (.ifCond .eq 23, 3) := dk_153 0 23 (dk_at dksX6_index_0 16 rfl rfl)
theorem dX6_index_19 : decode cX6_index 19 = .ok (.aload_n 2, 1) := dk_44 (dk_at dksX6_index_0 19 rfl rfl)
theorem dX6_index_20 : decode cX6_index 20 = .ok (.invokeinterface 63 1, 5) := by decide +kernel
theorem dX6_index_25 : decode cX6_index 25 = .ok (.checkcast 98, 3) := dk_192 0 98 (dk_at dksX6_index_1 5 rfl rfl)
theorem dX6_index_28 : decode cX6_index 28 = .ok (.astore_n 3, 1) := dk_78 (dk_at dksX6_index_1 8 rfl rfl)
theorem dX6_index_29 : decode cX6_index 29 = .ok (.iload_n 1, 1) := dk_27 (dk_at dksX6_index_1 9 rfl rfl)
theorem dX6_index_30 : decode cX6_index 30 = .ok (.aload_n 3, 1) := dk_45 (dk_at dksX6_index_1 10 rfl rfl)
theorem dX6_index_31 : decode cX6_index 31 = .ok (.getfield 233, 3) := dk_180 0 233 (dk_at dksX6_index_1 11 rfl rfl)
theorem dX6_index_34 : decode cX6_index 34 = .ok (.iadd, 1) := dk_96 (dk_at dksX6_index_1 14 rfl rfl)
theorem dX6_index_35 : decode cX6_index 35 = .ok (.istore_n 1, 1) := dk_60 (dk_at dksX6_index_1 15 rfl rfl)
theorem dX6_index_36 : decode cX6_index 36 = .ok (.goto (-26), 3) := dk_167 255 230 (dk_at dksX6_index_1 16 rfl rfl)
theorem dX6_index_39 : decode cX6_index 39 = .ok (.iload_n 1, 1) := dk_27 (dk_at dksX6_index_1 19 rfl rfl)
theorem dX6_index_40 : decode cX6_index 40 = .ok (.ireturn, 1) := dk_172 (dk_at dksX6_index_1 20 rfl rfl)
abbrev cX6_open : ByteArray := prog_16_method_15_code
def yX6_open : MethodName := ⟨RX6, "open", "()I"⟩
def dkwX6_open_2 : List UInt8 := [3, 96, 60, 167, 255, 219, 27, 172]
abbrev dktX6_open_2 : List UInt8 := dkwX6_open_2 ++ []
def dkwX6_open_1 : List UInt8 := [185, 0, 63, 1, 0, 192, 1, 40, 78, 27, 45, 193, 0, 111, 153, 0, 10, 45, 182, 1, 42, 167, 0, 4]
abbrev dktX6_open_1 : List UInt8 := dkwX6_open_1 ++ dktX6_open_2
def dkwX6_open_0 : List UInt8 := [3, 60, 42, 180, 0, 22, 182, 0, 53, 77, 44, 185, 0, 57, 1, 0, 153, 0, 34, 44]
abbrev dktX6_open_0 : List UInt8 := dkwX6_open_0 ++ dktX6_open_1
theorem dksX6_open_0 : cX6_open.data.toList.drop 0 = dktX6_open_0 := by decide +kernel
theorem dksX6_open_1 : cX6_open.data.toList.drop 20 = dktX6_open_1 := dk_seg dksX6_open_0 20 rfl rfl
theorem dksX6_open_2 : cX6_open.data.toList.drop 44 = dktX6_open_2 := dk_seg dksX6_open_1 24 rfl rfl
theorem dX6_open_0 : decode cX6_open 0 = .ok (.iconst 0, 1) := dk_3 (dk_at dksX6_open_0 0 rfl rfl)
theorem dX6_open_1 : decode cX6_open 1 = .ok (.istore_n 1, 1) := dk_60 (dk_at dksX6_open_0 1 rfl rfl)
theorem dX6_open_2 : decode cX6_open 2 = .ok (.aload_n 0, 1) := dk_42 (dk_at dksX6_open_0 2 rfl rfl)
theorem dX6_open_3 : decode cX6_open 3 = .ok (.getfield 22, 3) := dk_180 0 22 (dk_at dksX6_open_0 3 rfl rfl)
theorem dX6_open_6 : decode cX6_open 6 = .ok (.invokevirtual 53, 3) := dk_182 0 53 (dk_at dksX6_open_0 6 rfl rfl)
theorem dX6_open_9 : decode cX6_open 9 = .ok (.astore_n 2, 1) := dk_77 (dk_at dksX6_open_0 9 rfl rfl)
theorem dX6_open_10 : decode cX6_open 10 = .ok (.aload_n 2, 1) := dk_44 (dk_at dksX6_open_0 10 rfl rfl)
theorem dX6_open_11 : decode cX6_open 11 = .ok (.invokeinterface 57 1, 5) := by decide +kernel
theorem dX6_open_16 : decode cX6_open 16 = .ok (.ifCond .eq 34, 3) := dk_153 0 34 (dk_at dksX6_open_0 16 rfl rfl)
theorem dX6_open_19 : decode cX6_open 19 = .ok (.aload_n 2, 1) := dk_44 (dk_at dksX6_open_0 19 rfl rfl)
theorem dX6_open_20 : decode cX6_open 20 = .ok (.invokeinterface 63 1, 5) := by decide +kernel
theorem dX6_open_25 : decode cX6_open 25 = .ok (.checkcast 296, 3) := dk_192 1 40 (dk_at dksX6_open_1 5 rfl rfl)
theorem dX6_open_28 : decode cX6_open 28 = .ok (.astore_n 3, 1) := dk_78 (dk_at dksX6_open_1 8 rfl rfl)
theorem dX6_open_29 : decode cX6_open 29 = .ok (.iload_n 1, 1) := dk_27 (dk_at dksX6_open_1 9 rfl rfl)
theorem dX6_open_30 : decode cX6_open 30 = .ok (.aload_n 3, 1) := dk_45 (dk_at dksX6_open_1 10 rfl rfl)
theorem dX6_open_31 : decode cX6_open 31 = .ok (.instanceof 111, 3) := dk_193 0 111 (dk_at dksX6_open_1 11 rfl rfl)
theorem dX6_open_34 : decode cX6_open 34 = .ok (.ifCond .eq 10, 3) := dk_153 0 10 (dk_at dksX6_open_1 14 rfl rfl)
theorem dX6_open_37 : decode cX6_open 37 = .ok (.aload_n 3, 1) := dk_45 (dk_at dksX6_open_1 17 rfl rfl)
theorem dX6_open_38 : decode cX6_open 38 = .ok (.invokevirtual 298, 3) := dk_182 1 42 (dk_at dksX6_open_1 18 rfl rfl)
theorem dX6_open_41 : decode cX6_open 41 = .ok (.goto 4, 3) := dk_167 0 4 (dk_at dksX6_open_1 21 rfl rfl)
theorem dX6_open_44 : decode cX6_open 44 = .ok (.iconst 0, 1) := dk_3 (dk_at dksX6_open_2 0 rfl rfl)
theorem dX6_open_45 : decode cX6_open 45 = .ok (.iadd, 1) := dk_96 (dk_at dksX6_open_2 1 rfl rfl)
theorem dX6_open_46 : decode cX6_open 46 = .ok (.istore_n 1, 1) := dk_60 (dk_at dksX6_open_2 2 rfl rfl)
theorem dX6_open_47 : decode cX6_open 47 = .ok (.goto (-37), 3) := dk_167 255 219 (dk_at dksX6_open_2 3 rfl rfl)
theorem dX6_open_50 : decode cX6_open 50 = .ok (.iload_n 1, 1) := dk_27 (dk_at dksX6_open_2 6 rfl rfl)
theorem dX6_open_51 : decode cX6_open 51 = .ok (.ireturn, 1) := dk_172 (dk_at dksX6_open_2 7 rfl rfl)
abbrev cX6_wild : ByteArray := prog_16_method_16_code
def yX6_wild : MethodName := ⟨RX6, "wild", "()I"⟩
def dkwX6_wild_1 : List UInt8 := [185, 0, 63, 1, 0, 192, 1, 40, 78, 27, 45, 182, 1, 44, 184, 1, 15, 60, 167, 255, 228, 27, 172]
abbrev dktX6_wild_1 : List UInt8 := dkwX6_wild_1 ++ []
def dkwX6_wild_0 : List UInt8 := [3, 60, 42, 180, 0, 22, 182, 0, 53, 77, 44, 185, 0, 57, 1, 0, 153, 0, 25, 44]
abbrev dktX6_wild_0 : List UInt8 := dkwX6_wild_0 ++ dktX6_wild_1
theorem dksX6_wild_0 : cX6_wild.data.toList.drop 0 = dktX6_wild_0 := by decide +kernel
theorem dksX6_wild_1 : cX6_wild.data.toList.drop 20 = dktX6_wild_1 := dk_seg dksX6_wild_0 20 rfl rfl
theorem dX6_wild_0 : decode cX6_wild 0 = .ok (.iconst 0, 1) := dk_3 (dk_at dksX6_wild_0 0 rfl rfl)
theorem dX6_wild_1 : decode cX6_wild 1 = .ok (.istore_n 1, 1) := dk_60 (dk_at dksX6_wild_0 1 rfl rfl)
theorem dX6_wild_2 : decode cX6_wild 2 = .ok (.aload_n 0, 1) := dk_42 (dk_at dksX6_wild_0 2 rfl rfl)
theorem dX6_wild_3 : decode cX6_wild 3 = .ok (.getfield 22, 3) := dk_180 0 22 (dk_at dksX6_wild_0 3 rfl rfl)
theorem dX6_wild_6 : decode cX6_wild 6 = .ok (.invokevirtual 53, 3) := dk_182 0 53 (dk_at dksX6_wild_0 6 rfl rfl)
theorem dX6_wild_9 : decode cX6_wild 9 = .ok (.astore_n 2, 1) := dk_77 (dk_at dksX6_wild_0 9 rfl rfl)
theorem dX6_wild_10 : decode cX6_wild 10 = .ok (.aload_n 2, 1) := dk_44 (dk_at dksX6_wild_0 10 rfl rfl)
theorem dX6_wild_11 : decode cX6_wild 11 = .ok (.invokeinterface 57 1, 5) := by decide +kernel
theorem dX6_wild_16 : decode cX6_wild 16 = .ok (.ifCond .eq 25, 3) := dk_153 0 25 (dk_at dksX6_wild_0 16 rfl rfl)
theorem dX6_wild_19 : decode cX6_wild 19 = .ok (.aload_n 2, 1) := dk_44 (dk_at dksX6_wild_0 19 rfl rfl)
theorem dX6_wild_20 : decode cX6_wild 20 = .ok (.invokeinterface 63 1, 5) := by decide +kernel
theorem dX6_wild_25 : decode cX6_wild 25 = .ok (.checkcast 296, 3) := dk_192 1 40 (dk_at dksX6_wild_1 5 rfl rfl)
theorem dX6_wild_28 : decode cX6_wild 28 = .ok (.astore_n 3, 1) := dk_78 (dk_at dksX6_wild_1 8 rfl rfl)
theorem dX6_wild_29 : decode cX6_wild 29 = .ok (.iload_n 1, 1) := dk_27 (dk_at dksX6_wild_1 9 rfl rfl)
theorem dX6_wild_30 : decode cX6_wild 30 = .ok (.aload_n 3, 1) := dk_45 (dk_at dksX6_wild_1 10 rfl rfl)
theorem dX6_wild_31 : decode cX6_wild 31 = .ok (.invokevirtual 300, 3) := dk_182 1 44 (dk_at dksX6_wild_1 11 rfl rfl)
theorem dX6_wild_34 : decode cX6_wild 34 = .ok (.invokestatic 271, 3) := dk_184 1 15 (dk_at dksX6_wild_1 14 rfl rfl)
theorem dX6_wild_37 : decode cX6_wild 37 = .ok (.istore_n 1, 1) := dk_60 (dk_at dksX6_wild_1 17 rfl rfl)
theorem dX6_wild_38 : decode cX6_wild 38 = .ok (.goto (-28), 3) := dk_167 255 228 (dk_at dksX6_wild_1 18 rfl rfl)
theorem dX6_wild_41 : decode cX6_wild 41 = .ok (.iload_n 1, 1) := dk_27 (dk_at dksX6_wild_1 21 rfl rfl)
theorem dX6_wild_42 : decode cX6_wild 42 = .ok (.ireturn, 1) := dk_172 (dk_at dksX6_wild_1 22 rfl rfl)
abbrev cX6_levels : ByteArray := prog_16_method_17_code
def yX6_levels : MethodName := ⟨RX6, "levels", "()I"⟩
def dkwX6_levels_1 : List UInt8 := [185, 0, 63, 1, 0, 192, 0, 98, 78, 27, 45, 180, 0, 181, 184, 1, 15, 60, 167, 255, 228, 27, 172]
abbrev dktX6_levels_1 : List UInt8 := dkwX6_levels_1 ++ []
def dkwX6_levels_0 : List UInt8 := [3, 60, 42, 180, 0, 18, 182, 0, 53, 77, 44, 185, 0, 57, 1, 0, 153, 0, 25, 44]
abbrev dktX6_levels_0 : List UInt8 := dkwX6_levels_0 ++ dktX6_levels_1
theorem dksX6_levels_0 : cX6_levels.data.toList.drop 0 = dktX6_levels_0 := by decide +kernel
theorem dksX6_levels_1 : cX6_levels.data.toList.drop 20 = dktX6_levels_1 := dk_seg dksX6_levels_0 20 rfl rfl
theorem dX6_levels_0 : decode cX6_levels 0 = .ok (.iconst 0, 1) := dk_3 (dk_at dksX6_levels_0 0 rfl rfl)
theorem dX6_levels_1 : decode cX6_levels 1 = .ok (.istore_n 1, 1) := dk_60 (dk_at dksX6_levels_0 1 rfl rfl)
theorem dX6_levels_2 : decode cX6_levels 2 = .ok (.aload_n 0, 1) := dk_42 (dk_at dksX6_levels_0 2 rfl rfl)
theorem dX6_levels_3 : decode cX6_levels 3 = .ok (.getfield 18, 3) := dk_180 0 18 (dk_at dksX6_levels_0 3 rfl rfl)
theorem dX6_levels_6 : decode cX6_levels 6 = .ok (.invokevirtual 53, 3) := dk_182 0 53 (dk_at dksX6_levels_0 6 rfl rfl)
theorem dX6_levels_9 : decode cX6_levels 9 = .ok (.astore_n 2, 1) := dk_77 (dk_at dksX6_levels_0 9 rfl rfl)
theorem dX6_levels_10 : decode cX6_levels 10 = .ok (.aload_n 2, 1) := dk_44 (dk_at dksX6_levels_0 10 rfl rfl)
theorem dX6_levels_11 : decode cX6_levels 11 = .ok (.invokeinterface 57 1, 5) := by decide +kernel
theorem dX6_levels_16 : decode cX6_levels 16 = .ok (.ifCond .eq 25, 3) := dk_153 0 25 (dk_at dksX6_levels_0 16 rfl rfl)
theorem dX6_levels_19 : decode cX6_levels 19 = .ok (.aload_n 2, 1) := dk_44 (dk_at dksX6_levels_0 19 rfl rfl)
theorem dX6_levels_20 : decode cX6_levels 20 = .ok (.invokeinterface 63 1, 5) := by decide +kernel
theorem dX6_levels_25 : decode cX6_levels 25 = .ok (.checkcast 98, 3) := dk_192 0 98 (dk_at dksX6_levels_1 5 rfl rfl)
theorem dX6_levels_28 : decode cX6_levels 28 = .ok (.astore_n 3, 1) := dk_78 (dk_at dksX6_levels_1 8 rfl rfl)
theorem dX6_levels_29 : decode cX6_levels 29 = .ok (.iload_n 1, 1) := dk_27 (dk_at dksX6_levels_1 9 rfl rfl)
theorem dX6_levels_30 : decode cX6_levels 30 = .ok (.aload_n 3, 1) := dk_45 (dk_at dksX6_levels_1 10 rfl rfl)
theorem dX6_levels_31 : decode cX6_levels 31 = .ok (.getfield 181, 3) := dk_180 0 181 (dk_at dksX6_levels_1 11 rfl rfl)
theorem dX6_levels_34 : decode cX6_levels 34 = .ok (.invokestatic 271, 3) := dk_184 1 15 (dk_at dksX6_levels_1 14 rfl rfl)
theorem dX6_levels_37 : decode cX6_levels 37 = .ok (.istore_n 1, 1) := dk_60 (dk_at dksX6_levels_1 17 rfl rfl)
theorem dX6_levels_38 : decode cX6_levels 38 = .ok (.goto (-28), 3) := dk_167 255 228 (dk_at dksX6_levels_1 18 rfl rfl)
theorem dX6_levels_41 : decode cX6_levels 41 = .ok (.iload_n 1, 1) := dk_27 (dk_at dksX6_levels_1 21 rfl rfl)
theorem dX6_levels_42 : decode cX6_levels 42 = .ok (.ireturn, 1) := dk_172 (dk_at dksX6_levels_1 22 rfl rfl)
abbrev cX6_spelling : ByteArray := prog_16_method_18_code
def yX6_spelling : MethodName := ⟨RX6, "spelling", "()Ljava/lang/CharSequence;"⟩
def dkwX6_spelling_2 : List UInt8 := [182, 1, 50, 184, 1, 54, 167, 0, 4, 43, 76, 167, 255, 217, 43, 176]
abbrev dktX6_spelling_2 : List UInt8 := dkwX6_spelling_2 ++ []
def dkwX6_spelling_1 : List UInt8 := [153, 0, 36, 44, 185, 0, 63, 1, 0, 192, 1, 40, 78, 45, 182, 1, 49, 158, 0, 14, 43, 45]
abbrev dktX6_spelling_1 : List UInt8 := dkwX6_spelling_1 ++ dktX6_spelling_2
def dkwX6_spelling_0 : List UInt8 := [187, 1, 46, 89, 183, 1, 48, 76, 42, 180, 0, 22, 182, 0, 53, 77, 44, 185, 0, 57, 1, 0]
abbrev dktX6_spelling_0 : List UInt8 := dkwX6_spelling_0 ++ dktX6_spelling_1
theorem dksX6_spelling_0 : cX6_spelling.data.toList.drop 0 = dktX6_spelling_0 := by decide +kernel
theorem dksX6_spelling_1 : cX6_spelling.data.toList.drop 22 = dktX6_spelling_1 := dk_seg dksX6_spelling_0 22 rfl rfl
theorem dksX6_spelling_2 : cX6_spelling.data.toList.drop 44 = dktX6_spelling_2 := dk_seg dksX6_spelling_1 22 rfl rfl
theorem dX6_spelling_0 : decode cX6_spelling 0 = .ok (.new 302, 3) := dk_187 1 46 (dk_at dksX6_spelling_0 0 rfl rfl)
theorem dX6_spelling_3 : decode cX6_spelling 3 = .ok (.dup, 1) := dk_89 (dk_at dksX6_spelling_0 3 rfl rfl)
theorem dX6_spelling_4 : decode cX6_spelling 4 = .ok (.invokespecial 304, 3) := dk_183 1 48 (dk_at dksX6_spelling_0 4 rfl rfl)
theorem dX6_spelling_7 : decode cX6_spelling 7 = .ok (.astore_n 1, 1) := dk_76 (dk_at dksX6_spelling_0 7 rfl rfl)
theorem dX6_spelling_8 : decode cX6_spelling 8 = .ok (.aload_n 0, 1) := dk_42 (dk_at dksX6_spelling_0 8 rfl rfl)
theorem dX6_spelling_9 : decode cX6_spelling 9 = .ok (.getfield 22, 3) := dk_180 0 22 (dk_at dksX6_spelling_0 9 rfl rfl)
theorem dX6_spelling_12 : decode cX6_spelling 12 = .ok (.invokevirtual 53, 3) := dk_182 0 53 (dk_at dksX6_spelling_0 12 rfl rfl)
theorem dX6_spelling_15 : decode cX6_spelling 15 = .ok (.astore_n 2, 1) := dk_77 (dk_at dksX6_spelling_0 15 rfl rfl)
theorem dX6_spelling_16 : decode cX6_spelling 16 = .ok (.aload_n 2, 1) := dk_44 (dk_at dksX6_spelling_0 16 rfl rfl)
theorem dX6_spelling_17 : decode cX6_spelling 17 = .ok (.invokeinterface 57 1, 5) := by decide +kernel
theorem dX6_spelling_22 : decode cX6_spelling 22 = .ok (.ifCond .eq 36, 3) := dk_153 0 36 (dk_at dksX6_spelling_1 0 rfl rfl)
theorem dX6_spelling_25 : decode cX6_spelling 25 = .ok (.aload_n 2, 1) := dk_44 (dk_at dksX6_spelling_1 3 rfl rfl)
theorem dX6_spelling_26 : decode cX6_spelling 26 = .ok (.invokeinterface 63 1, 5) := by decide +kernel
theorem dX6_spelling_31 : decode cX6_spelling 31 = .ok (.checkcast 296, 3) := dk_192 1 40 (dk_at dksX6_spelling_1 9 rfl rfl)
theorem dX6_spelling_34 : decode cX6_spelling 34 = .ok (.astore_n 3, 1) := dk_78 (dk_at dksX6_spelling_1 12 rfl rfl)
theorem dX6_spelling_35 : decode cX6_spelling 35 = .ok (.aload_n 3, 1) := dk_45 (dk_at dksX6_spelling_1 13 rfl rfl)
theorem dX6_spelling_36 : decode cX6_spelling 36 = .ok (.invokevirtual 305, 3) := dk_182 1 49 (dk_at dksX6_spelling_1 14 rfl rfl)
theorem dX6_spelling_39 : decode cX6_spelling 39 = .ok (.ifCond .le 14, 3) := dk_158 0 14 (dk_at dksX6_spelling_1 17 rfl rfl)
theorem dX6_spelling_42 : decode cX6_spelling 42 = .ok (.aload_n 1, 1) := dk_43 (dk_at dksX6_spelling_1 20 rfl rfl)
theorem dX6_spelling_43 : decode cX6_spelling 43 = .ok (.aload_n 3, 1) := dk_45 (dk_at dksX6_spelling_1 21 rfl rfl)
theorem dX6_spelling_44 : decode cX6_spelling 44 = .ok (.invokevirtual 306, 3) := dk_182 1 50 (dk_at dksX6_spelling_2 0 rfl rfl)
theorem dX6_spelling_47 : decode cX6_spelling 47 = .ok (.invokestatic 310, 3) := dk_184 1 54 (dk_at dksX6_spelling_2 3 rfl rfl)
theorem dX6_spelling_50 : decode cX6_spelling 50 = .ok (.goto 4, 3) := dk_167 0 4 (dk_at dksX6_spelling_2 6 rfl rfl)
theorem dX6_spelling_53 : decode cX6_spelling 53 = .ok (.aload_n 1, 1) := dk_43 (dk_at dksX6_spelling_2 9 rfl rfl)
theorem dX6_spelling_54 : decode cX6_spelling 54 = .ok (.astore_n 1, 1) := dk_76 (dk_at dksX6_spelling_2 10 rfl rfl)
theorem dX6_spelling_55 : decode cX6_spelling 55 = .ok (.goto (-39), 3) := dk_167 255 217 (dk_at dksX6_spelling_2 11 rfl rfl)
theorem dX6_spelling_58 : decode cX6_spelling 58 = .ok (.aload_n 1, 1) := dk_43 (dk_at dksX6_spelling_2 14 rfl rfl)
theorem dX6_spelling_59 : decode cX6_spelling 59 = .ok (.areturn, 1) := dk_176 (dk_at dksX6_spelling_2 15 rfl rfl)
theorem q133 : (Jvm.Cond.initialized "TypesAtPrime$Tree") ∈ lw_all := lw_g (lw_at lw_m1 31 rfl) rfl
theorem q293 : (Jvm.Cond.fieldLinkNest "TypesAtPrime$Tree" (82 : Nat) "TypesAtPrime" "p" "I" "TypesAtPrime") ∈ lw_tbl := lw_at lw_m1 191 rfl
theorem q295 : (Jvm.Cond.fieldLinkNest "TypesAtPrime$Tree" (88 : Nat) "TypesAtPrime" "modulus" "J" "TypesAtPrime") ∈ lw_tbl := lw_at lw_m1 193 rfl
theorem q527 : (Jvm.Cond.fieldLinkNest "TypesAtPrime$Tree" (85 : Nat) "TypesAtPrime$Factor" "parts" "[I" "TypesAtPrime") ∈ lw_tbl := lw_at lw_m2 185 rfl
theorem q530 : (Jvm.Cond.fieldLinkNest "TypesAtPrime$Tree" (74 : Nat) "TypesAtPrime$Factor" "degree" "I" "TypesAtPrime") ∈ lw_tbl := lw_at lw_m2 188 rfl
theorem q532 : (Jvm.Cond.fieldLinkNest "TypesAtPrime$Tree" (69 : Nat) "TypesAtPrime$Factor" "times" "I" "TypesAtPrime") ∈ lw_tbl := lw_at lw_m2 190 rfl
theorem q586 : (Jvm.Cond.selects "TypesAtPrime$Tree" ({ cls := "java/lang/Object", name := "getClass", desc := "()Ljava/lang/Class;" } : Jvm.MethodName) ({ cls := "java/lang/Object", name := "getClass", desc := "()Ljava/lang/Class;" } : Jvm.MethodName)) ∈ lw_all := lw_g (lw_at lw_m3 4 rfl) rfl
theorem q1053 : (Jvm.Cond.instantiable "TypesAtPrime$Tree" (8 : Nat)) ∈ lw_all := lw_g (lw_at lw_m4 231 rfl) rfl
theorem q1055 : (Jvm.Cond.instanceMethod ({ cls := "TypesAtPrime$Tree", name := "<init>", desc := "(LTypesAtPrime;[I)V" } : Jvm.MethodName)) ∈ lw_all := lw_g (lw_at lw_m4 233 rfl) rfl
theorem q1056 : (Jvm.Cond.code ({ cls := "TypesAtPrime$Tree", name := "<init>", desc := "(LTypesAtPrime;[I)V" } : Jvm.MethodName) prog_16_method_1_code (6 : Nat) (Option.none : Option Jvm.ClassFile.FieldType)) ∈ lw_all := lw_g (lw_at lw_m4 234 rfl) rfl
theorem q1057 : (Jvm.Cond.methodLink "TypesAtPrime$Tree" (9 : Nat) ({ cls := "java/lang/Object", name := "<init>", desc := "()V" } : Jvm.MethodName)) ∈ lw_all := lw_g (lw_at lw_m4 235 rfl) rfl
theorem q1058 : (Jvm.Cond.classLink "TypesAtPrime$Tree" (15 : Nat) "java/util/ArrayList") ∈ lw_all := lw_g (lw_at lw_m4 236 rfl) rfl
theorem q1059 : (Jvm.Cond.methodLink "TypesAtPrime$Tree" (17 : Nat) ({ cls := "java/util/ArrayList", name := "<init>", desc := "()V" } : Jvm.MethodName)) ∈ lw_all := lw_g (lw_at lw_m4 237 rfl) rfl
theorem q1060 : (Jvm.Cond.methodLinkNest "TypesAtPrime$Tree" (29 : Nat) ({ cls := "TypesAtPrime", name := "inNumbers", desc := "([I)[J" } : Jvm.MethodName) "TypesAtPrime") ∈ lw_tbl := lw_at lw_m4 238 rfl
theorem q1061 : (Jvm.Cond.methodLinkNest "TypesAtPrime$Tree" (37 : Nat) ({ cls := "TypesAtPrime", name := "degreeOf", desc := "([I)I" } : Jvm.MethodName) "TypesAtPrime") ∈ lw_tbl := lw_at lw_m4 239 rfl
theorem q1062 : (Jvm.Cond.methodLinkNest "TypesAtPrime$Tree" (45 : Nat) ({ cls := "TypesAtPrime", name := "inResidues", desc := "([I)[I" } : Jvm.MethodName) "TypesAtPrime") ∈ lw_tbl := lw_at lw_m5 0 rfl
theorem q1063 : (Jvm.Cond.methodLinkNest "TypesAtPrime$Tree" (49 : Nat) ({ cls := "TypesAtPrime", name := "factorsOf", desc := "([I)Ljava/util/ArrayList;" } : Jvm.MethodName) "TypesAtPrime") ∈ lw_tbl := lw_at lw_m5 1 rfl
theorem q1064 : (Jvm.Cond.methodLink "TypesAtPrime$Tree" (53 : Nat) ({ cls := "java/util/ArrayList", name := "iterator", desc := "()Ljava/util/Iterator;" } : Jvm.MethodName)) ∈ lw_all := lw_g (lw_at lw_m5 2 rfl) rfl
theorem q1087 : (Jvm.Cond.interfaceEntry "TypesAtPrime$Tree" (57 : Nat)) ∈ lw_tbl := lw_at lw_m5 25 rfl
theorem q1088 : (Jvm.Cond.methodLink "TypesAtPrime$Tree" (57 : Nat) ({ cls := "java/util/Iterator", name := "hasNext", desc := "()Z" } : Jvm.MethodName)) ∈ lw_all := lw_g (lw_at lw_m5 26 rfl) rfl
theorem q1097 : (Jvm.Cond.interfaceEntry "TypesAtPrime$Tree" (63 : Nat)) ∈ lw_tbl := lw_at lw_m5 35 rfl
theorem q1098 : (Jvm.Cond.methodLink "TypesAtPrime$Tree" (63 : Nat) ({ cls := "java/util/Iterator", name := "next", desc := "()Ljava/lang/Object;" } : Jvm.MethodName)) ∈ lw_all := lw_g (lw_at lw_m5 36 rfl) rfl
theorem q1110 : (Jvm.Cond.classLink "TypesAtPrime$Tree" (67 : Nat) "TypesAtPrime$Factor") ∈ lw_all := lw_g (lw_at lw_m5 48 rfl) rfl
theorem q1111 : (Jvm.Cond.classLink "TypesAtPrime$Tree" (72 : Nat) "TypesAtPrime$Decided") ∈ lw_all := lw_g (lw_at lw_m5 49 rfl) rfl
theorem q1113 : (Jvm.Cond.methodLink "TypesAtPrime$Tree" (75 : Nat) ({ cls := "TypesAtPrime$Decided", name := "<init>", desc := "(LTypesAtPrime$Knot;II)V" } : Jvm.MethodName)) ∈ lw_all := lw_g (lw_at lw_m5 51 rfl) rfl
theorem q1131 : (Jvm.Cond.methodLink "TypesAtPrime$Tree" (78 : Nat) ({ cls := "java/util/ArrayList", name := "add", desc := "(Ljava/lang/Object;)Z" } : Jvm.MethodName)) ∈ lw_all := lw_g (lw_at lw_m5 69 rfl) rfl
theorem q1132 : (Jvm.Cond.methodLink "TypesAtPrime$Tree" (92 : Nat) ({ cls := "java/lang/Math", name := "floorMod", desc := "(JJ)J" } : Jvm.MethodName)) ∈ lw_all := lw_g (lw_at lw_m5 70 rfl) rfl
theorem q1133 : (Jvm.Cond.classLink "TypesAtPrime$Tree" (98 : Nat) "TypesAtPrime$Knot") ∈ lw_all := lw_g (lw_at lw_m5 71 rfl) rfl
theorem q1135 : (Jvm.Cond.methodLink "TypesAtPrime$Tree" (100 : Nat) ({ cls := "java/util/ArrayList", name := "size", desc := "()I" } : Jvm.MethodName)) ∈ lw_all := lw_g (lw_at lw_m5 73 rfl) rfl
theorem q1136 : (Jvm.Cond.methodLink "TypesAtPrime$Tree" (104 : Nat) ({ cls := "TypesAtPrime$Knot", name := "<init>", desc := "(LTypesAtPrime$Knot;LTypesAtPrime$Side;I[JII)V" } : Jvm.MethodName)) ∈ lw_all := lw_g (lw_at lw_m5 74 rfl) rfl
theorem q1147 : (Jvm.Cond.fieldLinkNest "TypesAtPrime$Tree" (181 : Nat) "TypesAtPrime$Knot" "level" "I" "TypesAtPrime") ∈ lw_tbl := lw_at lw_m5 85 rfl
theorem q1150 : (Jvm.Cond.fieldLinkNest "TypesAtPrime$Tree" (207 : Nat) "TypesAtPrime$Knot" "manifold" "I" "TypesAtPrime") ∈ lw_tbl := lw_at lw_m5 88 rfl
theorem q1155 : (Jvm.Cond.fieldLinkNest "TypesAtPrime$Tree" (124 : Nat) "TypesAtPrime$Knot" "key" "[J" "TypesAtPrime") ∈ lw_tbl := lw_at lw_m5 93 rfl
theorem q1158 : (Jvm.Cond.fieldLinkNest "TypesAtPrime$Tree" (152 : Nat) "TypesAtPrime$Knot" "ramified" "I" "TypesAtPrime") ∈ lw_tbl := lw_at lw_m5 96 rfl
theorem q1160 : (Jvm.Cond.fieldLinkNest "TypesAtPrime$Tree" (217 : Nat) "TypesAtPrime$Knot" "worth" "I" "TypesAtPrime") ∈ lw_tbl := lw_at lw_m5 98 rfl
theorem q1162 : (Jvm.Cond.fieldLinkNest "TypesAtPrime$Tree" (204 : Nat) "TypesAtPrime$Knot" "points" "[I" "TypesAtPrime") ∈ lw_tbl := lw_at lw_m5 100 rfl
theorem q1165 : (Jvm.Cond.fieldLinkNest "TypesAtPrime$Tree" (236 : Nat) "TypesAtPrime$Knot" "sides" "Ljava/util/ArrayList;" "TypesAtPrime") ∈ lw_tbl := lw_at lw_m5 103 rfl
theorem q1167 : (Jvm.Cond.fieldLinkNest "TypesAtPrime$Tree" (201 : Nat) "TypesAtPrime$Knot" "first" "I" "TypesAtPrime") ∈ lw_tbl := lw_at lw_m5 105 rfl
theorem q1169 : (Jvm.Cond.fieldLinkNest "TypesAtPrime$Tree" (233 : Nat) "TypesAtPrime$Knot" "index" "I" "TypesAtPrime") ∈ lw_tbl := lw_at lw_m5 107 rfl
theorem q1198 : (Jvm.Cond.methodLink "TypesAtPrime$Tree" (107 : Nat) ({ cls := "TypesAtPrime$Tree", name := "grows", desc := "(LTypesAtPrime$Knot;)V" } : Jvm.MethodName)) ∈ lw_all := lw_g (lw_at lw_m5 136 rfl) rfl
theorem q1199 : (Jvm.Cond.privateMethod ({ cls := "TypesAtPrime$Tree", name := "grows", desc := "(LTypesAtPrime$Knot;)V" } : Jvm.MethodName)) ∈ lw_tbl := lw_at lw_m5 137 rfl
theorem q1200 : (Jvm.Cond.instanceMethod ({ cls := "TypesAtPrime$Tree", name := "grows", desc := "(LTypesAtPrime$Knot;)V" } : Jvm.MethodName)) ∈ lw_all := lw_g (lw_at lw_m5 138 rfl) rfl
theorem q1201 : (Jvm.Cond.code ({ cls := "TypesAtPrime$Tree", name := "grows", desc := "(LTypesAtPrime$Knot;)V" } : Jvm.MethodName) prog_16_method_8_code (7 : Nat) (Option.none : Option Jvm.ClassFile.FieldType)) ∈ lw_all := lw_g (lw_at lw_m5 139 rfl) rfl
theorem q1202 : (Jvm.Cond.methodLinkNest "TypesAtPrime$Tree" (127 : Nat) ({ cls := "TypesAtPrime", name := "expanded", desc := "([J[JI)[[J" } : Jvm.MethodName) "TypesAtPrime") ∈ lw_tbl := lw_at lw_m5 140 rfl
theorem q1203 : (Jvm.Cond.classLink "TypesAtPrime$Tree" (162 : Nat) "TypesAtPrime$Monomial") ∈ lw_all := lw_g (lw_at lw_m5 141 rfl) rfl
theorem q1205 : (Jvm.Cond.methodLinkNest "TypesAtPrime$Tree" (210 : Nat) ({ cls := "TypesAtPrime", name := "degreeOf", desc := "([J)I" } : Jvm.MethodName) "TypesAtPrime") ∈ lw_tbl := lw_at lw_m5 143 rfl
theorem q1206 : (Jvm.Cond.methodLink "TypesAtPrime$Tree" (213 : Nat) ({ cls := "TypesAtPrime$Tree", name := "headOf", desc := "(LTypesAtPrime$Knot;[J)LTypesAtPrime$Monomial;" } : Jvm.MethodName)) ∈ lw_all := lw_g (lw_at lw_m5 144 rfl) rfl
theorem q1207 : (Jvm.Cond.privateMethod ({ cls := "TypesAtPrime$Tree", name := "headOf", desc := "(LTypesAtPrime$Knot;[J)LTypesAtPrime$Monomial;" } : Jvm.MethodName)) ∈ lw_tbl := lw_at lw_m5 145 rfl
theorem q1208 : (Jvm.Cond.instanceMethod ({ cls := "TypesAtPrime$Tree", name := "headOf", desc := "(LTypesAtPrime$Knot;[J)LTypesAtPrime$Monomial;" } : Jvm.MethodName)) ∈ lw_all := lw_g (lw_at lw_m5 146 rfl) rfl
theorem q1209 : (Jvm.Cond.code ({ cls := "TypesAtPrime$Tree", name := "headOf", desc := "(LTypesAtPrime$Knot;[J)LTypesAtPrime$Monomial;" } : Jvm.MethodName) prog_16_method_4_code (3 : Nat) (Option.some (Jvm.ClassFile.FieldType.object "TypesAtPrime$Monomial"))) ∈ lw_all := lw_g (lw_at lw_m5 147 rfl) rfl
theorem q1210 : (Jvm.Cond.methodLink "TypesAtPrime$Tree" (144 : Nat) ({ cls := "TypesAtPrime$Tree", name := "looks", desc := "(LTypesAtPrime$Knot;[JI[IJ)V" } : Jvm.MethodName)) ∈ lw_all := lw_g (lw_at lw_m5 148 rfl) rfl
theorem q1211 : (Jvm.Cond.privateMethod ({ cls := "TypesAtPrime$Tree", name := "looks", desc := "(LTypesAtPrime$Knot;[JI[IJ)V" } : Jvm.MethodName)) ∈ lw_tbl := lw_at lw_m5 149 rfl
theorem q1212 : (Jvm.Cond.instanceMethod ({ cls := "TypesAtPrime$Tree", name := "looks", desc := "(LTypesAtPrime$Knot;[JI[IJ)V" } : Jvm.MethodName)) ∈ lw_all := lw_g (lw_at lw_m5 150 rfl) rfl
theorem q1213 : (Jvm.Cond.code ({ cls := "TypesAtPrime$Tree", name := "looks", desc := "(LTypesAtPrime$Knot;[JI[IJ)V" } : Jvm.MethodName) prog_16_method_2_code (9 : Nat) (Option.none : Option Jvm.ClassFile.FieldType)) ∈ lw_all := lw_g (lw_at lw_m5 151 rfl) rfl
theorem q1214 : (Jvm.Cond.methodLink "TypesAtPrime$Tree" (116 : Nat) ({ cls := "TypesAtPrime$Tree", name := "meets", desc := "(LTypesAtPrime$Knot;J[IJ)V" } : Jvm.MethodName)) ∈ lw_all := lw_g (lw_at lw_m5 152 rfl) rfl
theorem q1215 : (Jvm.Cond.privateMethod ({ cls := "TypesAtPrime$Tree", name := "meets", desc := "(LTypesAtPrime$Knot;J[IJ)V" } : Jvm.MethodName)) ∈ lw_tbl := lw_at lw_m5 153 rfl
theorem q1216 : (Jvm.Cond.instanceMethod ({ cls := "TypesAtPrime$Tree", name := "meets", desc := "(LTypesAtPrime$Knot;J[IJ)V" } : Jvm.MethodName)) ∈ lw_all := lw_g (lw_at lw_m5 154 rfl) rfl
theorem q1217 : (Jvm.Cond.code ({ cls := "TypesAtPrime$Tree", name := "meets", desc := "(LTypesAtPrime$Knot;J[IJ)V" } : Jvm.MethodName) prog_16_method_3_code (10 : Nat) (Option.none : Option Jvm.ClassFile.FieldType)) ∈ lw_all := lw_g (lw_at lw_m5 155 rfl) rfl
theorem q1218 : (Jvm.Cond.methodLinkNest "TypesAtPrime$Tree" (148 : Nat) ({ cls := "TypesAtPrime", name := "valueOf", desc := "(J)I" } : Jvm.MethodName) "TypesAtPrime") ∈ lw_tbl := lw_at lw_m5 156 rfl
theorem q1223 : (Jvm.Cond.methodLinkNest "TypesAtPrime$Tree" (164 : Nat) ({ cls := "TypesAtPrime$Monomial", name := "<init>", desc := "()V" } : Jvm.MethodName) "TypesAtPrime") ∈ lw_tbl := lw_at lw_m5 161 rfl
theorem q1228 : (Jvm.Cond.fieldLinkNest "TypesAtPrime$Tree" (165 : Nat) "TypesAtPrime$Monomial" "t" "[I" "TypesAtPrime") ∈ lw_tbl := lw_at lw_m5 166 rfl
theorem q1231 : (Jvm.Cond.fieldLinkNest "TypesAtPrime$Tree" (178 : Nat) "TypesAtPrime$Monomial" "residue" "I" "TypesAtPrime") ∈ lw_tbl := lw_at lw_m5 169 rfl
theorem q1237 : (Jvm.Cond.methodLink "TypesAtPrime$Tree" (168 : Nat) ({ cls := "java/lang/System", name := "arraycopy", desc := "(Ljava/lang/Object;ILjava/lang/Object;II)V" } : Jvm.MethodName)) ∈ lw_all := lw_g (lw_at lw_m5 175 rfl) rfl
theorem q1238 : (Jvm.Cond.methodLinkNest "TypesAtPrime$Tree" (174 : Nat) ({ cls := "TypesAtPrime", name := "power", desc := "(JI)J" } : Jvm.MethodName) "TypesAtPrime") ∈ lw_tbl := lw_at lw_m5 176 rfl
theorem q1239 : (Jvm.Cond.methodLink "TypesAtPrime$Tree" (120 : Nat) ({ cls := "TypesAtPrime$Knot", name := "at", desc := "(I)LTypesAtPrime$Knot;" } : Jvm.MethodName)) ∈ lw_all := lw_g (lw_at lw_m5 177 rfl) rfl
theorem q1244 : (Jvm.Cond.methodLink "TypesAtPrime$Tree" (131 : Nat) ({ cls := "TypesAtPrime$Knot", name := "behind", desc := "(I)LTypesAtPrime$Side;" } : Jvm.MethodName)) ∈ lw_all := lw_g (lw_at lw_m5 182 rfl) rfl
theorem q1249 : (Jvm.Cond.methodLink "TypesAtPrime$Tree" (140 : Nat) ({ cls := "TypesAtPrime$Knot", name := "worthOf", desc := "(I)I" } : Jvm.MethodName)) ∈ lw_all := lw_g (lw_at lw_m5 187 rfl) rfl
theorem q1253 : (Jvm.Cond.classLink "TypesAtPrime$Tree" (220 : Nat) "TypesAtPrime$Lost") ∈ lw_all := lw_g (lw_at lw_m5 191 rfl) rfl
theorem q1255 : (Jvm.Cond.methodLink "TypesAtPrime$Tree" (222 : Nat) ({ cls := "TypesAtPrime$Lost", name := "<init>", desc := "(LTypesAtPrime$Knot;I)V" } : Jvm.MethodName)) ∈ lw_all := lw_g (lw_at lw_m5 193 rfl) rfl
theorem q1270 : (Jvm.Cond.classLink "TypesAtPrime$Tree" (223 : Nat) "TypesAtPrime$Exact") ∈ lw_all := lw_g (lw_at lw_m5 208 rfl) rfl
theorem q1272 : (Jvm.Cond.methodLink "TypesAtPrime$Tree" (225 : Nat) ({ cls := "TypesAtPrime$Exact", name := "<init>", desc := "(LTypesAtPrime$Knot;I)V" } : Jvm.MethodName)) ∈ lw_all := lw_g (lw_at lw_m5 210 rfl) rfl
theorem q1280 : (Jvm.Cond.methodLink "TypesAtPrime$Tree" (226 : Nat) ({ cls := "TypesAtPrime$Tree", name := "findsSides", desc := "(LTypesAtPrime$Knot;)V" } : Jvm.MethodName)) ∈ lw_all := lw_g (lw_at lw_m5 218 rfl) rfl
theorem q1281 : (Jvm.Cond.privateMethod ({ cls := "TypesAtPrime$Tree", name := "findsSides", desc := "(LTypesAtPrime$Knot;)V" } : Jvm.MethodName)) ∈ lw_tbl := lw_at lw_m5 219 rfl
theorem q1282 : (Jvm.Cond.instanceMethod ({ cls := "TypesAtPrime$Tree", name := "findsSides", desc := "(LTypesAtPrime$Knot;)V" } : Jvm.MethodName)) ∈ lw_all := lw_g (lw_at lw_m5 220 rfl) rfl
theorem q1283 : (Jvm.Cond.code ({ cls := "TypesAtPrime$Tree", name := "findsSides", desc := "(LTypesAtPrime$Knot;)V" } : Jvm.MethodName) prog_16_method_9_code (8 : Nat) (Option.none : Option Jvm.ClassFile.FieldType)) ∈ lw_all := lw_g (lw_at lw_m5 221 rfl) rfl
theorem q1284 : (Jvm.Cond.methodLink "TypesAtPrime$Tree" (243 : Nat) ({ cls := "TypesAtPrime$Tree", name := "sideOf", desc := "(LTypesAtPrime$Knot;II)LTypesAtPrime$Side;" } : Jvm.MethodName)) ∈ lw_all := lw_g (lw_at lw_m5 222 rfl) rfl
theorem q1285 : (Jvm.Cond.privateMethod ({ cls := "TypesAtPrime$Tree", name := "sideOf", desc := "(LTypesAtPrime$Knot;II)LTypesAtPrime$Side;" } : Jvm.MethodName)) ∈ lw_tbl := lw_at lw_m5 223 rfl
theorem q1286 : (Jvm.Cond.instanceMethod ({ cls := "TypesAtPrime$Tree", name := "sideOf", desc := "(LTypesAtPrime$Knot;II)LTypesAtPrime$Side;" } : Jvm.MethodName)) ∈ lw_all := lw_g (lw_at lw_m5 224 rfl) rfl
theorem q1287 : (Jvm.Cond.code ({ cls := "TypesAtPrime$Tree", name := "sideOf", desc := "(LTypesAtPrime$Knot;II)LTypesAtPrime$Side;" } : Jvm.MethodName) prog_16_method_10_code (5 : Nat) (Option.some (Jvm.ClassFile.FieldType.object "TypesAtPrime$Side"))) ∈ lw_all := lw_g (lw_at lw_m5 225 rfl) rfl
theorem q1288 : (Jvm.Cond.classLink "TypesAtPrime$Tree" (136 : Nat) "TypesAtPrime$Side") ∈ lw_all := lw_g (lw_at lw_m5 226 rfl) rfl
theorem q1290 : (Jvm.Cond.methodLink "TypesAtPrime$Tree" (247 : Nat) ({ cls := "TypesAtPrime$Side", name := "<init>", desc := "(III)V" } : Jvm.MethodName)) ∈ lw_all := lw_g (lw_at lw_m5 228 rfl) rfl
theorem q1298 : (Jvm.Cond.fieldLinkNest "TypesAtPrime$Tree" (268 : Nat) "TypesAtPrime$Side" "begins" "I" "TypesAtPrime") ∈ lw_tbl := lw_at lw_m5 236 rfl
theorem q1301 : (Jvm.Cond.fieldLinkNest "TypesAtPrime$Tree" (265 : Nat) "TypesAtPrime$Side" "ends" "I" "TypesAtPrime") ∈ lw_tbl := lw_at lw_m5 239 rfl
theorem q1304 : (Jvm.Cond.fieldLinkNest "TypesAtPrime$Tree" (250 : Nat) "TypesAtPrime$Side" "fall" "I" "TypesAtPrime") ∈ lw_tbl := lw_at lw_m6 2 rfl
theorem q1308 : (Jvm.Cond.fieldLinkNest "TypesAtPrime$Tree" (135 : Nat) "TypesAtPrime$Side" "ramification" "I" "TypesAtPrime") ∈ lw_tbl := lw_at lw_m6 6 rfl
theorem q1311 : (Jvm.Cond.fieldLinkNest "TypesAtPrime$Tree" (253 : Nat) "TypesAtPrime$Side" "degree" "I" "TypesAtPrime") ∈ lw_tbl := lw_at lw_m6 9 rfl
theorem q1314 : (Jvm.Cond.fieldLinkNest "TypesAtPrime$Tree" (254 : Nat) "TypesAtPrime$Side" "value" "I" "TypesAtPrime") ∈ lw_tbl := lw_at lw_m6 12 rfl
theorem q1316 : (Jvm.Cond.fieldLinkNest "TypesAtPrime$Tree" (184 : Nat) "TypesAtPrime$Side" "monomial" "LTypesAtPrime$Monomial;" "TypesAtPrime") ∈ lw_tbl := lw_at lw_m6 14 rfl
theorem q1318 : (Jvm.Cond.fieldLinkNest "TypesAtPrime$Tree" (278 : Nat) "TypesAtPrime$Side" "residual" "[I" "TypesAtPrime") ∈ lw_tbl := lw_at lw_m6 16 rfl
theorem q1337 : (Jvm.Cond.methodLink "TypesAtPrime$Tree" (257 : Nat) ({ cls := "TypesAtPrime$Tree", name := "ofValue", desc := "(LTypesAtPrime$Knot;I)LTypesAtPrime$Monomial;" } : Jvm.MethodName)) ∈ lw_all := lw_g (lw_at lw_m6 35 rfl) rfl
theorem q1338 : (Jvm.Cond.privateMethod ({ cls := "TypesAtPrime$Tree", name := "ofValue", desc := "(LTypesAtPrime$Knot;I)LTypesAtPrime$Monomial;" } : Jvm.MethodName)) ∈ lw_tbl := lw_at lw_m6 36 rfl
theorem q1339 : (Jvm.Cond.instanceMethod ({ cls := "TypesAtPrime$Tree", name := "ofValue", desc := "(LTypesAtPrime$Knot;I)LTypesAtPrime$Monomial;" } : Jvm.MethodName)) ∈ lw_all := lw_g (lw_at lw_m6 37 rfl) rfl
theorem q1340 : (Jvm.Cond.code ({ cls := "TypesAtPrime$Tree", name := "ofValue", desc := "(LTypesAtPrime$Knot;I)LTypesAtPrime$Monomial;" } : Jvm.MethodName) prog_16_method_6_code (7 : Nat) (Option.some (Jvm.ClassFile.FieldType.object "TypesAtPrime$Monomial"))) ∈ lw_all := lw_g (lw_at lw_m6 38 rfl) rfl
theorem q1341 : (Jvm.Cond.methodLink "TypesAtPrime$Tree" (229 : Nat) ({ cls := "TypesAtPrime$Tree", name := "pointsBelow", desc := "(LTypesAtPrime$Knot;)I" } : Jvm.MethodName)) ∈ lw_all := lw_g (lw_at lw_m6 39 rfl) rfl
theorem q1342 : (Jvm.Cond.privateMethod ({ cls := "TypesAtPrime$Tree", name := "pointsBelow", desc := "(LTypesAtPrime$Knot;)I" } : Jvm.MethodName)) ∈ lw_tbl := lw_at lw_m6 40 rfl
theorem q1343 : (Jvm.Cond.instanceMethod ({ cls := "TypesAtPrime$Tree", name := "pointsBelow", desc := "(LTypesAtPrime$Knot;)I" } : Jvm.MethodName)) ∈ lw_all := lw_g (lw_at lw_m6 41 rfl) rfl
theorem q1344 : (Jvm.Cond.code ({ cls := "TypesAtPrime$Tree", name := "pointsBelow", desc := "(LTypesAtPrime$Knot;)I" } : Jvm.MethodName) prog_16_method_11_code (8 : Nat) (Option.some Jvm.ClassFile.FieldType.int)) ∈ lw_all := lw_g (lw_at lw_m6 42 rfl) rfl
theorem q1345 : (Jvm.Cond.methodLink "TypesAtPrime$Tree" (261 : Nat) ({ cls := "java/util/ArrayList", name := "get", desc := "(I)Ljava/lang/Object;" } : Jvm.MethodName)) ∈ lw_all := lw_g (lw_at lw_m6 43 rfl) rfl
theorem q1346 : (Jvm.Cond.methodLink "TypesAtPrime$Tree" (271 : Nat) ({ cls := "java/lang/Math", name := "max", desc := "(II)I" } : Jvm.MethodName)) ∈ lw_all := lw_g (lw_at lw_m6 44 rfl) rfl
theorem q1347 : (Jvm.Cond.methodLink "TypesAtPrime$Tree" (275 : Nat) ({ cls := "java/lang/Math", name := "floorDiv", desc := "(II)I" } : Jvm.MethodName)) ∈ lw_all := lw_g (lw_at lw_m6 45 rfl) rfl
theorem q1350 : (Jvm.Cond.methodLink "TypesAtPrime$Tree" (239 : Nat) ({ cls := "TypesAtPrime$Tree", name := "splits", desc := "(LTypesAtPrime$Knot;LTypesAtPrime$Side;[LTypesAtPrime$Monomial;)V" } : Jvm.MethodName)) ∈ lw_all := lw_g (lw_at lw_m6 48 rfl) rfl
theorem q1351 : (Jvm.Cond.privateMethod ({ cls := "TypesAtPrime$Tree", name := "splits", desc := "(LTypesAtPrime$Knot;LTypesAtPrime$Side;[LTypesAtPrime$Monomial;)V" } : Jvm.MethodName)) ∈ lw_tbl := lw_at lw_m6 49 rfl
theorem q1352 : (Jvm.Cond.instanceMethod ({ cls := "TypesAtPrime$Tree", name := "splits", desc := "(LTypesAtPrime$Knot;LTypesAtPrime$Side;[LTypesAtPrime$Monomial;)V" } : Jvm.MethodName)) ∈ lw_all := lw_g (lw_at lw_m6 50 rfl) rfl
theorem q1353 : (Jvm.Cond.code ({ cls := "TypesAtPrime$Tree", name := "splits", desc := "(LTypesAtPrime$Knot;LTypesAtPrime$Side;[LTypesAtPrime$Monomial;)V" } : Jvm.MethodName) prog_16_method_12_code (8 : Nat) (Option.none : Option Jvm.ClassFile.FieldType)) ∈ lw_all := lw_g (lw_at lw_m6 51 rfl) rfl
theorem q1354 : (Jvm.Cond.methodLink "TypesAtPrime$Tree" (187 : Nat) ({ cls := "TypesAtPrime$Monomial", name := "comes", desc := "(LTypesAtPrime$Monomial;I)V" } : Jvm.MethodName)) ∈ lw_all := lw_g (lw_at lw_m6 52 rfl) rfl
theorem q1358 : (Jvm.Cond.methodLink "TypesAtPrime$Tree" (281 : Nat) ({ cls := "TypesAtPrime$Tree", name := "carries", desc := "(LTypesAtPrime$Knot;LTypesAtPrime$Monomial;)V" } : Jvm.MethodName)) ∈ lw_all := lw_g (lw_at lw_m6 56 rfl) rfl
theorem q1359 : (Jvm.Cond.privateMethod ({ cls := "TypesAtPrime$Tree", name := "carries", desc := "(LTypesAtPrime$Knot;LTypesAtPrime$Monomial;)V" } : Jvm.MethodName)) ∈ lw_tbl := lw_at lw_m6 57 rfl
theorem q1360 : (Jvm.Cond.instanceMethod ({ cls := "TypesAtPrime$Tree", name := "carries", desc := "(LTypesAtPrime$Knot;LTypesAtPrime$Monomial;)V" } : Jvm.MethodName)) ∈ lw_all := lw_g (lw_at lw_m6 58 rfl) rfl
theorem q1361 : (Jvm.Cond.code ({ cls := "TypesAtPrime$Tree", name := "carries", desc := "(LTypesAtPrime$Knot;LTypesAtPrime$Monomial;)V" } : Jvm.MethodName) prog_16_method_5_code (5 : Nat) (Option.none : Option Jvm.ClassFile.FieldType)) ∈ lw_all := lw_g (lw_at lw_m6 59 rfl) rfl
theorem q1362 : (Jvm.Cond.methodLink "TypesAtPrime$Tree" (191 : Nat) ({ cls := "TypesAtPrime$Knot", name := "rootBehind", desc := "(I)I" } : Jvm.MethodName)) ∈ lw_all := lw_g (lw_at lw_m6 60 rfl) rfl
theorem q1367 : (Jvm.Cond.classLink "TypesAtPrime$Tree" (111 : Nat) "TypesAtPrime$Hard") ∈ lw_all := lw_g (lw_at lw_m6 65 rfl) rfl
theorem q1369 : (Jvm.Cond.methodLink "TypesAtPrime$Tree" (113 : Nat) ({ cls := "TypesAtPrime$Hard", name := "<init>", desc := "(LTypesAtPrime$Knot;I)V" } : Jvm.MethodName)) ∈ lw_all := lw_g (lw_at lw_m6 67 rfl) rfl
theorem q1373 : (Jvm.Cond.classLink "TypesAtPrime$Tree" (285 : Nat) "TypesAtPrime$Deep") ∈ lw_all := lw_g (lw_at lw_m6 71 rfl) rfl
theorem q1375 : (Jvm.Cond.methodLink "TypesAtPrime$Tree" (287 : Nat) ({ cls := "TypesAtPrime$Deep", name := "<init>", desc := "(LTypesAtPrime$Knot;I)V" } : Jvm.MethodName)) ∈ lw_all := lw_g (lw_at lw_m6 73 rfl) rfl
theorem q1379 : (Jvm.Cond.methodLink "TypesAtPrime$Tree" (288 : Nat) ({ cls := "TypesAtPrime$Tree", name := "nextKey", desc := "(LTypesAtPrime$Knot;LTypesAtPrime$Side;I)[J" } : Jvm.MethodName)) ∈ lw_all := lw_g (lw_at lw_m6 77 rfl) rfl
theorem q1380 : (Jvm.Cond.privateMethod ({ cls := "TypesAtPrime$Tree", name := "nextKey", desc := "(LTypesAtPrime$Knot;LTypesAtPrime$Side;I)[J" } : Jvm.MethodName)) ∈ lw_tbl := lw_at lw_m6 78 rfl
theorem q1381 : (Jvm.Cond.instanceMethod ({ cls := "TypesAtPrime$Tree", name := "nextKey", desc := "(LTypesAtPrime$Knot;LTypesAtPrime$Side;I)[J" } : Jvm.MethodName)) ∈ lw_all := lw_g (lw_at lw_m6 79 rfl) rfl
theorem q1382 : (Jvm.Cond.code ({ cls := "TypesAtPrime$Tree", name := "nextKey", desc := "(LTypesAtPrime$Knot;LTypesAtPrime$Side;I)[J" } : Jvm.MethodName) prog_16_method_13_code (7 : Nat) (Option.some (Jvm.ClassFile.FieldType.array Jvm.ClassFile.FieldType.long))) ∈ lw_all := lw_g (lw_at lw_m6 80 rfl) rfl
theorem q1383 : (Jvm.Cond.methodLinkNest "TypesAtPrime$Tree" (197 : Nat) ({ cls := "TypesAtPrime", name := "product", desc := "([J[J)[J" } : Jvm.MethodName) "TypesAtPrime") ∈ lw_tbl := lw_at lw_m6 81 rfl
theorem q1387 : (Jvm.Cond.methodLink "TypesAtPrime$Tree" (292 : Nat) ({ cls := "TypesAtPrime$Tree", name := "asNumbers", desc := "(LTypesAtPrime$Knot;LTypesAtPrime$Monomial;)[J" } : Jvm.MethodName)) ∈ lw_all := lw_g (lw_at lw_m6 85 rfl) rfl
theorem q1388 : (Jvm.Cond.privateMethod ({ cls := "TypesAtPrime$Tree", name := "asNumbers", desc := "(LTypesAtPrime$Knot;LTypesAtPrime$Monomial;)[J" } : Jvm.MethodName)) ∈ lw_tbl := lw_at lw_m6 86 rfl
theorem q1389 : (Jvm.Cond.instanceMethod ({ cls := "TypesAtPrime$Tree", name := "asNumbers", desc := "(LTypesAtPrime$Knot;LTypesAtPrime$Monomial;)[J" } : Jvm.MethodName)) ∈ lw_all := lw_g (lw_at lw_m6 87 rfl) rfl
theorem q1390 : (Jvm.Cond.code ({ cls := "TypesAtPrime$Tree", name := "asNumbers", desc := "(LTypesAtPrime$Knot;LTypesAtPrime$Monomial;)[J" } : Jvm.MethodName) prog_16_method_7_code (6 : Nat) (Option.some (Jvm.ClassFile.FieldType.array Jvm.ClassFile.FieldType.long))) ∈ lw_all := lw_g (lw_at lw_m6 88 rfl) rfl
theorem q1391 : (Jvm.Cond.methodLinkNest "TypesAtPrime$Tree" (194 : Nat) ({ cls := "TypesAtPrime", name := "limit", desc := "()I" } : Jvm.MethodName) "TypesAtPrime") ∈ lw_tbl := lw_at lw_m6 89 rfl
theorem q1392 : (Jvm.Cond.fieldLink "TypesAtPrime$Tree" (33 : Nat) "TypesAtPrime$Tree" "f" "[J") ∈ lw_all := lw_g (lw_at lw_m6 90 rfl) rfl
theorem q1393 : (Jvm.Cond.fieldLink "TypesAtPrime$Tree" (41 : Nat) "TypesAtPrime$Tree" "degree" "I") ∈ lw_all := lw_g (lw_at lw_m6 91 rfl) rfl
theorem q1395 : (Jvm.Cond.fieldLink "TypesAtPrime$Tree" (18 : Nat) "TypesAtPrime$Tree" "knots" "Ljava/util/ArrayList;") ∈ lw_all := lw_g (lw_at lw_m6 93 rfl) rfl
theorem q1397 : (Jvm.Cond.fieldLink "TypesAtPrime$Tree" (22 : Nat) "TypesAtPrime$Tree" "leaves" "Ljava/util/ArrayList;") ∈ lw_all := lw_g (lw_at lw_m6 95 rfl) rfl
theorem q1399 : (Jvm.Cond.fieldLink "TypesAtPrime$Tree" (25 : Nat) "TypesAtPrime$Tree" "powers" "[I") ∈ lw_all := lw_g (lw_at lw_m6 97 rfl) rfl
theorem q1400 : (Jvm.Cond.fieldLink "TypesAtPrime$Tree" (155 : Nat) "TypesAtPrime$Tree" "head" "LTypesAtPrime$Monomial;") ∈ lw_all := lw_g (lw_at lw_m6 98 rfl) rfl
theorem q1401 : (Jvm.Cond.fieldLink "TypesAtPrime$Tree" (159 : Nat) "TypesAtPrime$Tree" "headValue" "J") ∈ lw_all := lw_g (lw_at lw_m6 99 rfl) rfl
theorem q1402 : (Jvm.Cond.fieldLink "TypesAtPrime$Tree" (3 : Nat) "TypesAtPrime$Tree" "this$0" "LTypesAtPrime;") ∈ lw_all := lw_g (lw_at lw_m6 100 rfl) rfl
theorem q1403 : (Jvm.Cond.laysFinal "TypesAtPrime$Tree" "TypesAtPrime$Tree" "f" "[J") ∈ lw_all := lw_g (lw_at lw_m6 101 rfl) rfl
theorem q1404 : (Jvm.Cond.soleField "TypesAtPrime$Tree" "f") ∈ lw_all := lw_g (lw_at lw_m6 102 rfl) rfl
theorem q1405 : (Jvm.Cond.laysFinal "TypesAtPrime$Tree" "TypesAtPrime$Tree" "degree" "I") ∈ lw_all := lw_g (lw_at lw_m6 103 rfl) rfl
theorem q1406 : (Jvm.Cond.soleField "TypesAtPrime$Tree" "degree") ∈ lw_all := lw_g (lw_at lw_m6 104 rfl) rfl
theorem q1407 : (Jvm.Cond.laysFinal "TypesAtPrime$Tree" "TypesAtPrime$Tree" "knots" "Ljava/util/ArrayList;") ∈ lw_all := lw_g (lw_at lw_m6 105 rfl) rfl
theorem q1408 : (Jvm.Cond.soleField "TypesAtPrime$Tree" "knots") ∈ lw_all := lw_g (lw_at lw_m6 106 rfl) rfl
theorem q1409 : (Jvm.Cond.laysFinal "TypesAtPrime$Tree" "TypesAtPrime$Tree" "leaves" "Ljava/util/ArrayList;") ∈ lw_all := lw_g (lw_at lw_m6 107 rfl) rfl
theorem q1410 : (Jvm.Cond.soleField "TypesAtPrime$Tree" "leaves") ∈ lw_all := lw_g (lw_at lw_m6 108 rfl) rfl
theorem q1411 : (Jvm.Cond.laysFinal "TypesAtPrime$Tree" "TypesAtPrime$Tree" "powers" "[I") ∈ lw_all := lw_g (lw_at lw_m6 109 rfl) rfl
theorem q1412 : (Jvm.Cond.soleField "TypesAtPrime$Tree" "powers") ∈ lw_all := lw_g (lw_at lw_m6 110 rfl) rfl
theorem q1413 : (Jvm.Cond.lays "TypesAtPrime$Tree" "TypesAtPrime$Tree" "head" "LTypesAtPrime$Monomial;") ∈ lw_all := lw_g (lw_at lw_m6 111 rfl) rfl
theorem q1414 : (Jvm.Cond.soleField "TypesAtPrime$Tree" "head") ∈ lw_all := lw_g (lw_at lw_m6 112 rfl) rfl
theorem q1415 : (Jvm.Cond.lays "TypesAtPrime$Tree" "TypesAtPrime$Tree" "headValue" "J") ∈ lw_all := lw_g (lw_at lw_m6 113 rfl) rfl
theorem q1416 : (Jvm.Cond.soleField "TypesAtPrime$Tree" "headValue") ∈ lw_all := lw_g (lw_at lw_m6 114 rfl) rfl
theorem q1417 : (Jvm.Cond.laysFinal "TypesAtPrime$Tree" "TypesAtPrime$Tree" "this$0" "LTypesAtPrime;") ∈ lw_all := lw_g (lw_at lw_m6 115 rfl) rfl
theorem q1418 : (Jvm.Cond.soleField "TypesAtPrime$Tree" "this$0") ∈ lw_all := lw_g (lw_at lw_m6 116 rfl) rfl
theorem q1419 : (Jvm.Cond.superclass "TypesAtPrime$Tree" "java/lang/Object") ∈ lw_all := lw_g (lw_at lw_m6 117 rfl) rfl
theorem q1430 : (Jvm.Cond.instanceMethod ({ cls := "TypesAtPrime$Tree", name := "index", desc := "()I" } : Jvm.MethodName)) ∈ lw_all := lw_g (lw_at lw_m6 128 rfl) rfl
theorem q1431 : (Jvm.Cond.selects "TypesAtPrime$Tree" ({ cls := "TypesAtPrime$Tree", name := "index", desc := "()I" } : Jvm.MethodName) ({ cls := "TypesAtPrime$Tree", name := "index", desc := "()I" } : Jvm.MethodName)) ∈ lw_all := lw_g (lw_at lw_m6 129 rfl) rfl
theorem q1432 : (Jvm.Cond.code ({ cls := "TypesAtPrime$Tree", name := "index", desc := "()I" } : Jvm.MethodName) prog_16_method_14_code (4 : Nat) (Option.some Jvm.ClassFile.FieldType.int)) ∈ lw_all := lw_g (lw_at lw_m6 130 rfl) rfl
theorem q1434 : (Jvm.Cond.instanceMethod ({ cls := "TypesAtPrime$Tree", name := "open", desc := "()I" } : Jvm.MethodName)) ∈ lw_all := lw_g (lw_at lw_m6 132 rfl) rfl
theorem q1435 : (Jvm.Cond.selects "TypesAtPrime$Tree" ({ cls := "TypesAtPrime$Tree", name := "open", desc := "()I" } : Jvm.MethodName) ({ cls := "TypesAtPrime$Tree", name := "open", desc := "()I" } : Jvm.MethodName)) ∈ lw_all := lw_g (lw_at lw_m6 133 rfl) rfl
theorem q1436 : (Jvm.Cond.code ({ cls := "TypesAtPrime$Tree", name := "open", desc := "()I" } : Jvm.MethodName) prog_16_method_15_code (4 : Nat) (Option.some Jvm.ClassFile.FieldType.int)) ∈ lw_all := lw_g (lw_at lw_m6 134 rfl) rfl
theorem q1437 : (Jvm.Cond.classLink "TypesAtPrime$Tree" (296 : Nat) "TypesAtPrime$Leaf") ∈ lw_all := lw_g (lw_at lw_m6 135 rfl) rfl
theorem q1438 : (Jvm.Cond.methodLink "TypesAtPrime$Tree" (298 : Nat) ({ cls := "TypesAtPrime$Leaf", name := "degree", desc := "()I" } : Jvm.MethodName)) ∈ lw_all := lw_g (lw_at lw_m6 136 rfl) rfl
theorem q1451 : (Jvm.Cond.instanceMethod ({ cls := "TypesAtPrime$Tree", name := "wild", desc := "()I" } : Jvm.MethodName)) ∈ lw_all := lw_g (lw_at lw_m6 149 rfl) rfl
theorem q1452 : (Jvm.Cond.selects "TypesAtPrime$Tree" ({ cls := "TypesAtPrime$Tree", name := "wild", desc := "()I" } : Jvm.MethodName) ({ cls := "TypesAtPrime$Tree", name := "wild", desc := "()I" } : Jvm.MethodName)) ∈ lw_all := lw_g (lw_at lw_m6 150 rfl) rfl
theorem q1453 : (Jvm.Cond.code ({ cls := "TypesAtPrime$Tree", name := "wild", desc := "()I" } : Jvm.MethodName) prog_16_method_16_code (4 : Nat) (Option.some Jvm.ClassFile.FieldType.int)) ∈ lw_all := lw_g (lw_at lw_m6 151 rfl) rfl
theorem q1454 : (Jvm.Cond.methodLink "TypesAtPrime$Tree" (300 : Nat) ({ cls := "TypesAtPrime$Leaf", name := "ramification", desc := "()I" } : Jvm.MethodName)) ∈ lw_all := lw_g (lw_at lw_m6 152 rfl) rfl
theorem q1467 : (Jvm.Cond.instanceMethod ({ cls := "TypesAtPrime$Tree", name := "levels", desc := "()I" } : Jvm.MethodName)) ∈ lw_all := lw_g (lw_at lw_m6 165 rfl) rfl
theorem q1468 : (Jvm.Cond.selects "TypesAtPrime$Tree" ({ cls := "TypesAtPrime$Tree", name := "levels", desc := "()I" } : Jvm.MethodName) ({ cls := "TypesAtPrime$Tree", name := "levels", desc := "()I" } : Jvm.MethodName)) ∈ lw_all := lw_g (lw_at lw_m6 166 rfl) rfl
theorem q1469 : (Jvm.Cond.code ({ cls := "TypesAtPrime$Tree", name := "levels", desc := "()I" } : Jvm.MethodName) prog_16_method_17_code (4 : Nat) (Option.some Jvm.ClassFile.FieldType.int)) ∈ lw_all := lw_g (lw_at lw_m6 167 rfl) rfl
theorem q1471 : (Jvm.Cond.instanceMethod ({ cls := "TypesAtPrime$Tree", name := "spelling", desc := "()Ljava/lang/CharSequence;" } : Jvm.MethodName)) ∈ lw_all := lw_g (lw_at lw_m6 169 rfl) rfl
theorem q1472 : (Jvm.Cond.selects "TypesAtPrime$Tree" ({ cls := "TypesAtPrime$Tree", name := "spelling", desc := "()Ljava/lang/CharSequence;" } : Jvm.MethodName) ({ cls := "TypesAtPrime$Tree", name := "spelling", desc := "()Ljava/lang/CharSequence;" } : Jvm.MethodName)) ∈ lw_all := lw_g (lw_at lw_m6 170 rfl) rfl
theorem q1473 : (Jvm.Cond.code ({ cls := "TypesAtPrime$Tree", name := "spelling", desc := "()Ljava/lang/CharSequence;" } : Jvm.MethodName) prog_16_method_18_code (4 : Nat) (Option.some (Jvm.ClassFile.FieldType.object "java/lang/CharSequence"))) ∈ lw_all := lw_g (lw_at lw_m6 171 rfl) rfl
theorem q1474 : (Jvm.Cond.classLink "TypesAtPrime$Tree" (302 : Nat) "java/lang/StringBuilder") ∈ lw_all := lw_g (lw_at lw_m6 172 rfl) rfl
theorem q1475 : (Jvm.Cond.methodLink "TypesAtPrime$Tree" (304 : Nat) ({ cls := "java/lang/StringBuilder", name := "<init>", desc := "()V" } : Jvm.MethodName)) ∈ lw_all := lw_g (lw_at lw_m6 173 rfl) rfl
theorem q1581 : (Jvm.Cond.selects "TypesAtPrime$Tree" ({ cls := "java/lang/Object", name := "toString", desc := "()Ljava/lang/String;" } : Jvm.MethodName) ({ cls := "java/lang/Object", name := "toString", desc := "()Ljava/lang/String;" } : Jvm.MethodName)) ∈ lw_all := lw_g (lw_at lw_m7 39 rfl) rfl
theorem q1697 : (Jvm.Cond.methodLink "TypesAtPrime$Tree" (310 : Nat) ({ cls := "TypesAtPrime$Spelt", name := "joined", desc := "(Ljava/lang/CharSequence;Ljava/lang/CharSequence;)Ljava/lang/CharSequence;" } : Jvm.MethodName)) ∈ lw_all := lw_g (lw_at lw_m7 155 rfl) rfl
theorem q2641 : (Jvm.Cond.castable "TypesAtPrime$Tree" "java/lang/Object") ∈ lw_tbl := lw_at lw_m11 139 rfl
theorem in_X6 : ∀ w ∈ wsX60, w ∈ lw_all := lw_in wsX60 [1403, 1405, 1407, 1409, 1411, 1413, 1415, 1417] (by decide +kernel) (by decide +kernel)

/-! TypesAtPrime$Leaf -/
set_option maxRecDepth 100000
def RX7 : String := "TypesAtPrime$Leaf"
abbrev cX7_init : ByteArray := prog_8_method_1_code
def yX7_init : MethodName := ⟨RX7, "<init>", "(LTypesAtPrime$Knot;)V"⟩
def dkwX7_init_0 : List UInt8 := [42, 183, 0, 1, 42, 43, 181, 0, 7, 177]
abbrev dktX7_init_0 : List UInt8 := dkwX7_init_0 ++ []
theorem dksX7_init_0 : cX7_init.data.toList.drop 0 = dktX7_init_0 := by decide +kernel
theorem dX7_init_0 : decode cX7_init 0 = .ok (.aload_n 0, 1) := dk_42 (dk_at dksX7_init_0 0 rfl rfl)
theorem dX7_init_1 : decode cX7_init 1 = .ok (.invokespecial 1, 3) := dk_183 0 1 (dk_at dksX7_init_0 1 rfl rfl)
theorem dX7_init_4 : decode cX7_init 4 = .ok (.aload_n 0, 1) := dk_42 (dk_at dksX7_init_0 4 rfl rfl)
theorem dX7_init_5 : decode cX7_init 5 = .ok (.aload_n 1, 1) := dk_43 (dk_at dksX7_init_0 5 rfl rfl)
theorem dX7_init_6 : decode cX7_init 6 = .ok (.putfield 7, 3) := dk_181 0 7 (dk_at dksX7_init_0 6 rfl rfl)
theorem dX7_init_9 : decode cX7_init 9 = .ok (.return_, 1) := dk_177 (dk_at dksX7_init_0 9 rfl rfl)
theorem q135 : (Jvm.Cond.initialized "TypesAtPrime$Leaf") ∈ lw_all := lw_g (lw_at lw_m1 33 rfl) rfl
theorem q1117 : (Jvm.Cond.instanceMethod ({ cls := "TypesAtPrime$Leaf", name := "<init>", desc := "(LTypesAtPrime$Knot;)V" } : Jvm.MethodName)) ∈ lw_all := lw_g (lw_at lw_m5 55 rfl) rfl
theorem q1118 : (Jvm.Cond.code ({ cls := "TypesAtPrime$Leaf", name := "<init>", desc := "(LTypesAtPrime$Knot;)V" } : Jvm.MethodName) prog_8_method_1_code (2 : Nat) (Option.none : Option Jvm.ClassFile.FieldType)) ∈ lw_all := lw_g (lw_at lw_m5 56 rfl) rfl
theorem q1119 : (Jvm.Cond.methodLink "TypesAtPrime$Leaf" (1 : Nat) ({ cls := "java/lang/Object", name := "<init>", desc := "()V" } : Jvm.MethodName)) ∈ lw_all := lw_g (lw_at lw_m5 57 rfl) rfl
theorem q1122 : (Jvm.Cond.fieldLink "TypesAtPrime$Leaf" (7 : Nat) "TypesAtPrime$Leaf" "maker" "LTypesAtPrime$Knot;") ∈ lw_all := lw_g (lw_at lw_m5 60 rfl) rfl
theorem q1129 : (Jvm.Cond.soleField "TypesAtPrime$Leaf" "maker") ∈ lw_all := lw_g (lw_at lw_m5 67 rfl) rfl
theorem q1439 : (Jvm.Cond.declares ({ cls := "TypesAtPrime$Leaf", name := "degree", desc := "()I" } : Jvm.MethodName)) ∈ lw_tbl := lw_at lw_m6 137 rfl
theorem q1440 : (Jvm.Cond.sameMethod "TypesAtPrime$Leaf" "TypesAtPrime$Leaf" "degree" "()I") ∈ lw_all := lw_g (lw_at lw_m6 138 rfl) rfl
theorem q1455 : (Jvm.Cond.declares ({ cls := "TypesAtPrime$Leaf", name := "ramification", desc := "()I" } : Jvm.MethodName)) ∈ lw_tbl := lw_at lw_m6 153 rfl
theorem q1456 : (Jvm.Cond.sameMethod "TypesAtPrime$Leaf" "TypesAtPrime$Leaf" "ramification" "()I") ∈ lw_all := lw_g (lw_at lw_m6 154 rfl) rfl
theorem q1476 : (Jvm.Cond.superclass "TypesAtPrime$Leaf" "java/lang/Object") ∈ lw_all := lw_g (lw_at lw_m6 174 rfl) rfl
theorem q1750 : (Jvm.Cond.declares ({ cls := "TypesAtPrime$Leaf", name := "kind", desc := "()I" } : Jvm.MethodName)) ∈ lw_tbl := lw_at lw_m7 208 rfl
theorem q1751 : (Jvm.Cond.sameMethod "TypesAtPrime$Leaf" "TypesAtPrime$Leaf" "kind" "()I") ∈ lw_all := lw_g (lw_at lw_m7 209 rfl) rfl
theorem q1772 : (Jvm.Cond.declares ({ cls := "TypesAtPrime$Leaf", name := "residueDegree", desc := "()I" } : Jvm.MethodName)) ∈ lw_tbl := lw_at lw_m7 230 rfl
theorem q1773 : (Jvm.Cond.sameMethod "TypesAtPrime$Leaf" "TypesAtPrime$Leaf" "residueDegree" "()I") ∈ lw_all := lw_g (lw_at lw_m7 231 rfl) rfl

/-! TypesAtPrime$Decided -/
set_option maxRecDepth 100000
def RX8 : String := "TypesAtPrime$Decided"
def TX8 : u_T := fun k => match k with
  | 0 => ("TypesAtPrime$Leaf", "maker", "LTypesAtPrime$Knot;", true)
  | 1 => ("TypesAtPrime$Decided", "ramification", "I", true)
  | _ => ("TypesAtPrime$Decided", "residueDegree", "I", true)
def tyX8 : Nat → FieldType := fun k => match k with
  | 0 => .object "TypesAtPrime$Knot"
  | 1 => .int
  | _ => .int
abbrev wsX80 : List Cond := u_ws RX8 TX8 3
theorem nmX8 : ∀ a, a < 3 → ∀ b, b < 3 → a ≠ b → (TX8 a).2.1 ≠ (TX8 b).2.1 := by decide +kernel
theorem tyX8_ok : ∀ k, k < 3 → parseFieldDescriptor (TX8 k).2.2.1 = some (tyX8 k) := by decide +kernel
abbrev cX8_init : ByteArray := prog_2_method_1_code
def yX8_init : MethodName := ⟨RX8, "<init>", "(LTypesAtPrime$Knot;II)V"⟩
def dkwX8_init_0 : List UInt8 := [42, 43, 183, 0, 1, 42, 28, 181, 0, 7, 42, 29, 181, 0, 13, 177]
abbrev dktX8_init_0 : List UInt8 := dkwX8_init_0 ++ []
theorem dksX8_init_0 : cX8_init.data.toList.drop 0 = dktX8_init_0 := by decide +kernel
theorem dX8_init_0 : decode cX8_init 0 = .ok (.aload_n 0, 1) := dk_42 (dk_at dksX8_init_0 0 rfl rfl)
theorem dX8_init_1 : decode cX8_init 1 = .ok (.aload_n 1, 1) := dk_43 (dk_at dksX8_init_0 1 rfl rfl)
theorem dX8_init_2 : decode cX8_init 2 = .ok (.invokespecial 1, 3) := dk_183 0 1 (dk_at dksX8_init_0 2 rfl rfl)
theorem dX8_init_5 : decode cX8_init 5 = .ok (.aload_n 0, 1) := dk_42 (dk_at dksX8_init_0 5 rfl rfl)
theorem dX8_init_6 : decode cX8_init 6 = .ok (.iload_n 2, 1) := dk_28 (dk_at dksX8_init_0 6 rfl rfl)
theorem dX8_init_7 : decode cX8_init 7 = .ok (.putfield 7, 3) := dk_181 0 7 (dk_at dksX8_init_0 7 rfl rfl)
theorem dX8_init_10 : decode cX8_init 10 = .ok (.aload_n 0, 1) := dk_42 (dk_at dksX8_init_0 10 rfl rfl)
theorem dX8_init_11 : decode cX8_init 11 = .ok (.iload_n 3, 1) := dk_29 (dk_at dksX8_init_0 11 rfl rfl)
theorem dX8_init_12 : decode cX8_init 12 = .ok (.putfield 13, 3) := dk_181 0 13 (dk_at dksX8_init_0 12 rfl rfl)
theorem dX8_init_15 : decode cX8_init 15 = .ok (.return_, 1) := dk_177 (dk_at dksX8_init_0 15 rfl rfl)
abbrev cX8_degree : ByteArray := prog_2_method_5_code
def yX8_degree : MethodName := ⟨RX8, "degree", "()I"⟩
def dkwX8_degree_0 : List UInt8 := [42, 180, 0, 7, 42, 180, 0, 13, 104, 172]
abbrev dktX8_degree_0 : List UInt8 := dkwX8_degree_0 ++ []
theorem dksX8_degree_0 : cX8_degree.data.toList.drop 0 = dktX8_degree_0 := by decide +kernel
theorem dX8_degree_0 : decode cX8_degree 0 = .ok (.aload_n 0, 1) := dk_42 (dk_at dksX8_degree_0 0 rfl rfl)
theorem dX8_degree_1 : decode cX8_degree 1 = .ok (.getfield 7, 3) := dk_180 0 7 (dk_at dksX8_degree_0 1 rfl rfl)
theorem dX8_degree_4 : decode cX8_degree 4 = .ok (.aload_n 0, 1) := dk_42 (dk_at dksX8_degree_0 4 rfl rfl)
theorem dX8_degree_5 : decode cX8_degree 5 = .ok (.getfield 13, 3) := dk_180 0 13 (dk_at dksX8_degree_0 5 rfl rfl)
theorem dX8_degree_8 : decode cX8_degree 8 = .ok (.imul, 1) := dk_104 (dk_at dksX8_degree_0 8 rfl rfl)
theorem dX8_degree_9 : decode cX8_degree 9 = .ok (.ireturn, 1) := dk_172 (dk_at dksX8_degree_0 9 rfl rfl)
abbrev cX8_ramification : ByteArray := prog_2_method_3_code
def yX8_ramification : MethodName := ⟨RX8, "ramification", "()I"⟩
theorem dX8_ramification_0 : decode cX8_ramification 0 = .ok (.aload_n 0, 1) := by decide +kernel
theorem dX8_ramification_1 : decode cX8_ramification 1 = .ok (.getfield 7, 3) := by decide +kernel
theorem dX8_ramification_4 : decode cX8_ramification 4 = .ok (.ireturn, 1) := by decide +kernel
abbrev cX8_spelling : ByteArray := prog_2_method_6_code
def yX8_spelling : MethodName := ⟨RX8, "spelling", "()Ljava/lang/CharSequence;"⟩
def dkwX8_spelling_1 : List UInt8 := [182, 0, 21, 182, 0, 30, 176]
abbrev dktX8_spelling_1 : List UInt8 := dkwX8_spelling_1 ++ []
def dkwX8_spelling_0 : List UInt8 := [187, 0, 16, 89, 183, 0, 18, 42, 180, 0, 7, 182, 0, 21, 18, 25, 182, 0, 27, 42, 180, 0, 13]
abbrev dktX8_spelling_0 : List UInt8 := dkwX8_spelling_0 ++ dktX8_spelling_1
theorem dksX8_spelling_0 : cX8_spelling.data.toList.drop 0 = dktX8_spelling_0 := by decide +kernel
theorem dksX8_spelling_1 : cX8_spelling.data.toList.drop 23 = dktX8_spelling_1 := dk_seg dksX8_spelling_0 23 rfl rfl
theorem dX8_spelling_0 : decode cX8_spelling 0 = .ok (.new 16, 3) := dk_187 0 16 (dk_at dksX8_spelling_0 0 rfl rfl)
theorem dX8_spelling_3 : decode cX8_spelling 3 = .ok (.dup, 1) := dk_89 (dk_at dksX8_spelling_0 3 rfl rfl)
theorem dX8_spelling_4 : decode cX8_spelling 4 = .ok (.invokespecial 18, 3) := dk_183 0 18 (dk_at dksX8_spelling_0 4 rfl rfl)
theorem dX8_spelling_7 : decode cX8_spelling 7 = .ok (.aload_n 0, 1) := dk_42 (dk_at dksX8_spelling_0 7 rfl rfl)
theorem dX8_spelling_8 : decode cX8_spelling 8 = .ok (.getfield 7, 3) := dk_180 0 7 (dk_at dksX8_spelling_0 8 rfl rfl)
theorem dX8_spelling_11 : decode cX8_spelling 11 = .ok (.invokevirtual 21, 3) := dk_182 0 21 (dk_at dksX8_spelling_0 11 rfl rfl)
theorem dX8_spelling_14 : decode cX8_spelling 14 = .ok (.ldc 25, 2) := dk_18 25 (dk_at dksX8_spelling_0 14 rfl rfl)
theorem dX8_spelling_16 : decode cX8_spelling 16 = .ok (.invokevirtual 27, 3) := dk_182 0 27 (dk_at dksX8_spelling_0 16 rfl rfl)
theorem dX8_spelling_19 : decode cX8_spelling 19 = .ok (.aload_n 0, 1) := dk_42 (dk_at dksX8_spelling_0 19 rfl rfl)
theorem dX8_spelling_20 : decode cX8_spelling 20 = .ok (.getfield 13, 3) := dk_180 0 13 (dk_at dksX8_spelling_0 20 rfl rfl)
theorem dX8_spelling_23 : decode cX8_spelling 23 = .ok (.invokevirtual 21, 3) := dk_182 0 21 (dk_at dksX8_spelling_1 0 rfl rfl)
theorem dX8_spelling_26 : decode cX8_spelling 26 = .ok (.invokevirtual 30, 3) := dk_182 0 30 (dk_at dksX8_spelling_1 3 rfl rfl)
theorem dX8_spelling_29 : decode cX8_spelling 29 = .ok (.areturn, 1) := dk_176 (dk_at dksX8_spelling_1 6 rfl rfl)
abbrev cX8_kind : ByteArray := prog_2_method_2_code
def yX8_kind : MethodName := ⟨RX8, "kind", "()I"⟩
theorem dX8_kind_0 : decode cX8_kind 0 = .ok (.iconst 0, 1) := by decide +kernel
theorem dX8_kind_1 : decode cX8_kind 1 = .ok (.ireturn, 1) := by decide +kernel
abbrev cX8_residueDegree : ByteArray := prog_2_method_4_code
def yX8_residueDegree : MethodName := ⟨RX8, "residueDegree", "()I"⟩
theorem dX8_residueDegree_0 : decode cX8_residueDegree 0 = .ok (.aload_n 0, 1) := by decide +kernel
theorem dX8_residueDegree_1 : decode cX8_residueDegree 1 = .ok (.getfield 13, 3) := by decide +kernel
theorem dX8_residueDegree_4 : decode cX8_residueDegree 4 = .ok (.ireturn, 1) := by decide +kernel
theorem q136 : (Jvm.Cond.initialized "TypesAtPrime$Decided") ∈ lw_all := lw_g (lw_at lw_m1 34 rfl) rfl
theorem q574 : (Jvm.Cond.selects "TypesAtPrime$Decided" ({ cls := "java/lang/Object", name := "getClass", desc := "()Ljava/lang/Class;" } : Jvm.MethodName) ({ cls := "java/lang/Object", name := "getClass", desc := "()Ljava/lang/Class;" } : Jvm.MethodName)) ∈ lw_all := lw_g (lw_at lw_m2 232 rfl) rfl
theorem q1112 : (Jvm.Cond.instantiable "TypesAtPrime$Decided" (3 : Nat)) ∈ lw_all := lw_g (lw_at lw_m5 50 rfl) rfl
theorem q1114 : (Jvm.Cond.instanceMethod ({ cls := "TypesAtPrime$Decided", name := "<init>", desc := "(LTypesAtPrime$Knot;II)V" } : Jvm.MethodName)) ∈ lw_all := lw_g (lw_at lw_m5 52 rfl) rfl
theorem q1115 : (Jvm.Cond.code ({ cls := "TypesAtPrime$Decided", name := "<init>", desc := "(LTypesAtPrime$Knot;II)V" } : Jvm.MethodName) prog_2_method_1_code (4 : Nat) (Option.none : Option Jvm.ClassFile.FieldType)) ∈ lw_all := lw_g (lw_at lw_m5 53 rfl) rfl
theorem q1116 : (Jvm.Cond.methodLink "TypesAtPrime$Decided" (1 : Nat) ({ cls := "TypesAtPrime$Leaf", name := "<init>", desc := "(LTypesAtPrime$Knot;)V" } : Jvm.MethodName)) ∈ lw_all := lw_g (lw_at lw_m5 54 rfl) rfl
theorem q1120 : (Jvm.Cond.fieldLink "TypesAtPrime$Decided" (7 : Nat) "TypesAtPrime$Decided" "ramification" "I") ∈ lw_all := lw_g (lw_at lw_m5 58 rfl) rfl
theorem q1121 : (Jvm.Cond.fieldLink "TypesAtPrime$Decided" (13 : Nat) "TypesAtPrime$Decided" "residueDegree" "I") ∈ lw_all := lw_g (lw_at lw_m5 59 rfl) rfl
theorem q1124 : (Jvm.Cond.laysFinal "TypesAtPrime$Decided" "TypesAtPrime$Decided" "ramification" "I") ∈ lw_all := lw_g (lw_at lw_m5 62 rfl) rfl
theorem q1125 : (Jvm.Cond.soleField "TypesAtPrime$Decided" "ramification") ∈ lw_all := lw_g (lw_at lw_m5 63 rfl) rfl
theorem q1126 : (Jvm.Cond.laysFinal "TypesAtPrime$Decided" "TypesAtPrime$Decided" "residueDegree" "I") ∈ lw_all := lw_g (lw_at lw_m5 64 rfl) rfl
theorem q1127 : (Jvm.Cond.soleField "TypesAtPrime$Decided" "residueDegree") ∈ lw_all := lw_g (lw_at lw_m5 65 rfl) rfl
theorem q1128 : (Jvm.Cond.laysFinal "TypesAtPrime$Decided" "TypesAtPrime$Leaf" "maker" "LTypesAtPrime$Knot;") ∈ lw_all := lw_g (lw_at lw_m5 66 rfl) rfl
theorem q1130 : (Jvm.Cond.superclass "TypesAtPrime$Decided" "TypesAtPrime$Leaf") ∈ lw_all := lw_g (lw_at lw_m5 68 rfl) rfl
theorem q1441 : (Jvm.Cond.selects "TypesAtPrime$Decided" ({ cls := "TypesAtPrime$Leaf", name := "degree", desc := "()I" } : Jvm.MethodName) ({ cls := "TypesAtPrime$Decided", name := "degree", desc := "()I" } : Jvm.MethodName)) ∈ lw_all := lw_g (lw_at lw_m6 139 rfl) rfl
theorem q1442 : (Jvm.Cond.instanceMethod ({ cls := "TypesAtPrime$Decided", name := "degree", desc := "()I" } : Jvm.MethodName)) ∈ lw_all := lw_g (lw_at lw_m6 140 rfl) rfl
theorem q1443 : (Jvm.Cond.code ({ cls := "TypesAtPrime$Decided", name := "degree", desc := "()I" } : Jvm.MethodName) prog_2_method_5_code (1 : Nat) (Option.some Jvm.ClassFile.FieldType.int)) ∈ lw_all := lw_g (lw_at lw_m6 141 rfl) rfl
theorem q1457 : (Jvm.Cond.selects "TypesAtPrime$Decided" ({ cls := "TypesAtPrime$Leaf", name := "ramification", desc := "()I" } : Jvm.MethodName) ({ cls := "TypesAtPrime$Decided", name := "ramification", desc := "()I" } : Jvm.MethodName)) ∈ lw_all := lw_g (lw_at lw_m6 155 rfl) rfl
theorem q1458 : (Jvm.Cond.instanceMethod ({ cls := "TypesAtPrime$Decided", name := "ramification", desc := "()I" } : Jvm.MethodName)) ∈ lw_all := lw_g (lw_at lw_m6 156 rfl) rfl
theorem q1459 : (Jvm.Cond.code ({ cls := "TypesAtPrime$Decided", name := "ramification", desc := "()I" } : Jvm.MethodName) prog_2_method_3_code (1 : Nat) (Option.some Jvm.ClassFile.FieldType.int)) ∈ lw_all := lw_g (lw_at lw_m6 157 rfl) rfl
theorem q1478 : (Jvm.Cond.unhidden "TypesAtPrime$Decided" "size" "()I") ∈ lw_tbl := lw_at lw_m6 176 rfl
theorem q1490 : (Jvm.Cond.castable "TypesAtPrime$Decided" "TypesAtPrime$Spelt") ∈ lw_tbl := lw_at lw_m6 188 rfl
theorem q1491 : (Jvm.Cond.selects "TypesAtPrime$Decided" ({ cls := "TypesAtPrime$Spelt", name := "spelling", desc := "()Ljava/lang/CharSequence;" } : Jvm.MethodName) ({ cls := "TypesAtPrime$Decided", name := "spelling", desc := "()Ljava/lang/CharSequence;" } : Jvm.MethodName)) ∈ lw_all := lw_g (lw_at lw_m6 189 rfl) rfl
theorem q1492 : (Jvm.Cond.unhidden "TypesAtPrime$Decided" "spelling" "()Ljava/lang/CharSequence;") ∈ lw_tbl := lw_at lw_m6 190 rfl
theorem q1493 : (Jvm.Cond.instanceMethod ({ cls := "TypesAtPrime$Decided", name := "spelling", desc := "()Ljava/lang/CharSequence;" } : Jvm.MethodName)) ∈ lw_all := lw_g (lw_at lw_m6 191 rfl) rfl
theorem q1494 : (Jvm.Cond.publicMethod ({ cls := "TypesAtPrime$Decided", name := "spelling", desc := "()Ljava/lang/CharSequence;" } : Jvm.MethodName)) ∈ lw_tbl := lw_at lw_m6 192 rfl
theorem q1495 : (Jvm.Cond.code ({ cls := "TypesAtPrime$Decided", name := "spelling", desc := "()Ljava/lang/CharSequence;" } : Jvm.MethodName) prog_2_method_6_code (1 : Nat) (Option.some (Jvm.ClassFile.FieldType.object "java/lang/CharSequence"))) ∈ lw_all := lw_g (lw_at lw_m6 193 rfl) rfl
theorem q1496 : (Jvm.Cond.classLink "TypesAtPrime$Decided" (16 : Nat) "java/lang/StringBuilder") ∈ lw_all := lw_g (lw_at lw_m6 194 rfl) rfl
theorem q1497 : (Jvm.Cond.methodLink "TypesAtPrime$Decided" (18 : Nat) ({ cls := "java/lang/StringBuilder", name := "<init>", desc := "()V" } : Jvm.MethodName)) ∈ lw_all := lw_g (lw_at lw_m6 195 rfl) rfl
theorem q1498 : (Jvm.Cond.methodLink "TypesAtPrime$Decided" (21 : Nat) ({ cls := "java/lang/StringBuilder", name := "append", desc := "(I)Ljava/lang/StringBuilder;" } : Jvm.MethodName)) ∈ lw_all := lw_g (lw_at lw_m6 196 rfl) rfl
theorem q1499 : (Jvm.Cond.stringRef "TypesAtPrime$Decided" (25 : Nat) ".") ∈ lw_tbl := lw_at lw_m6 197 rfl
theorem q1500 : (Jvm.Cond.methodLink "TypesAtPrime$Decided" (27 : Nat) ({ cls := "java/lang/StringBuilder", name := "append", desc := "(Ljava/lang/String;)Ljava/lang/StringBuilder;" } : Jvm.MethodName)) ∈ lw_all := lw_g (lw_at lw_m6 198 rfl) rfl
theorem q1501 : (Jvm.Cond.methodLink "TypesAtPrime$Decided" (30 : Nat) ({ cls := "java/lang/StringBuilder", name := "toString", desc := "()Ljava/lang/String;" } : Jvm.MethodName)) ∈ lw_all := lw_g (lw_at lw_m6 199 rfl) rfl
theorem q1534 : (Jvm.Cond.selects "TypesAtPrime$Decided" ({ cls := "java/lang/Object", name := "toString", desc := "()Ljava/lang/String;" } : Jvm.MethodName) ({ cls := "java/lang/Object", name := "toString", desc := "()Ljava/lang/String;" } : Jvm.MethodName)) ∈ lw_all := lw_g (lw_at lw_m6 232 rfl) rfl
theorem q1752 : (Jvm.Cond.selects "TypesAtPrime$Decided" ({ cls := "TypesAtPrime$Leaf", name := "kind", desc := "()I" } : Jvm.MethodName) ({ cls := "TypesAtPrime$Decided", name := "kind", desc := "()I" } : Jvm.MethodName)) ∈ lw_all := lw_g (lw_at lw_m7 210 rfl) rfl
theorem q1753 : (Jvm.Cond.instanceMethod ({ cls := "TypesAtPrime$Decided", name := "kind", desc := "()I" } : Jvm.MethodName)) ∈ lw_all := lw_g (lw_at lw_m7 211 rfl) rfl
theorem q1754 : (Jvm.Cond.code ({ cls := "TypesAtPrime$Decided", name := "kind", desc := "()I" } : Jvm.MethodName) prog_2_method_2_code (1 : Nat) (Option.some Jvm.ClassFile.FieldType.int)) ∈ lw_all := lw_g (lw_at lw_m7 212 rfl) rfl
theorem q1774 : (Jvm.Cond.selects "TypesAtPrime$Decided" ({ cls := "TypesAtPrime$Leaf", name := "residueDegree", desc := "()I" } : Jvm.MethodName) ({ cls := "TypesAtPrime$Decided", name := "residueDegree", desc := "()I" } : Jvm.MethodName)) ∈ lw_all := lw_g (lw_at lw_m7 232 rfl) rfl
theorem q1775 : (Jvm.Cond.instanceMethod ({ cls := "TypesAtPrime$Decided", name := "residueDegree", desc := "()I" } : Jvm.MethodName)) ∈ lw_all := lw_g (lw_at lw_m7 233 rfl) rfl
theorem q1776 : (Jvm.Cond.code ({ cls := "TypesAtPrime$Decided", name := "residueDegree", desc := "()I" } : Jvm.MethodName) prog_2_method_4_code (1 : Nat) (Option.some Jvm.ClassFile.FieldType.int)) ∈ lw_all := lw_g (lw_at lw_m7 234 rfl) rfl
theorem q2605 : (Jvm.Cond.sameMethod "TypesAtPrime$Decided" "TypesAtPrime$Decided" "spelling" "()Ljava/lang/CharSequence;") ∈ lw_all := lw_g (lw_at lw_m11 103 rfl) rfl
theorem q2614 : (Jvm.Cond.sameMethod "TypesAtPrime$Decided" "TypesAtPrime$Decided" "kind" "()I") ∈ lw_all := lw_g (lw_at lw_m11 112 rfl) rfl
theorem q2619 : (Jvm.Cond.castable "TypesAtPrime$Decided" "TypesAtPrime$Leaf") ∈ lw_tbl := lw_at lw_m11 117 rfl
theorem q2643 : (Jvm.Cond.castable "TypesAtPrime$Decided" "java/lang/Object") ∈ lw_tbl := lw_at lw_m11 141 rfl
theorem in_X8 : ∀ w ∈ wsX80, w ∈ lw_all := lw_in wsX80 [1128, 1124, 1126] (by decide +kernel) (by decide +kernel)

/-! TypesAtPrime$Knot -/
set_option maxRecDepth 100000
def RX9 : String := "TypesAtPrime$Knot"
def TX9 : u_T := fun k => match k with
  | 0 => ("TypesAtPrime$Knot", "above", "LTypesAtPrime$Knot;", true)
  | 1 => ("TypesAtPrime$Knot", "by", "LTypesAtPrime$Side;", true)
  | 2 => ("TypesAtPrime$Knot", "root", "I", true)
  | 3 => ("TypesAtPrime$Knot", "level", "I", true)
  | 4 => ("TypesAtPrime$Knot", "manifold", "I", true)
  | 5 => ("TypesAtPrime$Knot", "number", "I", true)
  | 6 => ("TypesAtPrime$Knot", "key", "[J", true)
  | 7 => ("TypesAtPrime$Knot", "ramified", "I", true)
  | 8 => ("TypesAtPrime$Knot", "worth", "I", true)
  | 9 => ("TypesAtPrime$Knot", "points", "[I", true)
  | 10 => ("TypesAtPrime$Knot", "sides", "Ljava/util/ArrayList;", true)
  | 11 => ("TypesAtPrime$Knot", "first", "I", false)
  | _ => ("TypesAtPrime$Knot", "index", "I", false)
def tyX9 : Nat → FieldType := fun k => match k with
  | 0 => .object "TypesAtPrime$Knot"
  | 1 => .object "TypesAtPrime$Side"
  | 2 => .int
  | 3 => .int
  | 4 => .int
  | 5 => .int
  | 6 => .array .long
  | 7 => .int
  | 8 => .int
  | 9 => .array .int
  | 10 => .object "java/util/ArrayList"
  | 11 => .int
  | _ => .int
abbrev wsX90 : List Cond := u_ws RX9 TX9 13
set_option maxRecDepth 100000 in
theorem nmX9 : ∀ a, a < 13 → ∀ b, b < 13 → a ≠ b → (TX9 a).2.1 ≠ (TX9 b).2.1 := by decide +kernel
set_option maxRecDepth 100000 in
theorem tyX9_ok : ∀ k, k < 13 → parseFieldDescriptor (TX9 k).2.2.1 = some (tyX9 k) := by decide +kernel
abbrev cX9_init : ByteArray := prog_7_method_1_code
def yX9_init : MethodName := ⟨RX9, "<init>", "(LTypesAtPrime$Knot;LTypesAtPrime$Side;I[JII)V"⟩
def dkwX9_init_4 : List UInt8 := [42, 43, 199, 0, 7, 3, 167, 0, 12, 44, 180, 0, 55, 44, 180, 0, 50, 104, 181, 0, 58, 177]
abbrev dktX9_init_4 : List UInt8 := dkwX9_init_4 ++ []
def dkwX9_init_3 : List UInt8 := [181, 0, 44, 42, 43, 199, 0, 7, 4, 167, 0, 12, 43, 180, 0, 47, 44, 180, 0, 50, 104, 181, 0, 47]
abbrev dktX9_init_3 : List UInt8 := dkwX9_init_3 ++ dktX9_init_4
def dkwX9_init_2 : List UInt8 := [181, 0, 38, 42, 21, 6, 181, 0, 41, 42, 43, 199, 0, 7, 4, 167, 0, 9, 43, 180, 0, 44, 4, 96]
abbrev dktX9_init_2 : List UInt8 := dkwX9_init_2 ++ dktX9_init_3
def dkwX9_init_1 : List UInt8 := [43, 181, 0, 22, 42, 44, 181, 0, 26, 42, 29, 181, 0, 30, 42, 25, 4, 181, 0, 34, 42, 21, 5]
abbrev dktX9_init_1 : List UInt8 := dkwX9_init_1 ++ dktX9_init_2
def dkwX9_init_0 : List UInt8 := [42, 183, 0, 3, 42, 16, 9, 188, 10, 181, 0, 9, 42, 187, 0, 15, 89, 183, 0, 17, 181, 0, 18, 42]
abbrev dktX9_init_0 : List UInt8 := dkwX9_init_0 ++ dktX9_init_1
theorem dksX9_init_0 : cX9_init.data.toList.drop 0 = dktX9_init_0 := by decide +kernel
theorem dksX9_init_1 : cX9_init.data.toList.drop 24 = dktX9_init_1 := dk_seg dksX9_init_0 24 rfl rfl
theorem dksX9_init_2 : cX9_init.data.toList.drop 47 = dktX9_init_2 := dk_seg dksX9_init_1 23 rfl rfl
theorem dksX9_init_3 : cX9_init.data.toList.drop 71 = dktX9_init_3 := dk_seg dksX9_init_2 24 rfl rfl
theorem dksX9_init_4 : cX9_init.data.toList.drop 95 = dktX9_init_4 := dk_seg dksX9_init_3 24 rfl rfl
theorem dX9_init_0 : decode cX9_init 0 = .ok (.aload_n 0, 1) := dk_42 (dk_at dksX9_init_0 0 rfl rfl)
theorem dX9_init_1 : decode cX9_init 1 = .ok (.invokespecial 3, 3) := dk_183 0 3 (dk_at dksX9_init_0 1 rfl rfl)
theorem dX9_init_4 : decode cX9_init 4 = .ok (.aload_n 0, 1) := dk_42 (dk_at dksX9_init_0 4 rfl rfl)
theorem dX9_init_5 : decode cX9_init 5 = .ok (.bipush 9, 2) := dk_16 9 (dk_at dksX9_init_0 5 rfl rfl)
theorem dX9_init_7 : decode cX9_init 7 = .ok (.newarray .int, 2) := dk_188_10 (dk_at dksX9_init_0 7 rfl rfl)
theorem dX9_init_9 : decode cX9_init 9 = .ok (.putfield 9, 3) := dk_181 0 9 (dk_at dksX9_init_0 9 rfl rfl)
theorem dX9_init_12 : decode cX9_init 12 = .ok (.aload_n 0, 1) := dk_42 (dk_at dksX9_init_0 12 rfl rfl)
theorem dX9_init_13 : decode cX9_init 13 = .ok (.new 15, 3) := dk_187 0 15 (dk_at dksX9_init_0 13 rfl rfl)
theorem dX9_init_16 : decode cX9_init 16 = .ok (.dup, 1) := dk_89 (dk_at dksX9_init_0 16 rfl rfl)
theorem dX9_init_17 : decode cX9_init 17 = .ok (.invokespecial 17, 3) := dk_183 0 17 (dk_at dksX9_init_0 17 rfl rfl)
theorem dX9_init_20 : decode cX9_init 20 = .ok (.putfield 18, 3) := dk_181 0 18 (dk_at dksX9_init_0 20 rfl rfl)
theorem dX9_init_23 : decode cX9_init 23 = .ok (.aload_n 0, 1) := dk_42 (dk_at dksX9_init_0 23 rfl rfl)
theorem dX9_init_24 : decode cX9_init 24 = .ok (.aload_n 1, 1) := dk_43 (dk_at dksX9_init_1 0 rfl rfl)
theorem dX9_init_25 : decode cX9_init 25 = .ok (.putfield 22, 3) := dk_181 0 22 (dk_at dksX9_init_1 1 rfl rfl)
theorem dX9_init_28 : decode cX9_init 28 = .ok (.aload_n 0, 1) := dk_42 (dk_at dksX9_init_1 4 rfl rfl)
theorem dX9_init_29 : decode cX9_init 29 = .ok (.aload_n 2, 1) := dk_44 (dk_at dksX9_init_1 5 rfl rfl)
theorem dX9_init_30 : decode cX9_init 30 = .ok (.putfield 26, 3) := dk_181 0 26 (dk_at dksX9_init_1 6 rfl rfl)
theorem dX9_init_33 : decode cX9_init 33 = .ok (.aload_n 0, 1) := dk_42 (dk_at dksX9_init_1 9 rfl rfl)
theorem dX9_init_34 : decode cX9_init 34 = .ok (.iload_n 3, 1) := dk_29 (dk_at dksX9_init_1 10 rfl rfl)
theorem dX9_init_35 : decode cX9_init 35 = .ok (.putfield 30, 3) := dk_181 0 30 (dk_at dksX9_init_1 11 rfl rfl)
theorem dX9_init_38 : decode cX9_init 38 = .ok (.aload_n 0, 1) := dk_42 (dk_at dksX9_init_1 14 rfl rfl)
theorem dX9_init_39 : decode cX9_init 39 = .ok (.aload 4, 2) := dk_25 4 (dk_at dksX9_init_1 15 rfl rfl)
theorem dX9_init_41 : decode cX9_init 41 = .ok (.putfield 34, 3) := dk_181 0 34 (dk_at dksX9_init_1 17 rfl rfl)
theorem dX9_init_44 : decode cX9_init 44 = .ok (.aload_n 0, 1) := dk_42 (dk_at dksX9_init_1 20 rfl rfl)
theorem dX9_init_45 : decode cX9_init 45 = .ok (.iload 5, 2) := dk_21 5 (dk_at dksX9_init_1 21 rfl rfl)
theorem dX9_init_47 : decode cX9_init 47 = .ok (.putfield 38, 3) := dk_181 0 38 (dk_at dksX9_init_2 0 rfl rfl)
theorem dX9_init_50 : decode cX9_init 50 = .ok (.aload_n 0, 1) := dk_42 (dk_at dksX9_init_2 3 rfl rfl)
theorem dX9_init_51 : decode cX9_init 51 = .ok (.iload 6, 2) := dk_21 6 (dk_at dksX9_init_2 4 rfl rfl)
theorem dX9_init_53 : decode cX9_init 53 = .ok (.putfield 41, 3) := dk_181 0 41 (dk_at dksX9_init_2 6 rfl rfl)
theorem dX9_init_56 : decode cX9_init 56 = .ok (.aload_n 0, 1) := dk_42 (dk_at dksX9_init_2 9 rfl rfl)
theorem dX9_init_57 : decode cX9_init 57 = .ok (.aload_n 1, 1) := dk_43 (dk_at dksX9_init_2 10 rfl rfl)
theorem dX9_init_58 : decode cX9_init 58 = .ok (.ifnonnull 7, 3) := dk_199 0 7 (dk_at dksX9_init_2 11 rfl rfl)
theorem dX9_init_61 : decode cX9_init 61 = .ok (.iconst 1, 1) := dk_4 (dk_at dksX9_init_2 14 rfl rfl)
theorem dX9_init_62 : decode cX9_init 62 = .ok (.goto 9, 3) := dk_167 0 9 (dk_at dksX9_init_2 15 rfl rfl)
theorem dX9_init_65 : decode cX9_init 65 = .ok (.aload_n 1, 1) := dk_43 (dk_at dksX9_init_2 18 rfl rfl)
theorem dX9_init_66 : decode cX9_init 66 = .ok (.getfield 44, 3) := dk_180 0 44 (dk_at dksX9_init_2 19 rfl rfl)
theorem dX9_init_69 : decode cX9_init 69 = .ok (.iconst 1, 1) := dk_4 (dk_at dksX9_init_2 22 rfl rfl)
theorem dX9_init_70 : decode cX9_init 70 = .ok (.iadd, 1) := dk_96 (dk_at dksX9_init_2 23 rfl rfl)
theorem dX9_init_71 : decode cX9_init 71 = .ok (.putfield 44, 3) := dk_181 0 44 (dk_at dksX9_init_3 0 rfl rfl)
theorem dX9_init_74 : decode cX9_init 74 = .ok (.aload_n 0, 1) := dk_42 (dk_at dksX9_init_3 3 rfl rfl)
theorem dX9_init_75 : decode cX9_init 75 = .ok (.aload_n 1, 1) := dk_43 (dk_at dksX9_init_3 4 rfl rfl)
theorem dX9_init_76 : decode cX9_init 76 = .ok (.ifnonnull 7, 3) := dk_199 0 7 (dk_at dksX9_init_3 5 rfl rfl)
theorem dX9_init_79 : decode cX9_init 79 = .ok (.iconst 1, 1) := dk_4 (dk_at dksX9_init_3 8 rfl rfl)
theorem dX9_init_80 : decode cX9_init 80 = .ok (.goto 12, 3) := dk_167 0 12 (dk_at dksX9_init_3 9 rfl rfl)
theorem dX9_init_83 : decode cX9_init 83 = .ok (.aload_n 1, 1) := dk_43 (dk_at dksX9_init_3 12 rfl rfl)
theorem dX9_init_84 : decode cX9_init 84 = .ok (.getfield 47, 3) := dk_180 0 47 (dk_at dksX9_init_3 13 rfl rfl)
theorem dX9_init_87 : decode cX9_init 87 = .ok (.aload_n 2, 1) := dk_44 (dk_at dksX9_init_3 16 rfl rfl)
theorem dX9_init_88 : decode cX9_init 88 = .ok (.getfield 50, 3) := dk_180 0 50 (dk_at dksX9_init_3 17 rfl rfl)
theorem dX9_init_91 : decode cX9_init 91 = .ok (.imul, 1) := dk_104 (dk_at dksX9_init_3 20 rfl rfl)
theorem dX9_init_92 : decode cX9_init 92 = .ok (.putfield 47, 3) := dk_181 0 47 (dk_at dksX9_init_3 21 rfl rfl)
theorem dX9_init_95 : decode cX9_init 95 = .ok (.aload_n 0, 1) := dk_42 (dk_at dksX9_init_4 0 rfl rfl)
theorem dX9_init_96 : decode cX9_init 96 = .ok (.aload_n 1, 1) := dk_43 (dk_at dksX9_init_4 1 rfl rfl)
theorem dX9_init_97 : decode cX9_init 97 = .ok (.ifnonnull 7, 3) := dk_199 0 7 (dk_at dksX9_init_4 2 rfl rfl)
theorem dX9_init_100 : decode cX9_init 100 = .ok (.iconst 0, 1) := dk_3 (dk_at dksX9_init_4 5 rfl rfl)
theorem dX9_init_101 : decode cX9_init 101 = .ok (.goto 12, 3) := dk_167 0 12 (dk_at dksX9_init_4 6 rfl rfl)
theorem dX9_init_104 : decode cX9_init 104 = .ok (.aload_n 2, 1) := dk_44 (dk_at dksX9_init_4 9 rfl rfl)
theorem dX9_init_105 : decode cX9_init 105 = .ok (.getfield 55, 3) := dk_180 0 55 (dk_at dksX9_init_4 10 rfl rfl)
theorem dX9_init_108 : decode cX9_init 108 = .ok (.aload_n 2, 1) := dk_44 (dk_at dksX9_init_4 13 rfl rfl)
theorem dX9_init_109 : decode cX9_init 109 = .ok (.getfield 50, 3) := dk_180 0 50 (dk_at dksX9_init_4 14 rfl rfl)
theorem dX9_init_112 : decode cX9_init 112 = .ok (.imul, 1) := dk_104 (dk_at dksX9_init_4 17 rfl rfl)
theorem dX9_init_113 : decode cX9_init 113 = .ok (.putfield 58, 3) := dk_181 0 58 (dk_at dksX9_init_4 18 rfl rfl)
theorem dX9_init_116 : decode cX9_init 116 = .ok (.return_, 1) := dk_177 (dk_at dksX9_init_4 21 rfl rfl)
abbrev cX9_at : ByteArray := prog_7_method_2_code
def yX9_at : MethodName := ⟨RX9, "at", "(I)LTypesAtPrime$Knot;"⟩
def dkwX9_at_0 : List UInt8 := [27, 42, 180, 0, 44, 160, 0, 7, 42, 167, 0, 11, 42, 180, 0, 22, 27, 182, 0, 61, 176]
abbrev dktX9_at_0 : List UInt8 := dkwX9_at_0 ++ []
theorem dksX9_at_0 : cX9_at.data.toList.drop 0 = dktX9_at_0 := by decide +kernel
theorem dX9_at_0 : decode cX9_at 0 = .ok (.iload_n 1, 1) := dk_27 (dk_at dksX9_at_0 0 rfl rfl)
theorem dX9_at_1 : decode cX9_at 1 = .ok (.aload_n 0, 1) := dk_42 (dk_at dksX9_at_0 1 rfl rfl)
theorem dX9_at_2 : decode cX9_at 2 = .ok (.getfield 44, 3) := dk_180 0 44 (dk_at dksX9_at_0 2 rfl rfl)
theorem dX9_at_5 : decode cX9_at 5 = .ok (.if_icmp .ne 7, 3) := dk_160 0 7 (dk_at dksX9_at_0 5 rfl rfl)
theorem dX9_at_8 : decode cX9_at 8 = .ok (.aload_n 0, 1) := dk_42 (dk_at dksX9_at_0 8 rfl rfl)
theorem dX9_at_9 : decode cX9_at 9 = .ok (.goto 11, 3) := dk_167 0 11 (dk_at dksX9_at_0 9 rfl rfl)
theorem dX9_at_12 : decode cX9_at 12 = .ok (.aload_n 0, 1) := dk_42 (dk_at dksX9_at_0 12 rfl rfl)
theorem dX9_at_13 : decode cX9_at 13 = .ok (.getfield 22, 3) := dk_180 0 22 (dk_at dksX9_at_0 13 rfl rfl)
theorem dX9_at_16 : decode cX9_at 16 = .ok (.iload_n 1, 1) := dk_27 (dk_at dksX9_at_0 16 rfl rfl)
theorem dX9_at_17 : decode cX9_at 17 = .ok (.invokevirtual 61, 3) := dk_182 0 61 (dk_at dksX9_at_0 17 rfl rfl)
theorem dX9_at_20 : decode cX9_at 20 = .ok (.areturn, 1) := dk_176 (dk_at dksX9_at_0 20 rfl rfl)
abbrev cX9_behind : ByteArray := prog_7_method_3_code
def yX9_behind : MethodName := ⟨RX9, "behind", "(I)LTypesAtPrime$Side;"⟩
def dkwX9_behind_1 : List UInt8 := [182, 0, 65, 176]
abbrev dktX9_behind_1 : List UInt8 := dkwX9_behind_1 ++ []
def dkwX9_behind_0 : List UInt8 := [27, 4, 96, 42, 180, 0, 44, 160, 0, 10, 42, 180, 0, 26, 167, 0, 11, 42, 180, 0, 22, 27]
abbrev dktX9_behind_0 : List UInt8 := dkwX9_behind_0 ++ dktX9_behind_1
theorem dksX9_behind_0 : cX9_behind.data.toList.drop 0 = dktX9_behind_0 := by decide +kernel
theorem dksX9_behind_1 : cX9_behind.data.toList.drop 22 = dktX9_behind_1 := dk_seg dksX9_behind_0 22 rfl rfl
theorem dX9_behind_0 : decode cX9_behind 0 = .ok (.iload_n 1, 1) := dk_27 (dk_at dksX9_behind_0 0 rfl rfl)
theorem dX9_behind_1 : decode cX9_behind 1 = .ok (.iconst 1, 1) := dk_4 (dk_at dksX9_behind_0 1 rfl rfl)
theorem dX9_behind_2 : decode cX9_behind 2 = .ok (.iadd, 1) := dk_96 (dk_at dksX9_behind_0 2 rfl rfl)
theorem dX9_behind_3 : decode cX9_behind 3 = .ok (.aload_n 0, 1) := dk_42 (dk_at dksX9_behind_0 3 rfl rfl)
theorem dX9_behind_4 : decode cX9_behind 4 = .ok (.getfield 44, 3) := dk_180 0 44 (dk_at dksX9_behind_0 4 rfl rfl)
theorem dX9_behind_7 : decode cX9_behind 7 = .ok (.if_icmp .ne 10, 3) := dk_160 0 10 (dk_at dksX9_behind_0 7 rfl rfl)
theorem dX9_behind_10 : decode cX9_behind 10 = .ok (.aload_n 0, 1) := dk_42 (dk_at dksX9_behind_0 10 rfl rfl)
theorem dX9_behind_11 : decode cX9_behind 11 = .ok (.getfield 26, 3) := dk_180 0 26 (dk_at dksX9_behind_0 11 rfl rfl)
theorem dX9_behind_14 : decode cX9_behind 14 = .ok (.goto 11, 3) := dk_167 0 11 (dk_at dksX9_behind_0 14 rfl rfl)
theorem dX9_behind_17 : decode cX9_behind 17 = .ok (.aload_n 0, 1) := dk_42 (dk_at dksX9_behind_0 17 rfl rfl)
theorem dX9_behind_18 : decode cX9_behind 18 = .ok (.getfield 22, 3) := dk_180 0 22 (dk_at dksX9_behind_0 18 rfl rfl)
theorem dX9_behind_21 : decode cX9_behind 21 = .ok (.iload_n 1, 1) := dk_27 (dk_at dksX9_behind_0 21 rfl rfl)
theorem dX9_behind_22 : decode cX9_behind 22 = .ok (.invokevirtual 65, 3) := dk_182 0 65 (dk_at dksX9_behind_1 0 rfl rfl)
theorem dX9_behind_25 : decode cX9_behind 25 = .ok (.areturn, 1) := dk_176 (dk_at dksX9_behind_1 3 rfl rfl)
abbrev cX9_worthOf : ByteArray := prog_7_method_5_code
def yX9_worthOf : MethodName := ⟨RX9, "worthOf", "(I)I"⟩
def dkwX9_worthOf_1 : List UInt8 := [172]
abbrev dktX9_worthOf_1 : List UInt8 := dkwX9_worthOf_1 ++ []
def dkwX9_worthOf_0 : List UInt8 := [42, 27, 182, 0, 65, 180, 0, 55, 42, 180, 0, 47, 42, 27, 4, 96, 182, 0, 61, 180, 0, 47, 108, 104]
abbrev dktX9_worthOf_0 : List UInt8 := dkwX9_worthOf_0 ++ dktX9_worthOf_1
theorem dksX9_worthOf_0 : cX9_worthOf.data.toList.drop 0 = dktX9_worthOf_0 := by decide +kernel
theorem dksX9_worthOf_1 : cX9_worthOf.data.toList.drop 24 = dktX9_worthOf_1 := dk_seg dksX9_worthOf_0 24 rfl rfl
theorem dX9_worthOf_0 : decode cX9_worthOf 0 = .ok (.aload_n 0, 1) := dk_42 (dk_at dksX9_worthOf_0 0 rfl rfl)
theorem dX9_worthOf_1 : decode cX9_worthOf 1 = .ok (.iload_n 1, 1) := dk_27 (dk_at dksX9_worthOf_0 1 rfl rfl)
theorem dX9_worthOf_2 : decode cX9_worthOf 2 = .ok (.invokevirtual 65, 3) := dk_182 0 65 (dk_at dksX9_worthOf_0 2 rfl rfl)
theorem dX9_worthOf_5 : decode cX9_worthOf 5 = .ok (.getfield 55, 3) := dk_180 0 55 (dk_at dksX9_worthOf_0 5 rfl rfl)
theorem dX9_worthOf_8 : decode cX9_worthOf 8 = .ok (.aload_n 0, 1) := dk_42 (dk_at dksX9_worthOf_0 8 rfl rfl)
theorem dX9_worthOf_9 : decode cX9_worthOf 9 = .ok (.getfield 47, 3) := dk_180 0 47 (dk_at dksX9_worthOf_0 9 rfl rfl)
theorem dX9_worthOf_12 : decode cX9_worthOf 12 = .ok (.aload_n 0, 1) := dk_42 (dk_at dksX9_worthOf_0 12 rfl rfl)
theorem dX9_worthOf_13 : decode cX9_worthOf 13 = .ok (.iload_n 1, 1) := dk_27 (dk_at dksX9_worthOf_0 13 rfl rfl)
theorem dX9_worthOf_14 : decode cX9_worthOf 14 = .ok (.iconst 1, 1) := dk_4 (dk_at dksX9_worthOf_0 14 rfl rfl)
theorem dX9_worthOf_15 : decode cX9_worthOf 15 = .ok (.iadd, 1) := dk_96 (dk_at dksX9_worthOf_0 15 rfl rfl)
theorem dX9_worthOf_16 : decode cX9_worthOf 16 = .ok (.invokevirtual 61, 3) := dk_182 0 61 (dk_at dksX9_worthOf_0 16 rfl rfl)
theorem dX9_worthOf_19 : decode cX9_worthOf 19 = .ok (.getfield 47, 3) := dk_180 0 47 (dk_at dksX9_worthOf_0 19 rfl rfl)
theorem dX9_worthOf_22 : decode cX9_worthOf 22 = .ok (.idiv, 1) := dk_108 (dk_at dksX9_worthOf_0 22 rfl rfl)
theorem dX9_worthOf_23 : decode cX9_worthOf 23 = .ok (.imul, 1) := dk_104 (dk_at dksX9_worthOf_0 23 rfl rfl)
theorem dX9_worthOf_24 : decode cX9_worthOf 24 = .ok (.ireturn, 1) := dk_172 (dk_at dksX9_worthOf_1 0 rfl rfl)
abbrev cX9_rootBehind : ByteArray := prog_7_method_4_code
def yX9_rootBehind : MethodName := ⟨RX9, "rootBehind", "(I)I"⟩
def dkwX9_rootBehind_1 : List UInt8 := [182, 0, 69, 172]
abbrev dktX9_rootBehind_1 : List UInt8 := dkwX9_rootBehind_1 ++ []
def dkwX9_rootBehind_0 : List UInt8 := [27, 4, 96, 42, 180, 0, 44, 160, 0, 10, 42, 180, 0, 30, 167, 0, 11, 42, 180, 0, 22, 27]
abbrev dktX9_rootBehind_0 : List UInt8 := dkwX9_rootBehind_0 ++ dktX9_rootBehind_1
theorem dksX9_rootBehind_0 : cX9_rootBehind.data.toList.drop 0 = dktX9_rootBehind_0 := by decide +kernel
theorem dksX9_rootBehind_1 : cX9_rootBehind.data.toList.drop 22 = dktX9_rootBehind_1 := dk_seg dksX9_rootBehind_0 22 rfl rfl
theorem dX9_rootBehind_0 : decode cX9_rootBehind 0 = .ok (.iload_n 1, 1) := dk_27 (dk_at dksX9_rootBehind_0 0 rfl rfl)
theorem dX9_rootBehind_1 : decode cX9_rootBehind 1 = .ok (.iconst 1, 1) := dk_4 (dk_at dksX9_rootBehind_0 1 rfl rfl)
theorem dX9_rootBehind_2 : decode cX9_rootBehind 2 = .ok (.iadd, 1) := dk_96 (dk_at dksX9_rootBehind_0 2 rfl rfl)
theorem dX9_rootBehind_3 : decode cX9_rootBehind 3 = .ok (.aload_n 0, 1) := dk_42 (dk_at dksX9_rootBehind_0 3 rfl rfl)
theorem dX9_rootBehind_4 : decode cX9_rootBehind 4 = .ok (.getfield 44, 3) := dk_180 0 44 (dk_at dksX9_rootBehind_0 4 rfl rfl)
theorem dX9_rootBehind_7 : decode cX9_rootBehind 7 = .ok (.if_icmp .ne 10, 3) := dk_160 0 10 (dk_at dksX9_rootBehind_0 7 rfl rfl)
theorem dX9_rootBehind_10 : decode cX9_rootBehind 10 = .ok (.aload_n 0, 1) := dk_42 (dk_at dksX9_rootBehind_0 10 rfl rfl)
theorem dX9_rootBehind_11 : decode cX9_rootBehind 11 = .ok (.getfield 30, 3) := dk_180 0 30 (dk_at dksX9_rootBehind_0 11 rfl rfl)
theorem dX9_rootBehind_14 : decode cX9_rootBehind 14 = .ok (.goto 11, 3) := dk_167 0 11 (dk_at dksX9_rootBehind_0 14 rfl rfl)
theorem dX9_rootBehind_17 : decode cX9_rootBehind 17 = .ok (.aload_n 0, 1) := dk_42 (dk_at dksX9_rootBehind_0 17 rfl rfl)
theorem dX9_rootBehind_18 : decode cX9_rootBehind 18 = .ok (.getfield 22, 3) := dk_180 0 22 (dk_at dksX9_rootBehind_0 18 rfl rfl)
theorem dX9_rootBehind_21 : decode cX9_rootBehind 21 = .ok (.iload_n 1, 1) := dk_27 (dk_at dksX9_rootBehind_0 21 rfl rfl)
theorem dX9_rootBehind_22 : decode cX9_rootBehind 22 = .ok (.invokevirtual 69, 3) := dk_182 0 69 (dk_at dksX9_rootBehind_1 0 rfl rfl)
theorem dX9_rootBehind_25 : decode cX9_rootBehind 25 = .ok (.ireturn, 1) := dk_172 (dk_at dksX9_rootBehind_1 3 rfl rfl)
theorem q137 : (Jvm.Cond.initialized "TypesAtPrime$Knot") ∈ lw_all := lw_g (lw_at lw_m1 35 rfl) rfl
theorem q579 : (Jvm.Cond.selects "TypesAtPrime$Knot" ({ cls := "java/lang/Object", name := "getClass", desc := "()Ljava/lang/Class;" } : Jvm.MethodName) ({ cls := "java/lang/Object", name := "getClass", desc := "()Ljava/lang/Class;" } : Jvm.MethodName)) ∈ lw_all := lw_g (lw_at lw_m2 237 rfl) rfl
theorem q1134 : (Jvm.Cond.instantiable "TypesAtPrime$Knot" (13 : Nat)) ∈ lw_all := lw_g (lw_at lw_m5 72 rfl) rfl
theorem q1137 : (Jvm.Cond.instanceMethod ({ cls := "TypesAtPrime$Knot", name := "<init>", desc := "(LTypesAtPrime$Knot;LTypesAtPrime$Side;I[JII)V" } : Jvm.MethodName)) ∈ lw_all := lw_g (lw_at lw_m5 75 rfl) rfl
theorem q1138 : (Jvm.Cond.code ({ cls := "TypesAtPrime$Knot", name := "<init>", desc := "(LTypesAtPrime$Knot;LTypesAtPrime$Side;I[JII)V" } : Jvm.MethodName) prog_7_method_1_code (7 : Nat) (Option.none : Option Jvm.ClassFile.FieldType)) ∈ lw_all := lw_g (lw_at lw_m5 76 rfl) rfl
theorem q1139 : (Jvm.Cond.methodLink "TypesAtPrime$Knot" (3 : Nat) ({ cls := "java/lang/Object", name := "<init>", desc := "()V" } : Jvm.MethodName)) ∈ lw_all := lw_g (lw_at lw_m5 77 rfl) rfl
theorem q1140 : (Jvm.Cond.classLink "TypesAtPrime$Knot" (15 : Nat) "java/util/ArrayList") ∈ lw_all := lw_g (lw_at lw_m5 78 rfl) rfl
theorem q1141 : (Jvm.Cond.methodLink "TypesAtPrime$Knot" (17 : Nat) ({ cls := "java/util/ArrayList", name := "<init>", desc := "()V" } : Jvm.MethodName)) ∈ lw_all := lw_g (lw_at lw_m5 79 rfl) rfl
theorem q1142 : (Jvm.Cond.fieldLink "TypesAtPrime$Knot" (22 : Nat) "TypesAtPrime$Knot" "above" "LTypesAtPrime$Knot;") ∈ lw_all := lw_g (lw_at lw_m5 80 rfl) rfl
theorem q1144 : (Jvm.Cond.fieldLink "TypesAtPrime$Knot" (26 : Nat) "TypesAtPrime$Knot" "by" "LTypesAtPrime$Side;") ∈ lw_all := lw_g (lw_at lw_m5 82 rfl) rfl
theorem q1145 : (Jvm.Cond.fieldLink "TypesAtPrime$Knot" (30 : Nat) "TypesAtPrime$Knot" "root" "I") ∈ lw_all := lw_g (lw_at lw_m5 83 rfl) rfl
theorem q1146 : (Jvm.Cond.fieldLink "TypesAtPrime$Knot" (44 : Nat) "TypesAtPrime$Knot" "level" "I") ∈ lw_all := lw_g (lw_at lw_m5 84 rfl) rfl
theorem q1149 : (Jvm.Cond.fieldLink "TypesAtPrime$Knot" (38 : Nat) "TypesAtPrime$Knot" "manifold" "I") ∈ lw_all := lw_g (lw_at lw_m5 87 rfl) rfl
theorem q1152 : (Jvm.Cond.fieldLink "TypesAtPrime$Knot" (41 : Nat) "TypesAtPrime$Knot" "number" "I") ∈ lw_all := lw_g (lw_at lw_m5 90 rfl) rfl
theorem q1154 : (Jvm.Cond.fieldLink "TypesAtPrime$Knot" (34 : Nat) "TypesAtPrime$Knot" "key" "[J") ∈ lw_all := lw_g (lw_at lw_m5 92 rfl) rfl
theorem q1157 : (Jvm.Cond.fieldLink "TypesAtPrime$Knot" (47 : Nat) "TypesAtPrime$Knot" "ramified" "I") ∈ lw_all := lw_g (lw_at lw_m5 95 rfl) rfl
theorem q1159 : (Jvm.Cond.fieldLink "TypesAtPrime$Knot" (58 : Nat) "TypesAtPrime$Knot" "worth" "I") ∈ lw_all := lw_g (lw_at lw_m5 97 rfl) rfl
theorem q1161 : (Jvm.Cond.fieldLink "TypesAtPrime$Knot" (9 : Nat) "TypesAtPrime$Knot" "points" "[I") ∈ lw_all := lw_g (lw_at lw_m5 99 rfl) rfl
theorem q1164 : (Jvm.Cond.fieldLink "TypesAtPrime$Knot" (18 : Nat) "TypesAtPrime$Knot" "sides" "Ljava/util/ArrayList;") ∈ lw_all := lw_g (lw_at lw_m5 102 rfl) rfl
theorem q1171 : (Jvm.Cond.laysFinal "TypesAtPrime$Knot" "TypesAtPrime$Knot" "above" "LTypesAtPrime$Knot;") ∈ lw_all := lw_g (lw_at lw_m5 109 rfl) rfl
theorem q1172 : (Jvm.Cond.soleField "TypesAtPrime$Knot" "above") ∈ lw_all := lw_g (lw_at lw_m5 110 rfl) rfl
theorem q1173 : (Jvm.Cond.laysFinal "TypesAtPrime$Knot" "TypesAtPrime$Knot" "by" "LTypesAtPrime$Side;") ∈ lw_all := lw_g (lw_at lw_m5 111 rfl) rfl
theorem q1174 : (Jvm.Cond.soleField "TypesAtPrime$Knot" "by") ∈ lw_all := lw_g (lw_at lw_m5 112 rfl) rfl
theorem q1175 : (Jvm.Cond.laysFinal "TypesAtPrime$Knot" "TypesAtPrime$Knot" "root" "I") ∈ lw_all := lw_g (lw_at lw_m5 113 rfl) rfl
theorem q1176 : (Jvm.Cond.soleField "TypesAtPrime$Knot" "root") ∈ lw_all := lw_g (lw_at lw_m5 114 rfl) rfl
theorem q1177 : (Jvm.Cond.laysFinal "TypesAtPrime$Knot" "TypesAtPrime$Knot" "level" "I") ∈ lw_all := lw_g (lw_at lw_m5 115 rfl) rfl
theorem q1178 : (Jvm.Cond.soleField "TypesAtPrime$Knot" "level") ∈ lw_all := lw_g (lw_at lw_m5 116 rfl) rfl
theorem q1179 : (Jvm.Cond.laysFinal "TypesAtPrime$Knot" "TypesAtPrime$Knot" "manifold" "I") ∈ lw_all := lw_g (lw_at lw_m5 117 rfl) rfl
theorem q1180 : (Jvm.Cond.soleField "TypesAtPrime$Knot" "manifold") ∈ lw_all := lw_g (lw_at lw_m5 118 rfl) rfl
theorem q1181 : (Jvm.Cond.laysFinal "TypesAtPrime$Knot" "TypesAtPrime$Knot" "number" "I") ∈ lw_all := lw_g (lw_at lw_m5 119 rfl) rfl
theorem q1182 : (Jvm.Cond.soleField "TypesAtPrime$Knot" "number") ∈ lw_all := lw_g (lw_at lw_m5 120 rfl) rfl
theorem q1183 : (Jvm.Cond.laysFinal "TypesAtPrime$Knot" "TypesAtPrime$Knot" "key" "[J") ∈ lw_all := lw_g (lw_at lw_m5 121 rfl) rfl
theorem q1184 : (Jvm.Cond.soleField "TypesAtPrime$Knot" "key") ∈ lw_all := lw_g (lw_at lw_m5 122 rfl) rfl
theorem q1185 : (Jvm.Cond.laysFinal "TypesAtPrime$Knot" "TypesAtPrime$Knot" "ramified" "I") ∈ lw_all := lw_g (lw_at lw_m5 123 rfl) rfl
theorem q1186 : (Jvm.Cond.soleField "TypesAtPrime$Knot" "ramified") ∈ lw_all := lw_g (lw_at lw_m5 124 rfl) rfl
theorem q1187 : (Jvm.Cond.laysFinal "TypesAtPrime$Knot" "TypesAtPrime$Knot" "worth" "I") ∈ lw_all := lw_g (lw_at lw_m5 125 rfl) rfl
theorem q1188 : (Jvm.Cond.soleField "TypesAtPrime$Knot" "worth") ∈ lw_all := lw_g (lw_at lw_m5 126 rfl) rfl
theorem q1189 : (Jvm.Cond.laysFinal "TypesAtPrime$Knot" "TypesAtPrime$Knot" "points" "[I") ∈ lw_all := lw_g (lw_at lw_m5 127 rfl) rfl
theorem q1190 : (Jvm.Cond.soleField "TypesAtPrime$Knot" "points") ∈ lw_all := lw_g (lw_at lw_m5 128 rfl) rfl
theorem q1191 : (Jvm.Cond.laysFinal "TypesAtPrime$Knot" "TypesAtPrime$Knot" "sides" "Ljava/util/ArrayList;") ∈ lw_all := lw_g (lw_at lw_m5 129 rfl) rfl
theorem q1192 : (Jvm.Cond.soleField "TypesAtPrime$Knot" "sides") ∈ lw_all := lw_g (lw_at lw_m5 130 rfl) rfl
theorem q1193 : (Jvm.Cond.lays "TypesAtPrime$Knot" "TypesAtPrime$Knot" "first" "I") ∈ lw_all := lw_g (lw_at lw_m5 131 rfl) rfl
theorem q1194 : (Jvm.Cond.soleField "TypesAtPrime$Knot" "first") ∈ lw_all := lw_g (lw_at lw_m5 132 rfl) rfl
theorem q1195 : (Jvm.Cond.lays "TypesAtPrime$Knot" "TypesAtPrime$Knot" "index" "I") ∈ lw_all := lw_g (lw_at lw_m5 133 rfl) rfl
theorem q1196 : (Jvm.Cond.soleField "TypesAtPrime$Knot" "index") ∈ lw_all := lw_g (lw_at lw_m5 134 rfl) rfl
theorem q1197 : (Jvm.Cond.superclass "TypesAtPrime$Knot" "java/lang/Object") ∈ lw_all := lw_g (lw_at lw_m5 135 rfl) rfl
theorem q1240 : (Jvm.Cond.instanceMethod ({ cls := "TypesAtPrime$Knot", name := "at", desc := "(I)LTypesAtPrime$Knot;" } : Jvm.MethodName)) ∈ lw_all := lw_g (lw_at lw_m5 178 rfl) rfl
theorem q1241 : (Jvm.Cond.selects "TypesAtPrime$Knot" ({ cls := "TypesAtPrime$Knot", name := "at", desc := "(I)LTypesAtPrime$Knot;" } : Jvm.MethodName) ({ cls := "TypesAtPrime$Knot", name := "at", desc := "(I)LTypesAtPrime$Knot;" } : Jvm.MethodName)) ∈ lw_all := lw_g (lw_at lw_m5 179 rfl) rfl
theorem q1242 : (Jvm.Cond.code ({ cls := "TypesAtPrime$Knot", name := "at", desc := "(I)LTypesAtPrime$Knot;" } : Jvm.MethodName) prog_7_method_2_code (2 : Nat) (Option.some (Jvm.ClassFile.FieldType.object "TypesAtPrime$Knot"))) ∈ lw_all := lw_g (lw_at lw_m5 180 rfl) rfl
theorem q1243 : (Jvm.Cond.methodLink "TypesAtPrime$Knot" (61 : Nat) ({ cls := "TypesAtPrime$Knot", name := "at", desc := "(I)LTypesAtPrime$Knot;" } : Jvm.MethodName)) ∈ lw_all := lw_g (lw_at lw_m5 181 rfl) rfl
theorem q1245 : (Jvm.Cond.instanceMethod ({ cls := "TypesAtPrime$Knot", name := "behind", desc := "(I)LTypesAtPrime$Side;" } : Jvm.MethodName)) ∈ lw_all := lw_g (lw_at lw_m5 183 rfl) rfl
theorem q1246 : (Jvm.Cond.selects "TypesAtPrime$Knot" ({ cls := "TypesAtPrime$Knot", name := "behind", desc := "(I)LTypesAtPrime$Side;" } : Jvm.MethodName) ({ cls := "TypesAtPrime$Knot", name := "behind", desc := "(I)LTypesAtPrime$Side;" } : Jvm.MethodName)) ∈ lw_all := lw_g (lw_at lw_m5 184 rfl) rfl
theorem q1247 : (Jvm.Cond.code ({ cls := "TypesAtPrime$Knot", name := "behind", desc := "(I)LTypesAtPrime$Side;" } : Jvm.MethodName) prog_7_method_3_code (2 : Nat) (Option.some (Jvm.ClassFile.FieldType.object "TypesAtPrime$Side"))) ∈ lw_all := lw_g (lw_at lw_m5 185 rfl) rfl
theorem q1248 : (Jvm.Cond.methodLink "TypesAtPrime$Knot" (65 : Nat) ({ cls := "TypesAtPrime$Knot", name := "behind", desc := "(I)LTypesAtPrime$Side;" } : Jvm.MethodName)) ∈ lw_all := lw_g (lw_at lw_m5 186 rfl) rfl
theorem q1250 : (Jvm.Cond.instanceMethod ({ cls := "TypesAtPrime$Knot", name := "worthOf", desc := "(I)I" } : Jvm.MethodName)) ∈ lw_all := lw_g (lw_at lw_m5 188 rfl) rfl
theorem q1251 : (Jvm.Cond.selects "TypesAtPrime$Knot" ({ cls := "TypesAtPrime$Knot", name := "worthOf", desc := "(I)I" } : Jvm.MethodName) ({ cls := "TypesAtPrime$Knot", name := "worthOf", desc := "(I)I" } : Jvm.MethodName)) ∈ lw_all := lw_g (lw_at lw_m5 189 rfl) rfl
theorem q1252 : (Jvm.Cond.code ({ cls := "TypesAtPrime$Knot", name := "worthOf", desc := "(I)I" } : Jvm.MethodName) prog_7_method_5_code (2 : Nat) (Option.some Jvm.ClassFile.FieldType.int)) ∈ lw_all := lw_g (lw_at lw_m5 190 rfl) rfl
theorem q1307 : (Jvm.Cond.fieldLinkNest "TypesAtPrime$Knot" (50 : Nat) "TypesAtPrime$Side" "ramification" "I" "TypesAtPrime") ∈ lw_tbl := lw_at lw_m6 5 rfl
theorem q1313 : (Jvm.Cond.fieldLinkNest "TypesAtPrime$Knot" (55 : Nat) "TypesAtPrime$Side" "value" "I" "TypesAtPrime") ∈ lw_tbl := lw_at lw_m6 11 rfl
theorem q1363 : (Jvm.Cond.instanceMethod ({ cls := "TypesAtPrime$Knot", name := "rootBehind", desc := "(I)I" } : Jvm.MethodName)) ∈ lw_all := lw_g (lw_at lw_m6 61 rfl) rfl
theorem q1364 : (Jvm.Cond.selects "TypesAtPrime$Knot" ({ cls := "TypesAtPrime$Knot", name := "rootBehind", desc := "(I)I" } : Jvm.MethodName) ({ cls := "TypesAtPrime$Knot", name := "rootBehind", desc := "(I)I" } : Jvm.MethodName)) ∈ lw_all := lw_g (lw_at lw_m6 62 rfl) rfl
theorem q1365 : (Jvm.Cond.code ({ cls := "TypesAtPrime$Knot", name := "rootBehind", desc := "(I)I" } : Jvm.MethodName) prog_7_method_4_code (2 : Nat) (Option.some Jvm.ClassFile.FieldType.int)) ∈ lw_all := lw_g (lw_at lw_m6 63 rfl) rfl
theorem q1366 : (Jvm.Cond.methodLink "TypesAtPrime$Knot" (69 : Nat) ({ cls := "TypesAtPrime$Knot", name := "rootBehind", desc := "(I)I" } : Jvm.MethodName)) ∈ lw_all := lw_g (lw_at lw_m6 64 rfl) rfl
theorem q1539 : (Jvm.Cond.selects "TypesAtPrime$Knot" ({ cls := "java/lang/Object", name := "toString", desc := "()Ljava/lang/String;" } : Jvm.MethodName) ({ cls := "java/lang/Object", name := "toString", desc := "()Ljava/lang/String;" } : Jvm.MethodName)) ∈ lw_all := lw_g (lw_at lw_m6 237 rfl) rfl
theorem q2644 : (Jvm.Cond.castable "TypesAtPrime$Knot" "java/lang/Object") ∈ lw_tbl := lw_at lw_m11 142 rfl
theorem in_X9 : ∀ w ∈ wsX90, w ∈ lw_all := lw_in wsX90 [1171, 1173, 1175, 1177, 1179, 1181, 1183, 1185, 1187, 1189, 1191, 1193, 1195] (by decide +kernel) (by decide +kernel)

/-! TypesAtPrime$Monomial -/
set_option maxRecDepth 100000
def RX10 : String := "TypesAtPrime$Monomial"
def TX10 : u_T := fun k => match k with
  | 0 => ("TypesAtPrime$Monomial", "t", "[I", true)
  | _ => ("TypesAtPrime$Monomial", "residue", "I", false)
def tyX10 : Nat → FieldType := fun k => match k with
  | 0 => .array .int
  | _ => .int
abbrev wsX100 : List Cond := u_ws RX10 TX10 2
theorem nmX10 : ∀ a, a < 2 → ∀ b, b < 2 → a ≠ b → (TX10 a).2.1 ≠ (TX10 b).2.1 := by decide +kernel
theorem tyX10_ok : ∀ k, k < 2 → parseFieldDescriptor (TX10 k).2.2.1 = some (tyX10 k) := by decide +kernel
abbrev cX10_init : ByteArray := prog_10_method_1_code
def yX10_init : MethodName := ⟨RX10, "<init>", "()V"⟩
def dkwX10_init_0 : List UInt8 := [42, 183, 0, 3, 42, 16, 7, 188, 10, 181, 0, 9, 42, 4, 181, 0, 15, 177]
abbrev dktX10_init_0 : List UInt8 := dkwX10_init_0 ++ []
theorem dksX10_init_0 : cX10_init.data.toList.drop 0 = dktX10_init_0 := by decide +kernel
theorem dX10_init_0 : decode cX10_init 0 = .ok (.aload_n 0, 1) := dk_42 (dk_at dksX10_init_0 0 rfl rfl)
theorem dX10_init_1 : decode cX10_init 1 = .ok (.invokespecial 3, 3) := dk_183 0 3 (dk_at dksX10_init_0 1 rfl rfl)
theorem dX10_init_4 : decode cX10_init 4 = .ok (.aload_n 0, 1) := dk_42 (dk_at dksX10_init_0 4 rfl rfl)
theorem dX10_init_5 : decode cX10_init 5 = .ok (.bipush 7, 2) := dk_16 7 (dk_at dksX10_init_0 5 rfl rfl)
theorem dX10_init_7 : decode cX10_init 7 = .ok (.newarray .int, 2) := dk_188_10 (dk_at dksX10_init_0 7 rfl rfl)
theorem dX10_init_9 : decode cX10_init 9 = .ok (.putfield 9, 3) := dk_181 0 9 (dk_at dksX10_init_0 9 rfl rfl)
theorem dX10_init_12 : decode cX10_init 12 = .ok (.aload_n 0, 1) := dk_42 (dk_at dksX10_init_0 12 rfl rfl)
theorem dX10_init_13 : decode cX10_init 13 = .ok (.iconst 1, 1) := dk_4 (dk_at dksX10_init_0 13 rfl rfl)
theorem dX10_init_14 : decode cX10_init 14 = .ok (.putfield 15, 3) := dk_181 0 15 (dk_at dksX10_init_0 14 rfl rfl)
theorem dX10_init_17 : decode cX10_init 17 = .ok (.return_, 1) := dk_177 (dk_at dksX10_init_0 17 rfl rfl)
abbrev cX10_comes : ByteArray := prog_10_method_2_code
def yX10_comes : MethodName := ⟨RX10, "comes", "(LTypesAtPrime$Monomial;I)V"⟩
def dkwX10_comes_1 : List UInt8 := [79, 132, 3, 1, 167, 255, 230, 177]
abbrev dktX10_comes_1 : List UInt8 := dkwX10_comes_1 ++ []
def dkwX10_comes_0 : List UInt8 := [3, 62, 29, 16, 6, 163, 0, 26, 42, 180, 0, 9, 29, 92, 46, 28, 43, 180, 0, 9, 29, 46, 104, 96]
abbrev dktX10_comes_0 : List UInt8 := dkwX10_comes_0 ++ dktX10_comes_1
theorem dksX10_comes_0 : cX10_comes.data.toList.drop 0 = dktX10_comes_0 := by decide +kernel
theorem dksX10_comes_1 : cX10_comes.data.toList.drop 24 = dktX10_comes_1 := dk_seg dksX10_comes_0 24 rfl rfl
theorem dX10_comes_0 : decode cX10_comes 0 = .ok (.iconst 0, 1) := dk_3 (dk_at dksX10_comes_0 0 rfl rfl)
theorem dX10_comes_1 : decode cX10_comes 1 = .ok (.istore_n 3, 1) := dk_62 (dk_at dksX10_comes_0 1 rfl rfl)
theorem dX10_comes_2 : decode cX10_comes 2 = .ok (.iload_n 3, 1) := dk_29 (dk_at dksX10_comes_0 2 rfl rfl)
theorem dX10_comes_3 : decode cX10_comes 3 = .ok (.bipush 6, 2) := dk_16 6 (dk_at dksX10_comes_0 3 rfl rfl)
theorem dX10_comes_5 : decode cX10_comes 5 = .ok (.if_icmp .gt 26, 3) := dk_163 0 26 (dk_at dksX10_comes_0 5 rfl rfl)
theorem dX10_comes_8 : decode cX10_comes 8 = .ok (.aload_n 0, 1) := dk_42 (dk_at dksX10_comes_0 8 rfl rfl)
theorem dX10_comes_9 : decode cX10_comes 9 = .ok (.getfield 9, 3) := dk_180 0 9 (dk_at dksX10_comes_0 9 rfl rfl)
theorem dX10_comes_12 : decode cX10_comes 12 = .ok (.iload_n 3, 1) := dk_29 (dk_at dksX10_comes_0 12 rfl rfl)
theorem dX10_comes_13 : decode cX10_comes 13 = .ok (.dup2, 1) := dk_92 (dk_at dksX10_comes_0 13 rfl rfl)
theorem dX10_comes_14 : decode cX10_comes 14 = .ok (.iaload, 1) := dk_46 (dk_at dksX10_comes_0 14 rfl rfl)
theorem dX10_comes_15 : decode cX10_comes 15 = .ok (.iload_n 2, 1) := dk_28 (dk_at dksX10_comes_0 15 rfl rfl)
theorem dX10_comes_16 : decode cX10_comes 16 = .ok (.aload_n 1, 1) := dk_43 (dk_at dksX10_comes_0 16 rfl rfl)
theorem dX10_comes_17 : decode cX10_comes 17 = .ok (.getfield 9, 3) := dk_180 0 9 (dk_at dksX10_comes_0 17 rfl rfl)
theorem dX10_comes_20 : decode cX10_comes 20 = .ok (.iload_n 3, 1) := dk_29 (dk_at dksX10_comes_0 20 rfl rfl)
theorem dX10_comes_21 : decode cX10_comes 21 = .ok (.iaload, 1) := dk_46 (dk_at dksX10_comes_0 21 rfl rfl)
theorem dX10_comes_22 : decode cX10_comes 22 = .ok (.imul, 1) := dk_104 (dk_at dksX10_comes_0 22 rfl rfl)
theorem dX10_comes_23 : decode cX10_comes 23 = .ok (.iadd, 1) := dk_96 (dk_at dksX10_comes_0 23 rfl rfl)
theorem dX10_comes_24 : decode cX10_comes 24 = .ok (.iastore, 1) := dk_79 (dk_at dksX10_comes_1 0 rfl rfl)
theorem dX10_comes_25 : decode cX10_comes 25 = .ok (.iinc 3 1, 3) := dk_132 3 1 (dk_at dksX10_comes_1 1 rfl rfl)
theorem dX10_comes_28 : decode cX10_comes 28 = .ok (.goto (-26), 3) := dk_167 255 230 (dk_at dksX10_comes_1 4 rfl rfl)
theorem dX10_comes_31 : decode cX10_comes 31 = .ok (.return_, 1) := dk_177 (dk_at dksX10_comes_1 7 rfl rfl)
theorem q138 : (Jvm.Cond.initialized "TypesAtPrime$Monomial") ∈ lw_all := lw_g (lw_at lw_m1 36 rfl) rfl
theorem q581 : (Jvm.Cond.selects "TypesAtPrime$Monomial" ({ cls := "java/lang/Object", name := "getClass", desc := "()Ljava/lang/Class;" } : Jvm.MethodName) ({ cls := "java/lang/Object", name := "getClass", desc := "()Ljava/lang/Class;" } : Jvm.MethodName)) ∈ lw_all := lw_g (lw_at lw_m2 239 rfl) rfl
theorem q1222 : (Jvm.Cond.instantiable "TypesAtPrime$Monomial" (2 : Nat)) ∈ lw_all := lw_g (lw_at lw_m5 160 rfl) rfl
theorem q1224 : (Jvm.Cond.instanceMethod ({ cls := "TypesAtPrime$Monomial", name := "<init>", desc := "()V" } : Jvm.MethodName)) ∈ lw_all := lw_g (lw_at lw_m5 162 rfl) rfl
theorem q1225 : (Jvm.Cond.code ({ cls := "TypesAtPrime$Monomial", name := "<init>", desc := "()V" } : Jvm.MethodName) prog_10_method_1_code (1 : Nat) (Option.none : Option Jvm.ClassFile.FieldType)) ∈ lw_all := lw_g (lw_at lw_m5 163 rfl) rfl
theorem q1226 : (Jvm.Cond.methodLink "TypesAtPrime$Monomial" (3 : Nat) ({ cls := "java/lang/Object", name := "<init>", desc := "()V" } : Jvm.MethodName)) ∈ lw_all := lw_g (lw_at lw_m5 164 rfl) rfl
theorem q1227 : (Jvm.Cond.fieldLink "TypesAtPrime$Monomial" (9 : Nat) "TypesAtPrime$Monomial" "t" "[I") ∈ lw_all := lw_g (lw_at lw_m5 165 rfl) rfl
theorem q1230 : (Jvm.Cond.fieldLink "TypesAtPrime$Monomial" (15 : Nat) "TypesAtPrime$Monomial" "residue" "I") ∈ lw_all := lw_g (lw_at lw_m5 168 rfl) rfl
theorem q1232 : (Jvm.Cond.laysFinal "TypesAtPrime$Monomial" "TypesAtPrime$Monomial" "t" "[I") ∈ lw_all := lw_g (lw_at lw_m5 170 rfl) rfl
theorem q1233 : (Jvm.Cond.soleField "TypesAtPrime$Monomial" "t") ∈ lw_all := lw_g (lw_at lw_m5 171 rfl) rfl
theorem q1234 : (Jvm.Cond.lays "TypesAtPrime$Monomial" "TypesAtPrime$Monomial" "residue" "I") ∈ lw_all := lw_g (lw_at lw_m5 172 rfl) rfl
theorem q1235 : (Jvm.Cond.soleField "TypesAtPrime$Monomial" "residue") ∈ lw_all := lw_g (lw_at lw_m5 173 rfl) rfl
theorem q1236 : (Jvm.Cond.superclass "TypesAtPrime$Monomial" "java/lang/Object") ∈ lw_all := lw_g (lw_at lw_m5 174 rfl) rfl
theorem q1355 : (Jvm.Cond.instanceMethod ({ cls := "TypesAtPrime$Monomial", name := "comes", desc := "(LTypesAtPrime$Monomial;I)V" } : Jvm.MethodName)) ∈ lw_all := lw_g (lw_at lw_m6 53 rfl) rfl
theorem q1356 : (Jvm.Cond.selects "TypesAtPrime$Monomial" ({ cls := "TypesAtPrime$Monomial", name := "comes", desc := "(LTypesAtPrime$Monomial;I)V" } : Jvm.MethodName) ({ cls := "TypesAtPrime$Monomial", name := "comes", desc := "(LTypesAtPrime$Monomial;I)V" } : Jvm.MethodName)) ∈ lw_all := lw_g (lw_at lw_m6 54 rfl) rfl
theorem q1357 : (Jvm.Cond.code ({ cls := "TypesAtPrime$Monomial", name := "comes", desc := "(LTypesAtPrime$Monomial;I)V" } : Jvm.MethodName) prog_10_method_2_code (4 : Nat) (Option.none : Option Jvm.ClassFile.FieldType)) ∈ lw_all := lw_g (lw_at lw_m6 55 rfl) rfl
theorem q1541 : (Jvm.Cond.selects "TypesAtPrime$Monomial" ({ cls := "java/lang/Object", name := "toString", desc := "()Ljava/lang/String;" } : Jvm.MethodName) ({ cls := "java/lang/Object", name := "toString", desc := "()Ljava/lang/String;" } : Jvm.MethodName)) ∈ lw_all := lw_g (lw_at lw_m6 239 rfl) rfl
theorem q2628 : (Jvm.Cond.castable "TypesAtPrime$Monomial" "java/lang/Object") ∈ lw_tbl := lw_at lw_m11 126 rfl
theorem in_X10 : ∀ w ∈ wsX100, w ∈ lw_all := lw_in wsX100 [1232, 1234] (by decide +kernel) (by decide +kernel)

/-! TypesAtPrime$Hard -/
set_option maxRecDepth 100000
def RX11 : String := "TypesAtPrime$Hard"
def TX11 : u_T := fun k => match k with
  | 0 => ("TypesAtPrime$Leaf", "maker", "LTypesAtPrime$Knot;", true)
  | _ => ("TypesAtPrime$Hard", "degree", "I", true)
def tyX11 : Nat → FieldType := fun k => match k with
  | 0 => .object "TypesAtPrime$Knot"
  | _ => .int
abbrev wsX110 : List Cond := u_ws RX11 TX11 2
theorem nmX11 : ∀ a, a < 2 → ∀ b, b < 2 → a ≠ b → (TX11 a).2.1 ≠ (TX11 b).2.1 := by decide +kernel
theorem tyX11_ok : ∀ k, k < 2 → parseFieldDescriptor (TX11 k).2.2.1 = some (tyX11 k) := by decide +kernel
abbrev cX11_init : ByteArray := prog_6_method_1_code
def yX11_init : MethodName := ⟨RX11, "<init>", "(LTypesAtPrime$Knot;I)V"⟩
def dkwX11_init_0 : List UInt8 := [42, 43, 183, 0, 1, 42, 28, 181, 0, 7, 177]
abbrev dktX11_init_0 : List UInt8 := dkwX11_init_0 ++ []
theorem dksX11_init_0 : cX11_init.data.toList.drop 0 = dktX11_init_0 := by decide +kernel
theorem dX11_init_0 : decode cX11_init 0 = .ok (.aload_n 0, 1) := dk_42 (dk_at dksX11_init_0 0 rfl rfl)
theorem dX11_init_1 : decode cX11_init 1 = .ok (.aload_n 1, 1) := dk_43 (dk_at dksX11_init_0 1 rfl rfl)
theorem dX11_init_2 : decode cX11_init 2 = .ok (.invokespecial 1, 3) := dk_183 0 1 (dk_at dksX11_init_0 2 rfl rfl)
theorem dX11_init_5 : decode cX11_init 5 = .ok (.aload_n 0, 1) := dk_42 (dk_at dksX11_init_0 5 rfl rfl)
theorem dX11_init_6 : decode cX11_init 6 = .ok (.iload_n 2, 1) := dk_28 (dk_at dksX11_init_0 6 rfl rfl)
theorem dX11_init_7 : decode cX11_init 7 = .ok (.putfield 7, 3) := dk_181 0 7 (dk_at dksX11_init_0 7 rfl rfl)
theorem dX11_init_10 : decode cX11_init 10 = .ok (.return_, 1) := dk_177 (dk_at dksX11_init_0 10 rfl rfl)
abbrev cX11_degree : ByteArray := prog_6_method_5_code
def yX11_degree : MethodName := ⟨RX11, "degree", "()I"⟩
theorem dX11_degree_0 : decode cX11_degree 0 = .ok (.aload_n 0, 1) := by decide +kernel
theorem dX11_degree_1 : decode cX11_degree 1 = .ok (.getfield 7, 3) := by decide +kernel
theorem dX11_degree_4 : decode cX11_degree 4 = .ok (.ireturn, 1) := by decide +kernel
abbrev cX11_ramification : ByteArray := prog_6_method_3_code
def yX11_ramification : MethodName := ⟨RX11, "ramification", "()I"⟩
theorem dX11_ramification_0 : decode cX11_ramification 0 = .ok (.iconst 0, 1) := by decide +kernel
theorem dX11_ramification_1 : decode cX11_ramification 1 = .ok (.ireturn, 1) := by decide +kernel
abbrev cX11_spelling : ByteArray := prog_6_method_6_code
def yX11_spelling : MethodName := ⟨RX11, "spelling", "()Ljava/lang/CharSequence;"⟩
def dkwX11_spelling_0 : List UInt8 := [187, 0, 13, 89, 183, 0, 15, 18, 18, 182, 0, 20, 42, 180, 0, 7, 182, 0, 24, 182, 0, 27, 176]
abbrev dktX11_spelling_0 : List UInt8 := dkwX11_spelling_0 ++ []
theorem dksX11_spelling_0 : cX11_spelling.data.toList.drop 0 = dktX11_spelling_0 := by decide +kernel
theorem dX11_spelling_0 : decode cX11_spelling 0 = .ok (.new 13, 3) := dk_187 0 13 (dk_at dksX11_spelling_0 0 rfl rfl)
theorem dX11_spelling_3 : decode cX11_spelling 3 = .ok (.dup, 1) := dk_89 (dk_at dksX11_spelling_0 3 rfl rfl)
theorem dX11_spelling_4 : decode cX11_spelling 4 = .ok (.invokespecial 15, 3) := dk_183 0 15 (dk_at dksX11_spelling_0 4 rfl rfl)
theorem dX11_spelling_7 : decode cX11_spelling 7 = .ok (.ldc 18, 2) := dk_18 18 (dk_at dksX11_spelling_0 7 rfl rfl)
theorem dX11_spelling_9 : decode cX11_spelling 9 = .ok (.invokevirtual 20, 3) := dk_182 0 20 (dk_at dksX11_spelling_0 9 rfl rfl)
theorem dX11_spelling_12 : decode cX11_spelling 12 = .ok (.aload_n 0, 1) := dk_42 (dk_at dksX11_spelling_0 12 rfl rfl)
theorem dX11_spelling_13 : decode cX11_spelling 13 = .ok (.getfield 7, 3) := dk_180 0 7 (dk_at dksX11_spelling_0 13 rfl rfl)
theorem dX11_spelling_16 : decode cX11_spelling 16 = .ok (.invokevirtual 24, 3) := dk_182 0 24 (dk_at dksX11_spelling_0 16 rfl rfl)
theorem dX11_spelling_19 : decode cX11_spelling 19 = .ok (.invokevirtual 27, 3) := dk_182 0 27 (dk_at dksX11_spelling_0 19 rfl rfl)
theorem dX11_spelling_22 : decode cX11_spelling 22 = .ok (.areturn, 1) := dk_176 (dk_at dksX11_spelling_0 22 rfl rfl)
abbrev cX11_kind : ByteArray := prog_6_method_2_code
def yX11_kind : MethodName := ⟨RX11, "kind", "()I"⟩
theorem dX11_kind_0 : decode cX11_kind 0 = .ok (.iconst 2, 1) := by decide +kernel
theorem dX11_kind_1 : decode cX11_kind 1 = .ok (.ireturn, 1) := by decide +kernel
abbrev cX11_residueDegree : ByteArray := prog_6_method_4_code
def yX11_residueDegree : MethodName := ⟨RX11, "residueDegree", "()I"⟩
theorem dX11_residueDegree_0 : decode cX11_residueDegree 0 = .ok (.iconst 0, 1) := by decide +kernel
theorem dX11_residueDegree_1 : decode cX11_residueDegree 1 = .ok (.ireturn, 1) := by decide +kernel
theorem q139 : (Jvm.Cond.initialized "TypesAtPrime$Hard") ∈ lw_all := lw_g (lw_at lw_m1 37 rfl) rfl
theorem q578 : (Jvm.Cond.selects "TypesAtPrime$Hard" ({ cls := "java/lang/Object", name := "getClass", desc := "()Ljava/lang/Class;" } : Jvm.MethodName) ({ cls := "java/lang/Object", name := "getClass", desc := "()Ljava/lang/Class;" } : Jvm.MethodName)) ∈ lw_all := lw_g (lw_at lw_m2 236 rfl) rfl
theorem q1262 : (Jvm.Cond.instanceMethod ({ cls := "TypesAtPrime$Hard", name := "<init>", desc := "(LTypesAtPrime$Knot;I)V" } : Jvm.MethodName)) ∈ lw_all := lw_g (lw_at lw_m5 200 rfl) rfl
theorem q1263 : (Jvm.Cond.code ({ cls := "TypesAtPrime$Hard", name := "<init>", desc := "(LTypesAtPrime$Knot;I)V" } : Jvm.MethodName) prog_6_method_1_code (3 : Nat) (Option.none : Option Jvm.ClassFile.FieldType)) ∈ lw_all := lw_g (lw_at lw_m5 201 rfl) rfl
theorem q1264 : (Jvm.Cond.methodLink "TypesAtPrime$Hard" (1 : Nat) ({ cls := "TypesAtPrime$Leaf", name := "<init>", desc := "(LTypesAtPrime$Knot;)V" } : Jvm.MethodName)) ∈ lw_all := lw_g (lw_at lw_m5 202 rfl) rfl
theorem q1265 : (Jvm.Cond.fieldLink "TypesAtPrime$Hard" (7 : Nat) "TypesAtPrime$Hard" "degree" "I") ∈ lw_all := lw_g (lw_at lw_m5 203 rfl) rfl
theorem q1267 : (Jvm.Cond.soleField "TypesAtPrime$Hard" "degree") ∈ lw_all := lw_g (lw_at lw_m5 205 rfl) rfl
theorem q1368 : (Jvm.Cond.instantiable "TypesAtPrime$Hard" (2 : Nat)) ∈ lw_all := lw_g (lw_at lw_m6 66 rfl) rfl
theorem q1370 : (Jvm.Cond.laysFinal "TypesAtPrime$Hard" "TypesAtPrime$Hard" "degree" "I") ∈ lw_all := lw_g (lw_at lw_m6 68 rfl) rfl
theorem q1371 : (Jvm.Cond.laysFinal "TypesAtPrime$Hard" "TypesAtPrime$Leaf" "maker" "LTypesAtPrime$Knot;") ∈ lw_all := lw_g (lw_at lw_m6 69 rfl) rfl
theorem q1372 : (Jvm.Cond.superclass "TypesAtPrime$Hard" "TypesAtPrime$Leaf") ∈ lw_all := lw_g (lw_at lw_m6 70 rfl) rfl
theorem q1445 : (Jvm.Cond.instanceMethod ({ cls := "TypesAtPrime$Hard", name := "degree", desc := "()I" } : Jvm.MethodName)) ∈ lw_all := lw_g (lw_at lw_m6 143 rfl) rfl
theorem q1446 : (Jvm.Cond.code ({ cls := "TypesAtPrime$Hard", name := "degree", desc := "()I" } : Jvm.MethodName) prog_6_method_5_code (1 : Nat) (Option.some Jvm.ClassFile.FieldType.int)) ∈ lw_all := lw_g (lw_at lw_m6 144 rfl) rfl
theorem q1448 : (Jvm.Cond.selects "TypesAtPrime$Hard" ({ cls := "TypesAtPrime$Leaf", name := "degree", desc := "()I" } : Jvm.MethodName) ({ cls := "TypesAtPrime$Hard", name := "degree", desc := "()I" } : Jvm.MethodName)) ∈ lw_all := lw_g (lw_at lw_m6 146 rfl) rfl
theorem q1461 : (Jvm.Cond.instanceMethod ({ cls := "TypesAtPrime$Hard", name := "ramification", desc := "()I" } : Jvm.MethodName)) ∈ lw_all := lw_g (lw_at lw_m6 159 rfl) rfl
theorem q1462 : (Jvm.Cond.code ({ cls := "TypesAtPrime$Hard", name := "ramification", desc := "()I" } : Jvm.MethodName) prog_6_method_3_code (1 : Nat) (Option.some Jvm.ClassFile.FieldType.int)) ∈ lw_all := lw_g (lw_at lw_m6 160 rfl) rfl
theorem q1464 : (Jvm.Cond.selects "TypesAtPrime$Hard" ({ cls := "TypesAtPrime$Leaf", name := "ramification", desc := "()I" } : Jvm.MethodName) ({ cls := "TypesAtPrime$Hard", name := "ramification", desc := "()I" } : Jvm.MethodName)) ∈ lw_all := lw_g (lw_at lw_m6 162 rfl) rfl
theorem q1481 : (Jvm.Cond.unhidden "TypesAtPrime$Hard" "size" "()I") ∈ lw_tbl := lw_at lw_m6 179 rfl
theorem q1513 : (Jvm.Cond.instanceMethod ({ cls := "TypesAtPrime$Hard", name := "spelling", desc := "()Ljava/lang/CharSequence;" } : Jvm.MethodName)) ∈ lw_all := lw_g (lw_at lw_m6 211 rfl) rfl
theorem q1514 : (Jvm.Cond.code ({ cls := "TypesAtPrime$Hard", name := "spelling", desc := "()Ljava/lang/CharSequence;" } : Jvm.MethodName) prog_6_method_6_code (1 : Nat) (Option.some (Jvm.ClassFile.FieldType.object "java/lang/CharSequence"))) ∈ lw_all := lw_g (lw_at lw_m6 212 rfl) rfl
theorem q1515 : (Jvm.Cond.classLink "TypesAtPrime$Hard" (13 : Nat) "java/lang/StringBuilder") ∈ lw_all := lw_g (lw_at lw_m6 213 rfl) rfl
theorem q1516 : (Jvm.Cond.methodLink "TypesAtPrime$Hard" (15 : Nat) ({ cls := "java/lang/StringBuilder", name := "<init>", desc := "()V" } : Jvm.MethodName)) ∈ lw_all := lw_g (lw_at lw_m6 214 rfl) rfl
theorem q1517 : (Jvm.Cond.stringRef "TypesAtPrime$Hard" (18 : Nat) "?") ∈ lw_tbl := lw_at lw_m6 215 rfl
theorem q1518 : (Jvm.Cond.methodLink "TypesAtPrime$Hard" (20 : Nat) ({ cls := "java/lang/StringBuilder", name := "append", desc := "(Ljava/lang/String;)Ljava/lang/StringBuilder;" } : Jvm.MethodName)) ∈ lw_all := lw_g (lw_at lw_m6 216 rfl) rfl
theorem q1519 : (Jvm.Cond.methodLink "TypesAtPrime$Hard" (24 : Nat) ({ cls := "java/lang/StringBuilder", name := "append", desc := "(I)Ljava/lang/StringBuilder;" } : Jvm.MethodName)) ∈ lw_all := lw_g (lw_at lw_m6 217 rfl) rfl
theorem q1520 : (Jvm.Cond.methodLink "TypesAtPrime$Hard" (27 : Nat) ({ cls := "java/lang/StringBuilder", name := "toString", desc := "()Ljava/lang/String;" } : Jvm.MethodName)) ∈ lw_all := lw_g (lw_at lw_m6 218 rfl) rfl
theorem q1538 : (Jvm.Cond.selects "TypesAtPrime$Hard" ({ cls := "java/lang/Object", name := "toString", desc := "()Ljava/lang/String;" } : Jvm.MethodName) ({ cls := "java/lang/Object", name := "toString", desc := "()Ljava/lang/String;" } : Jvm.MethodName)) ∈ lw_all := lw_g (lw_at lw_m6 236 rfl) rfl
theorem q1678 : (Jvm.Cond.castable "TypesAtPrime$Hard" "TypesAtPrime$Spelt") ∈ lw_tbl := lw_at lw_m7 136 rfl
theorem q1679 : (Jvm.Cond.selects "TypesAtPrime$Hard" ({ cls := "TypesAtPrime$Spelt", name := "spelling", desc := "()Ljava/lang/CharSequence;" } : Jvm.MethodName) ({ cls := "TypesAtPrime$Hard", name := "spelling", desc := "()Ljava/lang/CharSequence;" } : Jvm.MethodName)) ∈ lw_all := lw_g (lw_at lw_m7 137 rfl) rfl
theorem q1680 : (Jvm.Cond.unhidden "TypesAtPrime$Hard" "spelling" "()Ljava/lang/CharSequence;") ∈ lw_tbl := lw_at lw_m7 138 rfl
theorem q1681 : (Jvm.Cond.publicMethod ({ cls := "TypesAtPrime$Hard", name := "spelling", desc := "()Ljava/lang/CharSequence;" } : Jvm.MethodName)) ∈ lw_tbl := lw_at lw_m7 139 rfl
theorem q1759 : (Jvm.Cond.instanceMethod ({ cls := "TypesAtPrime$Hard", name := "kind", desc := "()I" } : Jvm.MethodName)) ∈ lw_all := lw_g (lw_at lw_m7 217 rfl) rfl
theorem q1760 : (Jvm.Cond.code ({ cls := "TypesAtPrime$Hard", name := "kind", desc := "()I" } : Jvm.MethodName) prog_6_method_2_code (1 : Nat) (Option.some Jvm.ClassFile.FieldType.int)) ∈ lw_all := lw_g (lw_at lw_m7 218 rfl) rfl
theorem q1765 : (Jvm.Cond.selects "TypesAtPrime$Hard" ({ cls := "TypesAtPrime$Leaf", name := "kind", desc := "()I" } : Jvm.MethodName) ({ cls := "TypesAtPrime$Hard", name := "kind", desc := "()I" } : Jvm.MethodName)) ∈ lw_all := lw_g (lw_at lw_m7 223 rfl) rfl
theorem q1778 : (Jvm.Cond.instanceMethod ({ cls := "TypesAtPrime$Hard", name := "residueDegree", desc := "()I" } : Jvm.MethodName)) ∈ lw_all := lw_g (lw_at lw_m7 236 rfl) rfl
theorem q1779 : (Jvm.Cond.code ({ cls := "TypesAtPrime$Hard", name := "residueDegree", desc := "()I" } : Jvm.MethodName) prog_6_method_4_code (1 : Nat) (Option.some Jvm.ClassFile.FieldType.int)) ∈ lw_all := lw_g (lw_at lw_m7 237 rfl) rfl
theorem q1781 : (Jvm.Cond.selects "TypesAtPrime$Hard" ({ cls := "TypesAtPrime$Leaf", name := "residueDegree", desc := "()I" } : Jvm.MethodName) ({ cls := "TypesAtPrime$Hard", name := "residueDegree", desc := "()I" } : Jvm.MethodName)) ∈ lw_all := lw_g (lw_at lw_m7 239 rfl) rfl
theorem q2604 : (Jvm.Cond.sameMethod "TypesAtPrime$Hard" "TypesAtPrime$Hard" "spelling" "()Ljava/lang/CharSequence;") ∈ lw_all := lw_g (lw_at lw_m11 102 rfl) rfl
theorem q2613 : (Jvm.Cond.sameMethod "TypesAtPrime$Hard" "TypesAtPrime$Hard" "kind" "()I") ∈ lw_all := lw_g (lw_at lw_m11 111 rfl) rfl
theorem q2622 : (Jvm.Cond.castable "TypesAtPrime$Hard" "TypesAtPrime$Leaf") ∈ lw_tbl := lw_at lw_m11 120 rfl
theorem q2648 : (Jvm.Cond.castable "TypesAtPrime$Hard" "java/lang/Object") ∈ lw_tbl := lw_at lw_m11 146 rfl
theorem in_X11 : ∀ w ∈ wsX110, w ∈ lw_all := lw_in wsX110 [1371, 1370] (by decide +kernel) (by decide +kernel)

/-! TypesAtPrime$Deep -/
set_option maxRecDepth 100000
def RX12 : String := "TypesAtPrime$Deep"
def TX12 : u_T := fun k => match k with
  | 0 => ("TypesAtPrime$Leaf", "maker", "LTypesAtPrime$Knot;", true)
  | _ => ("TypesAtPrime$Hard", "degree", "I", true)
def tyX12 : Nat → FieldType := fun k => match k with
  | 0 => .object "TypesAtPrime$Knot"
  | _ => .int
abbrev wsX120 : List Cond := u_ws RX12 TX12 2
theorem nmX12 : ∀ a, a < 2 → ∀ b, b < 2 → a ≠ b → (TX12 a).2.1 ≠ (TX12 b).2.1 := by decide +kernel
theorem tyX12_ok : ∀ k, k < 2 → parseFieldDescriptor (TX12 k).2.2.1 = some (tyX12 k) := by decide +kernel
abbrev cX12_init : ByteArray := prog_3_method_1_code
def yX12_init : MethodName := ⟨RX12, "<init>", "(LTypesAtPrime$Knot;I)V"⟩
def dkwX12_init_0 : List UInt8 := [42, 43, 28, 183, 0, 1, 177]
abbrev dktX12_init_0 : List UInt8 := dkwX12_init_0 ++ []
theorem dksX12_init_0 : cX12_init.data.toList.drop 0 = dktX12_init_0 := by decide +kernel
theorem dX12_init_0 : decode cX12_init 0 = .ok (.aload_n 0, 1) := dk_42 (dk_at dksX12_init_0 0 rfl rfl)
theorem dX12_init_1 : decode cX12_init 1 = .ok (.aload_n 1, 1) := dk_43 (dk_at dksX12_init_0 1 rfl rfl)
theorem dX12_init_2 : decode cX12_init 2 = .ok (.iload_n 2, 1) := dk_28 (dk_at dksX12_init_0 2 rfl rfl)
theorem dX12_init_3 : decode cX12_init 3 = .ok (.invokespecial 1, 3) := dk_183 0 1 (dk_at dksX12_init_0 3 rfl rfl)
theorem dX12_init_6 : decode cX12_init 6 = .ok (.return_, 1) := dk_177 (dk_at dksX12_init_0 6 rfl rfl)
abbrev cX12_spelling : ByteArray := prog_3_method_3_code
def yX12_spelling : MethodName := ⟨RX12, "spelling", "()Ljava/lang/CharSequence;"⟩
def dkwX12_spelling_0 : List UInt8 := [187, 0, 11, 89, 183, 0, 13, 18, 16, 182, 0, 18, 42, 183, 0, 22, 182, 0, 26, 182, 0, 29, 176]
abbrev dktX12_spelling_0 : List UInt8 := dkwX12_spelling_0 ++ []
theorem dksX12_spelling_0 : cX12_spelling.data.toList.drop 0 = dktX12_spelling_0 := by decide +kernel
theorem dX12_spelling_0 : decode cX12_spelling 0 = .ok (.new 11, 3) := dk_187 0 11 (dk_at dksX12_spelling_0 0 rfl rfl)
theorem dX12_spelling_3 : decode cX12_spelling 3 = .ok (.dup, 1) := dk_89 (dk_at dksX12_spelling_0 3 rfl rfl)
theorem dX12_spelling_4 : decode cX12_spelling 4 = .ok (.invokespecial 13, 3) := dk_183 0 13 (dk_at dksX12_spelling_0 4 rfl rfl)
theorem dX12_spelling_7 : decode cX12_spelling 7 = .ok (.ldc 16, 2) := dk_18 16 (dk_at dksX12_spelling_0 7 rfl rfl)
theorem dX12_spelling_9 : decode cX12_spelling 9 = .ok (.invokevirtual 18, 3) := dk_182 0 18 (dk_at dksX12_spelling_0 9 rfl rfl)
theorem dX12_spelling_12 : decode cX12_spelling 12 = .ok (.aload_n 0, 1) := dk_42 (dk_at dksX12_spelling_0 12 rfl rfl)
theorem dX12_spelling_13 : decode cX12_spelling 13 = .ok (.invokespecial 22, 3) := dk_183 0 22 (dk_at dksX12_spelling_0 13 rfl rfl)
theorem dX12_spelling_16 : decode cX12_spelling 16 = .ok (.invokevirtual 26, 3) := dk_182 0 26 (dk_at dksX12_spelling_0 16 rfl rfl)
theorem dX12_spelling_19 : decode cX12_spelling 19 = .ok (.invokevirtual 29, 3) := dk_182 0 29 (dk_at dksX12_spelling_0 19 rfl rfl)
theorem dX12_spelling_22 : decode cX12_spelling 22 = .ok (.areturn, 1) := dk_176 (dk_at dksX12_spelling_0 22 rfl rfl)
abbrev cX12_kind : ByteArray := prog_3_method_2_code
def yX12_kind : MethodName := ⟨RX12, "kind", "()I"⟩
def dkwX12_kind_0 : List UInt8 := [42, 183, 0, 7, 4, 96, 172]
abbrev dktX12_kind_0 : List UInt8 := dkwX12_kind_0 ++ []
theorem dksX12_kind_0 : cX12_kind.data.toList.drop 0 = dktX12_kind_0 := by decide +kernel
theorem dX12_kind_0 : decode cX12_kind 0 = .ok (.aload_n 0, 1) := dk_42 (dk_at dksX12_kind_0 0 rfl rfl)
theorem dX12_kind_1 : decode cX12_kind 1 = .ok (.invokespecial 7, 3) := dk_183 0 7 (dk_at dksX12_kind_0 1 rfl rfl)
theorem dX12_kind_4 : decode cX12_kind 4 = .ok (.iconst 1, 1) := dk_4 (dk_at dksX12_kind_0 4 rfl rfl)
theorem dX12_kind_5 : decode cX12_kind 5 = .ok (.iadd, 1) := dk_96 (dk_at dksX12_kind_0 5 rfl rfl)
theorem dX12_kind_6 : decode cX12_kind 6 = .ok (.ireturn, 1) := dk_172 (dk_at dksX12_kind_0 6 rfl rfl)
theorem q140 : (Jvm.Cond.initialized "TypesAtPrime$Deep") ∈ lw_all := lw_g (lw_at lw_m1 38 rfl) rfl
theorem q575 : (Jvm.Cond.selects "TypesAtPrime$Deep" ({ cls := "java/lang/Object", name := "getClass", desc := "()Ljava/lang/Class;" } : Jvm.MethodName) ({ cls := "java/lang/Object", name := "getClass", desc := "()Ljava/lang/Class;" } : Jvm.MethodName)) ∈ lw_all := lw_g (lw_at lw_m2 233 rfl) rfl
theorem q1259 : (Jvm.Cond.instanceMethod ({ cls := "TypesAtPrime$Deep", name := "<init>", desc := "(LTypesAtPrime$Knot;I)V" } : Jvm.MethodName)) ∈ lw_all := lw_g (lw_at lw_m5 197 rfl) rfl
theorem q1260 : (Jvm.Cond.code ({ cls := "TypesAtPrime$Deep", name := "<init>", desc := "(LTypesAtPrime$Knot;I)V" } : Jvm.MethodName) prog_3_method_1_code (3 : Nat) (Option.none : Option Jvm.ClassFile.FieldType)) ∈ lw_all := lw_g (lw_at lw_m5 198 rfl) rfl
theorem q1261 : (Jvm.Cond.methodLink "TypesAtPrime$Deep" (1 : Nat) ({ cls := "TypesAtPrime$Hard", name := "<init>", desc := "(LTypesAtPrime$Knot;I)V" } : Jvm.MethodName)) ∈ lw_all := lw_g (lw_at lw_m5 199 rfl) rfl
theorem q1374 : (Jvm.Cond.instantiable "TypesAtPrime$Deep" (2 : Nat)) ∈ lw_all := lw_g (lw_at lw_m6 72 rfl) rfl
theorem q1376 : (Jvm.Cond.laysFinal "TypesAtPrime$Deep" "TypesAtPrime$Hard" "degree" "I") ∈ lw_all := lw_g (lw_at lw_m6 74 rfl) rfl
theorem q1377 : (Jvm.Cond.laysFinal "TypesAtPrime$Deep" "TypesAtPrime$Leaf" "maker" "LTypesAtPrime$Knot;") ∈ lw_all := lw_g (lw_at lw_m6 75 rfl) rfl
theorem q1378 : (Jvm.Cond.superclass "TypesAtPrime$Deep" "TypesAtPrime$Hard") ∈ lw_all := lw_g (lw_at lw_m6 76 rfl) rfl
theorem q1444 : (Jvm.Cond.selects "TypesAtPrime$Deep" ({ cls := "TypesAtPrime$Leaf", name := "degree", desc := "()I" } : Jvm.MethodName) ({ cls := "TypesAtPrime$Hard", name := "degree", desc := "()I" } : Jvm.MethodName)) ∈ lw_all := lw_g (lw_at lw_m6 142 rfl) rfl
theorem q1460 : (Jvm.Cond.selects "TypesAtPrime$Deep" ({ cls := "TypesAtPrime$Leaf", name := "ramification", desc := "()I" } : Jvm.MethodName) ({ cls := "TypesAtPrime$Hard", name := "ramification", desc := "()I" } : Jvm.MethodName)) ∈ lw_all := lw_g (lw_at lw_m6 158 rfl) rfl
theorem q1479 : (Jvm.Cond.unhidden "TypesAtPrime$Deep" "size" "()I") ∈ lw_tbl := lw_at lw_m6 177 rfl
theorem q1502 : (Jvm.Cond.castable "TypesAtPrime$Deep" "TypesAtPrime$Spelt") ∈ lw_tbl := lw_at lw_m6 200 rfl
theorem q1503 : (Jvm.Cond.selects "TypesAtPrime$Deep" ({ cls := "TypesAtPrime$Spelt", name := "spelling", desc := "()Ljava/lang/CharSequence;" } : Jvm.MethodName) ({ cls := "TypesAtPrime$Deep", name := "spelling", desc := "()Ljava/lang/CharSequence;" } : Jvm.MethodName)) ∈ lw_all := lw_g (lw_at lw_m6 201 rfl) rfl
theorem q1504 : (Jvm.Cond.unhidden "TypesAtPrime$Deep" "spelling" "()Ljava/lang/CharSequence;") ∈ lw_tbl := lw_at lw_m6 202 rfl
theorem q1505 : (Jvm.Cond.instanceMethod ({ cls := "TypesAtPrime$Deep", name := "spelling", desc := "()Ljava/lang/CharSequence;" } : Jvm.MethodName)) ∈ lw_all := lw_g (lw_at lw_m6 203 rfl) rfl
theorem q1506 : (Jvm.Cond.publicMethod ({ cls := "TypesAtPrime$Deep", name := "spelling", desc := "()Ljava/lang/CharSequence;" } : Jvm.MethodName)) ∈ lw_tbl := lw_at lw_m6 204 rfl
theorem q1507 : (Jvm.Cond.code ({ cls := "TypesAtPrime$Deep", name := "spelling", desc := "()Ljava/lang/CharSequence;" } : Jvm.MethodName) prog_3_method_3_code (1 : Nat) (Option.some (Jvm.ClassFile.FieldType.object "java/lang/CharSequence"))) ∈ lw_all := lw_g (lw_at lw_m6 205 rfl) rfl
theorem q1508 : (Jvm.Cond.classLink "TypesAtPrime$Deep" (11 : Nat) "java/lang/StringBuilder") ∈ lw_all := lw_g (lw_at lw_m6 206 rfl) rfl
theorem q1509 : (Jvm.Cond.methodLink "TypesAtPrime$Deep" (13 : Nat) ({ cls := "java/lang/StringBuilder", name := "<init>", desc := "()V" } : Jvm.MethodName)) ∈ lw_all := lw_g (lw_at lw_m6 207 rfl) rfl
theorem q1510 : (Jvm.Cond.stringRef "TypesAtPrime$Deep" (16 : Nat) "?") ∈ lw_tbl := lw_at lw_m6 208 rfl
theorem q1511 : (Jvm.Cond.methodLink "TypesAtPrime$Deep" (18 : Nat) ({ cls := "java/lang/StringBuilder", name := "append", desc := "(Ljava/lang/String;)Ljava/lang/StringBuilder;" } : Jvm.MethodName)) ∈ lw_all := lw_g (lw_at lw_m6 209 rfl) rfl
theorem q1512 : (Jvm.Cond.methodLink "TypesAtPrime$Deep" (22 : Nat) ({ cls := "TypesAtPrime$Hard", name := "spelling", desc := "()Ljava/lang/CharSequence;" } : Jvm.MethodName)) ∈ lw_all := lw_g (lw_at lw_m6 210 rfl) rfl
theorem q1521 : (Jvm.Cond.methodLink "TypesAtPrime$Deep" (26 : Nat) ({ cls := "java/lang/StringBuilder", name := "append", desc := "(Ljava/lang/Object;)Ljava/lang/StringBuilder;" } : Jvm.MethodName)) ∈ lw_all := lw_g (lw_at lw_m6 219 rfl) rfl
theorem q1535 : (Jvm.Cond.selects "TypesAtPrime$Deep" ({ cls := "java/lang/Object", name := "toString", desc := "()Ljava/lang/String;" } : Jvm.MethodName) ({ cls := "java/lang/Object", name := "toString", desc := "()Ljava/lang/String;" } : Jvm.MethodName)) ∈ lw_all := lw_g (lw_at lw_m6 233 rfl) rfl
theorem q1595 : (Jvm.Cond.methodLink "TypesAtPrime$Deep" (29 : Nat) ({ cls := "java/lang/StringBuilder", name := "toString", desc := "()Ljava/lang/String;" } : Jvm.MethodName)) ∈ lw_all := lw_g (lw_at lw_m7 53 rfl) rfl
theorem q1755 : (Jvm.Cond.selects "TypesAtPrime$Deep" ({ cls := "TypesAtPrime$Leaf", name := "kind", desc := "()I" } : Jvm.MethodName) ({ cls := "TypesAtPrime$Deep", name := "kind", desc := "()I" } : Jvm.MethodName)) ∈ lw_all := lw_g (lw_at lw_m7 213 rfl) rfl
theorem q1756 : (Jvm.Cond.instanceMethod ({ cls := "TypesAtPrime$Deep", name := "kind", desc := "()I" } : Jvm.MethodName)) ∈ lw_all := lw_g (lw_at lw_m7 214 rfl) rfl
theorem q1757 : (Jvm.Cond.code ({ cls := "TypesAtPrime$Deep", name := "kind", desc := "()I" } : Jvm.MethodName) prog_3_method_2_code (1 : Nat) (Option.some Jvm.ClassFile.FieldType.int)) ∈ lw_all := lw_g (lw_at lw_m7 215 rfl) rfl
theorem q1758 : (Jvm.Cond.methodLink "TypesAtPrime$Deep" (7 : Nat) ({ cls := "TypesAtPrime$Hard", name := "kind", desc := "()I" } : Jvm.MethodName)) ∈ lw_all := lw_g (lw_at lw_m7 216 rfl) rfl
theorem q1777 : (Jvm.Cond.selects "TypesAtPrime$Deep" ({ cls := "TypesAtPrime$Leaf", name := "residueDegree", desc := "()I" } : Jvm.MethodName) ({ cls := "TypesAtPrime$Hard", name := "residueDegree", desc := "()I" } : Jvm.MethodName)) ∈ lw_all := lw_g (lw_at lw_m7 235 rfl) rfl
theorem q2612 : (Jvm.Cond.sameMethod "TypesAtPrime$Deep" "TypesAtPrime$Deep" "spelling" "()Ljava/lang/CharSequence;") ∈ lw_all := lw_g (lw_at lw_m11 110 rfl) rfl
theorem q2615 : (Jvm.Cond.sameMethod "TypesAtPrime$Deep" "TypesAtPrime$Deep" "kind" "()I") ∈ lw_all := lw_g (lw_at lw_m11 113 rfl) rfl
theorem q2620 : (Jvm.Cond.castable "TypesAtPrime$Deep" "TypesAtPrime$Leaf") ∈ lw_tbl := lw_at lw_m11 118 rfl
theorem q2624 : (Jvm.Cond.castable "TypesAtPrime$Deep" "TypesAtPrime$Hard") ∈ lw_tbl := lw_at lw_m11 122 rfl
theorem q2649 : (Jvm.Cond.castable "TypesAtPrime$Deep" "java/lang/Object") ∈ lw_tbl := lw_at lw_m11 147 rfl
theorem in_X12 : ∀ w ∈ wsX120, w ∈ lw_all := lw_in wsX120 [1377, 1376] (by decide +kernel) (by decide +kernel)

/-! TypesAtPrime$Lost -/
set_option maxRecDepth 100000
def RX13 : String := "TypesAtPrime$Lost"
def TX13 : u_T := fun k => match k with
  | 0 => ("TypesAtPrime$Leaf", "maker", "LTypesAtPrime$Knot;", true)
  | _ => ("TypesAtPrime$Hard", "degree", "I", true)
def tyX13 : Nat → FieldType := fun k => match k with
  | 0 => .object "TypesAtPrime$Knot"
  | _ => .int
abbrev wsX130 : List Cond := u_ws RX13 TX13 2
theorem nmX13 : ∀ a, a < 2 → ∀ b, b < 2 → a ≠ b → (TX13 a).2.1 ≠ (TX13 b).2.1 := by decide +kernel
theorem tyX13_ok : ∀ k, k < 2 → parseFieldDescriptor (TX13 k).2.2.1 = some (tyX13 k) := by decide +kernel
abbrev cX13_init : ByteArray := prog_9_method_1_code
def yX13_init : MethodName := ⟨RX13, "<init>", "(LTypesAtPrime$Knot;I)V"⟩
def dkwX13_init_0 : List UInt8 := [42, 43, 28, 183, 0, 1, 177]
abbrev dktX13_init_0 : List UInt8 := dkwX13_init_0 ++ []
theorem dksX13_init_0 : cX13_init.data.toList.drop 0 = dktX13_init_0 := by decide +kernel
theorem dX13_init_0 : decode cX13_init 0 = .ok (.aload_n 0, 1) := dk_42 (dk_at dksX13_init_0 0 rfl rfl)
theorem dX13_init_1 : decode cX13_init 1 = .ok (.aload_n 1, 1) := dk_43 (dk_at dksX13_init_0 1 rfl rfl)
theorem dX13_init_2 : decode cX13_init 2 = .ok (.iload_n 2, 1) := dk_28 (dk_at dksX13_init_0 2 rfl rfl)
theorem dX13_init_3 : decode cX13_init 3 = .ok (.invokespecial 1, 3) := dk_183 0 1 (dk_at dksX13_init_0 3 rfl rfl)
theorem dX13_init_6 : decode cX13_init 6 = .ok (.return_, 1) := dk_177 (dk_at dksX13_init_0 6 rfl rfl)
abbrev cX13_spelling : ByteArray := prog_9_method_3_code
def yX13_spelling : MethodName := ⟨RX13, "spelling", "()Ljava/lang/CharSequence;"⟩
def dkwX13_spelling_0 : List UInt8 := [187, 0, 11, 89, 183, 0, 13, 18, 16, 182, 0, 18, 42, 183, 0, 22, 182, 0, 26, 182, 0, 29, 176]
abbrev dktX13_spelling_0 : List UInt8 := dkwX13_spelling_0 ++ []
theorem dksX13_spelling_0 : cX13_spelling.data.toList.drop 0 = dktX13_spelling_0 := by decide +kernel
theorem dX13_spelling_0 : decode cX13_spelling 0 = .ok (.new 11, 3) := dk_187 0 11 (dk_at dksX13_spelling_0 0 rfl rfl)
theorem dX13_spelling_3 : decode cX13_spelling 3 = .ok (.dup, 1) := dk_89 (dk_at dksX13_spelling_0 3 rfl rfl)
theorem dX13_spelling_4 : decode cX13_spelling 4 = .ok (.invokespecial 13, 3) := dk_183 0 13 (dk_at dksX13_spelling_0 4 rfl rfl)
theorem dX13_spelling_7 : decode cX13_spelling 7 = .ok (.ldc 16, 2) := dk_18 16 (dk_at dksX13_spelling_0 7 rfl rfl)
theorem dX13_spelling_9 : decode cX13_spelling 9 = .ok (.invokevirtual 18, 3) := dk_182 0 18 (dk_at dksX13_spelling_0 9 rfl rfl)
theorem dX13_spelling_12 : decode cX13_spelling 12 = .ok (.aload_n 0, 1) := dk_42 (dk_at dksX13_spelling_0 12 rfl rfl)
theorem dX13_spelling_13 : decode cX13_spelling 13 = .ok (.invokespecial 22, 3) := dk_183 0 22 (dk_at dksX13_spelling_0 13 rfl rfl)
theorem dX13_spelling_16 : decode cX13_spelling 16 = .ok (.invokevirtual 26, 3) := dk_182 0 26 (dk_at dksX13_spelling_0 16 rfl rfl)
theorem dX13_spelling_19 : decode cX13_spelling 19 = .ok (.invokevirtual 29, 3) := dk_182 0 29 (dk_at dksX13_spelling_0 19 rfl rfl)
theorem dX13_spelling_22 : decode cX13_spelling 22 = .ok (.areturn, 1) := dk_176 (dk_at dksX13_spelling_0 22 rfl rfl)
abbrev cX13_kind : ByteArray := prog_9_method_2_code
def yX13_kind : MethodName := ⟨RX13, "kind", "()I"⟩
def dkwX13_kind_0 : List UInt8 := [42, 183, 0, 7, 4, 96, 172]
abbrev dktX13_kind_0 : List UInt8 := dkwX13_kind_0 ++ []
theorem dksX13_kind_0 : cX13_kind.data.toList.drop 0 = dktX13_kind_0 := by decide +kernel
theorem dX13_kind_0 : decode cX13_kind 0 = .ok (.aload_n 0, 1) := dk_42 (dk_at dksX13_kind_0 0 rfl rfl)
theorem dX13_kind_1 : decode cX13_kind 1 = .ok (.invokespecial 7, 3) := dk_183 0 7 (dk_at dksX13_kind_0 1 rfl rfl)
theorem dX13_kind_4 : decode cX13_kind 4 = .ok (.iconst 1, 1) := dk_4 (dk_at dksX13_kind_0 4 rfl rfl)
theorem dX13_kind_5 : decode cX13_kind 5 = .ok (.iadd, 1) := dk_96 (dk_at dksX13_kind_0 5 rfl rfl)
theorem dX13_kind_6 : decode cX13_kind 6 = .ok (.ireturn, 1) := dk_172 (dk_at dksX13_kind_0 6 rfl rfl)
theorem q141 : (Jvm.Cond.initialized "TypesAtPrime$Lost") ∈ lw_all := lw_g (lw_at lw_m1 39 rfl) rfl
theorem q580 : (Jvm.Cond.selects "TypesAtPrime$Lost" ({ cls := "java/lang/Object", name := "getClass", desc := "()Ljava/lang/Class;" } : Jvm.MethodName) ({ cls := "java/lang/Object", name := "getClass", desc := "()Ljava/lang/Class;" } : Jvm.MethodName)) ∈ lw_all := lw_g (lw_at lw_m2 238 rfl) rfl
theorem q1254 : (Jvm.Cond.instantiable "TypesAtPrime$Lost" (2 : Nat)) ∈ lw_all := lw_g (lw_at lw_m5 192 rfl) rfl
theorem q1256 : (Jvm.Cond.instanceMethod ({ cls := "TypesAtPrime$Lost", name := "<init>", desc := "(LTypesAtPrime$Knot;I)V" } : Jvm.MethodName)) ∈ lw_all := lw_g (lw_at lw_m5 194 rfl) rfl
theorem q1257 : (Jvm.Cond.code ({ cls := "TypesAtPrime$Lost", name := "<init>", desc := "(LTypesAtPrime$Knot;I)V" } : Jvm.MethodName) prog_9_method_1_code (3 : Nat) (Option.none : Option Jvm.ClassFile.FieldType)) ∈ lw_all := lw_g (lw_at lw_m5 195 rfl) rfl
theorem q1258 : (Jvm.Cond.methodLink "TypesAtPrime$Lost" (1 : Nat) ({ cls := "TypesAtPrime$Deep", name := "<init>", desc := "(LTypesAtPrime$Knot;I)V" } : Jvm.MethodName)) ∈ lw_all := lw_g (lw_at lw_m5 196 rfl) rfl
theorem q1266 : (Jvm.Cond.laysFinal "TypesAtPrime$Lost" "TypesAtPrime$Hard" "degree" "I") ∈ lw_all := lw_g (lw_at lw_m5 204 rfl) rfl
theorem q1268 : (Jvm.Cond.laysFinal "TypesAtPrime$Lost" "TypesAtPrime$Leaf" "maker" "LTypesAtPrime$Knot;") ∈ lw_all := lw_g (lw_at lw_m5 206 rfl) rfl
theorem q1269 : (Jvm.Cond.superclass "TypesAtPrime$Lost" "TypesAtPrime$Deep") ∈ lw_all := lw_g (lw_at lw_m5 207 rfl) rfl
theorem q1449 : (Jvm.Cond.selects "TypesAtPrime$Lost" ({ cls := "TypesAtPrime$Leaf", name := "degree", desc := "()I" } : Jvm.MethodName) ({ cls := "TypesAtPrime$Hard", name := "degree", desc := "()I" } : Jvm.MethodName)) ∈ lw_all := lw_g (lw_at lw_m6 147 rfl) rfl
theorem q1465 : (Jvm.Cond.selects "TypesAtPrime$Lost" ({ cls := "TypesAtPrime$Leaf", name := "ramification", desc := "()I" } : Jvm.MethodName) ({ cls := "TypesAtPrime$Hard", name := "ramification", desc := "()I" } : Jvm.MethodName)) ∈ lw_all := lw_g (lw_at lw_m6 163 rfl) rfl
theorem q1482 : (Jvm.Cond.unhidden "TypesAtPrime$Lost" "size" "()I") ∈ lw_tbl := lw_at lw_m6 180 rfl
theorem q1540 : (Jvm.Cond.selects "TypesAtPrime$Lost" ({ cls := "java/lang/Object", name := "toString", desc := "()Ljava/lang/String;" } : Jvm.MethodName) ({ cls := "java/lang/Object", name := "toString", desc := "()Ljava/lang/String;" } : Jvm.MethodName)) ∈ lw_all := lw_g (lw_at lw_m6 238 rfl) rfl
theorem q1682 : (Jvm.Cond.castable "TypesAtPrime$Lost" "TypesAtPrime$Spelt") ∈ lw_tbl := lw_at lw_m7 140 rfl
theorem q1683 : (Jvm.Cond.selects "TypesAtPrime$Lost" ({ cls := "TypesAtPrime$Spelt", name := "spelling", desc := "()Ljava/lang/CharSequence;" } : Jvm.MethodName) ({ cls := "TypesAtPrime$Lost", name := "spelling", desc := "()Ljava/lang/CharSequence;" } : Jvm.MethodName)) ∈ lw_all := lw_g (lw_at lw_m7 141 rfl) rfl
theorem q1684 : (Jvm.Cond.unhidden "TypesAtPrime$Lost" "spelling" "()Ljava/lang/CharSequence;") ∈ lw_tbl := lw_at lw_m7 142 rfl
theorem q1685 : (Jvm.Cond.instanceMethod ({ cls := "TypesAtPrime$Lost", name := "spelling", desc := "()Ljava/lang/CharSequence;" } : Jvm.MethodName)) ∈ lw_all := lw_g (lw_at lw_m7 143 rfl) rfl
theorem q1686 : (Jvm.Cond.publicMethod ({ cls := "TypesAtPrime$Lost", name := "spelling", desc := "()Ljava/lang/CharSequence;" } : Jvm.MethodName)) ∈ lw_tbl := lw_at lw_m7 144 rfl
theorem q1687 : (Jvm.Cond.code ({ cls := "TypesAtPrime$Lost", name := "spelling", desc := "()Ljava/lang/CharSequence;" } : Jvm.MethodName) prog_9_method_3_code (1 : Nat) (Option.some (Jvm.ClassFile.FieldType.object "java/lang/CharSequence"))) ∈ lw_all := lw_g (lw_at lw_m7 145 rfl) rfl
theorem q1688 : (Jvm.Cond.classLink "TypesAtPrime$Lost" (11 : Nat) "java/lang/StringBuilder") ∈ lw_all := lw_g (lw_at lw_m7 146 rfl) rfl
theorem q1689 : (Jvm.Cond.methodLink "TypesAtPrime$Lost" (13 : Nat) ({ cls := "java/lang/StringBuilder", name := "<init>", desc := "()V" } : Jvm.MethodName)) ∈ lw_all := lw_g (lw_at lw_m7 147 rfl) rfl
theorem q1690 : (Jvm.Cond.stringRef "TypesAtPrime$Lost" (16 : Nat) "?") ∈ lw_tbl := lw_at lw_m7 148 rfl
theorem q1691 : (Jvm.Cond.methodLink "TypesAtPrime$Lost" (18 : Nat) ({ cls := "java/lang/StringBuilder", name := "append", desc := "(Ljava/lang/String;)Ljava/lang/StringBuilder;" } : Jvm.MethodName)) ∈ lw_all := lw_g (lw_at lw_m7 149 rfl) rfl
theorem q1692 : (Jvm.Cond.methodLink "TypesAtPrime$Lost" (22 : Nat) ({ cls := "TypesAtPrime$Deep", name := "spelling", desc := "()Ljava/lang/CharSequence;" } : Jvm.MethodName)) ∈ lw_all := lw_g (lw_at lw_m7 150 rfl) rfl
theorem q1693 : (Jvm.Cond.methodLink "TypesAtPrime$Lost" (26 : Nat) ({ cls := "java/lang/StringBuilder", name := "append", desc := "(Ljava/lang/Object;)Ljava/lang/StringBuilder;" } : Jvm.MethodName)) ∈ lw_all := lw_g (lw_at lw_m7 151 rfl) rfl
theorem q1694 : (Jvm.Cond.methodLink "TypesAtPrime$Lost" (29 : Nat) ({ cls := "java/lang/StringBuilder", name := "toString", desc := "()Ljava/lang/String;" } : Jvm.MethodName)) ∈ lw_all := lw_g (lw_at lw_m7 152 rfl) rfl
theorem q1766 : (Jvm.Cond.selects "TypesAtPrime$Lost" ({ cls := "TypesAtPrime$Leaf", name := "kind", desc := "()I" } : Jvm.MethodName) ({ cls := "TypesAtPrime$Lost", name := "kind", desc := "()I" } : Jvm.MethodName)) ∈ lw_all := lw_g (lw_at lw_m7 224 rfl) rfl
theorem q1767 : (Jvm.Cond.instanceMethod ({ cls := "TypesAtPrime$Lost", name := "kind", desc := "()I" } : Jvm.MethodName)) ∈ lw_all := lw_g (lw_at lw_m7 225 rfl) rfl
theorem q1768 : (Jvm.Cond.code ({ cls := "TypesAtPrime$Lost", name := "kind", desc := "()I" } : Jvm.MethodName) prog_9_method_2_code (1 : Nat) (Option.some Jvm.ClassFile.FieldType.int)) ∈ lw_all := lw_g (lw_at lw_m7 226 rfl) rfl
theorem q1769 : (Jvm.Cond.methodLink "TypesAtPrime$Lost" (7 : Nat) ({ cls := "TypesAtPrime$Deep", name := "kind", desc := "()I" } : Jvm.MethodName)) ∈ lw_all := lw_g (lw_at lw_m7 227 rfl) rfl
theorem q1782 : (Jvm.Cond.selects "TypesAtPrime$Lost" ({ cls := "TypesAtPrime$Leaf", name := "residueDegree", desc := "()I" } : Jvm.MethodName) ({ cls := "TypesAtPrime$Hard", name := "residueDegree", desc := "()I" } : Jvm.MethodName)) ∈ lw_all := lw_g (lw_at lw_m8 0 rfl) rfl
theorem q2623 : (Jvm.Cond.castable "TypesAtPrime$Lost" "TypesAtPrime$Leaf") ∈ lw_tbl := lw_at lw_m11 121 rfl
theorem q2625 : (Jvm.Cond.castable "TypesAtPrime$Lost" "TypesAtPrime$Hard") ∈ lw_tbl := lw_at lw_m11 123 rfl
theorem q2645 : (Jvm.Cond.castable "TypesAtPrime$Lost" "java/lang/Object") ∈ lw_tbl := lw_at lw_m11 143 rfl
theorem in_X13 : ∀ w ∈ wsX130, w ∈ lw_all := lw_in wsX130 [1268, 1266] (by decide +kernel) (by decide +kernel)

/-! TypesAtPrime$Exact -/
set_option maxRecDepth 100000
def RX14 : String := "TypesAtPrime$Exact"
def TX14 : u_T := fun k => match k with
  | 0 => ("TypesAtPrime$Leaf", "maker", "LTypesAtPrime$Knot;", true)
  | 1 => ("TypesAtPrime$Decided", "ramification", "I", true)
  | _ => ("TypesAtPrime$Decided", "residueDegree", "I", true)
def tyX14 : Nat → FieldType := fun k => match k with
  | 0 => .object "TypesAtPrime$Knot"
  | 1 => .int
  | _ => .int
abbrev wsX140 : List Cond := u_ws RX14 TX14 3
theorem nmX14 : ∀ a, a < 3 → ∀ b, b < 3 → a ≠ b → (TX14 a).2.1 ≠ (TX14 b).2.1 := by decide +kernel
theorem tyX14_ok : ∀ k, k < 3 → parseFieldDescriptor (TX14 k).2.2.1 = some (tyX14 k) := by decide +kernel
abbrev cX14_init : ByteArray := prog_4_method_1_code
def yX14_init : MethodName := ⟨RX14, "<init>", "(LTypesAtPrime$Knot;I)V"⟩
def dkwX14_init_0 : List UInt8 := [42, 43, 28, 4, 183, 0, 1, 177]
abbrev dktX14_init_0 : List UInt8 := dkwX14_init_0 ++ []
theorem dksX14_init_0 : cX14_init.data.toList.drop 0 = dktX14_init_0 := by decide +kernel
theorem dX14_init_0 : decode cX14_init 0 = .ok (.aload_n 0, 1) := dk_42 (dk_at dksX14_init_0 0 rfl rfl)
theorem dX14_init_1 : decode cX14_init 1 = .ok (.aload_n 1, 1) := dk_43 (dk_at dksX14_init_0 1 rfl rfl)
theorem dX14_init_2 : decode cX14_init 2 = .ok (.iload_n 2, 1) := dk_28 (dk_at dksX14_init_0 2 rfl rfl)
theorem dX14_init_3 : decode cX14_init 3 = .ok (.iconst 1, 1) := dk_4 (dk_at dksX14_init_0 3 rfl rfl)
theorem dX14_init_4 : decode cX14_init 4 = .ok (.invokespecial 1, 3) := dk_183 0 1 (dk_at dksX14_init_0 4 rfl rfl)
theorem dX14_init_7 : decode cX14_init 7 = .ok (.return_, 1) := dk_177 (dk_at dksX14_init_0 7 rfl rfl)
abbrev cX14_spelling : ByteArray := prog_4_method_3_code
def yX14_spelling : MethodName := ⟨RX14, "spelling", "()Ljava/lang/CharSequence;"⟩
def dkwX14_spelling_0 : List UInt8 := [187, 0, 11, 89, 183, 0, 13, 42, 183, 0, 16, 182, 0, 20, 16, 33, 182, 0, 24, 176]
abbrev dktX14_spelling_0 : List UInt8 := dkwX14_spelling_0 ++ []
theorem dksX14_spelling_0 : cX14_spelling.data.toList.drop 0 = dktX14_spelling_0 := by decide +kernel
theorem dX14_spelling_0 : decode cX14_spelling 0 = .ok (.new 11, 3) := dk_187 0 11 (dk_at dksX14_spelling_0 0 rfl rfl)
theorem dX14_spelling_3 : decode cX14_spelling 3 = .ok (.dup, 1) := dk_89 (dk_at dksX14_spelling_0 3 rfl rfl)
theorem dX14_spelling_4 : decode cX14_spelling 4 = .ok (.invokespecial 13, 3) := dk_183 0 13 (dk_at dksX14_spelling_0 4 rfl rfl)
theorem dX14_spelling_7 : decode cX14_spelling 7 = .ok (.aload_n 0, 1) := dk_42 (dk_at dksX14_spelling_0 7 rfl rfl)
theorem dX14_spelling_8 : decode cX14_spelling 8 = .ok (.invokespecial 16, 3) := dk_183 0 16 (dk_at dksX14_spelling_0 8 rfl rfl)
theorem dX14_spelling_11 : decode cX14_spelling 11 = .ok (.invokevirtual 20, 3) := dk_182 0 20 (dk_at dksX14_spelling_0 11 rfl rfl)
theorem dX14_spelling_14 : decode cX14_spelling 14 = .ok (.bipush 33, 2) := dk_16 33 (dk_at dksX14_spelling_0 14 rfl rfl)
theorem dX14_spelling_16 : decode cX14_spelling 16 = .ok (.invokevirtual 24, 3) := dk_182 0 24 (dk_at dksX14_spelling_0 16 rfl rfl)
theorem dX14_spelling_19 : decode cX14_spelling 19 = .ok (.areturn, 1) := dk_176 (dk_at dksX14_spelling_0 19 rfl rfl)
abbrev cX14_kind : ByteArray := prog_4_method_2_code
def yX14_kind : MethodName := ⟨RX14, "kind", "()I"⟩
def dkwX14_kind_0 : List UInt8 := [42, 183, 0, 7, 4, 96, 172]
abbrev dktX14_kind_0 : List UInt8 := dkwX14_kind_0 ++ []
theorem dksX14_kind_0 : cX14_kind.data.toList.drop 0 = dktX14_kind_0 := by decide +kernel
theorem dX14_kind_0 : decode cX14_kind 0 = .ok (.aload_n 0, 1) := dk_42 (dk_at dksX14_kind_0 0 rfl rfl)
theorem dX14_kind_1 : decode cX14_kind 1 = .ok (.invokespecial 7, 3) := dk_183 0 7 (dk_at dksX14_kind_0 1 rfl rfl)
theorem dX14_kind_4 : decode cX14_kind 4 = .ok (.iconst 1, 1) := dk_4 (dk_at dksX14_kind_0 4 rfl rfl)
theorem dX14_kind_5 : decode cX14_kind 5 = .ok (.iadd, 1) := dk_96 (dk_at dksX14_kind_0 5 rfl rfl)
theorem dX14_kind_6 : decode cX14_kind 6 = .ok (.ireturn, 1) := dk_172 (dk_at dksX14_kind_0 6 rfl rfl)
theorem q142 : (Jvm.Cond.initialized "TypesAtPrime$Exact") ∈ lw_all := lw_g (lw_at lw_m1 40 rfl) rfl
theorem q576 : (Jvm.Cond.selects "TypesAtPrime$Exact" ({ cls := "java/lang/Object", name := "getClass", desc := "()Ljava/lang/Class;" } : Jvm.MethodName) ({ cls := "java/lang/Object", name := "getClass", desc := "()Ljava/lang/Class;" } : Jvm.MethodName)) ∈ lw_all := lw_g (lw_at lw_m2 234 rfl) rfl
theorem q1271 : (Jvm.Cond.instantiable "TypesAtPrime$Exact" (3 : Nat)) ∈ lw_all := lw_g (lw_at lw_m5 209 rfl) rfl
theorem q1273 : (Jvm.Cond.instanceMethod ({ cls := "TypesAtPrime$Exact", name := "<init>", desc := "(LTypesAtPrime$Knot;I)V" } : Jvm.MethodName)) ∈ lw_all := lw_g (lw_at lw_m5 211 rfl) rfl
theorem q1274 : (Jvm.Cond.code ({ cls := "TypesAtPrime$Exact", name := "<init>", desc := "(LTypesAtPrime$Knot;I)V" } : Jvm.MethodName) prog_4_method_1_code (3 : Nat) (Option.none : Option Jvm.ClassFile.FieldType)) ∈ lw_all := lw_g (lw_at lw_m5 212 rfl) rfl
theorem q1275 : (Jvm.Cond.methodLink "TypesAtPrime$Exact" (1 : Nat) ({ cls := "TypesAtPrime$Decided", name := "<init>", desc := "(LTypesAtPrime$Knot;II)V" } : Jvm.MethodName)) ∈ lw_all := lw_g (lw_at lw_m5 213 rfl) rfl
theorem q1276 : (Jvm.Cond.laysFinal "TypesAtPrime$Exact" "TypesAtPrime$Decided" "ramification" "I") ∈ lw_all := lw_g (lw_at lw_m5 214 rfl) rfl
theorem q1277 : (Jvm.Cond.laysFinal "TypesAtPrime$Exact" "TypesAtPrime$Decided" "residueDegree" "I") ∈ lw_all := lw_g (lw_at lw_m5 215 rfl) rfl
theorem q1278 : (Jvm.Cond.laysFinal "TypesAtPrime$Exact" "TypesAtPrime$Leaf" "maker" "LTypesAtPrime$Knot;") ∈ lw_all := lw_g (lw_at lw_m5 216 rfl) rfl
theorem q1279 : (Jvm.Cond.superclass "TypesAtPrime$Exact" "TypesAtPrime$Decided") ∈ lw_all := lw_g (lw_at lw_m5 217 rfl) rfl
theorem q1447 : (Jvm.Cond.selects "TypesAtPrime$Exact" ({ cls := "TypesAtPrime$Leaf", name := "degree", desc := "()I" } : Jvm.MethodName) ({ cls := "TypesAtPrime$Decided", name := "degree", desc := "()I" } : Jvm.MethodName)) ∈ lw_all := lw_g (lw_at lw_m6 145 rfl) rfl
theorem q1463 : (Jvm.Cond.selects "TypesAtPrime$Exact" ({ cls := "TypesAtPrime$Leaf", name := "ramification", desc := "()I" } : Jvm.MethodName) ({ cls := "TypesAtPrime$Decided", name := "ramification", desc := "()I" } : Jvm.MethodName)) ∈ lw_all := lw_g (lw_at lw_m6 161 rfl) rfl
theorem q1480 : (Jvm.Cond.unhidden "TypesAtPrime$Exact" "size" "()I") ∈ lw_tbl := lw_at lw_m6 178 rfl
theorem q1536 : (Jvm.Cond.selects "TypesAtPrime$Exact" ({ cls := "java/lang/Object", name := "toString", desc := "()Ljava/lang/String;" } : Jvm.MethodName) ({ cls := "java/lang/Object", name := "toString", desc := "()Ljava/lang/String;" } : Jvm.MethodName)) ∈ lw_all := lw_g (lw_at lw_m6 234 rfl) rfl
theorem q1596 : (Jvm.Cond.castable "TypesAtPrime$Exact" "TypesAtPrime$Spelt") ∈ lw_tbl := lw_at lw_m7 54 rfl
theorem q1597 : (Jvm.Cond.selects "TypesAtPrime$Exact" ({ cls := "TypesAtPrime$Spelt", name := "spelling", desc := "()Ljava/lang/CharSequence;" } : Jvm.MethodName) ({ cls := "TypesAtPrime$Exact", name := "spelling", desc := "()Ljava/lang/CharSequence;" } : Jvm.MethodName)) ∈ lw_all := lw_g (lw_at lw_m7 55 rfl) rfl
theorem q1598 : (Jvm.Cond.unhidden "TypesAtPrime$Exact" "spelling" "()Ljava/lang/CharSequence;") ∈ lw_tbl := lw_at lw_m7 56 rfl
theorem q1599 : (Jvm.Cond.instanceMethod ({ cls := "TypesAtPrime$Exact", name := "spelling", desc := "()Ljava/lang/CharSequence;" } : Jvm.MethodName)) ∈ lw_all := lw_g (lw_at lw_m7 57 rfl) rfl
theorem q1600 : (Jvm.Cond.publicMethod ({ cls := "TypesAtPrime$Exact", name := "spelling", desc := "()Ljava/lang/CharSequence;" } : Jvm.MethodName)) ∈ lw_tbl := lw_at lw_m7 58 rfl
theorem q1601 : (Jvm.Cond.code ({ cls := "TypesAtPrime$Exact", name := "spelling", desc := "()Ljava/lang/CharSequence;" } : Jvm.MethodName) prog_4_method_3_code (1 : Nat) (Option.some (Jvm.ClassFile.FieldType.object "java/lang/CharSequence"))) ∈ lw_all := lw_g (lw_at lw_m7 59 rfl) rfl
theorem q1602 : (Jvm.Cond.classLink "TypesAtPrime$Exact" (11 : Nat) "java/lang/StringBuilder") ∈ lw_all := lw_g (lw_at lw_m7 60 rfl) rfl
theorem q1603 : (Jvm.Cond.methodLink "TypesAtPrime$Exact" (13 : Nat) ({ cls := "java/lang/StringBuilder", name := "<init>", desc := "()V" } : Jvm.MethodName)) ∈ lw_all := lw_g (lw_at lw_m7 61 rfl) rfl
theorem q1604 : (Jvm.Cond.methodLink "TypesAtPrime$Exact" (16 : Nat) ({ cls := "TypesAtPrime$Decided", name := "spelling", desc := "()Ljava/lang/CharSequence;" } : Jvm.MethodName)) ∈ lw_all := lw_g (lw_at lw_m7 62 rfl) rfl
theorem q1605 : (Jvm.Cond.methodLink "TypesAtPrime$Exact" (20 : Nat) ({ cls := "java/lang/StringBuilder", name := "append", desc := "(Ljava/lang/CharSequence;)Ljava/lang/StringBuilder;" } : Jvm.MethodName)) ∈ lw_all := lw_g (lw_at lw_m7 63 rfl) rfl
theorem q1677 : (Jvm.Cond.methodLink "TypesAtPrime$Exact" (24 : Nat) ({ cls := "java/lang/StringBuilder", name := "append", desc := "(C)Ljava/lang/StringBuilder;" } : Jvm.MethodName)) ∈ lw_all := lw_g (lw_at lw_m7 135 rfl) rfl
theorem q1761 : (Jvm.Cond.selects "TypesAtPrime$Exact" ({ cls := "TypesAtPrime$Leaf", name := "kind", desc := "()I" } : Jvm.MethodName) ({ cls := "TypesAtPrime$Exact", name := "kind", desc := "()I" } : Jvm.MethodName)) ∈ lw_all := lw_g (lw_at lw_m7 219 rfl) rfl
theorem q1762 : (Jvm.Cond.instanceMethod ({ cls := "TypesAtPrime$Exact", name := "kind", desc := "()I" } : Jvm.MethodName)) ∈ lw_all := lw_g (lw_at lw_m7 220 rfl) rfl
theorem q1763 : (Jvm.Cond.code ({ cls := "TypesAtPrime$Exact", name := "kind", desc := "()I" } : Jvm.MethodName) prog_4_method_2_code (1 : Nat) (Option.some Jvm.ClassFile.FieldType.int)) ∈ lw_all := lw_g (lw_at lw_m7 221 rfl) rfl
theorem q1764 : (Jvm.Cond.methodLink "TypesAtPrime$Exact" (7 : Nat) ({ cls := "TypesAtPrime$Decided", name := "kind", desc := "()I" } : Jvm.MethodName)) ∈ lw_all := lw_g (lw_at lw_m7 222 rfl) rfl
theorem q1780 : (Jvm.Cond.selects "TypesAtPrime$Exact" ({ cls := "TypesAtPrime$Leaf", name := "residueDegree", desc := "()I" } : Jvm.MethodName) ({ cls := "TypesAtPrime$Decided", name := "residueDegree", desc := "()I" } : Jvm.MethodName)) ∈ lw_all := lw_g (lw_at lw_m7 238 rfl) rfl
theorem q2621 : (Jvm.Cond.castable "TypesAtPrime$Exact" "TypesAtPrime$Leaf") ∈ lw_tbl := lw_at lw_m11 119 rfl
theorem q2646 : (Jvm.Cond.castable "TypesAtPrime$Exact" "java/lang/Object") ∈ lw_tbl := lw_at lw_m11 144 rfl
theorem in_X14 : ∀ w ∈ wsX140, w ∈ lw_all := lw_in wsX140 [1278, 1276, 1277] (by decide +kernel) (by decide +kernel)

/-! TypesAtPrime$Side -/
set_option maxRecDepth 100000
def RX15 : String := "TypesAtPrime$Side"
def TX15 : u_T := fun k => match k with
  | 0 => ("TypesAtPrime$Side", "begins", "I", true)
  | 1 => ("TypesAtPrime$Side", "ends", "I", true)
  | 2 => ("TypesAtPrime$Side", "fall", "I", true)
  | 3 => ("TypesAtPrime$Side", "ramification", "I", false)
  | 4 => ("TypesAtPrime$Side", "degree", "I", false)
  | 5 => ("TypesAtPrime$Side", "value", "I", false)
  | 6 => ("TypesAtPrime$Side", "monomial", "LTypesAtPrime$Monomial;", false)
  | _ => ("TypesAtPrime$Side", "residual", "[I", false)
def tyX15 : Nat → FieldType := fun k => match k with
  | 0 => .int
  | 1 => .int
  | 2 => .int
  | 3 => .int
  | 4 => .int
  | 5 => .int
  | 6 => .object "TypesAtPrime$Monomial"
  | _ => .array .int
abbrev wsX150 : List Cond := u_ws RX15 TX15 8
theorem nmX15 : ∀ a, a < 8 → ∀ b, b < 8 → a ≠ b → (TX15 a).2.1 ≠ (TX15 b).2.1 := by decide +kernel
theorem tyX15_ok : ∀ k, k < 8 → parseFieldDescriptor (TX15 k).2.2.1 = some (tyX15 k) := by decide +kernel
abbrev cX15_init : ByteArray := prog_14_method_1_code
def yX15_init : MethodName := ⟨RX15, "<init>", "(III)V"⟩
def dkwX15_init_1 : List UInt8 := [184, 0, 19, 181, 0, 23, 42, 28, 27, 100, 42, 180, 0, 23, 108, 181, 0, 26, 177]
abbrev dktX15_init_1 : List UInt8 := dkwX15_init_1 ++ []
def dkwX15_init_0 : List UInt8 := [42, 183, 0, 1, 42, 27, 181, 0, 7, 42, 28, 181, 0, 13, 42, 29, 181, 0, 16, 42, 28, 27, 100, 29]
abbrev dktX15_init_0 : List UInt8 := dkwX15_init_0 ++ dktX15_init_1
theorem dksX15_init_0 : cX15_init.data.toList.drop 0 = dktX15_init_0 := by decide +kernel
theorem dksX15_init_1 : cX15_init.data.toList.drop 24 = dktX15_init_1 := dk_seg dksX15_init_0 24 rfl rfl
theorem dX15_init_0 : decode cX15_init 0 = .ok (.aload_n 0, 1) := dk_42 (dk_at dksX15_init_0 0 rfl rfl)
theorem dX15_init_1 : decode cX15_init 1 = .ok (.invokespecial 1, 3) := dk_183 0 1 (dk_at dksX15_init_0 1 rfl rfl)
theorem dX15_init_4 : decode cX15_init 4 = .ok (.aload_n 0, 1) := dk_42 (dk_at dksX15_init_0 4 rfl rfl)
theorem dX15_init_5 : decode cX15_init 5 = .ok (.iload_n 1, 1) := dk_27 (dk_at dksX15_init_0 5 rfl rfl)
theorem dX15_init_6 : decode cX15_init 6 = .ok (.putfield 7, 3) := dk_181 0 7 (dk_at dksX15_init_0 6 rfl rfl)
theorem dX15_init_9 : decode cX15_init 9 = .ok (.aload_n 0, 1) := dk_42 (dk_at dksX15_init_0 9 rfl rfl)
theorem dX15_init_10 : decode cX15_init 10 = .ok (.iload_n 2, 1) := dk_28 (dk_at dksX15_init_0 10 rfl rfl)
theorem dX15_init_11 : decode cX15_init 11 = .ok (.putfield 13, 3) := dk_181 0 13 (dk_at dksX15_init_0 11 rfl rfl)
theorem dX15_init_14 : decode cX15_init 14 = .ok (.aload_n 0, 1) := dk_42 (dk_at dksX15_init_0 14 rfl rfl)
theorem dX15_init_15 : decode cX15_init 15 = .ok (.iload_n 3, 1) := dk_29 (dk_at dksX15_init_0 15 rfl rfl)
theorem dX15_init_16 : decode cX15_init 16 = .ok (.putfield 16, 3) := dk_181 0 16 (dk_at dksX15_init_0 16 rfl rfl)
theorem dX15_init_19 : decode cX15_init 19 = .ok (.aload_n 0, 1) := dk_42 (dk_at dksX15_init_0 19 rfl rfl)
theorem dX15_init_20 : decode cX15_init 20 = .ok (.iload_n 2, 1) := dk_28 (dk_at dksX15_init_0 20 rfl rfl)
theorem dX15_init_21 : decode cX15_init 21 = .ok (.iload_n 1, 1) := dk_27 (dk_at dksX15_init_0 21 rfl rfl)
theorem dX15_init_22 : decode cX15_init 22 = .ok (.isub, 1) := dk_100 (dk_at dksX15_init_0 22 rfl rfl)
theorem dX15_init_23 : decode cX15_init 23 = .ok (.iload_n 3, 1) := dk_29 (dk_at dksX15_init_0 23 rfl rfl)
theorem dX15_init_24 : decode cX15_init 24 = .ok (.invokestatic 19, 3) := dk_184 0 19 (dk_at dksX15_init_1 0 rfl rfl)
theorem dX15_init_27 : decode cX15_init 27 = .ok (.putfield 23, 3) := dk_181 0 23 (dk_at dksX15_init_1 3 rfl rfl)
theorem dX15_init_30 : decode cX15_init 30 = .ok (.aload_n 0, 1) := dk_42 (dk_at dksX15_init_1 6 rfl rfl)
theorem dX15_init_31 : decode cX15_init 31 = .ok (.iload_n 2, 1) := dk_28 (dk_at dksX15_init_1 7 rfl rfl)
theorem dX15_init_32 : decode cX15_init 32 = .ok (.iload_n 1, 1) := dk_27 (dk_at dksX15_init_1 8 rfl rfl)
theorem dX15_init_33 : decode cX15_init 33 = .ok (.isub, 1) := dk_100 (dk_at dksX15_init_1 9 rfl rfl)
theorem dX15_init_34 : decode cX15_init 34 = .ok (.aload_n 0, 1) := dk_42 (dk_at dksX15_init_1 10 rfl rfl)
theorem dX15_init_35 : decode cX15_init 35 = .ok (.getfield 23, 3) := dk_180 0 23 (dk_at dksX15_init_1 11 rfl rfl)
theorem dX15_init_38 : decode cX15_init 38 = .ok (.idiv, 1) := dk_108 (dk_at dksX15_init_1 14 rfl rfl)
theorem dX15_init_39 : decode cX15_init 39 = .ok (.putfield 26, 3) := dk_181 0 26 (dk_at dksX15_init_1 15 rfl rfl)
theorem dX15_init_42 : decode cX15_init 42 = .ok (.return_, 1) := dk_177 (dk_at dksX15_init_1 18 rfl rfl)
abbrev cX15_common : ByteArray := prog_14_method_2_code
def yX15_common : MethodName := ⟨RX15, "common", "(II)I"⟩
def dkwX15_common_0 : List UInt8 := [27, 154, 0, 7, 26, 167, 0, 10, 27, 26, 27, 112, 184, 0, 19, 172]
abbrev dktX15_common_0 : List UInt8 := dkwX15_common_0 ++ []
theorem dksX15_common_0 : cX15_common.data.toList.drop 0 = dktX15_common_0 := by decide +kernel
theorem dX15_common_0 : decode cX15_common 0 = .ok (.iload_n 1, 1) := dk_27 (dk_at dksX15_common_0 0 rfl rfl)
theorem dX15_common_1 : decode cX15_common 1 = .ok (.ifCond .ne 7, 3) := dk_154 0 7 (dk_at dksX15_common_0 1 rfl rfl)
theorem dX15_common_4 : decode cX15_common 4 = .ok (.iload_n 0, 1) := dk_26 (dk_at dksX15_common_0 4 rfl rfl)
theorem dX15_common_5 : decode cX15_common 5 = .ok (.goto 10, 3) := dk_167 0 10 (dk_at dksX15_common_0 5 rfl rfl)
theorem dX15_common_8 : decode cX15_common 8 = .ok (.iload_n 1, 1) := dk_27 (dk_at dksX15_common_0 8 rfl rfl)
theorem dX15_common_9 : decode cX15_common 9 = .ok (.iload_n 0, 1) := dk_26 (dk_at dksX15_common_0 9 rfl rfl)
theorem dX15_common_10 : decode cX15_common 10 = .ok (.iload_n 1, 1) := dk_27 (dk_at dksX15_common_0 10 rfl rfl)
theorem dX15_common_11 : decode cX15_common 11 = .ok (.irem, 1) := dk_112 (dk_at dksX15_common_0 11 rfl rfl)
theorem dX15_common_12 : decode cX15_common 12 = .ok (.invokestatic 19, 3) := dk_184 0 19 (dk_at dksX15_common_0 12 rfl rfl)
theorem dX15_common_15 : decode cX15_common 15 = .ok (.ireturn, 1) := dk_172 (dk_at dksX15_common_0 15 rfl rfl)
theorem q143 : (Jvm.Cond.initialized "TypesAtPrime$Side") ∈ lw_all := lw_g (lw_at lw_m1 41 rfl) rfl
theorem q585 : (Jvm.Cond.selects "TypesAtPrime$Side" ({ cls := "java/lang/Object", name := "getClass", desc := "()Ljava/lang/Class;" } : Jvm.MethodName) ({ cls := "java/lang/Object", name := "getClass", desc := "()Ljava/lang/Class;" } : Jvm.MethodName)) ∈ lw_all := lw_g (lw_at lw_m3 3 rfl) rfl
theorem q1289 : (Jvm.Cond.instantiable "TypesAtPrime$Side" (8 : Nat)) ∈ lw_all := lw_g (lw_at lw_m5 227 rfl) rfl
theorem q1291 : (Jvm.Cond.instanceMethod ({ cls := "TypesAtPrime$Side", name := "<init>", desc := "(III)V" } : Jvm.MethodName)) ∈ lw_all := lw_g (lw_at lw_m5 229 rfl) rfl
theorem q1292 : (Jvm.Cond.code ({ cls := "TypesAtPrime$Side", name := "<init>", desc := "(III)V" } : Jvm.MethodName) prog_14_method_1_code (4 : Nat) (Option.none : Option Jvm.ClassFile.FieldType)) ∈ lw_all := lw_g (lw_at lw_m5 230 rfl) rfl
theorem q1293 : (Jvm.Cond.methodLink "TypesAtPrime$Side" (1 : Nat) ({ cls := "java/lang/Object", name := "<init>", desc := "()V" } : Jvm.MethodName)) ∈ lw_all := lw_g (lw_at lw_m5 231 rfl) rfl
theorem q1294 : (Jvm.Cond.methodLink "TypesAtPrime$Side" (19 : Nat) ({ cls := "TypesAtPrime$Side", name := "common", desc := "(II)I" } : Jvm.MethodName)) ∈ lw_all := lw_g (lw_at lw_m5 232 rfl) rfl
theorem q1295 : (Jvm.Cond.static ({ cls := "TypesAtPrime$Side", name := "common", desc := "(II)I" } : Jvm.MethodName)) ∈ lw_all := lw_g (lw_at lw_m5 233 rfl) rfl
theorem q1296 : (Jvm.Cond.code ({ cls := "TypesAtPrime$Side", name := "common", desc := "(II)I" } : Jvm.MethodName) prog_14_method_2_code (2 : Nat) (Option.some Jvm.ClassFile.FieldType.int)) ∈ lw_all := lw_g (lw_at lw_m5 234 rfl) rfl
theorem q1297 : (Jvm.Cond.fieldLink "TypesAtPrime$Side" (7 : Nat) "TypesAtPrime$Side" "begins" "I") ∈ lw_all := lw_g (lw_at lw_m5 235 rfl) rfl
theorem q1300 : (Jvm.Cond.fieldLink "TypesAtPrime$Side" (13 : Nat) "TypesAtPrime$Side" "ends" "I") ∈ lw_all := lw_g (lw_at lw_m5 238 rfl) rfl
theorem q1303 : (Jvm.Cond.fieldLink "TypesAtPrime$Side" (16 : Nat) "TypesAtPrime$Side" "fall" "I") ∈ lw_all := lw_g (lw_at lw_m6 1 rfl) rfl
theorem q1306 : (Jvm.Cond.fieldLink "TypesAtPrime$Side" (26 : Nat) "TypesAtPrime$Side" "ramification" "I") ∈ lw_all := lw_g (lw_at lw_m6 4 rfl) rfl
theorem q1310 : (Jvm.Cond.fieldLink "TypesAtPrime$Side" (23 : Nat) "TypesAtPrime$Side" "degree" "I") ∈ lw_all := lw_g (lw_at lw_m6 8 rfl) rfl
theorem q1320 : (Jvm.Cond.laysFinal "TypesAtPrime$Side" "TypesAtPrime$Side" "begins" "I") ∈ lw_all := lw_g (lw_at lw_m6 18 rfl) rfl
theorem q1321 : (Jvm.Cond.soleField "TypesAtPrime$Side" "begins") ∈ lw_all := lw_g (lw_at lw_m6 19 rfl) rfl
theorem q1322 : (Jvm.Cond.laysFinal "TypesAtPrime$Side" "TypesAtPrime$Side" "ends" "I") ∈ lw_all := lw_g (lw_at lw_m6 20 rfl) rfl
theorem q1323 : (Jvm.Cond.soleField "TypesAtPrime$Side" "ends") ∈ lw_all := lw_g (lw_at lw_m6 21 rfl) rfl
theorem q1324 : (Jvm.Cond.laysFinal "TypesAtPrime$Side" "TypesAtPrime$Side" "fall" "I") ∈ lw_all := lw_g (lw_at lw_m6 22 rfl) rfl
theorem q1325 : (Jvm.Cond.soleField "TypesAtPrime$Side" "fall") ∈ lw_all := lw_g (lw_at lw_m6 23 rfl) rfl
theorem q1326 : (Jvm.Cond.lays "TypesAtPrime$Side" "TypesAtPrime$Side" "ramification" "I") ∈ lw_all := lw_g (lw_at lw_m6 24 rfl) rfl
theorem q1327 : (Jvm.Cond.soleField "TypesAtPrime$Side" "ramification") ∈ lw_all := lw_g (lw_at lw_m6 25 rfl) rfl
theorem q1328 : (Jvm.Cond.lays "TypesAtPrime$Side" "TypesAtPrime$Side" "degree" "I") ∈ lw_all := lw_g (lw_at lw_m6 26 rfl) rfl
theorem q1329 : (Jvm.Cond.soleField "TypesAtPrime$Side" "degree") ∈ lw_all := lw_g (lw_at lw_m6 27 rfl) rfl
theorem q1330 : (Jvm.Cond.lays "TypesAtPrime$Side" "TypesAtPrime$Side" "value" "I") ∈ lw_all := lw_g (lw_at lw_m6 28 rfl) rfl
theorem q1331 : (Jvm.Cond.soleField "TypesAtPrime$Side" "value") ∈ lw_all := lw_g (lw_at lw_m6 29 rfl) rfl
theorem q1332 : (Jvm.Cond.lays "TypesAtPrime$Side" "TypesAtPrime$Side" "monomial" "LTypesAtPrime$Monomial;") ∈ lw_all := lw_g (lw_at lw_m6 30 rfl) rfl
theorem q1333 : (Jvm.Cond.soleField "TypesAtPrime$Side" "monomial") ∈ lw_all := lw_g (lw_at lw_m6 31 rfl) rfl
theorem q1334 : (Jvm.Cond.lays "TypesAtPrime$Side" "TypesAtPrime$Side" "residual" "[I") ∈ lw_all := lw_g (lw_at lw_m6 32 rfl) rfl
theorem q1335 : (Jvm.Cond.soleField "TypesAtPrime$Side" "residual") ∈ lw_all := lw_g (lw_at lw_m6 33 rfl) rfl
theorem q1336 : (Jvm.Cond.superclass "TypesAtPrime$Side" "java/lang/Object") ∈ lw_all := lw_g (lw_at lw_m6 34 rfl) rfl
theorem q1580 : (Jvm.Cond.selects "TypesAtPrime$Side" ({ cls := "java/lang/Object", name := "toString", desc := "()Ljava/lang/String;" } : Jvm.MethodName) ({ cls := "java/lang/Object", name := "toString", desc := "()Ljava/lang/String;" } : Jvm.MethodName)) ∈ lw_all := lw_g (lw_at lw_m7 38 rfl) rfl
theorem q2647 : (Jvm.Cond.castable "TypesAtPrime$Side" "java/lang/Object") ∈ lw_tbl := lw_at lw_m11 145 rfl
theorem in_X15 : ∀ w ∈ wsX150, w ∈ lw_all := lw_in wsX150 [1320, 1322, 1324, 1326, 1328, 1330, 1332, 1334] (by decide +kernel) (by decide +kernel)

/-! TypesAtPrime$Spelt -/
set_option maxRecDepth 100000
def RX16 : String := "TypesAtPrime$Spelt"
abbrev cX16_size : ByteArray := prog_15_method_2_code
def yX16_size : MethodName := ⟨RX16, "size", "()I"⟩
def dkwX16_size_0 : List UInt8 := [42, 185, 0, 1, 1, 0, 185, 0, 7, 1, 0, 172]
abbrev dktX16_size_0 : List UInt8 := dkwX16_size_0 ++ []
theorem dksX16_size_0 : cX16_size.data.toList.drop 0 = dktX16_size_0 := by decide +kernel
theorem dX16_size_0 : decode cX16_size 0 = .ok (.aload_n 0, 1) := dk_42 (dk_at dksX16_size_0 0 rfl rfl)
theorem dX16_size_1 : decode cX16_size 1 = .ok (.invokeinterface 1 1, 5) := by decide +kernel
theorem dX16_size_6 : decode cX16_size 6 = .ok (.invokeinterface 7 1, 5) := by decide +kernel
theorem dX16_size_11 : decode cX16_size 11 = .ok (.ireturn, 1) := dk_172 (dk_at dksX16_size_0 11 rfl rfl)
abbrev cX16_joined : ByteArray := prog_15_method_3_code
def yX16_joined : MethodName := ⟨RX16, "joined", "(Ljava/lang/CharSequence;Ljava/lang/CharSequence;)Ljava/lang/CharSequence;"⟩
def dkwX16_joined_1 : List UInt8 := [18, 23, 182, 0, 25, 43, 182, 0, 19, 182, 0, 28, 176]
abbrev dktX16_joined_1 : List UInt8 := dkwX16_joined_1 ++ []
def dkwX16_joined_0 : List UInt8 := [42, 185, 0, 7, 1, 0, 154, 0, 7, 43, 167, 0, 26, 187, 0, 13, 89, 183, 0, 15, 42, 182, 0, 19]
abbrev dktX16_joined_0 : List UInt8 := dkwX16_joined_0 ++ dktX16_joined_1
theorem dksX16_joined_0 : cX16_joined.data.toList.drop 0 = dktX16_joined_0 := by decide +kernel
theorem dksX16_joined_1 : cX16_joined.data.toList.drop 24 = dktX16_joined_1 := dk_seg dksX16_joined_0 24 rfl rfl
theorem dX16_joined_0 : decode cX16_joined 0 = .ok (.aload_n 0, 1) := dk_42 (dk_at dksX16_joined_0 0 rfl rfl)
theorem dX16_joined_1 : decode cX16_joined 1 = .ok (.invokeinterface 7 1, 5) := by decide +kernel
theorem dX16_joined_6 : decode cX16_joined 6 = .ok (.ifCond .ne 7, 3) := dk_154 0 7 (dk_at dksX16_joined_0 6 rfl rfl)
theorem dX16_joined_9 : decode cX16_joined 9 = .ok (.aload_n 1, 1) := dk_43 (dk_at dksX16_joined_0 9 rfl rfl)
theorem dX16_joined_10 : decode cX16_joined 10 = .ok (.goto 26, 3) := dk_167 0 26 (dk_at dksX16_joined_0 10 rfl rfl)
theorem dX16_joined_13 : decode cX16_joined 13 = .ok (.new 13, 3) := dk_187 0 13 (dk_at dksX16_joined_0 13 rfl rfl)
theorem dX16_joined_16 : decode cX16_joined 16 = .ok (.dup, 1) := dk_89 (dk_at dksX16_joined_0 16 rfl rfl)
theorem dX16_joined_17 : decode cX16_joined 17 = .ok (.invokespecial 15, 3) := dk_183 0 15 (dk_at dksX16_joined_0 17 rfl rfl)
theorem dX16_joined_20 : decode cX16_joined 20 = .ok (.aload_n 0, 1) := dk_42 (dk_at dksX16_joined_0 20 rfl rfl)
theorem dX16_joined_21 : decode cX16_joined 21 = .ok (.invokevirtual 19, 3) := dk_182 0 19 (dk_at dksX16_joined_0 21 rfl rfl)
theorem dX16_joined_24 : decode cX16_joined 24 = .ok (.ldc 23, 2) := dk_18 23 (dk_at dksX16_joined_1 0 rfl rfl)
theorem dX16_joined_26 : decode cX16_joined 26 = .ok (.invokevirtual 25, 3) := dk_182 0 25 (dk_at dksX16_joined_1 2 rfl rfl)
theorem dX16_joined_29 : decode cX16_joined 29 = .ok (.aload_n 1, 1) := dk_43 (dk_at dksX16_joined_1 5 rfl rfl)
theorem dX16_joined_30 : decode cX16_joined 30 = .ok (.invokevirtual 19, 3) := dk_182 0 19 (dk_at dksX16_joined_1 6 rfl rfl)
theorem dX16_joined_33 : decode cX16_joined 33 = .ok (.invokevirtual 28, 3) := dk_182 0 28 (dk_at dksX16_joined_1 9 rfl rfl)
theorem dX16_joined_36 : decode cX16_joined 36 = .ok (.areturn, 1) := dk_176 (dk_at dksX16_joined_1 12 rfl rfl)
theorem q144 : (Jvm.Cond.initialized "TypesAtPrime$Spelt") ∈ lw_all := lw_g (lw_at lw_m1 42 rfl) rfl
theorem q1477 : (Jvm.Cond.declares ({ cls := "TypesAtPrime$Spelt", name := "size", desc := "()I" } : Jvm.MethodName)) ∈ lw_tbl := lw_at lw_m6 175 rfl
theorem q1483 : (Jvm.Cond.instanceMethod ({ cls := "TypesAtPrime$Spelt", name := "size", desc := "()I" } : Jvm.MethodName)) ∈ lw_all := lw_g (lw_at lw_m6 181 rfl) rfl
theorem q1484 : (Jvm.Cond.publicMethod ({ cls := "TypesAtPrime$Spelt", name := "size", desc := "()I" } : Jvm.MethodName)) ∈ lw_tbl := lw_at lw_m6 182 rfl
theorem q1485 : (Jvm.Cond.code ({ cls := "TypesAtPrime$Spelt", name := "size", desc := "()I" } : Jvm.MethodName) prog_15_method_2_code (1 : Nat) (Option.some Jvm.ClassFile.FieldType.int)) ∈ lw_all := lw_g (lw_at lw_m6 183 rfl) rfl
theorem q1486 : (Jvm.Cond.interfaceEntry "TypesAtPrime$Spelt" (1 : Nat)) ∈ lw_tbl := lw_at lw_m6 184 rfl
theorem q1487 : (Jvm.Cond.methodLink "TypesAtPrime$Spelt" (1 : Nat) ({ cls := "TypesAtPrime$Spelt", name := "spelling", desc := "()Ljava/lang/CharSequence;" } : Jvm.MethodName)) ∈ lw_all := lw_g (lw_at lw_m6 185 rfl) rfl
theorem q1488 : (Jvm.Cond.interfaceMethod "TypesAtPrime$Spelt" "TypesAtPrime$Spelt" "spelling" "()Ljava/lang/CharSequence;") ∈ lw_tbl := lw_at lw_m6 186 rfl
theorem q1489 : (Jvm.Cond.declares ({ cls := "TypesAtPrime$Spelt", name := "spelling", desc := "()Ljava/lang/CharSequence;" } : Jvm.MethodName)) ∈ lw_tbl := lw_at lw_m6 187 rfl
theorem q1695 : (Jvm.Cond.interfaceEntry "TypesAtPrime$Spelt" (7 : Nat)) ∈ lw_tbl := lw_at lw_m7 153 rfl
theorem q1696 : (Jvm.Cond.methodLink "TypesAtPrime$Spelt" (7 : Nat) ({ cls := "java/lang/CharSequence", name := "length", desc := "()I" } : Jvm.MethodName)) ∈ lw_all := lw_g (lw_at lw_m7 154 rfl) rfl
theorem q1698 : (Jvm.Cond.static ({ cls := "TypesAtPrime$Spelt", name := "joined", desc := "(Ljava/lang/CharSequence;Ljava/lang/CharSequence;)Ljava/lang/CharSequence;" } : Jvm.MethodName)) ∈ lw_all := lw_g (lw_at lw_m7 156 rfl) rfl
theorem q1699 : (Jvm.Cond.code ({ cls := "TypesAtPrime$Spelt", name := "joined", desc := "(Ljava/lang/CharSequence;Ljava/lang/CharSequence;)Ljava/lang/CharSequence;" } : Jvm.MethodName) prog_15_method_3_code (2 : Nat) (Option.some (Jvm.ClassFile.FieldType.object "java/lang/CharSequence"))) ∈ lw_all := lw_g (lw_at lw_m7 157 rfl) rfl
theorem q1700 : (Jvm.Cond.classLink "TypesAtPrime$Spelt" (13 : Nat) "java/lang/StringBuilder") ∈ lw_all := lw_g (lw_at lw_m7 158 rfl) rfl
theorem q1701 : (Jvm.Cond.methodLink "TypesAtPrime$Spelt" (15 : Nat) ({ cls := "java/lang/StringBuilder", name := "<init>", desc := "()V" } : Jvm.MethodName)) ∈ lw_all := lw_g (lw_at lw_m7 159 rfl) rfl
theorem q1702 : (Jvm.Cond.methodLink "TypesAtPrime$Spelt" (19 : Nat) ({ cls := "java/lang/StringBuilder", name := "append", desc := "(Ljava/lang/Object;)Ljava/lang/StringBuilder;" } : Jvm.MethodName)) ∈ lw_all := lw_g (lw_at lw_m7 160 rfl) rfl
theorem q1703 : (Jvm.Cond.stringRef "TypesAtPrime$Spelt" (23 : Nat) "+") ∈ lw_tbl := lw_at lw_m7 161 rfl
theorem q1704 : (Jvm.Cond.methodLink "TypesAtPrime$Spelt" (25 : Nat) ({ cls := "java/lang/StringBuilder", name := "append", desc := "(Ljava/lang/String;)Ljava/lang/StringBuilder;" } : Jvm.MethodName)) ∈ lw_all := lw_g (lw_at lw_m7 162 rfl) rfl
theorem q1705 : (Jvm.Cond.methodLink "TypesAtPrime$Spelt" (28 : Nat) ({ cls := "java/lang/StringBuilder", name := "toString", desc := "()Ljava/lang/String;" } : Jvm.MethodName)) ∈ lw_all := lw_g (lw_at lw_m7 163 rfl) rfl

