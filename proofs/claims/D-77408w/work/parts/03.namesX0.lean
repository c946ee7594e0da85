/-! TypesAtPrime -/
set_option maxRecDepth 100000
def RX0 : String := "TypesAtPrime"
def TX0 : u_T := fun k => match k with
  | 0 => ("TypesAtPrime", "p", "I", false)
  | 1 => ("TypesAtPrime", "modulus", "J", false)
  | 2 => ("TypesAtPrime", "left", "[J", true)
  | 3 => ("TypesAtPrime", "quotient", "[J", true)
  | 4 => ("TypesAtPrime", "rooms", "[[[J", true)
  | 5 => ("TypesAtPrime", "tried", "[I", true)
  | 6 => ("TypesAtPrime", "leaves", "[I", true)
  | 7 => ("TypesAtPrime", "goes", "[I", true)
  | 8 => ("TypesAtPrime", "slots", "[[I", true)
  | 9 => ("TypesAtPrime", "tape", "Ljava/lang/StringBuilder;", true)
  | 10 => ("TypesAtPrime", "tree", "LTypesAtPrime$Tree;", false)
  | _ => ("TypesAtPrime", "sheets", "[LTypesAtPrime$Sheet;", true)
def tyX0 : Nat → FieldType := fun k => match k with
  | 0 => .int
  | 1 => .long
  | 2 => .array .long
  | 3 => .array .long
  | 4 => .array (.array (.array .long))
  | 5 => .array .int
  | 6 => .array .int
  | 7 => .array .int
  | 8 => .array (.array .int)
  | 9 => .object "java/lang/StringBuilder"
  | 10 => .object "TypesAtPrime$Tree"
  | _ => .array (.object "TypesAtPrime$Sheet")
abbrev wsX00 : List Cond := u_ws RX0 TX0 12
theorem nmX0 : ∀ a, a < 12 → ∀ b, b < 12 → a ≠ b → (TX0 a).2.1 ≠ (TX0 b).2.1 := by decide +kernel
theorem tyX0_ok : ∀ k, k < 12 → parseFieldDescriptor (TX0 k).2.2.1 = some (tyX0 k) := by decide +kernel
abbrev cX0_init : ByteArray := prog_1_method_1_code
def yX0_init : MethodName := ⟨RX0, "<init>", "()V"⟩
def dkwX0_init_6 : List UInt8 := [181, 0, 64, 177]
abbrev dktX0_init_6 : List UInt8 := dkwX0_init_6 ++ []
def dkwX0_init_5 : List UInt8 := [183, 0, 63, 83, 89, 5, 187, 0, 61, 89, 183, 0, 63, 83, 89, 6, 187, 0, 61, 89, 183, 0, 63, 83]
abbrev dktX0_init_5 : List UInt8 := dkwX0_init_5 ++ dktX0_init_6
def dkwX0_init_4 : List UInt8 := [181, 0, 57, 42, 7, 189, 0, 61, 89, 3, 187, 0, 61, 89, 183, 0, 63, 83, 89, 4, 187, 0, 61, 89]
abbrev dktX0_init_4 : List UInt8 := dkwX0_init_4 ++ dktX0_init_5
def dkwX0_init_3 : List UInt8 := [181, 0, 44, 42, 8, 16, 9, 197, 0, 47, 2, 181, 0, 49, 42, 187, 0, 52, 89, 16, 80, 183, 0, 54]
abbrev dktX0_init_3 : List UInt8 := dkwX0_init_3 ++ dktX0_init_4
def dkwX0_init_2 : List UInt8 := [181, 0, 34, 42, 16, 9, 188, 10, 181, 0, 37, 42, 16, 9, 188, 10, 181, 0, 41, 42, 16, 9, 188, 10]
abbrev dktX0_init_2 : List UInt8 := dkwX0_init_2 ++ dktX0_init_3
def dkwX0_init_1 : List UInt8 := [188, 11, 181, 0, 25, 42, 16, 9, 188, 11, 181, 0, 29, 42, 16, 7, 16, 9, 16, 9, 197, 0, 32, 3]
abbrev dktX0_init_1 : List UInt8 := dkwX0_init_1 ++ dktX0_init_2
def dkwX0_init_0 : List UInt8 := [42, 183, 0, 3, 42, 6, 181, 0, 9, 42, 20, 0, 15, 16, 18, 184, 0, 17, 181, 0, 21, 42, 16, 9]
abbrev dktX0_init_0 : List UInt8 := dkwX0_init_0 ++ dktX0_init_1
theorem dksX0_init_0 : cX0_init.data.toList.drop 0 = dktX0_init_0 := by decide +kernel
theorem dksX0_init_1 : cX0_init.data.toList.drop 24 = dktX0_init_1 := dk_seg dksX0_init_0 24 rfl rfl
theorem dksX0_init_2 : cX0_init.data.toList.drop 48 = dktX0_init_2 := dk_seg dksX0_init_1 24 rfl rfl
theorem dksX0_init_3 : cX0_init.data.toList.drop 72 = dktX0_init_3 := dk_seg dksX0_init_2 24 rfl rfl
theorem dksX0_init_4 : cX0_init.data.toList.drop 96 = dktX0_init_4 := dk_seg dksX0_init_3 24 rfl rfl
theorem dksX0_init_5 : cX0_init.data.toList.drop 120 = dktX0_init_5 := dk_seg dksX0_init_4 24 rfl rfl
theorem dksX0_init_6 : cX0_init.data.toList.drop 144 = dktX0_init_6 := dk_seg dksX0_init_5 24 rfl rfl
theorem dX0_init_0 : decode cX0_init 0 = .ok (.aload_n 0, 1) := dk_42 (dk_at dksX0_init_0 0 rfl rfl)
theorem dX0_init_1 : decode cX0_init 1 = .ok (.invokespecial 3, 3) := dk_183 0 3 (dk_at dksX0_init_0 1 rfl rfl)
theorem dX0_init_4 : decode cX0_init 4 = .ok (.aload_n 0, 1) := dk_42 (dk_at dksX0_init_0 4 rfl rfl)
theorem dX0_init_5 : decode cX0_init 5 = .ok (.iconst 3, 1) := dk_6 (dk_at dksX0_init_0 5 rfl rfl)
theorem dX0_init_6 : decode cX0_init 6 = .ok (.putfield 9, 3) := dk_181 0 9 (dk_at dksX0_init_0 6 rfl rfl)
theorem dX0_init_9 : decode cX0_init 9 = .ok (.aload_n 0, 1) := dk_42 (dk_at dksX0_init_0 9 rfl rfl)
theorem dX0_init_10 : decode cX0_init 10 = .ok (.ldc2_w 15, 3) := dk_20 0 15 (dk_at dksX0_init_0 10 rfl rfl)
theorem dX0_init_13 : decode cX0_init 13 = .ok (.bipush 18, 2) := dk_16 18 (dk_at dksX0_init_0 13 rfl rfl)
theorem dX0_init_15 : decode cX0_init 15 = .ok (.invokestatic 17, 3) := dk_184 0 17 (dk_at dksX0_init_0 15 rfl rfl)
theorem dX0_init_18 : decode cX0_init 18 = .ok (.putfield 21, 3) := dk_181 0 21 (dk_at dksX0_init_0 18 rfl rfl)
theorem dX0_init_21 : decode cX0_init 21 = .ok (.aload_n 0, 1) := dk_42 (dk_at dksX0_init_0 21 rfl rfl)
theorem dX0_init_22 : decode cX0_init 22 = .ok (.bipush 9, 2) := dk_16 9 (dk_at dksX0_init_0 22 rfl rfl)
theorem dX0_init_24 : decode cX0_init 24 = .ok (.newarray .long, 2) := dk_188_11 (dk_at dksX0_init_1 0 rfl rfl)
theorem dX0_init_26 : decode cX0_init 26 = .ok (.putfield 25, 3) := dk_181 0 25 (dk_at dksX0_init_1 2 rfl rfl)
theorem dX0_init_29 : decode cX0_init 29 = .ok (.aload_n 0, 1) := dk_42 (dk_at dksX0_init_1 5 rfl rfl)
theorem dX0_init_30 : decode cX0_init 30 = .ok (.bipush 9, 2) := dk_16 9 (dk_at dksX0_init_1 6 rfl rfl)
theorem dX0_init_32 : decode cX0_init 32 = .ok (.newarray .long, 2) := dk_188_11 (dk_at dksX0_init_1 8 rfl rfl)
theorem dX0_init_34 : decode cX0_init 34 = .ok (.putfield 29, 3) := dk_181 0 29 (dk_at dksX0_init_1 10 rfl rfl)
theorem dX0_init_37 : decode cX0_init 37 = .ok (.aload_n 0, 1) := dk_42 (dk_at dksX0_init_1 13 rfl rfl)
theorem dX0_init_38 : decode cX0_init 38 = .ok (.bipush 7, 2) := dk_16 7 (dk_at dksX0_init_1 14 rfl rfl)
theorem dX0_init_40 : decode cX0_init 40 = .ok (.bipush 9, 2) := dk_16 9 (dk_at dksX0_init_1 16 rfl rfl)
theorem dX0_init_42 : decode cX0_init 42 = .ok (.bipush 9, 2) := dk_16 9 (dk_at dksX0_init_1 18 rfl rfl)
theorem dX0_init_44 : decode cX0_init 44 = .ok (.multianewarray 32 3, 4) := by decide +kernel
theorem dX0_init_48 : decode cX0_init 48 = .ok (.putfield 34, 3) := dk_181 0 34 (dk_at dksX0_init_2 0 rfl rfl)
theorem dX0_init_51 : decode cX0_init 51 = .ok (.aload_n 0, 1) := dk_42 (dk_at dksX0_init_2 3 rfl rfl)
theorem dX0_init_52 : decode cX0_init 52 = .ok (.bipush 9, 2) := dk_16 9 (dk_at dksX0_init_2 4 rfl rfl)
theorem dX0_init_54 : decode cX0_init 54 = .ok (.newarray .int, 2) := dk_188_10 (dk_at dksX0_init_2 6 rfl rfl)
theorem dX0_init_56 : decode cX0_init 56 = .ok (.putfield 37, 3) := dk_181 0 37 (dk_at dksX0_init_2 8 rfl rfl)
theorem dX0_init_59 : decode cX0_init 59 = .ok (.aload_n 0, 1) := dk_42 (dk_at dksX0_init_2 11 rfl rfl)
theorem dX0_init_60 : decode cX0_init 60 = .ok (.bipush 9, 2) := dk_16 9 (dk_at dksX0_init_2 12 rfl rfl)
theorem dX0_init_62 : decode cX0_init 62 = .ok (.newarray .int, 2) := dk_188_10 (dk_at dksX0_init_2 14 rfl rfl)
theorem dX0_init_64 : decode cX0_init 64 = .ok (.putfield 41, 3) := dk_181 0 41 (dk_at dksX0_init_2 16 rfl rfl)
theorem dX0_init_67 : decode cX0_init 67 = .ok (.aload_n 0, 1) := dk_42 (dk_at dksX0_init_2 19 rfl rfl)
theorem dX0_init_68 : decode cX0_init 68 = .ok (.bipush 9, 2) := dk_16 9 (dk_at dksX0_init_2 20 rfl rfl)
theorem dX0_init_70 : decode cX0_init 70 = .ok (.newarray .int, 2) := dk_188_10 (dk_at dksX0_init_2 22 rfl rfl)
theorem dX0_init_72 : decode cX0_init 72 = .ok (.putfield 44, 3) := dk_181 0 44 (dk_at dksX0_init_3 0 rfl rfl)
theorem dX0_init_75 : decode cX0_init 75 = .ok (.aload_n 0, 1) := dk_42 (dk_at dksX0_init_3 3 rfl rfl)
theorem dX0_init_76 : decode cX0_init 76 = .ok (.iconst 5, 1) := dk_8 (dk_at dksX0_init_3 4 rfl rfl)
theorem dX0_init_77 : decode cX0_init 77 = .ok (.bipush 9, 2) := dk_16 9 (dk_at dksX0_init_3 5 rfl rfl)
theorem dX0_init_79 : decode cX0_init 79 = .ok (.multianewarray 47 2, 4) := by decide +kernel
theorem dX0_init_83 : decode cX0_init 83 = .ok (.putfield 49, 3) := dk_181 0 49 (dk_at dksX0_init_3 11 rfl rfl)
theorem dX0_init_86 : decode cX0_init 86 = .ok (.aload_n 0, 1) := dk_42 (dk_at dksX0_init_3 14 rfl rfl)
theorem dX0_init_87 : decode cX0_init 87 = .ok (.new 52, 3) := dk_187 0 52 (dk_at dksX0_init_3 15 rfl rfl)
theorem dX0_init_90 : decode cX0_init 90 = .ok (.dup, 1) := dk_89 (dk_at dksX0_init_3 18 rfl rfl)
theorem dX0_init_91 : decode cX0_init 91 = .ok (.bipush 80, 2) := dk_16 80 (dk_at dksX0_init_3 19 rfl rfl)
theorem dX0_init_93 : decode cX0_init 93 = .ok (.invokespecial 54, 3) := dk_183 0 54 (dk_at dksX0_init_3 21 rfl rfl)
theorem dX0_init_96 : decode cX0_init 96 = .ok (.putfield 57, 3) := dk_181 0 57 (dk_at dksX0_init_4 0 rfl rfl)
theorem dX0_init_99 : decode cX0_init 99 = .ok (.aload_n 0, 1) := dk_42 (dk_at dksX0_init_4 3 rfl rfl)
theorem dX0_init_100 : decode cX0_init 100 = .ok (.iconst 4, 1) := dk_7 (dk_at dksX0_init_4 4 rfl rfl)
theorem dX0_init_101 : decode cX0_init 101 = .ok (.anewarray 61, 3) := dk_189 0 61 (dk_at dksX0_init_4 5 rfl rfl)
theorem dX0_init_104 : decode cX0_init 104 = .ok (.dup, 1) := dk_89 (dk_at dksX0_init_4 8 rfl rfl)
theorem dX0_init_105 : decode cX0_init 105 = .ok (.iconst 0, 1) := dk_3 (dk_at dksX0_init_4 9 rfl rfl)
theorem dX0_init_106 : decode cX0_init 106 = .ok (.new 61, 3) := dk_187 0 61 (dk_at dksX0_init_4 10 rfl rfl)
theorem dX0_init_109 : decode cX0_init 109 = .ok (.dup, 1) := dk_89 (dk_at dksX0_init_4 13 rfl rfl)
theorem dX0_init_110 : decode cX0_init 110 = .ok (.invokespecial 63, 3) := dk_183 0 63 (dk_at dksX0_init_4 14 rfl rfl)
theorem dX0_init_113 : decode cX0_init 113 = .ok (.aastore, 1) := dk_83 (dk_at dksX0_init_4 17 rfl rfl)
theorem dX0_init_114 : decode cX0_init 114 = .ok (.dup, 1) := dk_89 (dk_at dksX0_init_4 18 rfl rfl)
theorem dX0_init_115 : decode cX0_init 115 = .ok (.iconst 1, 1) := dk_4 (dk_at dksX0_init_4 19 rfl rfl)
theorem dX0_init_116 : decode cX0_init 116 = .ok (.new 61, 3) := dk_187 0 61 (dk_at dksX0_init_4 20 rfl rfl)
theorem dX0_init_119 : decode cX0_init 119 = .ok (.dup, 1) := dk_89 (dk_at dksX0_init_4 23 rfl rfl)
theorem dX0_init_120 : decode cX0_init 120 = .ok (.invokespecial 63, 3) := dk_183 0 63 (dk_at dksX0_init_5 0 rfl rfl)
theorem dX0_init_123 : decode cX0_init 123 = .ok (.aastore, 1) := dk_83 (dk_at dksX0_init_5 3 rfl rfl)
theorem dX0_init_124 : decode cX0_init 124 = .ok (.dup, 1) := dk_89 (dk_at dksX0_init_5 4 rfl rfl)
theorem dX0_init_125 : decode cX0_init 125 = .ok (.iconst 2, 1) := dk_5 (dk_at dksX0_init_5 5 rfl rfl)
theorem dX0_init_126 : decode cX0_init 126 = .ok (.new 61, 3) := dk_187 0 61 (dk_at dksX0_init_5 6 rfl rfl)
theorem dX0_init_129 : decode cX0_init 129 = .ok (.dup, 1) := dk_89 (dk_at dksX0_init_5 9 rfl rfl)
theorem dX0_init_130 : decode cX0_init 130 = .ok (.invokespecial 63, 3) := dk_183 0 63 (dk_at dksX0_init_5 10 rfl rfl)
theorem dX0_init_133 : decode cX0_init 133 = .ok (.aastore, 1) := dk_83 (dk_at dksX0_init_5 13 rfl rfl)
theorem dX0_init_134 : decode cX0_init 134 = .ok (.dup, 1) := dk_89 (dk_at dksX0_init_5 14 rfl rfl)
theorem dX0_init_135 : decode cX0_init 135 = .ok (.iconst 3, 1) := dk_6 (dk_at dksX0_init_5 15 rfl rfl)
theorem dX0_init_136 : decode cX0_init 136 = .ok (.new 61, 3) := dk_187 0 61 (dk_at dksX0_init_5 16 rfl rfl)
theorem dX0_init_139 : decode cX0_init 139 = .ok (.dup, 1) := dk_89 (dk_at dksX0_init_5 19 rfl rfl)
theorem dX0_init_140 : decode cX0_init 140 = .ok (.invokespecial 63, 3) := dk_183 0 63 (dk_at dksX0_init_5 20 rfl rfl)
theorem dX0_init_143 : decode cX0_init 143 = .ok (.aastore, 1) := dk_83 (dk_at dksX0_init_5 23 rfl rfl)
theorem dX0_init_144 : decode cX0_init 144 = .ok (.putfield 64, 3) := dk_181 0 64 (dk_at dksX0_init_6 0 rfl rfl)
theorem dX0_init_147 : decode cX0_init 147 = .ok (.return_, 1) := dk_177 (dk_at dksX0_init_6 3 rfl rfl)
abbrev cX0_power : ByteArray := prog_1_method_3_code
def yX0_power : MethodName := ⟨RX0, "power", "(JI)J"⟩
def dkwX0_power_0 : List UInt8 := [10, 66, 3, 54, 5, 21, 5, 28, 162, 0, 13, 33, 30, 105, 66, 132, 5, 1, 167, 255, 243, 33, 173]
abbrev dktX0_power_0 : List UInt8 := dkwX0_power_0 ++ []
theorem dksX0_power_0 : cX0_power.data.toList.drop 0 = dktX0_power_0 := by decide +kernel
theorem dX0_power_0 : decode cX0_power 0 = .ok (.lconst 1, 1) := dk_10 (dk_at dksX0_power_0 0 rfl rfl)
theorem dX0_power_1 : decode cX0_power 1 = .ok (.lstore_n 3, 1) := dk_66 (dk_at dksX0_power_0 1 rfl rfl)
theorem dX0_power_2 : decode cX0_power 2 = .ok (.iconst 0, 1) := dk_3 (dk_at dksX0_power_0 2 rfl rfl)
theorem dX0_power_3 : decode cX0_power 3 = .ok (.istore 5, 2) := dk_54 5 (dk_at dksX0_power_0 3 rfl rfl)
theorem dX0_power_5 : decode cX0_power 5 = .ok (.iload 5, 2) := dk_21 5 (dk_at dksX0_power_0 5 rfl rfl)
theorem dX0_power_7 : decode cX0_power 7 = .ok (.iload_n 2, 1) := dk_28 (dk_at dksX0_power_0 7 rfl rfl)
theorem dX0_power_8 : decode cX0_power 8 = .ok (.if_icmp .ge 13, 3) := dk_162 0 13 (dk_at dksX0_power_0 8 rfl rfl)
theorem dX0_power_11 : decode cX0_power 11 = .ok (.lload_n 3, 1) := dk_33 (dk_at dksX0_power_0 11 rfl rfl)
theorem dX0_power_12 : decode cX0_power 12 = .ok (.lload_n 0, 1) := dk_30 (dk_at dksX0_power_0 12 rfl rfl)
theorem dX0_power_13 : decode cX0_power 13 = .ok (.lmul, 1) := dk_105 (dk_at dksX0_power_0 13 rfl rfl)
theorem dX0_power_14 : decode cX0_power 14 = .ok (.lstore_n 3, 1) := dk_66 (dk_at dksX0_power_0 14 rfl rfl)
theorem dX0_power_15 : decode cX0_power 15 = .ok (.iinc 5 1, 3) := dk_132 5 1 (dk_at dksX0_power_0 15 rfl rfl)
theorem dX0_power_18 : decode cX0_power 18 = .ok (.goto (-13), 3) := dk_167 255 243 (dk_at dksX0_power_0 18 rfl rfl)
theorem dX0_power_21 : decode cX0_power 21 = .ok (.lload_n 3, 1) := dk_33 (dk_at dksX0_power_0 21 rfl rfl)
theorem dX0_power_22 : decode cX0_power 22 = .ok (.lreturn, 1) := dk_173 (dk_at dksX0_power_0 22 rfl rfl)
abbrev cX0_prime : ByteArray := prog_1_method_5_code
def yX0_prime : MethodName := ⟨RX0, "prime", "(I)I"⟩
def dkwX0_prime_2 : List UInt8 := [181, 0, 21, 42, 1, 181, 0, 72, 28, 172]
abbrev dktX0_prime_2 : List UInt8 := dkwX0_prime_2 ++ []
def dkwX0_prime_1 : List UInt8 := [180, 0, 9, 61, 42, 27, 181, 0, 9, 42, 42, 180, 0, 9, 133, 42, 182, 0, 68, 184, 0, 17]
abbrev dktX0_prime_1 : List UInt8 := dkwX0_prime_1 ++ dktX0_prime_2
def dkwX0_prime_0 : List UInt8 := [27, 5, 159, 0, 21, 27, 6, 159, 0, 16, 27, 8, 159, 0, 11, 27, 16, 7, 159, 0, 5, 2, 172, 42]
abbrev dktX0_prime_0 : List UInt8 := dkwX0_prime_0 ++ dktX0_prime_1
theorem dksX0_prime_0 : cX0_prime.data.toList.drop 0 = dktX0_prime_0 := by decide +kernel
theorem dksX0_prime_1 : cX0_prime.data.toList.drop 24 = dktX0_prime_1 := dk_seg dksX0_prime_0 24 rfl rfl
theorem dksX0_prime_2 : cX0_prime.data.toList.drop 46 = dktX0_prime_2 := dk_seg dksX0_prime_1 22 rfl rfl
theorem dX0_prime_0 : decode cX0_prime 0 = .ok (.iload_n 1, 1) := dk_27 (dk_at dksX0_prime_0 0 rfl rfl)
theorem dX0_prime_1 : decode cX0_prime 1 = .ok (.iconst 2, 1) := dk_5 (dk_at dksX0_prime_0 1 rfl rfl)
theorem dX0_prime_2 : decode cX0_prime 2 = .ok (.if_icmp .eq 21, 3) := dk_159 0 21 (dk_at dksX0_prime_0 2 rfl rfl)
theorem dX0_prime_5 : decode cX0_prime 5 = .ok (.iload_n 1, 1) := dk_27 (dk_at dksX0_prime_0 5 rfl rfl)
theorem dX0_prime_6 : decode cX0_prime 6 = .ok (.iconst 3, 1) := dk_6 (dk_at dksX0_prime_0 6 rfl rfl)
theorem dX0_prime_7 : decode cX0_prime 7 = .ok (.if_icmp .eq 16, 3) := dk_159 0 16 (dk_at dksX0_prime_0 7 rfl rfl)
theorem dX0_prime_10 : decode cX0_prime 10 = .ok (.iload_n 1, 1) := dk_27 (dk_at dksX0_prime_0 10 rfl rfl)
theorem dX0_prime_11 : decode cX0_prime 11 = .ok (.iconst 5, 1) := dk_8 (dk_at dksX0_prime_0 11 rfl rfl)
theorem dX0_prime_12 : decode cX0_prime 12 = .ok (.if_icmp .eq 11, 3) := dk_159 0 11 (dk_at dksX0_prime_0 12 rfl rfl)
theorem dX0_prime_15 : decode cX0_prime 15 = .ok (.iload_n 1, 1) := dk_27 (dk_at dksX0_prime_0 15 rfl rfl)
theorem dX0_prime_16 : decode cX0_prime 16 = .ok (.bipush 7, 2) := dk_16 7 (dk_at dksX0_prime_0 16 rfl rfl)
theorem dX0_prime_18 : decode cX0_prime 18 = .ok (.if_icmp .eq 5, 3) := dk_159 0 5 (dk_at dksX0_prime_0 18 rfl rfl)
theorem dX0_prime_21 : decode cX0_prime 21 = .ok (.iconst (-1), 1) := dk_2 (dk_at dksX0_prime_0 21 rfl rfl)
theorem dX0_prime_22 : decode cX0_prime 22 = .ok (.ireturn, 1) := dk_172 (dk_at dksX0_prime_0 22 rfl rfl)
theorem dX0_prime_23 : decode cX0_prime 23 = .ok (.aload_n 0, 1) := dk_42 (dk_at dksX0_prime_0 23 rfl rfl)
theorem dX0_prime_24 : decode cX0_prime 24 = .ok (.getfield 9, 3) := dk_180 0 9 (dk_at dksX0_prime_1 0 rfl rfl)
theorem dX0_prime_27 : decode cX0_prime 27 = .ok (.istore_n 2, 1) := dk_61 (dk_at dksX0_prime_1 3 rfl rfl)
theorem dX0_prime_28 : decode cX0_prime 28 = .ok (.aload_n 0, 1) := dk_42 (dk_at dksX0_prime_1 4 rfl rfl)
theorem dX0_prime_29 : decode cX0_prime 29 = .ok (.iload_n 1, 1) := dk_27 (dk_at dksX0_prime_1 5 rfl rfl)
theorem dX0_prime_30 : decode cX0_prime 30 = .ok (.putfield 9, 3) := dk_181 0 9 (dk_at dksX0_prime_1 6 rfl rfl)
theorem dX0_prime_33 : decode cX0_prime 33 = .ok (.aload_n 0, 1) := dk_42 (dk_at dksX0_prime_1 9 rfl rfl)
theorem dX0_prime_34 : decode cX0_prime 34 = .ok (.aload_n 0, 1) := dk_42 (dk_at dksX0_prime_1 10 rfl rfl)
theorem dX0_prime_35 : decode cX0_prime 35 = .ok (.getfield 9, 3) := dk_180 0 9 (dk_at dksX0_prime_1 11 rfl rfl)
theorem dX0_prime_38 : decode cX0_prime 38 = .ok (.i2l, 1) := dk_133 (dk_at dksX0_prime_1 14 rfl rfl)
theorem dX0_prime_39 : decode cX0_prime 39 = .ok (.aload_n 0, 1) := dk_42 (dk_at dksX0_prime_1 15 rfl rfl)
theorem dX0_prime_40 : decode cX0_prime 40 = .ok (.invokevirtual 68, 3) := dk_182 0 68 (dk_at dksX0_prime_1 16 rfl rfl)
theorem dX0_prime_43 : decode cX0_prime 43 = .ok (.invokestatic 17, 3) := dk_184 0 17 (dk_at dksX0_prime_1 19 rfl rfl)
theorem dX0_prime_46 : decode cX0_prime 46 = .ok (.putfield 21, 3) := dk_181 0 21 (dk_at dksX0_prime_2 0 rfl rfl)
theorem dX0_prime_49 : decode cX0_prime 49 = .ok (.aload_n 0, 1) := dk_42 (dk_at dksX0_prime_2 3 rfl rfl)
theorem dX0_prime_50 : decode cX0_prime 50 = .ok (.aconst_null, 1) := dk_1 (dk_at dksX0_prime_2 4 rfl rfl)
theorem dX0_prime_51 : decode cX0_prime 51 = .ok (.putfield 72, 3) := dk_181 0 72 (dk_at dksX0_prime_2 5 rfl rfl)
theorem dX0_prime_54 : decode cX0_prime 54 = .ok (.iload_n 2, 1) := dk_28 (dk_at dksX0_prime_2 8 rfl rfl)
theorem dX0_prime_55 : decode cX0_prime 55 = .ok (.ireturn, 1) := dk_172 (dk_at dksX0_prime_2 9 rfl rfl)
abbrev cX0_limit : ByteArray := prog_1_method_4_code
def yX0_limit : MethodName := ⟨RX0, "limit", "()I"⟩
def dkwX0_limit_2 : List UInt8 := [16, 28, 167, 0, 15, 16, 18, 167, 0, 10, 16, 12, 167, 0, 5, 16, 10, 172]
abbrev dktX0_limit_2 : List UInt8 := dkwX0_limit_2 ++ []
def dkwX0_limit_1 : List UInt8 := [170, 0, 0, 0, 0, 0, 0, 47, 0, 0, 0, 2, 0, 0, 0, 5, 0, 0, 0, 32, 0, 0, 0, 37, 0, 0, 0, 47, 0, 0, 0, 42]
abbrev dktX0_limit_1 : List UInt8 := dkwX0_limit_1 ++ dktX0_limit_2
def dkwX0_limit_0 : List UInt8 := [42, 180, 0, 9]
abbrev dktX0_limit_0 : List UInt8 := dkwX0_limit_0 ++ dktX0_limit_1
theorem dksX0_limit_0 : cX0_limit.data.toList.drop 0 = dktX0_limit_0 := by decide +kernel
theorem dksX0_limit_1 : cX0_limit.data.toList.drop 4 = dktX0_limit_1 := dk_seg dksX0_limit_0 4 rfl rfl
theorem dksX0_limit_2 : cX0_limit.data.toList.drop 36 = dktX0_limit_2 := dk_seg dksX0_limit_1 32 rfl rfl
theorem dX0_limit_0 : decode cX0_limit 0 = .ok (.aload_n 0, 1) := dk_42 (dk_at dksX0_limit_0 0 rfl rfl)
theorem dX0_limit_1 : decode cX0_limit 1 = .ok (.getfield 9, 3) := dk_180 0 9 (dk_at dksX0_limit_0 1 rfl rfl)
theorem dX0_limit_4 : decode cX0_limit 4 = .ok (.tableswitch 47 2 5 #[32, 37, 47, 42], 32) := by decide +kernel
theorem dX0_limit_36 : decode cX0_limit 36 = .ok (.bipush 28, 2) := dk_16 28 (dk_at dksX0_limit_2 0 rfl rfl)
theorem dX0_limit_38 : decode cX0_limit 38 = .ok (.goto 15, 3) := dk_167 0 15 (dk_at dksX0_limit_2 2 rfl rfl)
theorem dX0_limit_41 : decode cX0_limit 41 = .ok (.bipush 18, 2) := dk_16 18 (dk_at dksX0_limit_2 5 rfl rfl)
theorem dX0_limit_43 : decode cX0_limit 43 = .ok (.goto 10, 3) := dk_167 0 10 (dk_at dksX0_limit_2 7 rfl rfl)
theorem dX0_limit_46 : decode cX0_limit 46 = .ok (.bipush 12, 2) := dk_16 12 (dk_at dksX0_limit_2 10 rfl rfl)
theorem dX0_limit_48 : decode cX0_limit 48 = .ok (.goto 5, 3) := dk_167 0 5 (dk_at dksX0_limit_2 12 rfl rfl)
theorem dX0_limit_51 : decode cX0_limit 51 = .ok (.bipush 10, 2) := dk_16 10 (dk_at dksX0_limit_2 15 rfl rfl)
theorem dX0_limit_53 : decode cX0_limit 53 = .ok (.ireturn, 1) := dk_172 (dk_at dksX0_limit_2 17 rfl rfl)
abbrev cX0_set : ByteArray := prog_1_method_22_code
def yX0_set : MethodName := ⟨RX0, "set", "(III)J"⟩
def dkwX0_set_2 : List UInt8 := [27, 50, 28, 29, 79, 21, 4, 133, 173]
abbrev dktX0_set_2 : List UInt8 := dkwX0_set_2 ++ []
def dkwX0_set_1 : List UInt8 := [184, 0, 140, 154, 0, 7, 20, 0, 157, 173, 42, 180, 0, 49, 27, 50, 28, 46, 54, 4, 42, 180, 0, 49]
abbrev dktX0_set_1 : List UInt8 := dkwX0_set_1 ++ dktX0_set_2
def dkwX0_set_0 : List UInt8 := [27, 184, 0, 146, 153, 0, 24, 28, 184, 0, 150, 153, 0, 17, 29, 133, 20, 0, 153, 20, 0, 155]
abbrev dktX0_set_0 : List UInt8 := dkwX0_set_0 ++ dktX0_set_1
theorem dksX0_set_0 : cX0_set.data.toList.drop 0 = dktX0_set_0 := by decide +kernel
theorem dksX0_set_1 : cX0_set.data.toList.drop 22 = dktX0_set_1 := dk_seg dksX0_set_0 22 rfl rfl
theorem dksX0_set_2 : cX0_set.data.toList.drop 46 = dktX0_set_2 := dk_seg dksX0_set_1 24 rfl rfl
theorem dX0_set_0 : decode cX0_set 0 = .ok (.iload_n 1, 1) := dk_27 (dk_at dksX0_set_0 0 rfl rfl)
theorem dX0_set_1 : decode cX0_set 1 = .ok (.invokestatic 146, 3) := dk_184 0 146 (dk_at dksX0_set_0 1 rfl rfl)
theorem dX0_set_4 : decode cX0_set 4 = .ok (.ifCond .eq 24, 3) := dk_153 0 24 (dk_at dksX0_set_0 4 rfl rfl)
theorem dX0_set_7 : decode cX0_set 7 = .ok (.iload_n 2, 1) := dk_28 (dk_at dksX0_set_0 7 rfl rfl)
theorem dX0_set_8 : decode cX0_set 8 = .ok (.invokestatic 150, 3) := dk_184 0 150 (dk_at dksX0_set_0 8 rfl rfl)
theorem dX0_set_11 : decode cX0_set 11 = .ok (.ifCond .eq 17, 3) := dk_153 0 17 (dk_at dksX0_set_0 11 rfl rfl)
theorem dX0_set_14 : decode cX0_set 14 = .ok (.iload_n 3, 1) := dk_29 (dk_at dksX0_set_0 14 rfl rfl)
theorem dX0_set_15 : decode cX0_set 15 = .ok (.i2l, 1) := dk_133 (dk_at dksX0_set_0 15 rfl rfl)
theorem dX0_set_16 : decode cX0_set 16 = .ok (.ldc2_w 153, 3) := dk_20 0 153 (dk_at dksX0_set_0 16 rfl rfl)
theorem dX0_set_19 : decode cX0_set 19 = .ok (.ldc2_w 155, 3) := dk_20 0 155 (dk_at dksX0_set_0 19 rfl rfl)
theorem dX0_set_22 : decode cX0_set 22 = .ok (.invokestatic 140, 3) := dk_184 0 140 (dk_at dksX0_set_1 0 rfl rfl)
theorem dX0_set_25 : decode cX0_set 25 = .ok (.ifCond .ne 7, 3) := dk_154 0 7 (dk_at dksX0_set_1 3 rfl rfl)
theorem dX0_set_28 : decode cX0_set 28 = .ok (.ldc2_w 157, 3) := dk_20 0 157 (dk_at dksX0_set_1 6 rfl rfl)
theorem dX0_set_31 : decode cX0_set 31 = .ok (.lreturn, 1) := dk_173 (dk_at dksX0_set_1 9 rfl rfl)
theorem dX0_set_32 : decode cX0_set 32 = .ok (.aload_n 0, 1) := dk_42 (dk_at dksX0_set_1 10 rfl rfl)
theorem dX0_set_33 : decode cX0_set 33 = .ok (.getfield 49, 3) := dk_180 0 49 (dk_at dksX0_set_1 11 rfl rfl)
theorem dX0_set_36 : decode cX0_set 36 = .ok (.iload_n 1, 1) := dk_27 (dk_at dksX0_set_1 14 rfl rfl)
theorem dX0_set_37 : decode cX0_set 37 = .ok (.aaload, 1) := dk_50 (dk_at dksX0_set_1 15 rfl rfl)
theorem dX0_set_38 : decode cX0_set 38 = .ok (.iload_n 2, 1) := dk_28 (dk_at dksX0_set_1 16 rfl rfl)
theorem dX0_set_39 : decode cX0_set 39 = .ok (.iaload, 1) := dk_46 (dk_at dksX0_set_1 17 rfl rfl)
theorem dX0_set_40 : decode cX0_set 40 = .ok (.istore 4, 2) := dk_54 4 (dk_at dksX0_set_1 18 rfl rfl)
theorem dX0_set_42 : decode cX0_set 42 = .ok (.aload_n 0, 1) := dk_42 (dk_at dksX0_set_1 20 rfl rfl)
theorem dX0_set_43 : decode cX0_set 43 = .ok (.getfield 49, 3) := dk_180 0 49 (dk_at dksX0_set_1 21 rfl rfl)
theorem dX0_set_46 : decode cX0_set 46 = .ok (.iload_n 1, 1) := dk_27 (dk_at dksX0_set_2 0 rfl rfl)
theorem dX0_set_47 : decode cX0_set 47 = .ok (.aaload, 1) := dk_50 (dk_at dksX0_set_2 1 rfl rfl)
theorem dX0_set_48 : decode cX0_set 48 = .ok (.iload_n 2, 1) := dk_28 (dk_at dksX0_set_2 2 rfl rfl)
theorem dX0_set_49 : decode cX0_set 49 = .ok (.iload_n 3, 1) := dk_29 (dk_at dksX0_set_2 3 rfl rfl)
theorem dX0_set_50 : decode cX0_set 50 = .ok (.iastore, 1) := dk_79 (dk_at dksX0_set_2 4 rfl rfl)
theorem dX0_set_51 : decode cX0_set 51 = .ok (.iload 4, 2) := dk_21 4 (dk_at dksX0_set_2 5 rfl rfl)
theorem dX0_set_53 : decode cX0_set 53 = .ok (.i2l, 1) := dk_133 (dk_at dksX0_set_2 7 rfl rfl)
theorem dX0_set_54 : decode cX0_set 54 = .ok (.lreturn, 1) := dk_173 (dk_at dksX0_set_2 8 rfl rfl)
abbrev cX0_isSlot : ByteArray := prog_1_method_18_code
def yX0_isSlot : MethodName := ⟨RX0, "isSlot", "(I)Z"⟩
def dkwX0_isSlot_0 : List UInt8 := [26, 133, 9, 20, 0, 138, 184, 0, 140, 172]
abbrev dktX0_isSlot_0 : List UInt8 := dkwX0_isSlot_0 ++ []
theorem dksX0_isSlot_0 : cX0_isSlot.data.toList.drop 0 = dktX0_isSlot_0 := by decide +kernel
theorem dX0_isSlot_0 : decode cX0_isSlot 0 = .ok (.iload_n 0, 1) := dk_26 (dk_at dksX0_isSlot_0 0 rfl rfl)
theorem dX0_isSlot_1 : decode cX0_isSlot 1 = .ok (.i2l, 1) := dk_133 (dk_at dksX0_isSlot_0 1 rfl rfl)
theorem dX0_isSlot_2 : decode cX0_isSlot 2 = .ok (.lconst 0, 1) := dk_9 (dk_at dksX0_isSlot_0 2 rfl rfl)
theorem dX0_isSlot_3 : decode cX0_isSlot 3 = .ok (.ldc2_w 138, 3) := dk_20 0 138 (dk_at dksX0_isSlot_0 3 rfl rfl)
theorem dX0_isSlot_6 : decode cX0_isSlot 6 = .ok (.invokestatic 140, 3) := dk_184 0 140 (dk_at dksX0_isSlot_0 6 rfl rfl)
theorem dX0_isSlot_9 : decode cX0_isSlot 9 = .ok (.ireturn, 1) := dk_172 (dk_at dksX0_isSlot_0 9 rfl rfl)
abbrev cX0_in : ByteArray := prog_1_method_2_code
def yX0_in : MethodName := ⟨RX0, "in", "(JJJ)Z"⟩
def dkwX0_in_0 : List UInt8 := [30, 32, 148, 155, 0, 14, 30, 22, 4, 148, 157, 0, 7, 4, 167, 0, 4, 3, 172]
abbrev dktX0_in_0 : List UInt8 := dkwX0_in_0 ++ []
theorem dksX0_in_0 : cX0_in.data.toList.drop 0 = dktX0_in_0 := by decide +kernel
theorem dX0_in_0 : decode cX0_in 0 = .ok (.lload_n 0, 1) := dk_30 (dk_at dksX0_in_0 0 rfl rfl)
theorem dX0_in_1 : decode cX0_in 1 = .ok (.lload_n 2, 1) := dk_32 (dk_at dksX0_in_0 1 rfl rfl)
theorem dX0_in_2 : decode cX0_in 2 = .ok (.lcmp, 1) := dk_148 (dk_at dksX0_in_0 2 rfl rfl)
theorem dX0_in_3 : decode cX0_in 3 = .ok (.ifCond .lt 14, 3) := dk_155 0 14 (dk_at dksX0_in_0 3 rfl rfl)
theorem dX0_in_6 : decode cX0_in 6 = .ok (.lload_n 0, 1) := dk_30 (dk_at dksX0_in_0 6 rfl rfl)
theorem dX0_in_7 : decode cX0_in 7 = .ok (.lload 4, 2) := dk_22 4 (dk_at dksX0_in_0 7 rfl rfl)
theorem dX0_in_9 : decode cX0_in 9 = .ok (.lcmp, 1) := dk_148 (dk_at dksX0_in_0 9 rfl rfl)
theorem dX0_in_10 : decode cX0_in 10 = .ok (.ifCond .gt 7, 3) := dk_157 0 7 (dk_at dksX0_in_0 10 rfl rfl)
theorem dX0_in_13 : decode cX0_in 13 = .ok (.iconst 1, 1) := dk_4 (dk_at dksX0_in_0 13 rfl rfl)
theorem dX0_in_14 : decode cX0_in 14 = .ok (.goto 4, 3) := dk_167 0 4 (dk_at dksX0_in_0 14 rfl rfl)
theorem dX0_in_17 : decode cX0_in 17 = .ok (.iconst 0, 1) := dk_3 (dk_at dksX0_in_0 17 rfl rfl)
theorem dX0_in_18 : decode cX0_in 18 = .ok (.ireturn, 1) := dk_172 (dk_at dksX0_in_0 18 rfl rfl)
abbrev cX0_isPart : ByteArray := prog_1_method_19_code
def yX0_isPart : MethodName := ⟨RX0, "isPart", "(I)Z"⟩
def dkwX0_isPart_0 : List UInt8 := [26, 133, 9, 20, 0, 144, 184, 0, 140, 172]
abbrev dktX0_isPart_0 : List UInt8 := dkwX0_isPart_0 ++ []
theorem dksX0_isPart_0 : cX0_isPart.data.toList.drop 0 = dktX0_isPart_0 := by decide +kernel
theorem dX0_isPart_0 : decode cX0_isPart 0 = .ok (.iload_n 0, 1) := dk_26 (dk_at dksX0_isPart_0 0 rfl rfl)
theorem dX0_isPart_1 : decode cX0_isPart 1 = .ok (.i2l, 1) := dk_133 (dk_at dksX0_isPart_0 1 rfl rfl)
theorem dX0_isPart_2 : decode cX0_isPart 2 = .ok (.lconst 0, 1) := dk_9 (dk_at dksX0_isPart_0 2 rfl rfl)
theorem dX0_isPart_3 : decode cX0_isPart 3 = .ok (.ldc2_w 144, 3) := dk_20 0 144 (dk_at dksX0_isPart_0 3 rfl rfl)
theorem dX0_isPart_6 : decode cX0_isPart 6 = .ok (.invokestatic 140, 3) := dk_184 0 140 (dk_at dksX0_isPart_0 6 rfl rfl)
theorem dX0_isPart_9 : decode cX0_isPart 9 = .ok (.ireturn, 1) := dk_172 (dk_at dksX0_isPart_0 9 rfl rfl)
abbrev cX0_at : ByteArray := prog_1_method_23_code
def yX0_at : MethodName := ⟨RX0, "at", "(II)J"⟩
def dkwX0_at_1 : List UInt8 := [167, 0, 6, 20, 0, 157, 173]
abbrev dktX0_at_1 : List UInt8 := dkwX0_at_1 ++ []
def dkwX0_at_0 : List UInt8 := [27, 184, 0, 146, 153, 0, 22, 28, 184, 0, 150, 153, 0, 15, 42, 180, 0, 49, 27, 50, 28, 46, 133]
abbrev dktX0_at_0 : List UInt8 := dkwX0_at_0 ++ dktX0_at_1
theorem dksX0_at_0 : cX0_at.data.toList.drop 0 = dktX0_at_0 := by decide +kernel
theorem dksX0_at_1 : cX0_at.data.toList.drop 23 = dktX0_at_1 := dk_seg dksX0_at_0 23 rfl rfl
theorem dX0_at_0 : decode cX0_at 0 = .ok (.iload_n 1, 1) := dk_27 (dk_at dksX0_at_0 0 rfl rfl)
theorem dX0_at_1 : decode cX0_at 1 = .ok (.invokestatic 146, 3) := dk_184 0 146 (dk_at dksX0_at_0 1 rfl rfl)
theorem dX0_at_4 : decode cX0_at 4 = .ok (.ifCond .eq 22, 3) := dk_153 0 22 (dk_at dksX0_at_0 4 rfl rfl)
theorem dX0_at_7 : decode cX0_at 7 = .ok (.iload_n 2, 1) := dk_28 (dk_at dksX0_at_0 7 rfl rfl)
theorem dX0_at_8 : decode cX0_at 8 = .ok (.invokestatic 150, 3) := dk_184 0 150 (dk_at dksX0_at_0 8 rfl rfl)
theorem dX0_at_11 : decode cX0_at 11 = .ok (.ifCond .eq 15, 3) := dk_153 0 15 (dk_at dksX0_at_0 11 rfl rfl)
theorem dX0_at_14 : decode cX0_at 14 = .ok (.aload_n 0, 1) := dk_42 (dk_at dksX0_at_0 14 rfl rfl)
theorem dX0_at_15 : decode cX0_at 15 = .ok (.getfield 49, 3) := dk_180 0 49 (dk_at dksX0_at_0 15 rfl rfl)
theorem dX0_at_18 : decode cX0_at 18 = .ok (.iload_n 1, 1) := dk_27 (dk_at dksX0_at_0 18 rfl rfl)
theorem dX0_at_19 : decode cX0_at 19 = .ok (.aaload, 1) := dk_50 (dk_at dksX0_at_0 19 rfl rfl)
theorem dX0_at_20 : decode cX0_at 20 = .ok (.iload_n 2, 1) := dk_28 (dk_at dksX0_at_0 20 rfl rfl)
theorem dX0_at_21 : decode cX0_at 21 = .ok (.iaload, 1) := dk_46 (dk_at dksX0_at_0 21 rfl rfl)
theorem dX0_at_22 : decode cX0_at 22 = .ok (.i2l, 1) := dk_133 (dk_at dksX0_at_0 22 rfl rfl)
theorem dX0_at_23 : decode cX0_at 23 = .ok (.goto 6, 3) := dk_167 0 6 (dk_at dksX0_at_1 0 rfl rfl)
theorem dX0_at_26 : decode cX0_at 26 = .ok (.ldc2_w 157, 3) := dk_20 0 157 (dk_at dksX0_at_1 3 rfl rfl)
theorem dX0_at_29 : decode cX0_at 29 = .ok (.lreturn, 1) := dk_173 (dk_at dksX0_at_1 6 rfl rfl)
abbrev cX0_told : ByteArray := prog_1_method_24_code
def yX0_told : MethodName := ⟨RX0, "told", "(II)I"⟩
def dkwX0_told_2 : List UInt8 := [167, 0, 4, 3, 172]
abbrev dktX0_told_2 : List UInt8 := dkwX0_told_2 ++ []
def dkwX0_told_1 : List UInt8 := [180, 0, 49, 27, 50, 184, 0, 159, 167, 0, 20, 42, 180, 0, 49, 27, 50, 184, 0, 162, 153, 0, 7, 4]
abbrev dktX0_told_1 : List UInt8 := dkwX0_told_1 ++ dktX0_told_2
def dkwX0_told_0 : List UInt8 := [27, 184, 0, 146, 153, 0, 13, 28, 133, 9, 10, 184, 0, 140, 154, 0, 5, 2, 172, 28, 154, 0, 15, 42]
abbrev dktX0_told_0 : List UInt8 := dkwX0_told_0 ++ dktX0_told_1
theorem dksX0_told_0 : cX0_told.data.toList.drop 0 = dktX0_told_0 := by decide +kernel
theorem dksX0_told_1 : cX0_told.data.toList.drop 24 = dktX0_told_1 := dk_seg dksX0_told_0 24 rfl rfl
theorem dksX0_told_2 : cX0_told.data.toList.drop 48 = dktX0_told_2 := dk_seg dksX0_told_1 24 rfl rfl
theorem dX0_told_0 : decode cX0_told 0 = .ok (.iload_n 1, 1) := dk_27 (dk_at dksX0_told_0 0 rfl rfl)
theorem dX0_told_1 : decode cX0_told 1 = .ok (.invokestatic 146, 3) := dk_184 0 146 (dk_at dksX0_told_0 1 rfl rfl)
theorem dX0_told_4 : decode cX0_told 4 = .ok (.ifCond .eq 13, 3) := dk_153 0 13 (dk_at dksX0_told_0 4 rfl rfl)
theorem dX0_told_7 : decode cX0_told 7 = .ok (.iload_n 2, 1) := dk_28 (dk_at dksX0_told_0 7 rfl rfl)
theorem dX0_told_8 : decode cX0_told 8 = .ok (.i2l, 1) := dk_133 (dk_at dksX0_told_0 8 rfl rfl)
theorem dX0_told_9 : decode cX0_told 9 = .ok (.lconst 0, 1) := dk_9 (dk_at dksX0_told_0 9 rfl rfl)
theorem dX0_told_10 : decode cX0_told 10 = .ok (.lconst 1, 1) := dk_10 (dk_at dksX0_told_0 10 rfl rfl)
theorem dX0_told_11 : decode cX0_told 11 = .ok (.invokestatic 140, 3) := dk_184 0 140 (dk_at dksX0_told_0 11 rfl rfl)
theorem dX0_told_14 : decode cX0_told 14 = .ok (.ifCond .ne 5, 3) := dk_154 0 5 (dk_at dksX0_told_0 14 rfl rfl)
theorem dX0_told_17 : decode cX0_told 17 = .ok (.iconst (-1), 1) := dk_2 (dk_at dksX0_told_0 17 rfl rfl)
theorem dX0_told_18 : decode cX0_told 18 = .ok (.ireturn, 1) := dk_172 (dk_at dksX0_told_0 18 rfl rfl)
theorem dX0_told_19 : decode cX0_told 19 = .ok (.iload_n 2, 1) := dk_28 (dk_at dksX0_told_0 19 rfl rfl)
theorem dX0_told_20 : decode cX0_told 20 = .ok (.ifCond .ne 15, 3) := dk_154 0 15 (dk_at dksX0_told_0 20 rfl rfl)
theorem dX0_told_23 : decode cX0_told 23 = .ok (.aload_n 0, 1) := dk_42 (dk_at dksX0_told_0 23 rfl rfl)
theorem dX0_told_24 : decode cX0_told 24 = .ok (.getfield 49, 3) := dk_180 0 49 (dk_at dksX0_told_1 0 rfl rfl)
theorem dX0_told_27 : decode cX0_told 27 = .ok (.iload_n 1, 1) := dk_27 (dk_at dksX0_told_1 3 rfl rfl)
theorem dX0_told_28 : decode cX0_told 28 = .ok (.aaload, 1) := dk_50 (dk_at dksX0_told_1 4 rfl rfl)
theorem dX0_told_29 : decode cX0_told 29 = .ok (.invokestatic 159, 3) := dk_184 0 159 (dk_at dksX0_told_1 5 rfl rfl)
theorem dX0_told_32 : decode cX0_told 32 = .ok (.goto 20, 3) := dk_167 0 20 (dk_at dksX0_told_1 8 rfl rfl)
theorem dX0_told_35 : decode cX0_told 35 = .ok (.aload_n 0, 1) := dk_42 (dk_at dksX0_told_1 11 rfl rfl)
theorem dX0_told_36 : decode cX0_told 36 = .ok (.getfield 49, 3) := dk_180 0 49 (dk_at dksX0_told_1 12 rfl rfl)
theorem dX0_told_39 : decode cX0_told 39 = .ok (.iload_n 1, 1) := dk_27 (dk_at dksX0_told_1 15 rfl rfl)
theorem dX0_told_40 : decode cX0_told 40 = .ok (.aaload, 1) := dk_50 (dk_at dksX0_told_1 16 rfl rfl)
theorem dX0_told_41 : decode cX0_told 41 = .ok (.invokestatic 162, 3) := dk_184 0 162 (dk_at dksX0_told_1 17 rfl rfl)
theorem dX0_told_44 : decode cX0_told 44 = .ok (.ifCond .eq 7, 3) := dk_153 0 7 (dk_at dksX0_told_1 20 rfl rfl)
theorem dX0_told_47 : decode cX0_told 47 = .ok (.iconst 1, 1) := dk_4 (dk_at dksX0_told_1 23 rfl rfl)
theorem dX0_told_48 : decode cX0_told 48 = .ok (.goto 4, 3) := dk_167 0 4 (dk_at dksX0_told_2 0 rfl rfl)
theorem dX0_told_51 : decode cX0_told 51 = .ok (.iconst 0, 1) := dk_3 (dk_at dksX0_told_2 3 rfl rfl)
theorem dX0_told_52 : decode cX0_told 52 = .ok (.ireturn, 1) := dk_172 (dk_at dksX0_told_2 4 rfl rfl)
abbrev cX0_toldDegree : ByteArray := prog_1_method_21_code
def yX0_toldDegree : MethodName := ⟨RX0, "toldDegree", "([I)I"⟩
def dkwX0_toldDegree_0 : List UInt8 := [42, 184, 0, 96, 60, 27, 156, 0, 8, 16, 246, 167, 0, 4, 27, 172]
abbrev dktX0_toldDegree_0 : List UInt8 := dkwX0_toldDegree_0 ++ []
theorem dksX0_toldDegree_0 : cX0_toldDegree.data.toList.drop 0 = dktX0_toldDegree_0 := by decide +kernel
theorem dX0_toldDegree_0 : decode cX0_toldDegree 0 = .ok (.aload_n 0, 1) := dk_42 (dk_at dksX0_toldDegree_0 0 rfl rfl)
theorem dX0_toldDegree_1 : decode cX0_toldDegree 1 = .ok (.invokestatic 96, 3) := dk_184 0 96 (dk_at dksX0_toldDegree_0 1 rfl rfl)
theorem dX0_toldDegree_4 : decode cX0_toldDegree 4 = .ok (.istore_n 1, 1) := dk_60 (dk_at dksX0_toldDegree_0 4 rfl rfl)
theorem dX0_toldDegree_5 : decode cX0_toldDegree 5 = .ok (.iload_n 1, 1) := dk_27 (dk_at dksX0_toldDegree_0 5 rfl rfl)
theorem dX0_toldDegree_6 : decode cX0_toldDegree 6 = .ok (.ifCond .ge 8, 3) := dk_156 0 8 (dk_at dksX0_toldDegree_0 6 rfl rfl)
theorem dX0_toldDegree_9 : decode cX0_toldDegree 9 = .ok (.bipush (-10), 2) := dk_16 246 (dk_at dksX0_toldDegree_0 9 rfl rfl)
theorem dX0_toldDegree_11 : decode cX0_toldDegree 11 = .ok (.goto 4, 3) := dk_167 0 4 (dk_at dksX0_toldDegree_0 11 rfl rfl)
theorem dX0_toldDegree_14 : decode cX0_toldDegree 14 = .ok (.iload_n 1, 1) := dk_27 (dk_at dksX0_toldDegree_0 14 rfl rfl)
theorem dX0_toldDegree_15 : decode cX0_toldDegree 15 = .ok (.ireturn, 1) := dk_172 (dk_at dksX0_toldDegree_0 15 rfl rfl)
abbrev cX0_degreeOf : ByteArray := prog_1_method_13_code
def yX0_degreeOf : MethodName := ⟨RX0, "degreeOf", "([I)I"⟩
def dkwX0_degreeOf_0 : List UInt8 := [42, 190, 4, 100, 60, 27, 155, 0, 15, 42, 27, 46, 154, 0, 9, 132, 1, 255, 167, 255, 243, 27, 172]
abbrev dktX0_degreeOf_0 : List UInt8 := dkwX0_degreeOf_0 ++ []
theorem dksX0_degreeOf_0 : cX0_degreeOf.data.toList.drop 0 = dktX0_degreeOf_0 := by decide +kernel
theorem dX0_degreeOf_0 : decode cX0_degreeOf 0 = .ok (.aload_n 0, 1) := dk_42 (dk_at dksX0_degreeOf_0 0 rfl rfl)
theorem dX0_degreeOf_1 : decode cX0_degreeOf 1 = .ok (.arraylength, 1) := dk_190 (dk_at dksX0_degreeOf_0 1 rfl rfl)
theorem dX0_degreeOf_2 : decode cX0_degreeOf 2 = .ok (.iconst 1, 1) := dk_4 (dk_at dksX0_degreeOf_0 2 rfl rfl)
theorem dX0_degreeOf_3 : decode cX0_degreeOf 3 = .ok (.isub, 1) := dk_100 (dk_at dksX0_degreeOf_0 3 rfl rfl)
theorem dX0_degreeOf_4 : decode cX0_degreeOf 4 = .ok (.istore_n 1, 1) := dk_60 (dk_at dksX0_degreeOf_0 4 rfl rfl)
theorem dX0_degreeOf_5 : decode cX0_degreeOf 5 = .ok (.iload_n 1, 1) := dk_27 (dk_at dksX0_degreeOf_0 5 rfl rfl)
theorem dX0_degreeOf_6 : decode cX0_degreeOf 6 = .ok (.ifCond .lt 15, 3) := dk_155 0 15 (dk_at dksX0_degreeOf_0 6 rfl rfl)
theorem dX0_degreeOf_9 : decode cX0_degreeOf 9 = .ok (.aload_n 0, 1) := dk_42 (dk_at dksX0_degreeOf_0 9 rfl rfl)
theorem dX0_degreeOf_10 : decode cX0_degreeOf 10 = .ok (.iload_n 1, 1) := dk_27 (dk_at dksX0_degreeOf_0 10 rfl rfl)
theorem dX0_degreeOf_11 : decode cX0_degreeOf 11 = .ok (.iaload, 1) := dk_46 (dk_at dksX0_degreeOf_0 11 rfl rfl)
theorem dX0_degreeOf_12 : decode cX0_degreeOf 12 = .ok (.ifCond .ne 9, 3) := dk_154 0 9 (dk_at dksX0_degreeOf_0 12 rfl rfl)
theorem dX0_degreeOf_15 : decode cX0_degreeOf 15 = .ok (.iinc 1 (-1), 3) := dk_132 1 255 (dk_at dksX0_degreeOf_0 15 rfl rfl)
theorem dX0_degreeOf_18 : decode cX0_degreeOf 18 = .ok (.goto (-13), 3) := dk_167 255 243 (dk_at dksX0_degreeOf_0 18 rfl rfl)
theorem dX0_degreeOf_21 : decode cX0_degreeOf 21 = .ok (.iload_n 1, 1) := dk_27 (dk_at dksX0_degreeOf_0 21 rfl rfl)
theorem dX0_degreeOf_22 : decode cX0_degreeOf 22 = .ok (.ireturn, 1) := dk_172 (dk_at dksX0_degreeOf_0 22 rfl rfl)
abbrev cX0_isMonic : ByteArray := prog_1_method_20_code
def yX0_isMonic : MethodName := ⟨RX0, "isMonic", "([I)Z"⟩
def dkwX0_isMonic_0 : List UInt8 := [42, 184, 0, 96, 60, 27, 158, 0, 14, 42, 27, 46, 4, 160, 0, 7, 4, 167, 0, 4, 3, 172]
abbrev dktX0_isMonic_0 : List UInt8 := dkwX0_isMonic_0 ++ []
theorem dksX0_isMonic_0 : cX0_isMonic.data.toList.drop 0 = dktX0_isMonic_0 := by decide +kernel
theorem dX0_isMonic_0 : decode cX0_isMonic 0 = .ok (.aload_n 0, 1) := dk_42 (dk_at dksX0_isMonic_0 0 rfl rfl)
theorem dX0_isMonic_1 : decode cX0_isMonic 1 = .ok (.invokestatic 96, 3) := dk_184 0 96 (dk_at dksX0_isMonic_0 1 rfl rfl)
theorem dX0_isMonic_4 : decode cX0_isMonic 4 = .ok (.istore_n 1, 1) := dk_60 (dk_at dksX0_isMonic_0 4 rfl rfl)
theorem dX0_isMonic_5 : decode cX0_isMonic 5 = .ok (.iload_n 1, 1) := dk_27 (dk_at dksX0_isMonic_0 5 rfl rfl)
theorem dX0_isMonic_6 : decode cX0_isMonic 6 = .ok (.ifCond .le 14, 3) := dk_158 0 14 (dk_at dksX0_isMonic_0 6 rfl rfl)
theorem dX0_isMonic_9 : decode cX0_isMonic 9 = .ok (.aload_n 0, 1) := dk_42 (dk_at dksX0_isMonic_0 9 rfl rfl)
theorem dX0_isMonic_10 : decode cX0_isMonic 10 = .ok (.iload_n 1, 1) := dk_27 (dk_at dksX0_isMonic_0 10 rfl rfl)
theorem dX0_isMonic_11 : decode cX0_isMonic 11 = .ok (.iaload, 1) := dk_46 (dk_at dksX0_isMonic_0 11 rfl rfl)
theorem dX0_isMonic_12 : decode cX0_isMonic 12 = .ok (.iconst 1, 1) := dk_4 (dk_at dksX0_isMonic_0 12 rfl rfl)
theorem dX0_isMonic_13 : decode cX0_isMonic 13 = .ok (.if_icmp .ne 7, 3) := dk_160 0 7 (dk_at dksX0_isMonic_0 13 rfl rfl)
theorem dX0_isMonic_16 : decode cX0_isMonic 16 = .ok (.iconst 1, 1) := dk_4 (dk_at dksX0_isMonic_0 16 rfl rfl)
theorem dX0_isMonic_17 : decode cX0_isMonic 17 = .ok (.goto 4, 3) := dk_167 0 4 (dk_at dksX0_isMonic_0 17 rfl rfl)
theorem dX0_isMonic_20 : decode cX0_isMonic 20 = .ok (.iconst 0, 1) := dk_3 (dk_at dksX0_isMonic_0 20 rfl rfl)
theorem dX0_isMonic_21 : decode cX0_isMonic 21 = .ok (.ireturn, 1) := dk_172 (dk_at dksX0_isMonic_0 21 rfl rfl)
abbrev cX0_mix : ByteArray := prog_1_method_26_code
def yX0_mix : MethodName := ⟨RX0, "mix", "(IIIII)I"⟩
def dkwX0_mix_3 : List UInt8 := [184, 0, 172, 80, 132, 7, 1, 167, 255, 211, 42, 21, 5, 25, 6, 182, 0, 175, 172]
abbrev dktX0_mix_3 : List UInt8 := dkwX0_mix_3 ++ []
def dkwX0_mix_2 : List UInt8 := [180, 0, 49, 27, 50, 21, 7, 46, 133, 105, 21, 4, 133, 42, 180, 0, 49, 29, 50, 21, 7, 46, 133, 105]
abbrev dktX0_mix_2 : List UInt8 := dkwX0_mix_2 ++ dktX0_mix_3
def dkwX0_mix_1 : List UInt8 := [16, 9, 188, 11, 58, 6, 3, 54, 7, 21, 7, 16, 9, 162, 0, 44, 25, 6, 21, 7, 28, 133, 42]
abbrev dktX0_mix_1 : List UInt8 := dkwX0_mix_1 ++ dktX0_mix_2
def dkwX0_mix_0 : List UInt8 := [27, 184, 0, 146, 153, 0, 18, 29, 184, 0, 146, 153, 0, 11, 21, 5, 184, 0, 146, 154, 0, 5, 2, 172]
abbrev dktX0_mix_0 : List UInt8 := dkwX0_mix_0 ++ dktX0_mix_1
theorem dksX0_mix_0 : cX0_mix.data.toList.drop 0 = dktX0_mix_0 := by decide +kernel
theorem dksX0_mix_1 : cX0_mix.data.toList.drop 24 = dktX0_mix_1 := dk_seg dksX0_mix_0 24 rfl rfl
theorem dksX0_mix_2 : cX0_mix.data.toList.drop 47 = dktX0_mix_2 := dk_seg dksX0_mix_1 23 rfl rfl
theorem dksX0_mix_3 : cX0_mix.data.toList.drop 71 = dktX0_mix_3 := dk_seg dksX0_mix_2 24 rfl rfl
theorem dX0_mix_0 : decode cX0_mix 0 = .ok (.iload_n 1, 1) := dk_27 (dk_at dksX0_mix_0 0 rfl rfl)
theorem dX0_mix_1 : decode cX0_mix 1 = .ok (.invokestatic 146, 3) := dk_184 0 146 (dk_at dksX0_mix_0 1 rfl rfl)
theorem dX0_mix_4 : decode cX0_mix 4 = .ok (.ifCond .eq 18, 3) := dk_153 0 18 (dk_at dksX0_mix_0 4 rfl rfl)
theorem dX0_mix_7 : decode cX0_mix 7 = .ok (.iload_n 3, 1) := dk_29 (dk_at dksX0_mix_0 7 rfl rfl)
theorem dX0_mix_8 : decode cX0_mix 8 = .ok (.invokestatic 146, 3) := dk_184 0 146 (dk_at dksX0_mix_0 8 rfl rfl)
theorem dX0_mix_11 : decode cX0_mix 11 = .ok (.ifCond .eq 11, 3) := dk_153 0 11 (dk_at dksX0_mix_0 11 rfl rfl)
theorem dX0_mix_14 : decode cX0_mix 14 = .ok (.iload 5, 2) := dk_21 5 (dk_at dksX0_mix_0 14 rfl rfl)
theorem dX0_mix_16 : decode cX0_mix 16 = .ok (.invokestatic 146, 3) := dk_184 0 146 (dk_at dksX0_mix_0 16 rfl rfl)
theorem dX0_mix_19 : decode cX0_mix 19 = .ok (.ifCond .ne 5, 3) := dk_154 0 5 (dk_at dksX0_mix_0 19 rfl rfl)
theorem dX0_mix_22 : decode cX0_mix 22 = .ok (.iconst (-1), 1) := dk_2 (dk_at dksX0_mix_0 22 rfl rfl)
theorem dX0_mix_23 : decode cX0_mix 23 = .ok (.ireturn, 1) := dk_172 (dk_at dksX0_mix_0 23 rfl rfl)
theorem dX0_mix_24 : decode cX0_mix 24 = .ok (.bipush 9, 2) := dk_16 9 (dk_at dksX0_mix_1 0 rfl rfl)
theorem dX0_mix_26 : decode cX0_mix 26 = .ok (.newarray .long, 2) := dk_188_11 (dk_at dksX0_mix_1 2 rfl rfl)
theorem dX0_mix_28 : decode cX0_mix 28 = .ok (.astore 6, 2) := dk_58 6 (dk_at dksX0_mix_1 4 rfl rfl)
theorem dX0_mix_30 : decode cX0_mix 30 = .ok (.iconst 0, 1) := dk_3 (dk_at dksX0_mix_1 6 rfl rfl)
theorem dX0_mix_31 : decode cX0_mix 31 = .ok (.istore 7, 2) := dk_54 7 (dk_at dksX0_mix_1 7 rfl rfl)
theorem dX0_mix_33 : decode cX0_mix 33 = .ok (.iload 7, 2) := dk_21 7 (dk_at dksX0_mix_1 9 rfl rfl)
theorem dX0_mix_35 : decode cX0_mix 35 = .ok (.bipush 9, 2) := dk_16 9 (dk_at dksX0_mix_1 11 rfl rfl)
theorem dX0_mix_37 : decode cX0_mix 37 = .ok (.if_icmp .ge 44, 3) := dk_162 0 44 (dk_at dksX0_mix_1 13 rfl rfl)
theorem dX0_mix_40 : decode cX0_mix 40 = .ok (.aload 6, 2) := dk_25 6 (dk_at dksX0_mix_1 16 rfl rfl)
theorem dX0_mix_42 : decode cX0_mix 42 = .ok (.iload 7, 2) := dk_21 7 (dk_at dksX0_mix_1 18 rfl rfl)
theorem dX0_mix_44 : decode cX0_mix 44 = .ok (.iload_n 2, 1) := dk_28 (dk_at dksX0_mix_1 20 rfl rfl)
theorem dX0_mix_45 : decode cX0_mix 45 = .ok (.i2l, 1) := dk_133 (dk_at dksX0_mix_1 21 rfl rfl)
theorem dX0_mix_46 : decode cX0_mix 46 = .ok (.aload_n 0, 1) := dk_42 (dk_at dksX0_mix_1 22 rfl rfl)
theorem dX0_mix_47 : decode cX0_mix 47 = .ok (.getfield 49, 3) := dk_180 0 49 (dk_at dksX0_mix_2 0 rfl rfl)
theorem dX0_mix_50 : decode cX0_mix 50 = .ok (.iload_n 1, 1) := dk_27 (dk_at dksX0_mix_2 3 rfl rfl)
theorem dX0_mix_51 : decode cX0_mix 51 = .ok (.aaload, 1) := dk_50 (dk_at dksX0_mix_2 4 rfl rfl)
theorem dX0_mix_52 : decode cX0_mix 52 = .ok (.iload 7, 2) := dk_21 7 (dk_at dksX0_mix_2 5 rfl rfl)
theorem dX0_mix_54 : decode cX0_mix 54 = .ok (.iaload, 1) := dk_46 (dk_at dksX0_mix_2 7 rfl rfl)
theorem dX0_mix_55 : decode cX0_mix 55 = .ok (.i2l, 1) := dk_133 (dk_at dksX0_mix_2 8 rfl rfl)
theorem dX0_mix_56 : decode cX0_mix 56 = .ok (.lmul, 1) := dk_105 (dk_at dksX0_mix_2 9 rfl rfl)
theorem dX0_mix_57 : decode cX0_mix 57 = .ok (.iload 4, 2) := dk_21 4 (dk_at dksX0_mix_2 10 rfl rfl)
theorem dX0_mix_59 : decode cX0_mix 59 = .ok (.i2l, 1) := dk_133 (dk_at dksX0_mix_2 12 rfl rfl)
theorem dX0_mix_60 : decode cX0_mix 60 = .ok (.aload_n 0, 1) := dk_42 (dk_at dksX0_mix_2 13 rfl rfl)
theorem dX0_mix_61 : decode cX0_mix 61 = .ok (.getfield 49, 3) := dk_180 0 49 (dk_at dksX0_mix_2 14 rfl rfl)
theorem dX0_mix_64 : decode cX0_mix 64 = .ok (.iload_n 3, 1) := dk_29 (dk_at dksX0_mix_2 17 rfl rfl)
theorem dX0_mix_65 : decode cX0_mix 65 = .ok (.aaload, 1) := dk_50 (dk_at dksX0_mix_2 18 rfl rfl)
theorem dX0_mix_66 : decode cX0_mix 66 = .ok (.iload 7, 2) := dk_21 7 (dk_at dksX0_mix_2 19 rfl rfl)
theorem dX0_mix_68 : decode cX0_mix 68 = .ok (.iaload, 1) := dk_46 (dk_at dksX0_mix_2 21 rfl rfl)
theorem dX0_mix_69 : decode cX0_mix 69 = .ok (.i2l, 1) := dk_133 (dk_at dksX0_mix_2 22 rfl rfl)
theorem dX0_mix_70 : decode cX0_mix 70 = .ok (.lmul, 1) := dk_105 (dk_at dksX0_mix_2 23 rfl rfl)
theorem dX0_mix_71 : decode cX0_mix 71 = .ok (.invokestatic 172, 3) := dk_184 0 172 (dk_at dksX0_mix_3 0 rfl rfl)
theorem dX0_mix_74 : decode cX0_mix 74 = .ok (.lastore, 1) := dk_80 (dk_at dksX0_mix_3 3 rfl rfl)
theorem dX0_mix_75 : decode cX0_mix 75 = .ok (.iinc 7 1, 3) := dk_132 7 1 (dk_at dksX0_mix_3 4 rfl rfl)
theorem dX0_mix_78 : decode cX0_mix 78 = .ok (.goto (-45), 3) := dk_167 255 211 (dk_at dksX0_mix_3 7 rfl rfl)
theorem dX0_mix_81 : decode cX0_mix 81 = .ok (.aload_n 0, 1) := dk_42 (dk_at dksX0_mix_3 10 rfl rfl)
theorem dX0_mix_82 : decode cX0_mix 82 = .ok (.iload 5, 2) := dk_21 5 (dk_at dksX0_mix_3 11 rfl rfl)
theorem dX0_mix_84 : decode cX0_mix 84 = .ok (.aload 6, 2) := dk_25 6 (dk_at dksX0_mix_3 13 rfl rfl)
theorem dX0_mix_86 : decode cX0_mix 86 = .ok (.invokevirtual 175, 3) := dk_182 0 175 (dk_at dksX0_mix_3 15 rfl rfl)
theorem dX0_mix_89 : decode cX0_mix 89 = .ok (.ireturn, 1) := dk_172 (dk_at dksX0_mix_3 18 rfl rfl)
abbrev cX0_gets : ByteArray := prog_1_method_25_code
def yX0_gets : MethodName := ⟨RX0, "gets", "(I[J)I"⟩
def dkwX0_gets_2 : List UInt8 := [132, 4, 1, 167, 255, 215, 167, 0, 8, 58, 4, 16, 253, 172, 42, 180, 0, 49, 27, 45, 83, 4, 172]
abbrev dktX0_gets_2 : List UInt8 := dkwX0_gets_2 ++ []
def dkwX0_gets_1 : List UInt8 := [184, 0, 166, 79, 45, 21, 4, 46, 133, 20, 0, 153, 20, 0, 155, 184, 0, 140, 154, 0, 6, 16, 253, 172]
abbrev dktX0_gets_1 : List UInt8 := dkwX0_gets_1 ++ dktX0_gets_2
def dkwX0_gets_0 : List UInt8 := [16, 9, 188, 10, 78, 3, 54, 4, 21, 4, 16, 9, 162, 0, 40, 45, 21, 4, 44, 21, 4, 47]
abbrev dktX0_gets_0 : List UInt8 := dkwX0_gets_0 ++ dktX0_gets_1
theorem dksX0_gets_0 : cX0_gets.data.toList.drop 0 = dktX0_gets_0 := by decide +kernel
theorem dksX0_gets_1 : cX0_gets.data.toList.drop 22 = dktX0_gets_1 := dk_seg dksX0_gets_0 22 rfl rfl
theorem dksX0_gets_2 : cX0_gets.data.toList.drop 46 = dktX0_gets_2 := dk_seg dksX0_gets_1 24 rfl rfl
theorem dX0_gets_0 : decode cX0_gets 0 = .ok (.bipush 9, 2) := dk_16 9 (dk_at dksX0_gets_0 0 rfl rfl)
theorem dX0_gets_2 : decode cX0_gets 2 = .ok (.newarray .int, 2) := dk_188_10 (dk_at dksX0_gets_0 2 rfl rfl)
theorem dX0_gets_4 : decode cX0_gets 4 = .ok (.astore_n 3, 1) := dk_78 (dk_at dksX0_gets_0 4 rfl rfl)
theorem dX0_gets_5 : decode cX0_gets 5 = .ok (.iconst 0, 1) := dk_3 (dk_at dksX0_gets_0 5 rfl rfl)
theorem dX0_gets_6 : decode cX0_gets 6 = .ok (.istore 4, 2) := dk_54 4 (dk_at dksX0_gets_0 6 rfl rfl)
theorem dX0_gets_8 : decode cX0_gets 8 = .ok (.iload 4, 2) := dk_21 4 (dk_at dksX0_gets_0 8 rfl rfl)
theorem dX0_gets_10 : decode cX0_gets 10 = .ok (.bipush 9, 2) := dk_16 9 (dk_at dksX0_gets_0 10 rfl rfl)
theorem dX0_gets_12 : decode cX0_gets 12 = .ok (.if_icmp .ge 40, 3) := dk_162 0 40 (dk_at dksX0_gets_0 12 rfl rfl)
theorem dX0_gets_15 : decode cX0_gets 15 = .ok (.aload_n 3, 1) := dk_45 (dk_at dksX0_gets_0 15 rfl rfl)
theorem dX0_gets_16 : decode cX0_gets 16 = .ok (.iload 4, 2) := dk_21 4 (dk_at dksX0_gets_0 16 rfl rfl)
theorem dX0_gets_18 : decode cX0_gets 18 = .ok (.aload_n 2, 1) := dk_44 (dk_at dksX0_gets_0 18 rfl rfl)
theorem dX0_gets_19 : decode cX0_gets 19 = .ok (.iload 4, 2) := dk_21 4 (dk_at dksX0_gets_0 19 rfl rfl)
theorem dX0_gets_21 : decode cX0_gets 21 = .ok (.laload, 1) := dk_47 (dk_at dksX0_gets_0 21 rfl rfl)
theorem dX0_gets_22 : decode cX0_gets 22 = .ok (.invokestatic 166, 3) := dk_184 0 166 (dk_at dksX0_gets_1 0 rfl rfl)
theorem dX0_gets_25 : decode cX0_gets 25 = .ok (.iastore, 1) := dk_79 (dk_at dksX0_gets_1 3 rfl rfl)
theorem dX0_gets_26 : decode cX0_gets 26 = .ok (.aload_n 3, 1) := dk_45 (dk_at dksX0_gets_1 4 rfl rfl)
theorem dX0_gets_27 : decode cX0_gets 27 = .ok (.iload 4, 2) := dk_21 4 (dk_at dksX0_gets_1 5 rfl rfl)
theorem dX0_gets_29 : decode cX0_gets 29 = .ok (.iaload, 1) := dk_46 (dk_at dksX0_gets_1 7 rfl rfl)
theorem dX0_gets_30 : decode cX0_gets 30 = .ok (.i2l, 1) := dk_133 (dk_at dksX0_gets_1 8 rfl rfl)
theorem dX0_gets_31 : decode cX0_gets 31 = .ok (.ldc2_w 153, 3) := dk_20 0 153 (dk_at dksX0_gets_1 9 rfl rfl)
theorem dX0_gets_34 : decode cX0_gets 34 = .ok (.ldc2_w 155, 3) := dk_20 0 155 (dk_at dksX0_gets_1 12 rfl rfl)
theorem dX0_gets_37 : decode cX0_gets 37 = .ok (.invokestatic 140, 3) := dk_184 0 140 (dk_at dksX0_gets_1 15 rfl rfl)
theorem dX0_gets_40 : decode cX0_gets 40 = .ok (.ifCond .ne 6, 3) := dk_154 0 6 (dk_at dksX0_gets_1 18 rfl rfl)
theorem dX0_gets_43 : decode cX0_gets 43 = .ok (.bipush (-3), 2) := dk_16 253 (dk_at dksX0_gets_1 21 rfl rfl)
theorem dX0_gets_45 : decode cX0_gets 45 = .ok (.ireturn, 1) := dk_172 (dk_at dksX0_gets_1 23 rfl rfl)
theorem dX0_gets_46 : decode cX0_gets 46 = .ok (.iinc 4 1, 3) := dk_132 4 1 (dk_at dksX0_gets_2 0 rfl rfl)
theorem dX0_gets_49 : decode cX0_gets 49 = .ok (.goto (-41), 3) := dk_167 255 215 (dk_at dksX0_gets_2 3 rfl rfl)
theorem dX0_gets_52 : decode cX0_gets 52 = .ok (.goto 8, 3) := dk_167 0 8 (dk_at dksX0_gets_2 6 rfl rfl)
theorem dX0_gets_55 : decode cX0_gets 55 = .ok (.astore 4, 2) := dk_58 4 (dk_at dksX0_gets_2 9 rfl rfl)
theorem dX0_gets_57 : decode cX0_gets 57 = .ok (.bipush (-3), 2) := dk_16 253 (dk_at dksX0_gets_2 11 rfl rfl)
theorem dX0_gets_59 : decode cX0_gets 59 = .ok (.ireturn, 1) := dk_172 (dk_at dksX0_gets_2 13 rfl rfl)
theorem dX0_gets_60 : decode cX0_gets 60 = .ok (.aload_n 0, 1) := dk_42 (dk_at dksX0_gets_2 14 rfl rfl)
theorem dX0_gets_61 : decode cX0_gets 61 = .ok (.getfield 49, 3) := dk_180 0 49 (dk_at dksX0_gets_2 15 rfl rfl)
theorem dX0_gets_64 : decode cX0_gets 64 = .ok (.iload_n 1, 1) := dk_27 (dk_at dksX0_gets_2 18 rfl rfl)
theorem dX0_gets_65 : decode cX0_gets 65 = .ok (.aload_n 3, 1) := dk_45 (dk_at dksX0_gets_2 19 rfl rfl)
theorem dX0_gets_66 : decode cX0_gets 66 = .ok (.aastore, 1) := dk_83 (dk_at dksX0_gets_2 20 rfl rfl)
theorem dX0_gets_67 : decode cX0_gets 67 = .ok (.iconst 1, 1) := dk_4 (dk_at dksX0_gets_2 21 rfl rfl)
theorem dX0_gets_68 : decode cX0_gets 68 = .ok (.ireturn, 1) := dk_172 (dk_at dksX0_gets_2 22 rfl rfl)
abbrev cX0_times : ByteArray := prog_1_method_27_code
def yX0_times : MethodName := ⟨RX0, "times", "(III)I"⟩
def dkwX0_times_6 : List UInt8 := [182, 0, 175, 172]
abbrev dktX0_times_6 : List UInt8 := dkwX0_times_6 ++ []
def dkwX0_times_5 : List UInt8 := [50, 21, 8, 46, 133, 105, 97, 80, 132, 8, 1, 167, 255, 214, 132, 7, 1, 167, 255, 198, 42, 29, 25, 6]
abbrev dktX0_times_5 : List UInt8 := dkwX0_times_5 ++ dktX0_times_6
def dkwX0_times_4 : List UInt8 := [25, 6, 21, 7, 21, 8, 96, 92, 47, 42, 180, 0, 49, 27, 50, 21, 7, 46, 133, 42, 180, 0, 49, 28]
abbrev dktX0_times_4 : List UInt8 := dkwX0_times_4 ++ dktX0_times_5
def dkwX0_times_3 : List UInt8 := [188, 11, 58, 6, 3, 54, 7, 21, 7, 21, 4, 163, 0, 57, 3, 54, 8, 21, 8, 21, 5, 163, 0, 41]
abbrev dktX0_times_3 : List UInt8 := dkwX0_times_3 ++ dktX0_times_4
def dkwX0_times_2 : List UInt8 := [155, 0, 21, 21, 5, 155, 0, 16, 21, 4, 21, 5, 96, 16, 8, 164, 0, 6, 16, 250, 172, 16, 9]
abbrev dktX0_times_2 : List UInt8 := dkwX0_times_2 ++ dktX0_times_3
def dkwX0_times_1 : List UInt8 := [180, 0, 49, 27, 50, 184, 0, 96, 54, 4, 42, 180, 0, 49, 28, 50, 184, 0, 96, 54, 5, 21, 4]
abbrev dktX0_times_1 : List UInt8 := dkwX0_times_1 ++ dktX0_times_2
def dkwX0_times_0 : List UInt8 := [27, 184, 0, 146, 153, 0, 17, 28, 184, 0, 146, 153, 0, 10, 29, 184, 0, 146, 154, 0, 5, 2, 172, 42]
abbrev dktX0_times_0 : List UInt8 := dkwX0_times_0 ++ dktX0_times_1
theorem dksX0_times_0 : cX0_times.data.toList.drop 0 = dktX0_times_0 := by decide +kernel
theorem dksX0_times_1 : cX0_times.data.toList.drop 24 = dktX0_times_1 := dk_seg dksX0_times_0 24 rfl rfl
theorem dksX0_times_2 : cX0_times.data.toList.drop 47 = dktX0_times_2 := dk_seg dksX0_times_1 23 rfl rfl
theorem dksX0_times_3 : cX0_times.data.toList.drop 70 = dktX0_times_3 := dk_seg dksX0_times_2 23 rfl rfl
theorem dksX0_times_4 : cX0_times.data.toList.drop 94 = dktX0_times_4 := dk_seg dksX0_times_3 24 rfl rfl
theorem dksX0_times_5 : cX0_times.data.toList.drop 118 = dktX0_times_5 := dk_seg dksX0_times_4 24 rfl rfl
theorem dksX0_times_6 : cX0_times.data.toList.drop 142 = dktX0_times_6 := dk_seg dksX0_times_5 24 rfl rfl
theorem dX0_times_0 : decode cX0_times 0 = .ok (.iload_n 1, 1) := dk_27 (dk_at dksX0_times_0 0 rfl rfl)
theorem dX0_times_1 : decode cX0_times 1 = .ok (.invokestatic 146, 3) := dk_184 0 146 (dk_at dksX0_times_0 1 rfl rfl)
theorem dX0_times_4 : decode cX0_times 4 = .ok (.ifCond .eq 17, 3) := dk_153 0 17 (dk_at dksX0_times_0 4 rfl rfl)
theorem dX0_times_7 : decode cX0_times 7 = .ok (.iload_n 2, 1) := dk_28 (dk_at dksX0_times_0 7 rfl rfl)
theorem dX0_times_8 : decode cX0_times 8 = .ok (.invokestatic 146, 3) := dk_184 0 146 (dk_at dksX0_times_0 8 rfl rfl)
theorem dX0_times_11 : decode cX0_times 11 = .ok (.ifCond .eq 10, 3) := dk_153 0 10 (dk_at dksX0_times_0 11 rfl rfl)
theorem dX0_times_14 : decode cX0_times 14 = .ok (.iload_n 3, 1) := dk_29 (dk_at dksX0_times_0 14 rfl rfl)
theorem dX0_times_15 : decode cX0_times 15 = .ok (.invokestatic 146, 3) := dk_184 0 146 (dk_at dksX0_times_0 15 rfl rfl)
theorem dX0_times_18 : decode cX0_times 18 = .ok (.ifCond .ne 5, 3) := dk_154 0 5 (dk_at dksX0_times_0 18 rfl rfl)
theorem dX0_times_21 : decode cX0_times 21 = .ok (.iconst (-1), 1) := dk_2 (dk_at dksX0_times_0 21 rfl rfl)
theorem dX0_times_22 : decode cX0_times 22 = .ok (.ireturn, 1) := dk_172 (dk_at dksX0_times_0 22 rfl rfl)
theorem dX0_times_23 : decode cX0_times 23 = .ok (.aload_n 0, 1) := dk_42 (dk_at dksX0_times_0 23 rfl rfl)
theorem dX0_times_24 : decode cX0_times 24 = .ok (.getfield 49, 3) := dk_180 0 49 (dk_at dksX0_times_1 0 rfl rfl)
theorem dX0_times_27 : decode cX0_times 27 = .ok (.iload_n 1, 1) := dk_27 (dk_at dksX0_times_1 3 rfl rfl)
theorem dX0_times_28 : decode cX0_times 28 = .ok (.aaload, 1) := dk_50 (dk_at dksX0_times_1 4 rfl rfl)
theorem dX0_times_29 : decode cX0_times 29 = .ok (.invokestatic 96, 3) := dk_184 0 96 (dk_at dksX0_times_1 5 rfl rfl)
theorem dX0_times_32 : decode cX0_times 32 = .ok (.istore 4, 2) := dk_54 4 (dk_at dksX0_times_1 8 rfl rfl)
theorem dX0_times_34 : decode cX0_times 34 = .ok (.aload_n 0, 1) := dk_42 (dk_at dksX0_times_1 10 rfl rfl)
theorem dX0_times_35 : decode cX0_times 35 = .ok (.getfield 49, 3) := dk_180 0 49 (dk_at dksX0_times_1 11 rfl rfl)
theorem dX0_times_38 : decode cX0_times 38 = .ok (.iload_n 2, 1) := dk_28 (dk_at dksX0_times_1 14 rfl rfl)
theorem dX0_times_39 : decode cX0_times 39 = .ok (.aaload, 1) := dk_50 (dk_at dksX0_times_1 15 rfl rfl)
theorem dX0_times_40 : decode cX0_times 40 = .ok (.invokestatic 96, 3) := dk_184 0 96 (dk_at dksX0_times_1 16 rfl rfl)
theorem dX0_times_43 : decode cX0_times 43 = .ok (.istore 5, 2) := dk_54 5 (dk_at dksX0_times_1 19 rfl rfl)
theorem dX0_times_45 : decode cX0_times 45 = .ok (.iload 4, 2) := dk_21 4 (dk_at dksX0_times_1 21 rfl rfl)
theorem dX0_times_47 : decode cX0_times 47 = .ok (.ifCond .lt 21, 3) := dk_155 0 21 (dk_at dksX0_times_2 0 rfl rfl)
theorem dX0_times_50 : decode cX0_times 50 = .ok (.iload 5, 2) := dk_21 5 (dk_at dksX0_times_2 3 rfl rfl)
theorem dX0_times_52 : decode cX0_times 52 = .ok (.ifCond .lt 16, 3) := dk_155 0 16 (dk_at dksX0_times_2 5 rfl rfl)
theorem dX0_times_55 : decode cX0_times 55 = .ok (.iload 4, 2) := dk_21 4 (dk_at dksX0_times_2 8 rfl rfl)
theorem dX0_times_57 : decode cX0_times 57 = .ok (.iload 5, 2) := dk_21 5 (dk_at dksX0_times_2 10 rfl rfl)
theorem dX0_times_59 : decode cX0_times 59 = .ok (.iadd, 1) := dk_96 (dk_at dksX0_times_2 12 rfl rfl)
theorem dX0_times_60 : decode cX0_times 60 = .ok (.bipush 8, 2) := dk_16 8 (dk_at dksX0_times_2 13 rfl rfl)
theorem dX0_times_62 : decode cX0_times 62 = .ok (.if_icmp .le 6, 3) := dk_164 0 6 (dk_at dksX0_times_2 15 rfl rfl)
theorem dX0_times_65 : decode cX0_times 65 = .ok (.bipush (-6), 2) := dk_16 250 (dk_at dksX0_times_2 18 rfl rfl)
theorem dX0_times_67 : decode cX0_times 67 = .ok (.ireturn, 1) := dk_172 (dk_at dksX0_times_2 20 rfl rfl)
theorem dX0_times_68 : decode cX0_times 68 = .ok (.bipush 9, 2) := dk_16 9 (dk_at dksX0_times_2 21 rfl rfl)
theorem dX0_times_70 : decode cX0_times 70 = .ok (.newarray .long, 2) := dk_188_11 (dk_at dksX0_times_3 0 rfl rfl)
theorem dX0_times_72 : decode cX0_times 72 = .ok (.astore 6, 2) := dk_58 6 (dk_at dksX0_times_3 2 rfl rfl)
theorem dX0_times_74 : decode cX0_times 74 = .ok (.iconst 0, 1) := dk_3 (dk_at dksX0_times_3 4 rfl rfl)
theorem dX0_times_75 : decode cX0_times 75 = .ok (.istore 7, 2) := dk_54 7 (dk_at dksX0_times_3 5 rfl rfl)
theorem dX0_times_77 : decode cX0_times 77 = .ok (.iload 7, 2) := dk_21 7 (dk_at dksX0_times_3 7 rfl rfl)
theorem dX0_times_79 : decode cX0_times 79 = .ok (.iload 4, 2) := dk_21 4 (dk_at dksX0_times_3 9 rfl rfl)
theorem dX0_times_81 : decode cX0_times 81 = .ok (.if_icmp .gt 57, 3) := dk_163 0 57 (dk_at dksX0_times_3 11 rfl rfl)
theorem dX0_times_84 : decode cX0_times 84 = .ok (.iconst 0, 1) := dk_3 (dk_at dksX0_times_3 14 rfl rfl)
theorem dX0_times_85 : decode cX0_times 85 = .ok (.istore 8, 2) := dk_54 8 (dk_at dksX0_times_3 15 rfl rfl)
theorem dX0_times_87 : decode cX0_times 87 = .ok (.iload 8, 2) := dk_21 8 (dk_at dksX0_times_3 17 rfl rfl)
theorem dX0_times_89 : decode cX0_times 89 = .ok (.iload 5, 2) := dk_21 5 (dk_at dksX0_times_3 19 rfl rfl)
theorem dX0_times_91 : decode cX0_times 91 = .ok (.if_icmp .gt 41, 3) := dk_163 0 41 (dk_at dksX0_times_3 21 rfl rfl)
theorem dX0_times_94 : decode cX0_times 94 = .ok (.aload 6, 2) := dk_25 6 (dk_at dksX0_times_4 0 rfl rfl)
theorem dX0_times_96 : decode cX0_times 96 = .ok (.iload 7, 2) := dk_21 7 (dk_at dksX0_times_4 2 rfl rfl)
theorem dX0_times_98 : decode cX0_times 98 = .ok (.iload 8, 2) := dk_21 8 (dk_at dksX0_times_4 4 rfl rfl)
theorem dX0_times_100 : decode cX0_times 100 = .ok (.iadd, 1) := dk_96 (dk_at dksX0_times_4 6 rfl rfl)
theorem dX0_times_101 : decode cX0_times 101 = .ok (.dup2, 1) := dk_92 (dk_at dksX0_times_4 7 rfl rfl)
theorem dX0_times_102 : decode cX0_times 102 = .ok (.laload, 1) := dk_47 (dk_at dksX0_times_4 8 rfl rfl)
theorem dX0_times_103 : decode cX0_times 103 = .ok (.aload_n 0, 1) := dk_42 (dk_at dksX0_times_4 9 rfl rfl)
theorem dX0_times_104 : decode cX0_times 104 = .ok (.getfield 49, 3) := dk_180 0 49 (dk_at dksX0_times_4 10 rfl rfl)
theorem dX0_times_107 : decode cX0_times 107 = .ok (.iload_n 1, 1) := dk_27 (dk_at dksX0_times_4 13 rfl rfl)
theorem dX0_times_108 : decode cX0_times 108 = .ok (.aaload, 1) := dk_50 (dk_at dksX0_times_4 14 rfl rfl)
theorem dX0_times_109 : decode cX0_times 109 = .ok (.iload 7, 2) := dk_21 7 (dk_at dksX0_times_4 15 rfl rfl)
theorem dX0_times_111 : decode cX0_times 111 = .ok (.iaload, 1) := dk_46 (dk_at dksX0_times_4 17 rfl rfl)
theorem dX0_times_112 : decode cX0_times 112 = .ok (.i2l, 1) := dk_133 (dk_at dksX0_times_4 18 rfl rfl)
theorem dX0_times_113 : decode cX0_times 113 = .ok (.aload_n 0, 1) := dk_42 (dk_at dksX0_times_4 19 rfl rfl)
theorem dX0_times_114 : decode cX0_times 114 = .ok (.getfield 49, 3) := dk_180 0 49 (dk_at dksX0_times_4 20 rfl rfl)
theorem dX0_times_117 : decode cX0_times 117 = .ok (.iload_n 2, 1) := dk_28 (dk_at dksX0_times_4 23 rfl rfl)
theorem dX0_times_118 : decode cX0_times 118 = .ok (.aaload, 1) := dk_50 (dk_at dksX0_times_5 0 rfl rfl)
theorem dX0_times_119 : decode cX0_times 119 = .ok (.iload 8, 2) := dk_21 8 (dk_at dksX0_times_5 1 rfl rfl)
theorem dX0_times_121 : decode cX0_times 121 = .ok (.iaload, 1) := dk_46 (dk_at dksX0_times_5 3 rfl rfl)
theorem dX0_times_122 : decode cX0_times 122 = .ok (.i2l, 1) := dk_133 (dk_at dksX0_times_5 4 rfl rfl)
theorem dX0_times_123 : decode cX0_times 123 = .ok (.lmul, 1) := dk_105 (dk_at dksX0_times_5 5 rfl rfl)
theorem dX0_times_124 : decode cX0_times 124 = .ok (.ladd, 1) := dk_97 (dk_at dksX0_times_5 6 rfl rfl)
theorem dX0_times_125 : decode cX0_times 125 = .ok (.lastore, 1) := dk_80 (dk_at dksX0_times_5 7 rfl rfl)
theorem dX0_times_126 : decode cX0_times 126 = .ok (.iinc 8 1, 3) := dk_132 8 1 (dk_at dksX0_times_5 8 rfl rfl)
theorem dX0_times_129 : decode cX0_times 129 = .ok (.goto (-42), 3) := dk_167 255 214 (dk_at dksX0_times_5 11 rfl rfl)
theorem dX0_times_132 : decode cX0_times 132 = .ok (.iinc 7 1, 3) := dk_132 7 1 (dk_at dksX0_times_5 14 rfl rfl)
theorem dX0_times_135 : decode cX0_times 135 = .ok (.goto (-58), 3) := dk_167 255 198 (dk_at dksX0_times_5 17 rfl rfl)
theorem dX0_times_138 : decode cX0_times 138 = .ok (.aload_n 0, 1) := dk_42 (dk_at dksX0_times_5 20 rfl rfl)
theorem dX0_times_139 : decode cX0_times 139 = .ok (.iload_n 3, 1) := dk_29 (dk_at dksX0_times_5 21 rfl rfl)
theorem dX0_times_140 : decode cX0_times 140 = .ok (.aload 6, 2) := dk_25 6 (dk_at dksX0_times_5 22 rfl rfl)
theorem dX0_times_142 : decode cX0_times 142 = .ok (.invokevirtual 175, 3) := dk_182 0 175 (dk_at dksX0_times_6 0 rfl rfl)
theorem dX0_times_145 : decode cX0_times 145 = .ok (.ireturn, 1) := dk_172 (dk_at dksX0_times_6 3 rfl rfl)
abbrev cX0_worth : ByteArray := prog_1_method_28_code
def yX0_worth : MethodName := ⟨RX0, "worth", "(II)J"⟩
def dkwX0_worth_2 : List UInt8 := [33, 173, 78, 20, 0, 157, 173]
abbrev dktX0_worth_2 : List UInt8 := dkwX0_worth_2 ++ []
def dkwX0_worth_1 : List UInt8 := [133, 184, 0, 179, 42, 180, 0, 49, 27, 50, 21, 5, 46, 133, 184, 0, 172, 66, 132, 5, 255, 167, 255, 228]
abbrev dktX0_worth_1 : List UInt8 := dkwX0_worth_1 ++ dktX0_worth_2
def dkwX0_worth_0 : List UInt8 := [27, 184, 0, 146, 154, 0, 7, 20, 0, 157, 173, 9, 66, 16, 8, 54, 5, 21, 5, 155, 0, 29, 33, 28]
abbrev dktX0_worth_0 : List UInt8 := dkwX0_worth_0 ++ dktX0_worth_1
theorem dksX0_worth_0 : cX0_worth.data.toList.drop 0 = dktX0_worth_0 := by decide +kernel
theorem dksX0_worth_1 : cX0_worth.data.toList.drop 24 = dktX0_worth_1 := dk_seg dksX0_worth_0 24 rfl rfl
theorem dksX0_worth_2 : cX0_worth.data.toList.drop 48 = dktX0_worth_2 := dk_seg dksX0_worth_1 24 rfl rfl
theorem dX0_worth_0 : decode cX0_worth 0 = .ok (.iload_n 1, 1) := dk_27 (dk_at dksX0_worth_0 0 rfl rfl)
theorem dX0_worth_1 : decode cX0_worth 1 = .ok (.invokestatic 146, 3) := dk_184 0 146 (dk_at dksX0_worth_0 1 rfl rfl)
theorem dX0_worth_4 : decode cX0_worth 4 = .ok (.ifCond .ne 7, 3) := dk_154 0 7 (dk_at dksX0_worth_0 4 rfl rfl)
theorem dX0_worth_7 : decode cX0_worth 7 = .ok (.ldc2_w 157, 3) := dk_20 0 157 (dk_at dksX0_worth_0 7 rfl rfl)
theorem dX0_worth_10 : decode cX0_worth 10 = .ok (.lreturn, 1) := dk_173 (dk_at dksX0_worth_0 10 rfl rfl)
theorem dX0_worth_11 : decode cX0_worth 11 = .ok (.lconst 0, 1) := dk_9 (dk_at dksX0_worth_0 11 rfl rfl)
theorem dX0_worth_12 : decode cX0_worth 12 = .ok (.lstore_n 3, 1) := dk_66 (dk_at dksX0_worth_0 12 rfl rfl)
theorem dX0_worth_13 : decode cX0_worth 13 = .ok (.bipush 8, 2) := dk_16 8 (dk_at dksX0_worth_0 13 rfl rfl)
theorem dX0_worth_15 : decode cX0_worth 15 = .ok (.istore 5, 2) := dk_54 5 (dk_at dksX0_worth_0 15 rfl rfl)
theorem dX0_worth_17 : decode cX0_worth 17 = .ok (.iload 5, 2) := dk_21 5 (dk_at dksX0_worth_0 17 rfl rfl)
theorem dX0_worth_19 : decode cX0_worth 19 = .ok (.ifCond .lt 29, 3) := dk_155 0 29 (dk_at dksX0_worth_0 19 rfl rfl)
theorem dX0_worth_22 : decode cX0_worth 22 = .ok (.lload_n 3, 1) := dk_33 (dk_at dksX0_worth_0 22 rfl rfl)
theorem dX0_worth_23 : decode cX0_worth 23 = .ok (.iload_n 2, 1) := dk_28 (dk_at dksX0_worth_0 23 rfl rfl)
theorem dX0_worth_24 : decode cX0_worth 24 = .ok (.i2l, 1) := dk_133 (dk_at dksX0_worth_1 0 rfl rfl)
theorem dX0_worth_25 : decode cX0_worth 25 = .ok (.invokestatic 179, 3) := dk_184 0 179 (dk_at dksX0_worth_1 1 rfl rfl)
theorem dX0_worth_28 : decode cX0_worth 28 = .ok (.aload_n 0, 1) := dk_42 (dk_at dksX0_worth_1 4 rfl rfl)
theorem dX0_worth_29 : decode cX0_worth 29 = .ok (.getfield 49, 3) := dk_180 0 49 (dk_at dksX0_worth_1 5 rfl rfl)
theorem dX0_worth_32 : decode cX0_worth 32 = .ok (.iload_n 1, 1) := dk_27 (dk_at dksX0_worth_1 8 rfl rfl)
theorem dX0_worth_33 : decode cX0_worth 33 = .ok (.aaload, 1) := dk_50 (dk_at dksX0_worth_1 9 rfl rfl)
theorem dX0_worth_34 : decode cX0_worth 34 = .ok (.iload 5, 2) := dk_21 5 (dk_at dksX0_worth_1 10 rfl rfl)
theorem dX0_worth_36 : decode cX0_worth 36 = .ok (.iaload, 1) := dk_46 (dk_at dksX0_worth_1 12 rfl rfl)
theorem dX0_worth_37 : decode cX0_worth 37 = .ok (.i2l, 1) := dk_133 (dk_at dksX0_worth_1 13 rfl rfl)
theorem dX0_worth_38 : decode cX0_worth 38 = .ok (.invokestatic 172, 3) := dk_184 0 172 (dk_at dksX0_worth_1 14 rfl rfl)
theorem dX0_worth_41 : decode cX0_worth 41 = .ok (.lstore_n 3, 1) := dk_66 (dk_at dksX0_worth_1 17 rfl rfl)
theorem dX0_worth_42 : decode cX0_worth 42 = .ok (.iinc 5 (-1), 3) := dk_132 5 255 (dk_at dksX0_worth_1 18 rfl rfl)
theorem dX0_worth_45 : decode cX0_worth 45 = .ok (.goto (-28), 3) := dk_167 255 228 (dk_at dksX0_worth_1 21 rfl rfl)
theorem dX0_worth_48 : decode cX0_worth 48 = .ok (.lload_n 3, 1) := dk_33 (dk_at dksX0_worth_2 0 rfl rfl)
theorem dX0_worth_49 : decode cX0_worth 49 = .ok (.lreturn, 1) := dk_173 (dk_at dksX0_worth_2 1 rfl rfl)
theorem dX0_worth_50 : decode cX0_worth 50 = .ok (.astore_n 3, 1) := dk_78 (dk_at dksX0_worth_2 2 rfl rfl)
theorem dX0_worth_51 : decode cX0_worth 51 = .ok (.ldc2_w 157, 3) := dk_20 0 157 (dk_at dksX0_worth_2 3 rfl rfl)
theorem dX0_worth_54 : decode cX0_worth 54 = .ok (.lreturn, 1) := dk_173 (dk_at dksX0_worth_2 6 rfl rfl)
abbrev cX0_expansion : ByteArray := prog_1_method_29_code
def yX0_expansion : MethodName := ⟨RX0, "expansion", "(IIII)J"⟩
def dkwX0_expansion_3 : List UInt8 := [50, 21, 4, 47, 173]
abbrev dktX0_expansion_3 : List UInt8 := dkwX0_expansion_3 ++ []
def dkwX0_expansion_2 : List UInt8 := [42, 180, 0, 49, 27, 50, 182, 0, 182, 42, 42, 180, 0, 49, 28, 50, 182, 0, 182, 3, 182, 0, 186, 29]
abbrev dktX0_expansion_2 : List UInt8 := dkwX0_expansion_2 ++ dktX0_expansion_3
def dkwX0_expansion_1 : List UInt8 := [184, 0, 150, 153, 0, 15, 42, 180, 0, 49, 28, 50, 184, 0, 162, 154, 0, 7, 20, 0, 157, 173, 42, 42]
abbrev dktX0_expansion_1 : List UInt8 := dkwX0_expansion_1 ++ dktX0_expansion_2
def dkwX0_expansion_0 : List UInt8 := [27, 184, 0, 146, 153, 0, 37, 28, 184, 0, 146, 153, 0, 30, 29, 184, 0, 150, 153, 0, 23, 21, 4]
abbrev dktX0_expansion_0 : List UInt8 := dkwX0_expansion_0 ++ dktX0_expansion_1
theorem dksX0_expansion_0 : cX0_expansion.data.toList.drop 0 = dktX0_expansion_0 := by decide +kernel
theorem dksX0_expansion_1 : cX0_expansion.data.toList.drop 23 = dktX0_expansion_1 := dk_seg dksX0_expansion_0 23 rfl rfl
theorem dksX0_expansion_2 : cX0_expansion.data.toList.drop 47 = dktX0_expansion_2 := dk_seg dksX0_expansion_1 24 rfl rfl
theorem dksX0_expansion_3 : cX0_expansion.data.toList.drop 71 = dktX0_expansion_3 := dk_seg dksX0_expansion_2 24 rfl rfl
theorem dX0_expansion_0 : decode cX0_expansion 0 = .ok (.iload_n 1, 1) := dk_27 (dk_at dksX0_expansion_0 0 rfl rfl)
theorem dX0_expansion_1 : decode cX0_expansion 1 = .ok (.invokestatic 146, 3) := dk_184 0 146 (dk_at dksX0_expansion_0 1 rfl rfl)
theorem dX0_expansion_4 : decode cX0_expansion 4 = .ok (.ifCond .eq 37, 3) := dk_153 0 37 (dk_at dksX0_expansion_0 4 rfl rfl)
theorem dX0_expansion_7 : decode cX0_expansion 7 = .ok (.iload_n 2, 1) := dk_28 (dk_at dksX0_expansion_0 7 rfl rfl)
theorem dX0_expansion_8 : decode cX0_expansion 8 = .ok (.invokestatic 146, 3) := dk_184 0 146 (dk_at dksX0_expansion_0 8 rfl rfl)
theorem dX0_expansion_11 : decode cX0_expansion 11 = .ok (.ifCond .eq 30, 3) := dk_153 0 30 (dk_at dksX0_expansion_0 11 rfl rfl)
theorem dX0_expansion_14 : decode cX0_expansion 14 = .ok (.iload_n 3, 1) := dk_29 (dk_at dksX0_expansion_0 14 rfl rfl)
theorem dX0_expansion_15 : decode cX0_expansion 15 = .ok (.invokestatic 150, 3) := dk_184 0 150 (dk_at dksX0_expansion_0 15 rfl rfl)
theorem dX0_expansion_18 : decode cX0_expansion 18 = .ok (.ifCond .eq 23, 3) := dk_153 0 23 (dk_at dksX0_expansion_0 18 rfl rfl)
theorem dX0_expansion_21 : decode cX0_expansion 21 = .ok (.iload 4, 2) := dk_21 4 (dk_at dksX0_expansion_0 21 rfl rfl)
theorem dX0_expansion_23 : decode cX0_expansion 23 = .ok (.invokestatic 150, 3) := dk_184 0 150 (dk_at dksX0_expansion_1 0 rfl rfl)
theorem dX0_expansion_26 : decode cX0_expansion 26 = .ok (.ifCond .eq 15, 3) := dk_153 0 15 (dk_at dksX0_expansion_1 3 rfl rfl)
theorem dX0_expansion_29 : decode cX0_expansion 29 = .ok (.aload_n 0, 1) := dk_42 (dk_at dksX0_expansion_1 6 rfl rfl)
theorem dX0_expansion_30 : decode cX0_expansion 30 = .ok (.getfield 49, 3) := dk_180 0 49 (dk_at dksX0_expansion_1 7 rfl rfl)
theorem dX0_expansion_33 : decode cX0_expansion 33 = .ok (.iload_n 2, 1) := dk_28 (dk_at dksX0_expansion_1 10 rfl rfl)
theorem dX0_expansion_34 : decode cX0_expansion 34 = .ok (.aaload, 1) := dk_50 (dk_at dksX0_expansion_1 11 rfl rfl)
theorem dX0_expansion_35 : decode cX0_expansion 35 = .ok (.invokestatic 162, 3) := dk_184 0 162 (dk_at dksX0_expansion_1 12 rfl rfl)
theorem dX0_expansion_38 : decode cX0_expansion 38 = .ok (.ifCond .ne 7, 3) := dk_154 0 7 (dk_at dksX0_expansion_1 15 rfl rfl)
theorem dX0_expansion_41 : decode cX0_expansion 41 = .ok (.ldc2_w 157, 3) := dk_20 0 157 (dk_at dksX0_expansion_1 18 rfl rfl)
theorem dX0_expansion_44 : decode cX0_expansion 44 = .ok (.lreturn, 1) := dk_173 (dk_at dksX0_expansion_1 21 rfl rfl)
theorem dX0_expansion_45 : decode cX0_expansion 45 = .ok (.aload_n 0, 1) := dk_42 (dk_at dksX0_expansion_1 22 rfl rfl)
theorem dX0_expansion_46 : decode cX0_expansion 46 = .ok (.aload_n 0, 1) := dk_42 (dk_at dksX0_expansion_1 23 rfl rfl)
theorem dX0_expansion_47 : decode cX0_expansion 47 = .ok (.aload_n 0, 1) := dk_42 (dk_at dksX0_expansion_2 0 rfl rfl)
theorem dX0_expansion_48 : decode cX0_expansion 48 = .ok (.getfield 49, 3) := dk_180 0 49 (dk_at dksX0_expansion_2 1 rfl rfl)
theorem dX0_expansion_51 : decode cX0_expansion 51 = .ok (.iload_n 1, 1) := dk_27 (dk_at dksX0_expansion_2 4 rfl rfl)
theorem dX0_expansion_52 : decode cX0_expansion 52 = .ok (.aaload, 1) := dk_50 (dk_at dksX0_expansion_2 5 rfl rfl)
theorem dX0_expansion_53 : decode cX0_expansion 53 = .ok (.invokevirtual 182, 3) := dk_182 0 182 (dk_at dksX0_expansion_2 6 rfl rfl)
theorem dX0_expansion_56 : decode cX0_expansion 56 = .ok (.aload_n 0, 1) := dk_42 (dk_at dksX0_expansion_2 9 rfl rfl)
theorem dX0_expansion_57 : decode cX0_expansion 57 = .ok (.aload_n 0, 1) := dk_42 (dk_at dksX0_expansion_2 10 rfl rfl)
theorem dX0_expansion_58 : decode cX0_expansion 58 = .ok (.getfield 49, 3) := dk_180 0 49 (dk_at dksX0_expansion_2 11 rfl rfl)
theorem dX0_expansion_61 : decode cX0_expansion 61 = .ok (.iload_n 2, 1) := dk_28 (dk_at dksX0_expansion_2 14 rfl rfl)
theorem dX0_expansion_62 : decode cX0_expansion 62 = .ok (.aaload, 1) := dk_50 (dk_at dksX0_expansion_2 15 rfl rfl)
theorem dX0_expansion_63 : decode cX0_expansion 63 = .ok (.invokevirtual 182, 3) := dk_182 0 182 (dk_at dksX0_expansion_2 16 rfl rfl)
theorem dX0_expansion_66 : decode cX0_expansion 66 = .ok (.iconst 0, 1) := dk_3 (dk_at dksX0_expansion_2 19 rfl rfl)
theorem dX0_expansion_67 : decode cX0_expansion 67 = .ok (.invokevirtual 186, 3) := dk_182 0 186 (dk_at dksX0_expansion_2 20 rfl rfl)
theorem dX0_expansion_70 : decode cX0_expansion 70 = .ok (.iload_n 3, 1) := dk_29 (dk_at dksX0_expansion_2 23 rfl rfl)
theorem dX0_expansion_71 : decode cX0_expansion 71 = .ok (.aaload, 1) := dk_50 (dk_at dksX0_expansion_3 0 rfl rfl)
theorem dX0_expansion_72 : decode cX0_expansion 72 = .ok (.iload 4, 2) := dk_21 4 (dk_at dksX0_expansion_3 1 rfl rfl)
theorem dX0_expansion_74 : decode cX0_expansion 74 = .ok (.laload, 1) := dk_47 (dk_at dksX0_expansion_3 3 rfl rfl)
theorem dX0_expansion_75 : decode cX0_expansion 75 = .ok (.lreturn, 1) := dk_173 (dk_at dksX0_expansion_3 4 rfl rfl)
abbrev cX0_inNumbers : ByteArray := prog_1_method_9_code
def yX0_inNumbers : MethodName := ⟨RX0, "inNumbers", "([I)[J"⟩
def dkwX0_inNumbers_1 : List UInt8 := [184, 0, 76, 80, 132, 3, 1, 167, 255, 233, 44, 176]
abbrev dktX0_inNumbers_1 : List UInt8 := dkwX0_inNumbers_1 ++ []
def dkwX0_inNumbers_0 : List UInt8 := [16, 9, 188, 11, 77, 3, 62, 29, 16, 9, 162, 0, 23, 44, 29, 43, 29, 46, 133, 42, 180, 0, 21]
abbrev dktX0_inNumbers_0 : List UInt8 := dkwX0_inNumbers_0 ++ dktX0_inNumbers_1
theorem dksX0_inNumbers_0 : cX0_inNumbers.data.toList.drop 0 = dktX0_inNumbers_0 := by decide +kernel
theorem dksX0_inNumbers_1 : cX0_inNumbers.data.toList.drop 23 = dktX0_inNumbers_1 := dk_seg dksX0_inNumbers_0 23 rfl rfl
theorem dX0_inNumbers_0 : decode cX0_inNumbers 0 = .ok (.bipush 9, 2) := dk_16 9 (dk_at dksX0_inNumbers_0 0 rfl rfl)
theorem dX0_inNumbers_2 : decode cX0_inNumbers 2 = .ok (.newarray .long, 2) := dk_188_11 (dk_at dksX0_inNumbers_0 2 rfl rfl)
theorem dX0_inNumbers_4 : decode cX0_inNumbers 4 = .ok (.astore_n 2, 1) := dk_77 (dk_at dksX0_inNumbers_0 4 rfl rfl)
theorem dX0_inNumbers_5 : decode cX0_inNumbers 5 = .ok (.iconst 0, 1) := dk_3 (dk_at dksX0_inNumbers_0 5 rfl rfl)
theorem dX0_inNumbers_6 : decode cX0_inNumbers 6 = .ok (.istore_n 3, 1) := dk_62 (dk_at dksX0_inNumbers_0 6 rfl rfl)
theorem dX0_inNumbers_7 : decode cX0_inNumbers 7 = .ok (.iload_n 3, 1) := dk_29 (dk_at dksX0_inNumbers_0 7 rfl rfl)
theorem dX0_inNumbers_8 : decode cX0_inNumbers 8 = .ok (.bipush 9, 2) := dk_16 9 (dk_at dksX0_inNumbers_0 8 rfl rfl)
theorem dX0_inNumbers_10 : decode cX0_inNumbers 10 = .ok (.if_icmp .ge 23, 3) := dk_162 0 23 (dk_at dksX0_inNumbers_0 10 rfl rfl)
theorem dX0_inNumbers_13 : decode cX0_inNumbers 13 = .ok (.aload_n 2, 1) := dk_44 (dk_at dksX0_inNumbers_0 13 rfl rfl)
theorem dX0_inNumbers_14 : decode cX0_inNumbers 14 = .ok (.iload_n 3, 1) := dk_29 (dk_at dksX0_inNumbers_0 14 rfl rfl)
theorem dX0_inNumbers_15 : decode cX0_inNumbers 15 = .ok (.aload_n 1, 1) := dk_43 (dk_at dksX0_inNumbers_0 15 rfl rfl)
theorem dX0_inNumbers_16 : decode cX0_inNumbers 16 = .ok (.iload_n 3, 1) := dk_29 (dk_at dksX0_inNumbers_0 16 rfl rfl)
theorem dX0_inNumbers_17 : decode cX0_inNumbers 17 = .ok (.iaload, 1) := dk_46 (dk_at dksX0_inNumbers_0 17 rfl rfl)
theorem dX0_inNumbers_18 : decode cX0_inNumbers 18 = .ok (.i2l, 1) := dk_133 (dk_at dksX0_inNumbers_0 18 rfl rfl)
theorem dX0_inNumbers_19 : decode cX0_inNumbers 19 = .ok (.aload_n 0, 1) := dk_42 (dk_at dksX0_inNumbers_0 19 rfl rfl)
theorem dX0_inNumbers_20 : decode cX0_inNumbers 20 = .ok (.getfield 21, 3) := dk_180 0 21 (dk_at dksX0_inNumbers_0 20 rfl rfl)
theorem dX0_inNumbers_23 : decode cX0_inNumbers 23 = .ok (.invokestatic 76, 3) := dk_184 0 76 (dk_at dksX0_inNumbers_1 0 rfl rfl)
theorem dX0_inNumbers_26 : decode cX0_inNumbers 26 = .ok (.lastore, 1) := dk_80 (dk_at dksX0_inNumbers_1 3 rfl rfl)
theorem dX0_inNumbers_27 : decode cX0_inNumbers 27 = .ok (.iinc 3 1, 3) := dk_132 3 1 (dk_at dksX0_inNumbers_1 4 rfl rfl)
theorem dX0_inNumbers_30 : decode cX0_inNumbers 30 = .ok (.goto (-23), 3) := dk_167 255 233 (dk_at dksX0_inNumbers_1 7 rfl rfl)
theorem dX0_inNumbers_33 : decode cX0_inNumbers 33 = .ok (.aload_n 2, 1) := dk_44 (dk_at dksX0_inNumbers_1 10 rfl rfl)
theorem dX0_inNumbers_34 : decode cX0_inNumbers 34 = .ok (.areturn, 1) := dk_176 (dk_at dksX0_inNumbers_1 11 rfl rfl)
abbrev cX0_expanded : ByteArray := prog_1_method_12_code
def yX0_expanded : MethodName := ⟨RX0, "expanded", "([J[JI)[[J"⟩
def dkwX0_expanded_2 : List UInt8 := [25, 4, 176]
abbrev dktX0_expanded_2 : List UInt8 := dkwX0_expanded_2 ++ []
def dkwX0_expanded_1 : List UInt8 := [21, 5, 16, 9, 162, 0, 19, 42, 25, 4, 21, 5, 50, 44, 182, 0, 92, 132, 5, 1, 167, 255, 236]
abbrev dktX0_expanded_1 : List UInt8 := dkwX0_expanded_1 ++ dktX0_expanded_2
def dkwX0_expanded_0 : List UInt8 := [42, 180, 0, 34, 29, 50, 58, 4, 43, 3, 42, 180, 0, 25, 3, 16, 9, 184, 0, 86, 3, 54, 5]
abbrev dktX0_expanded_0 : List UInt8 := dkwX0_expanded_0 ++ dktX0_expanded_1
theorem dksX0_expanded_0 : cX0_expanded.data.toList.drop 0 = dktX0_expanded_0 := by decide +kernel
theorem dksX0_expanded_1 : cX0_expanded.data.toList.drop 23 = dktX0_expanded_1 := dk_seg dksX0_expanded_0 23 rfl rfl
theorem dksX0_expanded_2 : cX0_expanded.data.toList.drop 46 = dktX0_expanded_2 := dk_seg dksX0_expanded_1 23 rfl rfl
theorem dX0_expanded_0 : decode cX0_expanded 0 = .ok (.aload_n 0, 1) := dk_42 (dk_at dksX0_expanded_0 0 rfl rfl)
theorem dX0_expanded_1 : decode cX0_expanded 1 = .ok (.getfield 34, 3) := dk_180 0 34 (dk_at dksX0_expanded_0 1 rfl rfl)
theorem dX0_expanded_4 : decode cX0_expanded 4 = .ok (.iload_n 3, 1) := dk_29 (dk_at dksX0_expanded_0 4 rfl rfl)
theorem dX0_expanded_5 : decode cX0_expanded 5 = .ok (.aaload, 1) := dk_50 (dk_at dksX0_expanded_0 5 rfl rfl)
theorem dX0_expanded_6 : decode cX0_expanded 6 = .ok (.astore 4, 2) := dk_58 4 (dk_at dksX0_expanded_0 6 rfl rfl)
theorem dX0_expanded_8 : decode cX0_expanded 8 = .ok (.aload_n 1, 1) := dk_43 (dk_at dksX0_expanded_0 8 rfl rfl)
theorem dX0_expanded_9 : decode cX0_expanded 9 = .ok (.iconst 0, 1) := dk_3 (dk_at dksX0_expanded_0 9 rfl rfl)
theorem dX0_expanded_10 : decode cX0_expanded 10 = .ok (.aload_n 0, 1) := dk_42 (dk_at dksX0_expanded_0 10 rfl rfl)
theorem dX0_expanded_11 : decode cX0_expanded 11 = .ok (.getfield 25, 3) := dk_180 0 25 (dk_at dksX0_expanded_0 11 rfl rfl)
theorem dX0_expanded_14 : decode cX0_expanded 14 = .ok (.iconst 0, 1) := dk_3 (dk_at dksX0_expanded_0 14 rfl rfl)
theorem dX0_expanded_15 : decode cX0_expanded 15 = .ok (.bipush 9, 2) := dk_16 9 (dk_at dksX0_expanded_0 15 rfl rfl)
theorem dX0_expanded_17 : decode cX0_expanded 17 = .ok (.invokestatic 86, 3) := dk_184 0 86 (dk_at dksX0_expanded_0 17 rfl rfl)
theorem dX0_expanded_20 : decode cX0_expanded 20 = .ok (.iconst 0, 1) := dk_3 (dk_at dksX0_expanded_0 20 rfl rfl)
theorem dX0_expanded_21 : decode cX0_expanded 21 = .ok (.istore 5, 2) := dk_54 5 (dk_at dksX0_expanded_0 21 rfl rfl)
theorem dX0_expanded_23 : decode cX0_expanded 23 = .ok (.iload 5, 2) := dk_21 5 (dk_at dksX0_expanded_1 0 rfl rfl)
theorem dX0_expanded_25 : decode cX0_expanded 25 = .ok (.bipush 9, 2) := dk_16 9 (dk_at dksX0_expanded_1 2 rfl rfl)
theorem dX0_expanded_27 : decode cX0_expanded 27 = .ok (.if_icmp .ge 19, 3) := dk_162 0 19 (dk_at dksX0_expanded_1 4 rfl rfl)
theorem dX0_expanded_30 : decode cX0_expanded 30 = .ok (.aload_n 0, 1) := dk_42 (dk_at dksX0_expanded_1 7 rfl rfl)
theorem dX0_expanded_31 : decode cX0_expanded 31 = .ok (.aload 4, 2) := dk_25 4 (dk_at dksX0_expanded_1 8 rfl rfl)
theorem dX0_expanded_33 : decode cX0_expanded 33 = .ok (.iload 5, 2) := dk_21 5 (dk_at dksX0_expanded_1 10 rfl rfl)
theorem dX0_expanded_35 : decode cX0_expanded 35 = .ok (.aaload, 1) := dk_50 (dk_at dksX0_expanded_1 12 rfl rfl)
theorem dX0_expanded_36 : decode cX0_expanded 36 = .ok (.aload_n 2, 1) := dk_44 (dk_at dksX0_expanded_1 13 rfl rfl)
theorem dX0_expanded_37 : decode cX0_expanded 37 = .ok (.invokevirtual 92, 3) := dk_182 0 92 (dk_at dksX0_expanded_1 14 rfl rfl)
theorem dX0_expanded_40 : decode cX0_expanded 40 = .ok (.iinc 5 1, 3) := dk_132 5 1 (dk_at dksX0_expanded_1 17 rfl rfl)
theorem dX0_expanded_43 : decode cX0_expanded 43 = .ok (.goto (-20), 3) := dk_167 255 236 (dk_at dksX0_expanded_1 20 rfl rfl)
theorem dX0_expanded_46 : decode cX0_expanded 46 = .ok (.aload 4, 2) := dk_25 4 (dk_at dksX0_expanded_2 0 rfl rfl)
theorem dX0_expanded_48 : decode cX0_expanded 48 = .ok (.areturn, 1) := dk_176 (dk_at dksX0_expanded_2 2 rfl rfl)
abbrev cX0_divides : ByteArray := prog_1_method_11_code
def yX0_divides : MethodName := ⟨RX0, "divides", "([J[J)V"⟩
def dkwX0_divides_6 : List UInt8 := [42, 180, 0, 25, 3, 16, 9, 184, 0, 86, 177]
abbrev dktX0_divides_6 : List UInt8 := dkwX0_divides_6 ++ []
def dkwX0_divides_5 : List UInt8 := [180, 0, 21, 184, 0, 76, 80, 132, 7, 1, 167, 255, 209, 132, 4, 255, 167, 255, 167, 42, 180, 0, 29, 3]
abbrev dktX0_divides_5 : List UInt8 := dkwX0_divides_5 ++ dktX0_divides_6
def dkwX0_divides_4 : List UInt8 := [43, 21, 4, 29, 100, 21, 7, 96, 47, 22, 5, 44, 21, 7, 47, 105, 42, 180, 0, 21, 113, 101, 42]
abbrev dktX0_divides_4 : List UInt8 := dkwX0_divides_4 ++ dktX0_divides_5
def dkwX0_divides_3 : List UInt8 := [21, 4, 29, 100, 22, 5, 80, 3, 54, 7, 21, 7, 29, 163, 0, 47, 43, 21, 4, 29, 100, 21, 7, 96]
abbrev dktX0_divides_3 : List UInt8 := dkwX0_divides_3 ++ dktX0_divides_4
def dkwX0_divides_2 : List UInt8 := [161, 0, 89, 43, 21, 4, 47, 55, 5, 22, 5, 9, 148, 154, 0, 6, 167, 0, 67, 42, 180, 0, 29]
abbrev dktX0_divides_2 : List UInt8 := dkwX0_divides_2 ++ dktX0_divides_3
def dkwX0_divides_1 : List UInt8 := [162, 0, 17, 42, 180, 0, 29, 21, 4, 9, 80, 132, 4, 1, 167, 255, 238, 16, 8, 54, 4, 21, 4, 29]
abbrev dktX0_divides_1 : List UInt8 := dkwX0_divides_1 ++ dktX0_divides_2
def dkwX0_divides_0 : List UInt8 := [44, 184, 0, 82, 62, 42, 180, 0, 25, 3, 43, 3, 16, 9, 184, 0, 86, 3, 54, 4, 21, 4, 16, 9]
abbrev dktX0_divides_0 : List UInt8 := dkwX0_divides_0 ++ dktX0_divides_1
theorem dksX0_divides_0 : cX0_divides.data.toList.drop 0 = dktX0_divides_0 := by decide +kernel
theorem dksX0_divides_1 : cX0_divides.data.toList.drop 24 = dktX0_divides_1 := dk_seg dksX0_divides_0 24 rfl rfl
theorem dksX0_divides_2 : cX0_divides.data.toList.drop 48 = dktX0_divides_2 := dk_seg dksX0_divides_1 24 rfl rfl
theorem dksX0_divides_3 : cX0_divides.data.toList.drop 71 = dktX0_divides_3 := dk_seg dksX0_divides_2 23 rfl rfl
theorem dksX0_divides_4 : cX0_divides.data.toList.drop 95 = dktX0_divides_4 := dk_seg dksX0_divides_3 24 rfl rfl
theorem dksX0_divides_5 : cX0_divides.data.toList.drop 118 = dktX0_divides_5 := dk_seg dksX0_divides_4 23 rfl rfl
theorem dksX0_divides_6 : cX0_divides.data.toList.drop 142 = dktX0_divides_6 := dk_seg dksX0_divides_5 24 rfl rfl
theorem dX0_divides_0 : decode cX0_divides 0 = .ok (.aload_n 2, 1) := dk_44 (dk_at dksX0_divides_0 0 rfl rfl)
theorem dX0_divides_1 : decode cX0_divides 1 = .ok (.invokestatic 82, 3) := dk_184 0 82 (dk_at dksX0_divides_0 1 rfl rfl)
theorem dX0_divides_4 : decode cX0_divides 4 = .ok (.istore_n 3, 1) := dk_62 (dk_at dksX0_divides_0 4 rfl rfl)
theorem dX0_divides_5 : decode cX0_divides 5 = .ok (.aload_n 0, 1) := dk_42 (dk_at dksX0_divides_0 5 rfl rfl)
theorem dX0_divides_6 : decode cX0_divides 6 = .ok (.getfield 25, 3) := dk_180 0 25 (dk_at dksX0_divides_0 6 rfl rfl)
theorem dX0_divides_9 : decode cX0_divides 9 = .ok (.iconst 0, 1) := dk_3 (dk_at dksX0_divides_0 9 rfl rfl)
theorem dX0_divides_10 : decode cX0_divides 10 = .ok (.aload_n 1, 1) := dk_43 (dk_at dksX0_divides_0 10 rfl rfl)
theorem dX0_divides_11 : decode cX0_divides 11 = .ok (.iconst 0, 1) := dk_3 (dk_at dksX0_divides_0 11 rfl rfl)
theorem dX0_divides_12 : decode cX0_divides 12 = .ok (.bipush 9, 2) := dk_16 9 (dk_at dksX0_divides_0 12 rfl rfl)
theorem dX0_divides_14 : decode cX0_divides 14 = .ok (.invokestatic 86, 3) := dk_184 0 86 (dk_at dksX0_divides_0 14 rfl rfl)
theorem dX0_divides_17 : decode cX0_divides 17 = .ok (.iconst 0, 1) := dk_3 (dk_at dksX0_divides_0 17 rfl rfl)
theorem dX0_divides_18 : decode cX0_divides 18 = .ok (.istore 4, 2) := dk_54 4 (dk_at dksX0_divides_0 18 rfl rfl)
theorem dX0_divides_20 : decode cX0_divides 20 = .ok (.iload 4, 2) := dk_21 4 (dk_at dksX0_divides_0 20 rfl rfl)
theorem dX0_divides_22 : decode cX0_divides 22 = .ok (.bipush 9, 2) := dk_16 9 (dk_at dksX0_divides_0 22 rfl rfl)
theorem dX0_divides_24 : decode cX0_divides 24 = .ok (.if_icmp .ge 17, 3) := dk_162 0 17 (dk_at dksX0_divides_1 0 rfl rfl)
theorem dX0_divides_27 : decode cX0_divides 27 = .ok (.aload_n 0, 1) := dk_42 (dk_at dksX0_divides_1 3 rfl rfl)
theorem dX0_divides_28 : decode cX0_divides 28 = .ok (.getfield 29, 3) := dk_180 0 29 (dk_at dksX0_divides_1 4 rfl rfl)
theorem dX0_divides_31 : decode cX0_divides 31 = .ok (.iload 4, 2) := dk_21 4 (dk_at dksX0_divides_1 7 rfl rfl)
theorem dX0_divides_33 : decode cX0_divides 33 = .ok (.lconst 0, 1) := dk_9 (dk_at dksX0_divides_1 9 rfl rfl)
theorem dX0_divides_34 : decode cX0_divides 34 = .ok (.lastore, 1) := dk_80 (dk_at dksX0_divides_1 10 rfl rfl)
theorem dX0_divides_35 : decode cX0_divides 35 = .ok (.iinc 4 1, 3) := dk_132 4 1 (dk_at dksX0_divides_1 11 rfl rfl)
theorem dX0_divides_38 : decode cX0_divides 38 = .ok (.goto (-18), 3) := dk_167 255 238 (dk_at dksX0_divides_1 14 rfl rfl)
theorem dX0_divides_41 : decode cX0_divides 41 = .ok (.bipush 8, 2) := dk_16 8 (dk_at dksX0_divides_1 17 rfl rfl)
theorem dX0_divides_43 : decode cX0_divides 43 = .ok (.istore 4, 2) := dk_54 4 (dk_at dksX0_divides_1 19 rfl rfl)
theorem dX0_divides_45 : decode cX0_divides 45 = .ok (.iload 4, 2) := dk_21 4 (dk_at dksX0_divides_1 21 rfl rfl)
theorem dX0_divides_47 : decode cX0_divides 47 = .ok (.iload_n 3, 1) := dk_29 (dk_at dksX0_divides_1 23 rfl rfl)
theorem dX0_divides_48 : decode cX0_divides 48 = .ok (.if_icmp .lt 89, 3) := dk_161 0 89 (dk_at dksX0_divides_2 0 rfl rfl)
theorem dX0_divides_51 : decode cX0_divides 51 = .ok (.aload_n 1, 1) := dk_43 (dk_at dksX0_divides_2 3 rfl rfl)
theorem dX0_divides_52 : decode cX0_divides 52 = .ok (.iload 4, 2) := dk_21 4 (dk_at dksX0_divides_2 4 rfl rfl)
theorem dX0_divides_54 : decode cX0_divides 54 = .ok (.laload, 1) := dk_47 (dk_at dksX0_divides_2 6 rfl rfl)
theorem dX0_divides_55 : decode cX0_divides 55 = .ok (.lstore 5, 2) := dk_55 5 (dk_at dksX0_divides_2 7 rfl rfl)
theorem dX0_divides_57 : decode cX0_divides 57 = .ok (.lload 5, 2) := dk_22 5 (dk_at dksX0_divides_2 9 rfl rfl)
theorem dX0_divides_59 : decode cX0_divides 59 = .ok (.lconst 0, 1) := dk_9 (dk_at dksX0_divides_2 11 rfl rfl)
theorem dX0_divides_60 : decode cX0_divides 60 = .ok (.lcmp, 1) := dk_148 (dk_at dksX0_divides_2 12 rfl rfl)
theorem dX0_divides_61 : decode cX0_divides 61 = .ok (.ifCond .ne 6, 3) := dk_154 0 6 (dk_at dksX0_divides_2 13 rfl rfl)
theorem dX0_divides_64 : decode cX0_divides 64 = .ok (.goto 67, 3) := dk_167 0 67 (dk_at dksX0_divides_2 16 rfl rfl)
theorem dX0_divides_67 : decode cX0_divides 67 = .ok (.aload_n 0, 1) := dk_42 (dk_at dksX0_divides_2 19 rfl rfl)
theorem dX0_divides_68 : decode cX0_divides 68 = .ok (.getfield 29, 3) := dk_180 0 29 (dk_at dksX0_divides_2 20 rfl rfl)
theorem dX0_divides_71 : decode cX0_divides 71 = .ok (.iload 4, 2) := dk_21 4 (dk_at dksX0_divides_3 0 rfl rfl)
theorem dX0_divides_73 : decode cX0_divides 73 = .ok (.iload_n 3, 1) := dk_29 (dk_at dksX0_divides_3 2 rfl rfl)
theorem dX0_divides_74 : decode cX0_divides 74 = .ok (.isub, 1) := dk_100 (dk_at dksX0_divides_3 3 rfl rfl)
theorem dX0_divides_75 : decode cX0_divides 75 = .ok (.lload 5, 2) := dk_22 5 (dk_at dksX0_divides_3 4 rfl rfl)
theorem dX0_divides_77 : decode cX0_divides 77 = .ok (.lastore, 1) := dk_80 (dk_at dksX0_divides_3 6 rfl rfl)
theorem dX0_divides_78 : decode cX0_divides 78 = .ok (.iconst 0, 1) := dk_3 (dk_at dksX0_divides_3 7 rfl rfl)
theorem dX0_divides_79 : decode cX0_divides 79 = .ok (.istore 7, 2) := dk_54 7 (dk_at dksX0_divides_3 8 rfl rfl)
theorem dX0_divides_81 : decode cX0_divides 81 = .ok (.iload 7, 2) := dk_21 7 (dk_at dksX0_divides_3 10 rfl rfl)
theorem dX0_divides_83 : decode cX0_divides 83 = .ok (.iload_n 3, 1) := dk_29 (dk_at dksX0_divides_3 12 rfl rfl)
theorem dX0_divides_84 : decode cX0_divides 84 = .ok (.if_icmp .gt 47, 3) := dk_163 0 47 (dk_at dksX0_divides_3 13 rfl rfl)
theorem dX0_divides_87 : decode cX0_divides 87 = .ok (.aload_n 1, 1) := dk_43 (dk_at dksX0_divides_3 16 rfl rfl)
theorem dX0_divides_88 : decode cX0_divides 88 = .ok (.iload 4, 2) := dk_21 4 (dk_at dksX0_divides_3 17 rfl rfl)
theorem dX0_divides_90 : decode cX0_divides 90 = .ok (.iload_n 3, 1) := dk_29 (dk_at dksX0_divides_3 19 rfl rfl)
theorem dX0_divides_91 : decode cX0_divides 91 = .ok (.isub, 1) := dk_100 (dk_at dksX0_divides_3 20 rfl rfl)
theorem dX0_divides_92 : decode cX0_divides 92 = .ok (.iload 7, 2) := dk_21 7 (dk_at dksX0_divides_3 21 rfl rfl)
theorem dX0_divides_94 : decode cX0_divides 94 = .ok (.iadd, 1) := dk_96 (dk_at dksX0_divides_3 23 rfl rfl)
theorem dX0_divides_95 : decode cX0_divides 95 = .ok (.aload_n 1, 1) := dk_43 (dk_at dksX0_divides_4 0 rfl rfl)
theorem dX0_divides_96 : decode cX0_divides 96 = .ok (.iload 4, 2) := dk_21 4 (dk_at dksX0_divides_4 1 rfl rfl)
theorem dX0_divides_98 : decode cX0_divides 98 = .ok (.iload_n 3, 1) := dk_29 (dk_at dksX0_divides_4 3 rfl rfl)
theorem dX0_divides_99 : decode cX0_divides 99 = .ok (.isub, 1) := dk_100 (dk_at dksX0_divides_4 4 rfl rfl)
theorem dX0_divides_100 : decode cX0_divides 100 = .ok (.iload 7, 2) := dk_21 7 (dk_at dksX0_divides_4 5 rfl rfl)
theorem dX0_divides_102 : decode cX0_divides 102 = .ok (.iadd, 1) := dk_96 (dk_at dksX0_divides_4 7 rfl rfl)
theorem dX0_divides_103 : decode cX0_divides 103 = .ok (.laload, 1) := dk_47 (dk_at dksX0_divides_4 8 rfl rfl)
theorem dX0_divides_104 : decode cX0_divides 104 = .ok (.lload 5, 2) := dk_22 5 (dk_at dksX0_divides_4 9 rfl rfl)
theorem dX0_divides_106 : decode cX0_divides 106 = .ok (.aload_n 2, 1) := dk_44 (dk_at dksX0_divides_4 11 rfl rfl)
theorem dX0_divides_107 : decode cX0_divides 107 = .ok (.iload 7, 2) := dk_21 7 (dk_at dksX0_divides_4 12 rfl rfl)
theorem dX0_divides_109 : decode cX0_divides 109 = .ok (.laload, 1) := dk_47 (dk_at dksX0_divides_4 14 rfl rfl)
theorem dX0_divides_110 : decode cX0_divides 110 = .ok (.lmul, 1) := dk_105 (dk_at dksX0_divides_4 15 rfl rfl)
theorem dX0_divides_111 : decode cX0_divides 111 = .ok (.aload_n 0, 1) := dk_42 (dk_at dksX0_divides_4 16 rfl rfl)
theorem dX0_divides_112 : decode cX0_divides 112 = .ok (.getfield 21, 3) := dk_180 0 21 (dk_at dksX0_divides_4 17 rfl rfl)
theorem dX0_divides_115 : decode cX0_divides 115 = .ok (.lrem, 1) := dk_113 (dk_at dksX0_divides_4 20 rfl rfl)
theorem dX0_divides_116 : decode cX0_divides 116 = .ok (.lsub, 1) := dk_101 (dk_at dksX0_divides_4 21 rfl rfl)
theorem dX0_divides_117 : decode cX0_divides 117 = .ok (.aload_n 0, 1) := dk_42 (dk_at dksX0_divides_4 22 rfl rfl)
theorem dX0_divides_118 : decode cX0_divides 118 = .ok (.getfield 21, 3) := dk_180 0 21 (dk_at dksX0_divides_5 0 rfl rfl)
theorem dX0_divides_121 : decode cX0_divides 121 = .ok (.invokestatic 76, 3) := dk_184 0 76 (dk_at dksX0_divides_5 3 rfl rfl)
theorem dX0_divides_124 : decode cX0_divides 124 = .ok (.lastore, 1) := dk_80 (dk_at dksX0_divides_5 6 rfl rfl)
theorem dX0_divides_125 : decode cX0_divides 125 = .ok (.iinc 7 1, 3) := dk_132 7 1 (dk_at dksX0_divides_5 7 rfl rfl)
theorem dX0_divides_128 : decode cX0_divides 128 = .ok (.goto (-47), 3) := dk_167 255 209 (dk_at dksX0_divides_5 10 rfl rfl)
theorem dX0_divides_131 : decode cX0_divides 131 = .ok (.iinc 4 (-1), 3) := dk_132 4 255 (dk_at dksX0_divides_5 13 rfl rfl)
theorem dX0_divides_134 : decode cX0_divides 134 = .ok (.goto (-89), 3) := dk_167 255 167 (dk_at dksX0_divides_5 16 rfl rfl)
theorem dX0_divides_137 : decode cX0_divides 137 = .ok (.aload_n 0, 1) := dk_42 (dk_at dksX0_divides_5 19 rfl rfl)
theorem dX0_divides_138 : decode cX0_divides 138 = .ok (.getfield 29, 3) := dk_180 0 29 (dk_at dksX0_divides_5 20 rfl rfl)
theorem dX0_divides_141 : decode cX0_divides 141 = .ok (.iconst 0, 1) := dk_3 (dk_at dksX0_divides_5 23 rfl rfl)
theorem dX0_divides_142 : decode cX0_divides 142 = .ok (.aload_n 0, 1) := dk_42 (dk_at dksX0_divides_6 0 rfl rfl)
theorem dX0_divides_143 : decode cX0_divides 143 = .ok (.getfield 25, 3) := dk_180 0 25 (dk_at dksX0_divides_6 1 rfl rfl)
theorem dX0_divides_146 : decode cX0_divides 146 = .ok (.iconst 0, 1) := dk_3 (dk_at dksX0_divides_6 4 rfl rfl)
theorem dX0_divides_147 : decode cX0_divides 147 = .ok (.bipush 9, 2) := dk_16 9 (dk_at dksX0_divides_6 5 rfl rfl)
theorem dX0_divides_149 : decode cX0_divides 149 = .ok (.invokestatic 86, 3) := dk_184 0 86 (dk_at dksX0_divides_6 7 rfl rfl)
theorem dX0_divides_152 : decode cX0_divides 152 = .ok (.return_, 1) := dk_177 (dk_at dksX0_divides_6 10 rfl rfl)
abbrev cX0_degreeOf_2 : ByteArray := prog_1_method_8_code
def yX0_degreeOf_2 : MethodName := ⟨RX0, "degreeOf", "([J)I"⟩
def dkwX0_degreeOf_2_1 : List UInt8 := [172]
abbrev dktX0_degreeOf_2_1 : List UInt8 := dkwX0_degreeOf_2_1 ++ []
def dkwX0_degreeOf_2_0 : List UInt8 := [42, 190, 4, 100, 60, 27, 155, 0, 17, 42, 27, 47, 9, 148, 154, 0, 9, 132, 1, 255, 167, 255, 241, 27]
abbrev dktX0_degreeOf_2_0 : List UInt8 := dkwX0_degreeOf_2_0 ++ dktX0_degreeOf_2_1
theorem dksX0_degreeOf_2_0 : cX0_degreeOf_2.data.toList.drop 0 = dktX0_degreeOf_2_0 := by decide +kernel
theorem dksX0_degreeOf_2_1 : cX0_degreeOf_2.data.toList.drop 24 = dktX0_degreeOf_2_1 := dk_seg dksX0_degreeOf_2_0 24 rfl rfl
theorem dX0_degreeOf_2_0 : decode cX0_degreeOf_2 0 = .ok (.aload_n 0, 1) := dk_42 (dk_at dksX0_degreeOf_2_0 0 rfl rfl)
theorem dX0_degreeOf_2_1 : decode cX0_degreeOf_2 1 = .ok (.arraylength, 1) := dk_190 (dk_at dksX0_degreeOf_2_0 1 rfl rfl)
theorem dX0_degreeOf_2_2 : decode cX0_degreeOf_2 2 = .ok (.iconst 1, 1) := dk_4 (dk_at dksX0_degreeOf_2_0 2 rfl rfl)
theorem dX0_degreeOf_2_3 : decode cX0_degreeOf_2 3 = .ok (.isub, 1) := dk_100 (dk_at dksX0_degreeOf_2_0 3 rfl rfl)
theorem dX0_degreeOf_2_4 : decode cX0_degreeOf_2 4 = .ok (.istore_n 1, 1) := dk_60 (dk_at dksX0_degreeOf_2_0 4 rfl rfl)
theorem dX0_degreeOf_2_5 : decode cX0_degreeOf_2 5 = .ok (.iload_n 1, 1) := dk_27 (dk_at dksX0_degreeOf_2_0 5 rfl rfl)
theorem dX0_degreeOf_2_6 : decode cX0_degreeOf_2 6 = .ok (.ifCond .lt 17, 3) := dk_155 0 17 (dk_at dksX0_degreeOf_2_0 6 rfl rfl)
theorem dX0_degreeOf_2_9 : decode cX0_degreeOf_2 9 = .ok (.aload_n 0, 1) := dk_42 (dk_at dksX0_degreeOf_2_0 9 rfl rfl)
theorem dX0_degreeOf_2_10 : decode cX0_degreeOf_2 10 = .ok (.iload_n 1, 1) := dk_27 (dk_at dksX0_degreeOf_2_0 10 rfl rfl)
theorem dX0_degreeOf_2_11 : decode cX0_degreeOf_2 11 = .ok (.laload, 1) := dk_47 (dk_at dksX0_degreeOf_2_0 11 rfl rfl)
theorem dX0_degreeOf_2_12 : decode cX0_degreeOf_2 12 = .ok (.lconst 0, 1) := dk_9 (dk_at dksX0_degreeOf_2_0 12 rfl rfl)
theorem dX0_degreeOf_2_13 : decode cX0_degreeOf_2 13 = .ok (.lcmp, 1) := dk_148 (dk_at dksX0_degreeOf_2_0 13 rfl rfl)
theorem dX0_degreeOf_2_14 : decode cX0_degreeOf_2 14 = .ok (.ifCond .ne 9, 3) := dk_154 0 9 (dk_at dksX0_degreeOf_2_0 14 rfl rfl)
theorem dX0_degreeOf_2_17 : decode cX0_degreeOf_2 17 = .ok (.iinc 1 (-1), 3) := dk_132 1 255 (dk_at dksX0_degreeOf_2_0 17 rfl rfl)
theorem dX0_degreeOf_2_20 : decode cX0_degreeOf_2 20 = .ok (.goto (-15), 3) := dk_167 255 241 (dk_at dksX0_degreeOf_2_0 20 rfl rfl)
theorem dX0_degreeOf_2_23 : decode cX0_degreeOf_2 23 = .ok (.iload_n 1, 1) := dk_27 (dk_at dksX0_degreeOf_2_0 23 rfl rfl)
theorem dX0_degreeOf_2_24 : decode cX0_degreeOf_2 24 = .ok (.ireturn, 1) := dk_172 (dk_at dksX0_degreeOf_2_1 0 rfl rfl)
abbrev cX0_factor : ByteArray := prog_1_method_31_code
def yX0_factor : MethodName := ⟨RX0, "factor", "(III)J"⟩
def dkwX0_factor_5 : List UInt8 := [160, 0, 12, 25, 6, 180, 0, 207, 133, 167, 0, 11, 25, 6, 180, 0, 210, 29, 46, 133, 173]
abbrev dktX0_factor_5 : List UInt8 := dkwX0_factor_5 ++ []
def dkwX0_factor_4 : List UInt8 := [192, 0, 122, 58, 6, 29, 16, 254, 160, 0, 12, 25, 6, 180, 0, 127, 133, 167, 0, 26, 29, 16, 253]
abbrev dktX0_factor_4 : List UInt8 := dkwX0_factor_4 ++ dktX0_factor_5
def dkwX0_factor_3 : List UInt8 := [25, 5, 182, 0, 200, 4, 100, 133, 184, 0, 140, 154, 0, 7, 20, 0, 157, 173, 25, 5, 28, 182, 0, 203]
abbrev dktX0_factor_3 : List UInt8 := dkwX0_factor_3 ++ dktX0_factor_4
def dkwX0_factor_2 : List UInt8 := [173, 42, 25, 4, 182, 0, 196, 58, 5, 29, 2, 160, 0, 10, 25, 5, 182, 0, 200, 133, 173, 28, 133, 9]
abbrev dktX0_factor_2 : List UInt8 := dkwX0_factor_2 ++ dktX0_factor_3
def dkwX0_factor_1 : List UInt8 := [173, 42, 42, 180, 0, 49, 27, 50, 182, 0, 192, 58, 4, 25, 4, 184, 0, 96, 156, 0, 7, 20, 0, 157]
abbrev dktX0_factor_1 : List UInt8 := dkwX0_factor_1 ++ dktX0_factor_2
def dkwX0_factor_0 : List UInt8 := [27, 184, 0, 146, 153, 0, 17, 29, 133, 20, 0, 190, 20, 0, 144, 184, 0, 140, 154, 0, 7, 20, 0, 157]
abbrev dktX0_factor_0 : List UInt8 := dkwX0_factor_0 ++ dktX0_factor_1
theorem dksX0_factor_0 : cX0_factor.data.toList.drop 0 = dktX0_factor_0 := by decide +kernel
theorem dksX0_factor_1 : cX0_factor.data.toList.drop 24 = dktX0_factor_1 := dk_seg dksX0_factor_0 24 rfl rfl
theorem dksX0_factor_2 : cX0_factor.data.toList.drop 48 = dktX0_factor_2 := dk_seg dksX0_factor_1 24 rfl rfl
theorem dksX0_factor_3 : cX0_factor.data.toList.drop 72 = dktX0_factor_3 := dk_seg dksX0_factor_2 24 rfl rfl
theorem dksX0_factor_4 : cX0_factor.data.toList.drop 96 = dktX0_factor_4 := dk_seg dksX0_factor_3 24 rfl rfl
theorem dksX0_factor_5 : cX0_factor.data.toList.drop 119 = dktX0_factor_5 := dk_seg dksX0_factor_4 23 rfl rfl
theorem dX0_factor_0 : decode cX0_factor 0 = .ok (.iload_n 1, 1) := dk_27 (dk_at dksX0_factor_0 0 rfl rfl)
theorem dX0_factor_1 : decode cX0_factor 1 = .ok (.invokestatic 146, 3) := dk_184 0 146 (dk_at dksX0_factor_0 1 rfl rfl)
theorem dX0_factor_4 : decode cX0_factor 4 = .ok (.ifCond .eq 17, 3) := dk_153 0 17 (dk_at dksX0_factor_0 4 rfl rfl)
theorem dX0_factor_7 : decode cX0_factor 7 = .ok (.iload_n 3, 1) := dk_29 (dk_at dksX0_factor_0 7 rfl rfl)
theorem dX0_factor_8 : decode cX0_factor 8 = .ok (.i2l, 1) := dk_133 (dk_at dksX0_factor_0 8 rfl rfl)
theorem dX0_factor_9 : decode cX0_factor 9 = .ok (.ldc2_w 190, 3) := dk_20 0 190 (dk_at dksX0_factor_0 9 rfl rfl)
theorem dX0_factor_12 : decode cX0_factor 12 = .ok (.ldc2_w 144, 3) := dk_20 0 144 (dk_at dksX0_factor_0 12 rfl rfl)
theorem dX0_factor_15 : decode cX0_factor 15 = .ok (.invokestatic 140, 3) := dk_184 0 140 (dk_at dksX0_factor_0 15 rfl rfl)
theorem dX0_factor_18 : decode cX0_factor 18 = .ok (.ifCond .ne 7, 3) := dk_154 0 7 (dk_at dksX0_factor_0 18 rfl rfl)
theorem dX0_factor_21 : decode cX0_factor 21 = .ok (.ldc2_w 157, 3) := dk_20 0 157 (dk_at dksX0_factor_0 21 rfl rfl)
theorem dX0_factor_24 : decode cX0_factor 24 = .ok (.lreturn, 1) := dk_173 (dk_at dksX0_factor_1 0 rfl rfl)
theorem dX0_factor_25 : decode cX0_factor 25 = .ok (.aload_n 0, 1) := dk_42 (dk_at dksX0_factor_1 1 rfl rfl)
theorem dX0_factor_26 : decode cX0_factor 26 = .ok (.aload_n 0, 1) := dk_42 (dk_at dksX0_factor_1 2 rfl rfl)
theorem dX0_factor_27 : decode cX0_factor 27 = .ok (.getfield 49, 3) := dk_180 0 49 (dk_at dksX0_factor_1 3 rfl rfl)
theorem dX0_factor_30 : decode cX0_factor 30 = .ok (.iload_n 1, 1) := dk_27 (dk_at dksX0_factor_1 6 rfl rfl)
theorem dX0_factor_31 : decode cX0_factor 31 = .ok (.aaload, 1) := dk_50 (dk_at dksX0_factor_1 7 rfl rfl)
theorem dX0_factor_32 : decode cX0_factor 32 = .ok (.invokevirtual 192, 3) := dk_182 0 192 (dk_at dksX0_factor_1 8 rfl rfl)
theorem dX0_factor_35 : decode cX0_factor 35 = .ok (.astore 4, 2) := dk_58 4 (dk_at dksX0_factor_1 11 rfl rfl)
theorem dX0_factor_37 : decode cX0_factor 37 = .ok (.aload 4, 2) := dk_25 4 (dk_at dksX0_factor_1 13 rfl rfl)
theorem dX0_factor_39 : decode cX0_factor 39 = .ok (.invokestatic 96, 3) := dk_184 0 96 (dk_at dksX0_factor_1 15 rfl rfl)
theorem dX0_factor_42 : decode cX0_factor 42 = .ok (.ifCond .ge 7, 3) := dk_156 0 7 (dk_at dksX0_factor_1 18 rfl rfl)
theorem dX0_factor_45 : decode cX0_factor 45 = .ok (.ldc2_w 157, 3) := dk_20 0 157 (dk_at dksX0_factor_1 21 rfl rfl)
theorem dX0_factor_48 : decode cX0_factor 48 = .ok (.lreturn, 1) := dk_173 (dk_at dksX0_factor_2 0 rfl rfl)
theorem dX0_factor_49 : decode cX0_factor 49 = .ok (.aload_n 0, 1) := dk_42 (dk_at dksX0_factor_2 1 rfl rfl)
theorem dX0_factor_50 : decode cX0_factor 50 = .ok (.aload 4, 2) := dk_25 4 (dk_at dksX0_factor_2 2 rfl rfl)
theorem dX0_factor_52 : decode cX0_factor 52 = .ok (.invokevirtual 196, 3) := dk_182 0 196 (dk_at dksX0_factor_2 4 rfl rfl)
theorem dX0_factor_55 : decode cX0_factor 55 = .ok (.astore 5, 2) := dk_58 5 (dk_at dksX0_factor_2 7 rfl rfl)
theorem dX0_factor_57 : decode cX0_factor 57 = .ok (.iload_n 3, 1) := dk_29 (dk_at dksX0_factor_2 9 rfl rfl)
theorem dX0_factor_58 : decode cX0_factor 58 = .ok (.iconst (-1), 1) := dk_2 (dk_at dksX0_factor_2 10 rfl rfl)
theorem dX0_factor_59 : decode cX0_factor 59 = .ok (.if_icmp .ne 10, 3) := dk_160 0 10 (dk_at dksX0_factor_2 11 rfl rfl)
theorem dX0_factor_62 : decode cX0_factor 62 = .ok (.aload 5, 2) := dk_25 5 (dk_at dksX0_factor_2 14 rfl rfl)
theorem dX0_factor_64 : decode cX0_factor 64 = .ok (.invokevirtual 200, 3) := dk_182 0 200 (dk_at dksX0_factor_2 16 rfl rfl)
theorem dX0_factor_67 : decode cX0_factor 67 = .ok (.i2l, 1) := dk_133 (dk_at dksX0_factor_2 19 rfl rfl)
theorem dX0_factor_68 : decode cX0_factor 68 = .ok (.lreturn, 1) := dk_173 (dk_at dksX0_factor_2 20 rfl rfl)
theorem dX0_factor_69 : decode cX0_factor 69 = .ok (.iload_n 2, 1) := dk_28 (dk_at dksX0_factor_2 21 rfl rfl)
theorem dX0_factor_70 : decode cX0_factor 70 = .ok (.i2l, 1) := dk_133 (dk_at dksX0_factor_2 22 rfl rfl)
theorem dX0_factor_71 : decode cX0_factor 71 = .ok (.lconst 0, 1) := dk_9 (dk_at dksX0_factor_2 23 rfl rfl)
theorem dX0_factor_72 : decode cX0_factor 72 = .ok (.aload 5, 2) := dk_25 5 (dk_at dksX0_factor_3 0 rfl rfl)
theorem dX0_factor_74 : decode cX0_factor 74 = .ok (.invokevirtual 200, 3) := dk_182 0 200 (dk_at dksX0_factor_3 2 rfl rfl)
theorem dX0_factor_77 : decode cX0_factor 77 = .ok (.iconst 1, 1) := dk_4 (dk_at dksX0_factor_3 5 rfl rfl)
theorem dX0_factor_78 : decode cX0_factor 78 = .ok (.isub, 1) := dk_100 (dk_at dksX0_factor_3 6 rfl rfl)
theorem dX0_factor_79 : decode cX0_factor 79 = .ok (.i2l, 1) := dk_133 (dk_at dksX0_factor_3 7 rfl rfl)
theorem dX0_factor_80 : decode cX0_factor 80 = .ok (.invokestatic 140, 3) := dk_184 0 140 (dk_at dksX0_factor_3 8 rfl rfl)
theorem dX0_factor_83 : decode cX0_factor 83 = .ok (.ifCond .ne 7, 3) := dk_154 0 7 (dk_at dksX0_factor_3 11 rfl rfl)
theorem dX0_factor_86 : decode cX0_factor 86 = .ok (.ldc2_w 157, 3) := dk_20 0 157 (dk_at dksX0_factor_3 14 rfl rfl)
theorem dX0_factor_89 : decode cX0_factor 89 = .ok (.lreturn, 1) := dk_173 (dk_at dksX0_factor_3 17 rfl rfl)
theorem dX0_factor_90 : decode cX0_factor 90 = .ok (.aload 5, 2) := dk_25 5 (dk_at dksX0_factor_3 18 rfl rfl)
theorem dX0_factor_92 : decode cX0_factor 92 = .ok (.iload_n 2, 1) := dk_28 (dk_at dksX0_factor_3 20 rfl rfl)
theorem dX0_factor_93 : decode cX0_factor 93 = .ok (.invokevirtual 203, 3) := dk_182 0 203 (dk_at dksX0_factor_3 21 rfl rfl)
theorem dX0_factor_96 : decode cX0_factor 96 = .ok (.checkcast 122, 3) := dk_192 0 122 (dk_at dksX0_factor_4 0 rfl rfl)
theorem dX0_factor_99 : decode cX0_factor 99 = .ok (.astore 6, 2) := dk_58 6 (dk_at dksX0_factor_4 3 rfl rfl)
theorem dX0_factor_101 : decode cX0_factor 101 = .ok (.iload_n 3, 1) := dk_29 (dk_at dksX0_factor_4 5 rfl rfl)
theorem dX0_factor_102 : decode cX0_factor 102 = .ok (.bipush (-2), 2) := dk_16 254 (dk_at dksX0_factor_4 6 rfl rfl)
theorem dX0_factor_104 : decode cX0_factor 104 = .ok (.if_icmp .ne 12, 3) := dk_160 0 12 (dk_at dksX0_factor_4 8 rfl rfl)
theorem dX0_factor_107 : decode cX0_factor 107 = .ok (.aload 6, 2) := dk_25 6 (dk_at dksX0_factor_4 11 rfl rfl)
theorem dX0_factor_109 : decode cX0_factor 109 = .ok (.getfield 127, 3) := dk_180 0 127 (dk_at dksX0_factor_4 13 rfl rfl)
theorem dX0_factor_112 : decode cX0_factor 112 = .ok (.i2l, 1) := dk_133 (dk_at dksX0_factor_4 16 rfl rfl)
theorem dX0_factor_113 : decode cX0_factor 113 = .ok (.goto 26, 3) := dk_167 0 26 (dk_at dksX0_factor_4 17 rfl rfl)
theorem dX0_factor_116 : decode cX0_factor 116 = .ok (.iload_n 3, 1) := dk_29 (dk_at dksX0_factor_4 20 rfl rfl)
theorem dX0_factor_117 : decode cX0_factor 117 = .ok (.bipush (-3), 2) := dk_16 253 (dk_at dksX0_factor_4 21 rfl rfl)
theorem dX0_factor_119 : decode cX0_factor 119 = .ok (.if_icmp .ne 12, 3) := dk_160 0 12 (dk_at dksX0_factor_5 0 rfl rfl)
theorem dX0_factor_122 : decode cX0_factor 122 = .ok (.aload 6, 2) := dk_25 6 (dk_at dksX0_factor_5 3 rfl rfl)
theorem dX0_factor_124 : decode cX0_factor 124 = .ok (.getfield 207, 3) := dk_180 0 207 (dk_at dksX0_factor_5 5 rfl rfl)
theorem dX0_factor_127 : decode cX0_factor 127 = .ok (.i2l, 1) := dk_133 (dk_at dksX0_factor_5 8 rfl rfl)
theorem dX0_factor_128 : decode cX0_factor 128 = .ok (.goto 11, 3) := dk_167 0 11 (dk_at dksX0_factor_5 9 rfl rfl)
theorem dX0_factor_131 : decode cX0_factor 131 = .ok (.aload 6, 2) := dk_25 6 (dk_at dksX0_factor_5 12 rfl rfl)
theorem dX0_factor_133 : decode cX0_factor 133 = .ok (.getfield 210, 3) := dk_180 0 210 (dk_at dksX0_factor_5 14 rfl rfl)
theorem dX0_factor_136 : decode cX0_factor 136 = .ok (.iload_n 3, 1) := dk_29 (dk_at dksX0_factor_5 17 rfl rfl)
theorem dX0_factor_137 : decode cX0_factor 137 = .ok (.iaload, 1) := dk_46 (dk_at dksX0_factor_5 18 rfl rfl)
theorem dX0_factor_138 : decode cX0_factor 138 = .ok (.i2l, 1) := dk_133 (dk_at dksX0_factor_5 19 rfl rfl)
theorem dX0_factor_139 : decode cX0_factor 139 = .ok (.lreturn, 1) := dk_173 (dk_at dksX0_factor_5 20 rfl rfl)
abbrev cX0_inResidues : ByteArray := prog_1_method_30_code
def yX0_inResidues : MethodName := ⟨RX0, "inResidues", "([I)[I"⟩
def dkwX0_inResidues_1 : List UInt8 := [184, 0, 99, 79, 132, 3, 1, 167, 255, 234, 44, 176]
abbrev dktX0_inResidues_1 : List UInt8 := dkwX0_inResidues_1 ++ []
def dkwX0_inResidues_0 : List UInt8 := [16, 9, 188, 10, 77, 3, 62, 29, 16, 9, 162, 0, 22, 44, 29, 43, 29, 46, 42, 180, 0, 9]
abbrev dktX0_inResidues_0 : List UInt8 := dkwX0_inResidues_0 ++ dktX0_inResidues_1
theorem dksX0_inResidues_0 : cX0_inResidues.data.toList.drop 0 = dktX0_inResidues_0 := by decide +kernel
theorem dksX0_inResidues_1 : cX0_inResidues.data.toList.drop 22 = dktX0_inResidues_1 := dk_seg dksX0_inResidues_0 22 rfl rfl
theorem dX0_inResidues_0 : decode cX0_inResidues 0 = .ok (.bipush 9, 2) := dk_16 9 (dk_at dksX0_inResidues_0 0 rfl rfl)
theorem dX0_inResidues_2 : decode cX0_inResidues 2 = .ok (.newarray .int, 2) := dk_188_10 (dk_at dksX0_inResidues_0 2 rfl rfl)
theorem dX0_inResidues_4 : decode cX0_inResidues 4 = .ok (.astore_n 2, 1) := dk_77 (dk_at dksX0_inResidues_0 4 rfl rfl)
theorem dX0_inResidues_5 : decode cX0_inResidues 5 = .ok (.iconst 0, 1) := dk_3 (dk_at dksX0_inResidues_0 5 rfl rfl)
theorem dX0_inResidues_6 : decode cX0_inResidues 6 = .ok (.istore_n 3, 1) := dk_62 (dk_at dksX0_inResidues_0 6 rfl rfl)
theorem dX0_inResidues_7 : decode cX0_inResidues 7 = .ok (.iload_n 3, 1) := dk_29 (dk_at dksX0_inResidues_0 7 rfl rfl)
theorem dX0_inResidues_8 : decode cX0_inResidues 8 = .ok (.bipush 9, 2) := dk_16 9 (dk_at dksX0_inResidues_0 8 rfl rfl)
theorem dX0_inResidues_10 : decode cX0_inResidues 10 = .ok (.if_icmp .ge 22, 3) := dk_162 0 22 (dk_at dksX0_inResidues_0 10 rfl rfl)
theorem dX0_inResidues_13 : decode cX0_inResidues 13 = .ok (.aload_n 2, 1) := dk_44 (dk_at dksX0_inResidues_0 13 rfl rfl)
theorem dX0_inResidues_14 : decode cX0_inResidues 14 = .ok (.iload_n 3, 1) := dk_29 (dk_at dksX0_inResidues_0 14 rfl rfl)
theorem dX0_inResidues_15 : decode cX0_inResidues 15 = .ok (.aload_n 1, 1) := dk_43 (dk_at dksX0_inResidues_0 15 rfl rfl)
theorem dX0_inResidues_16 : decode cX0_inResidues 16 = .ok (.iload_n 3, 1) := dk_29 (dk_at dksX0_inResidues_0 16 rfl rfl)
theorem dX0_inResidues_17 : decode cX0_inResidues 17 = .ok (.iaload, 1) := dk_46 (dk_at dksX0_inResidues_0 17 rfl rfl)
theorem dX0_inResidues_18 : decode cX0_inResidues 18 = .ok (.aload_n 0, 1) := dk_42 (dk_at dksX0_inResidues_0 18 rfl rfl)
theorem dX0_inResidues_19 : decode cX0_inResidues 19 = .ok (.getfield 9, 3) := dk_180 0 9 (dk_at dksX0_inResidues_0 19 rfl rfl)
theorem dX0_inResidues_22 : decode cX0_inResidues 22 = .ok (.invokestatic 99, 3) := dk_184 0 99 (dk_at dksX0_inResidues_1 0 rfl rfl)
theorem dX0_inResidues_25 : decode cX0_inResidues 25 = .ok (.iastore, 1) := dk_79 (dk_at dksX0_inResidues_1 3 rfl rfl)
theorem dX0_inResidues_26 : decode cX0_inResidues 26 = .ok (.iinc 3 1, 3) := dk_132 3 1 (dk_at dksX0_inResidues_1 4 rfl rfl)
theorem dX0_inResidues_29 : decode cX0_inResidues 29 = .ok (.goto (-22), 3) := dk_167 255 234 (dk_at dksX0_inResidues_1 7 rfl rfl)
theorem dX0_inResidues_32 : decode cX0_inResidues 32 = .ok (.aload_n 2, 1) := dk_44 (dk_at dksX0_inResidues_1 10 rfl rfl)
theorem dX0_inResidues_33 : decode cX0_inResidues 33 = .ok (.areturn, 1) := dk_176 (dk_at dksX0_inResidues_1 11 rfl rfl)
abbrev cX0_factorsOf : ByteArray := prog_1_method_15_code
def yX0_factorsOf : MethodName := ⟨RX0, "factorsOf", "([I)Ljava/util/ArrayList;"⟩
def dkwX0_factorsOf_6 : List UInt8 := [132, 6, 1, 167, 255, 182, 132, 4, 1, 167, 255, 129, 44, 176]
abbrev dktX0_factorsOf_6 : List UInt8 := dkwX0_factorsOf_6 ++ []
def dkwX0_factorsOf_5 : List UInt8 := [21, 7, 181, 0, 127, 44, 25, 8, 182, 0, 114, 87, 45, 184, 0, 96, 157, 0, 6, 167, 0, 15]
abbrev dktX0_factorsOf_5 : List UInt8 := dkwX0_factorsOf_5 ++ dktX0_factorsOf_6
def dkwX0_factorsOf_4 : List UInt8 := [187, 0, 122, 89, 42, 180, 0, 37, 182, 0, 105, 192, 0, 106, 21, 4, 183, 0, 124, 58, 8, 25, 8]
abbrev dktX0_factorsOf_4 : List UInt8 := dkwX0_factorsOf_4 ++ dktX0_factorsOf_5
def dkwX0_factorsOf_3 : List UInt8 := [162, 0, 73, 42, 21, 6, 21, 4, 45, 182, 0, 118, 54, 7, 21, 7, 154, 0, 6, 167, 0, 48]
abbrev dktX0_factorsOf_3 : List UInt8 := dkwX0_factorsOf_3 ++ dktX0_factorsOf_4
def dkwX0_factorsOf_2 : List UInt8 := [167, 0, 102, 42, 180, 0, 9, 133, 21, 4, 184, 0, 17, 136, 54, 5, 3, 54, 6, 21, 6, 21, 5]
abbrev dktX0_factorsOf_2 : List UInt8 := dkwX0_factorsOf_2 ++ dktX0_factorsOf_3
def dkwX0_factorsOf_1 : List UInt8 := [158, 0, 126, 5, 21, 4, 104, 45, 184, 0, 96, 164, 0, 16, 44, 42, 45, 182, 0, 110, 182, 0, 114, 87]
abbrev dktX0_factorsOf_1 : List UInt8 := dkwX0_factorsOf_1 ++ dktX0_factorsOf_2
def dkwX0_factorsOf_0 : List UInt8 := [187, 0, 102, 89, 183, 0, 104, 77, 43, 182, 0, 105, 192, 0, 106, 78, 4, 54, 4, 45, 184, 0, 96]
abbrev dktX0_factorsOf_0 : List UInt8 := dkwX0_factorsOf_0 ++ dktX0_factorsOf_1
theorem dksX0_factorsOf_0 : cX0_factorsOf.data.toList.drop 0 = dktX0_factorsOf_0 := by decide +kernel
theorem dksX0_factorsOf_1 : cX0_factorsOf.data.toList.drop 23 = dktX0_factorsOf_1 := dk_seg dksX0_factorsOf_0 23 rfl rfl
theorem dksX0_factorsOf_2 : cX0_factorsOf.data.toList.drop 47 = dktX0_factorsOf_2 := dk_seg dksX0_factorsOf_1 24 rfl rfl
theorem dksX0_factorsOf_3 : cX0_factorsOf.data.toList.drop 70 = dktX0_factorsOf_3 := dk_seg dksX0_factorsOf_2 23 rfl rfl
theorem dksX0_factorsOf_4 : cX0_factorsOf.data.toList.drop 92 = dktX0_factorsOf_4 := dk_seg dksX0_factorsOf_3 22 rfl rfl
theorem dksX0_factorsOf_5 : cX0_factorsOf.data.toList.drop 115 = dktX0_factorsOf_5 := dk_seg dksX0_factorsOf_4 23 rfl rfl
theorem dksX0_factorsOf_6 : cX0_factorsOf.data.toList.drop 137 = dktX0_factorsOf_6 := dk_seg dksX0_factorsOf_5 22 rfl rfl
theorem dX0_factorsOf_0 : decode cX0_factorsOf 0 = .ok (.new 102, 3) := dk_187 0 102 (dk_at dksX0_factorsOf_0 0 rfl rfl)
theorem dX0_factorsOf_3 : decode cX0_factorsOf 3 = .ok (.dup, 1) := dk_89 (dk_at dksX0_factorsOf_0 3 rfl rfl)
theorem dX0_factorsOf_4 : decode cX0_factorsOf 4 = .ok (.invokespecial 104, 3) := dk_183 0 104 (dk_at dksX0_factorsOf_0 4 rfl rfl)
theorem dX0_factorsOf_7 : decode cX0_factorsOf 7 = .ok (.astore_n 2, 1) := dk_77 (dk_at dksX0_factorsOf_0 7 rfl rfl)
theorem dX0_factorsOf_8 : decode cX0_factorsOf 8 = .ok (.aload_n 1, 1) := dk_43 (dk_at dksX0_factorsOf_0 8 rfl rfl)
theorem dX0_factorsOf_9 : decode cX0_factorsOf 9 = .ok (.invokevirtual 105, 3) := dk_182 0 105 (dk_at dksX0_factorsOf_0 9 rfl rfl)
theorem dX0_factorsOf_12 : decode cX0_factorsOf 12 = .ok (.checkcast 106, 3) := dk_192 0 106 (dk_at dksX0_factorsOf_0 12 rfl rfl)
theorem dX0_factorsOf_15 : decode cX0_factorsOf 15 = .ok (.astore_n 3, 1) := dk_78 (dk_at dksX0_factorsOf_0 15 rfl rfl)
theorem dX0_factorsOf_16 : decode cX0_factorsOf 16 = .ok (.iconst 1, 1) := dk_4 (dk_at dksX0_factorsOf_0 16 rfl rfl)
theorem dX0_factorsOf_17 : decode cX0_factorsOf 17 = .ok (.istore 4, 2) := dk_54 4 (dk_at dksX0_factorsOf_0 17 rfl rfl)
theorem dX0_factorsOf_19 : decode cX0_factorsOf 19 = .ok (.aload_n 3, 1) := dk_45 (dk_at dksX0_factorsOf_0 19 rfl rfl)
theorem dX0_factorsOf_20 : decode cX0_factorsOf 20 = .ok (.invokestatic 96, 3) := dk_184 0 96 (dk_at dksX0_factorsOf_0 20 rfl rfl)
theorem dX0_factorsOf_23 : decode cX0_factorsOf 23 = .ok (.ifCond .le 126, 3) := dk_158 0 126 (dk_at dksX0_factorsOf_1 0 rfl rfl)
theorem dX0_factorsOf_26 : decode cX0_factorsOf 26 = .ok (.iconst 2, 1) := dk_5 (dk_at dksX0_factorsOf_1 3 rfl rfl)
theorem dX0_factorsOf_27 : decode cX0_factorsOf 27 = .ok (.iload 4, 2) := dk_21 4 (dk_at dksX0_factorsOf_1 4 rfl rfl)
theorem dX0_factorsOf_29 : decode cX0_factorsOf 29 = .ok (.imul, 1) := dk_104 (dk_at dksX0_factorsOf_1 6 rfl rfl)
theorem dX0_factorsOf_30 : decode cX0_factorsOf 30 = .ok (.aload_n 3, 1) := dk_45 (dk_at dksX0_factorsOf_1 7 rfl rfl)
theorem dX0_factorsOf_31 : decode cX0_factorsOf 31 = .ok (.invokestatic 96, 3) := dk_184 0 96 (dk_at dksX0_factorsOf_1 8 rfl rfl)
theorem dX0_factorsOf_34 : decode cX0_factorsOf 34 = .ok (.if_icmp .le 16, 3) := dk_164 0 16 (dk_at dksX0_factorsOf_1 11 rfl rfl)
theorem dX0_factorsOf_37 : decode cX0_factorsOf 37 = .ok (.aload_n 2, 1) := dk_44 (dk_at dksX0_factorsOf_1 14 rfl rfl)
theorem dX0_factorsOf_38 : decode cX0_factorsOf 38 = .ok (.aload_n 0, 1) := dk_42 (dk_at dksX0_factorsOf_1 15 rfl rfl)
theorem dX0_factorsOf_39 : decode cX0_factorsOf 39 = .ok (.aload_n 3, 1) := dk_45 (dk_at dksX0_factorsOf_1 16 rfl rfl)
theorem dX0_factorsOf_40 : decode cX0_factorsOf 40 = .ok (.invokevirtual 110, 3) := dk_182 0 110 (dk_at dksX0_factorsOf_1 17 rfl rfl)
theorem dX0_factorsOf_43 : decode cX0_factorsOf 43 = .ok (.invokevirtual 114, 3) := dk_182 0 114 (dk_at dksX0_factorsOf_1 20 rfl rfl)
theorem dX0_factorsOf_46 : decode cX0_factorsOf 46 = .ok (.pop, 1) := dk_87 (dk_at dksX0_factorsOf_1 23 rfl rfl)
theorem dX0_factorsOf_47 : decode cX0_factorsOf 47 = .ok (.goto 102, 3) := dk_167 0 102 (dk_at dksX0_factorsOf_2 0 rfl rfl)
theorem dX0_factorsOf_50 : decode cX0_factorsOf 50 = .ok (.aload_n 0, 1) := dk_42 (dk_at dksX0_factorsOf_2 3 rfl rfl)
theorem dX0_factorsOf_51 : decode cX0_factorsOf 51 = .ok (.getfield 9, 3) := dk_180 0 9 (dk_at dksX0_factorsOf_2 4 rfl rfl)
theorem dX0_factorsOf_54 : decode cX0_factorsOf 54 = .ok (.i2l, 1) := dk_133 (dk_at dksX0_factorsOf_2 7 rfl rfl)
theorem dX0_factorsOf_55 : decode cX0_factorsOf 55 = .ok (.iload 4, 2) := dk_21 4 (dk_at dksX0_factorsOf_2 8 rfl rfl)
theorem dX0_factorsOf_57 : decode cX0_factorsOf 57 = .ok (.invokestatic 17, 3) := dk_184 0 17 (dk_at dksX0_factorsOf_2 10 rfl rfl)
theorem dX0_factorsOf_60 : decode cX0_factorsOf 60 = .ok (.l2i, 1) := dk_136 (dk_at dksX0_factorsOf_2 13 rfl rfl)
theorem dX0_factorsOf_61 : decode cX0_factorsOf 61 = .ok (.istore 5, 2) := dk_54 5 (dk_at dksX0_factorsOf_2 14 rfl rfl)
theorem dX0_factorsOf_63 : decode cX0_factorsOf 63 = .ok (.iconst 0, 1) := dk_3 (dk_at dksX0_factorsOf_2 16 rfl rfl)
theorem dX0_factorsOf_64 : decode cX0_factorsOf 64 = .ok (.istore 6, 2) := dk_54 6 (dk_at dksX0_factorsOf_2 17 rfl rfl)
theorem dX0_factorsOf_66 : decode cX0_factorsOf 66 = .ok (.iload 6, 2) := dk_21 6 (dk_at dksX0_factorsOf_2 19 rfl rfl)
theorem dX0_factorsOf_68 : decode cX0_factorsOf 68 = .ok (.iload 5, 2) := dk_21 5 (dk_at dksX0_factorsOf_2 21 rfl rfl)
theorem dX0_factorsOf_70 : decode cX0_factorsOf 70 = .ok (.if_icmp .ge 73, 3) := dk_162 0 73 (dk_at dksX0_factorsOf_3 0 rfl rfl)
theorem dX0_factorsOf_73 : decode cX0_factorsOf 73 = .ok (.aload_n 0, 1) := dk_42 (dk_at dksX0_factorsOf_3 3 rfl rfl)
theorem dX0_factorsOf_74 : decode cX0_factorsOf 74 = .ok (.iload 6, 2) := dk_21 6 (dk_at dksX0_factorsOf_3 4 rfl rfl)
theorem dX0_factorsOf_76 : decode cX0_factorsOf 76 = .ok (.iload 4, 2) := dk_21 4 (dk_at dksX0_factorsOf_3 6 rfl rfl)
theorem dX0_factorsOf_78 : decode cX0_factorsOf 78 = .ok (.aload_n 3, 1) := dk_45 (dk_at dksX0_factorsOf_3 8 rfl rfl)
theorem dX0_factorsOf_79 : decode cX0_factorsOf 79 = .ok (.invokevirtual 118, 3) := dk_182 0 118 (dk_at dksX0_factorsOf_3 9 rfl rfl)
theorem dX0_factorsOf_82 : decode cX0_factorsOf 82 = .ok (.istore 7, 2) := dk_54 7 (dk_at dksX0_factorsOf_3 12 rfl rfl)
theorem dX0_factorsOf_84 : decode cX0_factorsOf 84 = .ok (.iload 7, 2) := dk_21 7 (dk_at dksX0_factorsOf_3 14 rfl rfl)
theorem dX0_factorsOf_86 : decode cX0_factorsOf 86 = .ok (.ifCond .ne 6, 3) := dk_154 0 6 (dk_at dksX0_factorsOf_3 16 rfl rfl)
theorem dX0_factorsOf_89 : decode cX0_factorsOf 89 = .ok (.goto 48, 3) := dk_167 0 48 (dk_at dksX0_factorsOf_3 19 rfl rfl)
theorem dX0_factorsOf_92 : decode cX0_factorsOf 92 = .ok (.new 122, 3) := dk_187 0 122 (dk_at dksX0_factorsOf_4 0 rfl rfl)
theorem dX0_factorsOf_95 : decode cX0_factorsOf 95 = .ok (.dup, 1) := dk_89 (dk_at dksX0_factorsOf_4 3 rfl rfl)
theorem dX0_factorsOf_96 : decode cX0_factorsOf 96 = .ok (.aload_n 0, 1) := dk_42 (dk_at dksX0_factorsOf_4 4 rfl rfl)
theorem dX0_factorsOf_97 : decode cX0_factorsOf 97 = .ok (.getfield 37, 3) := dk_180 0 37 (dk_at dksX0_factorsOf_4 5 rfl rfl)
theorem dX0_factorsOf_100 : decode cX0_factorsOf 100 = .ok (.invokevirtual 105, 3) := dk_182 0 105 (dk_at dksX0_factorsOf_4 8 rfl rfl)
theorem dX0_factorsOf_103 : decode cX0_factorsOf 103 = .ok (.checkcast 106, 3) := dk_192 0 106 (dk_at dksX0_factorsOf_4 11 rfl rfl)
theorem dX0_factorsOf_106 : decode cX0_factorsOf 106 = .ok (.iload 4, 2) := dk_21 4 (dk_at dksX0_factorsOf_4 14 rfl rfl)
theorem dX0_factorsOf_108 : decode cX0_factorsOf 108 = .ok (.invokespecial 124, 3) := dk_183 0 124 (dk_at dksX0_factorsOf_4 16 rfl rfl)
theorem dX0_factorsOf_111 : decode cX0_factorsOf 111 = .ok (.astore 8, 2) := dk_58 8 (dk_at dksX0_factorsOf_4 19 rfl rfl)
theorem dX0_factorsOf_113 : decode cX0_factorsOf 113 = .ok (.aload 8, 2) := dk_25 8 (dk_at dksX0_factorsOf_4 21 rfl rfl)
theorem dX0_factorsOf_115 : decode cX0_factorsOf 115 = .ok (.iload 7, 2) := dk_21 7 (dk_at dksX0_factorsOf_5 0 rfl rfl)
theorem dX0_factorsOf_117 : decode cX0_factorsOf 117 = .ok (.putfield 127, 3) := dk_181 0 127 (dk_at dksX0_factorsOf_5 2 rfl rfl)
theorem dX0_factorsOf_120 : decode cX0_factorsOf 120 = .ok (.aload_n 2, 1) := dk_44 (dk_at dksX0_factorsOf_5 5 rfl rfl)
theorem dX0_factorsOf_121 : decode cX0_factorsOf 121 = .ok (.aload 8, 2) := dk_25 8 (dk_at dksX0_factorsOf_5 6 rfl rfl)
theorem dX0_factorsOf_123 : decode cX0_factorsOf 123 = .ok (.invokevirtual 114, 3) := dk_182 0 114 (dk_at dksX0_factorsOf_5 8 rfl rfl)
theorem dX0_factorsOf_126 : decode cX0_factorsOf 126 = .ok (.pop, 1) := dk_87 (dk_at dksX0_factorsOf_5 11 rfl rfl)
theorem dX0_factorsOf_127 : decode cX0_factorsOf 127 = .ok (.aload_n 3, 1) := dk_45 (dk_at dksX0_factorsOf_5 12 rfl rfl)
theorem dX0_factorsOf_128 : decode cX0_factorsOf 128 = .ok (.invokestatic 96, 3) := dk_184 0 96 (dk_at dksX0_factorsOf_5 13 rfl rfl)
theorem dX0_factorsOf_131 : decode cX0_factorsOf 131 = .ok (.ifCond .gt 6, 3) := dk_157 0 6 (dk_at dksX0_factorsOf_5 16 rfl rfl)
theorem dX0_factorsOf_134 : decode cX0_factorsOf 134 = .ok (.goto 15, 3) := dk_167 0 15 (dk_at dksX0_factorsOf_5 19 rfl rfl)
theorem dX0_factorsOf_137 : decode cX0_factorsOf 137 = .ok (.iinc 6 1, 3) := dk_132 6 1 (dk_at dksX0_factorsOf_6 0 rfl rfl)
theorem dX0_factorsOf_140 : decode cX0_factorsOf 140 = .ok (.goto (-74), 3) := dk_167 255 182 (dk_at dksX0_factorsOf_6 3 rfl rfl)
theorem dX0_factorsOf_143 : decode cX0_factorsOf 143 = .ok (.iinc 4 1, 3) := dk_132 4 1 (dk_at dksX0_factorsOf_6 6 rfl rfl)
theorem dX0_factorsOf_146 : decode cX0_factorsOf 146 = .ok (.goto (-127), 3) := dk_167 255 129 (dk_at dksX0_factorsOf_6 9 rfl rfl)
theorem dX0_factorsOf_149 : decode cX0_factorsOf 149 = .ok (.aload_n 2, 1) := dk_44 (dk_at dksX0_factorsOf_6 12 rfl rfl)
theorem dX0_factorsOf_150 : decode cX0_factorsOf 150 = .ok (.areturn, 1) := dk_176 (dk_at dksX0_factorsOf_6 13 rfl rfl)
abbrev cX0_last : ByteArray := prog_1_method_17_code
def yX0_last : MethodName := ⟨RX0, "last", "([I)LTypesAtPrime$Factor;"⟩
def dkwX0_last_2 : List UInt8 := [167, 255, 231, 187, 0, 122, 89, 25, 4, 28, 183, 0, 124, 58, 5, 25, 5, 4, 181, 0, 127, 25, 5, 176]
abbrev dktX0_last_2 : List UInt8 := dkwX0_last_2 ++ []
def dkwX0_last_1 : List UInt8 := [28, 163, 0, 25, 25, 4, 21, 5, 43, 21, 5, 46, 29, 104, 42, 180, 0, 9, 112, 79, 132, 5, 1]
abbrev dktX0_last_1 : List UInt8 := dkwX0_last_1 ++ dktX0_last_2
def dkwX0_last_0 : List UInt8 := [43, 184, 0, 96, 61, 42, 43, 28, 46, 182, 0, 134, 62, 16, 9, 188, 10, 58, 4, 3, 54, 5, 21, 5]
abbrev dktX0_last_0 : List UInt8 := dkwX0_last_0 ++ dktX0_last_1
theorem dksX0_last_0 : cX0_last.data.toList.drop 0 = dktX0_last_0 := by decide +kernel
theorem dksX0_last_1 : cX0_last.data.toList.drop 24 = dktX0_last_1 := dk_seg dksX0_last_0 24 rfl rfl
theorem dksX0_last_2 : cX0_last.data.toList.drop 47 = dktX0_last_2 := dk_seg dksX0_last_1 23 rfl rfl
theorem dX0_last_0 : decode cX0_last 0 = .ok (.aload_n 1, 1) := dk_43 (dk_at dksX0_last_0 0 rfl rfl)
theorem dX0_last_1 : decode cX0_last 1 = .ok (.invokestatic 96, 3) := dk_184 0 96 (dk_at dksX0_last_0 1 rfl rfl)
theorem dX0_last_4 : decode cX0_last 4 = .ok (.istore_n 2, 1) := dk_61 (dk_at dksX0_last_0 4 rfl rfl)
theorem dX0_last_5 : decode cX0_last 5 = .ok (.aload_n 0, 1) := dk_42 (dk_at dksX0_last_0 5 rfl rfl)
theorem dX0_last_6 : decode cX0_last 6 = .ok (.aload_n 1, 1) := dk_43 (dk_at dksX0_last_0 6 rfl rfl)
theorem dX0_last_7 : decode cX0_last 7 = .ok (.iload_n 2, 1) := dk_28 (dk_at dksX0_last_0 7 rfl rfl)
theorem dX0_last_8 : decode cX0_last 8 = .ok (.iaload, 1) := dk_46 (dk_at dksX0_last_0 8 rfl rfl)
theorem dX0_last_9 : decode cX0_last 9 = .ok (.invokevirtual 134, 3) := dk_182 0 134 (dk_at dksX0_last_0 9 rfl rfl)
theorem dX0_last_12 : decode cX0_last 12 = .ok (.istore_n 3, 1) := dk_62 (dk_at dksX0_last_0 12 rfl rfl)
theorem dX0_last_13 : decode cX0_last 13 = .ok (.bipush 9, 2) := dk_16 9 (dk_at dksX0_last_0 13 rfl rfl)
theorem dX0_last_15 : decode cX0_last 15 = .ok (.newarray .int, 2) := dk_188_10 (dk_at dksX0_last_0 15 rfl rfl)
theorem dX0_last_17 : decode cX0_last 17 = .ok (.astore 4, 2) := dk_58 4 (dk_at dksX0_last_0 17 rfl rfl)
theorem dX0_last_19 : decode cX0_last 19 = .ok (.iconst 0, 1) := dk_3 (dk_at dksX0_last_0 19 rfl rfl)
theorem dX0_last_20 : decode cX0_last 20 = .ok (.istore 5, 2) := dk_54 5 (dk_at dksX0_last_0 20 rfl rfl)
theorem dX0_last_22 : decode cX0_last 22 = .ok (.iload 5, 2) := dk_21 5 (dk_at dksX0_last_0 22 rfl rfl)
theorem dX0_last_24 : decode cX0_last 24 = .ok (.iload_n 2, 1) := dk_28 (dk_at dksX0_last_1 0 rfl rfl)
theorem dX0_last_25 : decode cX0_last 25 = .ok (.if_icmp .gt 25, 3) := dk_163 0 25 (dk_at dksX0_last_1 1 rfl rfl)
theorem dX0_last_28 : decode cX0_last 28 = .ok (.aload 4, 2) := dk_25 4 (dk_at dksX0_last_1 4 rfl rfl)
theorem dX0_last_30 : decode cX0_last 30 = .ok (.iload 5, 2) := dk_21 5 (dk_at dksX0_last_1 6 rfl rfl)
theorem dX0_last_32 : decode cX0_last 32 = .ok (.aload_n 1, 1) := dk_43 (dk_at dksX0_last_1 8 rfl rfl)
theorem dX0_last_33 : decode cX0_last 33 = .ok (.iload 5, 2) := dk_21 5 (dk_at dksX0_last_1 9 rfl rfl)
theorem dX0_last_35 : decode cX0_last 35 = .ok (.iaload, 1) := dk_46 (dk_at dksX0_last_1 11 rfl rfl)
theorem dX0_last_36 : decode cX0_last 36 = .ok (.iload_n 3, 1) := dk_29 (dk_at dksX0_last_1 12 rfl rfl)
theorem dX0_last_37 : decode cX0_last 37 = .ok (.imul, 1) := dk_104 (dk_at dksX0_last_1 13 rfl rfl)
theorem dX0_last_38 : decode cX0_last 38 = .ok (.aload_n 0, 1) := dk_42 (dk_at dksX0_last_1 14 rfl rfl)
theorem dX0_last_39 : decode cX0_last 39 = .ok (.getfield 9, 3) := dk_180 0 9 (dk_at dksX0_last_1 15 rfl rfl)
theorem dX0_last_42 : decode cX0_last 42 = .ok (.irem, 1) := dk_112 (dk_at dksX0_last_1 18 rfl rfl)
theorem dX0_last_43 : decode cX0_last 43 = .ok (.iastore, 1) := dk_79 (dk_at dksX0_last_1 19 rfl rfl)
theorem dX0_last_44 : decode cX0_last 44 = .ok (.iinc 5 1, 3) := dk_132 5 1 (dk_at dksX0_last_1 20 rfl rfl)
theorem dX0_last_47 : decode cX0_last 47 = .ok (.goto (-25), 3) := dk_167 255 231 (dk_at dksX0_last_2 0 rfl rfl)
theorem dX0_last_50 : decode cX0_last 50 = .ok (.new 122, 3) := dk_187 0 122 (dk_at dksX0_last_2 3 rfl rfl)
theorem dX0_last_53 : decode cX0_last 53 = .ok (.dup, 1) := dk_89 (dk_at dksX0_last_2 6 rfl rfl)
theorem dX0_last_54 : decode cX0_last 54 = .ok (.aload 4, 2) := dk_25 4 (dk_at dksX0_last_2 7 rfl rfl)
theorem dX0_last_56 : decode cX0_last 56 = .ok (.iload_n 2, 1) := dk_28 (dk_at dksX0_last_2 9 rfl rfl)
theorem dX0_last_57 : decode cX0_last 57 = .ok (.invokespecial 124, 3) := dk_183 0 124 (dk_at dksX0_last_2 10 rfl rfl)
theorem dX0_last_60 : decode cX0_last 60 = .ok (.astore 5, 2) := dk_58 5 (dk_at dksX0_last_2 13 rfl rfl)
theorem dX0_last_62 : decode cX0_last 62 = .ok (.aload 5, 2) := dk_25 5 (dk_at dksX0_last_2 15 rfl rfl)
theorem dX0_last_64 : decode cX0_last 64 = .ok (.iconst 1, 1) := dk_4 (dk_at dksX0_last_2 17 rfl rfl)
theorem dX0_last_65 : decode cX0_last 65 = .ok (.putfield 127, 3) := dk_181 0 127 (dk_at dksX0_last_2 18 rfl rfl)
theorem dX0_last_68 : decode cX0_last 68 = .ok (.aload 5, 2) := dk_25 5 (dk_at dksX0_last_2 21 rfl rfl)
theorem dX0_last_70 : decode cX0_last 70 = .ok (.areturn, 1) := dk_176 (dk_at dksX0_last_2 23 rfl rfl)
abbrev cX0_inverse : ByteArray := prog_1_method_7_code
def yX0_inverse : MethodName := ⟨RX0, "inverse", "(I)I"⟩
def dkwX0_inverse_0 : List UInt8 := [4, 61, 28, 27, 104, 42, 180, 0, 9, 112, 4, 159, 0, 9, 132, 2, 1, 167, 255, 241, 28, 172]
abbrev dktX0_inverse_0 : List UInt8 := dkwX0_inverse_0 ++ []
theorem dksX0_inverse_0 : cX0_inverse.data.toList.drop 0 = dktX0_inverse_0 := by decide +kernel
theorem dX0_inverse_0 : decode cX0_inverse 0 = .ok (.iconst 1, 1) := dk_4 (dk_at dksX0_inverse_0 0 rfl rfl)
theorem dX0_inverse_1 : decode cX0_inverse 1 = .ok (.istore_n 2, 1) := dk_61 (dk_at dksX0_inverse_0 1 rfl rfl)
theorem dX0_inverse_2 : decode cX0_inverse 2 = .ok (.iload_n 2, 1) := dk_28 (dk_at dksX0_inverse_0 2 rfl rfl)
theorem dX0_inverse_3 : decode cX0_inverse 3 = .ok (.iload_n 1, 1) := dk_27 (dk_at dksX0_inverse_0 3 rfl rfl)
theorem dX0_inverse_4 : decode cX0_inverse 4 = .ok (.imul, 1) := dk_104 (dk_at dksX0_inverse_0 4 rfl rfl)
theorem dX0_inverse_5 : decode cX0_inverse 5 = .ok (.aload_n 0, 1) := dk_42 (dk_at dksX0_inverse_0 5 rfl rfl)
theorem dX0_inverse_6 : decode cX0_inverse 6 = .ok (.getfield 9, 3) := dk_180 0 9 (dk_at dksX0_inverse_0 6 rfl rfl)
theorem dX0_inverse_9 : decode cX0_inverse 9 = .ok (.irem, 1) := dk_112 (dk_at dksX0_inverse_0 9 rfl rfl)
theorem dX0_inverse_10 : decode cX0_inverse 10 = .ok (.iconst 1, 1) := dk_4 (dk_at dksX0_inverse_0 10 rfl rfl)
theorem dX0_inverse_11 : decode cX0_inverse 11 = .ok (.if_icmp .eq 9, 3) := dk_159 0 9 (dk_at dksX0_inverse_0 11 rfl rfl)
theorem dX0_inverse_14 : decode cX0_inverse 14 = .ok (.iinc 2 1, 3) := dk_132 2 1 (dk_at dksX0_inverse_0 14 rfl rfl)
theorem dX0_inverse_17 : decode cX0_inverse 17 = .ok (.goto (-15), 3) := dk_167 255 241 (dk_at dksX0_inverse_0 17 rfl rfl)
theorem dX0_inverse_20 : decode cX0_inverse 20 = .ok (.iload_n 2, 1) := dk_28 (dk_at dksX0_inverse_0 20 rfl rfl)
theorem dX0_inverse_21 : decode cX0_inverse 21 = .ok (.ireturn, 1) := dk_172 (dk_at dksX0_inverse_0 21 rfl rfl)
abbrev cX0_timesWith : ByteArray := prog_1_method_16_code
def yX0_timesWith : MethodName := ⟨RX0, "timesWith", "(II[I)I"⟩
def dkwX0_timesWith_4 : List UInt8 := [132, 5, 1, 167, 255, 236, 21, 5, 172]
abbrev dktX0_timesWith_4 : List UInt8 := dkwX0_timesWith_4 ++ []
def dkwX0_timesWith_3 : List UInt8 := [167, 255, 192, 3, 54, 5, 45, 184, 0, 96, 28, 161, 0, 18, 42, 28, 45, 182, 0, 130, 153, 0, 9]
abbrev dktX0_timesWith_3 : List UInt8 := dkwX0_timesWith_3 ++ dktX0_timesWith_4
def dkwX0_timesWith_2 : List UInt8 := [79, 21, 5, 28, 162, 0, 13, 21, 4, 42, 180, 0, 9, 108, 167, 0, 5, 21, 4, 54, 4, 132, 5, 1]
abbrev dktX0_timesWith_2 : List UInt8 := dkwX0_timesWith_2 ++ dktX0_timesWith_3
def dkwX0_timesWith_1 : List UInt8 := [162, 0, 13, 21, 4, 42, 180, 0, 9, 112, 167, 0, 14, 21, 5, 28, 160, 0, 7, 4, 167, 0, 4, 3]
abbrev dktX0_timesWith_1 : List UInt8 := dkwX0_timesWith_1 ++ dktX0_timesWith_2
def dkwX0_timesWith_0 : List UInt8 := [27, 54, 4, 3, 54, 5, 21, 5, 16, 9, 162, 0, 63, 42, 180, 0, 37, 21, 5, 21, 5, 28]
abbrev dktX0_timesWith_0 : List UInt8 := dkwX0_timesWith_0 ++ dktX0_timesWith_1
theorem dksX0_timesWith_0 : cX0_timesWith.data.toList.drop 0 = dktX0_timesWith_0 := by decide +kernel
theorem dksX0_timesWith_1 : cX0_timesWith.data.toList.drop 22 = dktX0_timesWith_1 := dk_seg dksX0_timesWith_0 22 rfl rfl
theorem dksX0_timesWith_2 : cX0_timesWith.data.toList.drop 46 = dktX0_timesWith_2 := dk_seg dksX0_timesWith_1 24 rfl rfl
theorem dksX0_timesWith_3 : cX0_timesWith.data.toList.drop 70 = dktX0_timesWith_3 := dk_seg dksX0_timesWith_2 24 rfl rfl
theorem dksX0_timesWith_4 : cX0_timesWith.data.toList.drop 93 = dktX0_timesWith_4 := dk_seg dksX0_timesWith_3 23 rfl rfl
theorem dX0_timesWith_0 : decode cX0_timesWith 0 = .ok (.iload_n 1, 1) := dk_27 (dk_at dksX0_timesWith_0 0 rfl rfl)
theorem dX0_timesWith_1 : decode cX0_timesWith 1 = .ok (.istore 4, 2) := dk_54 4 (dk_at dksX0_timesWith_0 1 rfl rfl)
theorem dX0_timesWith_3 : decode cX0_timesWith 3 = .ok (.iconst 0, 1) := dk_3 (dk_at dksX0_timesWith_0 3 rfl rfl)
theorem dX0_timesWith_4 : decode cX0_timesWith 4 = .ok (.istore 5, 2) := dk_54 5 (dk_at dksX0_timesWith_0 4 rfl rfl)
theorem dX0_timesWith_6 : decode cX0_timesWith 6 = .ok (.iload 5, 2) := dk_21 5 (dk_at dksX0_timesWith_0 6 rfl rfl)
theorem dX0_timesWith_8 : decode cX0_timesWith 8 = .ok (.bipush 9, 2) := dk_16 9 (dk_at dksX0_timesWith_0 8 rfl rfl)
theorem dX0_timesWith_10 : decode cX0_timesWith 10 = .ok (.if_icmp .ge 63, 3) := dk_162 0 63 (dk_at dksX0_timesWith_0 10 rfl rfl)
theorem dX0_timesWith_13 : decode cX0_timesWith 13 = .ok (.aload_n 0, 1) := dk_42 (dk_at dksX0_timesWith_0 13 rfl rfl)
theorem dX0_timesWith_14 : decode cX0_timesWith 14 = .ok (.getfield 37, 3) := dk_180 0 37 (dk_at dksX0_timesWith_0 14 rfl rfl)
theorem dX0_timesWith_17 : decode cX0_timesWith 17 = .ok (.iload 5, 2) := dk_21 5 (dk_at dksX0_timesWith_0 17 rfl rfl)
theorem dX0_timesWith_19 : decode cX0_timesWith 19 = .ok (.iload 5, 2) := dk_21 5 (dk_at dksX0_timesWith_0 19 rfl rfl)
theorem dX0_timesWith_21 : decode cX0_timesWith 21 = .ok (.iload_n 2, 1) := dk_28 (dk_at dksX0_timesWith_0 21 rfl rfl)
theorem dX0_timesWith_22 : decode cX0_timesWith 22 = .ok (.if_icmp .ge 13, 3) := dk_162 0 13 (dk_at dksX0_timesWith_1 0 rfl rfl)
theorem dX0_timesWith_25 : decode cX0_timesWith 25 = .ok (.iload 4, 2) := dk_21 4 (dk_at dksX0_timesWith_1 3 rfl rfl)
theorem dX0_timesWith_27 : decode cX0_timesWith 27 = .ok (.aload_n 0, 1) := dk_42 (dk_at dksX0_timesWith_1 5 rfl rfl)
theorem dX0_timesWith_28 : decode cX0_timesWith 28 = .ok (.getfield 9, 3) := dk_180 0 9 (dk_at dksX0_timesWith_1 6 rfl rfl)
theorem dX0_timesWith_31 : decode cX0_timesWith 31 = .ok (.irem, 1) := dk_112 (dk_at dksX0_timesWith_1 9 rfl rfl)
theorem dX0_timesWith_32 : decode cX0_timesWith 32 = .ok (.goto 14, 3) := dk_167 0 14 (dk_at dksX0_timesWith_1 10 rfl rfl)
theorem dX0_timesWith_35 : decode cX0_timesWith 35 = .ok (.iload 5, 2) := dk_21 5 (dk_at dksX0_timesWith_1 13 rfl rfl)
theorem dX0_timesWith_37 : decode cX0_timesWith 37 = .ok (.iload_n 2, 1) := dk_28 (dk_at dksX0_timesWith_1 15 rfl rfl)
theorem dX0_timesWith_38 : decode cX0_timesWith 38 = .ok (.if_icmp .ne 7, 3) := dk_160 0 7 (dk_at dksX0_timesWith_1 16 rfl rfl)
theorem dX0_timesWith_41 : decode cX0_timesWith 41 = .ok (.iconst 1, 1) := dk_4 (dk_at dksX0_timesWith_1 19 rfl rfl)
theorem dX0_timesWith_42 : decode cX0_timesWith 42 = .ok (.goto 4, 3) := dk_167 0 4 (dk_at dksX0_timesWith_1 20 rfl rfl)
theorem dX0_timesWith_45 : decode cX0_timesWith 45 = .ok (.iconst 0, 1) := dk_3 (dk_at dksX0_timesWith_1 23 rfl rfl)
theorem dX0_timesWith_46 : decode cX0_timesWith 46 = .ok (.iastore, 1) := dk_79 (dk_at dksX0_timesWith_2 0 rfl rfl)
theorem dX0_timesWith_47 : decode cX0_timesWith 47 = .ok (.iload 5, 2) := dk_21 5 (dk_at dksX0_timesWith_2 1 rfl rfl)
theorem dX0_timesWith_49 : decode cX0_timesWith 49 = .ok (.iload_n 2, 1) := dk_28 (dk_at dksX0_timesWith_2 3 rfl rfl)
theorem dX0_timesWith_50 : decode cX0_timesWith 50 = .ok (.if_icmp .ge 13, 3) := dk_162 0 13 (dk_at dksX0_timesWith_2 4 rfl rfl)
theorem dX0_timesWith_53 : decode cX0_timesWith 53 = .ok (.iload 4, 2) := dk_21 4 (dk_at dksX0_timesWith_2 7 rfl rfl)
theorem dX0_timesWith_55 : decode cX0_timesWith 55 = .ok (.aload_n 0, 1) := dk_42 (dk_at dksX0_timesWith_2 9 rfl rfl)
theorem dX0_timesWith_56 : decode cX0_timesWith 56 = .ok (.getfield 9, 3) := dk_180 0 9 (dk_at dksX0_timesWith_2 10 rfl rfl)
theorem dX0_timesWith_59 : decode cX0_timesWith 59 = .ok (.idiv, 1) := dk_108 (dk_at dksX0_timesWith_2 13 rfl rfl)
theorem dX0_timesWith_60 : decode cX0_timesWith 60 = .ok (.goto 5, 3) := dk_167 0 5 (dk_at dksX0_timesWith_2 14 rfl rfl)
theorem dX0_timesWith_63 : decode cX0_timesWith 63 = .ok (.iload 4, 2) := dk_21 4 (dk_at dksX0_timesWith_2 17 rfl rfl)
theorem dX0_timesWith_65 : decode cX0_timesWith 65 = .ok (.istore 4, 2) := dk_54 4 (dk_at dksX0_timesWith_2 19 rfl rfl)
theorem dX0_timesWith_67 : decode cX0_timesWith 67 = .ok (.iinc 5 1, 3) := dk_132 5 1 (dk_at dksX0_timesWith_2 21 rfl rfl)
theorem dX0_timesWith_70 : decode cX0_timesWith 70 = .ok (.goto (-64), 3) := dk_167 255 192 (dk_at dksX0_timesWith_3 0 rfl rfl)
theorem dX0_timesWith_73 : decode cX0_timesWith 73 = .ok (.iconst 0, 1) := dk_3 (dk_at dksX0_timesWith_3 3 rfl rfl)
theorem dX0_timesWith_74 : decode cX0_timesWith 74 = .ok (.istore 5, 2) := dk_54 5 (dk_at dksX0_timesWith_3 4 rfl rfl)
theorem dX0_timesWith_76 : decode cX0_timesWith 76 = .ok (.aload_n 3, 1) := dk_45 (dk_at dksX0_timesWith_3 6 rfl rfl)
theorem dX0_timesWith_77 : decode cX0_timesWith 77 = .ok (.invokestatic 96, 3) := dk_184 0 96 (dk_at dksX0_timesWith_3 7 rfl rfl)
theorem dX0_timesWith_80 : decode cX0_timesWith 80 = .ok (.iload_n 2, 1) := dk_28 (dk_at dksX0_timesWith_3 10 rfl rfl)
theorem dX0_timesWith_81 : decode cX0_timesWith 81 = .ok (.if_icmp .lt 18, 3) := dk_161 0 18 (dk_at dksX0_timesWith_3 11 rfl rfl)
theorem dX0_timesWith_84 : decode cX0_timesWith 84 = .ok (.aload_n 0, 1) := dk_42 (dk_at dksX0_timesWith_3 14 rfl rfl)
theorem dX0_timesWith_85 : decode cX0_timesWith 85 = .ok (.iload_n 2, 1) := dk_28 (dk_at dksX0_timesWith_3 15 rfl rfl)
theorem dX0_timesWith_86 : decode cX0_timesWith 86 = .ok (.aload_n 3, 1) := dk_45 (dk_at dksX0_timesWith_3 16 rfl rfl)
theorem dX0_timesWith_87 : decode cX0_timesWith 87 = .ok (.invokevirtual 130, 3) := dk_182 0 130 (dk_at dksX0_timesWith_3 17 rfl rfl)
theorem dX0_timesWith_90 : decode cX0_timesWith 90 = .ok (.ifCond .eq 9, 3) := dk_153 0 9 (dk_at dksX0_timesWith_3 20 rfl rfl)
theorem dX0_timesWith_93 : decode cX0_timesWith 93 = .ok (.iinc 5 1, 3) := dk_132 5 1 (dk_at dksX0_timesWith_4 0 rfl rfl)
theorem dX0_timesWith_96 : decode cX0_timesWith 96 = .ok (.goto (-20), 3) := dk_167 255 236 (dk_at dksX0_timesWith_4 3 rfl rfl)
theorem dX0_timesWith_99 : decode cX0_timesWith 99 = .ok (.iload 5, 2) := dk_21 5 (dk_at dksX0_timesWith_4 6 rfl rfl)
theorem dX0_timesWith_101 : decode cX0_timesWith 101 = .ok (.ireturn, 1) := dk_172 (dk_at dksX0_timesWith_4 8 rfl rfl)
abbrev cX0_dividesResidues : ByteArray := prog_1_method_14_code
def yX0_dividesResidues : MethodName := ⟨RX0, "dividesResidues", "(I[I)Z"⟩
def dkwX0_dividesResidues_6 : List UInt8 := [62, 29, 153, 0, 15, 42, 180, 0, 44, 3, 44, 3, 16, 9, 184, 0, 86, 29, 172]
abbrev dktX0_dividesResidues_6 : List UInt8 := dkwX0_dividesResidues_6 ++ []
def dkwX0_dividesResidues_5 : List UInt8 := [167, 255, 207, 132, 3, 255, 167, 255, 175, 42, 180, 0, 41, 184, 0, 96, 156, 0, 7, 4, 167, 0, 4, 3]
abbrev dktX0_dividesResidues_5 : List UInt8 := dkwX0_dividesResidues_5 ++ dktX0_dividesResidues_6
def dkwX0_dividesResidues_4 : List UInt8 := [21, 4, 42, 180, 0, 37, 21, 5, 46, 104, 100, 42, 180, 0, 9, 184, 0, 99, 79, 132, 5, 1]
abbrev dktX0_dividesResidues_4 : List UInt8 := dkwX0_dividesResidues_4 ++ dktX0_dividesResidues_5
def dkwX0_dividesResidues_3 : List UInt8 := [163, 0, 49, 42, 180, 0, 41, 29, 27, 100, 21, 5, 96, 42, 180, 0, 41, 29, 27, 100, 21, 5, 96, 46]
abbrev dktX0_dividesResidues_3 : List UInt8 := dkwX0_dividesResidues_3 ++ dktX0_dividesResidues_4
def dkwX0_dividesResidues_2 : List UInt8 := [180, 0, 41, 29, 46, 54, 4, 42, 180, 0, 44, 29, 27, 100, 21, 4, 79, 3, 54, 5, 21, 5, 27]
abbrev dktX0_dividesResidues_2 : List UInt8 := dkwX0_dividesResidues_2 ++ dktX0_dividesResidues_3
def dkwX0_dividesResidues_1 : List UInt8 := [29, 3, 79, 132, 3, 1, 167, 255, 240, 42, 180, 0, 41, 184, 0, 96, 62, 29, 27, 161, 0, 82, 42]
abbrev dktX0_dividesResidues_1 : List UInt8 := dkwX0_dividesResidues_1 ++ dktX0_dividesResidues_2
def dkwX0_dividesResidues_0 : List UInt8 := [44, 3, 42, 180, 0, 41, 3, 16, 9, 184, 0, 86, 3, 62, 29, 16, 9, 162, 0, 16, 42, 180, 0, 44]
abbrev dktX0_dividesResidues_0 : List UInt8 := dkwX0_dividesResidues_0 ++ dktX0_dividesResidues_1
theorem dksX0_dividesResidues_0 : cX0_dividesResidues.data.toList.drop 0 = dktX0_dividesResidues_0 := by decide +kernel
theorem dksX0_dividesResidues_1 : cX0_dividesResidues.data.toList.drop 24 = dktX0_dividesResidues_1 := dk_seg dksX0_dividesResidues_0 24 rfl rfl
theorem dksX0_dividesResidues_2 : cX0_dividesResidues.data.toList.drop 47 = dktX0_dividesResidues_2 := dk_seg dksX0_dividesResidues_1 23 rfl rfl
theorem dksX0_dividesResidues_3 : cX0_dividesResidues.data.toList.drop 70 = dktX0_dividesResidues_3 := dk_seg dksX0_dividesResidues_2 23 rfl rfl
theorem dksX0_dividesResidues_4 : cX0_dividesResidues.data.toList.drop 94 = dktX0_dividesResidues_4 := dk_seg dksX0_dividesResidues_3 24 rfl rfl
theorem dksX0_dividesResidues_5 : cX0_dividesResidues.data.toList.drop 116 = dktX0_dividesResidues_5 := dk_seg dksX0_dividesResidues_4 22 rfl rfl
theorem dksX0_dividesResidues_6 : cX0_dividesResidues.data.toList.drop 140 = dktX0_dividesResidues_6 := dk_seg dksX0_dividesResidues_5 24 rfl rfl
theorem dX0_dividesResidues_0 : decode cX0_dividesResidues 0 = .ok (.aload_n 2, 1) := dk_44 (dk_at dksX0_dividesResidues_0 0 rfl rfl)
theorem dX0_dividesResidues_1 : decode cX0_dividesResidues 1 = .ok (.iconst 0, 1) := dk_3 (dk_at dksX0_dividesResidues_0 1 rfl rfl)
theorem dX0_dividesResidues_2 : decode cX0_dividesResidues 2 = .ok (.aload_n 0, 1) := dk_42 (dk_at dksX0_dividesResidues_0 2 rfl rfl)
theorem dX0_dividesResidues_3 : decode cX0_dividesResidues 3 = .ok (.getfield 41, 3) := dk_180 0 41 (dk_at dksX0_dividesResidues_0 3 rfl rfl)
theorem dX0_dividesResidues_6 : decode cX0_dividesResidues 6 = .ok (.iconst 0, 1) := dk_3 (dk_at dksX0_dividesResidues_0 6 rfl rfl)
theorem dX0_dividesResidues_7 : decode cX0_dividesResidues 7 = .ok (.bipush 9, 2) := dk_16 9 (dk_at dksX0_dividesResidues_0 7 rfl rfl)
theorem dX0_dividesResidues_9 : decode cX0_dividesResidues 9 = .ok (.invokestatic 86, 3) := dk_184 0 86 (dk_at dksX0_dividesResidues_0 9 rfl rfl)
theorem dX0_dividesResidues_12 : decode cX0_dividesResidues 12 = .ok (.iconst 0, 1) := dk_3 (dk_at dksX0_dividesResidues_0 12 rfl rfl)
theorem dX0_dividesResidues_13 : decode cX0_dividesResidues 13 = .ok (.istore_n 3, 1) := dk_62 (dk_at dksX0_dividesResidues_0 13 rfl rfl)
theorem dX0_dividesResidues_14 : decode cX0_dividesResidues 14 = .ok (.iload_n 3, 1) := dk_29 (dk_at dksX0_dividesResidues_0 14 rfl rfl)
theorem dX0_dividesResidues_15 : decode cX0_dividesResidues 15 = .ok (.bipush 9, 2) := dk_16 9 (dk_at dksX0_dividesResidues_0 15 rfl rfl)
theorem dX0_dividesResidues_17 : decode cX0_dividesResidues 17 = .ok (.if_icmp .ge 16, 3) := dk_162 0 16 (dk_at dksX0_dividesResidues_0 17 rfl rfl)
theorem dX0_dividesResidues_20 : decode cX0_dividesResidues 20 = .ok (.aload_n 0, 1) := dk_42 (dk_at dksX0_dividesResidues_0 20 rfl rfl)
theorem dX0_dividesResidues_21 : decode cX0_dividesResidues 21 = .ok (.getfield 44, 3) := dk_180 0 44 (dk_at dksX0_dividesResidues_0 21 rfl rfl)
theorem dX0_dividesResidues_24 : decode cX0_dividesResidues 24 = .ok (.iload_n 3, 1) := dk_29 (dk_at dksX0_dividesResidues_1 0 rfl rfl)
theorem dX0_dividesResidues_25 : decode cX0_dividesResidues 25 = .ok (.iconst 0, 1) := dk_3 (dk_at dksX0_dividesResidues_1 1 rfl rfl)
theorem dX0_dividesResidues_26 : decode cX0_dividesResidues 26 = .ok (.iastore, 1) := dk_79 (dk_at dksX0_dividesResidues_1 2 rfl rfl)
theorem dX0_dividesResidues_27 : decode cX0_dividesResidues 27 = .ok (.iinc 3 1, 3) := dk_132 3 1 (dk_at dksX0_dividesResidues_1 3 rfl rfl)
theorem dX0_dividesResidues_30 : decode cX0_dividesResidues 30 = .ok (.goto (-16), 3) := dk_167 255 240 (dk_at dksX0_dividesResidues_1 6 rfl rfl)
theorem dX0_dividesResidues_33 : decode cX0_dividesResidues 33 = .ok (.aload_n 0, 1) := dk_42 (dk_at dksX0_dividesResidues_1 9 rfl rfl)
theorem dX0_dividesResidues_34 : decode cX0_dividesResidues 34 = .ok (.getfield 41, 3) := dk_180 0 41 (dk_at dksX0_dividesResidues_1 10 rfl rfl)
theorem dX0_dividesResidues_37 : decode cX0_dividesResidues 37 = .ok (.invokestatic 96, 3) := dk_184 0 96 (dk_at dksX0_dividesResidues_1 13 rfl rfl)
theorem dX0_dividesResidues_40 : decode cX0_dividesResidues 40 = .ok (.istore_n 3, 1) := dk_62 (dk_at dksX0_dividesResidues_1 16 rfl rfl)
theorem dX0_dividesResidues_41 : decode cX0_dividesResidues 41 = .ok (.iload_n 3, 1) := dk_29 (dk_at dksX0_dividesResidues_1 17 rfl rfl)
theorem dX0_dividesResidues_42 : decode cX0_dividesResidues 42 = .ok (.iload_n 1, 1) := dk_27 (dk_at dksX0_dividesResidues_1 18 rfl rfl)
theorem dX0_dividesResidues_43 : decode cX0_dividesResidues 43 = .ok (.if_icmp .lt 82, 3) := dk_161 0 82 (dk_at dksX0_dividesResidues_1 19 rfl rfl)
theorem dX0_dividesResidues_46 : decode cX0_dividesResidues 46 = .ok (.aload_n 0, 1) := dk_42 (dk_at dksX0_dividesResidues_1 22 rfl rfl)
theorem dX0_dividesResidues_47 : decode cX0_dividesResidues 47 = .ok (.getfield 41, 3) := dk_180 0 41 (dk_at dksX0_dividesResidues_2 0 rfl rfl)
theorem dX0_dividesResidues_50 : decode cX0_dividesResidues 50 = .ok (.iload_n 3, 1) := dk_29 (dk_at dksX0_dividesResidues_2 3 rfl rfl)
theorem dX0_dividesResidues_51 : decode cX0_dividesResidues 51 = .ok (.iaload, 1) := dk_46 (dk_at dksX0_dividesResidues_2 4 rfl rfl)
theorem dX0_dividesResidues_52 : decode cX0_dividesResidues 52 = .ok (.istore 4, 2) := dk_54 4 (dk_at dksX0_dividesResidues_2 5 rfl rfl)
theorem dX0_dividesResidues_54 : decode cX0_dividesResidues 54 = .ok (.aload_n 0, 1) := dk_42 (dk_at dksX0_dividesResidues_2 7 rfl rfl)
theorem dX0_dividesResidues_55 : decode cX0_dividesResidues 55 = .ok (.getfield 44, 3) := dk_180 0 44 (dk_at dksX0_dividesResidues_2 8 rfl rfl)
theorem dX0_dividesResidues_58 : decode cX0_dividesResidues 58 = .ok (.iload_n 3, 1) := dk_29 (dk_at dksX0_dividesResidues_2 11 rfl rfl)
theorem dX0_dividesResidues_59 : decode cX0_dividesResidues 59 = .ok (.iload_n 1, 1) := dk_27 (dk_at dksX0_dividesResidues_2 12 rfl rfl)
theorem dX0_dividesResidues_60 : decode cX0_dividesResidues 60 = .ok (.isub, 1) := dk_100 (dk_at dksX0_dividesResidues_2 13 rfl rfl)
theorem dX0_dividesResidues_61 : decode cX0_dividesResidues 61 = .ok (.iload 4, 2) := dk_21 4 (dk_at dksX0_dividesResidues_2 14 rfl rfl)
theorem dX0_dividesResidues_63 : decode cX0_dividesResidues 63 = .ok (.iastore, 1) := dk_79 (dk_at dksX0_dividesResidues_2 16 rfl rfl)
theorem dX0_dividesResidues_64 : decode cX0_dividesResidues 64 = .ok (.iconst 0, 1) := dk_3 (dk_at dksX0_dividesResidues_2 17 rfl rfl)
theorem dX0_dividesResidues_65 : decode cX0_dividesResidues 65 = .ok (.istore 5, 2) := dk_54 5 (dk_at dksX0_dividesResidues_2 18 rfl rfl)
theorem dX0_dividesResidues_67 : decode cX0_dividesResidues 67 = .ok (.iload 5, 2) := dk_21 5 (dk_at dksX0_dividesResidues_2 20 rfl rfl)
theorem dX0_dividesResidues_69 : decode cX0_dividesResidues 69 = .ok (.iload_n 1, 1) := dk_27 (dk_at dksX0_dividesResidues_2 22 rfl rfl)
theorem dX0_dividesResidues_70 : decode cX0_dividesResidues 70 = .ok (.if_icmp .gt 49, 3) := dk_163 0 49 (dk_at dksX0_dividesResidues_3 0 rfl rfl)
theorem dX0_dividesResidues_73 : decode cX0_dividesResidues 73 = .ok (.aload_n 0, 1) := dk_42 (dk_at dksX0_dividesResidues_3 3 rfl rfl)
theorem dX0_dividesResidues_74 : decode cX0_dividesResidues 74 = .ok (.getfield 41, 3) := dk_180 0 41 (dk_at dksX0_dividesResidues_3 4 rfl rfl)
theorem dX0_dividesResidues_77 : decode cX0_dividesResidues 77 = .ok (.iload_n 3, 1) := dk_29 (dk_at dksX0_dividesResidues_3 7 rfl rfl)
theorem dX0_dividesResidues_78 : decode cX0_dividesResidues 78 = .ok (.iload_n 1, 1) := dk_27 (dk_at dksX0_dividesResidues_3 8 rfl rfl)
theorem dX0_dividesResidues_79 : decode cX0_dividesResidues 79 = .ok (.isub, 1) := dk_100 (dk_at dksX0_dividesResidues_3 9 rfl rfl)
theorem dX0_dividesResidues_80 : decode cX0_dividesResidues 80 = .ok (.iload 5, 2) := dk_21 5 (dk_at dksX0_dividesResidues_3 10 rfl rfl)
theorem dX0_dividesResidues_82 : decode cX0_dividesResidues 82 = .ok (.iadd, 1) := dk_96 (dk_at dksX0_dividesResidues_3 12 rfl rfl)
theorem dX0_dividesResidues_83 : decode cX0_dividesResidues 83 = .ok (.aload_n 0, 1) := dk_42 (dk_at dksX0_dividesResidues_3 13 rfl rfl)
theorem dX0_dividesResidues_84 : decode cX0_dividesResidues 84 = .ok (.getfield 41, 3) := dk_180 0 41 (dk_at dksX0_dividesResidues_3 14 rfl rfl)
theorem dX0_dividesResidues_87 : decode cX0_dividesResidues 87 = .ok (.iload_n 3, 1) := dk_29 (dk_at dksX0_dividesResidues_3 17 rfl rfl)
theorem dX0_dividesResidues_88 : decode cX0_dividesResidues 88 = .ok (.iload_n 1, 1) := dk_27 (dk_at dksX0_dividesResidues_3 18 rfl rfl)
theorem dX0_dividesResidues_89 : decode cX0_dividesResidues 89 = .ok (.isub, 1) := dk_100 (dk_at dksX0_dividesResidues_3 19 rfl rfl)
theorem dX0_dividesResidues_90 : decode cX0_dividesResidues 90 = .ok (.iload 5, 2) := dk_21 5 (dk_at dksX0_dividesResidues_3 20 rfl rfl)
theorem dX0_dividesResidues_92 : decode cX0_dividesResidues 92 = .ok (.iadd, 1) := dk_96 (dk_at dksX0_dividesResidues_3 22 rfl rfl)
theorem dX0_dividesResidues_93 : decode cX0_dividesResidues 93 = .ok (.iaload, 1) := dk_46 (dk_at dksX0_dividesResidues_3 23 rfl rfl)
theorem dX0_dividesResidues_94 : decode cX0_dividesResidues 94 = .ok (.iload 4, 2) := dk_21 4 (dk_at dksX0_dividesResidues_4 0 rfl rfl)
theorem dX0_dividesResidues_96 : decode cX0_dividesResidues 96 = .ok (.aload_n 0, 1) := dk_42 (dk_at dksX0_dividesResidues_4 2 rfl rfl)
theorem dX0_dividesResidues_97 : decode cX0_dividesResidues 97 = .ok (.getfield 37, 3) := dk_180 0 37 (dk_at dksX0_dividesResidues_4 3 rfl rfl)
theorem dX0_dividesResidues_100 : decode cX0_dividesResidues 100 = .ok (.iload 5, 2) := dk_21 5 (dk_at dksX0_dividesResidues_4 6 rfl rfl)
theorem dX0_dividesResidues_102 : decode cX0_dividesResidues 102 = .ok (.iaload, 1) := dk_46 (dk_at dksX0_dividesResidues_4 8 rfl rfl)
theorem dX0_dividesResidues_103 : decode cX0_dividesResidues 103 = .ok (.imul, 1) := dk_104 (dk_at dksX0_dividesResidues_4 9 rfl rfl)
theorem dX0_dividesResidues_104 : decode cX0_dividesResidues 104 = .ok (.isub, 1) := dk_100 (dk_at dksX0_dividesResidues_4 10 rfl rfl)
theorem dX0_dividesResidues_105 : decode cX0_dividesResidues 105 = .ok (.aload_n 0, 1) := dk_42 (dk_at dksX0_dividesResidues_4 11 rfl rfl)
theorem dX0_dividesResidues_106 : decode cX0_dividesResidues 106 = .ok (.getfield 9, 3) := dk_180 0 9 (dk_at dksX0_dividesResidues_4 12 rfl rfl)
theorem dX0_dividesResidues_109 : decode cX0_dividesResidues 109 = .ok (.invokestatic 99, 3) := dk_184 0 99 (dk_at dksX0_dividesResidues_4 15 rfl rfl)
theorem dX0_dividesResidues_112 : decode cX0_dividesResidues 112 = .ok (.iastore, 1) := dk_79 (dk_at dksX0_dividesResidues_4 18 rfl rfl)
theorem dX0_dividesResidues_113 : decode cX0_dividesResidues 113 = .ok (.iinc 5 1, 3) := dk_132 5 1 (dk_at dksX0_dividesResidues_4 19 rfl rfl)
theorem dX0_dividesResidues_116 : decode cX0_dividesResidues 116 = .ok (.goto (-49), 3) := dk_167 255 207 (dk_at dksX0_dividesResidues_5 0 rfl rfl)
theorem dX0_dividesResidues_119 : decode cX0_dividesResidues 119 = .ok (.iinc 3 (-1), 3) := dk_132 3 255 (dk_at dksX0_dividesResidues_5 3 rfl rfl)
theorem dX0_dividesResidues_122 : decode cX0_dividesResidues 122 = .ok (.goto (-81), 3) := dk_167 255 175 (dk_at dksX0_dividesResidues_5 6 rfl rfl)
theorem dX0_dividesResidues_125 : decode cX0_dividesResidues 125 = .ok (.aload_n 0, 1) := dk_42 (dk_at dksX0_dividesResidues_5 9 rfl rfl)
theorem dX0_dividesResidues_126 : decode cX0_dividesResidues 126 = .ok (.getfield 41, 3) := dk_180 0 41 (dk_at dksX0_dividesResidues_5 10 rfl rfl)
theorem dX0_dividesResidues_129 : decode cX0_dividesResidues 129 = .ok (.invokestatic 96, 3) := dk_184 0 96 (dk_at dksX0_dividesResidues_5 13 rfl rfl)
theorem dX0_dividesResidues_132 : decode cX0_dividesResidues 132 = .ok (.ifCond .ge 7, 3) := dk_156 0 7 (dk_at dksX0_dividesResidues_5 16 rfl rfl)
theorem dX0_dividesResidues_135 : decode cX0_dividesResidues 135 = .ok (.iconst 1, 1) := dk_4 (dk_at dksX0_dividesResidues_5 19 rfl rfl)
theorem dX0_dividesResidues_136 : decode cX0_dividesResidues 136 = .ok (.goto 4, 3) := dk_167 0 4 (dk_at dksX0_dividesResidues_5 20 rfl rfl)
theorem dX0_dividesResidues_139 : decode cX0_dividesResidues 139 = .ok (.iconst 0, 1) := dk_3 (dk_at dksX0_dividesResidues_5 23 rfl rfl)
theorem dX0_dividesResidues_140 : decode cX0_dividesResidues 140 = .ok (.istore_n 3, 1) := dk_62 (dk_at dksX0_dividesResidues_6 0 rfl rfl)
theorem dX0_dividesResidues_141 : decode cX0_dividesResidues 141 = .ok (.iload_n 3, 1) := dk_29 (dk_at dksX0_dividesResidues_6 1 rfl rfl)
theorem dX0_dividesResidues_142 : decode cX0_dividesResidues 142 = .ok (.ifCond .eq 15, 3) := dk_153 0 15 (dk_at dksX0_dividesResidues_6 2 rfl rfl)
theorem dX0_dividesResidues_145 : decode cX0_dividesResidues 145 = .ok (.aload_n 0, 1) := dk_42 (dk_at dksX0_dividesResidues_6 5 rfl rfl)
theorem dX0_dividesResidues_146 : decode cX0_dividesResidues 146 = .ok (.getfield 44, 3) := dk_180 0 44 (dk_at dksX0_dividesResidues_6 6 rfl rfl)
theorem dX0_dividesResidues_149 : decode cX0_dividesResidues 149 = .ok (.iconst 0, 1) := dk_3 (dk_at dksX0_dividesResidues_6 9 rfl rfl)
theorem dX0_dividesResidues_150 : decode cX0_dividesResidues 150 = .ok (.aload_n 2, 1) := dk_44 (dk_at dksX0_dividesResidues_6 10 rfl rfl)
theorem dX0_dividesResidues_151 : decode cX0_dividesResidues 151 = .ok (.iconst 0, 1) := dk_3 (dk_at dksX0_dividesResidues_6 11 rfl rfl)
theorem dX0_dividesResidues_152 : decode cX0_dividesResidues 152 = .ok (.bipush 9, 2) := dk_16 9 (dk_at dksX0_dividesResidues_6 12 rfl rfl)
theorem dX0_dividesResidues_154 : decode cX0_dividesResidues 154 = .ok (.invokestatic 86, 3) := dk_184 0 86 (dk_at dksX0_dividesResidues_6 14 rfl rfl)
theorem dX0_dividesResidues_157 : decode cX0_dividesResidues 157 = .ok (.iload_n 3, 1) := dk_29 (dk_at dksX0_dividesResidues_6 17 rfl rfl)
theorem dX0_dividesResidues_158 : decode cX0_dividesResidues 158 = .ok (.ireturn, 1) := dk_172 (dk_at dksX0_dividesResidues_6 18 rfl rfl)
abbrev cX0_feed : ByteArray := prog_1_method_32_code
def yX0_feed : MethodName := ⟨RX0, "feed", "(I)I"⟩
def dkwX0_feed_1 : List UInt8 := [160, 0, 6, 16, 252, 172, 42, 180, 0, 57, 27, 146, 182, 0, 218, 87, 42, 180, 0, 57, 182, 0, 215, 172]
abbrev dktX0_feed_1 : List UInt8 := dkwX0_feed_1 ++ []
def dkwX0_feed_0 : List UInt8 := [27, 133, 9, 20, 0, 213, 184, 0, 140, 154, 0, 5, 2, 172, 42, 180, 0, 57, 182, 0, 215, 16, 80]
abbrev dktX0_feed_0 : List UInt8 := dkwX0_feed_0 ++ dktX0_feed_1
theorem dksX0_feed_0 : cX0_feed.data.toList.drop 0 = dktX0_feed_0 := by decide +kernel
theorem dksX0_feed_1 : cX0_feed.data.toList.drop 23 = dktX0_feed_1 := dk_seg dksX0_feed_0 23 rfl rfl
theorem dX0_feed_0 : decode cX0_feed 0 = .ok (.iload_n 1, 1) := dk_27 (dk_at dksX0_feed_0 0 rfl rfl)
theorem dX0_feed_1 : decode cX0_feed 1 = .ok (.i2l, 1) := dk_133 (dk_at dksX0_feed_0 1 rfl rfl)
theorem dX0_feed_2 : decode cX0_feed 2 = .ok (.lconst 0, 1) := dk_9 (dk_at dksX0_feed_0 2 rfl rfl)
theorem dX0_feed_3 : decode cX0_feed 3 = .ok (.ldc2_w 213, 3) := dk_20 0 213 (dk_at dksX0_feed_0 3 rfl rfl)
theorem dX0_feed_6 : decode cX0_feed 6 = .ok (.invokestatic 140, 3) := dk_184 0 140 (dk_at dksX0_feed_0 6 rfl rfl)
theorem dX0_feed_9 : decode cX0_feed 9 = .ok (.ifCond .ne 5, 3) := dk_154 0 5 (dk_at dksX0_feed_0 9 rfl rfl)
theorem dX0_feed_12 : decode cX0_feed 12 = .ok (.iconst (-1), 1) := dk_2 (dk_at dksX0_feed_0 12 rfl rfl)
theorem dX0_feed_13 : decode cX0_feed 13 = .ok (.ireturn, 1) := dk_172 (dk_at dksX0_feed_0 13 rfl rfl)
theorem dX0_feed_14 : decode cX0_feed 14 = .ok (.aload_n 0, 1) := dk_42 (dk_at dksX0_feed_0 14 rfl rfl)
theorem dX0_feed_15 : decode cX0_feed 15 = .ok (.getfield 57, 3) := dk_180 0 57 (dk_at dksX0_feed_0 15 rfl rfl)
theorem dX0_feed_18 : decode cX0_feed 18 = .ok (.invokevirtual 215, 3) := dk_182 0 215 (dk_at dksX0_feed_0 18 rfl rfl)
theorem dX0_feed_21 : decode cX0_feed 21 = .ok (.bipush 80, 2) := dk_16 80 (dk_at dksX0_feed_0 21 rfl rfl)
theorem dX0_feed_23 : decode cX0_feed 23 = .ok (.if_icmp .ne 6, 3) := dk_160 0 6 (dk_at dksX0_feed_1 0 rfl rfl)
theorem dX0_feed_26 : decode cX0_feed 26 = .ok (.bipush (-4), 2) := dk_16 252 (dk_at dksX0_feed_1 3 rfl rfl)
theorem dX0_feed_28 : decode cX0_feed 28 = .ok (.ireturn, 1) := dk_172 (dk_at dksX0_feed_1 5 rfl rfl)
theorem dX0_feed_29 : decode cX0_feed 29 = .ok (.aload_n 0, 1) := dk_42 (dk_at dksX0_feed_1 6 rfl rfl)
theorem dX0_feed_30 : decode cX0_feed 30 = .ok (.getfield 57, 3) := dk_180 0 57 (dk_at dksX0_feed_1 7 rfl rfl)
theorem dX0_feed_33 : decode cX0_feed 33 = .ok (.iload_n 1, 1) := dk_27 (dk_at dksX0_feed_1 10 rfl rfl)
theorem dX0_feed_34 : decode cX0_feed 34 = .ok (.i2c, 1) := dk_146 (dk_at dksX0_feed_1 11 rfl rfl)
theorem dX0_feed_35 : decode cX0_feed 35 = .ok (.invokevirtual 218, 3) := dk_182 0 218 (dk_at dksX0_feed_1 12 rfl rfl)
theorem dX0_feed_38 : decode cX0_feed 38 = .ok (.pop, 1) := dk_87 (dk_at dksX0_feed_1 15 rfl rfl)
theorem dX0_feed_39 : decode cX0_feed 39 = .ok (.aload_n 0, 1) := dk_42 (dk_at dksX0_feed_1 16 rfl rfl)
theorem dX0_feed_40 : decode cX0_feed 40 = .ok (.getfield 57, 3) := dk_180 0 57 (dk_at dksX0_feed_1 17 rfl rfl)
theorem dX0_feed_43 : decode cX0_feed 43 = .ok (.invokevirtual 215, 3) := dk_182 0 215 (dk_at dksX0_feed_1 20 rfl rfl)
theorem dX0_feed_46 : decode cX0_feed 46 = .ok (.ireturn, 1) := dk_172 (dk_at dksX0_feed_1 23 rfl rfl)
abbrev cX0_wipe : ByteArray := prog_1_method_33_code
def yX0_wipe : MethodName := ⟨RX0, "wipe", "()I"⟩
def dkwX0_wipe_0 : List UInt8 := [42, 180, 0, 57, 182, 0, 215, 60, 42, 180, 0, 57, 3, 182, 0, 222, 27, 172]
abbrev dktX0_wipe_0 : List UInt8 := dkwX0_wipe_0 ++ []
theorem dksX0_wipe_0 : cX0_wipe.data.toList.drop 0 = dktX0_wipe_0 := by decide +kernel
theorem dX0_wipe_0 : decode cX0_wipe 0 = .ok (.aload_n 0, 1) := dk_42 (dk_at dksX0_wipe_0 0 rfl rfl)
theorem dX0_wipe_1 : decode cX0_wipe 1 = .ok (.getfield 57, 3) := dk_180 0 57 (dk_at dksX0_wipe_0 1 rfl rfl)
theorem dX0_wipe_4 : decode cX0_wipe 4 = .ok (.invokevirtual 215, 3) := dk_182 0 215 (dk_at dksX0_wipe_0 4 rfl rfl)
theorem dX0_wipe_7 : decode cX0_wipe 7 = .ok (.istore_n 1, 1) := dk_60 (dk_at dksX0_wipe_0 7 rfl rfl)
theorem dX0_wipe_8 : decode cX0_wipe 8 = .ok (.aload_n 0, 1) := dk_42 (dk_at dksX0_wipe_0 8 rfl rfl)
theorem dX0_wipe_9 : decode cX0_wipe 9 = .ok (.getfield 57, 3) := dk_180 0 57 (dk_at dksX0_wipe_0 9 rfl rfl)
theorem dX0_wipe_12 : decode cX0_wipe 12 = .ok (.iconst 0, 1) := dk_3 (dk_at dksX0_wipe_0 12 rfl rfl)
theorem dX0_wipe_13 : decode cX0_wipe 13 = .ok (.invokevirtual 222, 3) := dk_182 0 222 (dk_at dksX0_wipe_0 13 rfl rfl)
theorem dX0_wipe_16 : decode cX0_wipe 16 = .ok (.iload_n 1, 1) := dk_27 (dk_at dksX0_wipe_0 16 rfl rfl)
theorem dX0_wipe_17 : decode cX0_wipe 17 = .ok (.ireturn, 1) := dk_172 (dk_at dksX0_wipe_0 17 rfl rfl)
abbrev cX0_text : ByteArray := prog_1_method_35_code
def yX0_text : MethodName := ⟨RX0, "text", "(I)I"⟩
def dkwX0_text_2 : List UInt8 := [172, 77, 44, 180, 0, 243, 172]
abbrev dktX0_text_2 : List UInt8 := dkwX0_text_2 ++ []
def dkwX0_text_1 : List UInt8 := [182, 0, 237, 182, 0, 175, 61, 28, 156, 0, 7, 28, 167, 0, 12, 42, 180, 0, 49, 27, 50, 184, 0, 159]
abbrev dktX0_text_1 : List UInt8 := dkwX0_text_1 ++ dktX0_text_2
def dkwX0_text_0 : List UInt8 := [27, 184, 0, 146, 154, 0, 5, 2, 172, 42, 27, 187, 0, 229, 89, 42, 182, 0, 231, 183, 0, 234]
abbrev dktX0_text_0 : List UInt8 := dkwX0_text_0 ++ dktX0_text_1
theorem dksX0_text_0 : cX0_text.data.toList.drop 0 = dktX0_text_0 := by decide +kernel
theorem dksX0_text_1 : cX0_text.data.toList.drop 22 = dktX0_text_1 := dk_seg dksX0_text_0 22 rfl rfl
theorem dksX0_text_2 : cX0_text.data.toList.drop 46 = dktX0_text_2 := dk_seg dksX0_text_1 24 rfl rfl
theorem dX0_text_0 : decode cX0_text 0 = .ok (.iload_n 1, 1) := dk_27 (dk_at dksX0_text_0 0 rfl rfl)
theorem dX0_text_1 : decode cX0_text 1 = .ok (.invokestatic 146, 3) := dk_184 0 146 (dk_at dksX0_text_0 1 rfl rfl)
theorem dX0_text_4 : decode cX0_text 4 = .ok (.ifCond .ne 5, 3) := dk_154 0 5 (dk_at dksX0_text_0 4 rfl rfl)
theorem dX0_text_7 : decode cX0_text 7 = .ok (.iconst (-1), 1) := dk_2 (dk_at dksX0_text_0 7 rfl rfl)
theorem dX0_text_8 : decode cX0_text 8 = .ok (.ireturn, 1) := dk_172 (dk_at dksX0_text_0 8 rfl rfl)
theorem dX0_text_9 : decode cX0_text 9 = .ok (.aload_n 0, 1) := dk_42 (dk_at dksX0_text_0 9 rfl rfl)
theorem dX0_text_10 : decode cX0_text 10 = .ok (.iload_n 1, 1) := dk_27 (dk_at dksX0_text_0 10 rfl rfl)
theorem dX0_text_11 : decode cX0_text 11 = .ok (.new 229, 3) := dk_187 0 229 (dk_at dksX0_text_0 11 rfl rfl)
theorem dX0_text_14 : decode cX0_text 14 = .ok (.dup, 1) := dk_89 (dk_at dksX0_text_0 14 rfl rfl)
theorem dX0_text_15 : decode cX0_text 15 = .ok (.aload_n 0, 1) := dk_42 (dk_at dksX0_text_0 15 rfl rfl)
theorem dX0_text_16 : decode cX0_text 16 = .ok (.invokevirtual 231, 3) := dk_182 0 231 (dk_at dksX0_text_0 16 rfl rfl)
theorem dX0_text_19 : decode cX0_text 19 = .ok (.invokespecial 234, 3) := dk_183 0 234 (dk_at dksX0_text_0 19 rfl rfl)
theorem dX0_text_22 : decode cX0_text 22 = .ok (.invokevirtual 237, 3) := dk_182 0 237 (dk_at dksX0_text_1 0 rfl rfl)
theorem dX0_text_25 : decode cX0_text 25 = .ok (.invokevirtual 175, 3) := dk_182 0 175 (dk_at dksX0_text_1 3 rfl rfl)
theorem dX0_text_28 : decode cX0_text 28 = .ok (.istore_n 2, 1) := dk_61 (dk_at dksX0_text_1 6 rfl rfl)
theorem dX0_text_29 : decode cX0_text 29 = .ok (.iload_n 2, 1) := dk_28 (dk_at dksX0_text_1 7 rfl rfl)
theorem dX0_text_30 : decode cX0_text 30 = .ok (.ifCond .ge 7, 3) := dk_156 0 7 (dk_at dksX0_text_1 8 rfl rfl)
theorem dX0_text_33 : decode cX0_text 33 = .ok (.iload_n 2, 1) := dk_28 (dk_at dksX0_text_1 11 rfl rfl)
theorem dX0_text_34 : decode cX0_text 34 = .ok (.goto 12, 3) := dk_167 0 12 (dk_at dksX0_text_1 12 rfl rfl)
theorem dX0_text_37 : decode cX0_text 37 = .ok (.aload_n 0, 1) := dk_42 (dk_at dksX0_text_1 15 rfl rfl)
theorem dX0_text_38 : decode cX0_text 38 = .ok (.getfield 49, 3) := dk_180 0 49 (dk_at dksX0_text_1 16 rfl rfl)
theorem dX0_text_41 : decode cX0_text 41 = .ok (.iload_n 1, 1) := dk_27 (dk_at dksX0_text_1 19 rfl rfl)
theorem dX0_text_42 : decode cX0_text 42 = .ok (.aaload, 1) := dk_50 (dk_at dksX0_text_1 20 rfl rfl)
theorem dX0_text_43 : decode cX0_text 43 = .ok (.invokestatic 159, 3) := dk_184 0 159 (dk_at dksX0_text_1 21 rfl rfl)
theorem dX0_text_46 : decode cX0_text 46 = .ok (.ireturn, 1) := dk_172 (dk_at dksX0_text_2 0 rfl rfl)
theorem dX0_text_47 : decode cX0_text 47 = .ok (.astore_n 2, 1) := dk_77 (dk_at dksX0_text_2 1 rfl rfl)
theorem dX0_text_48 : decode cX0_text 48 = .ok (.aload_n 2, 1) := dk_44 (dk_at dksX0_text_2 2 rfl rfl)
theorem dX0_text_49 : decode cX0_text 49 = .ok (.getfield 243, 3) := dk_180 0 243 (dk_at dksX0_text_2 3 rfl rfl)
theorem dX0_text_52 : decode cX0_text 52 = .ok (.ireturn, 1) := dk_172 (dk_at dksX0_text_2 6 rfl rfl)
abbrev cX0_taken : ByteArray := prog_1_method_34_code
def yX0_taken : MethodName := ⟨RX0, "taken", "()Ljava/lang/String;"⟩
def dkwX0_taken_0 : List UInt8 := [42, 180, 0, 57, 182, 0, 225, 76, 42, 180, 0, 57, 3, 182, 0, 222, 43, 176]
abbrev dktX0_taken_0 : List UInt8 := dkwX0_taken_0 ++ []
theorem dksX0_taken_0 : cX0_taken.data.toList.drop 0 = dktX0_taken_0 := by decide +kernel
theorem dX0_taken_0 : decode cX0_taken 0 = .ok (.aload_n 0, 1) := dk_42 (dk_at dksX0_taken_0 0 rfl rfl)
theorem dX0_taken_1 : decode cX0_taken 1 = .ok (.getfield 57, 3) := dk_180 0 57 (dk_at dksX0_taken_0 1 rfl rfl)
theorem dX0_taken_4 : decode cX0_taken 4 = .ok (.invokevirtual 225, 3) := dk_182 0 225 (dk_at dksX0_taken_0 4 rfl rfl)
theorem dX0_taken_7 : decode cX0_taken 7 = .ok (.astore_n 1, 1) := dk_76 (dk_at dksX0_taken_0 7 rfl rfl)
theorem dX0_taken_8 : decode cX0_taken 8 = .ok (.aload_n 0, 1) := dk_42 (dk_at dksX0_taken_0 8 rfl rfl)
theorem dX0_taken_9 : decode cX0_taken 9 = .ok (.getfield 57, 3) := dk_180 0 57 (dk_at dksX0_taken_0 9 rfl rfl)
theorem dX0_taken_12 : decode cX0_taken 12 = .ok (.iconst 0, 1) := dk_3 (dk_at dksX0_taken_0 12 rfl rfl)
theorem dX0_taken_13 : decode cX0_taken 13 = .ok (.invokevirtual 222, 3) := dk_182 0 222 (dk_at dksX0_taken_0 13 rfl rfl)
theorem dX0_taken_16 : decode cX0_taken 16 = .ok (.aload_n 1, 1) := dk_43 (dk_at dksX0_taken_0 16 rfl rfl)
theorem dX0_taken_17 : decode cX0_taken 17 = .ok (.areturn, 1) := dk_176 (dk_at dksX0_taken_0 17 rfl rfl)
abbrev cX0_grow : ByteArray := prog_1_method_36_code
def yX0_grow : MethodName := ⟨RX0, "grow", "(I)I"⟩
def dkwX0_grow_2 : List UInt8 := [180, 0, 251, 182, 0, 200, 172]
abbrev dktX0_grow_2 : List UInt8 := dkwX0_grow_2 ++ []
def dkwX0_grow_1 : List UInt8 := [42, 187, 0, 246, 89, 42, 42, 180, 0, 49, 27, 50, 183, 0, 248, 181, 0, 72, 42, 180, 0, 72]
abbrev dktX0_grow_1 : List UInt8 := dkwX0_grow_1 ++ dktX0_grow_2
def dkwX0_grow_0 : List UInt8 := [27, 184, 0, 146, 154, 0, 5, 2, 172, 42, 180, 0, 49, 27, 50, 184, 0, 162, 154, 0, 6, 16, 253, 172]
abbrev dktX0_grow_0 : List UInt8 := dkwX0_grow_0 ++ dktX0_grow_1
theorem dksX0_grow_0 : cX0_grow.data.toList.drop 0 = dktX0_grow_0 := by decide +kernel
theorem dksX0_grow_1 : cX0_grow.data.toList.drop 24 = dktX0_grow_1 := dk_seg dksX0_grow_0 24 rfl rfl
theorem dksX0_grow_2 : cX0_grow.data.toList.drop 46 = dktX0_grow_2 := dk_seg dksX0_grow_1 22 rfl rfl
theorem dX0_grow_0 : decode cX0_grow 0 = .ok (.iload_n 1, 1) := dk_27 (dk_at dksX0_grow_0 0 rfl rfl)
theorem dX0_grow_1 : decode cX0_grow 1 = .ok (.invokestatic 146, 3) := dk_184 0 146 (dk_at dksX0_grow_0 1 rfl rfl)
theorem dX0_grow_4 : decode cX0_grow 4 = .ok (.ifCond .ne 5, 3) := dk_154 0 5 (dk_at dksX0_grow_0 4 rfl rfl)
theorem dX0_grow_7 : decode cX0_grow 7 = .ok (.iconst (-1), 1) := dk_2 (dk_at dksX0_grow_0 7 rfl rfl)
theorem dX0_grow_8 : decode cX0_grow 8 = .ok (.ireturn, 1) := dk_172 (dk_at dksX0_grow_0 8 rfl rfl)
theorem dX0_grow_9 : decode cX0_grow 9 = .ok (.aload_n 0, 1) := dk_42 (dk_at dksX0_grow_0 9 rfl rfl)
theorem dX0_grow_10 : decode cX0_grow 10 = .ok (.getfield 49, 3) := dk_180 0 49 (dk_at dksX0_grow_0 10 rfl rfl)
theorem dX0_grow_13 : decode cX0_grow 13 = .ok (.iload_n 1, 1) := dk_27 (dk_at dksX0_grow_0 13 rfl rfl)
theorem dX0_grow_14 : decode cX0_grow 14 = .ok (.aaload, 1) := dk_50 (dk_at dksX0_grow_0 14 rfl rfl)
theorem dX0_grow_15 : decode cX0_grow 15 = .ok (.invokestatic 162, 3) := dk_184 0 162 (dk_at dksX0_grow_0 15 rfl rfl)
theorem dX0_grow_18 : decode cX0_grow 18 = .ok (.ifCond .ne 6, 3) := dk_154 0 6 (dk_at dksX0_grow_0 18 rfl rfl)
theorem dX0_grow_21 : decode cX0_grow 21 = .ok (.bipush (-3), 2) := dk_16 253 (dk_at dksX0_grow_0 21 rfl rfl)
theorem dX0_grow_23 : decode cX0_grow 23 = .ok (.ireturn, 1) := dk_172 (dk_at dksX0_grow_0 23 rfl rfl)
theorem dX0_grow_24 : decode cX0_grow 24 = .ok (.aload_n 0, 1) := dk_42 (dk_at dksX0_grow_1 0 rfl rfl)
theorem dX0_grow_25 : decode cX0_grow 25 = .ok (.new 246, 3) := dk_187 0 246 (dk_at dksX0_grow_1 1 rfl rfl)
theorem dX0_grow_28 : decode cX0_grow 28 = .ok (.dup, 1) := dk_89 (dk_at dksX0_grow_1 4 rfl rfl)
theorem dX0_grow_29 : decode cX0_grow 29 = .ok (.aload_n 0, 1) := dk_42 (dk_at dksX0_grow_1 5 rfl rfl)
theorem dX0_grow_30 : decode cX0_grow 30 = .ok (.aload_n 0, 1) := dk_42 (dk_at dksX0_grow_1 6 rfl rfl)
theorem dX0_grow_31 : decode cX0_grow 31 = .ok (.getfield 49, 3) := dk_180 0 49 (dk_at dksX0_grow_1 7 rfl rfl)
theorem dX0_grow_34 : decode cX0_grow 34 = .ok (.iload_n 1, 1) := dk_27 (dk_at dksX0_grow_1 10 rfl rfl)
theorem dX0_grow_35 : decode cX0_grow 35 = .ok (.aaload, 1) := dk_50 (dk_at dksX0_grow_1 11 rfl rfl)
theorem dX0_grow_36 : decode cX0_grow 36 = .ok (.invokespecial 248, 3) := dk_183 0 248 (dk_at dksX0_grow_1 12 rfl rfl)
theorem dX0_grow_39 : decode cX0_grow 39 = .ok (.putfield 72, 3) := dk_181 0 72 (dk_at dksX0_grow_1 15 rfl rfl)
theorem dX0_grow_42 : decode cX0_grow 42 = .ok (.aload_n 0, 1) := dk_42 (dk_at dksX0_grow_1 18 rfl rfl)
theorem dX0_grow_43 : decode cX0_grow 43 = .ok (.getfield 72, 3) := dk_180 0 72 (dk_at dksX0_grow_1 19 rfl rfl)
theorem dX0_grow_46 : decode cX0_grow 46 = .ok (.getfield 251, 3) := dk_180 0 251 (dk_at dksX0_grow_2 0 rfl rfl)
theorem dX0_grow_49 : decode cX0_grow 49 = .ok (.invokevirtual 200, 3) := dk_182 0 200 (dk_at dksX0_grow_2 3 rfl rfl)
theorem dX0_grow_52 : decode cX0_grow 52 = .ok (.ireturn, 1) := dk_172 (dk_at dksX0_grow_2 6 rfl rfl)
abbrev cX0_valueOf : ByteArray := prog_1_method_6_code
def yX0_valueOf : MethodName := ⟨RX0, "valueOf", "(J)I"⟩
def dkwX0_valueOf_1 : List UInt8 := [180, 0, 9, 133, 109, 55, 4, 167, 255, 230, 29, 172]
abbrev dktX0_valueOf_1 : List UInt8 := dkwX0_valueOf_1 ++ []
def dkwX0_valueOf_0 : List UInt8 := [3, 62, 31, 55, 4, 22, 4, 42, 180, 0, 9, 133, 113, 9, 148, 154, 0, 19, 132, 3, 1, 22, 4, 42]
abbrev dktX0_valueOf_0 : List UInt8 := dkwX0_valueOf_0 ++ dktX0_valueOf_1
theorem dksX0_valueOf_0 : cX0_valueOf.data.toList.drop 0 = dktX0_valueOf_0 := by decide +kernel
theorem dksX0_valueOf_1 : cX0_valueOf.data.toList.drop 24 = dktX0_valueOf_1 := dk_seg dksX0_valueOf_0 24 rfl rfl
theorem dX0_valueOf_0 : decode cX0_valueOf 0 = .ok (.iconst 0, 1) := dk_3 (dk_at dksX0_valueOf_0 0 rfl rfl)
theorem dX0_valueOf_1 : decode cX0_valueOf 1 = .ok (.istore_n 3, 1) := dk_62 (dk_at dksX0_valueOf_0 1 rfl rfl)
theorem dX0_valueOf_2 : decode cX0_valueOf 2 = .ok (.lload_n 1, 1) := dk_31 (dk_at dksX0_valueOf_0 2 rfl rfl)
theorem dX0_valueOf_3 : decode cX0_valueOf 3 = .ok (.lstore 4, 2) := dk_55 4 (dk_at dksX0_valueOf_0 3 rfl rfl)
theorem dX0_valueOf_5 : decode cX0_valueOf 5 = .ok (.lload 4, 2) := dk_22 4 (dk_at dksX0_valueOf_0 5 rfl rfl)
theorem dX0_valueOf_7 : decode cX0_valueOf 7 = .ok (.aload_n 0, 1) := dk_42 (dk_at dksX0_valueOf_0 7 rfl rfl)
theorem dX0_valueOf_8 : decode cX0_valueOf 8 = .ok (.getfield 9, 3) := dk_180 0 9 (dk_at dksX0_valueOf_0 8 rfl rfl)
theorem dX0_valueOf_11 : decode cX0_valueOf 11 = .ok (.i2l, 1) := dk_133 (dk_at dksX0_valueOf_0 11 rfl rfl)
theorem dX0_valueOf_12 : decode cX0_valueOf 12 = .ok (.lrem, 1) := dk_113 (dk_at dksX0_valueOf_0 12 rfl rfl)
theorem dX0_valueOf_13 : decode cX0_valueOf 13 = .ok (.lconst 0, 1) := dk_9 (dk_at dksX0_valueOf_0 13 rfl rfl)
theorem dX0_valueOf_14 : decode cX0_valueOf 14 = .ok (.lcmp, 1) := dk_148 (dk_at dksX0_valueOf_0 14 rfl rfl)
theorem dX0_valueOf_15 : decode cX0_valueOf 15 = .ok (.ifCond .ne 19, 3) := dk_154 0 19 (dk_at dksX0_valueOf_0 15 rfl rfl)
theorem dX0_valueOf_18 : decode cX0_valueOf 18 = .ok (.iinc 3 1, 3) := dk_132 3 1 (dk_at dksX0_valueOf_0 18 rfl rfl)
theorem dX0_valueOf_21 : decode cX0_valueOf 21 = .ok (.lload 4, 2) := dk_22 4 (dk_at dksX0_valueOf_0 21 rfl rfl)
theorem dX0_valueOf_23 : decode cX0_valueOf 23 = .ok (.aload_n 0, 1) := dk_42 (dk_at dksX0_valueOf_0 23 rfl rfl)
theorem dX0_valueOf_24 : decode cX0_valueOf 24 = .ok (.getfield 9, 3) := dk_180 0 9 (dk_at dksX0_valueOf_1 0 rfl rfl)
theorem dX0_valueOf_27 : decode cX0_valueOf 27 = .ok (.i2l, 1) := dk_133 (dk_at dksX0_valueOf_1 3 rfl rfl)
theorem dX0_valueOf_28 : decode cX0_valueOf 28 = .ok (.ldiv, 1) := dk_109 (dk_at dksX0_valueOf_1 4 rfl rfl)
theorem dX0_valueOf_29 : decode cX0_valueOf 29 = .ok (.lstore 4, 2) := dk_55 4 (dk_at dksX0_valueOf_1 5 rfl rfl)
theorem dX0_valueOf_31 : decode cX0_valueOf 31 = .ok (.goto (-26), 3) := dk_167 255 230 (dk_at dksX0_valueOf_1 7 rfl rfl)
theorem dX0_valueOf_34 : decode cX0_valueOf 34 = .ok (.iload_n 3, 1) := dk_29 (dk_at dksX0_valueOf_1 10 rfl rfl)
theorem dX0_valueOf_35 : decode cX0_valueOf 35 = .ok (.ireturn, 1) := dk_172 (dk_at dksX0_valueOf_1 11 rfl rfl)
abbrev cX0_product : ByteArray := prog_1_method_10_code
def yX0_product : MethodName := ⟨RX0, "product", "([J[J)[J"⟩
def dkwX0_product_3 : List UInt8 := [167, 255, 205, 132, 4, 1, 167, 255, 189, 45, 176]
abbrev dktX0_product_3 : List UInt8 := dkwX0_product_3 ++ []
def dkwX0_product_2 : List UInt8 := [21, 5, 96, 47, 43, 21, 4, 47, 44, 21, 5, 47, 105, 97, 42, 180, 0, 21, 113, 80, 132, 5, 1]
abbrev dktX0_product_2 : List UInt8 := dkwX0_product_2 ++ dktX0_product_3
def dkwX0_product_1 : List UInt8 := [16, 9, 162, 0, 47, 43, 21, 4, 47, 9, 148, 153, 0, 38, 45, 21, 4, 21, 5, 96, 45, 21, 4]
abbrev dktX0_product_1 : List UInt8 := dkwX0_product_1 ++ dktX0_product_2
def dkwX0_product_0 : List UInt8 := [16, 9, 188, 11, 78, 3, 54, 4, 21, 4, 16, 9, 162, 0, 66, 3, 54, 5, 21, 4, 21, 5, 96]
abbrev dktX0_product_0 : List UInt8 := dkwX0_product_0 ++ dktX0_product_1
theorem dksX0_product_0 : cX0_product.data.toList.drop 0 = dktX0_product_0 := by decide +kernel
theorem dksX0_product_1 : cX0_product.data.toList.drop 23 = dktX0_product_1 := dk_seg dksX0_product_0 23 rfl rfl
theorem dksX0_product_2 : cX0_product.data.toList.drop 46 = dktX0_product_2 := dk_seg dksX0_product_1 23 rfl rfl
theorem dksX0_product_3 : cX0_product.data.toList.drop 69 = dktX0_product_3 := dk_seg dksX0_product_2 23 rfl rfl
theorem dX0_product_0 : decode cX0_product 0 = .ok (.bipush 9, 2) := dk_16 9 (dk_at dksX0_product_0 0 rfl rfl)
theorem dX0_product_2 : decode cX0_product 2 = .ok (.newarray .long, 2) := dk_188_11 (dk_at dksX0_product_0 2 rfl rfl)
theorem dX0_product_4 : decode cX0_product 4 = .ok (.astore_n 3, 1) := dk_78 (dk_at dksX0_product_0 4 rfl rfl)
theorem dX0_product_5 : decode cX0_product 5 = .ok (.iconst 0, 1) := dk_3 (dk_at dksX0_product_0 5 rfl rfl)
theorem dX0_product_6 : decode cX0_product 6 = .ok (.istore 4, 2) := dk_54 4 (dk_at dksX0_product_0 6 rfl rfl)
theorem dX0_product_8 : decode cX0_product 8 = .ok (.iload 4, 2) := dk_21 4 (dk_at dksX0_product_0 8 rfl rfl)
theorem dX0_product_10 : decode cX0_product 10 = .ok (.bipush 9, 2) := dk_16 9 (dk_at dksX0_product_0 10 rfl rfl)
theorem dX0_product_12 : decode cX0_product 12 = .ok (.if_icmp .ge 66, 3) := dk_162 0 66 (dk_at dksX0_product_0 12 rfl rfl)
theorem dX0_product_15 : decode cX0_product 15 = .ok (.iconst 0, 1) := dk_3 (dk_at dksX0_product_0 15 rfl rfl)
theorem dX0_product_16 : decode cX0_product 16 = .ok (.istore 5, 2) := dk_54 5 (dk_at dksX0_product_0 16 rfl rfl)
theorem dX0_product_18 : decode cX0_product 18 = .ok (.iload 4, 2) := dk_21 4 (dk_at dksX0_product_0 18 rfl rfl)
theorem dX0_product_20 : decode cX0_product 20 = .ok (.iload 5, 2) := dk_21 5 (dk_at dksX0_product_0 20 rfl rfl)
theorem dX0_product_22 : decode cX0_product 22 = .ok (.iadd, 1) := dk_96 (dk_at dksX0_product_0 22 rfl rfl)
theorem dX0_product_23 : decode cX0_product 23 = .ok (.bipush 9, 2) := dk_16 9 (dk_at dksX0_product_1 0 rfl rfl)
theorem dX0_product_25 : decode cX0_product 25 = .ok (.if_icmp .ge 47, 3) := dk_162 0 47 (dk_at dksX0_product_1 2 rfl rfl)
theorem dX0_product_28 : decode cX0_product 28 = .ok (.aload_n 1, 1) := dk_43 (dk_at dksX0_product_1 5 rfl rfl)
theorem dX0_product_29 : decode cX0_product 29 = .ok (.iload 4, 2) := dk_21 4 (dk_at dksX0_product_1 6 rfl rfl)
theorem dX0_product_31 : decode cX0_product 31 = .ok (.laload, 1) := dk_47 (dk_at dksX0_product_1 8 rfl rfl)
theorem dX0_product_32 : decode cX0_product 32 = .ok (.lconst 0, 1) := dk_9 (dk_at dksX0_product_1 9 rfl rfl)
theorem dX0_product_33 : decode cX0_product 33 = .ok (.lcmp, 1) := dk_148 (dk_at dksX0_product_1 10 rfl rfl)
theorem dX0_product_34 : decode cX0_product 34 = .ok (.ifCond .eq 38, 3) := dk_153 0 38 (dk_at dksX0_product_1 11 rfl rfl)
theorem dX0_product_37 : decode cX0_product 37 = .ok (.aload_n 3, 1) := dk_45 (dk_at dksX0_product_1 14 rfl rfl)
theorem dX0_product_38 : decode cX0_product 38 = .ok (.iload 4, 2) := dk_21 4 (dk_at dksX0_product_1 15 rfl rfl)
theorem dX0_product_40 : decode cX0_product 40 = .ok (.iload 5, 2) := dk_21 5 (dk_at dksX0_product_1 17 rfl rfl)
theorem dX0_product_42 : decode cX0_product 42 = .ok (.iadd, 1) := dk_96 (dk_at dksX0_product_1 19 rfl rfl)
theorem dX0_product_43 : decode cX0_product 43 = .ok (.aload_n 3, 1) := dk_45 (dk_at dksX0_product_1 20 rfl rfl)
theorem dX0_product_44 : decode cX0_product 44 = .ok (.iload 4, 2) := dk_21 4 (dk_at dksX0_product_1 21 rfl rfl)
theorem dX0_product_46 : decode cX0_product 46 = .ok (.iload 5, 2) := dk_21 5 (dk_at dksX0_product_2 0 rfl rfl)
theorem dX0_product_48 : decode cX0_product 48 = .ok (.iadd, 1) := dk_96 (dk_at dksX0_product_2 2 rfl rfl)
theorem dX0_product_49 : decode cX0_product 49 = .ok (.laload, 1) := dk_47 (dk_at dksX0_product_2 3 rfl rfl)
theorem dX0_product_50 : decode cX0_product 50 = .ok (.aload_n 1, 1) := dk_43 (dk_at dksX0_product_2 4 rfl rfl)
theorem dX0_product_51 : decode cX0_product 51 = .ok (.iload 4, 2) := dk_21 4 (dk_at dksX0_product_2 5 rfl rfl)
theorem dX0_product_53 : decode cX0_product 53 = .ok (.laload, 1) := dk_47 (dk_at dksX0_product_2 7 rfl rfl)
theorem dX0_product_54 : decode cX0_product 54 = .ok (.aload_n 2, 1) := dk_44 (dk_at dksX0_product_2 8 rfl rfl)
theorem dX0_product_55 : decode cX0_product 55 = .ok (.iload 5, 2) := dk_21 5 (dk_at dksX0_product_2 9 rfl rfl)
theorem dX0_product_57 : decode cX0_product 57 = .ok (.laload, 1) := dk_47 (dk_at dksX0_product_2 11 rfl rfl)
theorem dX0_product_58 : decode cX0_product 58 = .ok (.lmul, 1) := dk_105 (dk_at dksX0_product_2 12 rfl rfl)
theorem dX0_product_59 : decode cX0_product 59 = .ok (.ladd, 1) := dk_97 (dk_at dksX0_product_2 13 rfl rfl)
theorem dX0_product_60 : decode cX0_product 60 = .ok (.aload_n 0, 1) := dk_42 (dk_at dksX0_product_2 14 rfl rfl)
theorem dX0_product_61 : decode cX0_product 61 = .ok (.getfield 21, 3) := dk_180 0 21 (dk_at dksX0_product_2 15 rfl rfl)
theorem dX0_product_64 : decode cX0_product 64 = .ok (.lrem, 1) := dk_113 (dk_at dksX0_product_2 18 rfl rfl)
theorem dX0_product_65 : decode cX0_product 65 = .ok (.lastore, 1) := dk_80 (dk_at dksX0_product_2 19 rfl rfl)
theorem dX0_product_66 : decode cX0_product 66 = .ok (.iinc 5 1, 3) := dk_132 5 1 (dk_at dksX0_product_2 20 rfl rfl)
theorem dX0_product_69 : decode cX0_product 69 = .ok (.goto (-51), 3) := dk_167 255 205 (dk_at dksX0_product_3 0 rfl rfl)
theorem dX0_product_72 : decode cX0_product 72 = .ok (.iinc 4 1, 3) := dk_132 4 1 (dk_at dksX0_product_3 3 rfl rfl)
theorem dX0_product_75 : decode cX0_product 75 = .ok (.goto (-67), 3) := dk_167 255 189 (dk_at dksX0_product_3 6 rfl rfl)
theorem dX0_product_78 : decode cX0_product 78 = .ok (.aload_n 3, 1) := dk_45 (dk_at dksX0_product_3 9 rfl rfl)
theorem dX0_product_79 : decode cX0_product 79 = .ok (.areturn, 1) := dk_176 (dk_at dksX0_product_3 10 rfl rfl)
abbrev cX0_tree : ByteArray := prog_1_method_38_code
def yX0_tree : MethodName := ⟨RX0, "tree", "(I)I"⟩
def dkwX0_tree_1 : List UInt8 := [16, 254, 167, 0, 8, 42, 27, 182, 1, 23, 172]
abbrev dktX0_tree_1 : List UInt8 := dkwX0_tree_1 ++ []
def dkwX0_tree_0 : List UInt8 := [27, 133, 9, 20, 1, 21, 184, 0, 140, 154, 0, 7, 2, 167, 0, 20, 42, 180, 0, 72, 199, 0, 8]
abbrev dktX0_tree_0 : List UInt8 := dkwX0_tree_0 ++ dktX0_tree_1
theorem dksX0_tree_0 : cX0_tree.data.toList.drop 0 = dktX0_tree_0 := by decide +kernel
theorem dksX0_tree_1 : cX0_tree.data.toList.drop 23 = dktX0_tree_1 := dk_seg dksX0_tree_0 23 rfl rfl
theorem dX0_tree_0 : decode cX0_tree 0 = .ok (.iload_n 1, 1) := dk_27 (dk_at dksX0_tree_0 0 rfl rfl)
theorem dX0_tree_1 : decode cX0_tree 1 = .ok (.i2l, 1) := dk_133 (dk_at dksX0_tree_0 1 rfl rfl)
theorem dX0_tree_2 : decode cX0_tree 2 = .ok (.lconst 0, 1) := dk_9 (dk_at dksX0_tree_0 2 rfl rfl)
theorem dX0_tree_3 : decode cX0_tree 3 = .ok (.ldc2_w 277, 3) := dk_20 1 21 (dk_at dksX0_tree_0 3 rfl rfl)
theorem dX0_tree_6 : decode cX0_tree 6 = .ok (.invokestatic 140, 3) := dk_184 0 140 (dk_at dksX0_tree_0 6 rfl rfl)
theorem dX0_tree_9 : decode cX0_tree 9 = .ok (.ifCond .ne 7, 3) := dk_154 0 7 (dk_at dksX0_tree_0 9 rfl rfl)
theorem dX0_tree_12 : decode cX0_tree 12 = .ok (.iconst (-1), 1) := dk_2 (dk_at dksX0_tree_0 12 rfl rfl)
theorem dX0_tree_13 : decode cX0_tree 13 = .ok (.goto 20, 3) := dk_167 0 20 (dk_at dksX0_tree_0 13 rfl rfl)
theorem dX0_tree_16 : decode cX0_tree 16 = .ok (.aload_n 0, 1) := dk_42 (dk_at dksX0_tree_0 16 rfl rfl)
theorem dX0_tree_17 : decode cX0_tree 17 = .ok (.getfield 72, 3) := dk_180 0 72 (dk_at dksX0_tree_0 17 rfl rfl)
theorem dX0_tree_20 : decode cX0_tree 20 = .ok (.ifnonnull 8, 3) := dk_199 0 8 (dk_at dksX0_tree_0 20 rfl rfl)
theorem dX0_tree_23 : decode cX0_tree 23 = .ok (.bipush (-2), 2) := dk_16 254 (dk_at dksX0_tree_1 0 rfl rfl)
theorem dX0_tree_25 : decode cX0_tree 25 = .ok (.goto 8, 3) := dk_167 0 8 (dk_at dksX0_tree_1 2 rfl rfl)
theorem dX0_tree_28 : decode cX0_tree 28 = .ok (.aload_n 0, 1) := dk_42 (dk_at dksX0_tree_1 5 rfl rfl)
theorem dX0_tree_29 : decode cX0_tree 29 = .ok (.iload_n 1, 1) := dk_27 (dk_at dksX0_tree_1 6 rfl rfl)
theorem dX0_tree_30 : decode cX0_tree 30 = .ok (.invokevirtual 279, 3) := dk_182 1 23 (dk_at dksX0_tree_1 7 rfl rfl)
theorem dX0_tree_33 : decode cX0_tree 33 = .ok (.ireturn, 1) := dk_172 (dk_at dksX0_tree_1 10 rfl rfl)
abbrev cX0_asked : ByteArray := prog_1_method_37_code
def yX0_asked : MethodName := ⟨RX0, "asked", "(I)I"⟩
def dkwX0_asked_5 : List UInt8 := [182, 1, 13, 185, 1, 17, 1, 0, 167, 0, 10, 42, 180, 0, 72, 180, 1, 20, 172]
abbrev dktX0_asked_5 : List UInt8 := dkwX0_asked_5 ++ []
def dkwX0_asked_4 : List UInt8 := [180, 0, 72, 182, 1, 7, 167, 0, 35, 42, 180, 0, 72, 182, 1, 10, 167, 0, 25, 42, 180, 0, 72]
abbrev dktX0_asked_4 : List UInt8 := dkwX0_asked_4 ++ dktX0_asked_5
def dkwX0_asked_3 : List UInt8 := [167, 0, 65, 42, 180, 0, 72, 182, 1, 1, 167, 0, 55, 42, 180, 0, 72, 182, 1, 4, 167, 0, 45, 42]
abbrev dktX0_asked_3 : List UInt8 := dkwX0_asked_3 ++ dktX0_asked_4
def dkwX0_asked_2 : List UInt8 := [42, 180, 0, 72, 180, 0, 254, 182, 0, 200, 167, 0, 78, 42, 180, 0, 72, 180, 0, 251, 182, 0, 200]
abbrev dktX0_asked_2 : List UInt8 := dkwX0_asked_2 ++ dktX0_asked_3
def dkwX0_asked_1 : List UInt8 := [170, 0, 0, 0, 0, 0, 124, 0, 0, 0, 0, 0, 0, 0, 6, 0, 0, 0, 43, 0, 0, 0, 56, 0, 0, 0, 69, 0, 0, 0, 79, 0, 0, 0, 89, 0, 0, 0, 99, 0, 0, 0, 109]
abbrev dktX0_asked_1 : List UInt8 := dkwX0_asked_1 ++ dktX0_asked_2
def dkwX0_asked_0 : List UInt8 := [27]
abbrev dktX0_asked_0 : List UInt8 := dkwX0_asked_0 ++ dktX0_asked_1
theorem dksX0_asked_0 : cX0_asked.data.toList.drop 0 = dktX0_asked_0 := by decide +kernel
theorem dksX0_asked_1 : cX0_asked.data.toList.drop 1 = dktX0_asked_1 := dk_seg dksX0_asked_0 1 rfl rfl
theorem dksX0_asked_2 : cX0_asked.data.toList.drop 44 = dktX0_asked_2 := dk_seg dksX0_asked_1 43 rfl rfl
theorem dksX0_asked_3 : cX0_asked.data.toList.drop 67 = dktX0_asked_3 := dk_seg dksX0_asked_2 23 rfl rfl
theorem dksX0_asked_4 : cX0_asked.data.toList.drop 91 = dktX0_asked_4 := dk_seg dksX0_asked_3 24 rfl rfl
theorem dksX0_asked_5 : cX0_asked.data.toList.drop 114 = dktX0_asked_5 := dk_seg dksX0_asked_4 23 rfl rfl
theorem dX0_asked_0 : decode cX0_asked 0 = .ok (.iload_n 1, 1) := dk_27 (dk_at dksX0_asked_0 0 rfl rfl)
theorem dX0_asked_1 : decode cX0_asked 1 = .ok (.tableswitch 124 0 6 #[43, 56, 69, 79, 89, 99, 109], 43) := by decide +kernel
theorem dX0_asked_44 : decode cX0_asked 44 = .ok (.aload_n 0, 1) := dk_42 (dk_at dksX0_asked_2 0 rfl rfl)
theorem dX0_asked_45 : decode cX0_asked 45 = .ok (.getfield 72, 3) := dk_180 0 72 (dk_at dksX0_asked_2 1 rfl rfl)
theorem dX0_asked_48 : decode cX0_asked 48 = .ok (.getfield 254, 3) := dk_180 0 254 (dk_at dksX0_asked_2 4 rfl rfl)
theorem dX0_asked_51 : decode cX0_asked 51 = .ok (.invokevirtual 200, 3) := dk_182 0 200 (dk_at dksX0_asked_2 7 rfl rfl)
theorem dX0_asked_54 : decode cX0_asked 54 = .ok (.goto 78, 3) := dk_167 0 78 (dk_at dksX0_asked_2 10 rfl rfl)
theorem dX0_asked_57 : decode cX0_asked 57 = .ok (.aload_n 0, 1) := dk_42 (dk_at dksX0_asked_2 13 rfl rfl)
theorem dX0_asked_58 : decode cX0_asked 58 = .ok (.getfield 72, 3) := dk_180 0 72 (dk_at dksX0_asked_2 14 rfl rfl)
theorem dX0_asked_61 : decode cX0_asked 61 = .ok (.getfield 251, 3) := dk_180 0 251 (dk_at dksX0_asked_2 17 rfl rfl)
theorem dX0_asked_64 : decode cX0_asked 64 = .ok (.invokevirtual 200, 3) := dk_182 0 200 (dk_at dksX0_asked_2 20 rfl rfl)
theorem dX0_asked_67 : decode cX0_asked 67 = .ok (.goto 65, 3) := dk_167 0 65 (dk_at dksX0_asked_3 0 rfl rfl)
theorem dX0_asked_70 : decode cX0_asked 70 = .ok (.aload_n 0, 1) := dk_42 (dk_at dksX0_asked_3 3 rfl rfl)
theorem dX0_asked_71 : decode cX0_asked 71 = .ok (.getfield 72, 3) := dk_180 0 72 (dk_at dksX0_asked_3 4 rfl rfl)
theorem dX0_asked_74 : decode cX0_asked 74 = .ok (.invokevirtual 257, 3) := dk_182 1 1 (dk_at dksX0_asked_3 7 rfl rfl)
theorem dX0_asked_77 : decode cX0_asked 77 = .ok (.goto 55, 3) := dk_167 0 55 (dk_at dksX0_asked_3 10 rfl rfl)
theorem dX0_asked_80 : decode cX0_asked 80 = .ok (.aload_n 0, 1) := dk_42 (dk_at dksX0_asked_3 13 rfl rfl)
theorem dX0_asked_81 : decode cX0_asked 81 = .ok (.getfield 72, 3) := dk_180 0 72 (dk_at dksX0_asked_3 14 rfl rfl)
theorem dX0_asked_84 : decode cX0_asked 84 = .ok (.invokevirtual 260, 3) := dk_182 1 4 (dk_at dksX0_asked_3 17 rfl rfl)
theorem dX0_asked_87 : decode cX0_asked 87 = .ok (.goto 45, 3) := dk_167 0 45 (dk_at dksX0_asked_3 20 rfl rfl)
theorem dX0_asked_90 : decode cX0_asked 90 = .ok (.aload_n 0, 1) := dk_42 (dk_at dksX0_asked_3 23 rfl rfl)
theorem dX0_asked_91 : decode cX0_asked 91 = .ok (.getfield 72, 3) := dk_180 0 72 (dk_at dksX0_asked_4 0 rfl rfl)
theorem dX0_asked_94 : decode cX0_asked 94 = .ok (.invokevirtual 263, 3) := dk_182 1 7 (dk_at dksX0_asked_4 3 rfl rfl)
theorem dX0_asked_97 : decode cX0_asked 97 = .ok (.goto 35, 3) := dk_167 0 35 (dk_at dksX0_asked_4 6 rfl rfl)
theorem dX0_asked_100 : decode cX0_asked 100 = .ok (.aload_n 0, 1) := dk_42 (dk_at dksX0_asked_4 9 rfl rfl)
theorem dX0_asked_101 : decode cX0_asked 101 = .ok (.getfield 72, 3) := dk_180 0 72 (dk_at dksX0_asked_4 10 rfl rfl)
theorem dX0_asked_104 : decode cX0_asked 104 = .ok (.invokevirtual 266, 3) := dk_182 1 10 (dk_at dksX0_asked_4 13 rfl rfl)
theorem dX0_asked_107 : decode cX0_asked 107 = .ok (.goto 25, 3) := dk_167 0 25 (dk_at dksX0_asked_4 16 rfl rfl)
theorem dX0_asked_110 : decode cX0_asked 110 = .ok (.aload_n 0, 1) := dk_42 (dk_at dksX0_asked_4 19 rfl rfl)
theorem dX0_asked_111 : decode cX0_asked 111 = .ok (.getfield 72, 3) := dk_180 0 72 (dk_at dksX0_asked_4 20 rfl rfl)
theorem dX0_asked_114 : decode cX0_asked 114 = .ok (.invokevirtual 269, 3) := dk_182 1 13 (dk_at dksX0_asked_5 0 rfl rfl)
theorem dX0_asked_117 : decode cX0_asked 117 = .ok (.invokeinterface 273 1, 5) := by decide +kernel
theorem dX0_asked_122 : decode cX0_asked 122 = .ok (.goto 10, 3) := dk_167 0 10 (dk_at dksX0_asked_5 8 rfl rfl)
theorem dX0_asked_125 : decode cX0_asked 125 = .ok (.aload_n 0, 1) := dk_42 (dk_at dksX0_asked_5 11 rfl rfl)
theorem dX0_asked_126 : decode cX0_asked 126 = .ok (.getfield 72, 3) := dk_180 0 72 (dk_at dksX0_asked_5 12 rfl rfl)
theorem dX0_asked_129 : decode cX0_asked 129 = .ok (.getfield 276, 3) := dk_180 1 20 (dk_at dksX0_asked_5 15 rfl rfl)
theorem dX0_asked_132 : decode cX0_asked 132 = .ok (.ireturn, 1) := dk_172 (dk_at dksX0_asked_5 18 rfl rfl)
abbrev cX0_knot : ByteArray := prog_1_method_41_code
def yX0_knot : MethodName := ⟨RX0, "knot", "(II)I"⟩
def dkwX0_knot_5 : List UInt8 := [16, 254, 167, 0, 17, 45, 180, 1, 50, 180, 1, 54, 167, 0, 7, 45, 180, 1, 57, 172]
abbrev dktX0_knot_5 : List UInt8 := dkwX0_knot_5 ++ []
def dkwX0_knot_4 : List UInt8 := [45, 180, 1, 32, 182, 0, 200, 167, 0, 36, 45, 180, 1, 48, 167, 0, 29, 45, 180, 1, 50, 199, 0, 8]
abbrev dktX0_knot_4 : List UInt8 := dkwX0_knot_4 ++ dktX0_knot_5
def dkwX0_knot_3 : List UInt8 := [45, 180, 1, 39, 167, 0, 63, 45, 180, 1, 42, 167, 0, 56, 45, 180, 1, 45, 184, 0, 82, 167, 0, 46]
abbrev dktX0_knot_3 : List UInt8 := dkwX0_knot_3 ++ dktX0_knot_4
def dkwX0_knot_2 : List UInt8 := [170, 0, 0, 0, 0, 0, 0, 103, 0, 0, 0, 0, 0, 0, 0, 5, 0, 0, 0, 40, 0, 0, 0, 47, 0, 0, 0, 54, 0, 0, 0, 64, 0, 0, 0, 74, 0, 0, 0, 81]
abbrev dktX0_knot_2 : List UInt8 := dkwX0_knot_2 ++ dktX0_knot_3
def dkwX0_knot_1 : List UInt8 := [16, 254, 172, 28]
abbrev dktX0_knot_1 : List UInt8 := dkwX0_knot_1 ++ dktX0_knot_2
def dkwX0_knot_0 : List UInt8 := [28, 133, 9, 20, 1, 37, 184, 0, 140, 154, 0, 5, 2, 172, 42, 27, 182, 1, 28, 78, 45, 199, 0, 6]
abbrev dktX0_knot_0 : List UInt8 := dkwX0_knot_0 ++ dktX0_knot_1
theorem dksX0_knot_0 : cX0_knot.data.toList.drop 0 = dktX0_knot_0 := by decide +kernel
theorem dksX0_knot_1 : cX0_knot.data.toList.drop 24 = dktX0_knot_1 := dk_seg dksX0_knot_0 24 rfl rfl
theorem dksX0_knot_2 : cX0_knot.data.toList.drop 28 = dktX0_knot_2 := dk_seg dksX0_knot_1 4 rfl rfl
theorem dksX0_knot_3 : cX0_knot.data.toList.drop 68 = dktX0_knot_3 := dk_seg dksX0_knot_2 40 rfl rfl
theorem dksX0_knot_4 : cX0_knot.data.toList.drop 92 = dktX0_knot_4 := dk_seg dksX0_knot_3 24 rfl rfl
theorem dksX0_knot_5 : cX0_knot.data.toList.drop 116 = dktX0_knot_5 := dk_seg dksX0_knot_4 24 rfl rfl
theorem dX0_knot_0 : decode cX0_knot 0 = .ok (.iload_n 2, 1) := dk_28 (dk_at dksX0_knot_0 0 rfl rfl)
theorem dX0_knot_1 : decode cX0_knot 1 = .ok (.i2l, 1) := dk_133 (dk_at dksX0_knot_0 1 rfl rfl)
theorem dX0_knot_2 : decode cX0_knot 2 = .ok (.lconst 0, 1) := dk_9 (dk_at dksX0_knot_0 2 rfl rfl)
theorem dX0_knot_3 : decode cX0_knot 3 = .ok (.ldc2_w 293, 3) := dk_20 1 37 (dk_at dksX0_knot_0 3 rfl rfl)
theorem dX0_knot_6 : decode cX0_knot 6 = .ok (.invokestatic 140, 3) := dk_184 0 140 (dk_at dksX0_knot_0 6 rfl rfl)
theorem dX0_knot_9 : decode cX0_knot 9 = .ok (.ifCond .ne 5, 3) := dk_154 0 5 (dk_at dksX0_knot_0 9 rfl rfl)
theorem dX0_knot_12 : decode cX0_knot 12 = .ok (.iconst (-1), 1) := dk_2 (dk_at dksX0_knot_0 12 rfl rfl)
theorem dX0_knot_13 : decode cX0_knot 13 = .ok (.ireturn, 1) := dk_172 (dk_at dksX0_knot_0 13 rfl rfl)
theorem dX0_knot_14 : decode cX0_knot 14 = .ok (.aload_n 0, 1) := dk_42 (dk_at dksX0_knot_0 14 rfl rfl)
theorem dX0_knot_15 : decode cX0_knot 15 = .ok (.iload_n 1, 1) := dk_27 (dk_at dksX0_knot_0 15 rfl rfl)
theorem dX0_knot_16 : decode cX0_knot 16 = .ok (.invokevirtual 284, 3) := dk_182 1 28 (dk_at dksX0_knot_0 16 rfl rfl)
theorem dX0_knot_19 : decode cX0_knot 19 = .ok (.astore_n 3, 1) := dk_78 (dk_at dksX0_knot_0 19 rfl rfl)
theorem dX0_knot_20 : decode cX0_knot 20 = .ok (.aload_n 3, 1) := dk_45 (dk_at dksX0_knot_0 20 rfl rfl)
theorem dX0_knot_21 : decode cX0_knot 21 = .ok (.ifnonnull 6, 3) := dk_199 0 6 (dk_at dksX0_knot_0 21 rfl rfl)
theorem dX0_knot_24 : decode cX0_knot 24 = .ok (.bipush (-2), 2) := dk_16 254 (dk_at dksX0_knot_1 0 rfl rfl)
theorem dX0_knot_26 : decode cX0_knot 26 = .ok (.ireturn, 1) := dk_172 (dk_at dksX0_knot_1 2 rfl rfl)
theorem dX0_knot_27 : decode cX0_knot 27 = .ok (.iload_n 2, 1) := dk_28 (dk_at dksX0_knot_1 3 rfl rfl)
theorem dX0_knot_28 : decode cX0_knot 28 = .ok (.tableswitch 103 0 5 #[40, 47, 54, 64, 74, 81], 40) := by decide +kernel
theorem dX0_knot_68 : decode cX0_knot 68 = .ok (.aload_n 3, 1) := dk_45 (dk_at dksX0_knot_3 0 rfl rfl)
theorem dX0_knot_69 : decode cX0_knot 69 = .ok (.getfield 295, 3) := dk_180 1 39 (dk_at dksX0_knot_3 1 rfl rfl)
theorem dX0_knot_72 : decode cX0_knot 72 = .ok (.goto 63, 3) := dk_167 0 63 (dk_at dksX0_knot_3 4 rfl rfl)
theorem dX0_knot_75 : decode cX0_knot 75 = .ok (.aload_n 3, 1) := dk_45 (dk_at dksX0_knot_3 7 rfl rfl)
theorem dX0_knot_76 : decode cX0_knot 76 = .ok (.getfield 298, 3) := dk_180 1 42 (dk_at dksX0_knot_3 8 rfl rfl)
theorem dX0_knot_79 : decode cX0_knot 79 = .ok (.goto 56, 3) := dk_167 0 56 (dk_at dksX0_knot_3 11 rfl rfl)
theorem dX0_knot_82 : decode cX0_knot 82 = .ok (.aload_n 3, 1) := dk_45 (dk_at dksX0_knot_3 14 rfl rfl)
theorem dX0_knot_83 : decode cX0_knot 83 = .ok (.getfield 301, 3) := dk_180 1 45 (dk_at dksX0_knot_3 15 rfl rfl)
theorem dX0_knot_86 : decode cX0_knot 86 = .ok (.invokestatic 82, 3) := dk_184 0 82 (dk_at dksX0_knot_3 18 rfl rfl)
theorem dX0_knot_89 : decode cX0_knot 89 = .ok (.goto 46, 3) := dk_167 0 46 (dk_at dksX0_knot_3 21 rfl rfl)
theorem dX0_knot_92 : decode cX0_knot 92 = .ok (.aload_n 3, 1) := dk_45 (dk_at dksX0_knot_4 0 rfl rfl)
theorem dX0_knot_93 : decode cX0_knot 93 = .ok (.getfield 288, 3) := dk_180 1 32 (dk_at dksX0_knot_4 1 rfl rfl)
theorem dX0_knot_96 : decode cX0_knot 96 = .ok (.invokevirtual 200, 3) := dk_182 0 200 (dk_at dksX0_knot_4 4 rfl rfl)
theorem dX0_knot_99 : decode cX0_knot 99 = .ok (.goto 36, 3) := dk_167 0 36 (dk_at dksX0_knot_4 7 rfl rfl)
theorem dX0_knot_102 : decode cX0_knot 102 = .ok (.aload_n 3, 1) := dk_45 (dk_at dksX0_knot_4 10 rfl rfl)
theorem dX0_knot_103 : decode cX0_knot 103 = .ok (.getfield 304, 3) := dk_180 1 48 (dk_at dksX0_knot_4 11 rfl rfl)
theorem dX0_knot_106 : decode cX0_knot 106 = .ok (.goto 29, 3) := dk_167 0 29 (dk_at dksX0_knot_4 14 rfl rfl)
theorem dX0_knot_109 : decode cX0_knot 109 = .ok (.aload_n 3, 1) := dk_45 (dk_at dksX0_knot_4 17 rfl rfl)
theorem dX0_knot_110 : decode cX0_knot 110 = .ok (.getfield 306, 3) := dk_180 1 50 (dk_at dksX0_knot_4 18 rfl rfl)
theorem dX0_knot_113 : decode cX0_knot 113 = .ok (.ifnonnull 8, 3) := dk_199 0 8 (dk_at dksX0_knot_4 21 rfl rfl)
theorem dX0_knot_116 : decode cX0_knot 116 = .ok (.bipush (-2), 2) := dk_16 254 (dk_at dksX0_knot_5 0 rfl rfl)
theorem dX0_knot_118 : decode cX0_knot 118 = .ok (.goto 17, 3) := dk_167 0 17 (dk_at dksX0_knot_5 2 rfl rfl)
theorem dX0_knot_121 : decode cX0_knot 121 = .ok (.aload_n 3, 1) := dk_45 (dk_at dksX0_knot_5 5 rfl rfl)
theorem dX0_knot_122 : decode cX0_knot 122 = .ok (.getfield 306, 3) := dk_180 1 50 (dk_at dksX0_knot_5 6 rfl rfl)
theorem dX0_knot_125 : decode cX0_knot 125 = .ok (.getfield 310, 3) := dk_180 1 54 (dk_at dksX0_knot_5 9 rfl rfl)
theorem dX0_knot_128 : decode cX0_knot 128 = .ok (.goto 7, 3) := dk_167 0 7 (dk_at dksX0_knot_5 12 rfl rfl)
theorem dX0_knot_131 : decode cX0_knot 131 = .ok (.aload_n 3, 1) := dk_45 (dk_at dksX0_knot_5 15 rfl rfl)
theorem dX0_knot_132 : decode cX0_knot 132 = .ok (.getfield 313, 3) := dk_180 1 57 (dk_at dksX0_knot_5 16 rfl rfl)
theorem dX0_knot_135 : decode cX0_knot 135 = .ok (.ireturn, 1) := dk_172 (dk_at dksX0_knot_5 19 rfl rfl)
abbrev cX0_knotAt : ByteArray := prog_1_method_39_code
def yX0_knotAt : MethodName := ⟨RX0, "knotAt", "(I)LTypesAtPrime$Knot;"⟩
def dkwX0_knotAt_2 : List UInt8 := [176]
abbrev dktX0_knotAt_2 : List UInt8 := dkwX0_knotAt_2 ++ []
def dkwX0_knotAt_1 : List UInt8 := [184, 0, 140, 153, 0, 20, 42, 180, 0, 72, 180, 0, 254, 27, 182, 0, 203, 192, 1, 26, 167, 0, 4, 1]
abbrev dktX0_knotAt_1 : List UInt8 := dkwX0_knotAt_1 ++ dktX0_knotAt_2
def dkwX0_knotAt_0 : List UInt8 := [42, 180, 0, 72, 198, 0, 42, 27, 133, 9, 42, 180, 0, 72, 180, 0, 254, 182, 0, 200, 4, 100, 133]
abbrev dktX0_knotAt_0 : List UInt8 := dkwX0_knotAt_0 ++ dktX0_knotAt_1
theorem dksX0_knotAt_0 : cX0_knotAt.data.toList.drop 0 = dktX0_knotAt_0 := by decide +kernel
theorem dksX0_knotAt_1 : cX0_knotAt.data.toList.drop 23 = dktX0_knotAt_1 := dk_seg dksX0_knotAt_0 23 rfl rfl
theorem dksX0_knotAt_2 : cX0_knotAt.data.toList.drop 47 = dktX0_knotAt_2 := dk_seg dksX0_knotAt_1 24 rfl rfl
theorem dX0_knotAt_0 : decode cX0_knotAt 0 = .ok (.aload_n 0, 1) := dk_42 (dk_at dksX0_knotAt_0 0 rfl rfl)
theorem dX0_knotAt_1 : decode cX0_knotAt 1 = .ok (.getfield 72, 3) := dk_180 0 72 (dk_at dksX0_knotAt_0 1 rfl rfl)
theorem dX0_knotAt_4 : decode cX0_knotAt 4 = .ok (.ifnull 42, 3) := dk_198 0 42 (dk_at dksX0_knotAt_0 4 rfl rfl)
theorem dX0_knotAt_7 : decode cX0_knotAt 7 = .ok (.iload_n 1, 1) := dk_27 (dk_at dksX0_knotAt_0 7 rfl rfl)
theorem dX0_knotAt_8 : decode cX0_knotAt 8 = .ok (.i2l, 1) := dk_133 (dk_at dksX0_knotAt_0 8 rfl rfl)
theorem dX0_knotAt_9 : decode cX0_knotAt 9 = .ok (.lconst 0, 1) := dk_9 (dk_at dksX0_knotAt_0 9 rfl rfl)
theorem dX0_knotAt_10 : decode cX0_knotAt 10 = .ok (.aload_n 0, 1) := dk_42 (dk_at dksX0_knotAt_0 10 rfl rfl)
theorem dX0_knotAt_11 : decode cX0_knotAt 11 = .ok (.getfield 72, 3) := dk_180 0 72 (dk_at dksX0_knotAt_0 11 rfl rfl)
theorem dX0_knotAt_14 : decode cX0_knotAt 14 = .ok (.getfield 254, 3) := dk_180 0 254 (dk_at dksX0_knotAt_0 14 rfl rfl)
theorem dX0_knotAt_17 : decode cX0_knotAt 17 = .ok (.invokevirtual 200, 3) := dk_182 0 200 (dk_at dksX0_knotAt_0 17 rfl rfl)
theorem dX0_knotAt_20 : decode cX0_knotAt 20 = .ok (.iconst 1, 1) := dk_4 (dk_at dksX0_knotAt_0 20 rfl rfl)
theorem dX0_knotAt_21 : decode cX0_knotAt 21 = .ok (.isub, 1) := dk_100 (dk_at dksX0_knotAt_0 21 rfl rfl)
theorem dX0_knotAt_22 : decode cX0_knotAt 22 = .ok (.i2l, 1) := dk_133 (dk_at dksX0_knotAt_0 22 rfl rfl)
theorem dX0_knotAt_23 : decode cX0_knotAt 23 = .ok (.invokestatic 140, 3) := dk_184 0 140 (dk_at dksX0_knotAt_1 0 rfl rfl)
theorem dX0_knotAt_26 : decode cX0_knotAt 26 = .ok (.ifCond .eq 20, 3) := dk_153 0 20 (dk_at dksX0_knotAt_1 3 rfl rfl)
theorem dX0_knotAt_29 : decode cX0_knotAt 29 = .ok (.aload_n 0, 1) := dk_42 (dk_at dksX0_knotAt_1 6 rfl rfl)
theorem dX0_knotAt_30 : decode cX0_knotAt 30 = .ok (.getfield 72, 3) := dk_180 0 72 (dk_at dksX0_knotAt_1 7 rfl rfl)
theorem dX0_knotAt_33 : decode cX0_knotAt 33 = .ok (.getfield 254, 3) := dk_180 0 254 (dk_at dksX0_knotAt_1 10 rfl rfl)
theorem dX0_knotAt_36 : decode cX0_knotAt 36 = .ok (.iload_n 1, 1) := dk_27 (dk_at dksX0_knotAt_1 13 rfl rfl)
theorem dX0_knotAt_37 : decode cX0_knotAt 37 = .ok (.invokevirtual 203, 3) := dk_182 0 203 (dk_at dksX0_knotAt_1 14 rfl rfl)
theorem dX0_knotAt_40 : decode cX0_knotAt 40 = .ok (.checkcast 282, 3) := dk_192 1 26 (dk_at dksX0_knotAt_1 17 rfl rfl)
theorem dX0_knotAt_43 : decode cX0_knotAt 43 = .ok (.goto 4, 3) := dk_167 0 4 (dk_at dksX0_knotAt_1 20 rfl rfl)
theorem dX0_knotAt_46 : decode cX0_knotAt 46 = .ok (.aconst_null, 1) := dk_1 (dk_at dksX0_knotAt_1 23 rfl rfl)
theorem dX0_knotAt_47 : decode cX0_knotAt 47 = .ok (.areturn, 1) := dk_176 (dk_at dksX0_knotAt_2 0 rfl rfl)
abbrev cX0_key : ByteArray := prog_1_method_42_code
def yX0_key : MethodName := ⟨RX0, "key", "(II)J"⟩
def dkwX0_key_1 : List UInt8 := [167, 0, 6, 20, 0, 157, 173]
abbrev dktX0_key_1 : List UInt8 := dkwX0_key_1 ++ []
def dkwX0_key_0 : List UInt8 := [42, 27, 182, 1, 28, 78, 45, 198, 0, 19, 28, 184, 0, 150, 153, 0, 12, 45, 180, 1, 45, 28, 47]
abbrev dktX0_key_0 : List UInt8 := dkwX0_key_0 ++ dktX0_key_1
theorem dksX0_key_0 : cX0_key.data.toList.drop 0 = dktX0_key_0 := by decide +kernel
theorem dksX0_key_1 : cX0_key.data.toList.drop 23 = dktX0_key_1 := dk_seg dksX0_key_0 23 rfl rfl
theorem dX0_key_0 : decode cX0_key 0 = .ok (.aload_n 0, 1) := dk_42 (dk_at dksX0_key_0 0 rfl rfl)
theorem dX0_key_1 : decode cX0_key 1 = .ok (.iload_n 1, 1) := dk_27 (dk_at dksX0_key_0 1 rfl rfl)
theorem dX0_key_2 : decode cX0_key 2 = .ok (.invokevirtual 284, 3) := dk_182 1 28 (dk_at dksX0_key_0 2 rfl rfl)
theorem dX0_key_5 : decode cX0_key 5 = .ok (.astore_n 3, 1) := dk_78 (dk_at dksX0_key_0 5 rfl rfl)
theorem dX0_key_6 : decode cX0_key 6 = .ok (.aload_n 3, 1) := dk_45 (dk_at dksX0_key_0 6 rfl rfl)
theorem dX0_key_7 : decode cX0_key 7 = .ok (.ifnull 19, 3) := dk_198 0 19 (dk_at dksX0_key_0 7 rfl rfl)
theorem dX0_key_10 : decode cX0_key 10 = .ok (.iload_n 2, 1) := dk_28 (dk_at dksX0_key_0 10 rfl rfl)
theorem dX0_key_11 : decode cX0_key 11 = .ok (.invokestatic 150, 3) := dk_184 0 150 (dk_at dksX0_key_0 11 rfl rfl)
theorem dX0_key_14 : decode cX0_key 14 = .ok (.ifCond .eq 12, 3) := dk_153 0 12 (dk_at dksX0_key_0 14 rfl rfl)
theorem dX0_key_17 : decode cX0_key 17 = .ok (.aload_n 3, 1) := dk_45 (dk_at dksX0_key_0 17 rfl rfl)
theorem dX0_key_18 : decode cX0_key 18 = .ok (.getfield 301, 3) := dk_180 1 45 (dk_at dksX0_key_0 18 rfl rfl)
theorem dX0_key_21 : decode cX0_key 21 = .ok (.iload_n 2, 1) := dk_28 (dk_at dksX0_key_0 21 rfl rfl)
theorem dX0_key_22 : decode cX0_key 22 = .ok (.laload, 1) := dk_47 (dk_at dksX0_key_0 22 rfl rfl)
theorem dX0_key_23 : decode cX0_key 23 = .ok (.goto 6, 3) := dk_167 0 6 (dk_at dksX0_key_1 0 rfl rfl)
theorem dX0_key_26 : decode cX0_key 26 = .ok (.ldc2_w 157, 3) := dk_20 0 157 (dk_at dksX0_key_1 3 rfl rfl)
theorem dX0_key_29 : decode cX0_key 29 = .ok (.lreturn, 1) := dk_173 (dk_at dksX0_key_1 6 rfl rfl)
abbrev cX0_point : ByteArray := prog_1_method_43_code
def yX0_point : MethodName := ⟨RX0, "point", "(II)I"⟩
def dkwX0_point_1 : List UInt8 := [180, 1, 60, 28, 46, 156, 0, 8, 16, 254, 167, 0, 9, 45, 180, 1, 60, 28, 46, 172]
abbrev dktX0_point_1 : List UInt8 := dkwX0_point_1 ++ []
def dkwX0_point_0 : List UInt8 := [42, 27, 182, 1, 28, 78, 28, 184, 0, 150, 154, 0, 7, 2, 167, 0, 27, 45, 198, 0, 12, 45]
abbrev dktX0_point_0 : List UInt8 := dkwX0_point_0 ++ dktX0_point_1
theorem dksX0_point_0 : cX0_point.data.toList.drop 0 = dktX0_point_0 := by decide +kernel
theorem dksX0_point_1 : cX0_point.data.toList.drop 22 = dktX0_point_1 := dk_seg dksX0_point_0 22 rfl rfl
theorem dX0_point_0 : decode cX0_point 0 = .ok (.aload_n 0, 1) := dk_42 (dk_at dksX0_point_0 0 rfl rfl)
theorem dX0_point_1 : decode cX0_point 1 = .ok (.iload_n 1, 1) := dk_27 (dk_at dksX0_point_0 1 rfl rfl)
theorem dX0_point_2 : decode cX0_point 2 = .ok (.invokevirtual 284, 3) := dk_182 1 28 (dk_at dksX0_point_0 2 rfl rfl)
theorem dX0_point_5 : decode cX0_point 5 = .ok (.astore_n 3, 1) := dk_78 (dk_at dksX0_point_0 5 rfl rfl)
theorem dX0_point_6 : decode cX0_point 6 = .ok (.iload_n 2, 1) := dk_28 (dk_at dksX0_point_0 6 rfl rfl)
theorem dX0_point_7 : decode cX0_point 7 = .ok (.invokestatic 150, 3) := dk_184 0 150 (dk_at dksX0_point_0 7 rfl rfl)
theorem dX0_point_10 : decode cX0_point 10 = .ok (.ifCond .ne 7, 3) := dk_154 0 7 (dk_at dksX0_point_0 10 rfl rfl)
theorem dX0_point_13 : decode cX0_point 13 = .ok (.iconst (-1), 1) := dk_2 (dk_at dksX0_point_0 13 rfl rfl)
theorem dX0_point_14 : decode cX0_point 14 = .ok (.goto 27, 3) := dk_167 0 27 (dk_at dksX0_point_0 14 rfl rfl)
theorem dX0_point_17 : decode cX0_point 17 = .ok (.aload_n 3, 1) := dk_45 (dk_at dksX0_point_0 17 rfl rfl)
theorem dX0_point_18 : decode cX0_point 18 = .ok (.ifnull 12, 3) := dk_198 0 12 (dk_at dksX0_point_0 18 rfl rfl)
theorem dX0_point_21 : decode cX0_point 21 = .ok (.aload_n 3, 1) := dk_45 (dk_at dksX0_point_0 21 rfl rfl)
theorem dX0_point_22 : decode cX0_point 22 = .ok (.getfield 316, 3) := dk_180 1 60 (dk_at dksX0_point_1 0 rfl rfl)
theorem dX0_point_25 : decode cX0_point 25 = .ok (.iload_n 2, 1) := dk_28 (dk_at dksX0_point_1 3 rfl rfl)
theorem dX0_point_26 : decode cX0_point 26 = .ok (.iaload, 1) := dk_46 (dk_at dksX0_point_1 4 rfl rfl)
theorem dX0_point_27 : decode cX0_point 27 = .ok (.ifCond .ge 8, 3) := dk_156 0 8 (dk_at dksX0_point_1 5 rfl rfl)
theorem dX0_point_30 : decode cX0_point 30 = .ok (.bipush (-2), 2) := dk_16 254 (dk_at dksX0_point_1 8 rfl rfl)
theorem dX0_point_32 : decode cX0_point 32 = .ok (.goto 9, 3) := dk_167 0 9 (dk_at dksX0_point_1 10 rfl rfl)
theorem dX0_point_35 : decode cX0_point 35 = .ok (.aload_n 3, 1) := dk_45 (dk_at dksX0_point_1 13 rfl rfl)
theorem dX0_point_36 : decode cX0_point 36 = .ok (.getfield 316, 3) := dk_180 1 60 (dk_at dksX0_point_1 14 rfl rfl)
theorem dX0_point_39 : decode cX0_point 39 = .ok (.iload_n 2, 1) := dk_28 (dk_at dksX0_point_1 17 rfl rfl)
theorem dX0_point_40 : decode cX0_point 40 = .ok (.iaload, 1) := dk_46 (dk_at dksX0_point_1 18 rfl rfl)
theorem dX0_point_41 : decode cX0_point 41 = .ok (.ireturn, 1) := dk_172 (dk_at dksX0_point_1 19 rfl rfl)
abbrev cX0_side : ByteArray := prog_1_method_44_code
def yX0_side : MethodName := ⟨RX0, "side", "(III)I"⟩
def dkwX0_side_4 : List UInt8 := [25, 4, 180, 1, 78, 167, 0, 16, 25, 4, 180, 1, 81, 167, 0, 8, 25, 4, 180, 1, 82, 172]
abbrev dktX0_side_4 : List UInt8 := dkwX0_side_4 ++ []
def dkwX0_side_3 : List UInt8 := [25, 4, 180, 1, 69, 167, 0, 40, 25, 4, 180, 1, 72, 167, 0, 32, 25, 4, 180, 1, 75, 167, 0, 24]
abbrev dktX0_side_3 : List UInt8 := dkwX0_side_3 ++ dktX0_side_4
def dkwX0_side_2 : List UInt8 := [170, 0, 0, 0, 73, 0, 0, 0, 0, 0, 0, 0, 4, 0, 0, 0, 33, 0, 0, 0, 41, 0, 0, 0, 49, 0, 0, 0, 57, 0, 0, 0, 65]
abbrev dktX0_side_2 : List UInt8 := dkwX0_side_2 ++ dktX0_side_3
def dkwX0_side_1 : List UInt8 := [199, 0, 6, 16, 254, 172, 29]
abbrev dktX0_side_1 : List UInt8 := dkwX0_side_1 ++ dktX0_side_2
def dkwX0_side_0 : List UInt8 := [29, 133, 9, 20, 1, 63, 184, 0, 140, 154, 0, 5, 2, 172, 42, 27, 28, 182, 1, 65, 58, 4, 25, 4]
abbrev dktX0_side_0 : List UInt8 := dkwX0_side_0 ++ dktX0_side_1
theorem dksX0_side_0 : cX0_side.data.toList.drop 0 = dktX0_side_0 := by decide +kernel
theorem dksX0_side_1 : cX0_side.data.toList.drop 24 = dktX0_side_1 := dk_seg dksX0_side_0 24 rfl rfl
theorem dksX0_side_2 : cX0_side.data.toList.drop 31 = dktX0_side_2 := dk_seg dksX0_side_1 7 rfl rfl
theorem dksX0_side_3 : cX0_side.data.toList.drop 64 = dktX0_side_3 := dk_seg dksX0_side_2 33 rfl rfl
theorem dksX0_side_4 : cX0_side.data.toList.drop 88 = dktX0_side_4 := dk_seg dksX0_side_3 24 rfl rfl
theorem dX0_side_0 : decode cX0_side 0 = .ok (.iload_n 3, 1) := dk_29 (dk_at dksX0_side_0 0 rfl rfl)
theorem dX0_side_1 : decode cX0_side 1 = .ok (.i2l, 1) := dk_133 (dk_at dksX0_side_0 1 rfl rfl)
theorem dX0_side_2 : decode cX0_side 2 = .ok (.lconst 0, 1) := dk_9 (dk_at dksX0_side_0 2 rfl rfl)
theorem dX0_side_3 : decode cX0_side 3 = .ok (.ldc2_w 319, 3) := dk_20 1 63 (dk_at dksX0_side_0 3 rfl rfl)
theorem dX0_side_6 : decode cX0_side 6 = .ok (.invokestatic 140, 3) := dk_184 0 140 (dk_at dksX0_side_0 6 rfl rfl)
theorem dX0_side_9 : decode cX0_side 9 = .ok (.ifCond .ne 5, 3) := dk_154 0 5 (dk_at dksX0_side_0 9 rfl rfl)
theorem dX0_side_12 : decode cX0_side 12 = .ok (.iconst (-1), 1) := dk_2 (dk_at dksX0_side_0 12 rfl rfl)
theorem dX0_side_13 : decode cX0_side 13 = .ok (.ireturn, 1) := dk_172 (dk_at dksX0_side_0 13 rfl rfl)
theorem dX0_side_14 : decode cX0_side 14 = .ok (.aload_n 0, 1) := dk_42 (dk_at dksX0_side_0 14 rfl rfl)
theorem dX0_side_15 : decode cX0_side 15 = .ok (.iload_n 1, 1) := dk_27 (dk_at dksX0_side_0 15 rfl rfl)
theorem dX0_side_16 : decode cX0_side 16 = .ok (.iload_n 2, 1) := dk_28 (dk_at dksX0_side_0 16 rfl rfl)
theorem dX0_side_17 : decode cX0_side 17 = .ok (.invokevirtual 321, 3) := dk_182 1 65 (dk_at dksX0_side_0 17 rfl rfl)
theorem dX0_side_20 : decode cX0_side 20 = .ok (.astore 4, 2) := dk_58 4 (dk_at dksX0_side_0 20 rfl rfl)
theorem dX0_side_22 : decode cX0_side 22 = .ok (.aload 4, 2) := dk_25 4 (dk_at dksX0_side_0 22 rfl rfl)
theorem dX0_side_24 : decode cX0_side 24 = .ok (.ifnonnull 6, 3) := dk_199 0 6 (dk_at dksX0_side_1 0 rfl rfl)
theorem dX0_side_27 : decode cX0_side 27 = .ok (.bipush (-2), 2) := dk_16 254 (dk_at dksX0_side_1 3 rfl rfl)
theorem dX0_side_29 : decode cX0_side 29 = .ok (.ireturn, 1) := dk_172 (dk_at dksX0_side_1 5 rfl rfl)
theorem dX0_side_30 : decode cX0_side 30 = .ok (.iload_n 3, 1) := dk_29 (dk_at dksX0_side_1 6 rfl rfl)
theorem dX0_side_31 : decode cX0_side 31 = .ok (.tableswitch 73 0 4 #[33, 41, 49, 57, 65], 33) := by decide +kernel
theorem dX0_side_64 : decode cX0_side 64 = .ok (.aload 4, 2) := dk_25 4 (dk_at dksX0_side_3 0 rfl rfl)
theorem dX0_side_66 : decode cX0_side 66 = .ok (.getfield 325, 3) := dk_180 1 69 (dk_at dksX0_side_3 2 rfl rfl)
theorem dX0_side_69 : decode cX0_side 69 = .ok (.goto 40, 3) := dk_167 0 40 (dk_at dksX0_side_3 5 rfl rfl)
theorem dX0_side_72 : decode cX0_side 72 = .ok (.aload 4, 2) := dk_25 4 (dk_at dksX0_side_3 8 rfl rfl)
theorem dX0_side_74 : decode cX0_side 74 = .ok (.getfield 328, 3) := dk_180 1 72 (dk_at dksX0_side_3 10 rfl rfl)
theorem dX0_side_77 : decode cX0_side 77 = .ok (.goto 32, 3) := dk_167 0 32 (dk_at dksX0_side_3 13 rfl rfl)
theorem dX0_side_80 : decode cX0_side 80 = .ok (.aload 4, 2) := dk_25 4 (dk_at dksX0_side_3 16 rfl rfl)
theorem dX0_side_82 : decode cX0_side 82 = .ok (.getfield 331, 3) := dk_180 1 75 (dk_at dksX0_side_3 18 rfl rfl)
theorem dX0_side_85 : decode cX0_side 85 = .ok (.goto 24, 3) := dk_167 0 24 (dk_at dksX0_side_3 21 rfl rfl)
theorem dX0_side_88 : decode cX0_side 88 = .ok (.aload 4, 2) := dk_25 4 (dk_at dksX0_side_4 0 rfl rfl)
theorem dX0_side_90 : decode cX0_side 90 = .ok (.getfield 334, 3) := dk_180 1 78 (dk_at dksX0_side_4 2 rfl rfl)
theorem dX0_side_93 : decode cX0_side 93 = .ok (.goto 16, 3) := dk_167 0 16 (dk_at dksX0_side_4 5 rfl rfl)
theorem dX0_side_96 : decode cX0_side 96 = .ok (.aload 4, 2) := dk_25 4 (dk_at dksX0_side_4 8 rfl rfl)
theorem dX0_side_98 : decode cX0_side 98 = .ok (.getfield 337, 3) := dk_180 1 81 (dk_at dksX0_side_4 10 rfl rfl)
theorem dX0_side_101 : decode cX0_side 101 = .ok (.goto 8, 3) := dk_167 0 8 (dk_at dksX0_side_4 13 rfl rfl)
theorem dX0_side_104 : decode cX0_side 104 = .ok (.aload 4, 2) := dk_25 4 (dk_at dksX0_side_4 16 rfl rfl)
theorem dX0_side_106 : decode cX0_side 106 = .ok (.getfield 338, 3) := dk_180 1 82 (dk_at dksX0_side_4 18 rfl rfl)
theorem dX0_side_109 : decode cX0_side 109 = .ok (.ireturn, 1) := dk_172 (dk_at dksX0_side_4 21 rfl rfl)
abbrev cX0_sideAt : ByteArray := prog_1_method_40_code
def yX0_sideAt : MethodName := ⟨RX0, "sideAt", "(II)LTypesAtPrime$Side;"⟩
def dkwX0_sideAt_1 : List UInt8 := [184, 0, 140, 153, 0, 17, 45, 180, 1, 32, 28, 182, 0, 203, 192, 1, 35, 167, 0, 4, 1, 176]
abbrev dktX0_sideAt_1 : List UInt8 := dkwX0_sideAt_1 ++ []
def dkwX0_sideAt_0 : List UInt8 := [42, 27, 182, 1, 28, 78, 45, 198, 0, 36, 28, 133, 9, 45, 180, 1, 32, 182, 0, 200, 4, 100, 133]
abbrev dktX0_sideAt_0 : List UInt8 := dkwX0_sideAt_0 ++ dktX0_sideAt_1
theorem dksX0_sideAt_0 : cX0_sideAt.data.toList.drop 0 = dktX0_sideAt_0 := by decide +kernel
theorem dksX0_sideAt_1 : cX0_sideAt.data.toList.drop 23 = dktX0_sideAt_1 := dk_seg dksX0_sideAt_0 23 rfl rfl
theorem dX0_sideAt_0 : decode cX0_sideAt 0 = .ok (.aload_n 0, 1) := dk_42 (dk_at dksX0_sideAt_0 0 rfl rfl)
theorem dX0_sideAt_1 : decode cX0_sideAt 1 = .ok (.iload_n 1, 1) := dk_27 (dk_at dksX0_sideAt_0 1 rfl rfl)
theorem dX0_sideAt_2 : decode cX0_sideAt 2 = .ok (.invokevirtual 284, 3) := dk_182 1 28 (dk_at dksX0_sideAt_0 2 rfl rfl)
theorem dX0_sideAt_5 : decode cX0_sideAt 5 = .ok (.astore_n 3, 1) := dk_78 (dk_at dksX0_sideAt_0 5 rfl rfl)
theorem dX0_sideAt_6 : decode cX0_sideAt 6 = .ok (.aload_n 3, 1) := dk_45 (dk_at dksX0_sideAt_0 6 rfl rfl)
theorem dX0_sideAt_7 : decode cX0_sideAt 7 = .ok (.ifnull 36, 3) := dk_198 0 36 (dk_at dksX0_sideAt_0 7 rfl rfl)
theorem dX0_sideAt_10 : decode cX0_sideAt 10 = .ok (.iload_n 2, 1) := dk_28 (dk_at dksX0_sideAt_0 10 rfl rfl)
theorem dX0_sideAt_11 : decode cX0_sideAt 11 = .ok (.i2l, 1) := dk_133 (dk_at dksX0_sideAt_0 11 rfl rfl)
theorem dX0_sideAt_12 : decode cX0_sideAt 12 = .ok (.lconst 0, 1) := dk_9 (dk_at dksX0_sideAt_0 12 rfl rfl)
theorem dX0_sideAt_13 : decode cX0_sideAt 13 = .ok (.aload_n 3, 1) := dk_45 (dk_at dksX0_sideAt_0 13 rfl rfl)
theorem dX0_sideAt_14 : decode cX0_sideAt 14 = .ok (.getfield 288, 3) := dk_180 1 32 (dk_at dksX0_sideAt_0 14 rfl rfl)
theorem dX0_sideAt_17 : decode cX0_sideAt 17 = .ok (.invokevirtual 200, 3) := dk_182 0 200 (dk_at dksX0_sideAt_0 17 rfl rfl)
theorem dX0_sideAt_20 : decode cX0_sideAt 20 = .ok (.iconst 1, 1) := dk_4 (dk_at dksX0_sideAt_0 20 rfl rfl)
theorem dX0_sideAt_21 : decode cX0_sideAt 21 = .ok (.isub, 1) := dk_100 (dk_at dksX0_sideAt_0 21 rfl rfl)
theorem dX0_sideAt_22 : decode cX0_sideAt 22 = .ok (.i2l, 1) := dk_133 (dk_at dksX0_sideAt_0 22 rfl rfl)
theorem dX0_sideAt_23 : decode cX0_sideAt 23 = .ok (.invokestatic 140, 3) := dk_184 0 140 (dk_at dksX0_sideAt_1 0 rfl rfl)
theorem dX0_sideAt_26 : decode cX0_sideAt 26 = .ok (.ifCond .eq 17, 3) := dk_153 0 17 (dk_at dksX0_sideAt_1 3 rfl rfl)
theorem dX0_sideAt_29 : decode cX0_sideAt 29 = .ok (.aload_n 3, 1) := dk_45 (dk_at dksX0_sideAt_1 6 rfl rfl)
theorem dX0_sideAt_30 : decode cX0_sideAt 30 = .ok (.getfield 288, 3) := dk_180 1 32 (dk_at dksX0_sideAt_1 7 rfl rfl)
theorem dX0_sideAt_33 : decode cX0_sideAt 33 = .ok (.iload_n 2, 1) := dk_28 (dk_at dksX0_sideAt_1 10 rfl rfl)
theorem dX0_sideAt_34 : decode cX0_sideAt 34 = .ok (.invokevirtual 203, 3) := dk_182 0 203 (dk_at dksX0_sideAt_1 11 rfl rfl)
theorem dX0_sideAt_37 : decode cX0_sideAt 37 = .ok (.checkcast 291, 3) := dk_192 1 35 (dk_at dksX0_sideAt_1 14 rfl rfl)
theorem dX0_sideAt_40 : decode cX0_sideAt 40 = .ok (.goto 4, 3) := dk_167 0 4 (dk_at dksX0_sideAt_1 17 rfl rfl)
theorem dX0_sideAt_43 : decode cX0_sideAt 43 = .ok (.aconst_null, 1) := dk_1 (dk_at dksX0_sideAt_1 20 rfl rfl)
theorem dX0_sideAt_44 : decode cX0_sideAt 44 = .ok (.areturn, 1) := dk_176 (dk_at dksX0_sideAt_1 21 rfl rfl)
abbrev cX0_residual : ByteArray := prog_1_method_45_code
def yX0_residual : MethodName := ⟨RX0, "residual", "(III)I"⟩
def dkwX0_residual_1 : List UInt8 := [16, 254, 167, 0, 10, 25, 4, 180, 1, 85, 29, 46, 172]
abbrev dktX0_residual_1 : List UInt8 := dkwX0_residual_1 ++ []
def dkwX0_residual_0 : List UInt8 := [42, 27, 28, 182, 1, 65, 58, 4, 29, 184, 0, 150, 154, 0, 7, 2, 167, 0, 20, 25, 4, 199, 0, 8]
abbrev dktX0_residual_0 : List UInt8 := dkwX0_residual_0 ++ dktX0_residual_1
theorem dksX0_residual_0 : cX0_residual.data.toList.drop 0 = dktX0_residual_0 := by decide +kernel
theorem dksX0_residual_1 : cX0_residual.data.toList.drop 24 = dktX0_residual_1 := dk_seg dksX0_residual_0 24 rfl rfl
theorem dX0_residual_0 : decode cX0_residual 0 = .ok (.aload_n 0, 1) := dk_42 (dk_at dksX0_residual_0 0 rfl rfl)
theorem dX0_residual_1 : decode cX0_residual 1 = .ok (.iload_n 1, 1) := dk_27 (dk_at dksX0_residual_0 1 rfl rfl)
theorem dX0_residual_2 : decode cX0_residual 2 = .ok (.iload_n 2, 1) := dk_28 (dk_at dksX0_residual_0 2 rfl rfl)
theorem dX0_residual_3 : decode cX0_residual 3 = .ok (.invokevirtual 321, 3) := dk_182 1 65 (dk_at dksX0_residual_0 3 rfl rfl)
theorem dX0_residual_6 : decode cX0_residual 6 = .ok (.astore 4, 2) := dk_58 4 (dk_at dksX0_residual_0 6 rfl rfl)
theorem dX0_residual_8 : decode cX0_residual 8 = .ok (.iload_n 3, 1) := dk_29 (dk_at dksX0_residual_0 8 rfl rfl)
theorem dX0_residual_9 : decode cX0_residual 9 = .ok (.invokestatic 150, 3) := dk_184 0 150 (dk_at dksX0_residual_0 9 rfl rfl)
theorem dX0_residual_12 : decode cX0_residual 12 = .ok (.ifCond .ne 7, 3) := dk_154 0 7 (dk_at dksX0_residual_0 12 rfl rfl)
theorem dX0_residual_15 : decode cX0_residual 15 = .ok (.iconst (-1), 1) := dk_2 (dk_at dksX0_residual_0 15 rfl rfl)
theorem dX0_residual_16 : decode cX0_residual 16 = .ok (.goto 20, 3) := dk_167 0 20 (dk_at dksX0_residual_0 16 rfl rfl)
theorem dX0_residual_19 : decode cX0_residual 19 = .ok (.aload 4, 2) := dk_25 4 (dk_at dksX0_residual_0 19 rfl rfl)
theorem dX0_residual_21 : decode cX0_residual 21 = .ok (.ifnonnull 8, 3) := dk_199 0 8 (dk_at dksX0_residual_0 21 rfl rfl)
theorem dX0_residual_24 : decode cX0_residual 24 = .ok (.bipush (-2), 2) := dk_16 254 (dk_at dksX0_residual_1 0 rfl rfl)
theorem dX0_residual_26 : decode cX0_residual 26 = .ok (.goto 10, 3) := dk_167 0 10 (dk_at dksX0_residual_1 2 rfl rfl)
theorem dX0_residual_29 : decode cX0_residual 29 = .ok (.aload 4, 2) := dk_25 4 (dk_at dksX0_residual_1 5 rfl rfl)
theorem dX0_residual_31 : decode cX0_residual 31 = .ok (.getfield 341, 3) := dk_180 1 85 (dk_at dksX0_residual_1 7 rfl rfl)
theorem dX0_residual_34 : decode cX0_residual 34 = .ok (.iload_n 3, 1) := dk_29 (dk_at dksX0_residual_1 10 rfl rfl)
theorem dX0_residual_35 : decode cX0_residual 35 = .ok (.iaload, 1) := dk_46 (dk_at dksX0_residual_1 11 rfl rfl)
theorem dX0_residual_36 : decode cX0_residual 36 = .ok (.ireturn, 1) := dk_172 (dk_at dksX0_residual_1 12 rfl rfl)
abbrev cX0_monomial : ByteArray := prog_1_method_46_code
def yX0_monomial : MethodName := ⟨RX0, "monomial", "(III)I"⟩
def dkwX0_monomial_1 : List UInt8 := [25, 4, 199, 0, 8, 16, 254, 167, 0, 13, 25, 4, 180, 1, 88, 180, 1, 92, 29, 46, 172]
abbrev dktX0_monomial_1 : List UInt8 := dkwX0_monomial_1 ++ []
def dkwX0_monomial_0 : List UInt8 := [42, 27, 28, 182, 1, 65, 58, 4, 29, 133, 9, 20, 1, 37, 184, 0, 140, 154, 0, 7, 2, 167, 0, 23]
abbrev dktX0_monomial_0 : List UInt8 := dkwX0_monomial_0 ++ dktX0_monomial_1
theorem dksX0_monomial_0 : cX0_monomial.data.toList.drop 0 = dktX0_monomial_0 := by decide +kernel
theorem dksX0_monomial_1 : cX0_monomial.data.toList.drop 24 = dktX0_monomial_1 := dk_seg dksX0_monomial_0 24 rfl rfl
theorem dX0_monomial_0 : decode cX0_monomial 0 = .ok (.aload_n 0, 1) := dk_42 (dk_at dksX0_monomial_0 0 rfl rfl)
theorem dX0_monomial_1 : decode cX0_monomial 1 = .ok (.iload_n 1, 1) := dk_27 (dk_at dksX0_monomial_0 1 rfl rfl)
theorem dX0_monomial_2 : decode cX0_monomial 2 = .ok (.iload_n 2, 1) := dk_28 (dk_at dksX0_monomial_0 2 rfl rfl)
theorem dX0_monomial_3 : decode cX0_monomial 3 = .ok (.invokevirtual 321, 3) := dk_182 1 65 (dk_at dksX0_monomial_0 3 rfl rfl)
theorem dX0_monomial_6 : decode cX0_monomial 6 = .ok (.astore 4, 2) := dk_58 4 (dk_at dksX0_monomial_0 6 rfl rfl)
theorem dX0_monomial_8 : decode cX0_monomial 8 = .ok (.iload_n 3, 1) := dk_29 (dk_at dksX0_monomial_0 8 rfl rfl)
theorem dX0_monomial_9 : decode cX0_monomial 9 = .ok (.i2l, 1) := dk_133 (dk_at dksX0_monomial_0 9 rfl rfl)
theorem dX0_monomial_10 : decode cX0_monomial 10 = .ok (.lconst 0, 1) := dk_9 (dk_at dksX0_monomial_0 10 rfl rfl)
theorem dX0_monomial_11 : decode cX0_monomial 11 = .ok (.ldc2_w 293, 3) := dk_20 1 37 (dk_at dksX0_monomial_0 11 rfl rfl)
theorem dX0_monomial_14 : decode cX0_monomial 14 = .ok (.invokestatic 140, 3) := dk_184 0 140 (dk_at dksX0_monomial_0 14 rfl rfl)
theorem dX0_monomial_17 : decode cX0_monomial 17 = .ok (.ifCond .ne 7, 3) := dk_154 0 7 (dk_at dksX0_monomial_0 17 rfl rfl)
theorem dX0_monomial_20 : decode cX0_monomial 20 = .ok (.iconst (-1), 1) := dk_2 (dk_at dksX0_monomial_0 20 rfl rfl)
theorem dX0_monomial_21 : decode cX0_monomial 21 = .ok (.goto 23, 3) := dk_167 0 23 (dk_at dksX0_monomial_0 21 rfl rfl)
theorem dX0_monomial_24 : decode cX0_monomial 24 = .ok (.aload 4, 2) := dk_25 4 (dk_at dksX0_monomial_1 0 rfl rfl)
theorem dX0_monomial_26 : decode cX0_monomial 26 = .ok (.ifnonnull 8, 3) := dk_199 0 8 (dk_at dksX0_monomial_1 2 rfl rfl)
theorem dX0_monomial_29 : decode cX0_monomial 29 = .ok (.bipush (-2), 2) := dk_16 254 (dk_at dksX0_monomial_1 5 rfl rfl)
theorem dX0_monomial_31 : decode cX0_monomial 31 = .ok (.goto 13, 3) := dk_167 0 13 (dk_at dksX0_monomial_1 7 rfl rfl)
theorem dX0_monomial_34 : decode cX0_monomial 34 = .ok (.aload 4, 2) := dk_25 4 (dk_at dksX0_monomial_1 10 rfl rfl)
theorem dX0_monomial_36 : decode cX0_monomial 36 = .ok (.getfield 344, 3) := dk_180 1 88 (dk_at dksX0_monomial_1 12 rfl rfl)
theorem dX0_monomial_39 : decode cX0_monomial 39 = .ok (.getfield 348, 3) := dk_180 1 92 (dk_at dksX0_monomial_1 15 rfl rfl)
theorem dX0_monomial_42 : decode cX0_monomial 42 = .ok (.iload_n 3, 1) := dk_29 (dk_at dksX0_monomial_1 18 rfl rfl)
theorem dX0_monomial_43 : decode cX0_monomial 43 = .ok (.iaload, 1) := dk_46 (dk_at dksX0_monomial_1 19 rfl rfl)
theorem dX0_monomial_44 : decode cX0_monomial 44 = .ok (.ireturn, 1) := dk_172 (dk_at dksX0_monomial_1 20 rfl rfl)
abbrev cX0_leaf : ByteArray := prog_1_method_47_code
def yX0_leaf : MethodName := ⟨RX0, "leaf", "(II)I"⟩
def dkwX0_leaf_6 : List UInt8 := [180, 1, 54, 172]
abbrev dktX0_leaf_6 : List UInt8 := dkwX0_leaf_6 ++ []
def dkwX0_leaf_5 : List UInt8 := [182, 1, 107, 167, 0, 22, 45, 180, 1, 109, 199, 0, 8, 16, 254, 167, 0, 10, 45, 180, 1, 109]
abbrev dktX0_leaf_5 : List UInt8 := dkwX0_leaf_5 ++ dktX0_leaf_6
def dkwX0_leaf_4 : List UInt8 := [45, 182, 1, 99, 167, 0, 43, 45, 182, 1, 102, 167, 0, 36, 45, 182, 1, 104, 167, 0, 29, 45]
abbrev dktX0_leaf_4 : List UInt8 := dkwX0_leaf_4 ++ dktX0_leaf_5
def dkwX0_leaf_3 : List UInt8 := [170, 0, 0, 0, 0, 58, 0, 0, 0, 0, 0, 0, 0, 3, 0, 0, 0, 30, 0, 0, 0, 37, 0, 0, 0, 44, 0, 0, 0, 51]
abbrev dktX0_leaf_3 : List UInt8 := dkwX0_leaf_3 ++ dktX0_leaf_4
def dkwX0_leaf_2 : List UInt8 := [180, 0, 72, 180, 0, 251, 27, 182, 0, 203, 192, 1, 97, 78, 28]
abbrev dktX0_leaf_2 : List UInt8 := dkwX0_leaf_2 ++ dktX0_leaf_3
def dkwX0_leaf_1 : List UInt8 := [42, 180, 0, 72, 180, 0, 251, 182, 0, 200, 4, 100, 133, 184, 0, 140, 154, 0, 6, 16, 254, 172, 42]
abbrev dktX0_leaf_1 : List UInt8 := dkwX0_leaf_1 ++ dktX0_leaf_2
def dkwX0_leaf_0 : List UInt8 := [28, 133, 9, 20, 0, 138, 184, 0, 140, 154, 0, 5, 2, 172, 42, 180, 0, 72, 198, 0, 25, 27, 133, 9]
abbrev dktX0_leaf_0 : List UInt8 := dkwX0_leaf_0 ++ dktX0_leaf_1
theorem dksX0_leaf_0 : cX0_leaf.data.toList.drop 0 = dktX0_leaf_0 := by decide +kernel
theorem dksX0_leaf_1 : cX0_leaf.data.toList.drop 24 = dktX0_leaf_1 := dk_seg dksX0_leaf_0 24 rfl rfl
theorem dksX0_leaf_2 : cX0_leaf.data.toList.drop 47 = dktX0_leaf_2 := dk_seg dksX0_leaf_1 23 rfl rfl
theorem dksX0_leaf_3 : cX0_leaf.data.toList.drop 62 = dktX0_leaf_3 := dk_seg dksX0_leaf_2 15 rfl rfl
theorem dksX0_leaf_4 : cX0_leaf.data.toList.drop 92 = dktX0_leaf_4 := dk_seg dksX0_leaf_3 30 rfl rfl
theorem dksX0_leaf_5 : cX0_leaf.data.toList.drop 114 = dktX0_leaf_5 := dk_seg dksX0_leaf_4 22 rfl rfl
theorem dksX0_leaf_6 : cX0_leaf.data.toList.drop 136 = dktX0_leaf_6 := dk_seg dksX0_leaf_5 22 rfl rfl
theorem dX0_leaf_0 : decode cX0_leaf 0 = .ok (.iload_n 2, 1) := dk_28 (dk_at dksX0_leaf_0 0 rfl rfl)
theorem dX0_leaf_1 : decode cX0_leaf 1 = .ok (.i2l, 1) := dk_133 (dk_at dksX0_leaf_0 1 rfl rfl)
theorem dX0_leaf_2 : decode cX0_leaf 2 = .ok (.lconst 0, 1) := dk_9 (dk_at dksX0_leaf_0 2 rfl rfl)
theorem dX0_leaf_3 : decode cX0_leaf 3 = .ok (.ldc2_w 138, 3) := dk_20 0 138 (dk_at dksX0_leaf_0 3 rfl rfl)
theorem dX0_leaf_6 : decode cX0_leaf 6 = .ok (.invokestatic 140, 3) := dk_184 0 140 (dk_at dksX0_leaf_0 6 rfl rfl)
theorem dX0_leaf_9 : decode cX0_leaf 9 = .ok (.ifCond .ne 5, 3) := dk_154 0 5 (dk_at dksX0_leaf_0 9 rfl rfl)
theorem dX0_leaf_12 : decode cX0_leaf 12 = .ok (.iconst (-1), 1) := dk_2 (dk_at dksX0_leaf_0 12 rfl rfl)
theorem dX0_leaf_13 : decode cX0_leaf 13 = .ok (.ireturn, 1) := dk_172 (dk_at dksX0_leaf_0 13 rfl rfl)
theorem dX0_leaf_14 : decode cX0_leaf 14 = .ok (.aload_n 0, 1) := dk_42 (dk_at dksX0_leaf_0 14 rfl rfl)
theorem dX0_leaf_15 : decode cX0_leaf 15 = .ok (.getfield 72, 3) := dk_180 0 72 (dk_at dksX0_leaf_0 15 rfl rfl)
theorem dX0_leaf_18 : decode cX0_leaf 18 = .ok (.ifnull 25, 3) := dk_198 0 25 (dk_at dksX0_leaf_0 18 rfl rfl)
theorem dX0_leaf_21 : decode cX0_leaf 21 = .ok (.iload_n 1, 1) := dk_27 (dk_at dksX0_leaf_0 21 rfl rfl)
theorem dX0_leaf_22 : decode cX0_leaf 22 = .ok (.i2l, 1) := dk_133 (dk_at dksX0_leaf_0 22 rfl rfl)
theorem dX0_leaf_23 : decode cX0_leaf 23 = .ok (.lconst 0, 1) := dk_9 (dk_at dksX0_leaf_0 23 rfl rfl)
theorem dX0_leaf_24 : decode cX0_leaf 24 = .ok (.aload_n 0, 1) := dk_42 (dk_at dksX0_leaf_1 0 rfl rfl)
theorem dX0_leaf_25 : decode cX0_leaf 25 = .ok (.getfield 72, 3) := dk_180 0 72 (dk_at dksX0_leaf_1 1 rfl rfl)
theorem dX0_leaf_28 : decode cX0_leaf 28 = .ok (.getfield 251, 3) := dk_180 0 251 (dk_at dksX0_leaf_1 4 rfl rfl)
theorem dX0_leaf_31 : decode cX0_leaf 31 = .ok (.invokevirtual 200, 3) := dk_182 0 200 (dk_at dksX0_leaf_1 7 rfl rfl)
theorem dX0_leaf_34 : decode cX0_leaf 34 = .ok (.iconst 1, 1) := dk_4 (dk_at dksX0_leaf_1 10 rfl rfl)
theorem dX0_leaf_35 : decode cX0_leaf 35 = .ok (.isub, 1) := dk_100 (dk_at dksX0_leaf_1 11 rfl rfl)
theorem dX0_leaf_36 : decode cX0_leaf 36 = .ok (.i2l, 1) := dk_133 (dk_at dksX0_leaf_1 12 rfl rfl)
theorem dX0_leaf_37 : decode cX0_leaf 37 = .ok (.invokestatic 140, 3) := dk_184 0 140 (dk_at dksX0_leaf_1 13 rfl rfl)
theorem dX0_leaf_40 : decode cX0_leaf 40 = .ok (.ifCond .ne 6, 3) := dk_154 0 6 (dk_at dksX0_leaf_1 16 rfl rfl)
theorem dX0_leaf_43 : decode cX0_leaf 43 = .ok (.bipush (-2), 2) := dk_16 254 (dk_at dksX0_leaf_1 19 rfl rfl)
theorem dX0_leaf_45 : decode cX0_leaf 45 = .ok (.ireturn, 1) := dk_172 (dk_at dksX0_leaf_1 21 rfl rfl)
theorem dX0_leaf_46 : decode cX0_leaf 46 = .ok (.aload_n 0, 1) := dk_42 (dk_at dksX0_leaf_1 22 rfl rfl)
theorem dX0_leaf_47 : decode cX0_leaf 47 = .ok (.getfield 72, 3) := dk_180 0 72 (dk_at dksX0_leaf_2 0 rfl rfl)
theorem dX0_leaf_50 : decode cX0_leaf 50 = .ok (.getfield 251, 3) := dk_180 0 251 (dk_at dksX0_leaf_2 3 rfl rfl)
theorem dX0_leaf_53 : decode cX0_leaf 53 = .ok (.iload_n 1, 1) := dk_27 (dk_at dksX0_leaf_2 6 rfl rfl)
theorem dX0_leaf_54 : decode cX0_leaf 54 = .ok (.invokevirtual 203, 3) := dk_182 0 203 (dk_at dksX0_leaf_2 7 rfl rfl)
theorem dX0_leaf_57 : decode cX0_leaf 57 = .ok (.checkcast 353, 3) := dk_192 1 97 (dk_at dksX0_leaf_2 10 rfl rfl)
theorem dX0_leaf_60 : decode cX0_leaf 60 = .ok (.astore_n 3, 1) := dk_78 (dk_at dksX0_leaf_2 13 rfl rfl)
theorem dX0_leaf_61 : decode cX0_leaf 61 = .ok (.iload_n 2, 1) := dk_28 (dk_at dksX0_leaf_2 14 rfl rfl)
theorem dX0_leaf_62 : decode cX0_leaf 62 = .ok (.tableswitch 58 0 3 #[30, 37, 44, 51], 30) := by decide +kernel
theorem dX0_leaf_92 : decode cX0_leaf 92 = .ok (.aload_n 3, 1) := dk_45 (dk_at dksX0_leaf_4 0 rfl rfl)
theorem dX0_leaf_93 : decode cX0_leaf 93 = .ok (.invokevirtual 355, 3) := dk_182 1 99 (dk_at dksX0_leaf_4 1 rfl rfl)
theorem dX0_leaf_96 : decode cX0_leaf 96 = .ok (.goto 43, 3) := dk_167 0 43 (dk_at dksX0_leaf_4 4 rfl rfl)
theorem dX0_leaf_99 : decode cX0_leaf 99 = .ok (.aload_n 3, 1) := dk_45 (dk_at dksX0_leaf_4 7 rfl rfl)
theorem dX0_leaf_100 : decode cX0_leaf 100 = .ok (.invokevirtual 358, 3) := dk_182 1 102 (dk_at dksX0_leaf_4 8 rfl rfl)
theorem dX0_leaf_103 : decode cX0_leaf 103 = .ok (.goto 36, 3) := dk_167 0 36 (dk_at dksX0_leaf_4 11 rfl rfl)
theorem dX0_leaf_106 : decode cX0_leaf 106 = .ok (.aload_n 3, 1) := dk_45 (dk_at dksX0_leaf_4 14 rfl rfl)
theorem dX0_leaf_107 : decode cX0_leaf 107 = .ok (.invokevirtual 360, 3) := dk_182 1 104 (dk_at dksX0_leaf_4 15 rfl rfl)
theorem dX0_leaf_110 : decode cX0_leaf 110 = .ok (.goto 29, 3) := dk_167 0 29 (dk_at dksX0_leaf_4 18 rfl rfl)
theorem dX0_leaf_113 : decode cX0_leaf 113 = .ok (.aload_n 3, 1) := dk_45 (dk_at dksX0_leaf_4 21 rfl rfl)
theorem dX0_leaf_114 : decode cX0_leaf 114 = .ok (.invokevirtual 363, 3) := dk_182 1 107 (dk_at dksX0_leaf_5 0 rfl rfl)
theorem dX0_leaf_117 : decode cX0_leaf 117 = .ok (.goto 22, 3) := dk_167 0 22 (dk_at dksX0_leaf_5 3 rfl rfl)
theorem dX0_leaf_120 : decode cX0_leaf 120 = .ok (.aload_n 3, 1) := dk_45 (dk_at dksX0_leaf_5 6 rfl rfl)
theorem dX0_leaf_121 : decode cX0_leaf 121 = .ok (.getfield 365, 3) := dk_180 1 109 (dk_at dksX0_leaf_5 7 rfl rfl)
theorem dX0_leaf_124 : decode cX0_leaf 124 = .ok (.ifnonnull 8, 3) := dk_199 0 8 (dk_at dksX0_leaf_5 10 rfl rfl)
theorem dX0_leaf_127 : decode cX0_leaf 127 = .ok (.bipush (-2), 2) := dk_16 254 (dk_at dksX0_leaf_5 13 rfl rfl)
theorem dX0_leaf_129 : decode cX0_leaf 129 = .ok (.goto 10, 3) := dk_167 0 10 (dk_at dksX0_leaf_5 15 rfl rfl)
theorem dX0_leaf_132 : decode cX0_leaf 132 = .ok (.aload_n 3, 1) := dk_45 (dk_at dksX0_leaf_5 18 rfl rfl)
theorem dX0_leaf_133 : decode cX0_leaf 133 = .ok (.getfield 365, 3) := dk_180 1 109 (dk_at dksX0_leaf_5 19 rfl rfl)
theorem dX0_leaf_136 : decode cX0_leaf 136 = .ok (.getfield 310, 3) := dk_180 1 54 (dk_at dksX0_leaf_6 0 rfl rfl)
theorem dX0_leaf_139 : decode cX0_leaf 139 = .ok (.ireturn, 1) := dk_172 (dk_at dksX0_leaf_6 3 rfl rfl)
abbrev cX0_spelling : ByteArray := prog_1_method_48_code
def yX0_spelling : MethodName := ⟨RX0, "spelling", "(I)I"⟩
def dkwX0_spelling_2 : List UInt8 := [16, 254, 172]
abbrev dktX0_spelling_2 : List UInt8 := dkwX0_spelling_2 ++ []
def dkwX0_spelling_1 : List UInt8 := [185, 1, 17, 1, 0, 4, 100, 133, 184, 0, 140, 153, 0, 13, 44, 27, 185, 1, 112, 2, 0, 167, 0, 5]
abbrev dktX0_spelling_1 : List UInt8 := dkwX0_spelling_1 ++ dktX0_spelling_2
def dkwX0_spelling_0 : List UInt8 := [42, 180, 0, 72, 199, 0, 6, 16, 254, 172, 42, 180, 0, 72, 182, 1, 13, 77, 27, 133, 9, 44]
abbrev dktX0_spelling_0 : List UInt8 := dkwX0_spelling_0 ++ dktX0_spelling_1
theorem dksX0_spelling_0 : cX0_spelling.data.toList.drop 0 = dktX0_spelling_0 := by decide +kernel
theorem dksX0_spelling_1 : cX0_spelling.data.toList.drop 22 = dktX0_spelling_1 := dk_seg dksX0_spelling_0 22 rfl rfl
theorem dksX0_spelling_2 : cX0_spelling.data.toList.drop 46 = dktX0_spelling_2 := dk_seg dksX0_spelling_1 24 rfl rfl
theorem dX0_spelling_0 : decode cX0_spelling 0 = .ok (.aload_n 0, 1) := dk_42 (dk_at dksX0_spelling_0 0 rfl rfl)
theorem dX0_spelling_1 : decode cX0_spelling 1 = .ok (.getfield 72, 3) := dk_180 0 72 (dk_at dksX0_spelling_0 1 rfl rfl)
theorem dX0_spelling_4 : decode cX0_spelling 4 = .ok (.ifnonnull 6, 3) := dk_199 0 6 (dk_at dksX0_spelling_0 4 rfl rfl)
theorem dX0_spelling_7 : decode cX0_spelling 7 = .ok (.bipush (-2), 2) := dk_16 254 (dk_at dksX0_spelling_0 7 rfl rfl)
theorem dX0_spelling_9 : decode cX0_spelling 9 = .ok (.ireturn, 1) := dk_172 (dk_at dksX0_spelling_0 9 rfl rfl)
theorem dX0_spelling_10 : decode cX0_spelling 10 = .ok (.aload_n 0, 1) := dk_42 (dk_at dksX0_spelling_0 10 rfl rfl)
theorem dX0_spelling_11 : decode cX0_spelling 11 = .ok (.getfield 72, 3) := dk_180 0 72 (dk_at dksX0_spelling_0 11 rfl rfl)
theorem dX0_spelling_14 : decode cX0_spelling 14 = .ok (.invokevirtual 269, 3) := dk_182 1 13 (dk_at dksX0_spelling_0 14 rfl rfl)
theorem dX0_spelling_17 : decode cX0_spelling 17 = .ok (.astore_n 2, 1) := dk_77 (dk_at dksX0_spelling_0 17 rfl rfl)
theorem dX0_spelling_18 : decode cX0_spelling 18 = .ok (.iload_n 1, 1) := dk_27 (dk_at dksX0_spelling_0 18 rfl rfl)
theorem dX0_spelling_19 : decode cX0_spelling 19 = .ok (.i2l, 1) := dk_133 (dk_at dksX0_spelling_0 19 rfl rfl)
theorem dX0_spelling_20 : decode cX0_spelling 20 = .ok (.lconst 0, 1) := dk_9 (dk_at dksX0_spelling_0 20 rfl rfl)
theorem dX0_spelling_21 : decode cX0_spelling 21 = .ok (.aload_n 2, 1) := dk_44 (dk_at dksX0_spelling_0 21 rfl rfl)
theorem dX0_spelling_22 : decode cX0_spelling 22 = .ok (.invokeinterface 273 1, 5) := by decide +kernel
theorem dX0_spelling_27 : decode cX0_spelling 27 = .ok (.iconst 1, 1) := dk_4 (dk_at dksX0_spelling_1 5 rfl rfl)
theorem dX0_spelling_28 : decode cX0_spelling 28 = .ok (.isub, 1) := dk_100 (dk_at dksX0_spelling_1 6 rfl rfl)
theorem dX0_spelling_29 : decode cX0_spelling 29 = .ok (.i2l, 1) := dk_133 (dk_at dksX0_spelling_1 7 rfl rfl)
theorem dX0_spelling_30 : decode cX0_spelling 30 = .ok (.invokestatic 140, 3) := dk_184 0 140 (dk_at dksX0_spelling_1 8 rfl rfl)
theorem dX0_spelling_33 : decode cX0_spelling 33 = .ok (.ifCond .eq 13, 3) := dk_153 0 13 (dk_at dksX0_spelling_1 11 rfl rfl)
theorem dX0_spelling_36 : decode cX0_spelling 36 = .ok (.aload_n 2, 1) := dk_44 (dk_at dksX0_spelling_1 14 rfl rfl)
theorem dX0_spelling_37 : decode cX0_spelling 37 = .ok (.iload_n 1, 1) := dk_27 (dk_at dksX0_spelling_1 15 rfl rfl)
theorem dX0_spelling_38 : decode cX0_spelling 38 = .ok (.invokeinterface 368 2, 5) := by decide +kernel
theorem dX0_spelling_43 : decode cX0_spelling 43 = .ok (.goto 5, 3) := dk_167 0 5 (dk_at dksX0_spelling_1 21 rfl rfl)
theorem dX0_spelling_46 : decode cX0_spelling 46 = .ok (.bipush (-2), 2) := dk_16 254 (dk_at dksX0_spelling_2 0 rfl rfl)
theorem dX0_spelling_48 : decode cX0_spelling 48 = .ok (.ireturn, 1) := dk_172 (dk_at dksX0_spelling_2 2 rfl rfl)
abbrev cX0_ask : ByteArray := prog_1_method_49_code
def yX0_ask : MethodName := ⟨RX0, "ask", "()I"⟩
def dkwX0_ask_11 : List UInt8 := [42, 16, 7, 182, 1, 134, 172, 16, 253, 172]
abbrev dktX0_ask_11 : List UInt8 := dkwX0_ask_11 ++ []
def dkwX0_ask_10 : List UInt8 := [6, 182, 1, 134, 172, 42, 7, 182, 1, 134, 172, 42, 8, 182, 1, 134, 172, 42, 16, 6, 182, 1, 134, 172]
abbrev dktX0_ask_10 : List UInt8 := dkwX0_ask_10 ++ dktX0_ask_11
def dkwX0_ask_9 : List UInt8 := [42, 180, 0, 9, 172, 42, 3, 182, 1, 134, 172, 42, 4, 182, 1, 134, 172, 42, 5, 182, 1, 134, 172, 42]
abbrev dktX0_ask_9 : List UInt8 := dkwX0_ask_9 ++ dktX0_ask_10
def dkwX0_ask_8 : List UInt8 := [170, 0, 0, 0, 0, 0, 0, 107, 0, 0, 0, 0, 0, 0, 0, 8, 0, 0, 0, 52, 0, 0, 0, 57, 0, 0, 0, 63, 0, 0, 0, 69, 0, 0, 0, 75, 0, 0, 0, 81, 0, 0, 0, 87, 0, 0, 0, 93, 0, 0, 0, 100]
abbrev dktX0_ask_8 : List UInt8 := dkwX0_ask_8 ++ dktX0_ask_9
def dkwX0_ask_7 : List UInt8 := [62, 167, 0, 16, 44, 19, 1, 133, 182, 1, 123, 153, 0, 6, 16, 8, 62, 29]
abbrev dktX0_ask_7 : List UInt8 := dkwX0_ask_7 ++ dktX0_ask_8
def dkwX0_ask_6 : List UInt8 := [182, 1, 123, 153, 0, 38, 16, 6, 62, 167, 0, 32, 44, 19, 1, 132, 182, 1, 123, 153, 0, 22, 16, 7]
abbrev dktX0_ask_6 : List UInt8 := dkwX0_ask_6 ++ dktX0_ask_7
def dkwX0_ask_5 : List UInt8 := [7, 62, 167, 0, 63, 44, 19, 1, 130, 182, 1, 123, 153, 0, 53, 8, 62, 167, 0, 48, 44, 19, 1, 131]
abbrev dktX0_ask_5 : List UInt8 := dkwX0_ask_5 ++ dktX0_ask_6
def dkwX0_ask_4 : List UInt8 := [19, 1, 128, 182, 1, 123, 153, 0, 83, 6, 62, 167, 0, 78, 44, 19, 1, 129, 182, 1, 123, 153, 0, 68]
abbrev dktX0_ask_4 : List UInt8 := dkwX0_ask_4 ++ dktX0_ask_5
def dkwX0_ask_3 : List UInt8 := [153, 0, 113, 4, 62, 167, 0, 108, 44, 19, 1, 127, 182, 1, 123, 153, 0, 98, 5, 62, 167, 0, 93, 44]
abbrev dktX0_ask_3 : List UInt8 := dkwX0_ask_3 ++ dktX0_ask_4
def dkwX0_ask_2 : List UInt8 := [44, 19, 1, 121, 182, 1, 123, 153, 0, 128, 3, 62, 167, 0, 123, 44, 19, 1, 126, 182, 1, 123]
abbrev dktX0_ask_2 : List UInt8 := dkwX0_ask_2 ++ dktX0_ask_3
def dkwX0_ask_1 : List UInt8 := [171, 0, 0, 0, 0, 0, 218, 0, 0, 0, 9, 176, 100, 110, 204, 0, 0, 0, 205, 190, 8, 136, 156, 0, 0, 0, 113, 190, 17, 213, 111, 0, 0, 0, 173, 0, 52, 38, 74, 0, 0, 0, 143, 0, 53, 224, 1, 0, 0, 0, 189, 0, 55, 175, 202, 0, 0, 0, 158, 5, 251, 40, 210, 0, 0, 0, 128, 6, 23, 130, 235, 0, 0, 0, 98, 6, 95, 178, 127, 0, 0, 0, 83]
abbrev dktX0_ask_1 : List UInt8 := dkwX0_ask_1 ++ dktX0_ask_2
def dkwX0_ask_0 : List UInt8 := [42, 182, 0, 231, 76, 43, 77, 2, 62, 44, 182, 1, 116]
abbrev dktX0_ask_0 : List UInt8 := dkwX0_ask_0 ++ dktX0_ask_1
theorem dksX0_ask_0 : cX0_ask.data.toList.drop 0 = dktX0_ask_0 := by decide +kernel
theorem dksX0_ask_1 : cX0_ask.data.toList.drop 13 = dktX0_ask_1 := dk_seg dksX0_ask_0 13 rfl rfl
theorem dksX0_ask_2 : cX0_ask.data.toList.drop 96 = dktX0_ask_2 := dk_seg dksX0_ask_1 83 rfl rfl
theorem dksX0_ask_3 : cX0_ask.data.toList.drop 118 = dktX0_ask_3 := dk_seg dksX0_ask_2 22 rfl rfl
theorem dksX0_ask_4 : cX0_ask.data.toList.drop 142 = dktX0_ask_4 := dk_seg dksX0_ask_3 24 rfl rfl
theorem dksX0_ask_5 : cX0_ask.data.toList.drop 166 = dktX0_ask_5 := dk_seg dksX0_ask_4 24 rfl rfl
theorem dksX0_ask_6 : cX0_ask.data.toList.drop 190 = dktX0_ask_6 := dk_seg dksX0_ask_5 24 rfl rfl
theorem dksX0_ask_7 : cX0_ask.data.toList.drop 214 = dktX0_ask_7 := dk_seg dksX0_ask_6 24 rfl rfl
theorem dksX0_ask_8 : cX0_ask.data.toList.drop 232 = dktX0_ask_8 := dk_seg dksX0_ask_7 18 rfl rfl
theorem dksX0_ask_9 : cX0_ask.data.toList.drop 284 = dktX0_ask_9 := dk_seg dksX0_ask_8 52 rfl rfl
theorem dksX0_ask_10 : cX0_ask.data.toList.drop 308 = dktX0_ask_10 := dk_seg dksX0_ask_9 24 rfl rfl
theorem dksX0_ask_11 : cX0_ask.data.toList.drop 332 = dktX0_ask_11 := dk_seg dksX0_ask_10 24 rfl rfl
theorem dX0_ask_0 : decode cX0_ask 0 = .ok (.aload_n 0, 1) := dk_42 (dk_at dksX0_ask_0 0 rfl rfl)
theorem dX0_ask_1 : decode cX0_ask 1 = .ok (.invokevirtual 231, 3) := dk_182 0 231 (dk_at dksX0_ask_0 1 rfl rfl)
theorem dX0_ask_4 : decode cX0_ask 4 = .ok (.astore_n 1, 1) := dk_76 (dk_at dksX0_ask_0 4 rfl rfl)
theorem dX0_ask_5 : decode cX0_ask 5 = .ok (.aload_n 1, 1) := dk_43 (dk_at dksX0_ask_0 5 rfl rfl)
theorem dX0_ask_6 : decode cX0_ask 6 = .ok (.astore_n 2, 1) := dk_77 (dk_at dksX0_ask_0 6 rfl rfl)
theorem dX0_ask_7 : decode cX0_ask 7 = .ok (.iconst (-1), 1) := dk_2 (dk_at dksX0_ask_0 7 rfl rfl)
theorem dX0_ask_8 : decode cX0_ask 8 = .ok (.istore_n 3, 1) := dk_62 (dk_at dksX0_ask_0 8 rfl rfl)
theorem dX0_ask_9 : decode cX0_ask 9 = .ok (.aload_n 2, 1) := dk_44 (dk_at dksX0_ask_0 9 rfl rfl)
theorem dX0_ask_10 : decode cX0_ask 10 = .ok (.invokevirtual 372, 3) := dk_182 1 116 (dk_at dksX0_ask_0 10 rfl rfl)
theorem dX0_ask_13 : decode cX0_ask 13 = .ok (.lookupswitch 218 #[(-1335595316, 205), (-1106736996, 113), (-1106127505, 173), (3417674, 143), (3530753, 189), (3649482, 158), (100346066, 128), (102204139, 98), (106934911, 83)], 83) := by decide +kernel
theorem dX0_ask_96 : decode cX0_ask 96 = .ok (.aload_n 2, 1) := dk_44 (dk_at dksX0_ask_2 0 rfl rfl)
theorem dX0_ask_97 : decode cX0_ask 97 = .ok (.ldc_w 377, 3) := dk_19 1 121 (dk_at dksX0_ask_2 1 rfl rfl)
theorem dX0_ask_100 : decode cX0_ask 100 = .ok (.invokevirtual 379, 3) := dk_182 1 123 (dk_at dksX0_ask_2 4 rfl rfl)
theorem dX0_ask_103 : decode cX0_ask 103 = .ok (.ifCond .eq 128, 3) := dk_153 0 128 (dk_at dksX0_ask_2 7 rfl rfl)
theorem dX0_ask_106 : decode cX0_ask 106 = .ok (.iconst 0, 1) := dk_3 (dk_at dksX0_ask_2 10 rfl rfl)
theorem dX0_ask_107 : decode cX0_ask 107 = .ok (.istore_n 3, 1) := dk_62 (dk_at dksX0_ask_2 11 rfl rfl)
theorem dX0_ask_108 : decode cX0_ask 108 = .ok (.goto 123, 3) := dk_167 0 123 (dk_at dksX0_ask_2 12 rfl rfl)
theorem dX0_ask_111 : decode cX0_ask 111 = .ok (.aload_n 2, 1) := dk_44 (dk_at dksX0_ask_2 15 rfl rfl)
theorem dX0_ask_112 : decode cX0_ask 112 = .ok (.ldc_w 382, 3) := dk_19 1 126 (dk_at dksX0_ask_2 16 rfl rfl)
theorem dX0_ask_115 : decode cX0_ask 115 = .ok (.invokevirtual 379, 3) := dk_182 1 123 (dk_at dksX0_ask_2 19 rfl rfl)
theorem dX0_ask_118 : decode cX0_ask 118 = .ok (.ifCond .eq 113, 3) := dk_153 0 113 (dk_at dksX0_ask_3 0 rfl rfl)
theorem dX0_ask_121 : decode cX0_ask 121 = .ok (.iconst 1, 1) := dk_4 (dk_at dksX0_ask_3 3 rfl rfl)
theorem dX0_ask_122 : decode cX0_ask 122 = .ok (.istore_n 3, 1) := dk_62 (dk_at dksX0_ask_3 4 rfl rfl)
theorem dX0_ask_123 : decode cX0_ask 123 = .ok (.goto 108, 3) := dk_167 0 108 (dk_at dksX0_ask_3 5 rfl rfl)
theorem dX0_ask_126 : decode cX0_ask 126 = .ok (.aload_n 2, 1) := dk_44 (dk_at dksX0_ask_3 8 rfl rfl)
theorem dX0_ask_127 : decode cX0_ask 127 = .ok (.ldc_w 383, 3) := dk_19 1 127 (dk_at dksX0_ask_3 9 rfl rfl)
theorem dX0_ask_130 : decode cX0_ask 130 = .ok (.invokevirtual 379, 3) := dk_182 1 123 (dk_at dksX0_ask_3 12 rfl rfl)
theorem dX0_ask_133 : decode cX0_ask 133 = .ok (.ifCond .eq 98, 3) := dk_153 0 98 (dk_at dksX0_ask_3 15 rfl rfl)
theorem dX0_ask_136 : decode cX0_ask 136 = .ok (.iconst 2, 1) := dk_5 (dk_at dksX0_ask_3 18 rfl rfl)
theorem dX0_ask_137 : decode cX0_ask 137 = .ok (.istore_n 3, 1) := dk_62 (dk_at dksX0_ask_3 19 rfl rfl)
theorem dX0_ask_138 : decode cX0_ask 138 = .ok (.goto 93, 3) := dk_167 0 93 (dk_at dksX0_ask_3 20 rfl rfl)
theorem dX0_ask_141 : decode cX0_ask 141 = .ok (.aload_n 2, 1) := dk_44 (dk_at dksX0_ask_3 23 rfl rfl)
theorem dX0_ask_142 : decode cX0_ask 142 = .ok (.ldc_w 384, 3) := dk_19 1 128 (dk_at dksX0_ask_4 0 rfl rfl)
theorem dX0_ask_145 : decode cX0_ask 145 = .ok (.invokevirtual 379, 3) := dk_182 1 123 (dk_at dksX0_ask_4 3 rfl rfl)
theorem dX0_ask_148 : decode cX0_ask 148 = .ok (.ifCond .eq 83, 3) := dk_153 0 83 (dk_at dksX0_ask_4 6 rfl rfl)
theorem dX0_ask_151 : decode cX0_ask 151 = .ok (.iconst 3, 1) := dk_6 (dk_at dksX0_ask_4 9 rfl rfl)
theorem dX0_ask_152 : decode cX0_ask 152 = .ok (.istore_n 3, 1) := dk_62 (dk_at dksX0_ask_4 10 rfl rfl)
theorem dX0_ask_153 : decode cX0_ask 153 = .ok (.goto 78, 3) := dk_167 0 78 (dk_at dksX0_ask_4 11 rfl rfl)
theorem dX0_ask_156 : decode cX0_ask 156 = .ok (.aload_n 2, 1) := dk_44 (dk_at dksX0_ask_4 14 rfl rfl)
theorem dX0_ask_157 : decode cX0_ask 157 = .ok (.ldc_w 385, 3) := dk_19 1 129 (dk_at dksX0_ask_4 15 rfl rfl)
theorem dX0_ask_160 : decode cX0_ask 160 = .ok (.invokevirtual 379, 3) := dk_182 1 123 (dk_at dksX0_ask_4 18 rfl rfl)
theorem dX0_ask_163 : decode cX0_ask 163 = .ok (.ifCond .eq 68, 3) := dk_153 0 68 (dk_at dksX0_ask_4 21 rfl rfl)
theorem dX0_ask_166 : decode cX0_ask 166 = .ok (.iconst 4, 1) := dk_7 (dk_at dksX0_ask_5 0 rfl rfl)
theorem dX0_ask_167 : decode cX0_ask 167 = .ok (.istore_n 3, 1) := dk_62 (dk_at dksX0_ask_5 1 rfl rfl)
theorem dX0_ask_168 : decode cX0_ask 168 = .ok (.goto 63, 3) := dk_167 0 63 (dk_at dksX0_ask_5 2 rfl rfl)
theorem dX0_ask_171 : decode cX0_ask 171 = .ok (.aload_n 2, 1) := dk_44 (dk_at dksX0_ask_5 5 rfl rfl)
theorem dX0_ask_172 : decode cX0_ask 172 = .ok (.ldc_w 386, 3) := dk_19 1 130 (dk_at dksX0_ask_5 6 rfl rfl)
theorem dX0_ask_175 : decode cX0_ask 175 = .ok (.invokevirtual 379, 3) := dk_182 1 123 (dk_at dksX0_ask_5 9 rfl rfl)
theorem dX0_ask_178 : decode cX0_ask 178 = .ok (.ifCond .eq 53, 3) := dk_153 0 53 (dk_at dksX0_ask_5 12 rfl rfl)
theorem dX0_ask_181 : decode cX0_ask 181 = .ok (.iconst 5, 1) := dk_8 (dk_at dksX0_ask_5 15 rfl rfl)
theorem dX0_ask_182 : decode cX0_ask 182 = .ok (.istore_n 3, 1) := dk_62 (dk_at dksX0_ask_5 16 rfl rfl)
theorem dX0_ask_183 : decode cX0_ask 183 = .ok (.goto 48, 3) := dk_167 0 48 (dk_at dksX0_ask_5 17 rfl rfl)
theorem dX0_ask_186 : decode cX0_ask 186 = .ok (.aload_n 2, 1) := dk_44 (dk_at dksX0_ask_5 20 rfl rfl)
theorem dX0_ask_187 : decode cX0_ask 187 = .ok (.ldc_w 387, 3) := dk_19 1 131 (dk_at dksX0_ask_5 21 rfl rfl)
theorem dX0_ask_190 : decode cX0_ask 190 = .ok (.invokevirtual 379, 3) := dk_182 1 123 (dk_at dksX0_ask_6 0 rfl rfl)
theorem dX0_ask_193 : decode cX0_ask 193 = .ok (.ifCond .eq 38, 3) := dk_153 0 38 (dk_at dksX0_ask_6 3 rfl rfl)
theorem dX0_ask_196 : decode cX0_ask 196 = .ok (.bipush 6, 2) := dk_16 6 (dk_at dksX0_ask_6 6 rfl rfl)
theorem dX0_ask_198 : decode cX0_ask 198 = .ok (.istore_n 3, 1) := dk_62 (dk_at dksX0_ask_6 8 rfl rfl)
theorem dX0_ask_199 : decode cX0_ask 199 = .ok (.goto 32, 3) := dk_167 0 32 (dk_at dksX0_ask_6 9 rfl rfl)
theorem dX0_ask_202 : decode cX0_ask 202 = .ok (.aload_n 2, 1) := dk_44 (dk_at dksX0_ask_6 12 rfl rfl)
theorem dX0_ask_203 : decode cX0_ask 203 = .ok (.ldc_w 388, 3) := dk_19 1 132 (dk_at dksX0_ask_6 13 rfl rfl)
theorem dX0_ask_206 : decode cX0_ask 206 = .ok (.invokevirtual 379, 3) := dk_182 1 123 (dk_at dksX0_ask_6 16 rfl rfl)
theorem dX0_ask_209 : decode cX0_ask 209 = .ok (.ifCond .eq 22, 3) := dk_153 0 22 (dk_at dksX0_ask_6 19 rfl rfl)
theorem dX0_ask_212 : decode cX0_ask 212 = .ok (.bipush 7, 2) := dk_16 7 (dk_at dksX0_ask_6 22 rfl rfl)
theorem dX0_ask_214 : decode cX0_ask 214 = .ok (.istore_n 3, 1) := dk_62 (dk_at dksX0_ask_7 0 rfl rfl)
theorem dX0_ask_215 : decode cX0_ask 215 = .ok (.goto 16, 3) := dk_167 0 16 (dk_at dksX0_ask_7 1 rfl rfl)
theorem dX0_ask_218 : decode cX0_ask 218 = .ok (.aload_n 2, 1) := dk_44 (dk_at dksX0_ask_7 4 rfl rfl)
theorem dX0_ask_219 : decode cX0_ask 219 = .ok (.ldc_w 389, 3) := dk_19 1 133 (dk_at dksX0_ask_7 5 rfl rfl)
theorem dX0_ask_222 : decode cX0_ask 222 = .ok (.invokevirtual 379, 3) := dk_182 1 123 (dk_at dksX0_ask_7 8 rfl rfl)
theorem dX0_ask_225 : decode cX0_ask 225 = .ok (.ifCond .eq 6, 3) := dk_153 0 6 (dk_at dksX0_ask_7 11 rfl rfl)
theorem dX0_ask_228 : decode cX0_ask 228 = .ok (.bipush 8, 2) := dk_16 8 (dk_at dksX0_ask_7 14 rfl rfl)
theorem dX0_ask_230 : decode cX0_ask 230 = .ok (.istore_n 3, 1) := dk_62 (dk_at dksX0_ask_7 16 rfl rfl)
theorem dX0_ask_231 : decode cX0_ask 231 = .ok (.iload_n 3, 1) := dk_29 (dk_at dksX0_ask_7 17 rfl rfl)
theorem dX0_ask_232 : decode cX0_ask 232 = .ok (.tableswitch 107 0 8 #[52, 57, 63, 69, 75, 81, 87, 93, 100], 52) := by decide +kernel
theorem dX0_ask_284 : decode cX0_ask 284 = .ok (.aload_n 0, 1) := dk_42 (dk_at dksX0_ask_9 0 rfl rfl)
theorem dX0_ask_285 : decode cX0_ask 285 = .ok (.getfield 9, 3) := dk_180 0 9 (dk_at dksX0_ask_9 1 rfl rfl)
theorem dX0_ask_288 : decode cX0_ask 288 = .ok (.ireturn, 1) := dk_172 (dk_at dksX0_ask_9 4 rfl rfl)
theorem dX0_ask_289 : decode cX0_ask 289 = .ok (.aload_n 0, 1) := dk_42 (dk_at dksX0_ask_9 5 rfl rfl)
theorem dX0_ask_290 : decode cX0_ask 290 = .ok (.iconst 0, 1) := dk_3 (dk_at dksX0_ask_9 6 rfl rfl)
theorem dX0_ask_291 : decode cX0_ask 291 = .ok (.invokevirtual 390, 3) := dk_182 1 134 (dk_at dksX0_ask_9 7 rfl rfl)
theorem dX0_ask_294 : decode cX0_ask 294 = .ok (.ireturn, 1) := dk_172 (dk_at dksX0_ask_9 10 rfl rfl)
theorem dX0_ask_295 : decode cX0_ask 295 = .ok (.aload_n 0, 1) := dk_42 (dk_at dksX0_ask_9 11 rfl rfl)
theorem dX0_ask_296 : decode cX0_ask 296 = .ok (.iconst 1, 1) := dk_4 (dk_at dksX0_ask_9 12 rfl rfl)
theorem dX0_ask_297 : decode cX0_ask 297 = .ok (.invokevirtual 390, 3) := dk_182 1 134 (dk_at dksX0_ask_9 13 rfl rfl)
theorem dX0_ask_300 : decode cX0_ask 300 = .ok (.ireturn, 1) := dk_172 (dk_at dksX0_ask_9 16 rfl rfl)
theorem dX0_ask_301 : decode cX0_ask 301 = .ok (.aload_n 0, 1) := dk_42 (dk_at dksX0_ask_9 17 rfl rfl)
theorem dX0_ask_302 : decode cX0_ask 302 = .ok (.iconst 2, 1) := dk_5 (dk_at dksX0_ask_9 18 rfl rfl)
theorem dX0_ask_303 : decode cX0_ask 303 = .ok (.invokevirtual 390, 3) := dk_182 1 134 (dk_at dksX0_ask_9 19 rfl rfl)
theorem dX0_ask_306 : decode cX0_ask 306 = .ok (.ireturn, 1) := dk_172 (dk_at dksX0_ask_9 22 rfl rfl)
theorem dX0_ask_307 : decode cX0_ask 307 = .ok (.aload_n 0, 1) := dk_42 (dk_at dksX0_ask_9 23 rfl rfl)
theorem dX0_ask_308 : decode cX0_ask 308 = .ok (.iconst 3, 1) := dk_6 (dk_at dksX0_ask_10 0 rfl rfl)
theorem dX0_ask_309 : decode cX0_ask 309 = .ok (.invokevirtual 390, 3) := dk_182 1 134 (dk_at dksX0_ask_10 1 rfl rfl)
theorem dX0_ask_312 : decode cX0_ask 312 = .ok (.ireturn, 1) := dk_172 (dk_at dksX0_ask_10 4 rfl rfl)
theorem dX0_ask_313 : decode cX0_ask 313 = .ok (.aload_n 0, 1) := dk_42 (dk_at dksX0_ask_10 5 rfl rfl)
theorem dX0_ask_314 : decode cX0_ask 314 = .ok (.iconst 4, 1) := dk_7 (dk_at dksX0_ask_10 6 rfl rfl)
theorem dX0_ask_315 : decode cX0_ask 315 = .ok (.invokevirtual 390, 3) := dk_182 1 134 (dk_at dksX0_ask_10 7 rfl rfl)
theorem dX0_ask_318 : decode cX0_ask 318 = .ok (.ireturn, 1) := dk_172 (dk_at dksX0_ask_10 10 rfl rfl)
theorem dX0_ask_319 : decode cX0_ask 319 = .ok (.aload_n 0, 1) := dk_42 (dk_at dksX0_ask_10 11 rfl rfl)
theorem dX0_ask_320 : decode cX0_ask 320 = .ok (.iconst 5, 1) := dk_8 (dk_at dksX0_ask_10 12 rfl rfl)
theorem dX0_ask_321 : decode cX0_ask 321 = .ok (.invokevirtual 390, 3) := dk_182 1 134 (dk_at dksX0_ask_10 13 rfl rfl)
theorem dX0_ask_324 : decode cX0_ask 324 = .ok (.ireturn, 1) := dk_172 (dk_at dksX0_ask_10 16 rfl rfl)
theorem dX0_ask_325 : decode cX0_ask 325 = .ok (.aload_n 0, 1) := dk_42 (dk_at dksX0_ask_10 17 rfl rfl)
theorem dX0_ask_326 : decode cX0_ask 326 = .ok (.bipush 6, 2) := dk_16 6 (dk_at dksX0_ask_10 18 rfl rfl)
theorem dX0_ask_328 : decode cX0_ask 328 = .ok (.invokevirtual 390, 3) := dk_182 1 134 (dk_at dksX0_ask_10 20 rfl rfl)
theorem dX0_ask_331 : decode cX0_ask 331 = .ok (.ireturn, 1) := dk_172 (dk_at dksX0_ask_10 23 rfl rfl)
theorem dX0_ask_332 : decode cX0_ask 332 = .ok (.aload_n 0, 1) := dk_42 (dk_at dksX0_ask_11 0 rfl rfl)
theorem dX0_ask_333 : decode cX0_ask 333 = .ok (.bipush 7, 2) := dk_16 7 (dk_at dksX0_ask_11 1 rfl rfl)
theorem dX0_ask_335 : decode cX0_ask 335 = .ok (.invokevirtual 390, 3) := dk_182 1 134 (dk_at dksX0_ask_11 3 rfl rfl)
theorem dX0_ask_338 : decode cX0_ask 338 = .ok (.ireturn, 1) := dk_172 (dk_at dksX0_ask_11 6 rfl rfl)
theorem dX0_ask_339 : decode cX0_ask 339 = .ok (.bipush (-3), 2) := dk_16 253 (dk_at dksX0_ask_11 7 rfl rfl)
theorem dX0_ask_341 : decode cX0_ask 341 = .ok (.ireturn, 1) := dk_172 (dk_at dksX0_ask_11 9 rfl rfl)
abbrev cX0_corner : ByteArray := prog_1_method_51_code
def yX0_corner : MethodName := ⟨RX0, "corner", "(II)I"⟩
def dkwX0_corner_2 : List UInt8 := [167, 255, 232, 29, 155, 0, 7, 28, 156, 0, 8, 16, 254, 167, 0, 4, 29, 172, 78, 16, 245, 172]
abbrev dktX0_corner_2 : List UInt8 := dkwX0_corner_2 ++ []
def dkwX0_corner_1 : List UInt8 := [28, 162, 0, 24, 29, 155, 0, 20, 42, 180, 0, 64, 27, 50, 29, 182, 1, 141, 62, 132, 4, 1]
abbrev dktX0_corner_1 : List UInt8 := dkwX0_corner_1 ++ dktX0_corner_2
def dkwX0_corner_0 : List UInt8 := [27, 184, 1, 136, 154, 0, 5, 2, 172, 42, 180, 0, 64, 27, 50, 182, 1, 139, 62, 3, 54, 4, 21, 4]
abbrev dktX0_corner_0 : List UInt8 := dkwX0_corner_0 ++ dktX0_corner_1
theorem dksX0_corner_0 : cX0_corner.data.toList.drop 0 = dktX0_corner_0 := by decide +kernel
theorem dksX0_corner_1 : cX0_corner.data.toList.drop 24 = dktX0_corner_1 := dk_seg dksX0_corner_0 24 rfl rfl
theorem dksX0_corner_2 : cX0_corner.data.toList.drop 46 = dktX0_corner_2 := dk_seg dksX0_corner_1 22 rfl rfl
theorem dX0_corner_0 : decode cX0_corner 0 = .ok (.iload_n 1, 1) := dk_27 (dk_at dksX0_corner_0 0 rfl rfl)
theorem dX0_corner_1 : decode cX0_corner 1 = .ok (.invokestatic 392, 3) := dk_184 1 136 (dk_at dksX0_corner_0 1 rfl rfl)
theorem dX0_corner_4 : decode cX0_corner 4 = .ok (.ifCond .ne 5, 3) := dk_154 0 5 (dk_at dksX0_corner_0 4 rfl rfl)
theorem dX0_corner_7 : decode cX0_corner 7 = .ok (.iconst (-1), 1) := dk_2 (dk_at dksX0_corner_0 7 rfl rfl)
theorem dX0_corner_8 : decode cX0_corner 8 = .ok (.ireturn, 1) := dk_172 (dk_at dksX0_corner_0 8 rfl rfl)
theorem dX0_corner_9 : decode cX0_corner 9 = .ok (.aload_n 0, 1) := dk_42 (dk_at dksX0_corner_0 9 rfl rfl)
theorem dX0_corner_10 : decode cX0_corner 10 = .ok (.getfield 64, 3) := dk_180 0 64 (dk_at dksX0_corner_0 10 rfl rfl)
theorem dX0_corner_13 : decode cX0_corner 13 = .ok (.iload_n 1, 1) := dk_27 (dk_at dksX0_corner_0 13 rfl rfl)
theorem dX0_corner_14 : decode cX0_corner 14 = .ok (.aaload, 1) := dk_50 (dk_at dksX0_corner_0 14 rfl rfl)
theorem dX0_corner_15 : decode cX0_corner 15 = .ok (.invokevirtual 395, 3) := dk_182 1 139 (dk_at dksX0_corner_0 15 rfl rfl)
theorem dX0_corner_18 : decode cX0_corner 18 = .ok (.istore_n 3, 1) := dk_62 (dk_at dksX0_corner_0 18 rfl rfl)
theorem dX0_corner_19 : decode cX0_corner 19 = .ok (.iconst 0, 1) := dk_3 (dk_at dksX0_corner_0 19 rfl rfl)
theorem dX0_corner_20 : decode cX0_corner 20 = .ok (.istore 4, 2) := dk_54 4 (dk_at dksX0_corner_0 20 rfl rfl)
theorem dX0_corner_22 : decode cX0_corner 22 = .ok (.iload 4, 2) := dk_21 4 (dk_at dksX0_corner_0 22 rfl rfl)
theorem dX0_corner_24 : decode cX0_corner 24 = .ok (.iload_n 2, 1) := dk_28 (dk_at dksX0_corner_1 0 rfl rfl)
theorem dX0_corner_25 : decode cX0_corner 25 = .ok (.if_icmp .ge 24, 3) := dk_162 0 24 (dk_at dksX0_corner_1 1 rfl rfl)
theorem dX0_corner_28 : decode cX0_corner 28 = .ok (.iload_n 3, 1) := dk_29 (dk_at dksX0_corner_1 4 rfl rfl)
theorem dX0_corner_29 : decode cX0_corner 29 = .ok (.ifCond .lt 20, 3) := dk_155 0 20 (dk_at dksX0_corner_1 5 rfl rfl)
theorem dX0_corner_32 : decode cX0_corner 32 = .ok (.aload_n 0, 1) := dk_42 (dk_at dksX0_corner_1 8 rfl rfl)
theorem dX0_corner_33 : decode cX0_corner 33 = .ok (.getfield 64, 3) := dk_180 0 64 (dk_at dksX0_corner_1 9 rfl rfl)
theorem dX0_corner_36 : decode cX0_corner 36 = .ok (.iload_n 1, 1) := dk_27 (dk_at dksX0_corner_1 12 rfl rfl)
theorem dX0_corner_37 : decode cX0_corner 37 = .ok (.aaload, 1) := dk_50 (dk_at dksX0_corner_1 13 rfl rfl)
theorem dX0_corner_38 : decode cX0_corner 38 = .ok (.iload_n 3, 1) := dk_29 (dk_at dksX0_corner_1 14 rfl rfl)
theorem dX0_corner_39 : decode cX0_corner 39 = .ok (.invokevirtual 397, 3) := dk_182 1 141 (dk_at dksX0_corner_1 15 rfl rfl)
theorem dX0_corner_42 : decode cX0_corner 42 = .ok (.istore_n 3, 1) := dk_62 (dk_at dksX0_corner_1 18 rfl rfl)
theorem dX0_corner_43 : decode cX0_corner 43 = .ok (.iinc 4 1, 3) := dk_132 4 1 (dk_at dksX0_corner_1 19 rfl rfl)
theorem dX0_corner_46 : decode cX0_corner 46 = .ok (.goto (-24), 3) := dk_167 255 232 (dk_at dksX0_corner_2 0 rfl rfl)
theorem dX0_corner_49 : decode cX0_corner 49 = .ok (.iload_n 3, 1) := dk_29 (dk_at dksX0_corner_2 3 rfl rfl)
theorem dX0_corner_50 : decode cX0_corner 50 = .ok (.ifCond .lt 7, 3) := dk_155 0 7 (dk_at dksX0_corner_2 4 rfl rfl)
theorem dX0_corner_53 : decode cX0_corner 53 = .ok (.iload_n 2, 1) := dk_28 (dk_at dksX0_corner_2 7 rfl rfl)
theorem dX0_corner_54 : decode cX0_corner 54 = .ok (.ifCond .ge 8, 3) := dk_156 0 8 (dk_at dksX0_corner_2 8 rfl rfl)
theorem dX0_corner_57 : decode cX0_corner 57 = .ok (.bipush (-2), 2) := dk_16 254 (dk_at dksX0_corner_2 11 rfl rfl)
theorem dX0_corner_59 : decode cX0_corner 59 = .ok (.goto 4, 3) := dk_167 0 4 (dk_at dksX0_corner_2 13 rfl rfl)
theorem dX0_corner_62 : decode cX0_corner 62 = .ok (.iload_n 3, 1) := dk_29 (dk_at dksX0_corner_2 16 rfl rfl)
theorem dX0_corner_63 : decode cX0_corner 63 = .ok (.ireturn, 1) := dk_172 (dk_at dksX0_corner_2 17 rfl rfl)
theorem dX0_corner_64 : decode cX0_corner 64 = .ok (.astore_n 3, 1) := dk_78 (dk_at dksX0_corner_2 18 rfl rfl)
theorem dX0_corner_65 : decode cX0_corner 65 = .ok (.bipush (-11), 2) := dk_16 245 (dk_at dksX0_corner_2 19 rfl rfl)
theorem dX0_corner_67 : decode cX0_corner 67 = .ok (.ireturn, 1) := dk_172 (dk_at dksX0_corner_2 21 rfl rfl)
abbrev cX0_isSheet : ByteArray := prog_1_method_50_code
def yX0_isSheet : MethodName := ⟨RX0, "isSheet", "(I)Z"⟩
def dkwX0_isSheet_0 : List UInt8 := [26, 133, 9, 20, 0, 15, 184, 0, 140, 172]
abbrev dktX0_isSheet_0 : List UInt8 := dkwX0_isSheet_0 ++ []
theorem dksX0_isSheet_0 : cX0_isSheet.data.toList.drop 0 = dktX0_isSheet_0 := by decide +kernel
theorem dX0_isSheet_0 : decode cX0_isSheet 0 = .ok (.iload_n 0, 1) := dk_26 (dk_at dksX0_isSheet_0 0 rfl rfl)
theorem dX0_isSheet_1 : decode cX0_isSheet 1 = .ok (.i2l, 1) := dk_133 (dk_at dksX0_isSheet_0 1 rfl rfl)
theorem dX0_isSheet_2 : decode cX0_isSheet 2 = .ok (.lconst 0, 1) := dk_9 (dk_at dksX0_isSheet_0 2 rfl rfl)
theorem dX0_isSheet_3 : decode cX0_isSheet 3 = .ok (.ldc2_w 15, 3) := dk_20 0 15 (dk_at dksX0_isSheet_0 3 rfl rfl)
theorem dX0_isSheet_6 : decode cX0_isSheet 6 = .ok (.invokestatic 140, 3) := dk_184 0 140 (dk_at dksX0_isSheet_0 6 rfl rfl)
theorem dX0_isSheet_9 : decode cX0_isSheet 9 = .ok (.ireturn, 1) := dk_172 (dk_at dksX0_isSheet_0 9 rfl rfl)
abbrev cX0_slope : ByteArray := prog_1_method_53_code
def yX0_slope : MethodName := ⟨RX0, "slope", "(IIII)J"⟩
def dkwX0_slope_1 : List UInt8 := [180, 0, 64, 27, 50, 28, 29, 21, 4, 182, 1, 148, 173, 58, 5, 20, 0, 157, 173]
abbrev dktX0_slope_1 : List UInt8 := dkwX0_slope_1 ++ []
def dkwX0_slope_0 : List UInt8 := [27, 184, 1, 136, 153, 0, 14, 21, 4, 133, 9, 10, 184, 0, 140, 154, 0, 7, 20, 0, 157, 173, 42, 42]
abbrev dktX0_slope_0 : List UInt8 := dkwX0_slope_0 ++ dktX0_slope_1
theorem dksX0_slope_0 : cX0_slope.data.toList.drop 0 = dktX0_slope_0 := by decide +kernel
theorem dksX0_slope_1 : cX0_slope.data.toList.drop 24 = dktX0_slope_1 := dk_seg dksX0_slope_0 24 rfl rfl
theorem dX0_slope_0 : decode cX0_slope 0 = .ok (.iload_n 1, 1) := dk_27 (dk_at dksX0_slope_0 0 rfl rfl)
theorem dX0_slope_1 : decode cX0_slope 1 = .ok (.invokestatic 392, 3) := dk_184 1 136 (dk_at dksX0_slope_0 1 rfl rfl)
theorem dX0_slope_4 : decode cX0_slope 4 = .ok (.ifCond .eq 14, 3) := dk_153 0 14 (dk_at dksX0_slope_0 4 rfl rfl)
theorem dX0_slope_7 : decode cX0_slope 7 = .ok (.iload 4, 2) := dk_21 4 (dk_at dksX0_slope_0 7 rfl rfl)
theorem dX0_slope_9 : decode cX0_slope 9 = .ok (.i2l, 1) := dk_133 (dk_at dksX0_slope_0 9 rfl rfl)
theorem dX0_slope_10 : decode cX0_slope 10 = .ok (.lconst 0, 1) := dk_9 (dk_at dksX0_slope_0 10 rfl rfl)
theorem dX0_slope_11 : decode cX0_slope 11 = .ok (.lconst 1, 1) := dk_10 (dk_at dksX0_slope_0 11 rfl rfl)
theorem dX0_slope_12 : decode cX0_slope 12 = .ok (.invokestatic 140, 3) := dk_184 0 140 (dk_at dksX0_slope_0 12 rfl rfl)
theorem dX0_slope_15 : decode cX0_slope 15 = .ok (.ifCond .ne 7, 3) := dk_154 0 7 (dk_at dksX0_slope_0 15 rfl rfl)
theorem dX0_slope_18 : decode cX0_slope 18 = .ok (.ldc2_w 157, 3) := dk_20 0 157 (dk_at dksX0_slope_0 18 rfl rfl)
theorem dX0_slope_21 : decode cX0_slope 21 = .ok (.lreturn, 1) := dk_173 (dk_at dksX0_slope_0 21 rfl rfl)
theorem dX0_slope_22 : decode cX0_slope 22 = .ok (.aload_n 0, 1) := dk_42 (dk_at dksX0_slope_0 22 rfl rfl)
theorem dX0_slope_23 : decode cX0_slope 23 = .ok (.aload_n 0, 1) := dk_42 (dk_at dksX0_slope_0 23 rfl rfl)
theorem dX0_slope_24 : decode cX0_slope 24 = .ok (.getfield 64, 3) := dk_180 0 64 (dk_at dksX0_slope_1 0 rfl rfl)
theorem dX0_slope_27 : decode cX0_slope 27 = .ok (.iload_n 1, 1) := dk_27 (dk_at dksX0_slope_1 3 rfl rfl)
theorem dX0_slope_28 : decode cX0_slope 28 = .ok (.aaload, 1) := dk_50 (dk_at dksX0_slope_1 4 rfl rfl)
theorem dX0_slope_29 : decode cX0_slope 29 = .ok (.iload_n 2, 1) := dk_28 (dk_at dksX0_slope_1 5 rfl rfl)
theorem dX0_slope_30 : decode cX0_slope 30 = .ok (.iload_n 3, 1) := dk_29 (dk_at dksX0_slope_1 6 rfl rfl)
theorem dX0_slope_31 : decode cX0_slope 31 = .ok (.iload 4, 2) := dk_21 4 (dk_at dksX0_slope_1 7 rfl rfl)
theorem dX0_slope_33 : decode cX0_slope 33 = .ok (.invokevirtual 404, 3) := dk_182 1 148 (dk_at dksX0_slope_1 9 rfl rfl)
theorem dX0_slope_36 : decode cX0_slope 36 = .ok (.lreturn, 1) := dk_173 (dk_at dksX0_slope_1 12 rfl rfl)
theorem dX0_slope_37 : decode cX0_slope 37 = .ok (.astore 5, 2) := dk_58 5 (dk_at dksX0_slope_1 13 rfl rfl)
theorem dX0_slope_39 : decode cX0_slope 39 = .ok (.ldc2_w 157, 3) := dk_20 0 157 (dk_at dksX0_slope_1 15 rfl rfl)
theorem dX0_slope_42 : decode cX0_slope 42 = .ok (.lreturn, 1) := dk_173 (dk_at dksX0_slope_1 18 rfl rfl)
abbrev cX0_sloped : ByteArray := prog_1_method_52_code
def yX0_sloped : MethodName := ⟨RX0, "sloped", "(LTypesAtPrime$Sheet;III)J"⟩
def dkwX0_sloped_1 : List UInt8 := [154, 0, 11, 22, 5, 22, 7, 109, 167, 0, 8, 22, 5, 22, 7, 113, 173]
abbrev dktX0_sloped_1 : List UInt8 := dkwX0_sloped_1 ++ []
def dkwX0_sloped_0 : List UInt8 := [43, 28, 182, 1, 146, 133, 43, 29, 182, 1, 146, 133, 101, 55, 5, 29, 133, 28, 133, 101, 55, 7, 21, 4]
abbrev dktX0_sloped_0 : List UInt8 := dkwX0_sloped_0 ++ dktX0_sloped_1
theorem dksX0_sloped_0 : cX0_sloped.data.toList.drop 0 = dktX0_sloped_0 := by decide +kernel
theorem dksX0_sloped_1 : cX0_sloped.data.toList.drop 24 = dktX0_sloped_1 := dk_seg dksX0_sloped_0 24 rfl rfl
theorem dX0_sloped_0 : decode cX0_sloped 0 = .ok (.aload_n 1, 1) := dk_43 (dk_at dksX0_sloped_0 0 rfl rfl)
theorem dX0_sloped_1 : decode cX0_sloped 1 = .ok (.iload_n 2, 1) := dk_28 (dk_at dksX0_sloped_0 1 rfl rfl)
theorem dX0_sloped_2 : decode cX0_sloped 2 = .ok (.invokevirtual 402, 3) := dk_182 1 146 (dk_at dksX0_sloped_0 2 rfl rfl)
theorem dX0_sloped_5 : decode cX0_sloped 5 = .ok (.i2l, 1) := dk_133 (dk_at dksX0_sloped_0 5 rfl rfl)
theorem dX0_sloped_6 : decode cX0_sloped 6 = .ok (.aload_n 1, 1) := dk_43 (dk_at dksX0_sloped_0 6 rfl rfl)
theorem dX0_sloped_7 : decode cX0_sloped 7 = .ok (.iload_n 3, 1) := dk_29 (dk_at dksX0_sloped_0 7 rfl rfl)
theorem dX0_sloped_8 : decode cX0_sloped 8 = .ok (.invokevirtual 402, 3) := dk_182 1 146 (dk_at dksX0_sloped_0 8 rfl rfl)
theorem dX0_sloped_11 : decode cX0_sloped 11 = .ok (.i2l, 1) := dk_133 (dk_at dksX0_sloped_0 11 rfl rfl)
theorem dX0_sloped_12 : decode cX0_sloped 12 = .ok (.lsub, 1) := dk_101 (dk_at dksX0_sloped_0 12 rfl rfl)
theorem dX0_sloped_13 : decode cX0_sloped 13 = .ok (.lstore 5, 2) := dk_55 5 (dk_at dksX0_sloped_0 13 rfl rfl)
theorem dX0_sloped_15 : decode cX0_sloped 15 = .ok (.iload_n 3, 1) := dk_29 (dk_at dksX0_sloped_0 15 rfl rfl)
theorem dX0_sloped_16 : decode cX0_sloped 16 = .ok (.i2l, 1) := dk_133 (dk_at dksX0_sloped_0 16 rfl rfl)
theorem dX0_sloped_17 : decode cX0_sloped 17 = .ok (.iload_n 2, 1) := dk_28 (dk_at dksX0_sloped_0 17 rfl rfl)
theorem dX0_sloped_18 : decode cX0_sloped 18 = .ok (.i2l, 1) := dk_133 (dk_at dksX0_sloped_0 18 rfl rfl)
theorem dX0_sloped_19 : decode cX0_sloped 19 = .ok (.lsub, 1) := dk_101 (dk_at dksX0_sloped_0 19 rfl rfl)
theorem dX0_sloped_20 : decode cX0_sloped 20 = .ok (.lstore 7, 2) := dk_55 7 (dk_at dksX0_sloped_0 20 rfl rfl)
theorem dX0_sloped_22 : decode cX0_sloped 22 = .ok (.iload 4, 2) := dk_21 4 (dk_at dksX0_sloped_0 22 rfl rfl)
theorem dX0_sloped_24 : decode cX0_sloped 24 = .ok (.ifCond .ne 11, 3) := dk_154 0 11 (dk_at dksX0_sloped_1 0 rfl rfl)
theorem dX0_sloped_27 : decode cX0_sloped 27 = .ok (.lload 5, 2) := dk_22 5 (dk_at dksX0_sloped_1 3 rfl rfl)
theorem dX0_sloped_29 : decode cX0_sloped 29 = .ok (.lload 7, 2) := dk_22 7 (dk_at dksX0_sloped_1 5 rfl rfl)
theorem dX0_sloped_31 : decode cX0_sloped 31 = .ok (.ldiv, 1) := dk_109 (dk_at dksX0_sloped_1 7 rfl rfl)
theorem dX0_sloped_32 : decode cX0_sloped 32 = .ok (.goto 8, 3) := dk_167 0 8 (dk_at dksX0_sloped_1 8 rfl rfl)
theorem dX0_sloped_35 : decode cX0_sloped 35 = .ok (.lload 5, 2) := dk_22 5 (dk_at dksX0_sloped_1 11 rfl rfl)
theorem dX0_sloped_37 : decode cX0_sloped 37 = .ok (.lload 7, 2) := dk_22 7 (dk_at dksX0_sloped_1 13 rfl rfl)
theorem dX0_sloped_39 : decode cX0_sloped 39 = .ok (.lrem, 1) := dk_113 (dk_at dksX0_sloped_1 15 rfl rfl)
theorem dX0_sloped_40 : decode cX0_sloped 40 = .ok (.lreturn, 1) := dk_173 (dk_at dksX0_sloped_1 16 rfl rfl)
abbrev cX0_whyNot : ByteArray := prog_1_method_54_code
def yX0_whyNot : MethodName := ⟨RX0, "whyNot", "(III)I"⟩
def dkwX0_whyNot_1 : List UInt8 := [172, 58, 4, 16, 245, 172, 58, 4, 16, 244, 172, 58, 4, 16, 241, 172]
abbrev dktX0_whyNot_1 : List UInt8 := dkwX0_whyNot_1 ++ []
def dkwX0_whyNot_0 : List UInt8 := [27, 184, 1, 136, 154, 0, 5, 2, 172, 42, 42, 180, 0, 64, 27, 50, 28, 29, 3, 182, 1, 148, 88, 3]
abbrev dktX0_whyNot_0 : List UInt8 := dkwX0_whyNot_0 ++ dktX0_whyNot_1
theorem dksX0_whyNot_0 : cX0_whyNot.data.toList.drop 0 = dktX0_whyNot_0 := by decide +kernel
theorem dksX0_whyNot_1 : cX0_whyNot.data.toList.drop 24 = dktX0_whyNot_1 := dk_seg dksX0_whyNot_0 24 rfl rfl
theorem dX0_whyNot_0 : decode cX0_whyNot 0 = .ok (.iload_n 1, 1) := dk_27 (dk_at dksX0_whyNot_0 0 rfl rfl)
theorem dX0_whyNot_1 : decode cX0_whyNot 1 = .ok (.invokestatic 392, 3) := dk_184 1 136 (dk_at dksX0_whyNot_0 1 rfl rfl)
theorem dX0_whyNot_4 : decode cX0_whyNot 4 = .ok (.ifCond .ne 5, 3) := dk_154 0 5 (dk_at dksX0_whyNot_0 4 rfl rfl)
theorem dX0_whyNot_7 : decode cX0_whyNot 7 = .ok (.iconst (-1), 1) := dk_2 (dk_at dksX0_whyNot_0 7 rfl rfl)
theorem dX0_whyNot_8 : decode cX0_whyNot 8 = .ok (.ireturn, 1) := dk_172 (dk_at dksX0_whyNot_0 8 rfl rfl)
theorem dX0_whyNot_9 : decode cX0_whyNot 9 = .ok (.aload_n 0, 1) := dk_42 (dk_at dksX0_whyNot_0 9 rfl rfl)
theorem dX0_whyNot_10 : decode cX0_whyNot 10 = .ok (.aload_n 0, 1) := dk_42 (dk_at dksX0_whyNot_0 10 rfl rfl)
theorem dX0_whyNot_11 : decode cX0_whyNot 11 = .ok (.getfield 64, 3) := dk_180 0 64 (dk_at dksX0_whyNot_0 11 rfl rfl)
theorem dX0_whyNot_14 : decode cX0_whyNot 14 = .ok (.iload_n 1, 1) := dk_27 (dk_at dksX0_whyNot_0 14 rfl rfl)
theorem dX0_whyNot_15 : decode cX0_whyNot 15 = .ok (.aaload, 1) := dk_50 (dk_at dksX0_whyNot_0 15 rfl rfl)
theorem dX0_whyNot_16 : decode cX0_whyNot 16 = .ok (.iload_n 2, 1) := dk_28 (dk_at dksX0_whyNot_0 16 rfl rfl)
theorem dX0_whyNot_17 : decode cX0_whyNot 17 = .ok (.iload_n 3, 1) := dk_29 (dk_at dksX0_whyNot_0 17 rfl rfl)
theorem dX0_whyNot_18 : decode cX0_whyNot 18 = .ok (.iconst 0, 1) := dk_3 (dk_at dksX0_whyNot_0 18 rfl rfl)
theorem dX0_whyNot_19 : decode cX0_whyNot 19 = .ok (.invokevirtual 404, 3) := dk_182 1 148 (dk_at dksX0_whyNot_0 19 rfl rfl)
theorem dX0_whyNot_22 : decode cX0_whyNot 22 = .ok (.pop2, 1) := dk_88 (dk_at dksX0_whyNot_0 22 rfl rfl)
theorem dX0_whyNot_23 : decode cX0_whyNot 23 = .ok (.iconst 0, 1) := dk_3 (dk_at dksX0_whyNot_0 23 rfl rfl)
theorem dX0_whyNot_24 : decode cX0_whyNot 24 = .ok (.ireturn, 1) := dk_172 (dk_at dksX0_whyNot_1 0 rfl rfl)
theorem dX0_whyNot_25 : decode cX0_whyNot 25 = .ok (.astore 4, 2) := dk_58 4 (dk_at dksX0_whyNot_1 1 rfl rfl)
theorem dX0_whyNot_27 : decode cX0_whyNot 27 = .ok (.bipush (-11), 2) := dk_16 245 (dk_at dksX0_whyNot_1 3 rfl rfl)
theorem dX0_whyNot_29 : decode cX0_whyNot 29 = .ok (.ireturn, 1) := dk_172 (dk_at dksX0_whyNot_1 5 rfl rfl)
theorem dX0_whyNot_30 : decode cX0_whyNot 30 = .ok (.astore 4, 2) := dk_58 4 (dk_at dksX0_whyNot_1 6 rfl rfl)
theorem dX0_whyNot_32 : decode cX0_whyNot 32 = .ok (.bipush (-12), 2) := dk_16 244 (dk_at dksX0_whyNot_1 8 rfl rfl)
theorem dX0_whyNot_34 : decode cX0_whyNot 34 = .ok (.ireturn, 1) := dk_172 (dk_at dksX0_whyNot_1 10 rfl rfl)
theorem dX0_whyNot_35 : decode cX0_whyNot 35 = .ok (.astore 4, 2) := dk_58 4 (dk_at dksX0_whyNot_1 11 rfl rfl)
theorem dX0_whyNot_37 : decode cX0_whyNot 37 = .ok (.bipush (-15), 2) := dk_16 241 (dk_at dksX0_whyNot_1 13 rfl rfl)
theorem dX0_whyNot_39 : decode cX0_whyNot 39 = .ok (.ireturn, 1) := dk_172 (dk_at dksX0_whyNot_1 15 rfl rfl)
abbrev cX0_spill : ByteArray := prog_1_method_55_code
def yX0_spill : MethodName := ⟨RX0, "spill", "(III)I"⟩
def dkwX0_spill_4 : List UInt8 := [167, 255, 217, 21, 6, 172, 58, 5, 16, 245, 172]
abbrev dktX0_spill_4 : List UInt8 := dkwX0_spill_4 ++ []
def dkwX0_spill_3 : List UInt8 := [162, 0, 26, 25, 5, 29, 21, 6, 96, 25, 4, 180, 1, 60, 21, 6, 46, 182, 1, 155, 132, 6, 1]
abbrev dktX0_spill_3 : List UInt8 := dkwX0_spill_3 ++ dktX0_spill_4
def dkwX0_spill_2 : List UInt8 := [16, 244, 172, 3, 54, 6, 21, 6, 16, 9, 162, 0, 38, 29, 21, 6, 96, 25, 5, 182, 1, 154]
abbrev dktX0_spill_2 : List UInt8 := dkwX0_spill_2 ++ dktX0_spill_3
def dkwX0_spill_1 : List UInt8 := [42, 180, 0, 64, 28, 50, 58, 5, 29, 133, 9, 25, 5, 182, 1, 154, 133, 184, 0, 140, 154, 0, 6]
abbrev dktX0_spill_1 : List UInt8 := dkwX0_spill_1 ++ dktX0_spill_2
def dkwX0_spill_0 : List UInt8 := [28, 184, 1, 136, 154, 0, 5, 2, 172, 42, 27, 182, 1, 28, 58, 4, 25, 4, 199, 0, 6, 16, 254, 172]
abbrev dktX0_spill_0 : List UInt8 := dkwX0_spill_0 ++ dktX0_spill_1
theorem dksX0_spill_0 : cX0_spill.data.toList.drop 0 = dktX0_spill_0 := by decide +kernel
theorem dksX0_spill_1 : cX0_spill.data.toList.drop 24 = dktX0_spill_1 := dk_seg dksX0_spill_0 24 rfl rfl
theorem dksX0_spill_2 : cX0_spill.data.toList.drop 47 = dktX0_spill_2 := dk_seg dksX0_spill_1 23 rfl rfl
theorem dksX0_spill_3 : cX0_spill.data.toList.drop 69 = dktX0_spill_3 := dk_seg dksX0_spill_2 22 rfl rfl
theorem dksX0_spill_4 : cX0_spill.data.toList.drop 92 = dktX0_spill_4 := dk_seg dksX0_spill_3 23 rfl rfl
theorem dX0_spill_0 : decode cX0_spill 0 = .ok (.iload_n 2, 1) := dk_28 (dk_at dksX0_spill_0 0 rfl rfl)
theorem dX0_spill_1 : decode cX0_spill 1 = .ok (.invokestatic 392, 3) := dk_184 1 136 (dk_at dksX0_spill_0 1 rfl rfl)
theorem dX0_spill_4 : decode cX0_spill 4 = .ok (.ifCond .ne 5, 3) := dk_154 0 5 (dk_at dksX0_spill_0 4 rfl rfl)
theorem dX0_spill_7 : decode cX0_spill 7 = .ok (.iconst (-1), 1) := dk_2 (dk_at dksX0_spill_0 7 rfl rfl)
theorem dX0_spill_8 : decode cX0_spill 8 = .ok (.ireturn, 1) := dk_172 (dk_at dksX0_spill_0 8 rfl rfl)
theorem dX0_spill_9 : decode cX0_spill 9 = .ok (.aload_n 0, 1) := dk_42 (dk_at dksX0_spill_0 9 rfl rfl)
theorem dX0_spill_10 : decode cX0_spill 10 = .ok (.iload_n 1, 1) := dk_27 (dk_at dksX0_spill_0 10 rfl rfl)
theorem dX0_spill_11 : decode cX0_spill 11 = .ok (.invokevirtual 284, 3) := dk_182 1 28 (dk_at dksX0_spill_0 11 rfl rfl)
theorem dX0_spill_14 : decode cX0_spill 14 = .ok (.astore 4, 2) := dk_58 4 (dk_at dksX0_spill_0 14 rfl rfl)
theorem dX0_spill_16 : decode cX0_spill 16 = .ok (.aload 4, 2) := dk_25 4 (dk_at dksX0_spill_0 16 rfl rfl)
theorem dX0_spill_18 : decode cX0_spill 18 = .ok (.ifnonnull 6, 3) := dk_199 0 6 (dk_at dksX0_spill_0 18 rfl rfl)
theorem dX0_spill_21 : decode cX0_spill 21 = .ok (.bipush (-2), 2) := dk_16 254 (dk_at dksX0_spill_0 21 rfl rfl)
theorem dX0_spill_23 : decode cX0_spill 23 = .ok (.ireturn, 1) := dk_172 (dk_at dksX0_spill_0 23 rfl rfl)
theorem dX0_spill_24 : decode cX0_spill 24 = .ok (.aload_n 0, 1) := dk_42 (dk_at dksX0_spill_1 0 rfl rfl)
theorem dX0_spill_25 : decode cX0_spill 25 = .ok (.getfield 64, 3) := dk_180 0 64 (dk_at dksX0_spill_1 1 rfl rfl)
theorem dX0_spill_28 : decode cX0_spill 28 = .ok (.iload_n 2, 1) := dk_28 (dk_at dksX0_spill_1 4 rfl rfl)
theorem dX0_spill_29 : decode cX0_spill 29 = .ok (.aaload, 1) := dk_50 (dk_at dksX0_spill_1 5 rfl rfl)
theorem dX0_spill_30 : decode cX0_spill 30 = .ok (.astore 5, 2) := dk_58 5 (dk_at dksX0_spill_1 6 rfl rfl)
theorem dX0_spill_32 : decode cX0_spill 32 = .ok (.iload_n 3, 1) := dk_29 (dk_at dksX0_spill_1 8 rfl rfl)
theorem dX0_spill_33 : decode cX0_spill 33 = .ok (.i2l, 1) := dk_133 (dk_at dksX0_spill_1 9 rfl rfl)
theorem dX0_spill_34 : decode cX0_spill 34 = .ok (.lconst 0, 1) := dk_9 (dk_at dksX0_spill_1 10 rfl rfl)
theorem dX0_spill_35 : decode cX0_spill 35 = .ok (.aload 5, 2) := dk_25 5 (dk_at dksX0_spill_1 11 rfl rfl)
theorem dX0_spill_37 : decode cX0_spill 37 = .ok (.invokevirtual 410, 3) := dk_182 1 154 (dk_at dksX0_spill_1 13 rfl rfl)
theorem dX0_spill_40 : decode cX0_spill 40 = .ok (.i2l, 1) := dk_133 (dk_at dksX0_spill_1 16 rfl rfl)
theorem dX0_spill_41 : decode cX0_spill 41 = .ok (.invokestatic 140, 3) := dk_184 0 140 (dk_at dksX0_spill_1 17 rfl rfl)
theorem dX0_spill_44 : decode cX0_spill 44 = .ok (.ifCond .ne 6, 3) := dk_154 0 6 (dk_at dksX0_spill_1 20 rfl rfl)
theorem dX0_spill_47 : decode cX0_spill 47 = .ok (.bipush (-12), 2) := dk_16 244 (dk_at dksX0_spill_2 0 rfl rfl)
theorem dX0_spill_49 : decode cX0_spill 49 = .ok (.ireturn, 1) := dk_172 (dk_at dksX0_spill_2 2 rfl rfl)
theorem dX0_spill_50 : decode cX0_spill 50 = .ok (.iconst 0, 1) := dk_3 (dk_at dksX0_spill_2 3 rfl rfl)
theorem dX0_spill_51 : decode cX0_spill 51 = .ok (.istore 6, 2) := dk_54 6 (dk_at dksX0_spill_2 4 rfl rfl)
theorem dX0_spill_53 : decode cX0_spill 53 = .ok (.iload 6, 2) := dk_21 6 (dk_at dksX0_spill_2 6 rfl rfl)
theorem dX0_spill_55 : decode cX0_spill 55 = .ok (.bipush 9, 2) := dk_16 9 (dk_at dksX0_spill_2 8 rfl rfl)
theorem dX0_spill_57 : decode cX0_spill 57 = .ok (.if_icmp .ge 38, 3) := dk_162 0 38 (dk_at dksX0_spill_2 10 rfl rfl)
theorem dX0_spill_60 : decode cX0_spill 60 = .ok (.iload_n 3, 1) := dk_29 (dk_at dksX0_spill_2 13 rfl rfl)
theorem dX0_spill_61 : decode cX0_spill 61 = .ok (.iload 6, 2) := dk_21 6 (dk_at dksX0_spill_2 14 rfl rfl)
theorem dX0_spill_63 : decode cX0_spill 63 = .ok (.iadd, 1) := dk_96 (dk_at dksX0_spill_2 16 rfl rfl)
theorem dX0_spill_64 : decode cX0_spill 64 = .ok (.aload 5, 2) := dk_25 5 (dk_at dksX0_spill_2 17 rfl rfl)
theorem dX0_spill_66 : decode cX0_spill 66 = .ok (.invokevirtual 410, 3) := dk_182 1 154 (dk_at dksX0_spill_2 19 rfl rfl)
theorem dX0_spill_69 : decode cX0_spill 69 = .ok (.if_icmp .ge 26, 3) := dk_162 0 26 (dk_at dksX0_spill_3 0 rfl rfl)
theorem dX0_spill_72 : decode cX0_spill 72 = .ok (.aload 5, 2) := dk_25 5 (dk_at dksX0_spill_3 3 rfl rfl)
theorem dX0_spill_74 : decode cX0_spill 74 = .ok (.iload_n 3, 1) := dk_29 (dk_at dksX0_spill_3 5 rfl rfl)
theorem dX0_spill_75 : decode cX0_spill 75 = .ok (.iload 6, 2) := dk_21 6 (dk_at dksX0_spill_3 6 rfl rfl)
theorem dX0_spill_77 : decode cX0_spill 77 = .ok (.iadd, 1) := dk_96 (dk_at dksX0_spill_3 8 rfl rfl)
theorem dX0_spill_78 : decode cX0_spill 78 = .ok (.aload 4, 2) := dk_25 4 (dk_at dksX0_spill_3 9 rfl rfl)
theorem dX0_spill_80 : decode cX0_spill 80 = .ok (.getfield 316, 3) := dk_180 1 60 (dk_at dksX0_spill_3 11 rfl rfl)
theorem dX0_spill_83 : decode cX0_spill 83 = .ok (.iload 6, 2) := dk_21 6 (dk_at dksX0_spill_3 14 rfl rfl)
theorem dX0_spill_85 : decode cX0_spill 85 = .ok (.iaload, 1) := dk_46 (dk_at dksX0_spill_3 16 rfl rfl)
theorem dX0_spill_86 : decode cX0_spill 86 = .ok (.invokevirtual 411, 3) := dk_182 1 155 (dk_at dksX0_spill_3 17 rfl rfl)
theorem dX0_spill_89 : decode cX0_spill 89 = .ok (.iinc 6 1, 3) := dk_132 6 1 (dk_at dksX0_spill_3 20 rfl rfl)
theorem dX0_spill_92 : decode cX0_spill 92 = .ok (.goto (-39), 3) := dk_167 255 217 (dk_at dksX0_spill_4 0 rfl rfl)
theorem dX0_spill_95 : decode cX0_spill 95 = .ok (.iload 6, 2) := dk_21 6 (dk_at dksX0_spill_4 3 rfl rfl)
theorem dX0_spill_97 : decode cX0_spill 97 = .ok (.ireturn, 1) := dk_172 (dk_at dksX0_spill_4 5 rfl rfl)
theorem dX0_spill_98 : decode cX0_spill 98 = .ok (.astore 5, 2) := dk_58 5 (dk_at dksX0_spill_4 6 rfl rfl)
theorem dX0_spill_100 : decode cX0_spill 100 = .ok (.bipush (-11), 2) := dk_16 245 (dk_at dksX0_spill_4 8 rfl rfl)
theorem dX0_spill_102 : decode cX0_spill 102 = .ok (.ireturn, 1) := dk_172 (dk_at dksX0_spill_4 10 rfl rfl)
abbrev cX0_sheet : ByteArray := prog_1_method_56_code
def yX0_sheet : MethodName := ⟨RX0, "sheet", "(III)I"⟩
def dkwX0_sheet_2 : List UInt8 := [154, 0, 9, 29, 188, 8, 167, 0, 6, 29, 188, 10, 181, 1, 161, 4, 172, 58, 4, 16, 242, 172]
abbrev dktX0_sheet_2 : List UInt8 := dkwX0_sheet_2 ++ []
def dkwX0_sheet_1 : List UInt8 := [16, 40, 164, 0, 5, 2, 172, 42, 180, 0, 64, 27, 50, 28, 156, 0, 7, 1, 167, 0, 16, 28]
abbrev dktX0_sheet_1 : List UInt8 := dkwX0_sheet_1 ++ dktX0_sheet_2
def dkwX0_sheet_0 : List UInt8 := [27, 184, 1, 136, 153, 0, 25, 28, 133, 20, 1, 159, 10, 184, 0, 140, 153, 0, 13, 28, 155, 0, 11, 29]
abbrev dktX0_sheet_0 : List UInt8 := dkwX0_sheet_0 ++ dktX0_sheet_1
theorem dksX0_sheet_0 : cX0_sheet.data.toList.drop 0 = dktX0_sheet_0 := by decide +kernel
theorem dksX0_sheet_1 : cX0_sheet.data.toList.drop 24 = dktX0_sheet_1 := dk_seg dksX0_sheet_0 24 rfl rfl
theorem dksX0_sheet_2 : cX0_sheet.data.toList.drop 46 = dktX0_sheet_2 := dk_seg dksX0_sheet_1 22 rfl rfl
theorem dX0_sheet_0 : decode cX0_sheet 0 = .ok (.iload_n 1, 1) := dk_27 (dk_at dksX0_sheet_0 0 rfl rfl)
theorem dX0_sheet_1 : decode cX0_sheet 1 = .ok (.invokestatic 392, 3) := dk_184 1 136 (dk_at dksX0_sheet_0 1 rfl rfl)
theorem dX0_sheet_4 : decode cX0_sheet 4 = .ok (.ifCond .eq 25, 3) := dk_153 0 25 (dk_at dksX0_sheet_0 4 rfl rfl)
theorem dX0_sheet_7 : decode cX0_sheet 7 = .ok (.iload_n 2, 1) := dk_28 (dk_at dksX0_sheet_0 7 rfl rfl)
theorem dX0_sheet_8 : decode cX0_sheet 8 = .ok (.i2l, 1) := dk_133 (dk_at dksX0_sheet_0 8 rfl rfl)
theorem dX0_sheet_9 : decode cX0_sheet 9 = .ok (.ldc2_w 415, 3) := dk_20 1 159 (dk_at dksX0_sheet_0 9 rfl rfl)
theorem dX0_sheet_12 : decode cX0_sheet 12 = .ok (.lconst 1, 1) := dk_10 (dk_at dksX0_sheet_0 12 rfl rfl)
theorem dX0_sheet_13 : decode cX0_sheet 13 = .ok (.invokestatic 140, 3) := dk_184 0 140 (dk_at dksX0_sheet_0 13 rfl rfl)
theorem dX0_sheet_16 : decode cX0_sheet 16 = .ok (.ifCond .eq 13, 3) := dk_153 0 13 (dk_at dksX0_sheet_0 16 rfl rfl)
theorem dX0_sheet_19 : decode cX0_sheet 19 = .ok (.iload_n 2, 1) := dk_28 (dk_at dksX0_sheet_0 19 rfl rfl)
theorem dX0_sheet_20 : decode cX0_sheet 20 = .ok (.ifCond .lt 11, 3) := dk_155 0 11 (dk_at dksX0_sheet_0 20 rfl rfl)
theorem dX0_sheet_23 : decode cX0_sheet 23 = .ok (.iload_n 3, 1) := dk_29 (dk_at dksX0_sheet_0 23 rfl rfl)
theorem dX0_sheet_24 : decode cX0_sheet 24 = .ok (.bipush 40, 2) := dk_16 40 (dk_at dksX0_sheet_1 0 rfl rfl)
theorem dX0_sheet_26 : decode cX0_sheet 26 = .ok (.if_icmp .le 5, 3) := dk_164 0 5 (dk_at dksX0_sheet_1 2 rfl rfl)
theorem dX0_sheet_29 : decode cX0_sheet 29 = .ok (.iconst (-1), 1) := dk_2 (dk_at dksX0_sheet_1 5 rfl rfl)
theorem dX0_sheet_30 : decode cX0_sheet 30 = .ok (.ireturn, 1) := dk_172 (dk_at dksX0_sheet_1 6 rfl rfl)
theorem dX0_sheet_31 : decode cX0_sheet 31 = .ok (.aload_n 0, 1) := dk_42 (dk_at dksX0_sheet_1 7 rfl rfl)
theorem dX0_sheet_32 : decode cX0_sheet 32 = .ok (.getfield 64, 3) := dk_180 0 64 (dk_at dksX0_sheet_1 8 rfl rfl)
theorem dX0_sheet_35 : decode cX0_sheet 35 = .ok (.iload_n 1, 1) := dk_27 (dk_at dksX0_sheet_1 11 rfl rfl)
theorem dX0_sheet_36 : decode cX0_sheet 36 = .ok (.aaload, 1) := dk_50 (dk_at dksX0_sheet_1 12 rfl rfl)
theorem dX0_sheet_37 : decode cX0_sheet 37 = .ok (.iload_n 2, 1) := dk_28 (dk_at dksX0_sheet_1 13 rfl rfl)
theorem dX0_sheet_38 : decode cX0_sheet 38 = .ok (.ifCond .ge 7, 3) := dk_156 0 7 (dk_at dksX0_sheet_1 14 rfl rfl)
theorem dX0_sheet_41 : decode cX0_sheet 41 = .ok (.aconst_null, 1) := dk_1 (dk_at dksX0_sheet_1 17 rfl rfl)
theorem dX0_sheet_42 : decode cX0_sheet 42 = .ok (.goto 16, 3) := dk_167 0 16 (dk_at dksX0_sheet_1 18 rfl rfl)
theorem dX0_sheet_45 : decode cX0_sheet 45 = .ok (.iload_n 2, 1) := dk_28 (dk_at dksX0_sheet_1 21 rfl rfl)
theorem dX0_sheet_46 : decode cX0_sheet 46 = .ok (.ifCond .ne 9, 3) := dk_154 0 9 (dk_at dksX0_sheet_2 0 rfl rfl)
theorem dX0_sheet_49 : decode cX0_sheet 49 = .ok (.iload_n 3, 1) := dk_29 (dk_at dksX0_sheet_2 3 rfl rfl)
theorem dX0_sheet_50 : decode cX0_sheet 50 = .ok (.newarray .byte, 2) := dk_188_8 (dk_at dksX0_sheet_2 4 rfl rfl)
theorem dX0_sheet_52 : decode cX0_sheet 52 = .ok (.goto 6, 3) := dk_167 0 6 (dk_at dksX0_sheet_2 6 rfl rfl)
theorem dX0_sheet_55 : decode cX0_sheet 55 = .ok (.iload_n 3, 1) := dk_29 (dk_at dksX0_sheet_2 9 rfl rfl)
theorem dX0_sheet_56 : decode cX0_sheet 56 = .ok (.newarray .int, 2) := dk_188_10 (dk_at dksX0_sheet_2 10 rfl rfl)
theorem dX0_sheet_58 : decode cX0_sheet 58 = .ok (.putfield 417, 3) := dk_181 1 161 (dk_at dksX0_sheet_2 12 rfl rfl)
theorem dX0_sheet_61 : decode cX0_sheet 61 = .ok (.iconst 1, 1) := dk_4 (dk_at dksX0_sheet_2 15 rfl rfl)
theorem dX0_sheet_62 : decode cX0_sheet 62 = .ok (.ireturn, 1) := dk_172 (dk_at dksX0_sheet_2 16 rfl rfl)
theorem dX0_sheet_63 : decode cX0_sheet 63 = .ok (.astore 4, 2) := dk_58 4 (dk_at dksX0_sheet_2 17 rfl rfl)
theorem dX0_sheet_65 : decode cX0_sheet 65 = .ok (.bipush (-14), 2) := dk_16 242 (dk_at dksX0_sheet_2 19 rfl rfl)
theorem dX0_sheet_67 : decode cX0_sheet 67 = .ok (.ireturn, 1) := dk_172 (dk_at dksX0_sheet_2 21 rfl rfl)
abbrev cX0_cell : ByteArray := prog_1_method_57_code
def yX0_cell : MethodName := ⟨RX0, "cell", "(III)I"⟩
def dkwX0_cell_1 : List UInt8 := [16, 245, 172, 58, 4, 16, 244, 172]
abbrev dktX0_cell_1 : List UInt8 := dkwX0_cell_1 ++ []
def dkwX0_cell_0 : List UInt8 := [27, 184, 1, 136, 154, 0, 5, 2, 172, 42, 180, 0, 64, 27, 50, 28, 29, 182, 1, 155, 4, 172, 58, 4]
abbrev dktX0_cell_0 : List UInt8 := dkwX0_cell_0 ++ dktX0_cell_1
theorem dksX0_cell_0 : cX0_cell.data.toList.drop 0 = dktX0_cell_0 := by decide +kernel
theorem dksX0_cell_1 : cX0_cell.data.toList.drop 24 = dktX0_cell_1 := dk_seg dksX0_cell_0 24 rfl rfl
theorem dX0_cell_0 : decode cX0_cell 0 = .ok (.iload_n 1, 1) := dk_27 (dk_at dksX0_cell_0 0 rfl rfl)
theorem dX0_cell_1 : decode cX0_cell 1 = .ok (.invokestatic 392, 3) := dk_184 1 136 (dk_at dksX0_cell_0 1 rfl rfl)
theorem dX0_cell_4 : decode cX0_cell 4 = .ok (.ifCond .ne 5, 3) := dk_154 0 5 (dk_at dksX0_cell_0 4 rfl rfl)
theorem dX0_cell_7 : decode cX0_cell 7 = .ok (.iconst (-1), 1) := dk_2 (dk_at dksX0_cell_0 7 rfl rfl)
theorem dX0_cell_8 : decode cX0_cell 8 = .ok (.ireturn, 1) := dk_172 (dk_at dksX0_cell_0 8 rfl rfl)
theorem dX0_cell_9 : decode cX0_cell 9 = .ok (.aload_n 0, 1) := dk_42 (dk_at dksX0_cell_0 9 rfl rfl)
theorem dX0_cell_10 : decode cX0_cell 10 = .ok (.getfield 64, 3) := dk_180 0 64 (dk_at dksX0_cell_0 10 rfl rfl)
theorem dX0_cell_13 : decode cX0_cell 13 = .ok (.iload_n 1, 1) := dk_27 (dk_at dksX0_cell_0 13 rfl rfl)
theorem dX0_cell_14 : decode cX0_cell 14 = .ok (.aaload, 1) := dk_50 (dk_at dksX0_cell_0 14 rfl rfl)
theorem dX0_cell_15 : decode cX0_cell 15 = .ok (.iload_n 2, 1) := dk_28 (dk_at dksX0_cell_0 15 rfl rfl)
theorem dX0_cell_16 : decode cX0_cell 16 = .ok (.iload_n 3, 1) := dk_29 (dk_at dksX0_cell_0 16 rfl rfl)
theorem dX0_cell_17 : decode cX0_cell 17 = .ok (.invokevirtual 411, 3) := dk_182 1 155 (dk_at dksX0_cell_0 17 rfl rfl)
theorem dX0_cell_20 : decode cX0_cell 20 = .ok (.iconst 1, 1) := dk_4 (dk_at dksX0_cell_0 20 rfl rfl)
theorem dX0_cell_21 : decode cX0_cell 21 = .ok (.ireturn, 1) := dk_172 (dk_at dksX0_cell_0 21 rfl rfl)
theorem dX0_cell_22 : decode cX0_cell 22 = .ok (.astore 4, 2) := dk_58 4 (dk_at dksX0_cell_0 22 rfl rfl)
theorem dX0_cell_24 : decode cX0_cell 24 = .ok (.bipush (-11), 2) := dk_16 245 (dk_at dksX0_cell_1 0 rfl rfl)
theorem dX0_cell_26 : decode cX0_cell 26 = .ok (.ireturn, 1) := dk_172 (dk_at dksX0_cell_1 2 rfl rfl)
theorem dX0_cell_27 : decode cX0_cell 27 = .ok (.astore 4, 2) := dk_58 4 (dk_at dksX0_cell_1 3 rfl rfl)
theorem dX0_cell_29 : decode cX0_cell 29 = .ok (.bipush (-12), 2) := dk_16 244 (dk_at dksX0_cell_1 5 rfl rfl)
theorem dX0_cell_31 : decode cX0_cell 31 = .ok (.ireturn, 1) := dk_172 (dk_at dksX0_cell_1 7 rfl rfl)
abbrev cX0_item : ByteArray := prog_1_method_58_code
def yX0_item : MethodName := ⟨RX0, "item", "(II)J"⟩
def dkwX0_item_2 : List UInt8 := [27, 50, 28, 182, 1, 146, 133, 167, 0, 6, 20, 0, 157, 173]
abbrev dktX0_item_2 : List UInt8 := dkwX0_item_2 ++ []
def dkwX0_item_1 : List UInt8 := [133, 9, 42, 180, 0, 64, 27, 50, 182, 1, 154, 4, 100, 133, 184, 0, 140, 153, 0, 17, 42, 180, 0, 64]
abbrev dktX0_item_1 : List UInt8 := dkwX0_item_1 ++ dktX0_item_2
def dkwX0_item_0 : List UInt8 := [27, 184, 1, 136, 153, 0, 15, 42, 180, 0, 64, 27, 50, 180, 1, 161, 199, 0, 7, 20, 0, 157, 173, 28]
abbrev dktX0_item_0 : List UInt8 := dkwX0_item_0 ++ dktX0_item_1
theorem dksX0_item_0 : cX0_item.data.toList.drop 0 = dktX0_item_0 := by decide +kernel
theorem dksX0_item_1 : cX0_item.data.toList.drop 24 = dktX0_item_1 := dk_seg dksX0_item_0 24 rfl rfl
theorem dksX0_item_2 : cX0_item.data.toList.drop 48 = dktX0_item_2 := dk_seg dksX0_item_1 24 rfl rfl
theorem dX0_item_0 : decode cX0_item 0 = .ok (.iload_n 1, 1) := dk_27 (dk_at dksX0_item_0 0 rfl rfl)
theorem dX0_item_1 : decode cX0_item 1 = .ok (.invokestatic 392, 3) := dk_184 1 136 (dk_at dksX0_item_0 1 rfl rfl)
theorem dX0_item_4 : decode cX0_item 4 = .ok (.ifCond .eq 15, 3) := dk_153 0 15 (dk_at dksX0_item_0 4 rfl rfl)
theorem dX0_item_7 : decode cX0_item 7 = .ok (.aload_n 0, 1) := dk_42 (dk_at dksX0_item_0 7 rfl rfl)
theorem dX0_item_8 : decode cX0_item 8 = .ok (.getfield 64, 3) := dk_180 0 64 (dk_at dksX0_item_0 8 rfl rfl)
theorem dX0_item_11 : decode cX0_item 11 = .ok (.iload_n 1, 1) := dk_27 (dk_at dksX0_item_0 11 rfl rfl)
theorem dX0_item_12 : decode cX0_item 12 = .ok (.aaload, 1) := dk_50 (dk_at dksX0_item_0 12 rfl rfl)
theorem dX0_item_13 : decode cX0_item 13 = .ok (.getfield 417, 3) := dk_180 1 161 (dk_at dksX0_item_0 13 rfl rfl)
theorem dX0_item_16 : decode cX0_item 16 = .ok (.ifnonnull 7, 3) := dk_199 0 7 (dk_at dksX0_item_0 16 rfl rfl)
theorem dX0_item_19 : decode cX0_item 19 = .ok (.ldc2_w 157, 3) := dk_20 0 157 (dk_at dksX0_item_0 19 rfl rfl)
theorem dX0_item_22 : decode cX0_item 22 = .ok (.lreturn, 1) := dk_173 (dk_at dksX0_item_0 22 rfl rfl)
theorem dX0_item_23 : decode cX0_item 23 = .ok (.iload_n 2, 1) := dk_28 (dk_at dksX0_item_0 23 rfl rfl)
theorem dX0_item_24 : decode cX0_item 24 = .ok (.i2l, 1) := dk_133 (dk_at dksX0_item_1 0 rfl rfl)
theorem dX0_item_25 : decode cX0_item 25 = .ok (.lconst 0, 1) := dk_9 (dk_at dksX0_item_1 1 rfl rfl)
theorem dX0_item_26 : decode cX0_item 26 = .ok (.aload_n 0, 1) := dk_42 (dk_at dksX0_item_1 2 rfl rfl)
theorem dX0_item_27 : decode cX0_item 27 = .ok (.getfield 64, 3) := dk_180 0 64 (dk_at dksX0_item_1 3 rfl rfl)
theorem dX0_item_30 : decode cX0_item 30 = .ok (.iload_n 1, 1) := dk_27 (dk_at dksX0_item_1 6 rfl rfl)
theorem dX0_item_31 : decode cX0_item 31 = .ok (.aaload, 1) := dk_50 (dk_at dksX0_item_1 7 rfl rfl)
theorem dX0_item_32 : decode cX0_item 32 = .ok (.invokevirtual 410, 3) := dk_182 1 154 (dk_at dksX0_item_1 8 rfl rfl)
theorem dX0_item_35 : decode cX0_item 35 = .ok (.iconst 1, 1) := dk_4 (dk_at dksX0_item_1 11 rfl rfl)
theorem dX0_item_36 : decode cX0_item 36 = .ok (.isub, 1) := dk_100 (dk_at dksX0_item_1 12 rfl rfl)
theorem dX0_item_37 : decode cX0_item 37 = .ok (.i2l, 1) := dk_133 (dk_at dksX0_item_1 13 rfl rfl)
theorem dX0_item_38 : decode cX0_item 38 = .ok (.invokestatic 140, 3) := dk_184 0 140 (dk_at dksX0_item_1 14 rfl rfl)
theorem dX0_item_41 : decode cX0_item 41 = .ok (.ifCond .eq 17, 3) := dk_153 0 17 (dk_at dksX0_item_1 17 rfl rfl)
theorem dX0_item_44 : decode cX0_item 44 = .ok (.aload_n 0, 1) := dk_42 (dk_at dksX0_item_1 20 rfl rfl)
theorem dX0_item_45 : decode cX0_item 45 = .ok (.getfield 64, 3) := dk_180 0 64 (dk_at dksX0_item_1 21 rfl rfl)
theorem dX0_item_48 : decode cX0_item 48 = .ok (.iload_n 1, 1) := dk_27 (dk_at dksX0_item_2 0 rfl rfl)
theorem dX0_item_49 : decode cX0_item 49 = .ok (.aaload, 1) := dk_50 (dk_at dksX0_item_2 1 rfl rfl)
theorem dX0_item_50 : decode cX0_item 50 = .ok (.iload_n 2, 1) := dk_28 (dk_at dksX0_item_2 2 rfl rfl)
theorem dX0_item_51 : decode cX0_item 51 = .ok (.invokevirtual 402, 3) := dk_182 1 146 (dk_at dksX0_item_2 3 rfl rfl)
theorem dX0_item_54 : decode cX0_item 54 = .ok (.i2l, 1) := dk_133 (dk_at dksX0_item_2 6 rfl rfl)
theorem dX0_item_55 : decode cX0_item 55 = .ok (.goto 6, 3) := dk_167 0 6 (dk_at dksX0_item_2 7 rfl rfl)
theorem dX0_item_58 : decode cX0_item 58 = .ok (.ldc2_w 157, 3) := dk_20 0 157 (dk_at dksX0_item_2 10 rfl rfl)
theorem dX0_item_61 : decode cX0_item 61 = .ok (.lreturn, 1) := dk_173 (dk_at dksX0_item_2 13 rfl rfl)
abbrev cX0_shift : ByteArray := prog_1_method_59_code
def yX0_shift : MethodName := ⟨RX0, "shift", "(IIIII)I"⟩
def dkwX0_shift_2 : List UInt8 := [58, 6, 16, 245, 172, 58, 6, 16, 243, 172, 58, 6, 16, 244, 172]
abbrev dktX0_shift_2 : List UInt8 := dkwX0_shift_2 ++ []
def dkwX0_shift_1 : List UInt8 := [180, 1, 161, 28, 42, 180, 0, 64, 29, 50, 180, 1, 161, 21, 4, 21, 5, 184, 0, 86, 21, 5, 172]
abbrev dktX0_shift_1 : List UInt8 := dkwX0_shift_1 ++ dktX0_shift_2
def dkwX0_shift_0 : List UInt8 := [27, 184, 1, 136, 153, 0, 10, 29, 184, 1, 136, 154, 0, 5, 2, 172, 42, 180, 0, 64, 27, 50]
abbrev dktX0_shift_0 : List UInt8 := dkwX0_shift_0 ++ dktX0_shift_1
theorem dksX0_shift_0 : cX0_shift.data.toList.drop 0 = dktX0_shift_0 := by decide +kernel
theorem dksX0_shift_1 : cX0_shift.data.toList.drop 22 = dktX0_shift_1 := dk_seg dksX0_shift_0 22 rfl rfl
theorem dksX0_shift_2 : cX0_shift.data.toList.drop 45 = dktX0_shift_2 := dk_seg dksX0_shift_1 23 rfl rfl
theorem dX0_shift_0 : decode cX0_shift 0 = .ok (.iload_n 1, 1) := dk_27 (dk_at dksX0_shift_0 0 rfl rfl)
theorem dX0_shift_1 : decode cX0_shift 1 = .ok (.invokestatic 392, 3) := dk_184 1 136 (dk_at dksX0_shift_0 1 rfl rfl)
theorem dX0_shift_4 : decode cX0_shift 4 = .ok (.ifCond .eq 10, 3) := dk_153 0 10 (dk_at dksX0_shift_0 4 rfl rfl)
theorem dX0_shift_7 : decode cX0_shift 7 = .ok (.iload_n 3, 1) := dk_29 (dk_at dksX0_shift_0 7 rfl rfl)
theorem dX0_shift_8 : decode cX0_shift 8 = .ok (.invokestatic 392, 3) := dk_184 1 136 (dk_at dksX0_shift_0 8 rfl rfl)
theorem dX0_shift_11 : decode cX0_shift 11 = .ok (.ifCond .ne 5, 3) := dk_154 0 5 (dk_at dksX0_shift_0 11 rfl rfl)
theorem dX0_shift_14 : decode cX0_shift 14 = .ok (.iconst (-1), 1) := dk_2 (dk_at dksX0_shift_0 14 rfl rfl)
theorem dX0_shift_15 : decode cX0_shift 15 = .ok (.ireturn, 1) := dk_172 (dk_at dksX0_shift_0 15 rfl rfl)
theorem dX0_shift_16 : decode cX0_shift 16 = .ok (.aload_n 0, 1) := dk_42 (dk_at dksX0_shift_0 16 rfl rfl)
theorem dX0_shift_17 : decode cX0_shift 17 = .ok (.getfield 64, 3) := dk_180 0 64 (dk_at dksX0_shift_0 17 rfl rfl)
theorem dX0_shift_20 : decode cX0_shift 20 = .ok (.iload_n 1, 1) := dk_27 (dk_at dksX0_shift_0 20 rfl rfl)
theorem dX0_shift_21 : decode cX0_shift 21 = .ok (.aaload, 1) := dk_50 (dk_at dksX0_shift_0 21 rfl rfl)
theorem dX0_shift_22 : decode cX0_shift 22 = .ok (.getfield 417, 3) := dk_180 1 161 (dk_at dksX0_shift_1 0 rfl rfl)
theorem dX0_shift_25 : decode cX0_shift 25 = .ok (.iload_n 2, 1) := dk_28 (dk_at dksX0_shift_1 3 rfl rfl)
theorem dX0_shift_26 : decode cX0_shift 26 = .ok (.aload_n 0, 1) := dk_42 (dk_at dksX0_shift_1 4 rfl rfl)
theorem dX0_shift_27 : decode cX0_shift 27 = .ok (.getfield 64, 3) := dk_180 0 64 (dk_at dksX0_shift_1 5 rfl rfl)
theorem dX0_shift_30 : decode cX0_shift 30 = .ok (.iload_n 3, 1) := dk_29 (dk_at dksX0_shift_1 8 rfl rfl)
theorem dX0_shift_31 : decode cX0_shift 31 = .ok (.aaload, 1) := dk_50 (dk_at dksX0_shift_1 9 rfl rfl)
theorem dX0_shift_32 : decode cX0_shift 32 = .ok (.getfield 417, 3) := dk_180 1 161 (dk_at dksX0_shift_1 10 rfl rfl)
theorem dX0_shift_35 : decode cX0_shift 35 = .ok (.iload 4, 2) := dk_21 4 (dk_at dksX0_shift_1 13 rfl rfl)
theorem dX0_shift_37 : decode cX0_shift 37 = .ok (.iload 5, 2) := dk_21 5 (dk_at dksX0_shift_1 15 rfl rfl)
theorem dX0_shift_39 : decode cX0_shift 39 = .ok (.invokestatic 86, 3) := dk_184 0 86 (dk_at dksX0_shift_1 17 rfl rfl)
theorem dX0_shift_42 : decode cX0_shift 42 = .ok (.iload 5, 2) := dk_21 5 (dk_at dksX0_shift_1 20 rfl rfl)
theorem dX0_shift_44 : decode cX0_shift 44 = .ok (.ireturn, 1) := dk_172 (dk_at dksX0_shift_1 22 rfl rfl)
theorem dX0_shift_45 : decode cX0_shift 45 = .ok (.astore 6, 2) := dk_58 6 (dk_at dksX0_shift_2 0 rfl rfl)
theorem dX0_shift_47 : decode cX0_shift 47 = .ok (.bipush (-11), 2) := dk_16 245 (dk_at dksX0_shift_2 2 rfl rfl)
theorem dX0_shift_49 : decode cX0_shift 49 = .ok (.ireturn, 1) := dk_172 (dk_at dksX0_shift_2 4 rfl rfl)
theorem dX0_shift_50 : decode cX0_shift 50 = .ok (.astore 6, 2) := dk_58 6 (dk_at dksX0_shift_2 5 rfl rfl)
theorem dX0_shift_52 : decode cX0_shift 52 = .ok (.bipush (-13), 2) := dk_16 243 (dk_at dksX0_shift_2 7 rfl rfl)
theorem dX0_shift_54 : decode cX0_shift 54 = .ok (.ireturn, 1) := dk_172 (dk_at dksX0_shift_2 9 rfl rfl)
theorem dX0_shift_55 : decode cX0_shift 55 = .ok (.astore 6, 2) := dk_58 6 (dk_at dksX0_shift_2 10 rfl rfl)
theorem dX0_shift_57 : decode cX0_shift 57 = .ok (.bipush (-12), 2) := dk_16 244 (dk_at dksX0_shift_2 12 rfl rfl)
theorem dX0_shift_59 : decode cX0_shift 59 = .ok (.ireturn, 1) := dk_172 (dk_at dksX0_shift_2 14 rfl rfl)
abbrev cX0_count : ByteArray := prog_1_method_62_code
def yX0_count : MethodName := ⟨RX0, "count", "(I)I"⟩
def dkwX0_count_4 : List UInt8 := [167, 0, 8, 4, 167, 0, 4, 2, 172]
abbrev dktX0_count_4 : List UInt8 := dkwX0_count_4 ++ []
def dkwX0_count_3 : List UInt8 := [42, 182, 1, 169, 167, 0, 26, 42, 182, 1, 172, 167, 0, 19, 42, 180, 0, 72, 199, 0, 7, 3]
abbrev dktX0_count_3 : List UInt8 := dkwX0_count_3 ++ dktX0_count_4
def dkwX0_count_2 : List UInt8 := [42, 180, 0, 9, 167, 0, 50, 42, 182, 0, 68, 167, 0, 43, 42, 180, 0, 57, 182, 0, 215, 167, 0, 33]
abbrev dktX0_count_2 : List UInt8 := dkwX0_count_2 ++ dktX0_count_3
def dkwX0_count_1 : List UInt8 := [170, 0, 0, 0, 0, 0, 92, 0, 0, 0, 0, 0, 0, 0, 5, 0, 0, 0, 39, 0, 0, 0, 46, 0, 0, 0, 53, 0, 0, 0, 63, 0, 0, 0, 70, 0, 0, 0, 77]
abbrev dktX0_count_1 : List UInt8 := dkwX0_count_1 ++ dktX0_count_2
def dkwX0_count_0 : List UInt8 := [27]
abbrev dktX0_count_0 : List UInt8 := dkwX0_count_0 ++ dktX0_count_1
theorem dksX0_count_0 : cX0_count.data.toList.drop 0 = dktX0_count_0 := by decide +kernel
theorem dksX0_count_1 : cX0_count.data.toList.drop 1 = dktX0_count_1 := dk_seg dksX0_count_0 1 rfl rfl
theorem dksX0_count_2 : cX0_count.data.toList.drop 40 = dktX0_count_2 := dk_seg dksX0_count_1 39 rfl rfl
theorem dksX0_count_3 : cX0_count.data.toList.drop 64 = dktX0_count_3 := dk_seg dksX0_count_2 24 rfl rfl
theorem dksX0_count_4 : cX0_count.data.toList.drop 86 = dktX0_count_4 := dk_seg dksX0_count_3 22 rfl rfl
theorem dX0_count_0 : decode cX0_count 0 = .ok (.iload_n 1, 1) := dk_27 (dk_at dksX0_count_0 0 rfl rfl)
theorem dX0_count_1 : decode cX0_count 1 = .ok (.tableswitch 92 0 5 #[39, 46, 53, 63, 70, 77], 39) := by decide +kernel
theorem dX0_count_40 : decode cX0_count 40 = .ok (.aload_n 0, 1) := dk_42 (dk_at dksX0_count_2 0 rfl rfl)
theorem dX0_count_41 : decode cX0_count 41 = .ok (.getfield 9, 3) := dk_180 0 9 (dk_at dksX0_count_2 1 rfl rfl)
theorem dX0_count_44 : decode cX0_count 44 = .ok (.goto 50, 3) := dk_167 0 50 (dk_at dksX0_count_2 4 rfl rfl)
theorem dX0_count_47 : decode cX0_count 47 = .ok (.aload_n 0, 1) := dk_42 (dk_at dksX0_count_2 7 rfl rfl)
theorem dX0_count_48 : decode cX0_count 48 = .ok (.invokevirtual 68, 3) := dk_182 0 68 (dk_at dksX0_count_2 8 rfl rfl)
theorem dX0_count_51 : decode cX0_count 51 = .ok (.goto 43, 3) := dk_167 0 43 (dk_at dksX0_count_2 11 rfl rfl)
theorem dX0_count_54 : decode cX0_count 54 = .ok (.aload_n 0, 1) := dk_42 (dk_at dksX0_count_2 14 rfl rfl)
theorem dX0_count_55 : decode cX0_count 55 = .ok (.getfield 57, 3) := dk_180 0 57 (dk_at dksX0_count_2 15 rfl rfl)
theorem dX0_count_58 : decode cX0_count 58 = .ok (.invokevirtual 215, 3) := dk_182 0 215 (dk_at dksX0_count_2 18 rfl rfl)
theorem dX0_count_61 : decode cX0_count 61 = .ok (.goto 33, 3) := dk_167 0 33 (dk_at dksX0_count_2 21 rfl rfl)
theorem dX0_count_64 : decode cX0_count 64 = .ok (.aload_n 0, 1) := dk_42 (dk_at dksX0_count_3 0 rfl rfl)
theorem dX0_count_65 : decode cX0_count 65 = .ok (.invokevirtual 425, 3) := dk_182 1 169 (dk_at dksX0_count_3 1 rfl rfl)
theorem dX0_count_68 : decode cX0_count 68 = .ok (.goto 26, 3) := dk_167 0 26 (dk_at dksX0_count_3 4 rfl rfl)
theorem dX0_count_71 : decode cX0_count 71 = .ok (.aload_n 0, 1) := dk_42 (dk_at dksX0_count_3 7 rfl rfl)
theorem dX0_count_72 : decode cX0_count 72 = .ok (.invokevirtual 428, 3) := dk_182 1 172 (dk_at dksX0_count_3 8 rfl rfl)
theorem dX0_count_75 : decode cX0_count 75 = .ok (.goto 19, 3) := dk_167 0 19 (dk_at dksX0_count_3 11 rfl rfl)
theorem dX0_count_78 : decode cX0_count 78 = .ok (.aload_n 0, 1) := dk_42 (dk_at dksX0_count_3 14 rfl rfl)
theorem dX0_count_79 : decode cX0_count 79 = .ok (.getfield 72, 3) := dk_180 0 72 (dk_at dksX0_count_3 15 rfl rfl)
theorem dX0_count_82 : decode cX0_count 82 = .ok (.ifnonnull 7, 3) := dk_199 0 7 (dk_at dksX0_count_3 18 rfl rfl)
theorem dX0_count_85 : decode cX0_count 85 = .ok (.iconst 0, 1) := dk_3 (dk_at dksX0_count_3 21 rfl rfl)
theorem dX0_count_86 : decode cX0_count 86 = .ok (.goto 8, 3) := dk_167 0 8 (dk_at dksX0_count_4 0 rfl rfl)
theorem dX0_count_89 : decode cX0_count 89 = .ok (.iconst 1, 1) := dk_4 (dk_at dksX0_count_4 3 rfl rfl)
theorem dX0_count_90 : decode cX0_count 90 = .ok (.goto 4, 3) := dk_167 0 4 (dk_at dksX0_count_4 4 rfl rfl)
theorem dX0_count_93 : decode cX0_count 93 = .ok (.iconst (-1), 1) := dk_2 (dk_at dksX0_count_4 7 rfl rfl)
theorem dX0_count_94 : decode cX0_count 94 = .ok (.ireturn, 1) := dk_172 (dk_at dksX0_count_4 8 rfl rfl)
abbrev cX0_slotsThere : ByteArray := prog_1_method_60_code
def yX0_slotsThere : MethodName := ⟨RX0, "slotsThere", "()I"⟩
def dkwX0_slotsThere_1 : List UInt8 := [120, 167, 0, 4, 3, 128, 60, 132, 2, 1, 167, 255, 226, 27, 172]
abbrev dktX0_slotsThere_1 : List UInt8 := dkwX0_slotsThere_1 ++ []
def dkwX0_slotsThere_0 : List UInt8 := [3, 60, 3, 61, 28, 8, 162, 0, 31, 27, 42, 180, 0, 49, 28, 50, 184, 0, 96, 155, 0, 9, 4, 28]
abbrev dktX0_slotsThere_0 : List UInt8 := dkwX0_slotsThere_0 ++ dktX0_slotsThere_1
theorem dksX0_slotsThere_0 : cX0_slotsThere.data.toList.drop 0 = dktX0_slotsThere_0 := by decide +kernel
theorem dksX0_slotsThere_1 : cX0_slotsThere.data.toList.drop 24 = dktX0_slotsThere_1 := dk_seg dksX0_slotsThere_0 24 rfl rfl
theorem dX0_slotsThere_0 : decode cX0_slotsThere 0 = .ok (.iconst 0, 1) := dk_3 (dk_at dksX0_slotsThere_0 0 rfl rfl)
theorem dX0_slotsThere_1 : decode cX0_slotsThere 1 = .ok (.istore_n 1, 1) := dk_60 (dk_at dksX0_slotsThere_0 1 rfl rfl)
theorem dX0_slotsThere_2 : decode cX0_slotsThere 2 = .ok (.iconst 0, 1) := dk_3 (dk_at dksX0_slotsThere_0 2 rfl rfl)
theorem dX0_slotsThere_3 : decode cX0_slotsThere 3 = .ok (.istore_n 2, 1) := dk_61 (dk_at dksX0_slotsThere_0 3 rfl rfl)
theorem dX0_slotsThere_4 : decode cX0_slotsThere 4 = .ok (.iload_n 2, 1) := dk_28 (dk_at dksX0_slotsThere_0 4 rfl rfl)
theorem dX0_slotsThere_5 : decode cX0_slotsThere 5 = .ok (.iconst 5, 1) := dk_8 (dk_at dksX0_slotsThere_0 5 rfl rfl)
theorem dX0_slotsThere_6 : decode cX0_slotsThere 6 = .ok (.if_icmp .ge 31, 3) := dk_162 0 31 (dk_at dksX0_slotsThere_0 6 rfl rfl)
theorem dX0_slotsThere_9 : decode cX0_slotsThere 9 = .ok (.iload_n 1, 1) := dk_27 (dk_at dksX0_slotsThere_0 9 rfl rfl)
theorem dX0_slotsThere_10 : decode cX0_slotsThere 10 = .ok (.aload_n 0, 1) := dk_42 (dk_at dksX0_slotsThere_0 10 rfl rfl)
theorem dX0_slotsThere_11 : decode cX0_slotsThere 11 = .ok (.getfield 49, 3) := dk_180 0 49 (dk_at dksX0_slotsThere_0 11 rfl rfl)
theorem dX0_slotsThere_14 : decode cX0_slotsThere 14 = .ok (.iload_n 2, 1) := dk_28 (dk_at dksX0_slotsThere_0 14 rfl rfl)
theorem dX0_slotsThere_15 : decode cX0_slotsThere 15 = .ok (.aaload, 1) := dk_50 (dk_at dksX0_slotsThere_0 15 rfl rfl)
theorem dX0_slotsThere_16 : decode cX0_slotsThere 16 = .ok (.invokestatic 96, 3) := dk_184 0 96 (dk_at dksX0_slotsThere_0 16 rfl rfl)
theorem dX0_slotsThere_19 : decode cX0_slotsThere 19 = .ok (.ifCond .lt 9, 3) := dk_155 0 9 (dk_at dksX0_slotsThere_0 19 rfl rfl)
theorem dX0_slotsThere_22 : decode cX0_slotsThere 22 = .ok (.iconst 1, 1) := dk_4 (dk_at dksX0_slotsThere_0 22 rfl rfl)
theorem dX0_slotsThere_23 : decode cX0_slotsThere 23 = .ok (.iload_n 2, 1) := dk_28 (dk_at dksX0_slotsThere_0 23 rfl rfl)
theorem dX0_slotsThere_24 : decode cX0_slotsThere 24 = .ok (.ishl, 1) := dk_120 (dk_at dksX0_slotsThere_1 0 rfl rfl)
theorem dX0_slotsThere_25 : decode cX0_slotsThere 25 = .ok (.goto 4, 3) := dk_167 0 4 (dk_at dksX0_slotsThere_1 1 rfl rfl)
theorem dX0_slotsThere_28 : decode cX0_slotsThere 28 = .ok (.iconst 0, 1) := dk_3 (dk_at dksX0_slotsThere_1 4 rfl rfl)
theorem dX0_slotsThere_29 : decode cX0_slotsThere 29 = .ok (.ior, 1) := dk_128 (dk_at dksX0_slotsThere_1 5 rfl rfl)
theorem dX0_slotsThere_30 : decode cX0_slotsThere 30 = .ok (.istore_n 1, 1) := dk_60 (dk_at dksX0_slotsThere_1 6 rfl rfl)
theorem dX0_slotsThere_31 : decode cX0_slotsThere 31 = .ok (.iinc 2 1, 3) := dk_132 2 1 (dk_at dksX0_slotsThere_1 7 rfl rfl)
theorem dX0_slotsThere_34 : decode cX0_slotsThere 34 = .ok (.goto (-30), 3) := dk_167 255 226 (dk_at dksX0_slotsThere_1 10 rfl rfl)
theorem dX0_slotsThere_37 : decode cX0_slotsThere 37 = .ok (.iload_n 1, 1) := dk_27 (dk_at dksX0_slotsThere_1 13 rfl rfl)
theorem dX0_slotsThere_38 : decode cX0_slotsThere 38 = .ok (.ireturn, 1) := dk_172 (dk_at dksX0_slotsThere_1 14 rfl rfl)
abbrev cX0_sheetsThere : ByteArray := prog_1_method_61_code
def yX0_sheetsThere : MethodName := ⟨RX0, "sheetsThere", "()I"⟩
def dkwX0_sheetsThere_2 : List UInt8 := [27, 172]
abbrev dktX0_sheetsThere_2 : List UInt8 := dkwX0_sheetsThere_2 ++ []
def dkwX0_sheetsThere_1 : List UInt8 := [58, 5, 27, 25, 5, 180, 1, 161, 198, 0, 7, 4, 167, 0, 4, 3, 96, 60, 132, 4, 1, 167, 255, 225]
abbrev dktX0_sheetsThere_1 : List UInt8 := dkwX0_sheetsThere_1 ++ dktX0_sheetsThere_2
def dkwX0_sheetsThere_0 : List UInt8 := [3, 60, 42, 180, 0, 64, 77, 44, 190, 62, 3, 54, 4, 21, 4, 29, 162, 0, 31, 44, 21, 4, 50]
abbrev dktX0_sheetsThere_0 : List UInt8 := dkwX0_sheetsThere_0 ++ dktX0_sheetsThere_1
theorem dksX0_sheetsThere_0 : cX0_sheetsThere.data.toList.drop 0 = dktX0_sheetsThere_0 := by decide +kernel
theorem dksX0_sheetsThere_1 : cX0_sheetsThere.data.toList.drop 23 = dktX0_sheetsThere_1 := dk_seg dksX0_sheetsThere_0 23 rfl rfl
theorem dksX0_sheetsThere_2 : cX0_sheetsThere.data.toList.drop 47 = dktX0_sheetsThere_2 := dk_seg dksX0_sheetsThere_1 24 rfl rfl
theorem dX0_sheetsThere_0 : decode cX0_sheetsThere 0 = .ok (.iconst 0, 1) := dk_3 (dk_at dksX0_sheetsThere_0 0 rfl rfl)
theorem dX0_sheetsThere_1 : decode cX0_sheetsThere 1 = .ok (.istore_n 1, 1) := dk_60 (dk_at dksX0_sheetsThere_0 1 rfl rfl)
theorem dX0_sheetsThere_2 : decode cX0_sheetsThere 2 = .ok (.aload_n 0, 1) := dk_42 (dk_at dksX0_sheetsThere_0 2 rfl rfl)
theorem dX0_sheetsThere_3 : decode cX0_sheetsThere 3 = .ok (.getfield 64, 3) := dk_180 0 64 (dk_at dksX0_sheetsThere_0 3 rfl rfl)
theorem dX0_sheetsThere_6 : decode cX0_sheetsThere 6 = .ok (.astore_n 2, 1) := dk_77 (dk_at dksX0_sheetsThere_0 6 rfl rfl)
theorem dX0_sheetsThere_7 : decode cX0_sheetsThere 7 = .ok (.aload_n 2, 1) := dk_44 (dk_at dksX0_sheetsThere_0 7 rfl rfl)
theorem dX0_sheetsThere_8 : decode cX0_sheetsThere 8 = .ok (.arraylength, 1) := dk_190 (dk_at dksX0_sheetsThere_0 8 rfl rfl)
theorem dX0_sheetsThere_9 : decode cX0_sheetsThere 9 = .ok (.istore_n 3, 1) := dk_62 (dk_at dksX0_sheetsThere_0 9 rfl rfl)
theorem dX0_sheetsThere_10 : decode cX0_sheetsThere 10 = .ok (.iconst 0, 1) := dk_3 (dk_at dksX0_sheetsThere_0 10 rfl rfl)
theorem dX0_sheetsThere_11 : decode cX0_sheetsThere 11 = .ok (.istore 4, 2) := dk_54 4 (dk_at dksX0_sheetsThere_0 11 rfl rfl)
theorem dX0_sheetsThere_13 : decode cX0_sheetsThere 13 = .ok (.iload 4, 2) := dk_21 4 (dk_at dksX0_sheetsThere_0 13 rfl rfl)
theorem dX0_sheetsThere_15 : decode cX0_sheetsThere 15 = .ok (.iload_n 3, 1) := dk_29 (dk_at dksX0_sheetsThere_0 15 rfl rfl)
theorem dX0_sheetsThere_16 : decode cX0_sheetsThere 16 = .ok (.if_icmp .ge 31, 3) := dk_162 0 31 (dk_at dksX0_sheetsThere_0 16 rfl rfl)
theorem dX0_sheetsThere_19 : decode cX0_sheetsThere 19 = .ok (.aload_n 2, 1) := dk_44 (dk_at dksX0_sheetsThere_0 19 rfl rfl)
theorem dX0_sheetsThere_20 : decode cX0_sheetsThere 20 = .ok (.iload 4, 2) := dk_21 4 (dk_at dksX0_sheetsThere_0 20 rfl rfl)
theorem dX0_sheetsThere_22 : decode cX0_sheetsThere 22 = .ok (.aaload, 1) := dk_50 (dk_at dksX0_sheetsThere_0 22 rfl rfl)
theorem dX0_sheetsThere_23 : decode cX0_sheetsThere 23 = .ok (.astore 5, 2) := dk_58 5 (dk_at dksX0_sheetsThere_1 0 rfl rfl)
theorem dX0_sheetsThere_25 : decode cX0_sheetsThere 25 = .ok (.iload_n 1, 1) := dk_27 (dk_at dksX0_sheetsThere_1 2 rfl rfl)
theorem dX0_sheetsThere_26 : decode cX0_sheetsThere 26 = .ok (.aload 5, 2) := dk_25 5 (dk_at dksX0_sheetsThere_1 3 rfl rfl)
theorem dX0_sheetsThere_28 : decode cX0_sheetsThere 28 = .ok (.getfield 417, 3) := dk_180 1 161 (dk_at dksX0_sheetsThere_1 5 rfl rfl)
theorem dX0_sheetsThere_31 : decode cX0_sheetsThere 31 = .ok (.ifnull 7, 3) := dk_198 0 7 (dk_at dksX0_sheetsThere_1 8 rfl rfl)
theorem dX0_sheetsThere_34 : decode cX0_sheetsThere 34 = .ok (.iconst 1, 1) := dk_4 (dk_at dksX0_sheetsThere_1 11 rfl rfl)
theorem dX0_sheetsThere_35 : decode cX0_sheetsThere 35 = .ok (.goto 4, 3) := dk_167 0 4 (dk_at dksX0_sheetsThere_1 12 rfl rfl)
theorem dX0_sheetsThere_38 : decode cX0_sheetsThere 38 = .ok (.iconst 0, 1) := dk_3 (dk_at dksX0_sheetsThere_1 15 rfl rfl)
theorem dX0_sheetsThere_39 : decode cX0_sheetsThere 39 = .ok (.iadd, 1) := dk_96 (dk_at dksX0_sheetsThere_1 16 rfl rfl)
theorem dX0_sheetsThere_40 : decode cX0_sheetsThere 40 = .ok (.istore_n 1, 1) := dk_60 (dk_at dksX0_sheetsThere_1 17 rfl rfl)
theorem dX0_sheetsThere_41 : decode cX0_sheetsThere 41 = .ok (.iinc 4 1, 3) := dk_132 4 1 (dk_at dksX0_sheetsThere_1 18 rfl rfl)
theorem dX0_sheetsThere_44 : decode cX0_sheetsThere 44 = .ok (.goto (-31), 3) := dk_167 255 225 (dk_at dksX0_sheetsThere_1 21 rfl rfl)
theorem dX0_sheetsThere_47 : decode cX0_sheetsThere 47 = .ok (.iload_n 1, 1) := dk_27 (dk_at dksX0_sheetsThere_2 0 rfl rfl)
theorem dX0_sheetsThere_48 : decode cX0_sheetsThere 48 = .ok (.ireturn, 1) := dk_172 (dk_at dksX0_sheetsThere_2 1 rfl rfl)
theorem q103 : (Jvm.Cond.initialized "TypesAtPrime") ∈ lw_all := lw_g (lw_at lw_m1 1 rfl) rfl
theorem q148 : (Jvm.Cond.instantiable "TypesAtPrime" (12 : Nat)) ∈ lw_all := lw_g (lw_at lw_m1 46 rfl) rfl
theorem q150 : (Jvm.Cond.instanceMethod ({ cls := "TypesAtPrime", name := "<init>", desc := "()V" } : Jvm.MethodName)) ∈ lw_all := lw_g (lw_at lw_m1 48 rfl) rfl
theorem q151 : (Jvm.Cond.code ({ cls := "TypesAtPrime", name := "<init>", desc := "()V" } : Jvm.MethodName) prog_1_method_1_code (1 : Nat) (Option.none : Option Jvm.ClassFile.FieldType)) ∈ lw_all := lw_g (lw_at lw_m1 49 rfl) rfl
theorem q152 : (Jvm.Cond.methodLink "TypesAtPrime" (3 : Nat) ({ cls := "java/lang/Object", name := "<init>", desc := "()V" } : Jvm.MethodName)) ∈ lw_all := lw_g (lw_at lw_m1 50 rfl) rfl
theorem q155 : (Jvm.Cond.constantLong "TypesAtPrime" (15 : Nat) (3 : Int64)) ∈ lw_all := lw_g (lw_at lw_m1 53 rfl) rfl
theorem q156 : (Jvm.Cond.methodLink "TypesAtPrime" (17 : Nat) ({ cls := "TypesAtPrime", name := "power", desc := "(JI)J" } : Jvm.MethodName)) ∈ lw_all := lw_g (lw_at lw_m1 54 rfl) rfl
theorem q157 : (Jvm.Cond.static ({ cls := "TypesAtPrime", name := "power", desc := "(JI)J" } : Jvm.MethodName)) ∈ lw_all := lw_g (lw_at lw_m1 55 rfl) rfl
theorem q158 : (Jvm.Cond.code ({ cls := "TypesAtPrime", name := "power", desc := "(JI)J" } : Jvm.MethodName) prog_1_method_3_code (6 : Nat) (Option.some Jvm.ClassFile.FieldType.long)) ∈ lw_all := lw_g (lw_at lw_m1 56 rfl) rfl
theorem q159 : (Jvm.Cond.classLink "TypesAtPrime" (32 : Nat) "[[[J") ∈ lw_all := lw_g (lw_at lw_m1 57 rfl) rfl
theorem q162 : (Jvm.Cond.classLink "TypesAtPrime" (47 : Nat) "[[I") ∈ lw_all := lw_g (lw_at lw_m1 60 rfl) rfl
theorem q164 : (Jvm.Cond.classLink "TypesAtPrime" (52 : Nat) "java/lang/StringBuilder") ∈ lw_all := lw_g (lw_at lw_m1 62 rfl) rfl
theorem q166 : (Jvm.Cond.methodLink "TypesAtPrime" (54 : Nat) ({ cls := "java/lang/StringBuilder", name := "<init>", desc := "(I)V" } : Jvm.MethodName)) ∈ lw_all := lw_g (lw_at lw_m1 64 rfl) rfl
theorem q280 : (Jvm.Cond.classLink "TypesAtPrime" (61 : Nat) "TypesAtPrime$Sheet") ∈ lw_all := lw_g (lw_at lw_m1 178 rfl) rfl
theorem q283 : (Jvm.Cond.methodLinkNest "TypesAtPrime" (63 : Nat) ({ cls := "TypesAtPrime$Sheet", name := "<init>", desc := "()V" } : Jvm.MethodName) "TypesAtPrime") ∈ lw_tbl := lw_at lw_m1 181 rfl
theorem q288 : (Jvm.Cond.fieldLinkNest "TypesAtPrime" (417 : Nat) "TypesAtPrime$Sheet" "row" "Ljava/lang/Object;" "TypesAtPrime") ∈ lw_tbl := lw_at lw_m1 186 rfl
theorem q292 : (Jvm.Cond.fieldLink "TypesAtPrime" (9 : Nat) "TypesAtPrime" "p" "I") ∈ lw_all := lw_g (lw_at lw_m1 190 rfl) rfl
theorem q294 : (Jvm.Cond.fieldLink "TypesAtPrime" (21 : Nat) "TypesAtPrime" "modulus" "J") ∈ lw_all := lw_g (lw_at lw_m1 192 rfl) rfl
theorem q296 : (Jvm.Cond.fieldLink "TypesAtPrime" (25 : Nat) "TypesAtPrime" "left" "[J") ∈ lw_all := lw_g (lw_at lw_m1 194 rfl) rfl
theorem q297 : (Jvm.Cond.fieldLink "TypesAtPrime" (29 : Nat) "TypesAtPrime" "quotient" "[J") ∈ lw_all := lw_g (lw_at lw_m1 195 rfl) rfl
theorem q298 : (Jvm.Cond.fieldLink "TypesAtPrime" (34 : Nat) "TypesAtPrime" "rooms" "[[[J") ∈ lw_all := lw_g (lw_at lw_m1 196 rfl) rfl
theorem q299 : (Jvm.Cond.fieldLink "TypesAtPrime" (37 : Nat) "TypesAtPrime" "tried" "[I") ∈ lw_all := lw_g (lw_at lw_m1 197 rfl) rfl
theorem q300 : (Jvm.Cond.fieldLink "TypesAtPrime" (41 : Nat) "TypesAtPrime" "leaves" "[I") ∈ lw_all := lw_g (lw_at lw_m1 198 rfl) rfl
theorem q301 : (Jvm.Cond.fieldLink "TypesAtPrime" (44 : Nat) "TypesAtPrime" "goes" "[I") ∈ lw_all := lw_g (lw_at lw_m1 199 rfl) rfl
theorem q302 : (Jvm.Cond.fieldLink "TypesAtPrime" (49 : Nat) "TypesAtPrime" "slots" "[[I") ∈ lw_all := lw_g (lw_at lw_m1 200 rfl) rfl
theorem q303 : (Jvm.Cond.fieldLink "TypesAtPrime" (57 : Nat) "TypesAtPrime" "tape" "Ljava/lang/StringBuilder;") ∈ lw_all := lw_g (lw_at lw_m1 201 rfl) rfl
theorem q304 : (Jvm.Cond.fieldLink "TypesAtPrime" (72 : Nat) "TypesAtPrime" "tree" "LTypesAtPrime$Tree;") ∈ lw_all := lw_g (lw_at lw_m1 202 rfl) rfl
theorem q305 : (Jvm.Cond.fieldLink "TypesAtPrime" (64 : Nat) "TypesAtPrime" "sheets" "[LTypesAtPrime$Sheet;") ∈ lw_all := lw_g (lw_at lw_m1 203 rfl) rfl
theorem q306 : (Jvm.Cond.lays "TypesAtPrime" "TypesAtPrime" "p" "I") ∈ lw_all := lw_g (lw_at lw_m1 204 rfl) rfl
theorem q307 : (Jvm.Cond.soleField "TypesAtPrime" "p") ∈ lw_all := lw_g (lw_at lw_m1 205 rfl) rfl
theorem q308 : (Jvm.Cond.lays "TypesAtPrime" "TypesAtPrime" "modulus" "J") ∈ lw_all := lw_g (lw_at lw_m1 206 rfl) rfl
theorem q309 : (Jvm.Cond.soleField "TypesAtPrime" "modulus") ∈ lw_all := lw_g (lw_at lw_m1 207 rfl) rfl
theorem q310 : (Jvm.Cond.laysFinal "TypesAtPrime" "TypesAtPrime" "left" "[J") ∈ lw_all := lw_g (lw_at lw_m1 208 rfl) rfl
theorem q311 : (Jvm.Cond.soleField "TypesAtPrime" "left") ∈ lw_all := lw_g (lw_at lw_m1 209 rfl) rfl
theorem q312 : (Jvm.Cond.laysFinal "TypesAtPrime" "TypesAtPrime" "quotient" "[J") ∈ lw_all := lw_g (lw_at lw_m1 210 rfl) rfl
theorem q313 : (Jvm.Cond.soleField "TypesAtPrime" "quotient") ∈ lw_all := lw_g (lw_at lw_m1 211 rfl) rfl
theorem q314 : (Jvm.Cond.laysFinal "TypesAtPrime" "TypesAtPrime" "rooms" "[[[J") ∈ lw_all := lw_g (lw_at lw_m1 212 rfl) rfl
theorem q315 : (Jvm.Cond.soleField "TypesAtPrime" "rooms") ∈ lw_all := lw_g (lw_at lw_m1 213 rfl) rfl
theorem q316 : (Jvm.Cond.laysFinal "TypesAtPrime" "TypesAtPrime" "tried" "[I") ∈ lw_all := lw_g (lw_at lw_m1 214 rfl) rfl
theorem q317 : (Jvm.Cond.soleField "TypesAtPrime" "tried") ∈ lw_all := lw_g (lw_at lw_m1 215 rfl) rfl
theorem q318 : (Jvm.Cond.laysFinal "TypesAtPrime" "TypesAtPrime" "leaves" "[I") ∈ lw_all := lw_g (lw_at lw_m1 216 rfl) rfl
theorem q319 : (Jvm.Cond.soleField "TypesAtPrime" "leaves") ∈ lw_all := lw_g (lw_at lw_m1 217 rfl) rfl
theorem q320 : (Jvm.Cond.laysFinal "TypesAtPrime" "TypesAtPrime" "goes" "[I") ∈ lw_all := lw_g (lw_at lw_m1 218 rfl) rfl
theorem q321 : (Jvm.Cond.soleField "TypesAtPrime" "goes") ∈ lw_all := lw_g (lw_at lw_m1 219 rfl) rfl
theorem q322 : (Jvm.Cond.laysFinal "TypesAtPrime" "TypesAtPrime" "slots" "[[I") ∈ lw_all := lw_g (lw_at lw_m1 220 rfl) rfl
theorem q323 : (Jvm.Cond.soleField "TypesAtPrime" "slots") ∈ lw_all := lw_g (lw_at lw_m1 221 rfl) rfl
theorem q324 : (Jvm.Cond.laysFinal "TypesAtPrime" "TypesAtPrime" "tape" "Ljava/lang/StringBuilder;") ∈ lw_all := lw_g (lw_at lw_m1 222 rfl) rfl
theorem q325 : (Jvm.Cond.soleField "TypesAtPrime" "tape") ∈ lw_all := lw_g (lw_at lw_m1 223 rfl) rfl
theorem q326 : (Jvm.Cond.lays "TypesAtPrime" "TypesAtPrime" "tree" "LTypesAtPrime$Tree;") ∈ lw_all := lw_g (lw_at lw_m1 224 rfl) rfl
theorem q327 : (Jvm.Cond.soleField "TypesAtPrime" "tree") ∈ lw_all := lw_g (lw_at lw_m1 225 rfl) rfl
theorem q328 : (Jvm.Cond.laysFinal "TypesAtPrime" "TypesAtPrime" "sheets" "[LTypesAtPrime$Sheet;") ∈ lw_all := lw_g (lw_at lw_m1 226 rfl) rfl
theorem q329 : (Jvm.Cond.soleField "TypesAtPrime" "sheets") ∈ lw_all := lw_g (lw_at lw_m1 227 rfl) rfl
theorem q330 : (Jvm.Cond.superclass "TypesAtPrime" "java/lang/Object") ∈ lw_all := lw_g (lw_at lw_m1 228 rfl) rfl
theorem q332 : (Jvm.Cond.instanceMethod ({ cls := "TypesAtPrime", name := "prime", desc := "(I)I" } : Jvm.MethodName)) ∈ lw_all := lw_g (lw_at lw_m1 230 rfl) rfl
theorem q333 : (Jvm.Cond.selects "TypesAtPrime" ({ cls := "TypesAtPrime", name := "prime", desc := "(I)I" } : Jvm.MethodName) ({ cls := "TypesAtPrime", name := "prime", desc := "(I)I" } : Jvm.MethodName)) ∈ lw_all := lw_g (lw_at lw_m1 231 rfl) rfl
theorem q334 : (Jvm.Cond.code ({ cls := "TypesAtPrime", name := "prime", desc := "(I)I" } : Jvm.MethodName) prog_1_method_5_code (3 : Nat) (Option.some Jvm.ClassFile.FieldType.int)) ∈ lw_all := lw_g (lw_at lw_m1 232 rfl) rfl
theorem q335 : (Jvm.Cond.methodLink "TypesAtPrime" (68 : Nat) ({ cls := "TypesAtPrime", name := "limit", desc := "()I" } : Jvm.MethodName)) ∈ lw_all := lw_g (lw_at lw_m1 233 rfl) rfl
theorem q336 : (Jvm.Cond.privateMethod ({ cls := "TypesAtPrime", name := "limit", desc := "()I" } : Jvm.MethodName)) ∈ lw_tbl := lw_at lw_m1 234 rfl
theorem q337 : (Jvm.Cond.instanceMethod ({ cls := "TypesAtPrime", name := "limit", desc := "()I" } : Jvm.MethodName)) ∈ lw_all := lw_g (lw_at lw_m1 235 rfl) rfl
theorem q338 : (Jvm.Cond.code ({ cls := "TypesAtPrime", name := "limit", desc := "()I" } : Jvm.MethodName) prog_1_method_4_code (1 : Nat) (Option.some Jvm.ClassFile.FieldType.int)) ∈ lw_all := lw_g (lw_at lw_m1 236 rfl) rfl
theorem q340 : (Jvm.Cond.instanceMethod ({ cls := "TypesAtPrime", name := "set", desc := "(III)J" } : Jvm.MethodName)) ∈ lw_all := lw_g (lw_at lw_m1 238 rfl) rfl
theorem q341 : (Jvm.Cond.selects "TypesAtPrime" ({ cls := "TypesAtPrime", name := "set", desc := "(III)J" } : Jvm.MethodName) ({ cls := "TypesAtPrime", name := "set", desc := "(III)J" } : Jvm.MethodName)) ∈ lw_all := lw_g (lw_at lw_m1 239 rfl) rfl
theorem q342 : (Jvm.Cond.code ({ cls := "TypesAtPrime", name := "set", desc := "(III)J" } : Jvm.MethodName) prog_1_method_22_code (5 : Nat) (Option.some Jvm.ClassFile.FieldType.long)) ∈ lw_all := lw_g (lw_at lw_m2 0 rfl) rfl
theorem q343 : (Jvm.Cond.methodLink "TypesAtPrime" (146 : Nat) ({ cls := "TypesAtPrime", name := "isSlot", desc := "(I)Z" } : Jvm.MethodName)) ∈ lw_all := lw_g (lw_at lw_m2 1 rfl) rfl
theorem q344 : (Jvm.Cond.static ({ cls := "TypesAtPrime", name := "isSlot", desc := "(I)Z" } : Jvm.MethodName)) ∈ lw_all := lw_g (lw_at lw_m2 2 rfl) rfl
theorem q345 : (Jvm.Cond.code ({ cls := "TypesAtPrime", name := "isSlot", desc := "(I)Z" } : Jvm.MethodName) prog_1_method_18_code (1 : Nat) (Option.some Jvm.ClassFile.FieldType.boolean)) ∈ lw_all := lw_g (lw_at lw_m2 3 rfl) rfl
theorem q346 : (Jvm.Cond.constantLong "TypesAtPrime" (138 : Nat) (4 : Int64)) ∈ lw_all := lw_g (lw_at lw_m2 4 rfl) rfl
theorem q347 : (Jvm.Cond.methodLink "TypesAtPrime" (140 : Nat) ({ cls := "TypesAtPrime", name := "in", desc := "(JJJ)Z" } : Jvm.MethodName)) ∈ lw_all := lw_g (lw_at lw_m2 5 rfl) rfl
theorem q348 : (Jvm.Cond.static ({ cls := "TypesAtPrime", name := "in", desc := "(JJJ)Z" } : Jvm.MethodName)) ∈ lw_all := lw_g (lw_at lw_m2 6 rfl) rfl
theorem q349 : (Jvm.Cond.code ({ cls := "TypesAtPrime", name := "in", desc := "(JJJ)Z" } : Jvm.MethodName) prog_1_method_2_code (6 : Nat) (Option.some Jvm.ClassFile.FieldType.boolean)) ∈ lw_all := lw_g (lw_at lw_m2 7 rfl) rfl
theorem q350 : (Jvm.Cond.methodLink "TypesAtPrime" (150 : Nat) ({ cls := "TypesAtPrime", name := "isPart", desc := "(I)Z" } : Jvm.MethodName)) ∈ lw_all := lw_g (lw_at lw_m2 8 rfl) rfl
theorem q351 : (Jvm.Cond.static ({ cls := "TypesAtPrime", name := "isPart", desc := "(I)Z" } : Jvm.MethodName)) ∈ lw_all := lw_g (lw_at lw_m2 9 rfl) rfl
theorem q352 : (Jvm.Cond.code ({ cls := "TypesAtPrime", name := "isPart", desc := "(I)Z" } : Jvm.MethodName) prog_1_method_19_code (1 : Nat) (Option.some Jvm.ClassFile.FieldType.boolean)) ∈ lw_all := lw_g (lw_at lw_m2 10 rfl) rfl
theorem q353 : (Jvm.Cond.constantLong "TypesAtPrime" (144 : Nat) (8 : Int64)) ∈ lw_all := lw_g (lw_at lw_m2 11 rfl) rfl
theorem q354 : (Jvm.Cond.constantLong "TypesAtPrime" (153 : Nat) (-9999 : Int64)) ∈ lw_all := lw_g (lw_at lw_m2 12 rfl) rfl
theorem q355 : (Jvm.Cond.constantLong "TypesAtPrime" (155 : Nat) (9999 : Int64)) ∈ lw_all := lw_g (lw_at lw_m2 13 rfl) rfl
theorem q356 : (Jvm.Cond.constantLong "TypesAtPrime" (157 : Nat) (-9223372036854775808 : Int64)) ∈ lw_all := lw_g (lw_at lw_m2 14 rfl) rfl
theorem q358 : (Jvm.Cond.instanceMethod ({ cls := "TypesAtPrime", name := "at", desc := "(II)J" } : Jvm.MethodName)) ∈ lw_all := lw_g (lw_at lw_m2 16 rfl) rfl
theorem q359 : (Jvm.Cond.selects "TypesAtPrime" ({ cls := "TypesAtPrime", name := "at", desc := "(II)J" } : Jvm.MethodName) ({ cls := "TypesAtPrime", name := "at", desc := "(II)J" } : Jvm.MethodName)) ∈ lw_all := lw_g (lw_at lw_m2 17 rfl) rfl
theorem q360 : (Jvm.Cond.code ({ cls := "TypesAtPrime", name := "at", desc := "(II)J" } : Jvm.MethodName) prog_1_method_23_code (3 : Nat) (Option.some Jvm.ClassFile.FieldType.long)) ∈ lw_all := lw_g (lw_at lw_m2 18 rfl) rfl
theorem q362 : (Jvm.Cond.instanceMethod ({ cls := "TypesAtPrime", name := "told", desc := "(II)I" } : Jvm.MethodName)) ∈ lw_all := lw_g (lw_at lw_m2 20 rfl) rfl
theorem q363 : (Jvm.Cond.selects "TypesAtPrime" ({ cls := "TypesAtPrime", name := "told", desc := "(II)I" } : Jvm.MethodName) ({ cls := "TypesAtPrime", name := "told", desc := "(II)I" } : Jvm.MethodName)) ∈ lw_all := lw_g (lw_at lw_m2 21 rfl) rfl
theorem q364 : (Jvm.Cond.code ({ cls := "TypesAtPrime", name := "told", desc := "(II)I" } : Jvm.MethodName) prog_1_method_24_code (3 : Nat) (Option.some Jvm.ClassFile.FieldType.int)) ∈ lw_all := lw_g (lw_at lw_m2 22 rfl) rfl
theorem q365 : (Jvm.Cond.methodLink "TypesAtPrime" (159 : Nat) ({ cls := "TypesAtPrime", name := "toldDegree", desc := "([I)I" } : Jvm.MethodName)) ∈ lw_all := lw_g (lw_at lw_m2 23 rfl) rfl
theorem q366 : (Jvm.Cond.static ({ cls := "TypesAtPrime", name := "toldDegree", desc := "([I)I" } : Jvm.MethodName)) ∈ lw_all := lw_g (lw_at lw_m2 24 rfl) rfl
theorem q367 : (Jvm.Cond.code ({ cls := "TypesAtPrime", name := "toldDegree", desc := "([I)I" } : Jvm.MethodName) prog_1_method_21_code (2 : Nat) (Option.some Jvm.ClassFile.FieldType.int)) ∈ lw_all := lw_g (lw_at lw_m2 25 rfl) rfl
theorem q368 : (Jvm.Cond.methodLink "TypesAtPrime" (96 : Nat) ({ cls := "TypesAtPrime", name := "degreeOf", desc := "([I)I" } : Jvm.MethodName)) ∈ lw_all := lw_g (lw_at lw_m2 26 rfl) rfl
theorem q369 : (Jvm.Cond.static ({ cls := "TypesAtPrime", name := "degreeOf", desc := "([I)I" } : Jvm.MethodName)) ∈ lw_all := lw_g (lw_at lw_m2 27 rfl) rfl
theorem q370 : (Jvm.Cond.code ({ cls := "TypesAtPrime", name := "degreeOf", desc := "([I)I" } : Jvm.MethodName) prog_1_method_13_code (2 : Nat) (Option.some Jvm.ClassFile.FieldType.int)) ∈ lw_all := lw_g (lw_at lw_m2 28 rfl) rfl
theorem q371 : (Jvm.Cond.methodLink "TypesAtPrime" (162 : Nat) ({ cls := "TypesAtPrime", name := "isMonic", desc := "([I)Z" } : Jvm.MethodName)) ∈ lw_all := lw_g (lw_at lw_m2 29 rfl) rfl
theorem q372 : (Jvm.Cond.static ({ cls := "TypesAtPrime", name := "isMonic", desc := "([I)Z" } : Jvm.MethodName)) ∈ lw_all := lw_g (lw_at lw_m2 30 rfl) rfl
theorem q373 : (Jvm.Cond.code ({ cls := "TypesAtPrime", name := "isMonic", desc := "([I)Z" } : Jvm.MethodName) prog_1_method_20_code (2 : Nat) (Option.some Jvm.ClassFile.FieldType.boolean)) ∈ lw_all := lw_g (lw_at lw_m2 31 rfl) rfl
theorem q375 : (Jvm.Cond.instanceMethod ({ cls := "TypesAtPrime", name := "mix", desc := "(IIIII)I" } : Jvm.MethodName)) ∈ lw_all := lw_g (lw_at lw_m2 33 rfl) rfl
theorem q376 : (Jvm.Cond.selects "TypesAtPrime" ({ cls := "TypesAtPrime", name := "mix", desc := "(IIIII)I" } : Jvm.MethodName) ({ cls := "TypesAtPrime", name := "mix", desc := "(IIIII)I" } : Jvm.MethodName)) ∈ lw_all := lw_g (lw_at lw_m2 34 rfl) rfl
theorem q377 : (Jvm.Cond.code ({ cls := "TypesAtPrime", name := "mix", desc := "(IIIII)I" } : Jvm.MethodName) prog_1_method_26_code (8 : Nat) (Option.some Jvm.ClassFile.FieldType.int)) ∈ lw_all := lw_g (lw_at lw_m2 35 rfl) rfl
theorem q378 : (Jvm.Cond.methodLink "TypesAtPrime" (172 : Nat) ({ cls := "java/lang/Math", name := "addExact", desc := "(JJ)J" } : Jvm.MethodName)) ∈ lw_all := lw_g (lw_at lw_m2 36 rfl) rfl
theorem q405 : (Jvm.Cond.methodLink "TypesAtPrime" (175 : Nat) ({ cls := "TypesAtPrime", name := "gets", desc := "(I[J)I" } : Jvm.MethodName)) ∈ lw_all := lw_g (lw_at lw_m2 63 rfl) rfl
theorem q406 : (Jvm.Cond.privateMethod ({ cls := "TypesAtPrime", name := "gets", desc := "(I[J)I" } : Jvm.MethodName)) ∈ lw_tbl := lw_at lw_m2 64 rfl
theorem q407 : (Jvm.Cond.instanceMethod ({ cls := "TypesAtPrime", name := "gets", desc := "(I[J)I" } : Jvm.MethodName)) ∈ lw_all := lw_g (lw_at lw_m2 65 rfl) rfl
theorem q408 : (Jvm.Cond.codeWith ({ cls := "TypesAtPrime", name := "gets", desc := "(I[J)I" } : Jvm.MethodName) prog_1_method_25_code (5 : Nat) (Option.some Jvm.ClassFile.FieldType.int) [((5 : Nat), (45 : Nat), (55 : Nat), (170 : Nat)), ((46 : Nat), (52 : Nat), (55 : Nat), (170 : Nat))]) ∈ lw_all := lw_g (lw_at lw_m2 66 rfl) rfl
theorem q409 : (Jvm.Cond.classLink "TypesAtPrime" (170 : Nat) "java/lang/ArithmeticException") ∈ lw_all := lw_g (lw_at lw_m2 67 rfl) rfl
theorem q415 : (Jvm.Cond.methodLink "TypesAtPrime" (166 : Nat) ({ cls := "java/lang/Math", name := "toIntExact", desc := "(J)I" } : Jvm.MethodName)) ∈ lw_all := lw_g (lw_at lw_m2 73 rfl) rfl
theorem q420 : (Jvm.Cond.instanceMethod ({ cls := "TypesAtPrime", name := "times", desc := "(III)I" } : Jvm.MethodName)) ∈ lw_all := lw_g (lw_at lw_m2 78 rfl) rfl
theorem q421 : (Jvm.Cond.selects "TypesAtPrime" ({ cls := "TypesAtPrime", name := "times", desc := "(III)I" } : Jvm.MethodName) ({ cls := "TypesAtPrime", name := "times", desc := "(III)I" } : Jvm.MethodName)) ∈ lw_all := lw_g (lw_at lw_m2 79 rfl) rfl
theorem q422 : (Jvm.Cond.code ({ cls := "TypesAtPrime", name := "times", desc := "(III)I" } : Jvm.MethodName) prog_1_method_27_code (9 : Nat) (Option.some Jvm.ClassFile.FieldType.int)) ∈ lw_all := lw_g (lw_at lw_m2 80 rfl) rfl
theorem q424 : (Jvm.Cond.instanceMethod ({ cls := "TypesAtPrime", name := "worth", desc := "(II)J" } : Jvm.MethodName)) ∈ lw_all := lw_g (lw_at lw_m2 82 rfl) rfl
theorem q425 : (Jvm.Cond.selects "TypesAtPrime" ({ cls := "TypesAtPrime", name := "worth", desc := "(II)J" } : Jvm.MethodName) ({ cls := "TypesAtPrime", name := "worth", desc := "(II)J" } : Jvm.MethodName)) ∈ lw_all := lw_g (lw_at lw_m2 83 rfl) rfl
theorem q426 : (Jvm.Cond.codeWith ({ cls := "TypesAtPrime", name := "worth", desc := "(II)J" } : Jvm.MethodName) prog_1_method_28_code (6 : Nat) (Option.some Jvm.ClassFile.FieldType.long) [((11 : Nat), (49 : Nat), (50 : Nat), (170 : Nat))]) ∈ lw_all := lw_g (lw_at lw_m2 84 rfl) rfl
theorem q427 : (Jvm.Cond.methodLink "TypesAtPrime" (179 : Nat) ({ cls := "java/lang/Math", name := "multiplyExact", desc := "(JJ)J" } : Jvm.MethodName)) ∈ lw_all := lw_g (lw_at lw_m2 85 rfl) rfl
theorem q436 : (Jvm.Cond.instanceMethod ({ cls := "TypesAtPrime", name := "expansion", desc := "(IIII)J" } : Jvm.MethodName)) ∈ lw_all := lw_g (lw_at lw_m2 94 rfl) rfl
theorem q437 : (Jvm.Cond.selects "TypesAtPrime" ({ cls := "TypesAtPrime", name := "expansion", desc := "(IIII)J" } : Jvm.MethodName) ({ cls := "TypesAtPrime", name := "expansion", desc := "(IIII)J" } : Jvm.MethodName)) ∈ lw_all := lw_g (lw_at lw_m2 95 rfl) rfl
theorem q438 : (Jvm.Cond.code ({ cls := "TypesAtPrime", name := "expansion", desc := "(IIII)J" } : Jvm.MethodName) prog_1_method_29_code (5 : Nat) (Option.some Jvm.ClassFile.FieldType.long)) ∈ lw_all := lw_g (lw_at lw_m2 96 rfl) rfl
theorem q439 : (Jvm.Cond.methodLink "TypesAtPrime" (182 : Nat) ({ cls := "TypesAtPrime", name := "inNumbers", desc := "([I)[J" } : Jvm.MethodName)) ∈ lw_all := lw_g (lw_at lw_m2 97 rfl) rfl
theorem q440 : (Jvm.Cond.privateMethod ({ cls := "TypesAtPrime", name := "inNumbers", desc := "([I)[J" } : Jvm.MethodName)) ∈ lw_tbl := lw_at lw_m2 98 rfl
theorem q441 : (Jvm.Cond.instanceMethod ({ cls := "TypesAtPrime", name := "inNumbers", desc := "([I)[J" } : Jvm.MethodName)) ∈ lw_all := lw_g (lw_at lw_m2 99 rfl) rfl
theorem q442 : (Jvm.Cond.code ({ cls := "TypesAtPrime", name := "inNumbers", desc := "([I)[J" } : Jvm.MethodName) prog_1_method_9_code (4 : Nat) (Option.some (Jvm.ClassFile.FieldType.array Jvm.ClassFile.FieldType.long))) ∈ lw_all := lw_g (lw_at lw_m2 100 rfl) rfl
theorem q443 : (Jvm.Cond.methodLink "TypesAtPrime" (76 : Nat) ({ cls := "java/lang/Math", name := "floorMod", desc := "(JJ)J" } : Jvm.MethodName)) ∈ lw_all := lw_g (lw_at lw_m2 101 rfl) rfl
theorem q446 : (Jvm.Cond.methodLink "TypesAtPrime" (186 : Nat) ({ cls := "TypesAtPrime", name := "expanded", desc := "([J[JI)[[J" } : Jvm.MethodName)) ∈ lw_all := lw_g (lw_at lw_m2 104 rfl) rfl
theorem q447 : (Jvm.Cond.privateMethod ({ cls := "TypesAtPrime", name := "expanded", desc := "([J[JI)[[J" } : Jvm.MethodName)) ∈ lw_tbl := lw_at lw_m2 105 rfl
theorem q448 : (Jvm.Cond.instanceMethod ({ cls := "TypesAtPrime", name := "expanded", desc := "([J[JI)[[J" } : Jvm.MethodName)) ∈ lw_all := lw_g (lw_at lw_m2 106 rfl) rfl
theorem q449 : (Jvm.Cond.code ({ cls := "TypesAtPrime", name := "expanded", desc := "([J[JI)[[J" } : Jvm.MethodName) prog_1_method_12_code (6 : Nat) (Option.some (Jvm.ClassFile.FieldType.array (Jvm.ClassFile.FieldType.array Jvm.ClassFile.FieldType.long)))) ∈ lw_all := lw_g (lw_at lw_m2 107 rfl) rfl
theorem q450 : (Jvm.Cond.methodLink "TypesAtPrime" (86 : Nat) ({ cls := "java/lang/System", name := "arraycopy", desc := "(Ljava/lang/Object;ILjava/lang/Object;II)V" } : Jvm.MethodName)) ∈ lw_all := lw_g (lw_at lw_m2 108 rfl) rfl
theorem q453 : (Jvm.Cond.methodLink "TypesAtPrime" (92 : Nat) ({ cls := "TypesAtPrime", name := "divides", desc := "([J[J)V" } : Jvm.MethodName)) ∈ lw_all := lw_g (lw_at lw_m2 111 rfl) rfl
theorem q454 : (Jvm.Cond.privateMethod ({ cls := "TypesAtPrime", name := "divides", desc := "([J[J)V" } : Jvm.MethodName)) ∈ lw_tbl := lw_at lw_m2 112 rfl
theorem q455 : (Jvm.Cond.instanceMethod ({ cls := "TypesAtPrime", name := "divides", desc := "([J[J)V" } : Jvm.MethodName)) ∈ lw_all := lw_g (lw_at lw_m2 113 rfl) rfl
theorem q456 : (Jvm.Cond.code ({ cls := "TypesAtPrime", name := "divides", desc := "([J[J)V" } : Jvm.MethodName) prog_1_method_11_code (8 : Nat) (Option.none : Option Jvm.ClassFile.FieldType)) ∈ lw_all := lw_g (lw_at lw_m2 114 rfl) rfl
theorem q457 : (Jvm.Cond.methodLink "TypesAtPrime" (82 : Nat) ({ cls := "TypesAtPrime", name := "degreeOf", desc := "([J)I" } : Jvm.MethodName)) ∈ lw_all := lw_g (lw_at lw_m2 115 rfl) rfl
theorem q458 : (Jvm.Cond.static ({ cls := "TypesAtPrime", name := "degreeOf", desc := "([J)I" } : Jvm.MethodName)) ∈ lw_all := lw_g (lw_at lw_m2 116 rfl) rfl
theorem q459 : (Jvm.Cond.code ({ cls := "TypesAtPrime", name := "degreeOf", desc := "([J)I" } : Jvm.MethodName) prog_1_method_8_code (2 : Nat) (Option.some Jvm.ClassFile.FieldType.int)) ∈ lw_all := lw_g (lw_at lw_m2 117 rfl) rfl
theorem q461 : (Jvm.Cond.instanceMethod ({ cls := "TypesAtPrime", name := "factor", desc := "(III)J" } : Jvm.MethodName)) ∈ lw_all := lw_g (lw_at lw_m2 119 rfl) rfl
theorem q462 : (Jvm.Cond.selects "TypesAtPrime" ({ cls := "TypesAtPrime", name := "factor", desc := "(III)J" } : Jvm.MethodName) ({ cls := "TypesAtPrime", name := "factor", desc := "(III)J" } : Jvm.MethodName)) ∈ lw_all := lw_g (lw_at lw_m2 120 rfl) rfl
theorem q463 : (Jvm.Cond.code ({ cls := "TypesAtPrime", name := "factor", desc := "(III)J" } : Jvm.MethodName) prog_1_method_31_code (7 : Nat) (Option.some Jvm.ClassFile.FieldType.long)) ∈ lw_all := lw_g (lw_at lw_m2 121 rfl) rfl
theorem q464 : (Jvm.Cond.constantLong "TypesAtPrime" (190 : Nat) (-3 : Int64)) ∈ lw_all := lw_g (lw_at lw_m2 122 rfl) rfl
theorem q465 : (Jvm.Cond.methodLink "TypesAtPrime" (192 : Nat) ({ cls := "TypesAtPrime", name := "inResidues", desc := "([I)[I" } : Jvm.MethodName)) ∈ lw_all := lw_g (lw_at lw_m2 123 rfl) rfl
theorem q466 : (Jvm.Cond.privateMethod ({ cls := "TypesAtPrime", name := "inResidues", desc := "([I)[I" } : Jvm.MethodName)) ∈ lw_tbl := lw_at lw_m2 124 rfl
theorem q467 : (Jvm.Cond.instanceMethod ({ cls := "TypesAtPrime", name := "inResidues", desc := "([I)[I" } : Jvm.MethodName)) ∈ lw_all := lw_g (lw_at lw_m2 125 rfl) rfl
theorem q468 : (Jvm.Cond.code ({ cls := "TypesAtPrime", name := "inResidues", desc := "([I)[I" } : Jvm.MethodName) prog_1_method_30_code (4 : Nat) (Option.some (Jvm.ClassFile.FieldType.array Jvm.ClassFile.FieldType.int))) ∈ lw_all := lw_g (lw_at lw_m2 126 rfl) rfl
theorem q469 : (Jvm.Cond.methodLink "TypesAtPrime" (99 : Nat) ({ cls := "java/lang/Math", name := "floorMod", desc := "(II)I" } : Jvm.MethodName)) ∈ lw_all := lw_g (lw_at lw_m2 127 rfl) rfl
theorem q472 : (Jvm.Cond.methodLink "TypesAtPrime" (196 : Nat) ({ cls := "TypesAtPrime", name := "factorsOf", desc := "([I)Ljava/util/ArrayList;" } : Jvm.MethodName)) ∈ lw_all := lw_g (lw_at lw_m2 130 rfl) rfl
theorem q473 : (Jvm.Cond.privateMethod ({ cls := "TypesAtPrime", name := "factorsOf", desc := "([I)Ljava/util/ArrayList;" } : Jvm.MethodName)) ∈ lw_tbl := lw_at lw_m2 131 rfl
theorem q474 : (Jvm.Cond.instanceMethod ({ cls := "TypesAtPrime", name := "factorsOf", desc := "([I)Ljava/util/ArrayList;" } : Jvm.MethodName)) ∈ lw_all := lw_g (lw_at lw_m2 132 rfl) rfl
theorem q475 : (Jvm.Cond.code ({ cls := "TypesAtPrime", name := "factorsOf", desc := "([I)Ljava/util/ArrayList;" } : Jvm.MethodName) prog_1_method_15_code (9 : Nat) (Option.some (Jvm.ClassFile.FieldType.object "java/util/ArrayList"))) ∈ lw_all := lw_g (lw_at lw_m2 133 rfl) rfl
theorem q476 : (Jvm.Cond.classLink "TypesAtPrime" (102 : Nat) "java/util/ArrayList") ∈ lw_all := lw_g (lw_at lw_m2 134 rfl) rfl
theorem q478 : (Jvm.Cond.methodLink "TypesAtPrime" (104 : Nat) ({ cls := "java/util/ArrayList", name := "<init>", desc := "()V" } : Jvm.MethodName)) ∈ lw_all := lw_g (lw_at lw_m2 136 rfl) rfl
theorem q505 : (Jvm.Cond.methodLink "TypesAtPrime" (105 : Nat) ({ cls := "[I", name := "clone", desc := "()Ljava/lang/Object;" } : Jvm.MethodName)) ∈ lw_all := lw_g (lw_at lw_m2 163 rfl) rfl
theorem q511 : (Jvm.Cond.classLink "TypesAtPrime" (106 : Nat) "[I") ∈ lw_all := lw_g (lw_at lw_m2 169 rfl) rfl
theorem q512 : (Jvm.Cond.methodLink "TypesAtPrime" (110 : Nat) ({ cls := "TypesAtPrime", name := "last", desc := "([I)LTypesAtPrime$Factor;" } : Jvm.MethodName)) ∈ lw_all := lw_g (lw_at lw_m2 170 rfl) rfl
theorem q513 : (Jvm.Cond.privateMethod ({ cls := "TypesAtPrime", name := "last", desc := "([I)LTypesAtPrime$Factor;" } : Jvm.MethodName)) ∈ lw_tbl := lw_at lw_m2 171 rfl
theorem q514 : (Jvm.Cond.instanceMethod ({ cls := "TypesAtPrime", name := "last", desc := "([I)LTypesAtPrime$Factor;" } : Jvm.MethodName)) ∈ lw_all := lw_g (lw_at lw_m2 172 rfl) rfl
theorem q515 : (Jvm.Cond.code ({ cls := "TypesAtPrime", name := "last", desc := "([I)LTypesAtPrime$Factor;" } : Jvm.MethodName) prog_1_method_17_code (6 : Nat) (Option.some (Jvm.ClassFile.FieldType.object "TypesAtPrime$Factor"))) ∈ lw_all := lw_g (lw_at lw_m2 173 rfl) rfl
theorem q516 : (Jvm.Cond.methodLink "TypesAtPrime" (134 : Nat) ({ cls := "TypesAtPrime", name := "inverse", desc := "(I)I" } : Jvm.MethodName)) ∈ lw_all := lw_g (lw_at lw_m2 174 rfl) rfl
theorem q517 : (Jvm.Cond.privateMethod ({ cls := "TypesAtPrime", name := "inverse", desc := "(I)I" } : Jvm.MethodName)) ∈ lw_tbl := lw_at lw_m2 175 rfl
theorem q518 : (Jvm.Cond.instanceMethod ({ cls := "TypesAtPrime", name := "inverse", desc := "(I)I" } : Jvm.MethodName)) ∈ lw_all := lw_g (lw_at lw_m2 176 rfl) rfl
theorem q519 : (Jvm.Cond.code ({ cls := "TypesAtPrime", name := "inverse", desc := "(I)I" } : Jvm.MethodName) prog_1_method_7_code (3 : Nat) (Option.some Jvm.ClassFile.FieldType.int)) ∈ lw_all := lw_g (lw_at lw_m2 177 rfl) rfl
theorem q520 : (Jvm.Cond.classLink "TypesAtPrime" (122 : Nat) "TypesAtPrime$Factor") ∈ lw_all := lw_g (lw_at lw_m2 178 rfl) rfl
theorem q522 : (Jvm.Cond.methodLink "TypesAtPrime" (124 : Nat) ({ cls := "TypesAtPrime$Factor", name := "<init>", desc := "([II)V" } : Jvm.MethodName)) ∈ lw_all := lw_g (lw_at lw_m2 180 rfl) rfl
theorem q528 : (Jvm.Cond.fieldLinkNest "TypesAtPrime" (210 : Nat) "TypesAtPrime$Factor" "parts" "[I" "TypesAtPrime") ∈ lw_tbl := lw_at lw_m2 186 rfl
theorem q531 : (Jvm.Cond.fieldLinkNest "TypesAtPrime" (207 : Nat) "TypesAtPrime$Factor" "degree" "I" "TypesAtPrime") ∈ lw_tbl := lw_at lw_m2 189 rfl
theorem q533 : (Jvm.Cond.fieldLinkNest "TypesAtPrime" (127 : Nat) "TypesAtPrime$Factor" "times" "I" "TypesAtPrime") ∈ lw_tbl := lw_at lw_m2 191 rfl
theorem q541 : (Jvm.Cond.methodLink "TypesAtPrime" (114 : Nat) ({ cls := "java/util/ArrayList", name := "add", desc := "(Ljava/lang/Object;)Z" } : Jvm.MethodName)) ∈ lw_all := lw_g (lw_at lw_m2 199 rfl) rfl
theorem q573 : (Jvm.Cond.selects "TypesAtPrime" ({ cls := "java/lang/Object", name := "getClass", desc := "()Ljava/lang/Class;" } : Jvm.MethodName) ({ cls := "java/lang/Object", name := "getClass", desc := "()Ljava/lang/Class;" } : Jvm.MethodName)) ∈ lw_all := lw_g (lw_at lw_m2 231 rfl) rfl
theorem q612 : (Jvm.Cond.methodLink "TypesAtPrime" (118 : Nat) ({ cls := "TypesAtPrime", name := "timesWith", desc := "(II[I)I" } : Jvm.MethodName)) ∈ lw_all := lw_g (lw_at lw_m3 30 rfl) rfl
theorem q613 : (Jvm.Cond.privateMethod ({ cls := "TypesAtPrime", name := "timesWith", desc := "(II[I)I" } : Jvm.MethodName)) ∈ lw_tbl := lw_at lw_m3 31 rfl
theorem q614 : (Jvm.Cond.instanceMethod ({ cls := "TypesAtPrime", name := "timesWith", desc := "(II[I)I" } : Jvm.MethodName)) ∈ lw_all := lw_g (lw_at lw_m3 32 rfl) rfl
theorem q615 : (Jvm.Cond.code ({ cls := "TypesAtPrime", name := "timesWith", desc := "(II[I)I" } : Jvm.MethodName) prog_1_method_16_code (6 : Nat) (Option.some Jvm.ClassFile.FieldType.int)) ∈ lw_all := lw_g (lw_at lw_m3 33 rfl) rfl
theorem q616 : (Jvm.Cond.methodLink "TypesAtPrime" (130 : Nat) ({ cls := "TypesAtPrime", name := "dividesResidues", desc := "(I[I)Z" } : Jvm.MethodName)) ∈ lw_all := lw_g (lw_at lw_m3 34 rfl) rfl
theorem q617 : (Jvm.Cond.privateMethod ({ cls := "TypesAtPrime", name := "dividesResidues", desc := "(I[I)Z" } : Jvm.MethodName)) ∈ lw_tbl := lw_at lw_m3 35 rfl
theorem q618 : (Jvm.Cond.instanceMethod ({ cls := "TypesAtPrime", name := "dividesResidues", desc := "(I[I)Z" } : Jvm.MethodName)) ∈ lw_all := lw_g (lw_at lw_m3 36 rfl) rfl
theorem q619 : (Jvm.Cond.code ({ cls := "TypesAtPrime", name := "dividesResidues", desc := "(I[I)Z" } : Jvm.MethodName) prog_1_method_14_code (6 : Nat) (Option.some Jvm.ClassFile.FieldType.boolean)) ∈ lw_all := lw_g (lw_at lw_m3 37 rfl) rfl
theorem q620 : (Jvm.Cond.methodLink "TypesAtPrime" (200 : Nat) ({ cls := "java/util/ArrayList", name := "size", desc := "()I" } : Jvm.MethodName)) ∈ lw_all := lw_g (lw_at lw_m3 38 rfl) rfl
theorem q624 : (Jvm.Cond.methodLink "TypesAtPrime" (203 : Nat) ({ cls := "java/util/ArrayList", name := "get", desc := "(I)Ljava/lang/Object;" } : Jvm.MethodName)) ∈ lw_all := lw_g (lw_at lw_m3 42 rfl) rfl
theorem q639 : (Jvm.Cond.instanceMethod ({ cls := "TypesAtPrime", name := "feed", desc := "(I)I" } : Jvm.MethodName)) ∈ lw_all := lw_g (lw_at lw_m3 57 rfl) rfl
theorem q640 : (Jvm.Cond.selects "TypesAtPrime" ({ cls := "TypesAtPrime", name := "feed", desc := "(I)I" } : Jvm.MethodName) ({ cls := "TypesAtPrime", name := "feed", desc := "(I)I" } : Jvm.MethodName)) ∈ lw_all := lw_g (lw_at lw_m3 58 rfl) rfl
theorem q641 : (Jvm.Cond.code ({ cls := "TypesAtPrime", name := "feed", desc := "(I)I" } : Jvm.MethodName) prog_1_method_32_code (2 : Nat) (Option.some Jvm.ClassFile.FieldType.int)) ∈ lw_all := lw_g (lw_at lw_m3 59 rfl) rfl
theorem q642 : (Jvm.Cond.constantLong "TypesAtPrime" (213 : Nat) (127 : Int64)) ∈ lw_all := lw_g (lw_at lw_m3 60 rfl) rfl
theorem q643 : (Jvm.Cond.methodLink "TypesAtPrime" (215 : Nat) ({ cls := "java/lang/StringBuilder", name := "length", desc := "()I" } : Jvm.MethodName)) ∈ lw_all := lw_g (lw_at lw_m3 61 rfl) rfl
theorem q650 : (Jvm.Cond.methodLink "TypesAtPrime" (218 : Nat) ({ cls := "java/lang/StringBuilder", name := "append", desc := "(C)Ljava/lang/StringBuilder;" } : Jvm.MethodName)) ∈ lw_all := lw_g (lw_at lw_m3 68 rfl) rfl
theorem q727 : (Jvm.Cond.instanceMethod ({ cls := "TypesAtPrime", name := "wipe", desc := "()I" } : Jvm.MethodName)) ∈ lw_all := lw_g (lw_at lw_m3 145 rfl) rfl
theorem q728 : (Jvm.Cond.selects "TypesAtPrime" ({ cls := "TypesAtPrime", name := "wipe", desc := "()I" } : Jvm.MethodName) ({ cls := "TypesAtPrime", name := "wipe", desc := "()I" } : Jvm.MethodName)) ∈ lw_all := lw_g (lw_at lw_m3 146 rfl) rfl
theorem q729 : (Jvm.Cond.code ({ cls := "TypesAtPrime", name := "wipe", desc := "()I" } : Jvm.MethodName) prog_1_method_33_code (2 : Nat) (Option.some Jvm.ClassFile.FieldType.int)) ∈ lw_all := lw_g (lw_at lw_m3 147 rfl) rfl
theorem q730 : (Jvm.Cond.methodLink "TypesAtPrime" (222 : Nat) ({ cls := "java/lang/StringBuilder", name := "setLength", desc := "(I)V" } : Jvm.MethodName)) ∈ lw_all := lw_g (lw_at lw_m3 148 rfl) rfl
theorem q917 : (Jvm.Cond.instanceMethod ({ cls := "TypesAtPrime", name := "text", desc := "(I)I" } : Jvm.MethodName)) ∈ lw_all := lw_g (lw_at lw_m4 95 rfl) rfl
theorem q918 : (Jvm.Cond.selects "TypesAtPrime" ({ cls := "TypesAtPrime", name := "text", desc := "(I)I" } : Jvm.MethodName) ({ cls := "TypesAtPrime", name := "text", desc := "(I)I" } : Jvm.MethodName)) ∈ lw_all := lw_g (lw_at lw_m4 96 rfl) rfl
theorem q919 : (Jvm.Cond.codeWith ({ cls := "TypesAtPrime", name := "text", desc := "(I)I" } : Jvm.MethodName) prog_1_method_35_code (3 : Nat) (Option.some Jvm.ClassFile.FieldType.int) [((9 : Nat), (46 : Nat), (47 : Nat), (241 : Nat))]) ∈ lw_all := lw_g (lw_at lw_m4 97 rfl) rfl
theorem q920 : (Jvm.Cond.classLink "TypesAtPrime" (241 : Nat) "TypesAtPrime$Refusal") ∈ lw_all := lw_g (lw_at lw_m4 98 rfl) rfl
theorem q921 : (Jvm.Cond.classLink "TypesAtPrime" (229 : Nat) "TypesAtPrime$Reader") ∈ lw_all := lw_g (lw_at lw_m4 99 rfl) rfl
theorem q923 : (Jvm.Cond.methodLink "TypesAtPrime" (231 : Nat) ({ cls := "TypesAtPrime", name := "taken", desc := "()Ljava/lang/String;" } : Jvm.MethodName)) ∈ lw_all := lw_g (lw_at lw_m4 101 rfl) rfl
theorem q924 : (Jvm.Cond.privateMethod ({ cls := "TypesAtPrime", name := "taken", desc := "()Ljava/lang/String;" } : Jvm.MethodName)) ∈ lw_tbl := lw_at lw_m4 102 rfl
theorem q925 : (Jvm.Cond.instanceMethod ({ cls := "TypesAtPrime", name := "taken", desc := "()Ljava/lang/String;" } : Jvm.MethodName)) ∈ lw_all := lw_g (lw_at lw_m4 103 rfl) rfl
theorem q926 : (Jvm.Cond.code ({ cls := "TypesAtPrime", name := "taken", desc := "()Ljava/lang/String;" } : Jvm.MethodName) prog_1_method_34_code (2 : Nat) (Option.some (Jvm.ClassFile.FieldType.object "java/lang/String"))) ∈ lw_all := lw_g (lw_at lw_m4 104 rfl) rfl
theorem q927 : (Jvm.Cond.methodLink "TypesAtPrime" (225 : Nat) ({ cls := "java/lang/StringBuilder", name := "toString", desc := "()Ljava/lang/String;" } : Jvm.MethodName)) ∈ lw_all := lw_g (lw_at lw_m4 105 rfl) rfl
theorem q928 : (Jvm.Cond.methodLink "TypesAtPrime" (234 : Nat) ({ cls := "TypesAtPrime$Reader", name := "<init>", desc := "(Ljava/lang/CharSequence;)V" } : Jvm.MethodName)) ∈ lw_all := lw_g (lw_at lw_m4 106 rfl) rfl
theorem q942 : (Jvm.Cond.methodLink "TypesAtPrime" (237 : Nat) ({ cls := "TypesAtPrime$Reader", name := "reads", desc := "()[J" } : Jvm.MethodName)) ∈ lw_all := lw_g (lw_at lw_m4 120 rfl) rfl
theorem q1023 : (Jvm.Cond.fieldLinkNest "TypesAtPrime" (243 : Nat) "TypesAtPrime$Refusal" "answer" "I" "TypesAtPrime") ∈ lw_tbl := lw_at lw_m4 201 rfl
theorem q1049 : (Jvm.Cond.instanceMethod ({ cls := "TypesAtPrime", name := "grow", desc := "(I)I" } : Jvm.MethodName)) ∈ lw_all := lw_g (lw_at lw_m4 227 rfl) rfl
theorem q1050 : (Jvm.Cond.selects "TypesAtPrime" ({ cls := "TypesAtPrime", name := "grow", desc := "(I)I" } : Jvm.MethodName) ({ cls := "TypesAtPrime", name := "grow", desc := "(I)I" } : Jvm.MethodName)) ∈ lw_all := lw_g (lw_at lw_m4 228 rfl) rfl
theorem q1051 : (Jvm.Cond.code ({ cls := "TypesAtPrime", name := "grow", desc := "(I)I" } : Jvm.MethodName) prog_1_method_36_code (2 : Nat) (Option.some Jvm.ClassFile.FieldType.int)) ∈ lw_all := lw_g (lw_at lw_m4 229 rfl) rfl
theorem q1052 : (Jvm.Cond.classLink "TypesAtPrime" (246 : Nat) "TypesAtPrime$Tree") ∈ lw_all := lw_g (lw_at lw_m4 230 rfl) rfl
theorem q1054 : (Jvm.Cond.methodLink "TypesAtPrime" (248 : Nat) ({ cls := "TypesAtPrime$Tree", name := "<init>", desc := "(LTypesAtPrime;[I)V" } : Jvm.MethodName)) ∈ lw_all := lw_g (lw_at lw_m4 232 rfl) rfl
theorem q1123 : (Jvm.Cond.fieldLinkNest "TypesAtPrime" (365 : Nat) "TypesAtPrime$Leaf" "maker" "LTypesAtPrime$Knot;" "TypesAtPrime") ∈ lw_tbl := lw_at lw_m5 61 rfl
theorem q1143 : (Jvm.Cond.fieldLinkNest "TypesAtPrime" (306 : Nat) "TypesAtPrime$Knot" "above" "LTypesAtPrime$Knot;" "TypesAtPrime") ∈ lw_tbl := lw_at lw_m5 81 rfl
theorem q1148 : (Jvm.Cond.fieldLinkNest "TypesAtPrime" (295 : Nat) "TypesAtPrime$Knot" "level" "I" "TypesAtPrime") ∈ lw_tbl := lw_at lw_m5 86 rfl
theorem q1151 : (Jvm.Cond.fieldLinkNest "TypesAtPrime" (298 : Nat) "TypesAtPrime$Knot" "manifold" "I" "TypesAtPrime") ∈ lw_tbl := lw_at lw_m5 89 rfl
theorem q1153 : (Jvm.Cond.fieldLinkNest "TypesAtPrime" (310 : Nat) "TypesAtPrime$Knot" "number" "I" "TypesAtPrime") ∈ lw_tbl := lw_at lw_m5 91 rfl
theorem q1156 : (Jvm.Cond.fieldLinkNest "TypesAtPrime" (301 : Nat) "TypesAtPrime$Knot" "key" "[J" "TypesAtPrime") ∈ lw_tbl := lw_at lw_m5 94 rfl
theorem q1163 : (Jvm.Cond.fieldLinkNest "TypesAtPrime" (316 : Nat) "TypesAtPrime$Knot" "points" "[I" "TypesAtPrime") ∈ lw_tbl := lw_at lw_m5 101 rfl
theorem q1166 : (Jvm.Cond.fieldLinkNest "TypesAtPrime" (288 : Nat) "TypesAtPrime$Knot" "sides" "Ljava/util/ArrayList;" "TypesAtPrime") ∈ lw_tbl := lw_at lw_m5 104 rfl
theorem q1168 : (Jvm.Cond.fieldLinkNest "TypesAtPrime" (313 : Nat) "TypesAtPrime$Knot" "first" "I" "TypesAtPrime") ∈ lw_tbl := lw_at lw_m5 106 rfl
theorem q1170 : (Jvm.Cond.fieldLinkNest "TypesAtPrime" (304 : Nat) "TypesAtPrime$Knot" "index" "I" "TypesAtPrime") ∈ lw_tbl := lw_at lw_m5 108 rfl
theorem q1219 : (Jvm.Cond.privateMethod ({ cls := "TypesAtPrime", name := "valueOf", desc := "(J)I" } : Jvm.MethodName)) ∈ lw_tbl := lw_at lw_m5 157 rfl
theorem q1220 : (Jvm.Cond.instanceMethod ({ cls := "TypesAtPrime", name := "valueOf", desc := "(J)I" } : Jvm.MethodName)) ∈ lw_all := lw_g (lw_at lw_m5 158 rfl) rfl
theorem q1221 : (Jvm.Cond.code ({ cls := "TypesAtPrime", name := "valueOf", desc := "(J)I" } : Jvm.MethodName) prog_1_method_6_code (6 : Nat) (Option.some Jvm.ClassFile.FieldType.int)) ∈ lw_all := lw_g (lw_at lw_m5 159 rfl) rfl
theorem q1229 : (Jvm.Cond.fieldLinkNest "TypesAtPrime" (348 : Nat) "TypesAtPrime$Monomial" "t" "[I" "TypesAtPrime") ∈ lw_tbl := lw_at lw_m5 167 rfl
theorem q1299 : (Jvm.Cond.fieldLinkNest "TypesAtPrime" (325 : Nat) "TypesAtPrime$Side" "begins" "I" "TypesAtPrime") ∈ lw_tbl := lw_at lw_m5 237 rfl
theorem q1302 : (Jvm.Cond.fieldLinkNest "TypesAtPrime" (328 : Nat) "TypesAtPrime$Side" "ends" "I" "TypesAtPrime") ∈ lw_tbl := lw_at lw_m6 0 rfl
theorem q1305 : (Jvm.Cond.fieldLinkNest "TypesAtPrime" (331 : Nat) "TypesAtPrime$Side" "fall" "I" "TypesAtPrime") ∈ lw_tbl := lw_at lw_m6 3 rfl
theorem q1309 : (Jvm.Cond.fieldLinkNest "TypesAtPrime" (334 : Nat) "TypesAtPrime$Side" "ramification" "I" "TypesAtPrime") ∈ lw_tbl := lw_at lw_m6 7 rfl
theorem q1312 : (Jvm.Cond.fieldLinkNest "TypesAtPrime" (337 : Nat) "TypesAtPrime$Side" "degree" "I" "TypesAtPrime") ∈ lw_tbl := lw_at lw_m6 10 rfl
theorem q1315 : (Jvm.Cond.fieldLinkNest "TypesAtPrime" (338 : Nat) "TypesAtPrime$Side" "value" "I" "TypesAtPrime") ∈ lw_tbl := lw_at lw_m6 13 rfl
theorem q1317 : (Jvm.Cond.fieldLinkNest "TypesAtPrime" (344 : Nat) "TypesAtPrime$Side" "monomial" "LTypesAtPrime$Monomial;" "TypesAtPrime") ∈ lw_tbl := lw_at lw_m6 15 rfl
theorem q1319 : (Jvm.Cond.fieldLinkNest "TypesAtPrime" (341 : Nat) "TypesAtPrime$Side" "residual" "[I" "TypesAtPrime") ∈ lw_tbl := lw_at lw_m6 17 rfl
theorem q1384 : (Jvm.Cond.privateMethod ({ cls := "TypesAtPrime", name := "product", desc := "([J[J)[J" } : Jvm.MethodName)) ∈ lw_tbl := lw_at lw_m6 82 rfl
theorem q1385 : (Jvm.Cond.instanceMethod ({ cls := "TypesAtPrime", name := "product", desc := "([J[J)[J" } : Jvm.MethodName)) ∈ lw_all := lw_g (lw_at lw_m6 83 rfl) rfl
theorem q1386 : (Jvm.Cond.code ({ cls := "TypesAtPrime", name := "product", desc := "([J[J)[J" } : Jvm.MethodName) prog_1_method_10_code (6 : Nat) (Option.some (Jvm.ClassFile.FieldType.array Jvm.ClassFile.FieldType.long))) ∈ lw_all := lw_g (lw_at lw_m6 84 rfl) rfl
theorem q1394 : (Jvm.Cond.fieldLinkNest "TypesAtPrime" (276 : Nat) "TypesAtPrime$Tree" "degree" "I" "TypesAtPrime") ∈ lw_tbl := lw_at lw_m6 92 rfl
theorem q1396 : (Jvm.Cond.fieldLinkNest "TypesAtPrime" (254 : Nat) "TypesAtPrime$Tree" "knots" "Ljava/util/ArrayList;" "TypesAtPrime") ∈ lw_tbl := lw_at lw_m6 94 rfl
theorem q1398 : (Jvm.Cond.fieldLinkNest "TypesAtPrime" (251 : Nat) "TypesAtPrime$Tree" "leaves" "Ljava/util/ArrayList;" "TypesAtPrime") ∈ lw_tbl := lw_at lw_m6 96 rfl
theorem q1421 : (Jvm.Cond.instanceMethod ({ cls := "TypesAtPrime", name := "tree", desc := "(I)I" } : Jvm.MethodName)) ∈ lw_all := lw_g (lw_at lw_m6 119 rfl) rfl
theorem q1422 : (Jvm.Cond.selects "TypesAtPrime" ({ cls := "TypesAtPrime", name := "tree", desc := "(I)I" } : Jvm.MethodName) ({ cls := "TypesAtPrime", name := "tree", desc := "(I)I" } : Jvm.MethodName)) ∈ lw_all := lw_g (lw_at lw_m6 120 rfl) rfl
theorem q1423 : (Jvm.Cond.code ({ cls := "TypesAtPrime", name := "tree", desc := "(I)I" } : Jvm.MethodName) prog_1_method_38_code (2 : Nat) (Option.some Jvm.ClassFile.FieldType.int)) ∈ lw_all := lw_g (lw_at lw_m6 121 rfl) rfl
theorem q1424 : (Jvm.Cond.constantLong "TypesAtPrime" (277 : Nat) (7 : Int64)) ∈ lw_all := lw_g (lw_at lw_m6 122 rfl) rfl
theorem q1425 : (Jvm.Cond.methodLink "TypesAtPrime" (279 : Nat) ({ cls := "TypesAtPrime", name := "asked", desc := "(I)I" } : Jvm.MethodName)) ∈ lw_all := lw_g (lw_at lw_m6 123 rfl) rfl
theorem q1426 : (Jvm.Cond.privateMethod ({ cls := "TypesAtPrime", name := "asked", desc := "(I)I" } : Jvm.MethodName)) ∈ lw_tbl := lw_at lw_m6 124 rfl
theorem q1427 : (Jvm.Cond.instanceMethod ({ cls := "TypesAtPrime", name := "asked", desc := "(I)I" } : Jvm.MethodName)) ∈ lw_all := lw_g (lw_at lw_m6 125 rfl) rfl
theorem q1428 : (Jvm.Cond.code ({ cls := "TypesAtPrime", name := "asked", desc := "(I)I" } : Jvm.MethodName) prog_1_method_37_code (2 : Nat) (Option.some Jvm.ClassFile.FieldType.int)) ∈ lw_all := lw_g (lw_at lw_m6 126 rfl) rfl
theorem q1429 : (Jvm.Cond.methodLink "TypesAtPrime" (257 : Nat) ({ cls := "TypesAtPrime$Tree", name := "index", desc := "()I" } : Jvm.MethodName)) ∈ lw_all := lw_g (lw_at lw_m6 127 rfl) rfl
theorem q1433 : (Jvm.Cond.methodLink "TypesAtPrime" (260 : Nat) ({ cls := "TypesAtPrime$Tree", name := "open", desc := "()I" } : Jvm.MethodName)) ∈ lw_all := lw_g (lw_at lw_m6 131 rfl) rfl
theorem q1450 : (Jvm.Cond.methodLink "TypesAtPrime" (263 : Nat) ({ cls := "TypesAtPrime$Tree", name := "wild", desc := "()I" } : Jvm.MethodName)) ∈ lw_all := lw_g (lw_at lw_m6 148 rfl) rfl
theorem q1466 : (Jvm.Cond.methodLink "TypesAtPrime" (266 : Nat) ({ cls := "TypesAtPrime$Tree", name := "levels", desc := "()I" } : Jvm.MethodName)) ∈ lw_all := lw_g (lw_at lw_m6 164 rfl) rfl
theorem q1470 : (Jvm.Cond.methodLink "TypesAtPrime" (269 : Nat) ({ cls := "TypesAtPrime$Tree", name := "spelling", desc := "()Ljava/lang/CharSequence;" } : Jvm.MethodName)) ∈ lw_all := lw_g (lw_at lw_m6 168 rfl) rfl
theorem q1533 : (Jvm.Cond.selects "TypesAtPrime" ({ cls := "java/lang/Object", name := "toString", desc := "()Ljava/lang/String;" } : Jvm.MethodName) ({ cls := "java/lang/Object", name := "toString", desc := "()Ljava/lang/String;" } : Jvm.MethodName)) ∈ lw_all := lw_g (lw_at lw_m6 231 rfl) rfl
theorem q1706 : (Jvm.Cond.interfaceEntry "TypesAtPrime" (273 : Nat)) ∈ lw_tbl := lw_at lw_m7 164 rfl
theorem q1707 : (Jvm.Cond.methodLink "TypesAtPrime" (273 : Nat) ({ cls := "java/lang/CharSequence", name := "length", desc := "()I" } : Jvm.MethodName)) ∈ lw_all := lw_g (lw_at lw_m7 165 rfl) rfl
theorem q1709 : (Jvm.Cond.instanceMethod ({ cls := "TypesAtPrime", name := "knot", desc := "(II)I" } : Jvm.MethodName)) ∈ lw_all := lw_g (lw_at lw_m7 167 rfl) rfl
theorem q1710 : (Jvm.Cond.selects "TypesAtPrime" ({ cls := "TypesAtPrime", name := "knot", desc := "(II)I" } : Jvm.MethodName) ({ cls := "TypesAtPrime", name := "knot", desc := "(II)I" } : Jvm.MethodName)) ∈ lw_all := lw_g (lw_at lw_m7 168 rfl) rfl
theorem q1711 : (Jvm.Cond.code ({ cls := "TypesAtPrime", name := "knot", desc := "(II)I" } : Jvm.MethodName) prog_1_method_41_code (4 : Nat) (Option.some Jvm.ClassFile.FieldType.int)) ∈ lw_all := lw_g (lw_at lw_m7 169 rfl) rfl
theorem q1712 : (Jvm.Cond.constantLong "TypesAtPrime" (293 : Nat) (6 : Int64)) ∈ lw_all := lw_g (lw_at lw_m7 170 rfl) rfl
theorem q1713 : (Jvm.Cond.methodLink "TypesAtPrime" (284 : Nat) ({ cls := "TypesAtPrime", name := "knotAt", desc := "(I)LTypesAtPrime$Knot;" } : Jvm.MethodName)) ∈ lw_all := lw_g (lw_at lw_m7 171 rfl) rfl
theorem q1714 : (Jvm.Cond.privateMethod ({ cls := "TypesAtPrime", name := "knotAt", desc := "(I)LTypesAtPrime$Knot;" } : Jvm.MethodName)) ∈ lw_tbl := lw_at lw_m7 172 rfl
theorem q1715 : (Jvm.Cond.instanceMethod ({ cls := "TypesAtPrime", name := "knotAt", desc := "(I)LTypesAtPrime$Knot;" } : Jvm.MethodName)) ∈ lw_all := lw_g (lw_at lw_m7 173 rfl) rfl
theorem q1716 : (Jvm.Cond.code ({ cls := "TypesAtPrime", name := "knotAt", desc := "(I)LTypesAtPrime$Knot;" } : Jvm.MethodName) prog_1_method_39_code (2 : Nat) (Option.some (Jvm.ClassFile.FieldType.object "TypesAtPrime$Knot"))) ∈ lw_all := lw_g (lw_at lw_m7 174 rfl) rfl
theorem q1717 : (Jvm.Cond.classLink "TypesAtPrime" (282 : Nat) "TypesAtPrime$Knot") ∈ lw_all := lw_g (lw_at lw_m7 175 rfl) rfl
theorem q1719 : (Jvm.Cond.instanceMethod ({ cls := "TypesAtPrime", name := "key", desc := "(II)J" } : Jvm.MethodName)) ∈ lw_all := lw_g (lw_at lw_m7 177 rfl) rfl
theorem q1720 : (Jvm.Cond.selects "TypesAtPrime" ({ cls := "TypesAtPrime", name := "key", desc := "(II)J" } : Jvm.MethodName) ({ cls := "TypesAtPrime", name := "key", desc := "(II)J" } : Jvm.MethodName)) ∈ lw_all := lw_g (lw_at lw_m7 178 rfl) rfl
theorem q1721 : (Jvm.Cond.code ({ cls := "TypesAtPrime", name := "key", desc := "(II)J" } : Jvm.MethodName) prog_1_method_42_code (4 : Nat) (Option.some Jvm.ClassFile.FieldType.long)) ∈ lw_all := lw_g (lw_at lw_m7 179 rfl) rfl
theorem q1723 : (Jvm.Cond.instanceMethod ({ cls := "TypesAtPrime", name := "point", desc := "(II)I" } : Jvm.MethodName)) ∈ lw_all := lw_g (lw_at lw_m7 181 rfl) rfl
theorem q1724 : (Jvm.Cond.selects "TypesAtPrime" ({ cls := "TypesAtPrime", name := "point", desc := "(II)I" } : Jvm.MethodName) ({ cls := "TypesAtPrime", name := "point", desc := "(II)I" } : Jvm.MethodName)) ∈ lw_all := lw_g (lw_at lw_m7 182 rfl) rfl
theorem q1725 : (Jvm.Cond.code ({ cls := "TypesAtPrime", name := "point", desc := "(II)I" } : Jvm.MethodName) prog_1_method_43_code (4 : Nat) (Option.some Jvm.ClassFile.FieldType.int)) ∈ lw_all := lw_g (lw_at lw_m7 183 rfl) rfl
theorem q1727 : (Jvm.Cond.instanceMethod ({ cls := "TypesAtPrime", name := "side", desc := "(III)I" } : Jvm.MethodName)) ∈ lw_all := lw_g (lw_at lw_m7 185 rfl) rfl
theorem q1728 : (Jvm.Cond.selects "TypesAtPrime" ({ cls := "TypesAtPrime", name := "side", desc := "(III)I" } : Jvm.MethodName) ({ cls := "TypesAtPrime", name := "side", desc := "(III)I" } : Jvm.MethodName)) ∈ lw_all := lw_g (lw_at lw_m7 186 rfl) rfl
theorem q1729 : (Jvm.Cond.code ({ cls := "TypesAtPrime", name := "side", desc := "(III)I" } : Jvm.MethodName) prog_1_method_44_code (5 : Nat) (Option.some Jvm.ClassFile.FieldType.int)) ∈ lw_all := lw_g (lw_at lw_m7 187 rfl) rfl
theorem q1730 : (Jvm.Cond.constantLong "TypesAtPrime" (319 : Nat) (5 : Int64)) ∈ lw_all := lw_g (lw_at lw_m7 188 rfl) rfl
theorem q1731 : (Jvm.Cond.methodLink "TypesAtPrime" (321 : Nat) ({ cls := "TypesAtPrime", name := "sideAt", desc := "(II)LTypesAtPrime$Side;" } : Jvm.MethodName)) ∈ lw_all := lw_g (lw_at lw_m7 189 rfl) rfl
theorem q1732 : (Jvm.Cond.privateMethod ({ cls := "TypesAtPrime", name := "sideAt", desc := "(II)LTypesAtPrime$Side;" } : Jvm.MethodName)) ∈ lw_tbl := lw_at lw_m7 190 rfl
theorem q1733 : (Jvm.Cond.instanceMethod ({ cls := "TypesAtPrime", name := "sideAt", desc := "(II)LTypesAtPrime$Side;" } : Jvm.MethodName)) ∈ lw_all := lw_g (lw_at lw_m7 191 rfl) rfl
theorem q1734 : (Jvm.Cond.code ({ cls := "TypesAtPrime", name := "sideAt", desc := "(II)LTypesAtPrime$Side;" } : Jvm.MethodName) prog_1_method_40_code (4 : Nat) (Option.some (Jvm.ClassFile.FieldType.object "TypesAtPrime$Side"))) ∈ lw_all := lw_g (lw_at lw_m7 192 rfl) rfl
theorem q1735 : (Jvm.Cond.classLink "TypesAtPrime" (291 : Nat) "TypesAtPrime$Side") ∈ lw_all := lw_g (lw_at lw_m7 193 rfl) rfl
theorem q1737 : (Jvm.Cond.instanceMethod ({ cls := "TypesAtPrime", name := "residual", desc := "(III)I" } : Jvm.MethodName)) ∈ lw_all := lw_g (lw_at lw_m7 195 rfl) rfl
theorem q1738 : (Jvm.Cond.selects "TypesAtPrime" ({ cls := "TypesAtPrime", name := "residual", desc := "(III)I" } : Jvm.MethodName) ({ cls := "TypesAtPrime", name := "residual", desc := "(III)I" } : Jvm.MethodName)) ∈ lw_all := lw_g (lw_at lw_m7 196 rfl) rfl
theorem q1739 : (Jvm.Cond.code ({ cls := "TypesAtPrime", name := "residual", desc := "(III)I" } : Jvm.MethodName) prog_1_method_45_code (5 : Nat) (Option.some Jvm.ClassFile.FieldType.int)) ∈ lw_all := lw_g (lw_at lw_m7 197 rfl) rfl
theorem q1741 : (Jvm.Cond.instanceMethod ({ cls := "TypesAtPrime", name := "monomial", desc := "(III)I" } : Jvm.MethodName)) ∈ lw_all := lw_g (lw_at lw_m7 199 rfl) rfl
theorem q1742 : (Jvm.Cond.selects "TypesAtPrime" ({ cls := "TypesAtPrime", name := "monomial", desc := "(III)I" } : Jvm.MethodName) ({ cls := "TypesAtPrime", name := "monomial", desc := "(III)I" } : Jvm.MethodName)) ∈ lw_all := lw_g (lw_at lw_m7 200 rfl) rfl
theorem q1743 : (Jvm.Cond.code ({ cls := "TypesAtPrime", name := "monomial", desc := "(III)I" } : Jvm.MethodName) prog_1_method_46_code (5 : Nat) (Option.some Jvm.ClassFile.FieldType.int)) ∈ lw_all := lw_g (lw_at lw_m7 201 rfl) rfl
theorem q1745 : (Jvm.Cond.instanceMethod ({ cls := "TypesAtPrime", name := "leaf", desc := "(II)I" } : Jvm.MethodName)) ∈ lw_all := lw_g (lw_at lw_m7 203 rfl) rfl
theorem q1746 : (Jvm.Cond.selects "TypesAtPrime" ({ cls := "TypesAtPrime", name := "leaf", desc := "(II)I" } : Jvm.MethodName) ({ cls := "TypesAtPrime", name := "leaf", desc := "(II)I" } : Jvm.MethodName)) ∈ lw_all := lw_g (lw_at lw_m7 204 rfl) rfl
theorem q1747 : (Jvm.Cond.code ({ cls := "TypesAtPrime", name := "leaf", desc := "(II)I" } : Jvm.MethodName) prog_1_method_47_code (4 : Nat) (Option.some Jvm.ClassFile.FieldType.int)) ∈ lw_all := lw_g (lw_at lw_m7 205 rfl) rfl
theorem q1748 : (Jvm.Cond.classLink "TypesAtPrime" (353 : Nat) "TypesAtPrime$Leaf") ∈ lw_all := lw_g (lw_at lw_m7 206 rfl) rfl
theorem q1749 : (Jvm.Cond.methodLink "TypesAtPrime" (355 : Nat) ({ cls := "TypesAtPrime$Leaf", name := "kind", desc := "()I" } : Jvm.MethodName)) ∈ lw_all := lw_g (lw_at lw_m7 207 rfl) rfl
theorem q1770 : (Jvm.Cond.methodLink "TypesAtPrime" (358 : Nat) ({ cls := "TypesAtPrime$Leaf", name := "ramification", desc := "()I" } : Jvm.MethodName)) ∈ lw_all := lw_g (lw_at lw_m7 228 rfl) rfl
theorem q1771 : (Jvm.Cond.methodLink "TypesAtPrime" (360 : Nat) ({ cls := "TypesAtPrime$Leaf", name := "residueDegree", desc := "()I" } : Jvm.MethodName)) ∈ lw_all := lw_g (lw_at lw_m7 229 rfl) rfl
theorem q1783 : (Jvm.Cond.methodLink "TypesAtPrime" (363 : Nat) ({ cls := "TypesAtPrime$Leaf", name := "degree", desc := "()I" } : Jvm.MethodName)) ∈ lw_all := lw_g (lw_at lw_m8 1 rfl) rfl
theorem q1785 : (Jvm.Cond.instanceMethod ({ cls := "TypesAtPrime", name := "spelling", desc := "(I)I" } : Jvm.MethodName)) ∈ lw_all := lw_g (lw_at lw_m8 3 rfl) rfl
theorem q1786 : (Jvm.Cond.selects "TypesAtPrime" ({ cls := "TypesAtPrime", name := "spelling", desc := "(I)I" } : Jvm.MethodName) ({ cls := "TypesAtPrime", name := "spelling", desc := "(I)I" } : Jvm.MethodName)) ∈ lw_all := lw_g (lw_at lw_m8 4 rfl) rfl
theorem q1787 : (Jvm.Cond.code ({ cls := "TypesAtPrime", name := "spelling", desc := "(I)I" } : Jvm.MethodName) prog_1_method_48_code (3 : Nat) (Option.some Jvm.ClassFile.FieldType.int)) ∈ lw_all := lw_g (lw_at lw_m8 5 rfl) rfl
theorem q1788 : (Jvm.Cond.interfaceEntry "TypesAtPrime" (368 : Nat)) ∈ lw_tbl := lw_at lw_m8 6 rfl
theorem q1789 : (Jvm.Cond.methodLink "TypesAtPrime" (368 : Nat) ({ cls := "java/lang/CharSequence", name := "charAt", desc := "(I)C" } : Jvm.MethodName)) ∈ lw_all := lw_g (lw_at lw_m8 7 rfl) rfl
theorem q1791 : (Jvm.Cond.instanceMethod ({ cls := "TypesAtPrime", name := "ask", desc := "()I" } : Jvm.MethodName)) ∈ lw_all := lw_g (lw_at lw_m8 9 rfl) rfl
theorem q1792 : (Jvm.Cond.selects "TypesAtPrime" ({ cls := "TypesAtPrime", name := "ask", desc := "()I" } : Jvm.MethodName) ({ cls := "TypesAtPrime", name := "ask", desc := "()I" } : Jvm.MethodName)) ∈ lw_all := lw_g (lw_at lw_m8 10 rfl) rfl
theorem q1793 : (Jvm.Cond.code ({ cls := "TypesAtPrime", name := "ask", desc := "()I" } : Jvm.MethodName) prog_1_method_49_code (4 : Nat) (Option.some Jvm.ClassFile.FieldType.int)) ∈ lw_all := lw_g (lw_at lw_m8 11 rfl) rfl
theorem q1794 : (Jvm.Cond.methodLink "TypesAtPrime" (372 : Nat) ({ cls := "java/lang/String", name := "hashCode", desc := "()I" } : Jvm.MethodName)) ∈ lw_all := lw_g (lw_at lw_m8 12 rfl) rfl
theorem q1843 : (Jvm.Cond.stringRef "TypesAtPrime" (377 : Nat) "prime") ∈ lw_tbl := lw_at lw_m8 61 rfl
theorem q1844 : (Jvm.Cond.methodLink "TypesAtPrime" (379 : Nat) ({ cls := "java/lang/String", name := "equals", desc := "(Ljava/lang/Object;)Z" } : Jvm.MethodName)) ∈ lw_all := lw_g (lw_at lw_m8 62 rfl) rfl
theorem q1852 : (Jvm.Cond.stringRef "TypesAtPrime" (382 : Nat) "knots") ∈ lw_tbl := lw_at lw_m8 70 rfl
theorem q1853 : (Jvm.Cond.stringRef "TypesAtPrime" (383 : Nat) "leaves") ∈ lw_tbl := lw_at lw_m8 71 rfl
theorem q1854 : (Jvm.Cond.stringRef "TypesAtPrime" (384 : Nat) "index") ∈ lw_tbl := lw_at lw_m8 72 rfl
theorem q1855 : (Jvm.Cond.stringRef "TypesAtPrime" (385 : Nat) "open") ∈ lw_tbl := lw_at lw_m8 73 rfl
theorem q1856 : (Jvm.Cond.stringRef "TypesAtPrime" (386 : Nat) "wild") ∈ lw_tbl := lw_at lw_m8 74 rfl
theorem q1857 : (Jvm.Cond.stringRef "TypesAtPrime" (387 : Nat) "levels") ∈ lw_tbl := lw_at lw_m8 75 rfl
theorem q1858 : (Jvm.Cond.stringRef "TypesAtPrime" (388 : Nat) "size") ∈ lw_tbl := lw_at lw_m8 76 rfl
theorem q1859 : (Jvm.Cond.stringRef "TypesAtPrime" (389 : Nat) "degree") ∈ lw_tbl := lw_at lw_m8 77 rfl
theorem q1860 : (Jvm.Cond.methodLink "TypesAtPrime" (390 : Nat) ({ cls := "TypesAtPrime", name := "tree", desc := "(I)I" } : Jvm.MethodName)) ∈ lw_all := lw_g (lw_at lw_m8 78 rfl) rfl
theorem q1862 : (Jvm.Cond.instanceMethod ({ cls := "TypesAtPrime", name := "corner", desc := "(II)I" } : Jvm.MethodName)) ∈ lw_all := lw_g (lw_at lw_m8 80 rfl) rfl
theorem q1863 : (Jvm.Cond.selects "TypesAtPrime" ({ cls := "TypesAtPrime", name := "corner", desc := "(II)I" } : Jvm.MethodName) ({ cls := "TypesAtPrime", name := "corner", desc := "(II)I" } : Jvm.MethodName)) ∈ lw_all := lw_g (lw_at lw_m8 81 rfl) rfl
theorem q1864 : (Jvm.Cond.codeWith ({ cls := "TypesAtPrime", name := "corner", desc := "(II)I" } : Jvm.MethodName) prog_1_method_51_code (5 : Nat) (Option.some Jvm.ClassFile.FieldType.int) [((9 : Nat), (63 : Nat), (64 : Nat), (400 : Nat))]) ∈ lw_all := lw_g (lw_at lw_m8 82 rfl) rfl
theorem q1865 : (Jvm.Cond.classLink "TypesAtPrime" (400 : Nat) "java/lang/NullPointerException") ∈ lw_all := lw_g (lw_at lw_m8 83 rfl) rfl
theorem q1884 : (Jvm.Cond.methodLink "TypesAtPrime" (392 : Nat) ({ cls := "TypesAtPrime", name := "isSheet", desc := "(I)Z" } : Jvm.MethodName)) ∈ lw_all := lw_g (lw_at lw_m8 102 rfl) rfl
theorem q1885 : (Jvm.Cond.static ({ cls := "TypesAtPrime", name := "isSheet", desc := "(I)Z" } : Jvm.MethodName)) ∈ lw_all := lw_g (lw_at lw_m8 103 rfl) rfl
theorem q1886 : (Jvm.Cond.code ({ cls := "TypesAtPrime", name := "isSheet", desc := "(I)Z" } : Jvm.MethodName) prog_1_method_50_code (1 : Nat) (Option.some Jvm.ClassFile.FieldType.boolean)) ∈ lw_all := lw_g (lw_at lw_m8 104 rfl) rfl
theorem q1887 : (Jvm.Cond.methodLink "TypesAtPrime" (395 : Nat) ({ cls := "TypesAtPrime$Sheet", name := "first", desc := "()I" } : Jvm.MethodName)) ∈ lw_all := lw_g (lw_at lw_m8 105 rfl) rfl
theorem q1901 : (Jvm.Cond.methodLink "TypesAtPrime" (397 : Nat) ({ cls := "TypesAtPrime$Sheet", name := "next", desc := "(I)I" } : Jvm.MethodName)) ∈ lw_all := lw_g (lw_at lw_m8 119 rfl) rfl
theorem q1906 : (Jvm.Cond.instanceMethod ({ cls := "TypesAtPrime", name := "slope", desc := "(IIII)J" } : Jvm.MethodName)) ∈ lw_all := lw_g (lw_at lw_m8 124 rfl) rfl
theorem q1907 : (Jvm.Cond.selects "TypesAtPrime" ({ cls := "TypesAtPrime", name := "slope", desc := "(IIII)J" } : Jvm.MethodName) ({ cls := "TypesAtPrime", name := "slope", desc := "(IIII)J" } : Jvm.MethodName)) ∈ lw_all := lw_g (lw_at lw_m8 125 rfl) rfl
theorem q1908 : (Jvm.Cond.codeWith ({ cls := "TypesAtPrime", name := "slope", desc := "(IIII)J" } : Jvm.MethodName) prog_1_method_53_code (6 : Nat) (Option.some Jvm.ClassFile.FieldType.long) [((22 : Nat), (36 : Nat), (37 : Nat), (400 : Nat)), ((22 : Nat), (36 : Nat), (37 : Nat), (408 : Nat)), ((22 : Nat), (36 : Nat), (37 : Nat), (170 : Nat))]) ∈ lw_all := lw_g (lw_at lw_m8 126 rfl) rfl
theorem q1909 : (Jvm.Cond.classLink "TypesAtPrime" (408 : Nat) "java/lang/IndexOutOfBoundsException") ∈ lw_all := lw_g (lw_at lw_m8 127 rfl) rfl
theorem q1912 : (Jvm.Cond.methodLink "TypesAtPrime" (404 : Nat) ({ cls := "TypesAtPrime", name := "sloped", desc := "(LTypesAtPrime$Sheet;III)J" } : Jvm.MethodName)) ∈ lw_all := lw_g (lw_at lw_m8 130 rfl) rfl
theorem q1913 : (Jvm.Cond.privateMethod ({ cls := "TypesAtPrime", name := "sloped", desc := "(LTypesAtPrime$Sheet;III)J" } : Jvm.MethodName)) ∈ lw_tbl := lw_at lw_m8 131 rfl
theorem q1914 : (Jvm.Cond.instanceMethod ({ cls := "TypesAtPrime", name := "sloped", desc := "(LTypesAtPrime$Sheet;III)J" } : Jvm.MethodName)) ∈ lw_all := lw_g (lw_at lw_m8 132 rfl) rfl
theorem q1915 : (Jvm.Cond.code ({ cls := "TypesAtPrime", name := "sloped", desc := "(LTypesAtPrime$Sheet;III)J" } : Jvm.MethodName) prog_1_method_52_code (9 : Nat) (Option.some Jvm.ClassFile.FieldType.long)) ∈ lw_all := lw_g (lw_at lw_m8 133 rfl) rfl
theorem q1916 : (Jvm.Cond.methodLink "TypesAtPrime" (402 : Nat) ({ cls := "TypesAtPrime$Sheet", name := "get", desc := "(I)I" } : Jvm.MethodName)) ∈ lw_all := lw_g (lw_at lw_m8 134 rfl) rfl
theorem q1918 : (Jvm.Cond.instanceMethod ({ cls := "TypesAtPrime", name := "whyNot", desc := "(III)I" } : Jvm.MethodName)) ∈ lw_all := lw_g (lw_at lw_m8 136 rfl) rfl
theorem q1919 : (Jvm.Cond.selects "TypesAtPrime" ({ cls := "TypesAtPrime", name := "whyNot", desc := "(III)I" } : Jvm.MethodName) ({ cls := "TypesAtPrime", name := "whyNot", desc := "(III)I" } : Jvm.MethodName)) ∈ lw_all := lw_g (lw_at lw_m8 137 rfl) rfl
theorem q1920 : (Jvm.Cond.codeWith ({ cls := "TypesAtPrime", name := "whyNot", desc := "(III)I" } : Jvm.MethodName) prog_1_method_54_code (5 : Nat) (Option.some Jvm.ClassFile.FieldType.int) [((9 : Nat), (24 : Nat), (25 : Nat), (400 : Nat)), ((9 : Nat), (24 : Nat), (30 : Nat), (408 : Nat)), ((9 : Nat), (24 : Nat), (35 : Nat), (170 : Nat))]) ∈ lw_all := lw_g (lw_at lw_m8 138 rfl) rfl
theorem q1922 : (Jvm.Cond.instanceMethod ({ cls := "TypesAtPrime", name := "spill", desc := "(III)I" } : Jvm.MethodName)) ∈ lw_all := lw_g (lw_at lw_m8 140 rfl) rfl
theorem q1923 : (Jvm.Cond.selects "TypesAtPrime" ({ cls := "TypesAtPrime", name := "spill", desc := "(III)I" } : Jvm.MethodName) ({ cls := "TypesAtPrime", name := "spill", desc := "(III)I" } : Jvm.MethodName)) ∈ lw_all := lw_g (lw_at lw_m8 141 rfl) rfl
theorem q1924 : (Jvm.Cond.codeWith ({ cls := "TypesAtPrime", name := "spill", desc := "(III)I" } : Jvm.MethodName) prog_1_method_55_code (7 : Nat) (Option.some Jvm.ClassFile.FieldType.int) [((24 : Nat), (49 : Nat), (98 : Nat), (400 : Nat)), ((50 : Nat), (97 : Nat), (98 : Nat), (400 : Nat))]) ∈ lw_all := lw_g (lw_at lw_m8 142 rfl) rfl
theorem q1925 : (Jvm.Cond.methodLink "TypesAtPrime" (410 : Nat) ({ cls := "TypesAtPrime$Sheet", name := "size", desc := "()I" } : Jvm.MethodName)) ∈ lw_all := lw_g (lw_at lw_m8 143 rfl) rfl
theorem q1926 : (Jvm.Cond.methodLink "TypesAtPrime" (411 : Nat) ({ cls := "TypesAtPrime$Sheet", name := "put", desc := "(II)V" } : Jvm.MethodName)) ∈ lw_all := lw_g (lw_at lw_m8 144 rfl) rfl
theorem q1931 : (Jvm.Cond.instanceMethod ({ cls := "TypesAtPrime", name := "sheet", desc := "(III)I" } : Jvm.MethodName)) ∈ lw_all := lw_g (lw_at lw_m8 149 rfl) rfl
theorem q1932 : (Jvm.Cond.selects "TypesAtPrime" ({ cls := "TypesAtPrime", name := "sheet", desc := "(III)I" } : Jvm.MethodName) ({ cls := "TypesAtPrime", name := "sheet", desc := "(III)I" } : Jvm.MethodName)) ∈ lw_all := lw_g (lw_at lw_m8 150 rfl) rfl
theorem q1933 : (Jvm.Cond.codeWith ({ cls := "TypesAtPrime", name := "sheet", desc := "(III)I" } : Jvm.MethodName) prog_1_method_56_code (5 : Nat) (Option.some Jvm.ClassFile.FieldType.int) [((31 : Nat), (62 : Nat), (63 : Nat), (421 : Nat))]) ∈ lw_all := lw_g (lw_at lw_m8 151 rfl) rfl
theorem q1934 : (Jvm.Cond.classLink "TypesAtPrime" (421 : Nat) "java/lang/NegativeArraySizeException") ∈ lw_all := lw_g (lw_at lw_m8 152 rfl) rfl
theorem q1938 : (Jvm.Cond.constantLong "TypesAtPrime" (415 : Nat) (-1 : Int64)) ∈ lw_all := lw_g (lw_at lw_m8 156 rfl) rfl
theorem q1940 : (Jvm.Cond.instanceMethod ({ cls := "TypesAtPrime", name := "cell", desc := "(III)I" } : Jvm.MethodName)) ∈ lw_all := lw_g (lw_at lw_m8 158 rfl) rfl
theorem q1941 : (Jvm.Cond.selects "TypesAtPrime" ({ cls := "TypesAtPrime", name := "cell", desc := "(III)I" } : Jvm.MethodName) ({ cls := "TypesAtPrime", name := "cell", desc := "(III)I" } : Jvm.MethodName)) ∈ lw_all := lw_g (lw_at lw_m8 159 rfl) rfl
theorem q1942 : (Jvm.Cond.codeWith ({ cls := "TypesAtPrime", name := "cell", desc := "(III)I" } : Jvm.MethodName) prog_1_method_57_code (5 : Nat) (Option.some Jvm.ClassFile.FieldType.int) [((9 : Nat), (21 : Nat), (22 : Nat), (400 : Nat)), ((9 : Nat), (21 : Nat), (27 : Nat), (408 : Nat))]) ∈ lw_all := lw_g (lw_at lw_m8 160 rfl) rfl
theorem q1944 : (Jvm.Cond.instanceMethod ({ cls := "TypesAtPrime", name := "item", desc := "(II)J" } : Jvm.MethodName)) ∈ lw_all := lw_g (lw_at lw_m8 162 rfl) rfl
theorem q1945 : (Jvm.Cond.selects "TypesAtPrime" ({ cls := "TypesAtPrime", name := "item", desc := "(II)J" } : Jvm.MethodName) ({ cls := "TypesAtPrime", name := "item", desc := "(II)J" } : Jvm.MethodName)) ∈ lw_all := lw_g (lw_at lw_m8 163 rfl) rfl
theorem q1946 : (Jvm.Cond.code ({ cls := "TypesAtPrime", name := "item", desc := "(II)J" } : Jvm.MethodName) prog_1_method_58_code (3 : Nat) (Option.some Jvm.ClassFile.FieldType.long)) ∈ lw_all := lw_g (lw_at lw_m8 164 rfl) rfl
theorem q1948 : (Jvm.Cond.instanceMethod ({ cls := "TypesAtPrime", name := "shift", desc := "(IIIII)I" } : Jvm.MethodName)) ∈ lw_all := lw_g (lw_at lw_m8 166 rfl) rfl
theorem q1949 : (Jvm.Cond.selects "TypesAtPrime" ({ cls := "TypesAtPrime", name := "shift", desc := "(IIIII)I" } : Jvm.MethodName) ({ cls := "TypesAtPrime", name := "shift", desc := "(IIIII)I" } : Jvm.MethodName)) ∈ lw_all := lw_g (lw_at lw_m8 167 rfl) rfl
theorem q1950 : (Jvm.Cond.codeWith ({ cls := "TypesAtPrime", name := "shift", desc := "(IIIII)I" } : Jvm.MethodName) prog_1_method_59_code (7 : Nat) (Option.some Jvm.ClassFile.FieldType.int) [((16 : Nat), (44 : Nat), (45 : Nat), (400 : Nat)), ((16 : Nat), (44 : Nat), (50 : Nat), (423 : Nat)), ((16 : Nat), (44 : Nat), (55 : Nat), (408 : Nat))]) ∈ lw_all := lw_g (lw_at lw_m8 168 rfl) rfl
theorem q1951 : (Jvm.Cond.classLink "TypesAtPrime" (423 : Nat) "java/lang/ArrayStoreException") ∈ lw_all := lw_g (lw_at lw_m8 169 rfl) rfl
theorem q1966 : (Jvm.Cond.instanceMethod ({ cls := "TypesAtPrime", name := "count", desc := "(I)I" } : Jvm.MethodName)) ∈ lw_all := lw_g (lw_at lw_m8 184 rfl) rfl
theorem q1967 : (Jvm.Cond.selects "TypesAtPrime" ({ cls := "TypesAtPrime", name := "count", desc := "(I)I" } : Jvm.MethodName) ({ cls := "TypesAtPrime", name := "count", desc := "(I)I" } : Jvm.MethodName)) ∈ lw_all := lw_g (lw_at lw_m8 185 rfl) rfl
theorem q1968 : (Jvm.Cond.code ({ cls := "TypesAtPrime", name := "count", desc := "(I)I" } : Jvm.MethodName) prog_1_method_62_code (2 : Nat) (Option.some Jvm.ClassFile.FieldType.int)) ∈ lw_all := lw_g (lw_at lw_m8 186 rfl) rfl
theorem q1969 : (Jvm.Cond.methodLink "TypesAtPrime" (425 : Nat) ({ cls := "TypesAtPrime", name := "slotsThere", desc := "()I" } : Jvm.MethodName)) ∈ lw_all := lw_g (lw_at lw_m8 187 rfl) rfl
theorem q1970 : (Jvm.Cond.privateMethod ({ cls := "TypesAtPrime", name := "slotsThere", desc := "()I" } : Jvm.MethodName)) ∈ lw_tbl := lw_at lw_m8 188 rfl
theorem q1971 : (Jvm.Cond.instanceMethod ({ cls := "TypesAtPrime", name := "slotsThere", desc := "()I" } : Jvm.MethodName)) ∈ lw_all := lw_g (lw_at lw_m8 189 rfl) rfl
theorem q1972 : (Jvm.Cond.code ({ cls := "TypesAtPrime", name := "slotsThere", desc := "()I" } : Jvm.MethodName) prog_1_method_60_code (3 : Nat) (Option.some Jvm.ClassFile.FieldType.int)) ∈ lw_all := lw_g (lw_at lw_m8 190 rfl) rfl
theorem q1973 : (Jvm.Cond.methodLink "TypesAtPrime" (428 : Nat) ({ cls := "TypesAtPrime", name := "sheetsThere", desc := "()I" } : Jvm.MethodName)) ∈ lw_all := lw_g (lw_at lw_m8 191 rfl) rfl
theorem q1974 : (Jvm.Cond.privateMethod ({ cls := "TypesAtPrime", name := "sheetsThere", desc := "()I" } : Jvm.MethodName)) ∈ lw_tbl := lw_at lw_m8 192 rfl
theorem q1975 : (Jvm.Cond.instanceMethod ({ cls := "TypesAtPrime", name := "sheetsThere", desc := "()I" } : Jvm.MethodName)) ∈ lw_all := lw_g (lw_at lw_m8 193 rfl) rfl
theorem q1976 : (Jvm.Cond.code ({ cls := "TypesAtPrime", name := "sheetsThere", desc := "()I" } : Jvm.MethodName) prog_1_method_61_code (6 : Nat) (Option.some Jvm.ClassFile.FieldType.int)) ∈ lw_all := lw_g (lw_at lw_m8 194 rfl) rfl
theorem q2629 : (Jvm.Cond.castable "TypesAtPrime" "java/lang/Object") ∈ lw_tbl := lw_at lw_m11 127 rfl
theorem in_X0 : ∀ w ∈ wsX00, w ∈ lw_all := lw_in wsX00 [306, 308, 310, 312, 314, 316, 318, 320, 322, 324, 326, 328] (by decide +kernel) (by decide +kernel)

