/-! TypesAtPrimeModel -/
set_option maxRecDepth 100000
def RX2 : String := "TypesAtPrimeModel"
def TX2 : u_T := fun k => match k with
  | 0 => ("TypesAtPrimeModel", "p", "I", false)
  | 1 => ("TypesAtPrimeModel", "limit", "I", false)
  | 2 => ("TypesAtPrimeModel", "whole", "J", false)
  | 3 => ("TypesAtPrimeModel", "coefficients", "[I", true)
  | 4 => ("TypesAtPrimeModel", "tape", "[I", true)
  | 5 => ("TypesAtPrimeModel", "taped", "I", false)
  | 6 => ("TypesAtPrimeModel", "at", "I", false)
  | 7 => ("TypesAtPrimeModel", "read", "[J", true)
  | 8 => ("TypesAtPrimeModel", "row", "[J", true)
  | 9 => ("TypesAtPrimeModel", "keys", "[J", true)
  | 10 => ("TypesAtPrimeModel", "left", "[I", true)
  | 11 => ("TypesAtPrimeModel", "leftDegree", "I", false)
  | 12 => ("TypesAtPrimeModel", "factors", "I", false)
  | 13 => ("TypesAtPrimeModel", "factorDegree", "[I", true)
  | 14 => ("TypesAtPrimeModel", "factorTimes", "[I", true)
  | 15 => ("TypesAtPrimeModel", "factorAt", "[I", true)
  | 16 => ("TypesAtPrimeModel", "trial", "[I", true)
  | 17 => ("TypesAtPrimeModel", "rest", "[I", true)
  | 18 => ("TypesAtPrimeModel", "isTree", "Z", false)
  | 19 => ("TypesAtPrimeModel", "its", "[J", true)
  | 20 => ("TypesAtPrimeModel", "itsDegree", "I", false)
  | 21 => ("TypesAtPrimeModel", "knots", "I", false)
  | 22 => ("TypesAtPrimeModel", "sides", "I", false)
  | 23 => ("TypesAtPrimeModel", "leaves", "I", false)
  | 24 => ("TypesAtPrimeModel", "level", "[I", true)
  | 25 => ("TypesAtPrimeModel", "manifold", "[I", true)
  | 26 => ("TypesAtPrimeModel", "above", "[I", true)
  | 27 => ("TypesAtPrimeModel", "firstSide", "[I", true)
  | 28 => ("TypesAtPrimeModel", "manySides", "[I", true)
  | 29 => ("TypesAtPrimeModel", "zeros", "[I", true)
  | 30 => ("TypesAtPrimeModel", "index0", "[I", true)
  | 31 => ("TypesAtPrimeModel", "points", "[I", true)
  | 32 => ("TypesAtPrimeModel", "madeRamified", "[I", true)
  | 33 => ("TypesAtPrimeModel", "madeSlope", "[I", true)
  | 34 => ("TypesAtPrimeModel", "madeRoot", "[I", true)
  | 35 => ("TypesAtPrimeModel", "madeMonomial", "[I", true)
  | 36 => ("TypesAtPrimeModel", "sideFrom", "[I", true)
  | 37 => ("TypesAtPrimeModel", "sideTo", "[I", true)
  | 38 => ("TypesAtPrimeModel", "sideFall", "[I", true)
  | 39 => ("TypesAtPrimeModel", "sideRamified", "[I", true)
  | 40 => ("TypesAtPrimeModel", "sideDegree", "[I", true)
  | 41 => ("TypesAtPrimeModel", "sideSlope", "[I", true)
  | 42 => ("TypesAtPrimeModel", "sideMonomial", "[I", true)
  | 43 => ("TypesAtPrimeModel", "sideResidual", "[I", true)
  | 44 => ("TypesAtPrimeModel", "leafKind", "[I", true)
  | 45 => ("TypesAtPrimeModel", "leafRamified", "[I", true)
  | 46 => ("TypesAtPrimeModel", "leafResidue", "[I", true)
  | 47 => ("TypesAtPrimeModel", "leafDegree", "[I", true)
  | 48 => ("TypesAtPrimeModel", "leafKnot", "[I", true)
  | 49 => ("TypesAtPrimeModel", "depth", "I", false)
  | 50 => ("TypesAtPrimeModel", "ramified", "[I", true)
  | 51 => ("TypesAtPrimeModel", "keyDegree", "[I", true)
  | 52 => ("TypesAtPrimeModel", "slopes", "[I", true)
  | 53 => ("TypesAtPrimeModel", "keyOf", "[I", true)
  | 54 => ("TypesAtPrimeModel", "madeOf", "[I", true)
  | 55 => ("TypesAtPrimeModel", "monomial0", "[I", true)
  | 56 => ("TypesAtPrimeModel", "headResidue", "I", false)
  | 57 => ("TypesAtPrimeModel", "product", "[J", true)
  | 58 => ("TypesAtPrimeModel", "knotAt", "[I", true)
  | 59 => ("TypesAtPrimeModel", "sideAt", "[I", true)
  | 60 => ("TypesAtPrimeModel", "nextAt", "[I", true)
  | 61 => ("TypesAtPrimeModel", "height", "I", false)
  | 62 => ("TypesAtPrimeModel", "spelled", "[I", true)
  | 63 => ("TypesAtPrimeModel", "spelledMany", "I", false)
  | 64 => ("TypesAtPrimeModel", "sorts", "[I", true)
  | 65 => ("TypesAtPrimeModel", "sizes", "[I", true)
  | _ => ("TypesAtPrimeModel", "numbers", "[I", true)
def tyX2 : Nat → FieldType := fun k => match k with
  | 0 => .int
  | 1 => .int
  | 2 => .long
  | 3 => .array .int
  | 4 => .array .int
  | 5 => .int
  | 6 => .int
  | 7 => .array .long
  | 8 => .array .long
  | 9 => .array .long
  | 10 => .array .int
  | 11 => .int
  | 12 => .int
  | 13 => .array .int
  | 14 => .array .int
  | 15 => .array .int
  | 16 => .array .int
  | 17 => .array .int
  | 18 => .boolean
  | 19 => .array .long
  | 20 => .int
  | 21 => .int
  | 22 => .int
  | 23 => .int
  | 24 => .array .int
  | 25 => .array .int
  | 26 => .array .int
  | 27 => .array .int
  | 28 => .array .int
  | 29 => .array .int
  | 30 => .array .int
  | 31 => .array .int
  | 32 => .array .int
  | 33 => .array .int
  | 34 => .array .int
  | 35 => .array .int
  | 36 => .array .int
  | 37 => .array .int
  | 38 => .array .int
  | 39 => .array .int
  | 40 => .array .int
  | 41 => .array .int
  | 42 => .array .int
  | 43 => .array .int
  | 44 => .array .int
  | 45 => .array .int
  | 46 => .array .int
  | 47 => .array .int
  | 48 => .array .int
  | 49 => .int
  | 50 => .array .int
  | 51 => .array .int
  | 52 => .array .int
  | 53 => .array .int
  | 54 => .array .int
  | 55 => .array .int
  | 56 => .int
  | 57 => .array .long
  | 58 => .array .int
  | 59 => .array .int
  | 60 => .array .int
  | 61 => .int
  | 62 => .array .int
  | 63 => .int
  | 64 => .array .int
  | 65 => .array .int
  | _ => .array .int
abbrev wsX20 : List Cond := u_ws RX2 TX2 67
set_option maxRecDepth 100000 in
theorem nmX2 : ∀ a, a < 67 → ∀ b, b < 67 → a ≠ b → (TX2 a).2.1 ≠ (TX2 b).2.1 := by decide +kernel
set_option maxRecDepth 100000 in
theorem tyX2_ok : ∀ k, k < 67 → parseFieldDescriptor (TX2 k).2.2.1 = some (tyX2 k) := by decide +kernel
abbrev cX2_init : ByteArray := prog_18_method_1_code
def yX2_init : MethodName := ⟨RX2, "<init>", "()V"⟩
def dkwX2_init_18 : List UInt8 := [188, 10, 181, 0, 161, 42, 6, 16, 18, 182, 0, 164, 177]
abbrev dktX2_init_18 : List UInt8 := dkwX2_init_18 ++ []
def dkwX2_init_17 : List UInt8 := [2, 79, 89, 5, 2, 79, 89, 6, 2, 79, 181, 0, 155, 42, 7, 188, 10, 181, 0, 158, 42, 17, 0, 160]
abbrev dktX2_init_17 : List UInt8 := dkwX2_init_17 ++ dktX2_init_18
def dkwX2_init_16 : List UInt8 := [188, 10, 181, 0, 149, 42, 17, 0, 160, 188, 10, 181, 0, 152, 42, 7, 188, 10, 89, 3, 2, 79, 89, 4]
abbrev dktX2_init_16 : List UInt8 := dkwX2_init_16 ++ dktX2_init_17
def dkwX2_init_15 : List UInt8 := [188, 11, 181, 0, 140, 42, 16, 8, 188, 10, 181, 0, 143, 42, 16, 8, 188, 10, 181, 0, 146, 42, 16, 8]
abbrev dktX2_init_15 : List UInt8 := dkwX2_init_15 ++ dktX2_init_16
def dkwX2_init_14 : List UInt8 := [188, 10, 181, 0, 131, 42, 16, 8, 188, 10, 181, 0, 134, 42, 16, 7, 188, 10, 181, 0, 137, 42, 16, 9]
abbrev dktX2_init_14 : List UInt8 := dkwX2_init_14 ++ dktX2_init_15
def dkwX2_init_13 : List UInt8 := [188, 10, 181, 0, 122, 42, 16, 8, 188, 10, 181, 0, 125, 42, 16, 8, 188, 10, 181, 0, 128, 42, 16, 8]
abbrev dktX2_init_13 : List UInt8 := dkwX2_init_13 ++ dktX2_init_14
def dkwX2_init_12 : List UInt8 := [188, 10, 181, 0, 113, 42, 16, 20, 188, 10, 181, 0, 116, 42, 16, 20, 188, 10, 181, 0, 119, 42, 16, 8]
abbrev dktX2_init_12 : List UInt8 := dkwX2_init_12 ++ dktX2_init_13
def dkwX2_init_11 : List UInt8 := [188, 10, 181, 0, 104, 42, 16, 20, 188, 10, 181, 0, 107, 42, 16, 20, 188, 10, 181, 0, 110, 42, 16, 20]
abbrev dktX2_init_11 : List UInt8 := dkwX2_init_11 ++ dktX2_init_12
def dkwX2_init_10 : List UInt8 := [181, 0, 95, 42, 16, 64, 188, 10, 181, 0, 98, 42, 17, 1, 192, 188, 10, 181, 0, 101, 42, 17, 2, 64]
abbrev dktX2_init_10 : List UInt8 := dkwX2_init_10 ++ dktX2_init_11
def dkwX2_init_9 : List UInt8 := [181, 0, 86, 42, 16, 64, 188, 10, 181, 0, 89, 42, 16, 64, 188, 10, 181, 0, 92, 42, 16, 64, 188, 10]
abbrev dktX2_init_9 : List UInt8 := dkwX2_init_9 ++ dktX2_init_10
def dkwX2_init_8 : List UInt8 := [42, 17, 1, 24, 188, 10, 181, 0, 80, 42, 16, 64, 188, 10, 181, 0, 83, 42, 16, 64, 188, 10]
abbrev dktX2_init_8 : List UInt8 := dkwX2_init_8 ++ dktX2_init_9
def dkwX2_init_7 : List UInt8 := [42, 16, 40, 188, 10, 181, 0, 71, 42, 16, 40, 188, 10, 181, 0, 74, 42, 16, 40, 188, 10, 181, 0, 77]
abbrev dktX2_init_7 : List UInt8 := dkwX2_init_7 ++ dktX2_init_8
def dkwX2_init_6 : List UInt8 := [16, 40, 188, 10, 181, 0, 62, 42, 16, 40, 188, 10, 181, 0, 65, 42, 17, 1, 104, 188, 10, 181, 0, 68]
abbrev dktX2_init_6 : List UInt8 := dkwX2_init_6 ++ dktX2_init_7
def dkwX2_init_5 : List UInt8 := [16, 40, 188, 10, 181, 0, 53, 42, 16, 40, 188, 10, 181, 0, 56, 42, 16, 40, 188, 10, 181, 0, 59, 42]
abbrev dktX2_init_5 : List UInt8 := dkwX2_init_5 ++ dktX2_init_6
def dkwX2_init_4 : List UInt8 := [16, 9, 188, 11, 181, 0, 44, 42, 16, 40, 188, 10, 181, 0, 47, 42, 16, 40, 188, 10, 181, 0, 50, 42]
abbrev dktX2_init_4 : List UInt8 := dkwX2_init_4 ++ dktX2_init_5
def dkwX2_init_3 : List UInt8 := [16, 81, 188, 10, 181, 0, 35, 42, 16, 9, 188, 10, 181, 0, 38, 42, 16, 9, 188, 10, 181, 0, 41, 42]
abbrev dktX2_init_3 : List UInt8 := dkwX2_init_3 ++ dktX2_init_4
def dkwX2_init_2 : List UInt8 := [16, 9, 188, 10, 181, 0, 26, 42, 16, 9, 188, 10, 181, 0, 29, 42, 16, 9, 188, 10, 181, 0, 32, 42]
abbrev dktX2_init_2 : List UInt8 := dkwX2_init_2 ++ dktX2_init_3
def dkwX2_init_1 : List UInt8 := [188, 11, 181, 0, 16, 42, 16, 24, 188, 11, 181, 0, 20, 42, 17, 1, 113, 188, 11, 181, 0, 23, 42]
abbrev dktX2_init_1 : List UInt8 := dkwX2_init_1 ++ dktX2_init_2
def dkwX2_init_0 : List UInt8 := [42, 183, 0, 1, 42, 16, 45, 188, 10, 181, 0, 7, 42, 16, 80, 188, 10, 181, 0, 13, 42, 16, 9]
abbrev dktX2_init_0 : List UInt8 := dkwX2_init_0 ++ dktX2_init_1
theorem dksX2_init_0 : cX2_init.data.toList.drop 0 = dktX2_init_0 := by decide +kernel
theorem dksX2_init_1 : cX2_init.data.toList.drop 23 = dktX2_init_1 := dk_seg dksX2_init_0 23 rfl rfl
theorem dksX2_init_2 : cX2_init.data.toList.drop 46 = dktX2_init_2 := dk_seg dksX2_init_1 23 rfl rfl
theorem dksX2_init_3 : cX2_init.data.toList.drop 70 = dktX2_init_3 := dk_seg dksX2_init_2 24 rfl rfl
theorem dksX2_init_4 : cX2_init.data.toList.drop 94 = dktX2_init_4 := dk_seg dksX2_init_3 24 rfl rfl
theorem dksX2_init_5 : cX2_init.data.toList.drop 118 = dktX2_init_5 := dk_seg dksX2_init_4 24 rfl rfl
theorem dksX2_init_6 : cX2_init.data.toList.drop 142 = dktX2_init_6 := dk_seg dksX2_init_5 24 rfl rfl
theorem dksX2_init_7 : cX2_init.data.toList.drop 166 = dktX2_init_7 := dk_seg dksX2_init_6 24 rfl rfl
theorem dksX2_init_8 : cX2_init.data.toList.drop 190 = dktX2_init_8 := dk_seg dksX2_init_7 24 rfl rfl
theorem dksX2_init_9 : cX2_init.data.toList.drop 212 = dktX2_init_9 := dk_seg dksX2_init_8 22 rfl rfl
theorem dksX2_init_10 : cX2_init.data.toList.drop 236 = dktX2_init_10 := dk_seg dksX2_init_9 24 rfl rfl
theorem dksX2_init_11 : cX2_init.data.toList.drop 260 = dktX2_init_11 := dk_seg dksX2_init_10 24 rfl rfl
theorem dksX2_init_12 : cX2_init.data.toList.drop 284 = dktX2_init_12 := dk_seg dksX2_init_11 24 rfl rfl
theorem dksX2_init_13 : cX2_init.data.toList.drop 308 = dktX2_init_13 := dk_seg dksX2_init_12 24 rfl rfl
theorem dksX2_init_14 : cX2_init.data.toList.drop 332 = dktX2_init_14 := dk_seg dksX2_init_13 24 rfl rfl
theorem dksX2_init_15 : cX2_init.data.toList.drop 356 = dktX2_init_15 := dk_seg dksX2_init_14 24 rfl rfl
theorem dksX2_init_16 : cX2_init.data.toList.drop 380 = dktX2_init_16 := dk_seg dksX2_init_15 24 rfl rfl
theorem dksX2_init_17 : cX2_init.data.toList.drop 404 = dktX2_init_17 := dk_seg dksX2_init_16 24 rfl rfl
theorem dksX2_init_18 : cX2_init.data.toList.drop 428 = dktX2_init_18 := dk_seg dksX2_init_17 24 rfl rfl
theorem dX2_init_0 : decode cX2_init 0 = .ok (.aload_n 0, 1) := dk_42 (dk_at dksX2_init_0 0 rfl rfl)
theorem dX2_init_1 : decode cX2_init 1 = .ok (.invokespecial 1, 3) := dk_183 0 1 (dk_at dksX2_init_0 1 rfl rfl)
theorem dX2_init_4 : decode cX2_init 4 = .ok (.aload_n 0, 1) := dk_42 (dk_at dksX2_init_0 4 rfl rfl)
theorem dX2_init_5 : decode cX2_init 5 = .ok (.bipush 45, 2) := dk_16 45 (dk_at dksX2_init_0 5 rfl rfl)
theorem dX2_init_7 : decode cX2_init 7 = .ok (.newarray .int, 2) := dk_188_10 (dk_at dksX2_init_0 7 rfl rfl)
theorem dX2_init_9 : decode cX2_init 9 = .ok (.putfield 7, 3) := dk_181 0 7 (dk_at dksX2_init_0 9 rfl rfl)
theorem dX2_init_12 : decode cX2_init 12 = .ok (.aload_n 0, 1) := dk_42 (dk_at dksX2_init_0 12 rfl rfl)
theorem dX2_init_13 : decode cX2_init 13 = .ok (.bipush 80, 2) := dk_16 80 (dk_at dksX2_init_0 13 rfl rfl)
theorem dX2_init_15 : decode cX2_init 15 = .ok (.newarray .int, 2) := dk_188_10 (dk_at dksX2_init_0 15 rfl rfl)
theorem dX2_init_17 : decode cX2_init 17 = .ok (.putfield 13, 3) := dk_181 0 13 (dk_at dksX2_init_0 17 rfl rfl)
theorem dX2_init_20 : decode cX2_init 20 = .ok (.aload_n 0, 1) := dk_42 (dk_at dksX2_init_0 20 rfl rfl)
theorem dX2_init_21 : decode cX2_init 21 = .ok (.bipush 9, 2) := dk_16 9 (dk_at dksX2_init_0 21 rfl rfl)
theorem dX2_init_23 : decode cX2_init 23 = .ok (.newarray .long, 2) := dk_188_11 (dk_at dksX2_init_1 0 rfl rfl)
theorem dX2_init_25 : decode cX2_init 25 = .ok (.putfield 16, 3) := dk_181 0 16 (dk_at dksX2_init_1 2 rfl rfl)
theorem dX2_init_28 : decode cX2_init 28 = .ok (.aload_n 0, 1) := dk_42 (dk_at dksX2_init_1 5 rfl rfl)
theorem dX2_init_29 : decode cX2_init 29 = .ok (.bipush 24, 2) := dk_16 24 (dk_at dksX2_init_1 6 rfl rfl)
theorem dX2_init_31 : decode cX2_init 31 = .ok (.newarray .long, 2) := dk_188_11 (dk_at dksX2_init_1 8 rfl rfl)
theorem dX2_init_33 : decode cX2_init 33 = .ok (.putfield 20, 3) := dk_181 0 20 (dk_at dksX2_init_1 10 rfl rfl)
theorem dX2_init_36 : decode cX2_init 36 = .ok (.aload_n 0, 1) := dk_42 (dk_at dksX2_init_1 13 rfl rfl)
theorem dX2_init_37 : decode cX2_init 37 = .ok (.sipush 369, 3) := dk_17 1 113 (dk_at dksX2_init_1 14 rfl rfl)
theorem dX2_init_40 : decode cX2_init 40 = .ok (.newarray .long, 2) := dk_188_11 (dk_at dksX2_init_1 17 rfl rfl)
theorem dX2_init_42 : decode cX2_init 42 = .ok (.putfield 23, 3) := dk_181 0 23 (dk_at dksX2_init_1 19 rfl rfl)
theorem dX2_init_45 : decode cX2_init 45 = .ok (.aload_n 0, 1) := dk_42 (dk_at dksX2_init_1 22 rfl rfl)
theorem dX2_init_46 : decode cX2_init 46 = .ok (.bipush 9, 2) := dk_16 9 (dk_at dksX2_init_2 0 rfl rfl)
theorem dX2_init_48 : decode cX2_init 48 = .ok (.newarray .int, 2) := dk_188_10 (dk_at dksX2_init_2 2 rfl rfl)
theorem dX2_init_50 : decode cX2_init 50 = .ok (.putfield 26, 3) := dk_181 0 26 (dk_at dksX2_init_2 4 rfl rfl)
theorem dX2_init_53 : decode cX2_init 53 = .ok (.aload_n 0, 1) := dk_42 (dk_at dksX2_init_2 7 rfl rfl)
theorem dX2_init_54 : decode cX2_init 54 = .ok (.bipush 9, 2) := dk_16 9 (dk_at dksX2_init_2 8 rfl rfl)
theorem dX2_init_56 : decode cX2_init 56 = .ok (.newarray .int, 2) := dk_188_10 (dk_at dksX2_init_2 10 rfl rfl)
theorem dX2_init_58 : decode cX2_init 58 = .ok (.putfield 29, 3) := dk_181 0 29 (dk_at dksX2_init_2 12 rfl rfl)
theorem dX2_init_61 : decode cX2_init 61 = .ok (.aload_n 0, 1) := dk_42 (dk_at dksX2_init_2 15 rfl rfl)
theorem dX2_init_62 : decode cX2_init 62 = .ok (.bipush 9, 2) := dk_16 9 (dk_at dksX2_init_2 16 rfl rfl)
theorem dX2_init_64 : decode cX2_init 64 = .ok (.newarray .int, 2) := dk_188_10 (dk_at dksX2_init_2 18 rfl rfl)
theorem dX2_init_66 : decode cX2_init 66 = .ok (.putfield 32, 3) := dk_181 0 32 (dk_at dksX2_init_2 20 rfl rfl)
theorem dX2_init_69 : decode cX2_init 69 = .ok (.aload_n 0, 1) := dk_42 (dk_at dksX2_init_2 23 rfl rfl)
theorem dX2_init_70 : decode cX2_init 70 = .ok (.bipush 81, 2) := dk_16 81 (dk_at dksX2_init_3 0 rfl rfl)
theorem dX2_init_72 : decode cX2_init 72 = .ok (.newarray .int, 2) := dk_188_10 (dk_at dksX2_init_3 2 rfl rfl)
theorem dX2_init_74 : decode cX2_init 74 = .ok (.putfield 35, 3) := dk_181 0 35 (dk_at dksX2_init_3 4 rfl rfl)
theorem dX2_init_77 : decode cX2_init 77 = .ok (.aload_n 0, 1) := dk_42 (dk_at dksX2_init_3 7 rfl rfl)
theorem dX2_init_78 : decode cX2_init 78 = .ok (.bipush 9, 2) := dk_16 9 (dk_at dksX2_init_3 8 rfl rfl)
theorem dX2_init_80 : decode cX2_init 80 = .ok (.newarray .int, 2) := dk_188_10 (dk_at dksX2_init_3 10 rfl rfl)
theorem dX2_init_82 : decode cX2_init 82 = .ok (.putfield 38, 3) := dk_181 0 38 (dk_at dksX2_init_3 12 rfl rfl)
theorem dX2_init_85 : decode cX2_init 85 = .ok (.aload_n 0, 1) := dk_42 (dk_at dksX2_init_3 15 rfl rfl)
theorem dX2_init_86 : decode cX2_init 86 = .ok (.bipush 9, 2) := dk_16 9 (dk_at dksX2_init_3 16 rfl rfl)
theorem dX2_init_88 : decode cX2_init 88 = .ok (.newarray .int, 2) := dk_188_10 (dk_at dksX2_init_3 18 rfl rfl)
theorem dX2_init_90 : decode cX2_init 90 = .ok (.putfield 41, 3) := dk_181 0 41 (dk_at dksX2_init_3 20 rfl rfl)
theorem dX2_init_93 : decode cX2_init 93 = .ok (.aload_n 0, 1) := dk_42 (dk_at dksX2_init_3 23 rfl rfl)
theorem dX2_init_94 : decode cX2_init 94 = .ok (.bipush 9, 2) := dk_16 9 (dk_at dksX2_init_4 0 rfl rfl)
theorem dX2_init_96 : decode cX2_init 96 = .ok (.newarray .long, 2) := dk_188_11 (dk_at dksX2_init_4 2 rfl rfl)
theorem dX2_init_98 : decode cX2_init 98 = .ok (.putfield 44, 3) := dk_181 0 44 (dk_at dksX2_init_4 4 rfl rfl)
theorem dX2_init_101 : decode cX2_init 101 = .ok (.aload_n 0, 1) := dk_42 (dk_at dksX2_init_4 7 rfl rfl)
theorem dX2_init_102 : decode cX2_init 102 = .ok (.bipush 40, 2) := dk_16 40 (dk_at dksX2_init_4 8 rfl rfl)
theorem dX2_init_104 : decode cX2_init 104 = .ok (.newarray .int, 2) := dk_188_10 (dk_at dksX2_init_4 10 rfl rfl)
theorem dX2_init_106 : decode cX2_init 106 = .ok (.putfield 47, 3) := dk_181 0 47 (dk_at dksX2_init_4 12 rfl rfl)
theorem dX2_init_109 : decode cX2_init 109 = .ok (.aload_n 0, 1) := dk_42 (dk_at dksX2_init_4 15 rfl rfl)
theorem dX2_init_110 : decode cX2_init 110 = .ok (.bipush 40, 2) := dk_16 40 (dk_at dksX2_init_4 16 rfl rfl)
theorem dX2_init_112 : decode cX2_init 112 = .ok (.newarray .int, 2) := dk_188_10 (dk_at dksX2_init_4 18 rfl rfl)
theorem dX2_init_114 : decode cX2_init 114 = .ok (.putfield 50, 3) := dk_181 0 50 (dk_at dksX2_init_4 20 rfl rfl)
theorem dX2_init_117 : decode cX2_init 117 = .ok (.aload_n 0, 1) := dk_42 (dk_at dksX2_init_4 23 rfl rfl)
theorem dX2_init_118 : decode cX2_init 118 = .ok (.bipush 40, 2) := dk_16 40 (dk_at dksX2_init_5 0 rfl rfl)
theorem dX2_init_120 : decode cX2_init 120 = .ok (.newarray .int, 2) := dk_188_10 (dk_at dksX2_init_5 2 rfl rfl)
theorem dX2_init_122 : decode cX2_init 122 = .ok (.putfield 53, 3) := dk_181 0 53 (dk_at dksX2_init_5 4 rfl rfl)
theorem dX2_init_125 : decode cX2_init 125 = .ok (.aload_n 0, 1) := dk_42 (dk_at dksX2_init_5 7 rfl rfl)
theorem dX2_init_126 : decode cX2_init 126 = .ok (.bipush 40, 2) := dk_16 40 (dk_at dksX2_init_5 8 rfl rfl)
theorem dX2_init_128 : decode cX2_init 128 = .ok (.newarray .int, 2) := dk_188_10 (dk_at dksX2_init_5 10 rfl rfl)
theorem dX2_init_130 : decode cX2_init 130 = .ok (.putfield 56, 3) := dk_181 0 56 (dk_at dksX2_init_5 12 rfl rfl)
theorem dX2_init_133 : decode cX2_init 133 = .ok (.aload_n 0, 1) := dk_42 (dk_at dksX2_init_5 15 rfl rfl)
theorem dX2_init_134 : decode cX2_init 134 = .ok (.bipush 40, 2) := dk_16 40 (dk_at dksX2_init_5 16 rfl rfl)
theorem dX2_init_136 : decode cX2_init 136 = .ok (.newarray .int, 2) := dk_188_10 (dk_at dksX2_init_5 18 rfl rfl)
theorem dX2_init_138 : decode cX2_init 138 = .ok (.putfield 59, 3) := dk_181 0 59 (dk_at dksX2_init_5 20 rfl rfl)
theorem dX2_init_141 : decode cX2_init 141 = .ok (.aload_n 0, 1) := dk_42 (dk_at dksX2_init_5 23 rfl rfl)
theorem dX2_init_142 : decode cX2_init 142 = .ok (.bipush 40, 2) := dk_16 40 (dk_at dksX2_init_6 0 rfl rfl)
theorem dX2_init_144 : decode cX2_init 144 = .ok (.newarray .int, 2) := dk_188_10 (dk_at dksX2_init_6 2 rfl rfl)
theorem dX2_init_146 : decode cX2_init 146 = .ok (.putfield 62, 3) := dk_181 0 62 (dk_at dksX2_init_6 4 rfl rfl)
theorem dX2_init_149 : decode cX2_init 149 = .ok (.aload_n 0, 1) := dk_42 (dk_at dksX2_init_6 7 rfl rfl)
theorem dX2_init_150 : decode cX2_init 150 = .ok (.bipush 40, 2) := dk_16 40 (dk_at dksX2_init_6 8 rfl rfl)
theorem dX2_init_152 : decode cX2_init 152 = .ok (.newarray .int, 2) := dk_188_10 (dk_at dksX2_init_6 10 rfl rfl)
theorem dX2_init_154 : decode cX2_init 154 = .ok (.putfield 65, 3) := dk_181 0 65 (dk_at dksX2_init_6 12 rfl rfl)
theorem dX2_init_157 : decode cX2_init 157 = .ok (.aload_n 0, 1) := dk_42 (dk_at dksX2_init_6 15 rfl rfl)
theorem dX2_init_158 : decode cX2_init 158 = .ok (.sipush 360, 3) := dk_17 1 104 (dk_at dksX2_init_6 16 rfl rfl)
theorem dX2_init_161 : decode cX2_init 161 = .ok (.newarray .int, 2) := dk_188_10 (dk_at dksX2_init_6 19 rfl rfl)
theorem dX2_init_163 : decode cX2_init 163 = .ok (.putfield 68, 3) := dk_181 0 68 (dk_at dksX2_init_6 21 rfl rfl)
theorem dX2_init_166 : decode cX2_init 166 = .ok (.aload_n 0, 1) := dk_42 (dk_at dksX2_init_7 0 rfl rfl)
theorem dX2_init_167 : decode cX2_init 167 = .ok (.bipush 40, 2) := dk_16 40 (dk_at dksX2_init_7 1 rfl rfl)
theorem dX2_init_169 : decode cX2_init 169 = .ok (.newarray .int, 2) := dk_188_10 (dk_at dksX2_init_7 3 rfl rfl)
theorem dX2_init_171 : decode cX2_init 171 = .ok (.putfield 71, 3) := dk_181 0 71 (dk_at dksX2_init_7 5 rfl rfl)
theorem dX2_init_174 : decode cX2_init 174 = .ok (.aload_n 0, 1) := dk_42 (dk_at dksX2_init_7 8 rfl rfl)
theorem dX2_init_175 : decode cX2_init 175 = .ok (.bipush 40, 2) := dk_16 40 (dk_at dksX2_init_7 9 rfl rfl)
theorem dX2_init_177 : decode cX2_init 177 = .ok (.newarray .int, 2) := dk_188_10 (dk_at dksX2_init_7 11 rfl rfl)
theorem dX2_init_179 : decode cX2_init 179 = .ok (.putfield 74, 3) := dk_181 0 74 (dk_at dksX2_init_7 13 rfl rfl)
theorem dX2_init_182 : decode cX2_init 182 = .ok (.aload_n 0, 1) := dk_42 (dk_at dksX2_init_7 16 rfl rfl)
theorem dX2_init_183 : decode cX2_init 183 = .ok (.bipush 40, 2) := dk_16 40 (dk_at dksX2_init_7 17 rfl rfl)
theorem dX2_init_185 : decode cX2_init 185 = .ok (.newarray .int, 2) := dk_188_10 (dk_at dksX2_init_7 19 rfl rfl)
theorem dX2_init_187 : decode cX2_init 187 = .ok (.putfield 77, 3) := dk_181 0 77 (dk_at dksX2_init_7 21 rfl rfl)
theorem dX2_init_190 : decode cX2_init 190 = .ok (.aload_n 0, 1) := dk_42 (dk_at dksX2_init_8 0 rfl rfl)
theorem dX2_init_191 : decode cX2_init 191 = .ok (.sipush 280, 3) := dk_17 1 24 (dk_at dksX2_init_8 1 rfl rfl)
theorem dX2_init_194 : decode cX2_init 194 = .ok (.newarray .int, 2) := dk_188_10 (dk_at dksX2_init_8 4 rfl rfl)
theorem dX2_init_196 : decode cX2_init 196 = .ok (.putfield 80, 3) := dk_181 0 80 (dk_at dksX2_init_8 6 rfl rfl)
theorem dX2_init_199 : decode cX2_init 199 = .ok (.aload_n 0, 1) := dk_42 (dk_at dksX2_init_8 9 rfl rfl)
theorem dX2_init_200 : decode cX2_init 200 = .ok (.bipush 64, 2) := dk_16 64 (dk_at dksX2_init_8 10 rfl rfl)
theorem dX2_init_202 : decode cX2_init 202 = .ok (.newarray .int, 2) := dk_188_10 (dk_at dksX2_init_8 12 rfl rfl)
theorem dX2_init_204 : decode cX2_init 204 = .ok (.putfield 83, 3) := dk_181 0 83 (dk_at dksX2_init_8 14 rfl rfl)
theorem dX2_init_207 : decode cX2_init 207 = .ok (.aload_n 0, 1) := dk_42 (dk_at dksX2_init_8 17 rfl rfl)
theorem dX2_init_208 : decode cX2_init 208 = .ok (.bipush 64, 2) := dk_16 64 (dk_at dksX2_init_8 18 rfl rfl)
theorem dX2_init_210 : decode cX2_init 210 = .ok (.newarray .int, 2) := dk_188_10 (dk_at dksX2_init_8 20 rfl rfl)
theorem dX2_init_212 : decode cX2_init 212 = .ok (.putfield 86, 3) := dk_181 0 86 (dk_at dksX2_init_9 0 rfl rfl)
theorem dX2_init_215 : decode cX2_init 215 = .ok (.aload_n 0, 1) := dk_42 (dk_at dksX2_init_9 3 rfl rfl)
theorem dX2_init_216 : decode cX2_init 216 = .ok (.bipush 64, 2) := dk_16 64 (dk_at dksX2_init_9 4 rfl rfl)
theorem dX2_init_218 : decode cX2_init 218 = .ok (.newarray .int, 2) := dk_188_10 (dk_at dksX2_init_9 6 rfl rfl)
theorem dX2_init_220 : decode cX2_init 220 = .ok (.putfield 89, 3) := dk_181 0 89 (dk_at dksX2_init_9 8 rfl rfl)
theorem dX2_init_223 : decode cX2_init 223 = .ok (.aload_n 0, 1) := dk_42 (dk_at dksX2_init_9 11 rfl rfl)
theorem dX2_init_224 : decode cX2_init 224 = .ok (.bipush 64, 2) := dk_16 64 (dk_at dksX2_init_9 12 rfl rfl)
theorem dX2_init_226 : decode cX2_init 226 = .ok (.newarray .int, 2) := dk_188_10 (dk_at dksX2_init_9 14 rfl rfl)
theorem dX2_init_228 : decode cX2_init 228 = .ok (.putfield 92, 3) := dk_181 0 92 (dk_at dksX2_init_9 16 rfl rfl)
theorem dX2_init_231 : decode cX2_init 231 = .ok (.aload_n 0, 1) := dk_42 (dk_at dksX2_init_9 19 rfl rfl)
theorem dX2_init_232 : decode cX2_init 232 = .ok (.bipush 64, 2) := dk_16 64 (dk_at dksX2_init_9 20 rfl rfl)
theorem dX2_init_234 : decode cX2_init 234 = .ok (.newarray .int, 2) := dk_188_10 (dk_at dksX2_init_9 22 rfl rfl)
theorem dX2_init_236 : decode cX2_init 236 = .ok (.putfield 95, 3) := dk_181 0 95 (dk_at dksX2_init_10 0 rfl rfl)
theorem dX2_init_239 : decode cX2_init 239 = .ok (.aload_n 0, 1) := dk_42 (dk_at dksX2_init_10 3 rfl rfl)
theorem dX2_init_240 : decode cX2_init 240 = .ok (.bipush 64, 2) := dk_16 64 (dk_at dksX2_init_10 4 rfl rfl)
theorem dX2_init_242 : decode cX2_init 242 = .ok (.newarray .int, 2) := dk_188_10 (dk_at dksX2_init_10 6 rfl rfl)
theorem dX2_init_244 : decode cX2_init 244 = .ok (.putfield 98, 3) := dk_181 0 98 (dk_at dksX2_init_10 8 rfl rfl)
theorem dX2_init_247 : decode cX2_init 247 = .ok (.aload_n 0, 1) := dk_42 (dk_at dksX2_init_10 11 rfl rfl)
theorem dX2_init_248 : decode cX2_init 248 = .ok (.sipush 448, 3) := dk_17 1 192 (dk_at dksX2_init_10 12 rfl rfl)
theorem dX2_init_251 : decode cX2_init 251 = .ok (.newarray .int, 2) := dk_188_10 (dk_at dksX2_init_10 15 rfl rfl)
theorem dX2_init_253 : decode cX2_init 253 = .ok (.putfield 101, 3) := dk_181 0 101 (dk_at dksX2_init_10 17 rfl rfl)
theorem dX2_init_256 : decode cX2_init 256 = .ok (.aload_n 0, 1) := dk_42 (dk_at dksX2_init_10 20 rfl rfl)
theorem dX2_init_257 : decode cX2_init 257 = .ok (.sipush 576, 3) := dk_17 2 64 (dk_at dksX2_init_10 21 rfl rfl)
theorem dX2_init_260 : decode cX2_init 260 = .ok (.newarray .int, 2) := dk_188_10 (dk_at dksX2_init_11 0 rfl rfl)
theorem dX2_init_262 : decode cX2_init 262 = .ok (.putfield 104, 3) := dk_181 0 104 (dk_at dksX2_init_11 2 rfl rfl)
theorem dX2_init_265 : decode cX2_init 265 = .ok (.aload_n 0, 1) := dk_42 (dk_at dksX2_init_11 5 rfl rfl)
theorem dX2_init_266 : decode cX2_init 266 = .ok (.bipush 20, 2) := dk_16 20 (dk_at dksX2_init_11 6 rfl rfl)
theorem dX2_init_268 : decode cX2_init 268 = .ok (.newarray .int, 2) := dk_188_10 (dk_at dksX2_init_11 8 rfl rfl)
theorem dX2_init_270 : decode cX2_init 270 = .ok (.putfield 107, 3) := dk_181 0 107 (dk_at dksX2_init_11 10 rfl rfl)
theorem dX2_init_273 : decode cX2_init 273 = .ok (.aload_n 0, 1) := dk_42 (dk_at dksX2_init_11 13 rfl rfl)
theorem dX2_init_274 : decode cX2_init 274 = .ok (.bipush 20, 2) := dk_16 20 (dk_at dksX2_init_11 14 rfl rfl)
theorem dX2_init_276 : decode cX2_init 276 = .ok (.newarray .int, 2) := dk_188_10 (dk_at dksX2_init_11 16 rfl rfl)
theorem dX2_init_278 : decode cX2_init 278 = .ok (.putfield 110, 3) := dk_181 0 110 (dk_at dksX2_init_11 18 rfl rfl)
theorem dX2_init_281 : decode cX2_init 281 = .ok (.aload_n 0, 1) := dk_42 (dk_at dksX2_init_11 21 rfl rfl)
theorem dX2_init_282 : decode cX2_init 282 = .ok (.bipush 20, 2) := dk_16 20 (dk_at dksX2_init_11 22 rfl rfl)
theorem dX2_init_284 : decode cX2_init 284 = .ok (.newarray .int, 2) := dk_188_10 (dk_at dksX2_init_12 0 rfl rfl)
theorem dX2_init_286 : decode cX2_init 286 = .ok (.putfield 113, 3) := dk_181 0 113 (dk_at dksX2_init_12 2 rfl rfl)
theorem dX2_init_289 : decode cX2_init 289 = .ok (.aload_n 0, 1) := dk_42 (dk_at dksX2_init_12 5 rfl rfl)
theorem dX2_init_290 : decode cX2_init 290 = .ok (.bipush 20, 2) := dk_16 20 (dk_at dksX2_init_12 6 rfl rfl)
theorem dX2_init_292 : decode cX2_init 292 = .ok (.newarray .int, 2) := dk_188_10 (dk_at dksX2_init_12 8 rfl rfl)
theorem dX2_init_294 : decode cX2_init 294 = .ok (.putfield 116, 3) := dk_181 0 116 (dk_at dksX2_init_12 10 rfl rfl)
theorem dX2_init_297 : decode cX2_init 297 = .ok (.aload_n 0, 1) := dk_42 (dk_at dksX2_init_12 13 rfl rfl)
theorem dX2_init_298 : decode cX2_init 298 = .ok (.bipush 20, 2) := dk_16 20 (dk_at dksX2_init_12 14 rfl rfl)
theorem dX2_init_300 : decode cX2_init 300 = .ok (.newarray .int, 2) := dk_188_10 (dk_at dksX2_init_12 16 rfl rfl)
theorem dX2_init_302 : decode cX2_init 302 = .ok (.putfield 119, 3) := dk_181 0 119 (dk_at dksX2_init_12 18 rfl rfl)
theorem dX2_init_305 : decode cX2_init 305 = .ok (.aload_n 0, 1) := dk_42 (dk_at dksX2_init_12 21 rfl rfl)
theorem dX2_init_306 : decode cX2_init 306 = .ok (.bipush 8, 2) := dk_16 8 (dk_at dksX2_init_12 22 rfl rfl)
theorem dX2_init_308 : decode cX2_init 308 = .ok (.newarray .int, 2) := dk_188_10 (dk_at dksX2_init_13 0 rfl rfl)
theorem dX2_init_310 : decode cX2_init 310 = .ok (.putfield 122, 3) := dk_181 0 122 (dk_at dksX2_init_13 2 rfl rfl)
theorem dX2_init_313 : decode cX2_init 313 = .ok (.aload_n 0, 1) := dk_42 (dk_at dksX2_init_13 5 rfl rfl)
theorem dX2_init_314 : decode cX2_init 314 = .ok (.bipush 8, 2) := dk_16 8 (dk_at dksX2_init_13 6 rfl rfl)
theorem dX2_init_316 : decode cX2_init 316 = .ok (.newarray .int, 2) := dk_188_10 (dk_at dksX2_init_13 8 rfl rfl)
theorem dX2_init_318 : decode cX2_init 318 = .ok (.putfield 125, 3) := dk_181 0 125 (dk_at dksX2_init_13 10 rfl rfl)
theorem dX2_init_321 : decode cX2_init 321 = .ok (.aload_n 0, 1) := dk_42 (dk_at dksX2_init_13 13 rfl rfl)
theorem dX2_init_322 : decode cX2_init 322 = .ok (.bipush 8, 2) := dk_16 8 (dk_at dksX2_init_13 14 rfl rfl)
theorem dX2_init_324 : decode cX2_init 324 = .ok (.newarray .int, 2) := dk_188_10 (dk_at dksX2_init_13 16 rfl rfl)
theorem dX2_init_326 : decode cX2_init 326 = .ok (.putfield 128, 3) := dk_181 0 128 (dk_at dksX2_init_13 18 rfl rfl)
theorem dX2_init_329 : decode cX2_init 329 = .ok (.aload_n 0, 1) := dk_42 (dk_at dksX2_init_13 21 rfl rfl)
theorem dX2_init_330 : decode cX2_init 330 = .ok (.bipush 8, 2) := dk_16 8 (dk_at dksX2_init_13 22 rfl rfl)
theorem dX2_init_332 : decode cX2_init 332 = .ok (.newarray .int, 2) := dk_188_10 (dk_at dksX2_init_14 0 rfl rfl)
theorem dX2_init_334 : decode cX2_init 334 = .ok (.putfield 131, 3) := dk_181 0 131 (dk_at dksX2_init_14 2 rfl rfl)
theorem dX2_init_337 : decode cX2_init 337 = .ok (.aload_n 0, 1) := dk_42 (dk_at dksX2_init_14 5 rfl rfl)
theorem dX2_init_338 : decode cX2_init 338 = .ok (.bipush 8, 2) := dk_16 8 (dk_at dksX2_init_14 6 rfl rfl)
theorem dX2_init_340 : decode cX2_init 340 = .ok (.newarray .int, 2) := dk_188_10 (dk_at dksX2_init_14 8 rfl rfl)
theorem dX2_init_342 : decode cX2_init 342 = .ok (.putfield 134, 3) := dk_181 0 134 (dk_at dksX2_init_14 10 rfl rfl)
theorem dX2_init_345 : decode cX2_init 345 = .ok (.aload_n 0, 1) := dk_42 (dk_at dksX2_init_14 13 rfl rfl)
theorem dX2_init_346 : decode cX2_init 346 = .ok (.bipush 7, 2) := dk_16 7 (dk_at dksX2_init_14 14 rfl rfl)
theorem dX2_init_348 : decode cX2_init 348 = .ok (.newarray .int, 2) := dk_188_10 (dk_at dksX2_init_14 16 rfl rfl)
theorem dX2_init_350 : decode cX2_init 350 = .ok (.putfield 137, 3) := dk_181 0 137 (dk_at dksX2_init_14 18 rfl rfl)
theorem dX2_init_353 : decode cX2_init 353 = .ok (.aload_n 0, 1) := dk_42 (dk_at dksX2_init_14 21 rfl rfl)
theorem dX2_init_354 : decode cX2_init 354 = .ok (.bipush 9, 2) := dk_16 9 (dk_at dksX2_init_14 22 rfl rfl)
theorem dX2_init_356 : decode cX2_init 356 = .ok (.newarray .long, 2) := dk_188_11 (dk_at dksX2_init_15 0 rfl rfl)
theorem dX2_init_358 : decode cX2_init 358 = .ok (.putfield 140, 3) := dk_181 0 140 (dk_at dksX2_init_15 2 rfl rfl)
theorem dX2_init_361 : decode cX2_init 361 = .ok (.aload_n 0, 1) := dk_42 (dk_at dksX2_init_15 5 rfl rfl)
theorem dX2_init_362 : decode cX2_init 362 = .ok (.bipush 8, 2) := dk_16 8 (dk_at dksX2_init_15 6 rfl rfl)
theorem dX2_init_364 : decode cX2_init 364 = .ok (.newarray .int, 2) := dk_188_10 (dk_at dksX2_init_15 8 rfl rfl)
theorem dX2_init_366 : decode cX2_init 366 = .ok (.putfield 143, 3) := dk_181 0 143 (dk_at dksX2_init_15 10 rfl rfl)
theorem dX2_init_369 : decode cX2_init 369 = .ok (.aload_n 0, 1) := dk_42 (dk_at dksX2_init_15 13 rfl rfl)
theorem dX2_init_370 : decode cX2_init 370 = .ok (.bipush 8, 2) := dk_16 8 (dk_at dksX2_init_15 14 rfl rfl)
theorem dX2_init_372 : decode cX2_init 372 = .ok (.newarray .int, 2) := dk_188_10 (dk_at dksX2_init_15 16 rfl rfl)
theorem dX2_init_374 : decode cX2_init 374 = .ok (.putfield 146, 3) := dk_181 0 146 (dk_at dksX2_init_15 18 rfl rfl)
theorem dX2_init_377 : decode cX2_init 377 = .ok (.aload_n 0, 1) := dk_42 (dk_at dksX2_init_15 21 rfl rfl)
theorem dX2_init_378 : decode cX2_init 378 = .ok (.bipush 8, 2) := dk_16 8 (dk_at dksX2_init_15 22 rfl rfl)
theorem dX2_init_380 : decode cX2_init 380 = .ok (.newarray .int, 2) := dk_188_10 (dk_at dksX2_init_16 0 rfl rfl)
theorem dX2_init_382 : decode cX2_init 382 = .ok (.putfield 149, 3) := dk_181 0 149 (dk_at dksX2_init_16 2 rfl rfl)
theorem dX2_init_385 : decode cX2_init 385 = .ok (.aload_n 0, 1) := dk_42 (dk_at dksX2_init_16 5 rfl rfl)
theorem dX2_init_386 : decode cX2_init 386 = .ok (.sipush 160, 3) := dk_17 0 160 (dk_at dksX2_init_16 6 rfl rfl)
theorem dX2_init_389 : decode cX2_init 389 = .ok (.newarray .int, 2) := dk_188_10 (dk_at dksX2_init_16 9 rfl rfl)
theorem dX2_init_391 : decode cX2_init 391 = .ok (.putfield 152, 3) := dk_181 0 152 (dk_at dksX2_init_16 11 rfl rfl)
theorem dX2_init_394 : decode cX2_init 394 = .ok (.aload_n 0, 1) := dk_42 (dk_at dksX2_init_16 14 rfl rfl)
theorem dX2_init_395 : decode cX2_init 395 = .ok (.iconst 4, 1) := dk_7 (dk_at dksX2_init_16 15 rfl rfl)
theorem dX2_init_396 : decode cX2_init 396 = .ok (.newarray .int, 2) := dk_188_10 (dk_at dksX2_init_16 16 rfl rfl)
theorem dX2_init_398 : decode cX2_init 398 = .ok (.dup, 1) := dk_89 (dk_at dksX2_init_16 18 rfl rfl)
theorem dX2_init_399 : decode cX2_init 399 = .ok (.iconst 0, 1) := dk_3 (dk_at dksX2_init_16 19 rfl rfl)
theorem dX2_init_400 : decode cX2_init 400 = .ok (.iconst (-1), 1) := dk_2 (dk_at dksX2_init_16 20 rfl rfl)
theorem dX2_init_401 : decode cX2_init 401 = .ok (.iastore, 1) := dk_79 (dk_at dksX2_init_16 21 rfl rfl)
theorem dX2_init_402 : decode cX2_init 402 = .ok (.dup, 1) := dk_89 (dk_at dksX2_init_16 22 rfl rfl)
theorem dX2_init_403 : decode cX2_init 403 = .ok (.iconst 1, 1) := dk_4 (dk_at dksX2_init_16 23 rfl rfl)
theorem dX2_init_404 : decode cX2_init 404 = .ok (.iconst (-1), 1) := dk_2 (dk_at dksX2_init_17 0 rfl rfl)
theorem dX2_init_405 : decode cX2_init 405 = .ok (.iastore, 1) := dk_79 (dk_at dksX2_init_17 1 rfl rfl)
theorem dX2_init_406 : decode cX2_init 406 = .ok (.dup, 1) := dk_89 (dk_at dksX2_init_17 2 rfl rfl)
theorem dX2_init_407 : decode cX2_init 407 = .ok (.iconst 2, 1) := dk_5 (dk_at dksX2_init_17 3 rfl rfl)
theorem dX2_init_408 : decode cX2_init 408 = .ok (.iconst (-1), 1) := dk_2 (dk_at dksX2_init_17 4 rfl rfl)
theorem dX2_init_409 : decode cX2_init 409 = .ok (.iastore, 1) := dk_79 (dk_at dksX2_init_17 5 rfl rfl)
theorem dX2_init_410 : decode cX2_init 410 = .ok (.dup, 1) := dk_89 (dk_at dksX2_init_17 6 rfl rfl)
theorem dX2_init_411 : decode cX2_init 411 = .ok (.iconst 3, 1) := dk_6 (dk_at dksX2_init_17 7 rfl rfl)
theorem dX2_init_412 : decode cX2_init 412 = .ok (.iconst (-1), 1) := dk_2 (dk_at dksX2_init_17 8 rfl rfl)
theorem dX2_init_413 : decode cX2_init 413 = .ok (.iastore, 1) := dk_79 (dk_at dksX2_init_17 9 rfl rfl)
theorem dX2_init_414 : decode cX2_init 414 = .ok (.putfield 155, 3) := dk_181 0 155 (dk_at dksX2_init_17 10 rfl rfl)
theorem dX2_init_417 : decode cX2_init 417 = .ok (.aload_n 0, 1) := dk_42 (dk_at dksX2_init_17 13 rfl rfl)
theorem dX2_init_418 : decode cX2_init 418 = .ok (.iconst 4, 1) := dk_7 (dk_at dksX2_init_17 14 rfl rfl)
theorem dX2_init_419 : decode cX2_init 419 = .ok (.newarray .int, 2) := dk_188_10 (dk_at dksX2_init_17 15 rfl rfl)
theorem dX2_init_421 : decode cX2_init 421 = .ok (.putfield 158, 3) := dk_181 0 158 (dk_at dksX2_init_17 17 rfl rfl)
theorem dX2_init_424 : decode cX2_init 424 = .ok (.aload_n 0, 1) := dk_42 (dk_at dksX2_init_17 20 rfl rfl)
theorem dX2_init_425 : decode cX2_init 425 = .ok (.sipush 160, 3) := dk_17 0 160 (dk_at dksX2_init_17 21 rfl rfl)
theorem dX2_init_428 : decode cX2_init 428 = .ok (.newarray .int, 2) := dk_188_10 (dk_at dksX2_init_18 0 rfl rfl)
theorem dX2_init_430 : decode cX2_init 430 = .ok (.putfield 161, 3) := dk_181 0 161 (dk_at dksX2_init_18 2 rfl rfl)
theorem dX2_init_433 : decode cX2_init 433 = .ok (.aload_n 0, 1) := dk_42 (dk_at dksX2_init_18 5 rfl rfl)
theorem dX2_init_434 : decode cX2_init 434 = .ok (.iconst 3, 1) := dk_6 (dk_at dksX2_init_18 6 rfl rfl)
theorem dX2_init_435 : decode cX2_init 435 = .ok (.bipush 18, 2) := dk_16 18 (dk_at dksX2_init_18 7 rfl rfl)
theorem dX2_init_437 : decode cX2_init 437 = .ok (.invokevirtual 164, 3) := dk_182 0 164 (dk_at dksX2_init_18 9 rfl rfl)
theorem dX2_init_440 : decode cX2_init 440 = .ok (.return_, 1) := dk_177 (dk_at dksX2_init_18 12 rfl rfl)
abbrev cX2_lays : ByteArray := prog_18_method_2_code
def yX2_lays : MethodName := ⟨RX2, "lays", "(II)V"⟩
def dkwX2_lays_1 : List UInt8 := [180, 0, 175, 27, 133, 105, 181, 0, 175, 132, 3, 1, 167, 255, 237, 42, 3, 181, 0, 179, 177]
abbrev dktX2_lays_1 : List UInt8 := dkwX2_lays_1 ++ []
def dkwX2_lays_0 : List UInt8 := [42, 27, 181, 0, 168, 42, 28, 181, 0, 172, 42, 10, 181, 0, 175, 3, 62, 29, 28, 162, 0, 20, 42, 89]
abbrev dktX2_lays_0 : List UInt8 := dkwX2_lays_0 ++ dktX2_lays_1
theorem dksX2_lays_0 : cX2_lays.data.toList.drop 0 = dktX2_lays_0 := by decide +kernel
theorem dksX2_lays_1 : cX2_lays.data.toList.drop 24 = dktX2_lays_1 := dk_seg dksX2_lays_0 24 rfl rfl
theorem dX2_lays_0 : decode cX2_lays 0 = .ok (.aload_n 0, 1) := dk_42 (dk_at dksX2_lays_0 0 rfl rfl)
theorem dX2_lays_1 : decode cX2_lays 1 = .ok (.iload_n 1, 1) := dk_27 (dk_at dksX2_lays_0 1 rfl rfl)
theorem dX2_lays_2 : decode cX2_lays 2 = .ok (.putfield 168, 3) := dk_181 0 168 (dk_at dksX2_lays_0 2 rfl rfl)
theorem dX2_lays_5 : decode cX2_lays 5 = .ok (.aload_n 0, 1) := dk_42 (dk_at dksX2_lays_0 5 rfl rfl)
theorem dX2_lays_6 : decode cX2_lays 6 = .ok (.iload_n 2, 1) := dk_28 (dk_at dksX2_lays_0 6 rfl rfl)
theorem dX2_lays_7 : decode cX2_lays 7 = .ok (.putfield 172, 3) := dk_181 0 172 (dk_at dksX2_lays_0 7 rfl rfl)
theorem dX2_lays_10 : decode cX2_lays 10 = .ok (.aload_n 0, 1) := dk_42 (dk_at dksX2_lays_0 10 rfl rfl)
theorem dX2_lays_11 : decode cX2_lays 11 = .ok (.lconst 1, 1) := dk_10 (dk_at dksX2_lays_0 11 rfl rfl)
theorem dX2_lays_12 : decode cX2_lays 12 = .ok (.putfield 175, 3) := dk_181 0 175 (dk_at dksX2_lays_0 12 rfl rfl)
theorem dX2_lays_15 : decode cX2_lays 15 = .ok (.iconst 0, 1) := dk_3 (dk_at dksX2_lays_0 15 rfl rfl)
theorem dX2_lays_16 : decode cX2_lays 16 = .ok (.istore_n 3, 1) := dk_62 (dk_at dksX2_lays_0 16 rfl rfl)
theorem dX2_lays_17 : decode cX2_lays 17 = .ok (.iload_n 3, 1) := dk_29 (dk_at dksX2_lays_0 17 rfl rfl)
theorem dX2_lays_18 : decode cX2_lays 18 = .ok (.iload_n 2, 1) := dk_28 (dk_at dksX2_lays_0 18 rfl rfl)
theorem dX2_lays_19 : decode cX2_lays 19 = .ok (.if_icmp .ge 20, 3) := dk_162 0 20 (dk_at dksX2_lays_0 19 rfl rfl)
theorem dX2_lays_22 : decode cX2_lays 22 = .ok (.aload_n 0, 1) := dk_42 (dk_at dksX2_lays_0 22 rfl rfl)
theorem dX2_lays_23 : decode cX2_lays 23 = .ok (.dup, 1) := dk_89 (dk_at dksX2_lays_0 23 rfl rfl)
theorem dX2_lays_24 : decode cX2_lays 24 = .ok (.getfield 175, 3) := dk_180 0 175 (dk_at dksX2_lays_1 0 rfl rfl)
theorem dX2_lays_27 : decode cX2_lays 27 = .ok (.iload_n 1, 1) := dk_27 (dk_at dksX2_lays_1 3 rfl rfl)
theorem dX2_lays_28 : decode cX2_lays 28 = .ok (.i2l, 1) := dk_133 (dk_at dksX2_lays_1 4 rfl rfl)
theorem dX2_lays_29 : decode cX2_lays 29 = .ok (.lmul, 1) := dk_105 (dk_at dksX2_lays_1 5 rfl rfl)
theorem dX2_lays_30 : decode cX2_lays 30 = .ok (.putfield 175, 3) := dk_181 0 175 (dk_at dksX2_lays_1 6 rfl rfl)
theorem dX2_lays_33 : decode cX2_lays 33 = .ok (.iinc 3 1, 3) := dk_132 3 1 (dk_at dksX2_lays_1 9 rfl rfl)
theorem dX2_lays_36 : decode cX2_lays 36 = .ok (.goto (-19), 3) := dk_167 255 237 (dk_at dksX2_lays_1 12 rfl rfl)
theorem dX2_lays_39 : decode cX2_lays 39 = .ok (.aload_n 0, 1) := dk_42 (dk_at dksX2_lays_1 15 rfl rfl)
theorem dX2_lays_40 : decode cX2_lays 40 = .ok (.iconst 0, 1) := dk_3 (dk_at dksX2_lays_1 16 rfl rfl)
theorem dX2_lays_41 : decode cX2_lays 41 = .ok (.putfield 179, 3) := dk_181 0 179 (dk_at dksX2_lays_1 17 rfl rfl)
theorem dX2_lays_44 : decode cX2_lays 44 = .ok (.return_, 1) := dk_177 (dk_at dksX2_lays_1 20 rfl rfl)
abbrev cX2_prime : ByteArray := prog_18_method_11_code
def yX2_prime : MethodName := ⟨RX2, "prime", "(I)I"⟩
def dkwX2_prime_2 : List UInt8 := [167, 0, 15, 27, 8, 160, 0, 8, 16, 12, 167, 0, 5, 16, 10, 182, 0, 164, 28, 172]
abbrev dktX2_prime_2 : List UInt8 := dkwX2_prime_2 ++ []
def dkwX2_prime_1 : List UInt8 := [180, 0, 168, 61, 42, 27, 27, 5, 160, 0, 8, 16, 28, 167, 0, 25, 27, 6, 160, 0, 8, 16, 18]
abbrev dktX2_prime_1 : List UInt8 := dkwX2_prime_1 ++ dktX2_prime_2
def dkwX2_prime_0 : List UInt8 := [27, 5, 159, 0, 21, 27, 6, 159, 0, 16, 27, 8, 159, 0, 11, 27, 16, 7, 159, 0, 5, 2, 172, 42]
abbrev dktX2_prime_0 : List UInt8 := dkwX2_prime_0 ++ dktX2_prime_1
theorem dksX2_prime_0 : cX2_prime.data.toList.drop 0 = dktX2_prime_0 := by decide +kernel
theorem dksX2_prime_1 : cX2_prime.data.toList.drop 24 = dktX2_prime_1 := dk_seg dksX2_prime_0 24 rfl rfl
theorem dksX2_prime_2 : cX2_prime.data.toList.drop 47 = dktX2_prime_2 := dk_seg dksX2_prime_1 23 rfl rfl
theorem dX2_prime_0 : decode cX2_prime 0 = .ok (.iload_n 1, 1) := dk_27 (dk_at dksX2_prime_0 0 rfl rfl)
theorem dX2_prime_1 : decode cX2_prime 1 = .ok (.iconst 2, 1) := dk_5 (dk_at dksX2_prime_0 1 rfl rfl)
theorem dX2_prime_2 : decode cX2_prime 2 = .ok (.if_icmp .eq 21, 3) := dk_159 0 21 (dk_at dksX2_prime_0 2 rfl rfl)
theorem dX2_prime_5 : decode cX2_prime 5 = .ok (.iload_n 1, 1) := dk_27 (dk_at dksX2_prime_0 5 rfl rfl)
theorem dX2_prime_6 : decode cX2_prime 6 = .ok (.iconst 3, 1) := dk_6 (dk_at dksX2_prime_0 6 rfl rfl)
theorem dX2_prime_7 : decode cX2_prime 7 = .ok (.if_icmp .eq 16, 3) := dk_159 0 16 (dk_at dksX2_prime_0 7 rfl rfl)
theorem dX2_prime_10 : decode cX2_prime 10 = .ok (.iload_n 1, 1) := dk_27 (dk_at dksX2_prime_0 10 rfl rfl)
theorem dX2_prime_11 : decode cX2_prime 11 = .ok (.iconst 5, 1) := dk_8 (dk_at dksX2_prime_0 11 rfl rfl)
theorem dX2_prime_12 : decode cX2_prime 12 = .ok (.if_icmp .eq 11, 3) := dk_159 0 11 (dk_at dksX2_prime_0 12 rfl rfl)
theorem dX2_prime_15 : decode cX2_prime 15 = .ok (.iload_n 1, 1) := dk_27 (dk_at dksX2_prime_0 15 rfl rfl)
theorem dX2_prime_16 : decode cX2_prime 16 = .ok (.bipush 7, 2) := dk_16 7 (dk_at dksX2_prime_0 16 rfl rfl)
theorem dX2_prime_18 : decode cX2_prime 18 = .ok (.if_icmp .eq 5, 3) := dk_159 0 5 (dk_at dksX2_prime_0 18 rfl rfl)
theorem dX2_prime_21 : decode cX2_prime 21 = .ok (.iconst (-1), 1) := dk_2 (dk_at dksX2_prime_0 21 rfl rfl)
theorem dX2_prime_22 : decode cX2_prime 22 = .ok (.ireturn, 1) := dk_172 (dk_at dksX2_prime_0 22 rfl rfl)
theorem dX2_prime_23 : decode cX2_prime 23 = .ok (.aload_n 0, 1) := dk_42 (dk_at dksX2_prime_0 23 rfl rfl)
theorem dX2_prime_24 : decode cX2_prime 24 = .ok (.getfield 168, 3) := dk_180 0 168 (dk_at dksX2_prime_1 0 rfl rfl)
theorem dX2_prime_27 : decode cX2_prime 27 = .ok (.istore_n 2, 1) := dk_61 (dk_at dksX2_prime_1 3 rfl rfl)
theorem dX2_prime_28 : decode cX2_prime 28 = .ok (.aload_n 0, 1) := dk_42 (dk_at dksX2_prime_1 4 rfl rfl)
theorem dX2_prime_29 : decode cX2_prime 29 = .ok (.iload_n 1, 1) := dk_27 (dk_at dksX2_prime_1 5 rfl rfl)
theorem dX2_prime_30 : decode cX2_prime 30 = .ok (.iload_n 1, 1) := dk_27 (dk_at dksX2_prime_1 6 rfl rfl)
theorem dX2_prime_31 : decode cX2_prime 31 = .ok (.iconst 2, 1) := dk_5 (dk_at dksX2_prime_1 7 rfl rfl)
theorem dX2_prime_32 : decode cX2_prime 32 = .ok (.if_icmp .ne 8, 3) := dk_160 0 8 (dk_at dksX2_prime_1 8 rfl rfl)
theorem dX2_prime_35 : decode cX2_prime 35 = .ok (.bipush 28, 2) := dk_16 28 (dk_at dksX2_prime_1 11 rfl rfl)
theorem dX2_prime_37 : decode cX2_prime 37 = .ok (.goto 25, 3) := dk_167 0 25 (dk_at dksX2_prime_1 13 rfl rfl)
theorem dX2_prime_40 : decode cX2_prime 40 = .ok (.iload_n 1, 1) := dk_27 (dk_at dksX2_prime_1 16 rfl rfl)
theorem dX2_prime_41 : decode cX2_prime 41 = .ok (.iconst 3, 1) := dk_6 (dk_at dksX2_prime_1 17 rfl rfl)
theorem dX2_prime_42 : decode cX2_prime 42 = .ok (.if_icmp .ne 8, 3) := dk_160 0 8 (dk_at dksX2_prime_1 18 rfl rfl)
theorem dX2_prime_45 : decode cX2_prime 45 = .ok (.bipush 18, 2) := dk_16 18 (dk_at dksX2_prime_1 21 rfl rfl)
theorem dX2_prime_47 : decode cX2_prime 47 = .ok (.goto 15, 3) := dk_167 0 15 (dk_at dksX2_prime_2 0 rfl rfl)
theorem dX2_prime_50 : decode cX2_prime 50 = .ok (.iload_n 1, 1) := dk_27 (dk_at dksX2_prime_2 3 rfl rfl)
theorem dX2_prime_51 : decode cX2_prime 51 = .ok (.iconst 5, 1) := dk_8 (dk_at dksX2_prime_2 4 rfl rfl)
theorem dX2_prime_52 : decode cX2_prime 52 = .ok (.if_icmp .ne 8, 3) := dk_160 0 8 (dk_at dksX2_prime_2 5 rfl rfl)
theorem dX2_prime_55 : decode cX2_prime 55 = .ok (.bipush 12, 2) := dk_16 12 (dk_at dksX2_prime_2 8 rfl rfl)
theorem dX2_prime_57 : decode cX2_prime 57 = .ok (.goto 5, 3) := dk_167 0 5 (dk_at dksX2_prime_2 10 rfl rfl)
theorem dX2_prime_60 : decode cX2_prime 60 = .ok (.bipush 10, 2) := dk_16 10 (dk_at dksX2_prime_2 13 rfl rfl)
theorem dX2_prime_62 : decode cX2_prime 62 = .ok (.invokevirtual 164, 3) := dk_182 0 164 (dk_at dksX2_prime_2 15 rfl rfl)
theorem dX2_prime_65 : decode cX2_prime 65 = .ok (.iload_n 2, 1) := dk_28 (dk_at dksX2_prime_2 18 rfl rfl)
theorem dX2_prime_66 : decode cX2_prime 66 = .ok (.ireturn, 1) := dk_172 (dk_at dksX2_prime_2 19 rfl rfl)
abbrev cX2_feed : ByteArray := prog_18_method_12_code
def yX2_feed : MethodName := ⟨RX2, "feed", "(I)I"⟩
def dkwX2_feed_2 : List UInt8 := [180, 0, 197, 172]
abbrev dktX2_feed_2 : List UInt8 := dkwX2_feed_2 ++ []
def dkwX2_feed_1 : List UInt8 := [16, 252, 172, 42, 180, 0, 13, 42, 180, 0, 197, 27, 79, 42, 89, 180, 0, 197, 4, 96, 181, 0, 197, 42]
abbrev dktX2_feed_1 : List UInt8 := dkwX2_feed_1 ++ dktX2_feed_2
def dkwX2_feed_0 : List UInt8 := [27, 133, 9, 20, 0, 191, 184, 0, 193, 154, 0, 5, 2, 172, 42, 180, 0, 197, 16, 80, 160, 0, 6]
abbrev dktX2_feed_0 : List UInt8 := dkwX2_feed_0 ++ dktX2_feed_1
theorem dksX2_feed_0 : cX2_feed.data.toList.drop 0 = dktX2_feed_0 := by decide +kernel
theorem dksX2_feed_1 : cX2_feed.data.toList.drop 23 = dktX2_feed_1 := dk_seg dksX2_feed_0 23 rfl rfl
theorem dksX2_feed_2 : cX2_feed.data.toList.drop 47 = dktX2_feed_2 := dk_seg dksX2_feed_1 24 rfl rfl
theorem dX2_feed_0 : decode cX2_feed 0 = .ok (.iload_n 1, 1) := dk_27 (dk_at dksX2_feed_0 0 rfl rfl)
theorem dX2_feed_1 : decode cX2_feed 1 = .ok (.i2l, 1) := dk_133 (dk_at dksX2_feed_0 1 rfl rfl)
theorem dX2_feed_2 : decode cX2_feed 2 = .ok (.lconst 0, 1) := dk_9 (dk_at dksX2_feed_0 2 rfl rfl)
theorem dX2_feed_3 : decode cX2_feed 3 = .ok (.ldc2_w 191, 3) := dk_20 0 191 (dk_at dksX2_feed_0 3 rfl rfl)
theorem dX2_feed_6 : decode cX2_feed 6 = .ok (.invokestatic 193, 3) := dk_184 0 193 (dk_at dksX2_feed_0 6 rfl rfl)
theorem dX2_feed_9 : decode cX2_feed 9 = .ok (.ifCond .ne 5, 3) := dk_154 0 5 (dk_at dksX2_feed_0 9 rfl rfl)
theorem dX2_feed_12 : decode cX2_feed 12 = .ok (.iconst (-1), 1) := dk_2 (dk_at dksX2_feed_0 12 rfl rfl)
theorem dX2_feed_13 : decode cX2_feed 13 = .ok (.ireturn, 1) := dk_172 (dk_at dksX2_feed_0 13 rfl rfl)
theorem dX2_feed_14 : decode cX2_feed 14 = .ok (.aload_n 0, 1) := dk_42 (dk_at dksX2_feed_0 14 rfl rfl)
theorem dX2_feed_15 : decode cX2_feed 15 = .ok (.getfield 197, 3) := dk_180 0 197 (dk_at dksX2_feed_0 15 rfl rfl)
theorem dX2_feed_18 : decode cX2_feed 18 = .ok (.bipush 80, 2) := dk_16 80 (dk_at dksX2_feed_0 18 rfl rfl)
theorem dX2_feed_20 : decode cX2_feed 20 = .ok (.if_icmp .ne 6, 3) := dk_160 0 6 (dk_at dksX2_feed_0 20 rfl rfl)
theorem dX2_feed_23 : decode cX2_feed 23 = .ok (.bipush (-4), 2) := dk_16 252 (dk_at dksX2_feed_1 0 rfl rfl)
theorem dX2_feed_25 : decode cX2_feed 25 = .ok (.ireturn, 1) := dk_172 (dk_at dksX2_feed_1 2 rfl rfl)
theorem dX2_feed_26 : decode cX2_feed 26 = .ok (.aload_n 0, 1) := dk_42 (dk_at dksX2_feed_1 3 rfl rfl)
theorem dX2_feed_27 : decode cX2_feed 27 = .ok (.getfield 13, 3) := dk_180 0 13 (dk_at dksX2_feed_1 4 rfl rfl)
theorem dX2_feed_30 : decode cX2_feed 30 = .ok (.aload_n 0, 1) := dk_42 (dk_at dksX2_feed_1 7 rfl rfl)
theorem dX2_feed_31 : decode cX2_feed 31 = .ok (.getfield 197, 3) := dk_180 0 197 (dk_at dksX2_feed_1 8 rfl rfl)
theorem dX2_feed_34 : decode cX2_feed 34 = .ok (.iload_n 1, 1) := dk_27 (dk_at dksX2_feed_1 11 rfl rfl)
theorem dX2_feed_35 : decode cX2_feed 35 = .ok (.iastore, 1) := dk_79 (dk_at dksX2_feed_1 12 rfl rfl)
theorem dX2_feed_36 : decode cX2_feed 36 = .ok (.aload_n 0, 1) := dk_42 (dk_at dksX2_feed_1 13 rfl rfl)
theorem dX2_feed_37 : decode cX2_feed 37 = .ok (.dup, 1) := dk_89 (dk_at dksX2_feed_1 14 rfl rfl)
theorem dX2_feed_38 : decode cX2_feed 38 = .ok (.getfield 197, 3) := dk_180 0 197 (dk_at dksX2_feed_1 15 rfl rfl)
theorem dX2_feed_41 : decode cX2_feed 41 = .ok (.iconst 1, 1) := dk_4 (dk_at dksX2_feed_1 18 rfl rfl)
theorem dX2_feed_42 : decode cX2_feed 42 = .ok (.iadd, 1) := dk_96 (dk_at dksX2_feed_1 19 rfl rfl)
theorem dX2_feed_43 : decode cX2_feed 43 = .ok (.putfield 197, 3) := dk_181 0 197 (dk_at dksX2_feed_1 20 rfl rfl)
theorem dX2_feed_46 : decode cX2_feed 46 = .ok (.aload_n 0, 1) := dk_42 (dk_at dksX2_feed_1 23 rfl rfl)
theorem dX2_feed_47 : decode cX2_feed 47 = .ok (.getfield 197, 3) := dk_180 0 197 (dk_at dksX2_feed_2 0 rfl rfl)
theorem dX2_feed_50 : decode cX2_feed 50 = .ok (.ireturn, 1) := dk_172 (dk_at dksX2_feed_2 3 rfl rfl)
abbrev cX2_in : ByteArray := prog_18_method_3_code
def yX2_in : MethodName := ⟨RX2, "in", "(JJJ)Z"⟩
def dkwX2_in_0 : List UInt8 := [30, 32, 148, 155, 0, 14, 30, 22, 4, 148, 157, 0, 7, 4, 167, 0, 4, 3, 172]
abbrev dktX2_in_0 : List UInt8 := dkwX2_in_0 ++ []
theorem dksX2_in_0 : cX2_in.data.toList.drop 0 = dktX2_in_0 := by decide +kernel
theorem dX2_in_0 : decode cX2_in 0 = .ok (.lload_n 0, 1) := dk_30 (dk_at dksX2_in_0 0 rfl rfl)
theorem dX2_in_1 : decode cX2_in 1 = .ok (.lload_n 2, 1) := dk_32 (dk_at dksX2_in_0 1 rfl rfl)
theorem dX2_in_2 : decode cX2_in 2 = .ok (.lcmp, 1) := dk_148 (dk_at dksX2_in_0 2 rfl rfl)
theorem dX2_in_3 : decode cX2_in 3 = .ok (.ifCond .lt 14, 3) := dk_155 0 14 (dk_at dksX2_in_0 3 rfl rfl)
theorem dX2_in_6 : decode cX2_in 6 = .ok (.lload_n 0, 1) := dk_30 (dk_at dksX2_in_0 6 rfl rfl)
theorem dX2_in_7 : decode cX2_in 7 = .ok (.lload 4, 2) := dk_22 4 (dk_at dksX2_in_0 7 rfl rfl)
theorem dX2_in_9 : decode cX2_in 9 = .ok (.lcmp, 1) := dk_148 (dk_at dksX2_in_0 9 rfl rfl)
theorem dX2_in_10 : decode cX2_in 10 = .ok (.ifCond .gt 7, 3) := dk_157 0 7 (dk_at dksX2_in_0 10 rfl rfl)
theorem dX2_in_13 : decode cX2_in 13 = .ok (.iconst 1, 1) := dk_4 (dk_at dksX2_in_0 13 rfl rfl)
theorem dX2_in_14 : decode cX2_in 14 = .ok (.goto 4, 3) := dk_167 0 4 (dk_at dksX2_in_0 14 rfl rfl)
theorem dX2_in_17 : decode cX2_in 17 = .ok (.iconst 0, 1) := dk_3 (dk_at dksX2_in_0 17 rfl rfl)
theorem dX2_in_18 : decode cX2_in 18 = .ok (.ireturn, 1) := dk_172 (dk_at dksX2_in_0 18 rfl rfl)
abbrev cX2_wipe : ByteArray := prog_18_method_13_code
def yX2_wipe : MethodName := ⟨RX2, "wipe", "()I"⟩
def dkwX2_wipe_0 : List UInt8 := [42, 180, 0, 197, 60, 42, 3, 181, 0, 197, 27, 172]
abbrev dktX2_wipe_0 : List UInt8 := dkwX2_wipe_0 ++ []
theorem dksX2_wipe_0 : cX2_wipe.data.toList.drop 0 = dktX2_wipe_0 := by decide +kernel
theorem dX2_wipe_0 : decode cX2_wipe 0 = .ok (.aload_n 0, 1) := dk_42 (dk_at dksX2_wipe_0 0 rfl rfl)
theorem dX2_wipe_1 : decode cX2_wipe 1 = .ok (.getfield 197, 3) := dk_180 0 197 (dk_at dksX2_wipe_0 1 rfl rfl)
theorem dX2_wipe_4 : decode cX2_wipe 4 = .ok (.istore_n 1, 1) := dk_60 (dk_at dksX2_wipe_0 4 rfl rfl)
theorem dX2_wipe_5 : decode cX2_wipe 5 = .ok (.aload_n 0, 1) := dk_42 (dk_at dksX2_wipe_0 5 rfl rfl)
theorem dX2_wipe_6 : decode cX2_wipe 6 = .ok (.iconst 0, 1) := dk_3 (dk_at dksX2_wipe_0 6 rfl rfl)
theorem dX2_wipe_7 : decode cX2_wipe 7 = .ok (.putfield 197, 3) := dk_181 0 197 (dk_at dksX2_wipe_0 7 rfl rfl)
theorem dX2_wipe_10 : decode cX2_wipe 10 = .ok (.iload_n 1, 1) := dk_27 (dk_at dksX2_wipe_0 10 rfl rfl)
theorem dX2_wipe_11 : decode cX2_wipe 11 = .ok (.ireturn, 1) := dk_172 (dk_at dksX2_wipe_0 11 rfl rfl)
abbrev cX2_text : ByteArray := prog_18_method_22_code
def yX2_text : MethodName := ⟨RX2, "text", "(I)I"⟩
def dkwX2_text_2 : List UInt8 := [16, 253, 172]
abbrev dktX2_text_2 : List UInt8 := dkwX2_text_2 ++ []
def dkwX2_text_1 : List UInt8 := [16, 156, 42, 180, 0, 200, 100, 172, 42, 27, 182, 0, 237, 153, 0, 11, 42, 27, 182, 0, 240, 167, 0, 5]
abbrev dktX2_text_1 : List UInt8 := dkwX2_text_1 ++ dktX2_text_2
def dkwX2_text_0 : List UInt8 := [27, 184, 0, 231, 154, 0, 5, 2, 172, 42, 182, 0, 234, 61, 42, 3, 181, 0, 197, 28, 154, 0, 11]
abbrev dktX2_text_0 : List UInt8 := dkwX2_text_0 ++ dktX2_text_1
theorem dksX2_text_0 : cX2_text.data.toList.drop 0 = dktX2_text_0 := by decide +kernel
theorem dksX2_text_1 : cX2_text.data.toList.drop 23 = dktX2_text_1 := dk_seg dksX2_text_0 23 rfl rfl
theorem dksX2_text_2 : cX2_text.data.toList.drop 47 = dktX2_text_2 := dk_seg dksX2_text_1 24 rfl rfl
theorem dX2_text_0 : decode cX2_text 0 = .ok (.iload_n 1, 1) := dk_27 (dk_at dksX2_text_0 0 rfl rfl)
theorem dX2_text_1 : decode cX2_text 1 = .ok (.invokestatic 231, 3) := dk_184 0 231 (dk_at dksX2_text_0 1 rfl rfl)
theorem dX2_text_4 : decode cX2_text 4 = .ok (.ifCond .ne 5, 3) := dk_154 0 5 (dk_at dksX2_text_0 4 rfl rfl)
theorem dX2_text_7 : decode cX2_text 7 = .ok (.iconst (-1), 1) := dk_2 (dk_at dksX2_text_0 7 rfl rfl)
theorem dX2_text_8 : decode cX2_text 8 = .ok (.ireturn, 1) := dk_172 (dk_at dksX2_text_0 8 rfl rfl)
theorem dX2_text_9 : decode cX2_text 9 = .ok (.aload_n 0, 1) := dk_42 (dk_at dksX2_text_0 9 rfl rfl)
theorem dX2_text_10 : decode cX2_text 10 = .ok (.invokevirtual 234, 3) := dk_182 0 234 (dk_at dksX2_text_0 10 rfl rfl)
theorem dX2_text_13 : decode cX2_text 13 = .ok (.istore_n 2, 1) := dk_61 (dk_at dksX2_text_0 13 rfl rfl)
theorem dX2_text_14 : decode cX2_text 14 = .ok (.aload_n 0, 1) := dk_42 (dk_at dksX2_text_0 14 rfl rfl)
theorem dX2_text_15 : decode cX2_text 15 = .ok (.iconst 0, 1) := dk_3 (dk_at dksX2_text_0 15 rfl rfl)
theorem dX2_text_16 : decode cX2_text 16 = .ok (.putfield 197, 3) := dk_181 0 197 (dk_at dksX2_text_0 16 rfl rfl)
theorem dX2_text_19 : decode cX2_text 19 = .ok (.iload_n 2, 1) := dk_28 (dk_at dksX2_text_0 19 rfl rfl)
theorem dX2_text_20 : decode cX2_text 20 = .ok (.ifCond .ne 11, 3) := dk_154 0 11 (dk_at dksX2_text_0 20 rfl rfl)
theorem dX2_text_23 : decode cX2_text 23 = .ok (.bipush (-100), 2) := dk_16 156 (dk_at dksX2_text_1 0 rfl rfl)
theorem dX2_text_25 : decode cX2_text 25 = .ok (.aload_n 0, 1) := dk_42 (dk_at dksX2_text_1 2 rfl rfl)
theorem dX2_text_26 : decode cX2_text 26 = .ok (.getfield 200, 3) := dk_180 0 200 (dk_at dksX2_text_1 3 rfl rfl)
theorem dX2_text_29 : decode cX2_text 29 = .ok (.isub, 1) := dk_100 (dk_at dksX2_text_1 6 rfl rfl)
theorem dX2_text_30 : decode cX2_text 30 = .ok (.ireturn, 1) := dk_172 (dk_at dksX2_text_1 7 rfl rfl)
theorem dX2_text_31 : decode cX2_text 31 = .ok (.aload_n 0, 1) := dk_42 (dk_at dksX2_text_1 8 rfl rfl)
theorem dX2_text_32 : decode cX2_text 32 = .ok (.iload_n 1, 1) := dk_27 (dk_at dksX2_text_1 9 rfl rfl)
theorem dX2_text_33 : decode cX2_text 33 = .ok (.invokevirtual 237, 3) := dk_182 0 237 (dk_at dksX2_text_1 10 rfl rfl)
theorem dX2_text_36 : decode cX2_text 36 = .ok (.ifCond .eq 11, 3) := dk_153 0 11 (dk_at dksX2_text_1 13 rfl rfl)
theorem dX2_text_39 : decode cX2_text 39 = .ok (.aload_n 0, 1) := dk_42 (dk_at dksX2_text_1 16 rfl rfl)
theorem dX2_text_40 : decode cX2_text 40 = .ok (.iload_n 1, 1) := dk_27 (dk_at dksX2_text_1 17 rfl rfl)
theorem dX2_text_41 : decode cX2_text 41 = .ok (.invokevirtual 240, 3) := dk_182 0 240 (dk_at dksX2_text_1 18 rfl rfl)
theorem dX2_text_44 : decode cX2_text 44 = .ok (.goto 5, 3) := dk_167 0 5 (dk_at dksX2_text_1 21 rfl rfl)
theorem dX2_text_47 : decode cX2_text 47 = .ok (.bipush (-3), 2) := dk_16 253 (dk_at dksX2_text_2 0 rfl rfl)
theorem dX2_text_49 : decode cX2_text 49 = .ok (.ireturn, 1) := dk_172 (dk_at dksX2_text_2 2 rfl rfl)
abbrev cX2_isSlot : ByteArray := prog_18_method_4_code
def yX2_isSlot : MethodName := ⟨RX2, "isSlot", "(I)Z"⟩
def dkwX2_isSlot_0 : List UInt8 := [26, 155, 0, 12, 26, 8, 162, 0, 7, 4, 167, 0, 4, 3, 172]
abbrev dktX2_isSlot_0 : List UInt8 := dkwX2_isSlot_0 ++ []
theorem dksX2_isSlot_0 : cX2_isSlot.data.toList.drop 0 = dktX2_isSlot_0 := by decide +kernel
theorem dX2_isSlot_0 : decode cX2_isSlot 0 = .ok (.iload_n 0, 1) := dk_26 (dk_at dksX2_isSlot_0 0 rfl rfl)
theorem dX2_isSlot_1 : decode cX2_isSlot 1 = .ok (.ifCond .lt 12, 3) := dk_155 0 12 (dk_at dksX2_isSlot_0 1 rfl rfl)
theorem dX2_isSlot_4 : decode cX2_isSlot 4 = .ok (.iload_n 0, 1) := dk_26 (dk_at dksX2_isSlot_0 4 rfl rfl)
theorem dX2_isSlot_5 : decode cX2_isSlot 5 = .ok (.iconst 5, 1) := dk_8 (dk_at dksX2_isSlot_0 5 rfl rfl)
theorem dX2_isSlot_6 : decode cX2_isSlot 6 = .ok (.if_icmp .ge 7, 3) := dk_162 0 7 (dk_at dksX2_isSlot_0 6 rfl rfl)
theorem dX2_isSlot_9 : decode cX2_isSlot 9 = .ok (.iconst 1, 1) := dk_4 (dk_at dksX2_isSlot_0 9 rfl rfl)
theorem dX2_isSlot_10 : decode cX2_isSlot 10 = .ok (.goto 4, 3) := dk_167 0 4 (dk_at dksX2_isSlot_0 10 rfl rfl)
theorem dX2_isSlot_13 : decode cX2_isSlot 13 = .ok (.iconst 0, 1) := dk_3 (dk_at dksX2_isSlot_0 13 rfl rfl)
theorem dX2_isSlot_14 : decode cX2_isSlot 14 = .ok (.ireturn, 1) := dk_172 (dk_at dksX2_isSlot_0 14 rfl rfl)
abbrev cX2_readsAll : ByteArray := prog_18_method_19_code
def yX2_readsAll : MethodName := ⟨RX2, "readsAll", "()Z"⟩
def dkwX2_readsAll_5 : List UInt8 := [4, 167, 0, 4, 3, 172]
abbrev dktX2_readsAll_5 : List UInt8 := dkwX2_readsAll_5 ++ []
def dkwX2_readsAll_4 : List UInt8 := [42, 27, 182, 0, 224, 61, 167, 255, 203, 28, 153, 0, 18, 42, 180, 0, 200, 42, 180, 0, 197, 160, 0, 7]
abbrev dktX2_readsAll_4 : List UInt8 := dkwX2_readsAll_4 ++ dktX2_readsAll_5
def dkwX2_readsAll_3 : List UInt8 := [182, 0, 203, 16, 45, 160, 0, 7, 2, 167, 0, 4, 4, 60, 42, 89, 180, 0, 200, 4, 96, 181, 0, 200]
abbrev dktX2_readsAll_3 : List UInt8 := dkwX2_readsAll_3 ++ dktX2_readsAll_4
def dkwX2_readsAll_2 : List UInt8 := [28, 153, 0, 55, 42, 182, 0, 203, 16, 43, 159, 0, 12, 42, 182, 0, 203, 16, 45, 160, 0, 37, 42]
abbrev dktX2_readsAll_2 : List UInt8 := dkwX2_readsAll_2 ++ dktX2_readsAll_3
def dkwX2_readsAll_1 : List UInt8 := [167, 255, 240, 42, 16, 45, 182, 0, 211, 153, 0, 7, 2, 167, 0, 4, 4, 60, 42, 27, 182, 0, 224, 61]
abbrev dktX2_readsAll_1 : List UInt8 := dkwX2_readsAll_1 ++ dktX2_readsAll_2
def dkwX2_readsAll_0 : List UInt8 := [42, 3, 181, 0, 200, 3, 60, 27, 16, 9, 162, 0, 16, 42, 180, 0, 16, 27, 9, 80, 132, 1, 1]
abbrev dktX2_readsAll_0 : List UInt8 := dkwX2_readsAll_0 ++ dktX2_readsAll_1
theorem dksX2_readsAll_0 : cX2_readsAll.data.toList.drop 0 = dktX2_readsAll_0 := by decide +kernel
theorem dksX2_readsAll_1 : cX2_readsAll.data.toList.drop 23 = dktX2_readsAll_1 := dk_seg dksX2_readsAll_0 23 rfl rfl
theorem dksX2_readsAll_2 : cX2_readsAll.data.toList.drop 47 = dktX2_readsAll_2 := dk_seg dksX2_readsAll_1 24 rfl rfl
theorem dksX2_readsAll_3 : cX2_readsAll.data.toList.drop 70 = dktX2_readsAll_3 := dk_seg dksX2_readsAll_2 23 rfl rfl
theorem dksX2_readsAll_4 : cX2_readsAll.data.toList.drop 94 = dktX2_readsAll_4 := dk_seg dksX2_readsAll_3 24 rfl rfl
theorem dksX2_readsAll_5 : cX2_readsAll.data.toList.drop 118 = dktX2_readsAll_5 := dk_seg dksX2_readsAll_4 24 rfl rfl
theorem dX2_readsAll_0 : decode cX2_readsAll 0 = .ok (.aload_n 0, 1) := dk_42 (dk_at dksX2_readsAll_0 0 rfl rfl)
theorem dX2_readsAll_1 : decode cX2_readsAll 1 = .ok (.iconst 0, 1) := dk_3 (dk_at dksX2_readsAll_0 1 rfl rfl)
theorem dX2_readsAll_2 : decode cX2_readsAll 2 = .ok (.putfield 200, 3) := dk_181 0 200 (dk_at dksX2_readsAll_0 2 rfl rfl)
theorem dX2_readsAll_5 : decode cX2_readsAll 5 = .ok (.iconst 0, 1) := dk_3 (dk_at dksX2_readsAll_0 5 rfl rfl)
theorem dX2_readsAll_6 : decode cX2_readsAll 6 = .ok (.istore_n 1, 1) := dk_60 (dk_at dksX2_readsAll_0 6 rfl rfl)
theorem dX2_readsAll_7 : decode cX2_readsAll 7 = .ok (.iload_n 1, 1) := dk_27 (dk_at dksX2_readsAll_0 7 rfl rfl)
theorem dX2_readsAll_8 : decode cX2_readsAll 8 = .ok (.bipush 9, 2) := dk_16 9 (dk_at dksX2_readsAll_0 8 rfl rfl)
theorem dX2_readsAll_10 : decode cX2_readsAll 10 = .ok (.if_icmp .ge 16, 3) := dk_162 0 16 (dk_at dksX2_readsAll_0 10 rfl rfl)
theorem dX2_readsAll_13 : decode cX2_readsAll 13 = .ok (.aload_n 0, 1) := dk_42 (dk_at dksX2_readsAll_0 13 rfl rfl)
theorem dX2_readsAll_14 : decode cX2_readsAll 14 = .ok (.getfield 16, 3) := dk_180 0 16 (dk_at dksX2_readsAll_0 14 rfl rfl)
theorem dX2_readsAll_17 : decode cX2_readsAll 17 = .ok (.iload_n 1, 1) := dk_27 (dk_at dksX2_readsAll_0 17 rfl rfl)
theorem dX2_readsAll_18 : decode cX2_readsAll 18 = .ok (.lconst 0, 1) := dk_9 (dk_at dksX2_readsAll_0 18 rfl rfl)
theorem dX2_readsAll_19 : decode cX2_readsAll 19 = .ok (.lastore, 1) := dk_80 (dk_at dksX2_readsAll_0 19 rfl rfl)
theorem dX2_readsAll_20 : decode cX2_readsAll 20 = .ok (.iinc 1 1, 3) := dk_132 1 1 (dk_at dksX2_readsAll_0 20 rfl rfl)
theorem dX2_readsAll_23 : decode cX2_readsAll 23 = .ok (.goto (-16), 3) := dk_167 255 240 (dk_at dksX2_readsAll_1 0 rfl rfl)
theorem dX2_readsAll_26 : decode cX2_readsAll 26 = .ok (.aload_n 0, 1) := dk_42 (dk_at dksX2_readsAll_1 3 rfl rfl)
theorem dX2_readsAll_27 : decode cX2_readsAll 27 = .ok (.bipush 45, 2) := dk_16 45 (dk_at dksX2_readsAll_1 4 rfl rfl)
theorem dX2_readsAll_29 : decode cX2_readsAll 29 = .ok (.invokevirtual 211, 3) := dk_182 0 211 (dk_at dksX2_readsAll_1 6 rfl rfl)
theorem dX2_readsAll_32 : decode cX2_readsAll 32 = .ok (.ifCond .eq 7, 3) := dk_153 0 7 (dk_at dksX2_readsAll_1 9 rfl rfl)
theorem dX2_readsAll_35 : decode cX2_readsAll 35 = .ok (.iconst (-1), 1) := dk_2 (dk_at dksX2_readsAll_1 12 rfl rfl)
theorem dX2_readsAll_36 : decode cX2_readsAll 36 = .ok (.goto 4, 3) := dk_167 0 4 (dk_at dksX2_readsAll_1 13 rfl rfl)
theorem dX2_readsAll_39 : decode cX2_readsAll 39 = .ok (.iconst 1, 1) := dk_4 (dk_at dksX2_readsAll_1 16 rfl rfl)
theorem dX2_readsAll_40 : decode cX2_readsAll 40 = .ok (.istore_n 1, 1) := dk_60 (dk_at dksX2_readsAll_1 17 rfl rfl)
theorem dX2_readsAll_41 : decode cX2_readsAll 41 = .ok (.aload_n 0, 1) := dk_42 (dk_at dksX2_readsAll_1 18 rfl rfl)
theorem dX2_readsAll_42 : decode cX2_readsAll 42 = .ok (.iload_n 1, 1) := dk_27 (dk_at dksX2_readsAll_1 19 rfl rfl)
theorem dX2_readsAll_43 : decode cX2_readsAll 43 = .ok (.invokevirtual 224, 3) := dk_182 0 224 (dk_at dksX2_readsAll_1 20 rfl rfl)
theorem dX2_readsAll_46 : decode cX2_readsAll 46 = .ok (.istore_n 2, 1) := dk_61 (dk_at dksX2_readsAll_1 23 rfl rfl)
theorem dX2_readsAll_47 : decode cX2_readsAll 47 = .ok (.iload_n 2, 1) := dk_28 (dk_at dksX2_readsAll_2 0 rfl rfl)
theorem dX2_readsAll_48 : decode cX2_readsAll 48 = .ok (.ifCond .eq 55, 3) := dk_153 0 55 (dk_at dksX2_readsAll_2 1 rfl rfl)
theorem dX2_readsAll_51 : decode cX2_readsAll 51 = .ok (.aload_n 0, 1) := dk_42 (dk_at dksX2_readsAll_2 4 rfl rfl)
theorem dX2_readsAll_52 : decode cX2_readsAll 52 = .ok (.invokevirtual 203, 3) := dk_182 0 203 (dk_at dksX2_readsAll_2 5 rfl rfl)
theorem dX2_readsAll_55 : decode cX2_readsAll 55 = .ok (.bipush 43, 2) := dk_16 43 (dk_at dksX2_readsAll_2 8 rfl rfl)
theorem dX2_readsAll_57 : decode cX2_readsAll 57 = .ok (.if_icmp .eq 12, 3) := dk_159 0 12 (dk_at dksX2_readsAll_2 10 rfl rfl)
theorem dX2_readsAll_60 : decode cX2_readsAll 60 = .ok (.aload_n 0, 1) := dk_42 (dk_at dksX2_readsAll_2 13 rfl rfl)
theorem dX2_readsAll_61 : decode cX2_readsAll 61 = .ok (.invokevirtual 203, 3) := dk_182 0 203 (dk_at dksX2_readsAll_2 14 rfl rfl)
theorem dX2_readsAll_64 : decode cX2_readsAll 64 = .ok (.bipush 45, 2) := dk_16 45 (dk_at dksX2_readsAll_2 17 rfl rfl)
theorem dX2_readsAll_66 : decode cX2_readsAll 66 = .ok (.if_icmp .ne 37, 3) := dk_160 0 37 (dk_at dksX2_readsAll_2 19 rfl rfl)
theorem dX2_readsAll_69 : decode cX2_readsAll 69 = .ok (.aload_n 0, 1) := dk_42 (dk_at dksX2_readsAll_2 22 rfl rfl)
theorem dX2_readsAll_70 : decode cX2_readsAll 70 = .ok (.invokevirtual 203, 3) := dk_182 0 203 (dk_at dksX2_readsAll_3 0 rfl rfl)
theorem dX2_readsAll_73 : decode cX2_readsAll 73 = .ok (.bipush 45, 2) := dk_16 45 (dk_at dksX2_readsAll_3 3 rfl rfl)
theorem dX2_readsAll_75 : decode cX2_readsAll 75 = .ok (.if_icmp .ne 7, 3) := dk_160 0 7 (dk_at dksX2_readsAll_3 5 rfl rfl)
theorem dX2_readsAll_78 : decode cX2_readsAll 78 = .ok (.iconst (-1), 1) := dk_2 (dk_at dksX2_readsAll_3 8 rfl rfl)
theorem dX2_readsAll_79 : decode cX2_readsAll 79 = .ok (.goto 4, 3) := dk_167 0 4 (dk_at dksX2_readsAll_3 9 rfl rfl)
theorem dX2_readsAll_82 : decode cX2_readsAll 82 = .ok (.iconst 1, 1) := dk_4 (dk_at dksX2_readsAll_3 12 rfl rfl)
theorem dX2_readsAll_83 : decode cX2_readsAll 83 = .ok (.istore_n 1, 1) := dk_60 (dk_at dksX2_readsAll_3 13 rfl rfl)
theorem dX2_readsAll_84 : decode cX2_readsAll 84 = .ok (.aload_n 0, 1) := dk_42 (dk_at dksX2_readsAll_3 14 rfl rfl)
theorem dX2_readsAll_85 : decode cX2_readsAll 85 = .ok (.dup, 1) := dk_89 (dk_at dksX2_readsAll_3 15 rfl rfl)
theorem dX2_readsAll_86 : decode cX2_readsAll 86 = .ok (.getfield 200, 3) := dk_180 0 200 (dk_at dksX2_readsAll_3 16 rfl rfl)
theorem dX2_readsAll_89 : decode cX2_readsAll 89 = .ok (.iconst 1, 1) := dk_4 (dk_at dksX2_readsAll_3 19 rfl rfl)
theorem dX2_readsAll_90 : decode cX2_readsAll 90 = .ok (.iadd, 1) := dk_96 (dk_at dksX2_readsAll_3 20 rfl rfl)
theorem dX2_readsAll_91 : decode cX2_readsAll 91 = .ok (.putfield 200, 3) := dk_181 0 200 (dk_at dksX2_readsAll_3 21 rfl rfl)
theorem dX2_readsAll_94 : decode cX2_readsAll 94 = .ok (.aload_n 0, 1) := dk_42 (dk_at dksX2_readsAll_4 0 rfl rfl)
theorem dX2_readsAll_95 : decode cX2_readsAll 95 = .ok (.iload_n 1, 1) := dk_27 (dk_at dksX2_readsAll_4 1 rfl rfl)
theorem dX2_readsAll_96 : decode cX2_readsAll 96 = .ok (.invokevirtual 224, 3) := dk_182 0 224 (dk_at dksX2_readsAll_4 2 rfl rfl)
theorem dX2_readsAll_99 : decode cX2_readsAll 99 = .ok (.istore_n 2, 1) := dk_61 (dk_at dksX2_readsAll_4 5 rfl rfl)
theorem dX2_readsAll_100 : decode cX2_readsAll 100 = .ok (.goto (-53), 3) := dk_167 255 203 (dk_at dksX2_readsAll_4 6 rfl rfl)
theorem dX2_readsAll_103 : decode cX2_readsAll 103 = .ok (.iload_n 2, 1) := dk_28 (dk_at dksX2_readsAll_4 9 rfl rfl)
theorem dX2_readsAll_104 : decode cX2_readsAll 104 = .ok (.ifCond .eq 18, 3) := dk_153 0 18 (dk_at dksX2_readsAll_4 10 rfl rfl)
theorem dX2_readsAll_107 : decode cX2_readsAll 107 = .ok (.aload_n 0, 1) := dk_42 (dk_at dksX2_readsAll_4 13 rfl rfl)
theorem dX2_readsAll_108 : decode cX2_readsAll 108 = .ok (.getfield 200, 3) := dk_180 0 200 (dk_at dksX2_readsAll_4 14 rfl rfl)
theorem dX2_readsAll_111 : decode cX2_readsAll 111 = .ok (.aload_n 0, 1) := dk_42 (dk_at dksX2_readsAll_4 17 rfl rfl)
theorem dX2_readsAll_112 : decode cX2_readsAll 112 = .ok (.getfield 197, 3) := dk_180 0 197 (dk_at dksX2_readsAll_4 18 rfl rfl)
theorem dX2_readsAll_115 : decode cX2_readsAll 115 = .ok (.if_icmp .ne 7, 3) := dk_160 0 7 (dk_at dksX2_readsAll_4 21 rfl rfl)
theorem dX2_readsAll_118 : decode cX2_readsAll 118 = .ok (.iconst 1, 1) := dk_4 (dk_at dksX2_readsAll_5 0 rfl rfl)
theorem dX2_readsAll_119 : decode cX2_readsAll 119 = .ok (.goto 4, 3) := dk_167 0 4 (dk_at dksX2_readsAll_5 1 rfl rfl)
theorem dX2_readsAll_122 : decode cX2_readsAll 122 = .ok (.iconst 0, 1) := dk_3 (dk_at dksX2_readsAll_5 4 rfl rfl)
theorem dX2_readsAll_123 : decode cX2_readsAll 123 = .ok (.ireturn, 1) := dk_172 (dk_at dksX2_readsAll_5 5 rfl rfl)
abbrev cX2_takes : ByteArray := prog_18_method_16_code
def yX2_takes : MethodName := ⟨RX2, "takes", "(I)Z"⟩
def dkwX2_takes_1 : List UInt8 := [167, 0, 4, 3, 96, 181, 0, 200, 28, 172]
abbrev dktX2_takes_1 : List UInt8 := dkwX2_takes_1 ++ []
def dkwX2_takes_0 : List UInt8 := [42, 182, 0, 203, 27, 160, 0, 7, 4, 167, 0, 4, 3, 61, 42, 89, 180, 0, 200, 28, 153, 0, 7, 4]
abbrev dktX2_takes_0 : List UInt8 := dkwX2_takes_0 ++ dktX2_takes_1
theorem dksX2_takes_0 : cX2_takes.data.toList.drop 0 = dktX2_takes_0 := by decide +kernel
theorem dksX2_takes_1 : cX2_takes.data.toList.drop 24 = dktX2_takes_1 := dk_seg dksX2_takes_0 24 rfl rfl
theorem dX2_takes_0 : decode cX2_takes 0 = .ok (.aload_n 0, 1) := dk_42 (dk_at dksX2_takes_0 0 rfl rfl)
theorem dX2_takes_1 : decode cX2_takes 1 = .ok (.invokevirtual 203, 3) := dk_182 0 203 (dk_at dksX2_takes_0 1 rfl rfl)
theorem dX2_takes_4 : decode cX2_takes 4 = .ok (.iload_n 1, 1) := dk_27 (dk_at dksX2_takes_0 4 rfl rfl)
theorem dX2_takes_5 : decode cX2_takes 5 = .ok (.if_icmp .ne 7, 3) := dk_160 0 7 (dk_at dksX2_takes_0 5 rfl rfl)
theorem dX2_takes_8 : decode cX2_takes 8 = .ok (.iconst 1, 1) := dk_4 (dk_at dksX2_takes_0 8 rfl rfl)
theorem dX2_takes_9 : decode cX2_takes 9 = .ok (.goto 4, 3) := dk_167 0 4 (dk_at dksX2_takes_0 9 rfl rfl)
theorem dX2_takes_12 : decode cX2_takes 12 = .ok (.iconst 0, 1) := dk_3 (dk_at dksX2_takes_0 12 rfl rfl)
theorem dX2_takes_13 : decode cX2_takes 13 = .ok (.istore_n 2, 1) := dk_61 (dk_at dksX2_takes_0 13 rfl rfl)
theorem dX2_takes_14 : decode cX2_takes 14 = .ok (.aload_n 0, 1) := dk_42 (dk_at dksX2_takes_0 14 rfl rfl)
theorem dX2_takes_15 : decode cX2_takes 15 = .ok (.dup, 1) := dk_89 (dk_at dksX2_takes_0 15 rfl rfl)
theorem dX2_takes_16 : decode cX2_takes 16 = .ok (.getfield 200, 3) := dk_180 0 200 (dk_at dksX2_takes_0 16 rfl rfl)
theorem dX2_takes_19 : decode cX2_takes 19 = .ok (.iload_n 2, 1) := dk_28 (dk_at dksX2_takes_0 19 rfl rfl)
theorem dX2_takes_20 : decode cX2_takes 20 = .ok (.ifCond .eq 7, 3) := dk_153 0 7 (dk_at dksX2_takes_0 20 rfl rfl)
theorem dX2_takes_23 : decode cX2_takes 23 = .ok (.iconst 1, 1) := dk_4 (dk_at dksX2_takes_0 23 rfl rfl)
theorem dX2_takes_24 : decode cX2_takes 24 = .ok (.goto 4, 3) := dk_167 0 4 (dk_at dksX2_takes_1 0 rfl rfl)
theorem dX2_takes_27 : decode cX2_takes 27 = .ok (.iconst 0, 1) := dk_3 (dk_at dksX2_takes_1 3 rfl rfl)
theorem dX2_takes_28 : decode cX2_takes 28 = .ok (.iadd, 1) := dk_96 (dk_at dksX2_takes_1 4 rfl rfl)
theorem dX2_takes_29 : decode cX2_takes 29 = .ok (.putfield 200, 3) := dk_181 0 200 (dk_at dksX2_takes_1 5 rfl rfl)
theorem dX2_takes_32 : decode cX2_takes 32 = .ok (.iload_n 2, 1) := dk_28 (dk_at dksX2_takes_1 8 rfl rfl)
theorem dX2_takes_33 : decode cX2_takes 33 = .ok (.ireturn, 1) := dk_172 (dk_at dksX2_takes_1 9 rfl rfl)
abbrev cX2_here : ByteArray := prog_18_method_14_code
def yX2_here : MethodName := ⟨RX2, "here", "()I"⟩
def dkwX2_here_1 : List UInt8 := [172]
abbrev dktX2_here_1 : List UInt8 := dkwX2_here_1 ++ []
def dkwX2_here_0 : List UInt8 := [42, 180, 0, 200, 42, 180, 0, 197, 162, 0, 15, 42, 180, 0, 13, 42, 180, 0, 200, 46, 167, 0, 4, 2]
abbrev dktX2_here_0 : List UInt8 := dkwX2_here_0 ++ dktX2_here_1
theorem dksX2_here_0 : cX2_here.data.toList.drop 0 = dktX2_here_0 := by decide +kernel
theorem dksX2_here_1 : cX2_here.data.toList.drop 24 = dktX2_here_1 := dk_seg dksX2_here_0 24 rfl rfl
theorem dX2_here_0 : decode cX2_here 0 = .ok (.aload_n 0, 1) := dk_42 (dk_at dksX2_here_0 0 rfl rfl)
theorem dX2_here_1 : decode cX2_here 1 = .ok (.getfield 200, 3) := dk_180 0 200 (dk_at dksX2_here_0 1 rfl rfl)
theorem dX2_here_4 : decode cX2_here 4 = .ok (.aload_n 0, 1) := dk_42 (dk_at dksX2_here_0 4 rfl rfl)
theorem dX2_here_5 : decode cX2_here 5 = .ok (.getfield 197, 3) := dk_180 0 197 (dk_at dksX2_here_0 5 rfl rfl)
theorem dX2_here_8 : decode cX2_here 8 = .ok (.if_icmp .ge 15, 3) := dk_162 0 15 (dk_at dksX2_here_0 8 rfl rfl)
theorem dX2_here_11 : decode cX2_here 11 = .ok (.aload_n 0, 1) := dk_42 (dk_at dksX2_here_0 11 rfl rfl)
theorem dX2_here_12 : decode cX2_here 12 = .ok (.getfield 13, 3) := dk_180 0 13 (dk_at dksX2_here_0 12 rfl rfl)
theorem dX2_here_15 : decode cX2_here 15 = .ok (.aload_n 0, 1) := dk_42 (dk_at dksX2_here_0 15 rfl rfl)
theorem dX2_here_16 : decode cX2_here 16 = .ok (.getfield 200, 3) := dk_180 0 200 (dk_at dksX2_here_0 16 rfl rfl)
theorem dX2_here_19 : decode cX2_here 19 = .ok (.iaload, 1) := dk_46 (dk_at dksX2_here_0 19 rfl rfl)
theorem dX2_here_20 : decode cX2_here 20 = .ok (.goto 4, 3) := dk_167 0 4 (dk_at dksX2_here_0 20 rfl rfl)
theorem dX2_here_23 : decode cX2_here 23 = .ok (.iconst (-1), 1) := dk_2 (dk_at dksX2_here_0 23 rfl rfl)
theorem dX2_here_24 : decode cX2_here 24 = .ok (.ireturn, 1) := dk_172 (dk_at dksX2_here_1 0 rfl rfl)
abbrev cX2_readsTerm : ByteArray := prog_18_method_18_code
def yX2_readsTerm : MethodName := ⟨RX2, "readsTerm", "(I)Z"⟩
def dkwX2_readsTerm_4 : List UInt8 := [3, 172, 42, 180, 0, 16, 29, 92, 47, 27, 28, 104, 133, 97, 80, 4, 172]
abbrev dktX2_readsTerm_4 : List UInt8 := dkwX2_readsTerm_4 ++ []
def dkwX2_readsTerm_3 : List UInt8 := [153, 0, 10, 42, 182, 0, 221, 167, 0, 4, 3, 62, 167, 0, 8, 42, 182, 0, 221, 62, 29, 156, 0, 5]
abbrev dktX2_readsTerm_3 : List UInt8 := dkwX2_readsTerm_3 ++ dktX2_readsTerm_4
def dkwX2_readsTerm_2 : List UInt8 := [42, 89, 180, 0, 200, 4, 96, 181, 0, 200, 132, 4, 1, 167, 255, 212, 42, 16, 42, 182, 0, 211]
abbrev dktX2_readsTerm_2 : List UInt8 := dkwX2_readsTerm_2 ++ dktX2_readsTerm_3
def dkwX2_readsTerm_1 : List UInt8 := [182, 0, 217, 153, 0, 37, 16, 10, 28, 104, 42, 180, 0, 13, 42, 180, 0, 200, 46, 96, 16, 48, 100, 61]
abbrev dktX2_readsTerm_1 : List UInt8 := dkwX2_readsTerm_1 ++ dktX2_readsTerm_2
def dkwX2_readsTerm_0 : List UInt8 := [4, 61, 3, 62, 42, 182, 0, 217, 153, 0, 76, 3, 61, 3, 54, 4, 21, 4, 7, 162, 0, 44, 42]
abbrev dktX2_readsTerm_0 : List UInt8 := dkwX2_readsTerm_0 ++ dktX2_readsTerm_1
theorem dksX2_readsTerm_0 : cX2_readsTerm.data.toList.drop 0 = dktX2_readsTerm_0 := by decide +kernel
theorem dksX2_readsTerm_1 : cX2_readsTerm.data.toList.drop 23 = dktX2_readsTerm_1 := dk_seg dksX2_readsTerm_0 23 rfl rfl
theorem dksX2_readsTerm_2 : cX2_readsTerm.data.toList.drop 47 = dktX2_readsTerm_2 := dk_seg dksX2_readsTerm_1 24 rfl rfl
theorem dksX2_readsTerm_3 : cX2_readsTerm.data.toList.drop 69 = dktX2_readsTerm_3 := dk_seg dksX2_readsTerm_2 22 rfl rfl
theorem dksX2_readsTerm_4 : cX2_readsTerm.data.toList.drop 93 = dktX2_readsTerm_4 := dk_seg dksX2_readsTerm_3 24 rfl rfl
theorem dX2_readsTerm_0 : decode cX2_readsTerm 0 = .ok (.iconst 1, 1) := dk_4 (dk_at dksX2_readsTerm_0 0 rfl rfl)
theorem dX2_readsTerm_1 : decode cX2_readsTerm 1 = .ok (.istore_n 2, 1) := dk_61 (dk_at dksX2_readsTerm_0 1 rfl rfl)
theorem dX2_readsTerm_2 : decode cX2_readsTerm 2 = .ok (.iconst 0, 1) := dk_3 (dk_at dksX2_readsTerm_0 2 rfl rfl)
theorem dX2_readsTerm_3 : decode cX2_readsTerm 3 = .ok (.istore_n 3, 1) := dk_62 (dk_at dksX2_readsTerm_0 3 rfl rfl)
theorem dX2_readsTerm_4 : decode cX2_readsTerm 4 = .ok (.aload_n 0, 1) := dk_42 (dk_at dksX2_readsTerm_0 4 rfl rfl)
theorem dX2_readsTerm_5 : decode cX2_readsTerm 5 = .ok (.invokevirtual 217, 3) := dk_182 0 217 (dk_at dksX2_readsTerm_0 5 rfl rfl)
theorem dX2_readsTerm_8 : decode cX2_readsTerm 8 = .ok (.ifCond .eq 76, 3) := dk_153 0 76 (dk_at dksX2_readsTerm_0 8 rfl rfl)
theorem dX2_readsTerm_11 : decode cX2_readsTerm 11 = .ok (.iconst 0, 1) := dk_3 (dk_at dksX2_readsTerm_0 11 rfl rfl)
theorem dX2_readsTerm_12 : decode cX2_readsTerm 12 = .ok (.istore_n 2, 1) := dk_61 (dk_at dksX2_readsTerm_0 12 rfl rfl)
theorem dX2_readsTerm_13 : decode cX2_readsTerm 13 = .ok (.iconst 0, 1) := dk_3 (dk_at dksX2_readsTerm_0 13 rfl rfl)
theorem dX2_readsTerm_14 : decode cX2_readsTerm 14 = .ok (.istore 4, 2) := dk_54 4 (dk_at dksX2_readsTerm_0 14 rfl rfl)
theorem dX2_readsTerm_16 : decode cX2_readsTerm 16 = .ok (.iload 4, 2) := dk_21 4 (dk_at dksX2_readsTerm_0 16 rfl rfl)
theorem dX2_readsTerm_18 : decode cX2_readsTerm 18 = .ok (.iconst 4, 1) := dk_7 (dk_at dksX2_readsTerm_0 18 rfl rfl)
theorem dX2_readsTerm_19 : decode cX2_readsTerm 19 = .ok (.if_icmp .ge 44, 3) := dk_162 0 44 (dk_at dksX2_readsTerm_0 19 rfl rfl)
theorem dX2_readsTerm_22 : decode cX2_readsTerm 22 = .ok (.aload_n 0, 1) := dk_42 (dk_at dksX2_readsTerm_0 22 rfl rfl)
theorem dX2_readsTerm_23 : decode cX2_readsTerm 23 = .ok (.invokevirtual 217, 3) := dk_182 0 217 (dk_at dksX2_readsTerm_1 0 rfl rfl)
theorem dX2_readsTerm_26 : decode cX2_readsTerm 26 = .ok (.ifCond .eq 37, 3) := dk_153 0 37 (dk_at dksX2_readsTerm_1 3 rfl rfl)
theorem dX2_readsTerm_29 : decode cX2_readsTerm 29 = .ok (.bipush 10, 2) := dk_16 10 (dk_at dksX2_readsTerm_1 6 rfl rfl)
theorem dX2_readsTerm_31 : decode cX2_readsTerm 31 = .ok (.iload_n 2, 1) := dk_28 (dk_at dksX2_readsTerm_1 8 rfl rfl)
theorem dX2_readsTerm_32 : decode cX2_readsTerm 32 = .ok (.imul, 1) := dk_104 (dk_at dksX2_readsTerm_1 9 rfl rfl)
theorem dX2_readsTerm_33 : decode cX2_readsTerm 33 = .ok (.aload_n 0, 1) := dk_42 (dk_at dksX2_readsTerm_1 10 rfl rfl)
theorem dX2_readsTerm_34 : decode cX2_readsTerm 34 = .ok (.getfield 13, 3) := dk_180 0 13 (dk_at dksX2_readsTerm_1 11 rfl rfl)
theorem dX2_readsTerm_37 : decode cX2_readsTerm 37 = .ok (.aload_n 0, 1) := dk_42 (dk_at dksX2_readsTerm_1 14 rfl rfl)
theorem dX2_readsTerm_38 : decode cX2_readsTerm 38 = .ok (.getfield 200, 3) := dk_180 0 200 (dk_at dksX2_readsTerm_1 15 rfl rfl)
theorem dX2_readsTerm_41 : decode cX2_readsTerm 41 = .ok (.iaload, 1) := dk_46 (dk_at dksX2_readsTerm_1 18 rfl rfl)
theorem dX2_readsTerm_42 : decode cX2_readsTerm 42 = .ok (.iadd, 1) := dk_96 (dk_at dksX2_readsTerm_1 19 rfl rfl)
theorem dX2_readsTerm_43 : decode cX2_readsTerm 43 = .ok (.bipush 48, 2) := dk_16 48 (dk_at dksX2_readsTerm_1 20 rfl rfl)
theorem dX2_readsTerm_45 : decode cX2_readsTerm 45 = .ok (.isub, 1) := dk_100 (dk_at dksX2_readsTerm_1 22 rfl rfl)
theorem dX2_readsTerm_46 : decode cX2_readsTerm 46 = .ok (.istore_n 2, 1) := dk_61 (dk_at dksX2_readsTerm_1 23 rfl rfl)
theorem dX2_readsTerm_47 : decode cX2_readsTerm 47 = .ok (.aload_n 0, 1) := dk_42 (dk_at dksX2_readsTerm_2 0 rfl rfl)
theorem dX2_readsTerm_48 : decode cX2_readsTerm 48 = .ok (.dup, 1) := dk_89 (dk_at dksX2_readsTerm_2 1 rfl rfl)
theorem dX2_readsTerm_49 : decode cX2_readsTerm 49 = .ok (.getfield 200, 3) := dk_180 0 200 (dk_at dksX2_readsTerm_2 2 rfl rfl)
theorem dX2_readsTerm_52 : decode cX2_readsTerm 52 = .ok (.iconst 1, 1) := dk_4 (dk_at dksX2_readsTerm_2 5 rfl rfl)
theorem dX2_readsTerm_53 : decode cX2_readsTerm 53 = .ok (.iadd, 1) := dk_96 (dk_at dksX2_readsTerm_2 6 rfl rfl)
theorem dX2_readsTerm_54 : decode cX2_readsTerm 54 = .ok (.putfield 200, 3) := dk_181 0 200 (dk_at dksX2_readsTerm_2 7 rfl rfl)
theorem dX2_readsTerm_57 : decode cX2_readsTerm 57 = .ok (.iinc 4 1, 3) := dk_132 4 1 (dk_at dksX2_readsTerm_2 10 rfl rfl)
theorem dX2_readsTerm_60 : decode cX2_readsTerm 60 = .ok (.goto (-44), 3) := dk_167 255 212 (dk_at dksX2_readsTerm_2 13 rfl rfl)
theorem dX2_readsTerm_63 : decode cX2_readsTerm 63 = .ok (.aload_n 0, 1) := dk_42 (dk_at dksX2_readsTerm_2 16 rfl rfl)
theorem dX2_readsTerm_64 : decode cX2_readsTerm 64 = .ok (.bipush 42, 2) := dk_16 42 (dk_at dksX2_readsTerm_2 17 rfl rfl)
theorem dX2_readsTerm_66 : decode cX2_readsTerm 66 = .ok (.invokevirtual 211, 3) := dk_182 0 211 (dk_at dksX2_readsTerm_2 19 rfl rfl)
theorem dX2_readsTerm_69 : decode cX2_readsTerm 69 = .ok (.ifCond .eq 10, 3) := dk_153 0 10 (dk_at dksX2_readsTerm_3 0 rfl rfl)
theorem dX2_readsTerm_72 : decode cX2_readsTerm 72 = .ok (.aload_n 0, 1) := dk_42 (dk_at dksX2_readsTerm_3 3 rfl rfl)
theorem dX2_readsTerm_73 : decode cX2_readsTerm 73 = .ok (.invokevirtual 221, 3) := dk_182 0 221 (dk_at dksX2_readsTerm_3 4 rfl rfl)
theorem dX2_readsTerm_76 : decode cX2_readsTerm 76 = .ok (.goto 4, 3) := dk_167 0 4 (dk_at dksX2_readsTerm_3 7 rfl rfl)
theorem dX2_readsTerm_79 : decode cX2_readsTerm 79 = .ok (.iconst 0, 1) := dk_3 (dk_at dksX2_readsTerm_3 10 rfl rfl)
theorem dX2_readsTerm_80 : decode cX2_readsTerm 80 = .ok (.istore_n 3, 1) := dk_62 (dk_at dksX2_readsTerm_3 11 rfl rfl)
theorem dX2_readsTerm_81 : decode cX2_readsTerm 81 = .ok (.goto 8, 3) := dk_167 0 8 (dk_at dksX2_readsTerm_3 12 rfl rfl)
theorem dX2_readsTerm_84 : decode cX2_readsTerm 84 = .ok (.aload_n 0, 1) := dk_42 (dk_at dksX2_readsTerm_3 15 rfl rfl)
theorem dX2_readsTerm_85 : decode cX2_readsTerm 85 = .ok (.invokevirtual 221, 3) := dk_182 0 221 (dk_at dksX2_readsTerm_3 16 rfl rfl)
theorem dX2_readsTerm_88 : decode cX2_readsTerm 88 = .ok (.istore_n 3, 1) := dk_62 (dk_at dksX2_readsTerm_3 19 rfl rfl)
theorem dX2_readsTerm_89 : decode cX2_readsTerm 89 = .ok (.iload_n 3, 1) := dk_29 (dk_at dksX2_readsTerm_3 20 rfl rfl)
theorem dX2_readsTerm_90 : decode cX2_readsTerm 90 = .ok (.ifCond .ge 5, 3) := dk_156 0 5 (dk_at dksX2_readsTerm_3 21 rfl rfl)
theorem dX2_readsTerm_93 : decode cX2_readsTerm 93 = .ok (.iconst 0, 1) := dk_3 (dk_at dksX2_readsTerm_4 0 rfl rfl)
theorem dX2_readsTerm_94 : decode cX2_readsTerm 94 = .ok (.ireturn, 1) := dk_172 (dk_at dksX2_readsTerm_4 1 rfl rfl)
theorem dX2_readsTerm_95 : decode cX2_readsTerm 95 = .ok (.aload_n 0, 1) := dk_42 (dk_at dksX2_readsTerm_4 2 rfl rfl)
theorem dX2_readsTerm_96 : decode cX2_readsTerm 96 = .ok (.getfield 16, 3) := dk_180 0 16 (dk_at dksX2_readsTerm_4 3 rfl rfl)
theorem dX2_readsTerm_99 : decode cX2_readsTerm 99 = .ok (.iload_n 3, 1) := dk_29 (dk_at dksX2_readsTerm_4 6 rfl rfl)
theorem dX2_readsTerm_100 : decode cX2_readsTerm 100 = .ok (.dup2, 1) := dk_92 (dk_at dksX2_readsTerm_4 7 rfl rfl)
theorem dX2_readsTerm_101 : decode cX2_readsTerm 101 = .ok (.laload, 1) := dk_47 (dk_at dksX2_readsTerm_4 8 rfl rfl)
theorem dX2_readsTerm_102 : decode cX2_readsTerm 102 = .ok (.iload_n 1, 1) := dk_27 (dk_at dksX2_readsTerm_4 9 rfl rfl)
theorem dX2_readsTerm_103 : decode cX2_readsTerm 103 = .ok (.iload_n 2, 1) := dk_28 (dk_at dksX2_readsTerm_4 10 rfl rfl)
theorem dX2_readsTerm_104 : decode cX2_readsTerm 104 = .ok (.imul, 1) := dk_104 (dk_at dksX2_readsTerm_4 11 rfl rfl)
theorem dX2_readsTerm_105 : decode cX2_readsTerm 105 = .ok (.i2l, 1) := dk_133 (dk_at dksX2_readsTerm_4 12 rfl rfl)
theorem dX2_readsTerm_106 : decode cX2_readsTerm 106 = .ok (.ladd, 1) := dk_97 (dk_at dksX2_readsTerm_4 13 rfl rfl)
theorem dX2_readsTerm_107 : decode cX2_readsTerm 107 = .ok (.lastore, 1) := dk_80 (dk_at dksX2_readsTerm_4 14 rfl rfl)
theorem dX2_readsTerm_108 : decode cX2_readsTerm 108 = .ok (.iconst 1, 1) := dk_4 (dk_at dksX2_readsTerm_4 15 rfl rfl)
theorem dX2_readsTerm_109 : decode cX2_readsTerm 109 = .ok (.ireturn, 1) := dk_172 (dk_at dksX2_readsTerm_4 16 rfl rfl)
abbrev cX2_isDigit : ByteArray := prog_18_method_15_code
def yX2_isDigit : MethodName := ⟨RX2, "isDigit", "()Z"⟩
def dkwX2_isDigit_0 : List UInt8 := [42, 182, 0, 203, 133, 20, 0, 207, 20, 0, 209, 184, 0, 193, 172]
abbrev dktX2_isDigit_0 : List UInt8 := dkwX2_isDigit_0 ++ []
theorem dksX2_isDigit_0 : cX2_isDigit.data.toList.drop 0 = dktX2_isDigit_0 := by decide +kernel
theorem dX2_isDigit_0 : decode cX2_isDigit 0 = .ok (.aload_n 0, 1) := dk_42 (dk_at dksX2_isDigit_0 0 rfl rfl)
theorem dX2_isDigit_1 : decode cX2_isDigit 1 = .ok (.invokevirtual 203, 3) := dk_182 0 203 (dk_at dksX2_isDigit_0 1 rfl rfl)
theorem dX2_isDigit_4 : decode cX2_isDigit 4 = .ok (.i2l, 1) := dk_133 (dk_at dksX2_isDigit_0 4 rfl rfl)
theorem dX2_isDigit_5 : decode cX2_isDigit 5 = .ok (.ldc2_w 207, 3) := dk_20 0 207 (dk_at dksX2_isDigit_0 5 rfl rfl)
theorem dX2_isDigit_8 : decode cX2_isDigit 8 = .ok (.ldc2_w 209, 3) := dk_20 0 209 (dk_at dksX2_isDigit_0 8 rfl rfl)
theorem dX2_isDigit_11 : decode cX2_isDigit 11 = .ok (.invokestatic 193, 3) := dk_184 0 193 (dk_at dksX2_isDigit_0 11 rfl rfl)
theorem dX2_isDigit_14 : decode cX2_isDigit 14 = .ok (.ireturn, 1) := dk_172 (dk_at dksX2_isDigit_0 14 rfl rfl)
abbrev cX2_readsPower : ByteArray := prog_18_method_17_code
def yX2_readsPower : MethodName := ⟨RX2, "readsPower", "()I"⟩
def dkwX2_readsPower_2 : List UInt8 := [96, 181, 0, 200, 42, 180, 0, 13, 42, 180, 0, 200, 4, 100, 46, 16, 48, 100, 172]
abbrev dktX2_readsPower_2 : List UInt8 := dkwX2_readsPower_2 ++ []
def dkwX2_readsPower_1 : List UInt8 := [182, 0, 203, 133, 20, 0, 207, 20, 0, 215, 184, 0, 193, 154, 0, 5, 2, 172, 42, 89, 180, 0, 200, 4]
abbrev dktX2_readsPower_1 : List UInt8 := dkwX2_readsPower_1 ++ dktX2_readsPower_2
def dkwX2_readsPower_0 : List UInt8 := [42, 16, 120, 182, 0, 211, 154, 0, 5, 2, 172, 42, 16, 94, 182, 0, 211, 154, 0, 5, 4, 172, 42]
abbrev dktX2_readsPower_0 : List UInt8 := dkwX2_readsPower_0 ++ dktX2_readsPower_1
theorem dksX2_readsPower_0 : cX2_readsPower.data.toList.drop 0 = dktX2_readsPower_0 := by decide +kernel
theorem dksX2_readsPower_1 : cX2_readsPower.data.toList.drop 23 = dktX2_readsPower_1 := dk_seg dksX2_readsPower_0 23 rfl rfl
theorem dksX2_readsPower_2 : cX2_readsPower.data.toList.drop 47 = dktX2_readsPower_2 := dk_seg dksX2_readsPower_1 24 rfl rfl
theorem dX2_readsPower_0 : decode cX2_readsPower 0 = .ok (.aload_n 0, 1) := dk_42 (dk_at dksX2_readsPower_0 0 rfl rfl)
theorem dX2_readsPower_1 : decode cX2_readsPower 1 = .ok (.bipush 120, 2) := dk_16 120 (dk_at dksX2_readsPower_0 1 rfl rfl)
theorem dX2_readsPower_3 : decode cX2_readsPower 3 = .ok (.invokevirtual 211, 3) := dk_182 0 211 (dk_at dksX2_readsPower_0 3 rfl rfl)
theorem dX2_readsPower_6 : decode cX2_readsPower 6 = .ok (.ifCond .ne 5, 3) := dk_154 0 5 (dk_at dksX2_readsPower_0 6 rfl rfl)
theorem dX2_readsPower_9 : decode cX2_readsPower 9 = .ok (.iconst (-1), 1) := dk_2 (dk_at dksX2_readsPower_0 9 rfl rfl)
theorem dX2_readsPower_10 : decode cX2_readsPower 10 = .ok (.ireturn, 1) := dk_172 (dk_at dksX2_readsPower_0 10 rfl rfl)
theorem dX2_readsPower_11 : decode cX2_readsPower 11 = .ok (.aload_n 0, 1) := dk_42 (dk_at dksX2_readsPower_0 11 rfl rfl)
theorem dX2_readsPower_12 : decode cX2_readsPower 12 = .ok (.bipush 94, 2) := dk_16 94 (dk_at dksX2_readsPower_0 12 rfl rfl)
theorem dX2_readsPower_14 : decode cX2_readsPower 14 = .ok (.invokevirtual 211, 3) := dk_182 0 211 (dk_at dksX2_readsPower_0 14 rfl rfl)
theorem dX2_readsPower_17 : decode cX2_readsPower 17 = .ok (.ifCond .ne 5, 3) := dk_154 0 5 (dk_at dksX2_readsPower_0 17 rfl rfl)
theorem dX2_readsPower_20 : decode cX2_readsPower 20 = .ok (.iconst 1, 1) := dk_4 (dk_at dksX2_readsPower_0 20 rfl rfl)
theorem dX2_readsPower_21 : decode cX2_readsPower 21 = .ok (.ireturn, 1) := dk_172 (dk_at dksX2_readsPower_0 21 rfl rfl)
theorem dX2_readsPower_22 : decode cX2_readsPower 22 = .ok (.aload_n 0, 1) := dk_42 (dk_at dksX2_readsPower_0 22 rfl rfl)
theorem dX2_readsPower_23 : decode cX2_readsPower 23 = .ok (.invokevirtual 203, 3) := dk_182 0 203 (dk_at dksX2_readsPower_1 0 rfl rfl)
theorem dX2_readsPower_26 : decode cX2_readsPower 26 = .ok (.i2l, 1) := dk_133 (dk_at dksX2_readsPower_1 3 rfl rfl)
theorem dX2_readsPower_27 : decode cX2_readsPower 27 = .ok (.ldc2_w 207, 3) := dk_20 0 207 (dk_at dksX2_readsPower_1 4 rfl rfl)
theorem dX2_readsPower_30 : decode cX2_readsPower 30 = .ok (.ldc2_w 215, 3) := dk_20 0 215 (dk_at dksX2_readsPower_1 7 rfl rfl)
theorem dX2_readsPower_33 : decode cX2_readsPower 33 = .ok (.invokestatic 193, 3) := dk_184 0 193 (dk_at dksX2_readsPower_1 10 rfl rfl)
theorem dX2_readsPower_36 : decode cX2_readsPower 36 = .ok (.ifCond .ne 5, 3) := dk_154 0 5 (dk_at dksX2_readsPower_1 13 rfl rfl)
theorem dX2_readsPower_39 : decode cX2_readsPower 39 = .ok (.iconst (-1), 1) := dk_2 (dk_at dksX2_readsPower_1 16 rfl rfl)
theorem dX2_readsPower_40 : decode cX2_readsPower 40 = .ok (.ireturn, 1) := dk_172 (dk_at dksX2_readsPower_1 17 rfl rfl)
theorem dX2_readsPower_41 : decode cX2_readsPower 41 = .ok (.aload_n 0, 1) := dk_42 (dk_at dksX2_readsPower_1 18 rfl rfl)
theorem dX2_readsPower_42 : decode cX2_readsPower 42 = .ok (.dup, 1) := dk_89 (dk_at dksX2_readsPower_1 19 rfl rfl)
theorem dX2_readsPower_43 : decode cX2_readsPower 43 = .ok (.getfield 200, 3) := dk_180 0 200 (dk_at dksX2_readsPower_1 20 rfl rfl)
theorem dX2_readsPower_46 : decode cX2_readsPower 46 = .ok (.iconst 1, 1) := dk_4 (dk_at dksX2_readsPower_1 23 rfl rfl)
theorem dX2_readsPower_47 : decode cX2_readsPower 47 = .ok (.iadd, 1) := dk_96 (dk_at dksX2_readsPower_2 0 rfl rfl)
theorem dX2_readsPower_48 : decode cX2_readsPower 48 = .ok (.putfield 200, 3) := dk_181 0 200 (dk_at dksX2_readsPower_2 1 rfl rfl)
theorem dX2_readsPower_51 : decode cX2_readsPower 51 = .ok (.aload_n 0, 1) := dk_42 (dk_at dksX2_readsPower_2 4 rfl rfl)
theorem dX2_readsPower_52 : decode cX2_readsPower 52 = .ok (.getfield 13, 3) := dk_180 0 13 (dk_at dksX2_readsPower_2 5 rfl rfl)
theorem dX2_readsPower_55 : decode cX2_readsPower 55 = .ok (.aload_n 0, 1) := dk_42 (dk_at dksX2_readsPower_2 8 rfl rfl)
theorem dX2_readsPower_56 : decode cX2_readsPower 56 = .ok (.getfield 200, 3) := dk_180 0 200 (dk_at dksX2_readsPower_2 9 rfl rfl)
theorem dX2_readsPower_59 : decode cX2_readsPower 59 = .ok (.iconst 1, 1) := dk_4 (dk_at dksX2_readsPower_2 12 rfl rfl)
theorem dX2_readsPower_60 : decode cX2_readsPower 60 = .ok (.isub, 1) := dk_100 (dk_at dksX2_readsPower_2 13 rfl rfl)
theorem dX2_readsPower_61 : decode cX2_readsPower 61 = .ok (.iaload, 1) := dk_46 (dk_at dksX2_readsPower_2 14 rfl rfl)
theorem dX2_readsPower_62 : decode cX2_readsPower 62 = .ok (.bipush 48, 2) := dk_16 48 (dk_at dksX2_readsPower_2 15 rfl rfl)
theorem dX2_readsPower_64 : decode cX2_readsPower 64 = .ok (.isub, 1) := dk_100 (dk_at dksX2_readsPower_2 17 rfl rfl)
theorem dX2_readsPower_65 : decode cX2_readsPower 65 = .ok (.ireturn, 1) := dk_172 (dk_at dksX2_readsPower_2 18 rfl rfl)
abbrev cX2_takesRead : ByteArray := prog_18_method_20_code
def yX2_takesRead : MethodName := ⟨RX2, "takesRead", "(I)Z"⟩
def dkwX2_takesRead_3 : List UInt8 := [47, 136, 79, 132, 3, 1, 167, 255, 225, 28, 172]
abbrev dktX2_takesRead_3 : List UInt8 := dkwX2_takesRead_3 ++ []
def dkwX2_takesRead_2 : List UInt8 := [16, 9, 162, 0, 31, 28, 153, 0, 27, 42, 180, 0, 7, 16, 9, 27, 104, 29, 96, 42, 180, 0, 16, 29]
abbrev dktX2_takesRead_2 : List UInt8 := dkwX2_takesRead_2 ++ dktX2_takesRead_3
def dkwX2_takesRead_1 : List UInt8 := [20, 0, 229, 184, 0, 193, 153, 0, 7, 4, 167, 0, 4, 3, 61, 132, 3, 1, 167, 255, 219, 3, 62, 29]
abbrev dktX2_takesRead_1 : List UInt8 := dkwX2_takesRead_1 ++ dktX2_takesRead_2
def dkwX2_takesRead_0 : List UInt8 := [4, 61, 3, 62, 29, 16, 9, 162, 0, 37, 28, 153, 0, 25, 42, 180, 0, 16, 29, 47, 20, 0, 227]
abbrev dktX2_takesRead_0 : List UInt8 := dkwX2_takesRead_0 ++ dktX2_takesRead_1
theorem dksX2_takesRead_0 : cX2_takesRead.data.toList.drop 0 = dktX2_takesRead_0 := by decide +kernel
theorem dksX2_takesRead_1 : cX2_takesRead.data.toList.drop 23 = dktX2_takesRead_1 := dk_seg dksX2_takesRead_0 23 rfl rfl
theorem dksX2_takesRead_2 : cX2_takesRead.data.toList.drop 47 = dktX2_takesRead_2 := dk_seg dksX2_takesRead_1 24 rfl rfl
theorem dksX2_takesRead_3 : cX2_takesRead.data.toList.drop 71 = dktX2_takesRead_3 := dk_seg dksX2_takesRead_2 24 rfl rfl
theorem dX2_takesRead_0 : decode cX2_takesRead 0 = .ok (.iconst 1, 1) := dk_4 (dk_at dksX2_takesRead_0 0 rfl rfl)
theorem dX2_takesRead_1 : decode cX2_takesRead 1 = .ok (.istore_n 2, 1) := dk_61 (dk_at dksX2_takesRead_0 1 rfl rfl)
theorem dX2_takesRead_2 : decode cX2_takesRead 2 = .ok (.iconst 0, 1) := dk_3 (dk_at dksX2_takesRead_0 2 rfl rfl)
theorem dX2_takesRead_3 : decode cX2_takesRead 3 = .ok (.istore_n 3, 1) := dk_62 (dk_at dksX2_takesRead_0 3 rfl rfl)
theorem dX2_takesRead_4 : decode cX2_takesRead 4 = .ok (.iload_n 3, 1) := dk_29 (dk_at dksX2_takesRead_0 4 rfl rfl)
theorem dX2_takesRead_5 : decode cX2_takesRead 5 = .ok (.bipush 9, 2) := dk_16 9 (dk_at dksX2_takesRead_0 5 rfl rfl)
theorem dX2_takesRead_7 : decode cX2_takesRead 7 = .ok (.if_icmp .ge 37, 3) := dk_162 0 37 (dk_at dksX2_takesRead_0 7 rfl rfl)
theorem dX2_takesRead_10 : decode cX2_takesRead 10 = .ok (.iload_n 2, 1) := dk_28 (dk_at dksX2_takesRead_0 10 rfl rfl)
theorem dX2_takesRead_11 : decode cX2_takesRead 11 = .ok (.ifCond .eq 25, 3) := dk_153 0 25 (dk_at dksX2_takesRead_0 11 rfl rfl)
theorem dX2_takesRead_14 : decode cX2_takesRead 14 = .ok (.aload_n 0, 1) := dk_42 (dk_at dksX2_takesRead_0 14 rfl rfl)
theorem dX2_takesRead_15 : decode cX2_takesRead 15 = .ok (.getfield 16, 3) := dk_180 0 16 (dk_at dksX2_takesRead_0 15 rfl rfl)
theorem dX2_takesRead_18 : decode cX2_takesRead 18 = .ok (.iload_n 3, 1) := dk_29 (dk_at dksX2_takesRead_0 18 rfl rfl)
theorem dX2_takesRead_19 : decode cX2_takesRead 19 = .ok (.laload, 1) := dk_47 (dk_at dksX2_takesRead_0 19 rfl rfl)
theorem dX2_takesRead_20 : decode cX2_takesRead 20 = .ok (.ldc2_w 227, 3) := dk_20 0 227 (dk_at dksX2_takesRead_0 20 rfl rfl)
theorem dX2_takesRead_23 : decode cX2_takesRead 23 = .ok (.ldc2_w 229, 3) := dk_20 0 229 (dk_at dksX2_takesRead_1 0 rfl rfl)
theorem dX2_takesRead_26 : decode cX2_takesRead 26 = .ok (.invokestatic 193, 3) := dk_184 0 193 (dk_at dksX2_takesRead_1 3 rfl rfl)
theorem dX2_takesRead_29 : decode cX2_takesRead 29 = .ok (.ifCond .eq 7, 3) := dk_153 0 7 (dk_at dksX2_takesRead_1 6 rfl rfl)
theorem dX2_takesRead_32 : decode cX2_takesRead 32 = .ok (.iconst 1, 1) := dk_4 (dk_at dksX2_takesRead_1 9 rfl rfl)
theorem dX2_takesRead_33 : decode cX2_takesRead 33 = .ok (.goto 4, 3) := dk_167 0 4 (dk_at dksX2_takesRead_1 10 rfl rfl)
theorem dX2_takesRead_36 : decode cX2_takesRead 36 = .ok (.iconst 0, 1) := dk_3 (dk_at dksX2_takesRead_1 13 rfl rfl)
theorem dX2_takesRead_37 : decode cX2_takesRead 37 = .ok (.istore_n 2, 1) := dk_61 (dk_at dksX2_takesRead_1 14 rfl rfl)
theorem dX2_takesRead_38 : decode cX2_takesRead 38 = .ok (.iinc 3 1, 3) := dk_132 3 1 (dk_at dksX2_takesRead_1 15 rfl rfl)
theorem dX2_takesRead_41 : decode cX2_takesRead 41 = .ok (.goto (-37), 3) := dk_167 255 219 (dk_at dksX2_takesRead_1 18 rfl rfl)
theorem dX2_takesRead_44 : decode cX2_takesRead 44 = .ok (.iconst 0, 1) := dk_3 (dk_at dksX2_takesRead_1 21 rfl rfl)
theorem dX2_takesRead_45 : decode cX2_takesRead 45 = .ok (.istore_n 3, 1) := dk_62 (dk_at dksX2_takesRead_1 22 rfl rfl)
theorem dX2_takesRead_46 : decode cX2_takesRead 46 = .ok (.iload_n 3, 1) := dk_29 (dk_at dksX2_takesRead_1 23 rfl rfl)
theorem dX2_takesRead_47 : decode cX2_takesRead 47 = .ok (.bipush 9, 2) := dk_16 9 (dk_at dksX2_takesRead_2 0 rfl rfl)
theorem dX2_takesRead_49 : decode cX2_takesRead 49 = .ok (.if_icmp .ge 31, 3) := dk_162 0 31 (dk_at dksX2_takesRead_2 2 rfl rfl)
theorem dX2_takesRead_52 : decode cX2_takesRead 52 = .ok (.iload_n 2, 1) := dk_28 (dk_at dksX2_takesRead_2 5 rfl rfl)
theorem dX2_takesRead_53 : decode cX2_takesRead 53 = .ok (.ifCond .eq 27, 3) := dk_153 0 27 (dk_at dksX2_takesRead_2 6 rfl rfl)
theorem dX2_takesRead_56 : decode cX2_takesRead 56 = .ok (.aload_n 0, 1) := dk_42 (dk_at dksX2_takesRead_2 9 rfl rfl)
theorem dX2_takesRead_57 : decode cX2_takesRead 57 = .ok (.getfield 7, 3) := dk_180 0 7 (dk_at dksX2_takesRead_2 10 rfl rfl)
theorem dX2_takesRead_60 : decode cX2_takesRead 60 = .ok (.bipush 9, 2) := dk_16 9 (dk_at dksX2_takesRead_2 13 rfl rfl)
theorem dX2_takesRead_62 : decode cX2_takesRead 62 = .ok (.iload_n 1, 1) := dk_27 (dk_at dksX2_takesRead_2 15 rfl rfl)
theorem dX2_takesRead_63 : decode cX2_takesRead 63 = .ok (.imul, 1) := dk_104 (dk_at dksX2_takesRead_2 16 rfl rfl)
theorem dX2_takesRead_64 : decode cX2_takesRead 64 = .ok (.iload_n 3, 1) := dk_29 (dk_at dksX2_takesRead_2 17 rfl rfl)
theorem dX2_takesRead_65 : decode cX2_takesRead 65 = .ok (.iadd, 1) := dk_96 (dk_at dksX2_takesRead_2 18 rfl rfl)
theorem dX2_takesRead_66 : decode cX2_takesRead 66 = .ok (.aload_n 0, 1) := dk_42 (dk_at dksX2_takesRead_2 19 rfl rfl)
theorem dX2_takesRead_67 : decode cX2_takesRead 67 = .ok (.getfield 16, 3) := dk_180 0 16 (dk_at dksX2_takesRead_2 20 rfl rfl)
theorem dX2_takesRead_70 : decode cX2_takesRead 70 = .ok (.iload_n 3, 1) := dk_29 (dk_at dksX2_takesRead_2 23 rfl rfl)
theorem dX2_takesRead_71 : decode cX2_takesRead 71 = .ok (.laload, 1) := dk_47 (dk_at dksX2_takesRead_3 0 rfl rfl)
theorem dX2_takesRead_72 : decode cX2_takesRead 72 = .ok (.l2i, 1) := dk_136 (dk_at dksX2_takesRead_3 1 rfl rfl)
theorem dX2_takesRead_73 : decode cX2_takesRead 73 = .ok (.iastore, 1) := dk_79 (dk_at dksX2_takesRead_3 2 rfl rfl)
theorem dX2_takesRead_74 : decode cX2_takesRead 74 = .ok (.iinc 3 1, 3) := dk_132 3 1 (dk_at dksX2_takesRead_3 3 rfl rfl)
theorem dX2_takesRead_77 : decode cX2_takesRead 77 = .ok (.goto (-31), 3) := dk_167 255 225 (dk_at dksX2_takesRead_3 6 rfl rfl)
theorem dX2_takesRead_80 : decode cX2_takesRead 80 = .ok (.iload_n 2, 1) := dk_28 (dk_at dksX2_takesRead_3 9 rfl rfl)
theorem dX2_takesRead_81 : decode cX2_takesRead 81 = .ok (.ireturn, 1) := dk_172 (dk_at dksX2_takesRead_3 10 rfl rfl)
abbrev cX2_toldDegree : ByteArray := prog_18_method_21_code
def yX2_toldDegree : MethodName := ⟨RX2, "toldDegree", "(I)I"⟩
def dkwX2_toldDegree_0 : List UInt8 := [42, 27, 182, 0, 187, 61, 28, 156, 0, 8, 16, 246, 167, 0, 4, 28, 172]
abbrev dktX2_toldDegree_0 : List UInt8 := dkwX2_toldDegree_0 ++ []
theorem dksX2_toldDegree_0 : cX2_toldDegree.data.toList.drop 0 = dktX2_toldDegree_0 := by decide +kernel
theorem dX2_toldDegree_0 : decode cX2_toldDegree 0 = .ok (.aload_n 0, 1) := dk_42 (dk_at dksX2_toldDegree_0 0 rfl rfl)
theorem dX2_toldDegree_1 : decode cX2_toldDegree 1 = .ok (.iload_n 1, 1) := dk_27 (dk_at dksX2_toldDegree_0 1 rfl rfl)
theorem dX2_toldDegree_2 : decode cX2_toldDegree 2 = .ok (.invokevirtual 187, 3) := dk_182 0 187 (dk_at dksX2_toldDegree_0 2 rfl rfl)
theorem dX2_toldDegree_5 : decode cX2_toldDegree 5 = .ok (.istore_n 2, 1) := dk_61 (dk_at dksX2_toldDegree_0 5 rfl rfl)
theorem dX2_toldDegree_6 : decode cX2_toldDegree 6 = .ok (.iload_n 2, 1) := dk_28 (dk_at dksX2_toldDegree_0 6 rfl rfl)
theorem dX2_toldDegree_7 : decode cX2_toldDegree 7 = .ok (.ifCond .ge 8, 3) := dk_156 0 8 (dk_at dksX2_toldDegree_0 7 rfl rfl)
theorem dX2_toldDegree_10 : decode cX2_toldDegree 10 = .ok (.bipush (-10), 2) := dk_16 246 (dk_at dksX2_toldDegree_0 10 rfl rfl)
theorem dX2_toldDegree_12 : decode cX2_toldDegree 12 = .ok (.goto 4, 3) := dk_167 0 4 (dk_at dksX2_toldDegree_0 12 rfl rfl)
theorem dX2_toldDegree_15 : decode cX2_toldDegree 15 = .ok (.iload_n 2, 1) := dk_28 (dk_at dksX2_toldDegree_0 15 rfl rfl)
theorem dX2_toldDegree_16 : decode cX2_toldDegree 16 = .ok (.ireturn, 1) := dk_172 (dk_at dksX2_toldDegree_0 16 rfl rfl)
abbrev cX2_degreeOf : ByteArray := prog_18_method_7_code
def yX2_degreeOf : MethodName := ⟨RX2, "degreeOf", "(I)I"⟩
def dkwX2_degreeOf_1 : List UInt8 := [61, 132, 3, 1, 167, 255, 232, 28, 172]
abbrev dktX2_degreeOf_1 : List UInt8 := dkwX2_degreeOf_1 ++ []
def dkwX2_degreeOf_0 : List UInt8 := [2, 61, 3, 62, 29, 16, 9, 162, 0, 24, 42, 27, 29, 182, 0, 183, 153, 0, 7, 29, 167, 0, 4, 28]
abbrev dktX2_degreeOf_0 : List UInt8 := dkwX2_degreeOf_0 ++ dktX2_degreeOf_1
theorem dksX2_degreeOf_0 : cX2_degreeOf.data.toList.drop 0 = dktX2_degreeOf_0 := by decide +kernel
theorem dksX2_degreeOf_1 : cX2_degreeOf.data.toList.drop 24 = dktX2_degreeOf_1 := dk_seg dksX2_degreeOf_0 24 rfl rfl
theorem dX2_degreeOf_0 : decode cX2_degreeOf 0 = .ok (.iconst (-1), 1) := dk_2 (dk_at dksX2_degreeOf_0 0 rfl rfl)
theorem dX2_degreeOf_1 : decode cX2_degreeOf 1 = .ok (.istore_n 2, 1) := dk_61 (dk_at dksX2_degreeOf_0 1 rfl rfl)
theorem dX2_degreeOf_2 : decode cX2_degreeOf 2 = .ok (.iconst 0, 1) := dk_3 (dk_at dksX2_degreeOf_0 2 rfl rfl)
theorem dX2_degreeOf_3 : decode cX2_degreeOf 3 = .ok (.istore_n 3, 1) := dk_62 (dk_at dksX2_degreeOf_0 3 rfl rfl)
theorem dX2_degreeOf_4 : decode cX2_degreeOf 4 = .ok (.iload_n 3, 1) := dk_29 (dk_at dksX2_degreeOf_0 4 rfl rfl)
theorem dX2_degreeOf_5 : decode cX2_degreeOf 5 = .ok (.bipush 9, 2) := dk_16 9 (dk_at dksX2_degreeOf_0 5 rfl rfl)
theorem dX2_degreeOf_7 : decode cX2_degreeOf 7 = .ok (.if_icmp .ge 24, 3) := dk_162 0 24 (dk_at dksX2_degreeOf_0 7 rfl rfl)
theorem dX2_degreeOf_10 : decode cX2_degreeOf 10 = .ok (.aload_n 0, 1) := dk_42 (dk_at dksX2_degreeOf_0 10 rfl rfl)
theorem dX2_degreeOf_11 : decode cX2_degreeOf 11 = .ok (.iload_n 1, 1) := dk_27 (dk_at dksX2_degreeOf_0 11 rfl rfl)
theorem dX2_degreeOf_12 : decode cX2_degreeOf 12 = .ok (.iload_n 3, 1) := dk_29 (dk_at dksX2_degreeOf_0 12 rfl rfl)
theorem dX2_degreeOf_13 : decode cX2_degreeOf 13 = .ok (.invokevirtual 183, 3) := dk_182 0 183 (dk_at dksX2_degreeOf_0 13 rfl rfl)
theorem dX2_degreeOf_16 : decode cX2_degreeOf 16 = .ok (.ifCond .eq 7, 3) := dk_153 0 7 (dk_at dksX2_degreeOf_0 16 rfl rfl)
theorem dX2_degreeOf_19 : decode cX2_degreeOf 19 = .ok (.iload_n 3, 1) := dk_29 (dk_at dksX2_degreeOf_0 19 rfl rfl)
theorem dX2_degreeOf_20 : decode cX2_degreeOf 20 = .ok (.goto 4, 3) := dk_167 0 4 (dk_at dksX2_degreeOf_0 20 rfl rfl)
theorem dX2_degreeOf_23 : decode cX2_degreeOf 23 = .ok (.iload_n 2, 1) := dk_28 (dk_at dksX2_degreeOf_0 23 rfl rfl)
theorem dX2_degreeOf_24 : decode cX2_degreeOf 24 = .ok (.istore_n 2, 1) := dk_61 (dk_at dksX2_degreeOf_1 0 rfl rfl)
theorem dX2_degreeOf_25 : decode cX2_degreeOf 25 = .ok (.iinc 3 1, 3) := dk_132 3 1 (dk_at dksX2_degreeOf_1 1 rfl rfl)
theorem dX2_degreeOf_28 : decode cX2_degreeOf 28 = .ok (.goto (-24), 3) := dk_167 255 232 (dk_at dksX2_degreeOf_1 4 rfl rfl)
theorem dX2_degreeOf_31 : decode cX2_degreeOf 31 = .ok (.iload_n 2, 1) := dk_28 (dk_at dksX2_degreeOf_1 7 rfl rfl)
theorem dX2_degreeOf_32 : decode cX2_degreeOf 32 = .ok (.ireturn, 1) := dk_172 (dk_at dksX2_degreeOf_1 8 rfl rfl)
abbrev cX2_coefficient : ByteArray := prog_18_method_6_code
def yX2_coefficient : MethodName := ⟨RX2, "coefficient", "(II)I"⟩
def dkwX2_coefficient_0 : List UInt8 := [42, 180, 0, 7, 16, 9, 27, 104, 28, 96, 46, 172]
abbrev dktX2_coefficient_0 : List UInt8 := dkwX2_coefficient_0 ++ []
theorem dksX2_coefficient_0 : cX2_coefficient.data.toList.drop 0 = dktX2_coefficient_0 := by decide +kernel
theorem dX2_coefficient_0 : decode cX2_coefficient 0 = .ok (.aload_n 0, 1) := dk_42 (dk_at dksX2_coefficient_0 0 rfl rfl)
theorem dX2_coefficient_1 : decode cX2_coefficient 1 = .ok (.getfield 7, 3) := dk_180 0 7 (dk_at dksX2_coefficient_0 1 rfl rfl)
theorem dX2_coefficient_4 : decode cX2_coefficient 4 = .ok (.bipush 9, 2) := dk_16 9 (dk_at dksX2_coefficient_0 4 rfl rfl)
theorem dX2_coefficient_6 : decode cX2_coefficient 6 = .ok (.iload_n 1, 1) := dk_27 (dk_at dksX2_coefficient_0 6 rfl rfl)
theorem dX2_coefficient_7 : decode cX2_coefficient 7 = .ok (.imul, 1) := dk_104 (dk_at dksX2_coefficient_0 7 rfl rfl)
theorem dX2_coefficient_8 : decode cX2_coefficient 8 = .ok (.iload_n 2, 1) := dk_28 (dk_at dksX2_coefficient_0 8 rfl rfl)
theorem dX2_coefficient_9 : decode cX2_coefficient 9 = .ok (.iadd, 1) := dk_96 (dk_at dksX2_coefficient_0 9 rfl rfl)
theorem dX2_coefficient_10 : decode cX2_coefficient 10 = .ok (.iaload, 1) := dk_46 (dk_at dksX2_coefficient_0 10 rfl rfl)
theorem dX2_coefficient_11 : decode cX2_coefficient 11 = .ok (.ireturn, 1) := dk_172 (dk_at dksX2_coefficient_0 11 rfl rfl)
abbrev cX2_set : ByteArray := prog_18_method_23_code
def yX2_set : MethodName := ⟨RX2, "set", "(III)J"⟩
def dkwX2_set_2 : List UInt8 := [27, 104, 28, 96, 29, 79, 21, 4, 133, 173]
abbrev dktX2_set_2 : List UInt8 := dkwX2_set_2 ++ []
def dkwX2_set_1 : List UInt8 := [184, 0, 193, 154, 0, 7, 20, 0, 246, 173, 42, 27, 28, 182, 0, 183, 54, 4, 42, 180, 0, 7, 16, 9]
abbrev dktX2_set_1 : List UInt8 := dkwX2_set_1 ++ dktX2_set_2
def dkwX2_set_0 : List UInt8 := [27, 184, 0, 231, 153, 0, 24, 28, 184, 0, 243, 153, 0, 17, 29, 133, 20, 0, 227, 20, 0, 229]
abbrev dktX2_set_0 : List UInt8 := dkwX2_set_0 ++ dktX2_set_1
theorem dksX2_set_0 : cX2_set.data.toList.drop 0 = dktX2_set_0 := by decide +kernel
theorem dksX2_set_1 : cX2_set.data.toList.drop 22 = dktX2_set_1 := dk_seg dksX2_set_0 22 rfl rfl
theorem dksX2_set_2 : cX2_set.data.toList.drop 46 = dktX2_set_2 := dk_seg dksX2_set_1 24 rfl rfl
theorem dX2_set_0 : decode cX2_set 0 = .ok (.iload_n 1, 1) := dk_27 (dk_at dksX2_set_0 0 rfl rfl)
theorem dX2_set_1 : decode cX2_set 1 = .ok (.invokestatic 231, 3) := dk_184 0 231 (dk_at dksX2_set_0 1 rfl rfl)
theorem dX2_set_4 : decode cX2_set 4 = .ok (.ifCond .eq 24, 3) := dk_153 0 24 (dk_at dksX2_set_0 4 rfl rfl)
theorem dX2_set_7 : decode cX2_set 7 = .ok (.iload_n 2, 1) := dk_28 (dk_at dksX2_set_0 7 rfl rfl)
theorem dX2_set_8 : decode cX2_set 8 = .ok (.invokestatic 243, 3) := dk_184 0 243 (dk_at dksX2_set_0 8 rfl rfl)
theorem dX2_set_11 : decode cX2_set 11 = .ok (.ifCond .eq 17, 3) := dk_153 0 17 (dk_at dksX2_set_0 11 rfl rfl)
theorem dX2_set_14 : decode cX2_set 14 = .ok (.iload_n 3, 1) := dk_29 (dk_at dksX2_set_0 14 rfl rfl)
theorem dX2_set_15 : decode cX2_set 15 = .ok (.i2l, 1) := dk_133 (dk_at dksX2_set_0 15 rfl rfl)
theorem dX2_set_16 : decode cX2_set 16 = .ok (.ldc2_w 227, 3) := dk_20 0 227 (dk_at dksX2_set_0 16 rfl rfl)
theorem dX2_set_19 : decode cX2_set 19 = .ok (.ldc2_w 229, 3) := dk_20 0 229 (dk_at dksX2_set_0 19 rfl rfl)
theorem dX2_set_22 : decode cX2_set 22 = .ok (.invokestatic 193, 3) := dk_184 0 193 (dk_at dksX2_set_1 0 rfl rfl)
theorem dX2_set_25 : decode cX2_set 25 = .ok (.ifCond .ne 7, 3) := dk_154 0 7 (dk_at dksX2_set_1 3 rfl rfl)
theorem dX2_set_28 : decode cX2_set 28 = .ok (.ldc2_w 246, 3) := dk_20 0 246 (dk_at dksX2_set_1 6 rfl rfl)
theorem dX2_set_31 : decode cX2_set 31 = .ok (.lreturn, 1) := dk_173 (dk_at dksX2_set_1 9 rfl rfl)
theorem dX2_set_32 : decode cX2_set 32 = .ok (.aload_n 0, 1) := dk_42 (dk_at dksX2_set_1 10 rfl rfl)
theorem dX2_set_33 : decode cX2_set 33 = .ok (.iload_n 1, 1) := dk_27 (dk_at dksX2_set_1 11 rfl rfl)
theorem dX2_set_34 : decode cX2_set 34 = .ok (.iload_n 2, 1) := dk_28 (dk_at dksX2_set_1 12 rfl rfl)
theorem dX2_set_35 : decode cX2_set 35 = .ok (.invokevirtual 183, 3) := dk_182 0 183 (dk_at dksX2_set_1 13 rfl rfl)
theorem dX2_set_38 : decode cX2_set 38 = .ok (.istore 4, 2) := dk_54 4 (dk_at dksX2_set_1 16 rfl rfl)
theorem dX2_set_40 : decode cX2_set 40 = .ok (.aload_n 0, 1) := dk_42 (dk_at dksX2_set_1 18 rfl rfl)
theorem dX2_set_41 : decode cX2_set 41 = .ok (.getfield 7, 3) := dk_180 0 7 (dk_at dksX2_set_1 19 rfl rfl)
theorem dX2_set_44 : decode cX2_set 44 = .ok (.bipush 9, 2) := dk_16 9 (dk_at dksX2_set_1 22 rfl rfl)
theorem dX2_set_46 : decode cX2_set 46 = .ok (.iload_n 1, 1) := dk_27 (dk_at dksX2_set_2 0 rfl rfl)
theorem dX2_set_47 : decode cX2_set 47 = .ok (.imul, 1) := dk_104 (dk_at dksX2_set_2 1 rfl rfl)
theorem dX2_set_48 : decode cX2_set 48 = .ok (.iload_n 2, 1) := dk_28 (dk_at dksX2_set_2 2 rfl rfl)
theorem dX2_set_49 : decode cX2_set 49 = .ok (.iadd, 1) := dk_96 (dk_at dksX2_set_2 3 rfl rfl)
theorem dX2_set_50 : decode cX2_set 50 = .ok (.iload_n 3, 1) := dk_29 (dk_at dksX2_set_2 4 rfl rfl)
theorem dX2_set_51 : decode cX2_set 51 = .ok (.iastore, 1) := dk_79 (dk_at dksX2_set_2 5 rfl rfl)
theorem dX2_set_52 : decode cX2_set 52 = .ok (.iload 4, 2) := dk_21 4 (dk_at dksX2_set_2 6 rfl rfl)
theorem dX2_set_54 : decode cX2_set 54 = .ok (.i2l, 1) := dk_133 (dk_at dksX2_set_2 8 rfl rfl)
theorem dX2_set_55 : decode cX2_set 55 = .ok (.lreturn, 1) := dk_173 (dk_at dksX2_set_2 9 rfl rfl)
abbrev cX2_isPower : ByteArray := prog_18_method_5_code
def yX2_isPower : MethodName := ⟨RX2, "isPower", "(I)Z"⟩
def dkwX2_isPower_0 : List UInt8 := [26, 155, 0, 13, 26, 16, 9, 162, 0, 7, 4, 167, 0, 4, 3, 172]
abbrev dktX2_isPower_0 : List UInt8 := dkwX2_isPower_0 ++ []
theorem dksX2_isPower_0 : cX2_isPower.data.toList.drop 0 = dktX2_isPower_0 := by decide +kernel
theorem dX2_isPower_0 : decode cX2_isPower 0 = .ok (.iload_n 0, 1) := dk_26 (dk_at dksX2_isPower_0 0 rfl rfl)
theorem dX2_isPower_1 : decode cX2_isPower 1 = .ok (.ifCond .lt 13, 3) := dk_155 0 13 (dk_at dksX2_isPower_0 1 rfl rfl)
theorem dX2_isPower_4 : decode cX2_isPower 4 = .ok (.iload_n 0, 1) := dk_26 (dk_at dksX2_isPower_0 4 rfl rfl)
theorem dX2_isPower_5 : decode cX2_isPower 5 = .ok (.bipush 9, 2) := dk_16 9 (dk_at dksX2_isPower_0 5 rfl rfl)
theorem dX2_isPower_7 : decode cX2_isPower 7 = .ok (.if_icmp .ge 7, 3) := dk_162 0 7 (dk_at dksX2_isPower_0 7 rfl rfl)
theorem dX2_isPower_10 : decode cX2_isPower 10 = .ok (.iconst 1, 1) := dk_4 (dk_at dksX2_isPower_0 10 rfl rfl)
theorem dX2_isPower_11 : decode cX2_isPower 11 = .ok (.goto 4, 3) := dk_167 0 4 (dk_at dksX2_isPower_0 11 rfl rfl)
theorem dX2_isPower_14 : decode cX2_isPower 14 = .ok (.iconst 0, 1) := dk_3 (dk_at dksX2_isPower_0 14 rfl rfl)
theorem dX2_isPower_15 : decode cX2_isPower 15 = .ok (.ireturn, 1) := dk_172 (dk_at dksX2_isPower_0 15 rfl rfl)
abbrev cX2_at : ByteArray := prog_18_method_24_code
def yX2_at : MethodName := ⟨RX2, "at", "(II)J"⟩
def dkwX2_at_1 : List UInt8 := [20, 0, 246, 173]
abbrev dktX2_at_1 : List UInt8 := dkwX2_at_1 ++ []
def dkwX2_at_0 : List UInt8 := [27, 184, 0, 231, 153, 0, 20, 28, 184, 0, 243, 153, 0, 13, 42, 27, 28, 182, 0, 183, 133, 167, 0, 6]
abbrev dktX2_at_0 : List UInt8 := dkwX2_at_0 ++ dktX2_at_1
theorem dksX2_at_0 : cX2_at.data.toList.drop 0 = dktX2_at_0 := by decide +kernel
theorem dksX2_at_1 : cX2_at.data.toList.drop 24 = dktX2_at_1 := dk_seg dksX2_at_0 24 rfl rfl
theorem dX2_at_0 : decode cX2_at 0 = .ok (.iload_n 1, 1) := dk_27 (dk_at dksX2_at_0 0 rfl rfl)
theorem dX2_at_1 : decode cX2_at 1 = .ok (.invokestatic 231, 3) := dk_184 0 231 (dk_at dksX2_at_0 1 rfl rfl)
theorem dX2_at_4 : decode cX2_at 4 = .ok (.ifCond .eq 20, 3) := dk_153 0 20 (dk_at dksX2_at_0 4 rfl rfl)
theorem dX2_at_7 : decode cX2_at 7 = .ok (.iload_n 2, 1) := dk_28 (dk_at dksX2_at_0 7 rfl rfl)
theorem dX2_at_8 : decode cX2_at 8 = .ok (.invokestatic 243, 3) := dk_184 0 243 (dk_at dksX2_at_0 8 rfl rfl)
theorem dX2_at_11 : decode cX2_at 11 = .ok (.ifCond .eq 13, 3) := dk_153 0 13 (dk_at dksX2_at_0 11 rfl rfl)
theorem dX2_at_14 : decode cX2_at 14 = .ok (.aload_n 0, 1) := dk_42 (dk_at dksX2_at_0 14 rfl rfl)
theorem dX2_at_15 : decode cX2_at 15 = .ok (.iload_n 1, 1) := dk_27 (dk_at dksX2_at_0 15 rfl rfl)
theorem dX2_at_16 : decode cX2_at 16 = .ok (.iload_n 2, 1) := dk_28 (dk_at dksX2_at_0 16 rfl rfl)
theorem dX2_at_17 : decode cX2_at 17 = .ok (.invokevirtual 183, 3) := dk_182 0 183 (dk_at dksX2_at_0 17 rfl rfl)
theorem dX2_at_20 : decode cX2_at 20 = .ok (.i2l, 1) := dk_133 (dk_at dksX2_at_0 20 rfl rfl)
theorem dX2_at_21 : decode cX2_at 21 = .ok (.goto 6, 3) := dk_167 0 6 (dk_at dksX2_at_0 21 rfl rfl)
theorem dX2_at_24 : decode cX2_at 24 = .ok (.ldc2_w 246, 3) := dk_20 0 246 (dk_at dksX2_at_1 0 rfl rfl)
theorem dX2_at_27 : decode cX2_at 27 = .ok (.lreturn, 1) := dk_173 (dk_at dksX2_at_1 3 rfl rfl)
abbrev cX2_told : ByteArray := prog_18_method_25_code
def yX2_told : MethodName := ⟨RX2, "told", "(II)I"⟩
def dkwX2_told_1 : List UInt8 := [27, 182, 0, 240, 167, 0, 16, 42, 27, 182, 0, 248, 153, 0, 7, 4, 167, 0, 4, 3, 172]
abbrev dktX2_told_1 : List UInt8 := dkwX2_told_1 ++ []
def dkwX2_told_0 : List UInt8 := [27, 184, 0, 231, 153, 0, 13, 28, 133, 9, 10, 184, 0, 193, 154, 0, 5, 2, 172, 28, 154, 0, 11, 42]
abbrev dktX2_told_0 : List UInt8 := dkwX2_told_0 ++ dktX2_told_1
theorem dksX2_told_0 : cX2_told.data.toList.drop 0 = dktX2_told_0 := by decide +kernel
theorem dksX2_told_1 : cX2_told.data.toList.drop 24 = dktX2_told_1 := dk_seg dksX2_told_0 24 rfl rfl
theorem dX2_told_0 : decode cX2_told 0 = .ok (.iload_n 1, 1) := dk_27 (dk_at dksX2_told_0 0 rfl rfl)
theorem dX2_told_1 : decode cX2_told 1 = .ok (.invokestatic 231, 3) := dk_184 0 231 (dk_at dksX2_told_0 1 rfl rfl)
theorem dX2_told_4 : decode cX2_told 4 = .ok (.ifCond .eq 13, 3) := dk_153 0 13 (dk_at dksX2_told_0 4 rfl rfl)
theorem dX2_told_7 : decode cX2_told 7 = .ok (.iload_n 2, 1) := dk_28 (dk_at dksX2_told_0 7 rfl rfl)
theorem dX2_told_8 : decode cX2_told 8 = .ok (.i2l, 1) := dk_133 (dk_at dksX2_told_0 8 rfl rfl)
theorem dX2_told_9 : decode cX2_told 9 = .ok (.lconst 0, 1) := dk_9 (dk_at dksX2_told_0 9 rfl rfl)
theorem dX2_told_10 : decode cX2_told 10 = .ok (.lconst 1, 1) := dk_10 (dk_at dksX2_told_0 10 rfl rfl)
theorem dX2_told_11 : decode cX2_told 11 = .ok (.invokestatic 193, 3) := dk_184 0 193 (dk_at dksX2_told_0 11 rfl rfl)
theorem dX2_told_14 : decode cX2_told 14 = .ok (.ifCond .ne 5, 3) := dk_154 0 5 (dk_at dksX2_told_0 14 rfl rfl)
theorem dX2_told_17 : decode cX2_told 17 = .ok (.iconst (-1), 1) := dk_2 (dk_at dksX2_told_0 17 rfl rfl)
theorem dX2_told_18 : decode cX2_told 18 = .ok (.ireturn, 1) := dk_172 (dk_at dksX2_told_0 18 rfl rfl)
theorem dX2_told_19 : decode cX2_told 19 = .ok (.iload_n 2, 1) := dk_28 (dk_at dksX2_told_0 19 rfl rfl)
theorem dX2_told_20 : decode cX2_told 20 = .ok (.ifCond .ne 11, 3) := dk_154 0 11 (dk_at dksX2_told_0 20 rfl rfl)
theorem dX2_told_23 : decode cX2_told 23 = .ok (.aload_n 0, 1) := dk_42 (dk_at dksX2_told_0 23 rfl rfl)
theorem dX2_told_24 : decode cX2_told 24 = .ok (.iload_n 1, 1) := dk_27 (dk_at dksX2_told_1 0 rfl rfl)
theorem dX2_told_25 : decode cX2_told 25 = .ok (.invokevirtual 240, 3) := dk_182 0 240 (dk_at dksX2_told_1 1 rfl rfl)
theorem dX2_told_28 : decode cX2_told 28 = .ok (.goto 16, 3) := dk_167 0 16 (dk_at dksX2_told_1 4 rfl rfl)
theorem dX2_told_31 : decode cX2_told 31 = .ok (.aload_n 0, 1) := dk_42 (dk_at dksX2_told_1 7 rfl rfl)
theorem dX2_told_32 : decode cX2_told 32 = .ok (.iload_n 1, 1) := dk_27 (dk_at dksX2_told_1 8 rfl rfl)
theorem dX2_told_33 : decode cX2_told 33 = .ok (.invokevirtual 248, 3) := dk_182 0 248 (dk_at dksX2_told_1 9 rfl rfl)
theorem dX2_told_36 : decode cX2_told 36 = .ok (.ifCond .eq 7, 3) := dk_153 0 7 (dk_at dksX2_told_1 12 rfl rfl)
theorem dX2_told_39 : decode cX2_told 39 = .ok (.iconst 1, 1) := dk_4 (dk_at dksX2_told_1 15 rfl rfl)
theorem dX2_told_40 : decode cX2_told 40 = .ok (.goto 4, 3) := dk_167 0 4 (dk_at dksX2_told_1 16 rfl rfl)
theorem dX2_told_43 : decode cX2_told 43 = .ok (.iconst 0, 1) := dk_3 (dk_at dksX2_told_1 19 rfl rfl)
theorem dX2_told_44 : decode cX2_told 44 = .ok (.ireturn, 1) := dk_172 (dk_at dksX2_told_1 20 rfl rfl)
abbrev cX2_isMonic : ByteArray := prog_18_method_8_code
def yX2_isMonic : MethodName := ⟨RX2, "isMonic", "(I)Z"⟩
def dkwX2_isMonic_1 : List UInt8 := [3, 172]
abbrev dktX2_isMonic_1 : List UInt8 := dkwX2_isMonic_1 ++ []
def dkwX2_isMonic_0 : List UInt8 := [42, 27, 182, 0, 187, 61, 28, 158, 0, 17, 42, 27, 28, 182, 0, 183, 4, 160, 0, 7, 4, 167, 0, 4]
abbrev dktX2_isMonic_0 : List UInt8 := dkwX2_isMonic_0 ++ dktX2_isMonic_1
theorem dksX2_isMonic_0 : cX2_isMonic.data.toList.drop 0 = dktX2_isMonic_0 := by decide +kernel
theorem dksX2_isMonic_1 : cX2_isMonic.data.toList.drop 24 = dktX2_isMonic_1 := dk_seg dksX2_isMonic_0 24 rfl rfl
theorem dX2_isMonic_0 : decode cX2_isMonic 0 = .ok (.aload_n 0, 1) := dk_42 (dk_at dksX2_isMonic_0 0 rfl rfl)
theorem dX2_isMonic_1 : decode cX2_isMonic 1 = .ok (.iload_n 1, 1) := dk_27 (dk_at dksX2_isMonic_0 1 rfl rfl)
theorem dX2_isMonic_2 : decode cX2_isMonic 2 = .ok (.invokevirtual 187, 3) := dk_182 0 187 (dk_at dksX2_isMonic_0 2 rfl rfl)
theorem dX2_isMonic_5 : decode cX2_isMonic 5 = .ok (.istore_n 2, 1) := dk_61 (dk_at dksX2_isMonic_0 5 rfl rfl)
theorem dX2_isMonic_6 : decode cX2_isMonic 6 = .ok (.iload_n 2, 1) := dk_28 (dk_at dksX2_isMonic_0 6 rfl rfl)
theorem dX2_isMonic_7 : decode cX2_isMonic 7 = .ok (.ifCond .le 17, 3) := dk_158 0 17 (dk_at dksX2_isMonic_0 7 rfl rfl)
theorem dX2_isMonic_10 : decode cX2_isMonic 10 = .ok (.aload_n 0, 1) := dk_42 (dk_at dksX2_isMonic_0 10 rfl rfl)
theorem dX2_isMonic_11 : decode cX2_isMonic 11 = .ok (.iload_n 1, 1) := dk_27 (dk_at dksX2_isMonic_0 11 rfl rfl)
theorem dX2_isMonic_12 : decode cX2_isMonic 12 = .ok (.iload_n 2, 1) := dk_28 (dk_at dksX2_isMonic_0 12 rfl rfl)
theorem dX2_isMonic_13 : decode cX2_isMonic 13 = .ok (.invokevirtual 183, 3) := dk_182 0 183 (dk_at dksX2_isMonic_0 13 rfl rfl)
theorem dX2_isMonic_16 : decode cX2_isMonic 16 = .ok (.iconst 1, 1) := dk_4 (dk_at dksX2_isMonic_0 16 rfl rfl)
theorem dX2_isMonic_17 : decode cX2_isMonic 17 = .ok (.if_icmp .ne 7, 3) := dk_160 0 7 (dk_at dksX2_isMonic_0 17 rfl rfl)
theorem dX2_isMonic_20 : decode cX2_isMonic 20 = .ok (.iconst 1, 1) := dk_4 (dk_at dksX2_isMonic_0 20 rfl rfl)
theorem dX2_isMonic_21 : decode cX2_isMonic 21 = .ok (.goto 4, 3) := dk_167 0 4 (dk_at dksX2_isMonic_0 21 rfl rfl)
theorem dX2_isMonic_24 : decode cX2_isMonic 24 = .ok (.iconst 0, 1) := dk_3 (dk_at dksX2_isMonic_1 0 rfl rfl)
theorem dX2_isMonic_25 : decode cX2_isMonic 25 = .ok (.ireturn, 1) := dk_172 (dk_at dksX2_isMonic_1 1 rfl rfl)
abbrev cX2_mix : ByteArray := prog_18_method_26_code
def yX2_mix : MethodName := ⟨RX2, "mix", "(IIIII)I"⟩
def dkwX2_mix_3 : List UInt8 := [167, 255, 215, 42, 21, 5, 182, 0, 237, 153, 0, 7, 4, 167, 0, 5, 16, 253, 172]
abbrev dktX2_mix_3 : List UInt8 := dkwX2_mix_3 ++ []
def dkwX2_mix_2 : List UInt8 := [182, 0, 183, 133, 105, 21, 4, 133, 42, 29, 21, 6, 182, 0, 183, 133, 105, 97, 80, 132, 6, 1]
abbrev dktX2_mix_2 : List UInt8 := dkwX2_mix_2 ++ dktX2_mix_3
def dkwX2_mix_1 : List UInt8 := [3, 54, 6, 21, 6, 16, 9, 162, 0, 40, 42, 180, 0, 16, 21, 6, 28, 133, 42, 27, 21, 6]
abbrev dktX2_mix_1 : List UInt8 := dkwX2_mix_1 ++ dktX2_mix_2
def dkwX2_mix_0 : List UInt8 := [27, 184, 0, 231, 153, 0, 18, 29, 184, 0, 231, 153, 0, 11, 21, 5, 184, 0, 231, 154, 0, 5, 2, 172]
abbrev dktX2_mix_0 : List UInt8 := dkwX2_mix_0 ++ dktX2_mix_1
theorem dksX2_mix_0 : cX2_mix.data.toList.drop 0 = dktX2_mix_0 := by decide +kernel
theorem dksX2_mix_1 : cX2_mix.data.toList.drop 24 = dktX2_mix_1 := dk_seg dksX2_mix_0 24 rfl rfl
theorem dksX2_mix_2 : cX2_mix.data.toList.drop 46 = dktX2_mix_2 := dk_seg dksX2_mix_1 22 rfl rfl
theorem dksX2_mix_3 : cX2_mix.data.toList.drop 68 = dktX2_mix_3 := dk_seg dksX2_mix_2 22 rfl rfl
theorem dX2_mix_0 : decode cX2_mix 0 = .ok (.iload_n 1, 1) := dk_27 (dk_at dksX2_mix_0 0 rfl rfl)
theorem dX2_mix_1 : decode cX2_mix 1 = .ok (.invokestatic 231, 3) := dk_184 0 231 (dk_at dksX2_mix_0 1 rfl rfl)
theorem dX2_mix_4 : decode cX2_mix 4 = .ok (.ifCond .eq 18, 3) := dk_153 0 18 (dk_at dksX2_mix_0 4 rfl rfl)
theorem dX2_mix_7 : decode cX2_mix 7 = .ok (.iload_n 3, 1) := dk_29 (dk_at dksX2_mix_0 7 rfl rfl)
theorem dX2_mix_8 : decode cX2_mix 8 = .ok (.invokestatic 231, 3) := dk_184 0 231 (dk_at dksX2_mix_0 8 rfl rfl)
theorem dX2_mix_11 : decode cX2_mix 11 = .ok (.ifCond .eq 11, 3) := dk_153 0 11 (dk_at dksX2_mix_0 11 rfl rfl)
theorem dX2_mix_14 : decode cX2_mix 14 = .ok (.iload 5, 2) := dk_21 5 (dk_at dksX2_mix_0 14 rfl rfl)
theorem dX2_mix_16 : decode cX2_mix 16 = .ok (.invokestatic 231, 3) := dk_184 0 231 (dk_at dksX2_mix_0 16 rfl rfl)
theorem dX2_mix_19 : decode cX2_mix 19 = .ok (.ifCond .ne 5, 3) := dk_154 0 5 (dk_at dksX2_mix_0 19 rfl rfl)
theorem dX2_mix_22 : decode cX2_mix 22 = .ok (.iconst (-1), 1) := dk_2 (dk_at dksX2_mix_0 22 rfl rfl)
theorem dX2_mix_23 : decode cX2_mix 23 = .ok (.ireturn, 1) := dk_172 (dk_at dksX2_mix_0 23 rfl rfl)
theorem dX2_mix_24 : decode cX2_mix 24 = .ok (.iconst 0, 1) := dk_3 (dk_at dksX2_mix_1 0 rfl rfl)
theorem dX2_mix_25 : decode cX2_mix 25 = .ok (.istore 6, 2) := dk_54 6 (dk_at dksX2_mix_1 1 rfl rfl)
theorem dX2_mix_27 : decode cX2_mix 27 = .ok (.iload 6, 2) := dk_21 6 (dk_at dksX2_mix_1 3 rfl rfl)
theorem dX2_mix_29 : decode cX2_mix 29 = .ok (.bipush 9, 2) := dk_16 9 (dk_at dksX2_mix_1 5 rfl rfl)
theorem dX2_mix_31 : decode cX2_mix 31 = .ok (.if_icmp .ge 40, 3) := dk_162 0 40 (dk_at dksX2_mix_1 7 rfl rfl)
theorem dX2_mix_34 : decode cX2_mix 34 = .ok (.aload_n 0, 1) := dk_42 (dk_at dksX2_mix_1 10 rfl rfl)
theorem dX2_mix_35 : decode cX2_mix 35 = .ok (.getfield 16, 3) := dk_180 0 16 (dk_at dksX2_mix_1 11 rfl rfl)
theorem dX2_mix_38 : decode cX2_mix 38 = .ok (.iload 6, 2) := dk_21 6 (dk_at dksX2_mix_1 14 rfl rfl)
theorem dX2_mix_40 : decode cX2_mix 40 = .ok (.iload_n 2, 1) := dk_28 (dk_at dksX2_mix_1 16 rfl rfl)
theorem dX2_mix_41 : decode cX2_mix 41 = .ok (.i2l, 1) := dk_133 (dk_at dksX2_mix_1 17 rfl rfl)
theorem dX2_mix_42 : decode cX2_mix 42 = .ok (.aload_n 0, 1) := dk_42 (dk_at dksX2_mix_1 18 rfl rfl)
theorem dX2_mix_43 : decode cX2_mix 43 = .ok (.iload_n 1, 1) := dk_27 (dk_at dksX2_mix_1 19 rfl rfl)
theorem dX2_mix_44 : decode cX2_mix 44 = .ok (.iload 6, 2) := dk_21 6 (dk_at dksX2_mix_1 20 rfl rfl)
theorem dX2_mix_46 : decode cX2_mix 46 = .ok (.invokevirtual 183, 3) := dk_182 0 183 (dk_at dksX2_mix_2 0 rfl rfl)
theorem dX2_mix_49 : decode cX2_mix 49 = .ok (.i2l, 1) := dk_133 (dk_at dksX2_mix_2 3 rfl rfl)
theorem dX2_mix_50 : decode cX2_mix 50 = .ok (.lmul, 1) := dk_105 (dk_at dksX2_mix_2 4 rfl rfl)
theorem dX2_mix_51 : decode cX2_mix 51 = .ok (.iload 4, 2) := dk_21 4 (dk_at dksX2_mix_2 5 rfl rfl)
theorem dX2_mix_53 : decode cX2_mix 53 = .ok (.i2l, 1) := dk_133 (dk_at dksX2_mix_2 7 rfl rfl)
theorem dX2_mix_54 : decode cX2_mix 54 = .ok (.aload_n 0, 1) := dk_42 (dk_at dksX2_mix_2 8 rfl rfl)
theorem dX2_mix_55 : decode cX2_mix 55 = .ok (.iload_n 3, 1) := dk_29 (dk_at dksX2_mix_2 9 rfl rfl)
theorem dX2_mix_56 : decode cX2_mix 56 = .ok (.iload 6, 2) := dk_21 6 (dk_at dksX2_mix_2 10 rfl rfl)
theorem dX2_mix_58 : decode cX2_mix 58 = .ok (.invokevirtual 183, 3) := dk_182 0 183 (dk_at dksX2_mix_2 12 rfl rfl)
theorem dX2_mix_61 : decode cX2_mix 61 = .ok (.i2l, 1) := dk_133 (dk_at dksX2_mix_2 15 rfl rfl)
theorem dX2_mix_62 : decode cX2_mix 62 = .ok (.lmul, 1) := dk_105 (dk_at dksX2_mix_2 16 rfl rfl)
theorem dX2_mix_63 : decode cX2_mix 63 = .ok (.ladd, 1) := dk_97 (dk_at dksX2_mix_2 17 rfl rfl)
theorem dX2_mix_64 : decode cX2_mix 64 = .ok (.lastore, 1) := dk_80 (dk_at dksX2_mix_2 18 rfl rfl)
theorem dX2_mix_65 : decode cX2_mix 65 = .ok (.iinc 6 1, 3) := dk_132 6 1 (dk_at dksX2_mix_2 19 rfl rfl)
theorem dX2_mix_68 : decode cX2_mix 68 = .ok (.goto (-41), 3) := dk_167 255 215 (dk_at dksX2_mix_3 0 rfl rfl)
theorem dX2_mix_71 : decode cX2_mix 71 = .ok (.aload_n 0, 1) := dk_42 (dk_at dksX2_mix_3 3 rfl rfl)
theorem dX2_mix_72 : decode cX2_mix 72 = .ok (.iload 5, 2) := dk_21 5 (dk_at dksX2_mix_3 4 rfl rfl)
theorem dX2_mix_74 : decode cX2_mix 74 = .ok (.invokevirtual 237, 3) := dk_182 0 237 (dk_at dksX2_mix_3 6 rfl rfl)
theorem dX2_mix_77 : decode cX2_mix 77 = .ok (.ifCond .eq 7, 3) := dk_153 0 7 (dk_at dksX2_mix_3 9 rfl rfl)
theorem dX2_mix_80 : decode cX2_mix 80 = .ok (.iconst 1, 1) := dk_4 (dk_at dksX2_mix_3 12 rfl rfl)
theorem dX2_mix_81 : decode cX2_mix 81 = .ok (.goto 5, 3) := dk_167 0 5 (dk_at dksX2_mix_3 13 rfl rfl)
theorem dX2_mix_84 : decode cX2_mix 84 = .ok (.bipush (-3), 2) := dk_16 253 (dk_at dksX2_mix_3 16 rfl rfl)
theorem dX2_mix_86 : decode cX2_mix 86 = .ok (.ireturn, 1) := dk_172 (dk_at dksX2_mix_3 18 rfl rfl)
abbrev cX2_times : ByteArray := prog_18_method_27_code
def yX2_times : MethodName := ⟨RX2, "times", "(III)I"⟩
def dkwX2_times_6 : List UInt8 := [16, 253, 172]
abbrev dktX2_times_6 : List UInt8 := dkwX2_times_6 ++ []
def dkwX2_times_5 : List UInt8 := [132, 7, 1, 167, 255, 216, 132, 6, 1, 167, 255, 192, 42, 29, 182, 0, 237, 153, 0, 7, 4, 167, 0, 5]
abbrev dktX2_times_5 : List UInt8 := dkwX2_times_5 ++ dktX2_times_6
def dkwX2_times_4 : List UInt8 := [47, 42, 27, 21, 7, 182, 0, 183, 133, 42, 28, 21, 6, 21, 7, 100, 182, 0, 183, 133, 105, 97, 80]
abbrev dktX2_times_4 : List UInt8 := dkwX2_times_4 ++ dktX2_times_5
def dkwX2_times_3 : List UInt8 := [180, 0, 16, 21, 6, 9, 80, 3, 54, 7, 21, 7, 21, 6, 163, 0, 39, 42, 180, 0, 16, 21, 6, 92]
abbrev dktX2_times_3 : List UInt8 := dkwX2_times_3 ++ dktX2_times_4
def dkwX2_times_2 : List UInt8 := [21, 4, 21, 5, 96, 16, 8, 164, 0, 6, 16, 250, 172, 3, 54, 6, 21, 6, 16, 9, 162, 0, 63, 42]
abbrev dktX2_times_2 : List UInt8 := dkwX2_times_2 ++ dktX2_times_3
def dkwX2_times_1 : List UInt8 := [27, 182, 0, 187, 54, 4, 42, 28, 182, 0, 187, 54, 5, 21, 4, 155, 0, 21, 21, 5, 155, 0, 16]
abbrev dktX2_times_1 : List UInt8 := dkwX2_times_1 ++ dktX2_times_2
def dkwX2_times_0 : List UInt8 := [27, 184, 0, 231, 153, 0, 17, 28, 184, 0, 231, 153, 0, 10, 29, 184, 0, 231, 154, 0, 5, 2, 172, 42]
abbrev dktX2_times_0 : List UInt8 := dkwX2_times_0 ++ dktX2_times_1
theorem dksX2_times_0 : cX2_times.data.toList.drop 0 = dktX2_times_0 := by decide +kernel
theorem dksX2_times_1 : cX2_times.data.toList.drop 24 = dktX2_times_1 := dk_seg dksX2_times_0 24 rfl rfl
theorem dksX2_times_2 : cX2_times.data.toList.drop 47 = dktX2_times_2 := dk_seg dksX2_times_1 23 rfl rfl
theorem dksX2_times_3 : cX2_times.data.toList.drop 71 = dktX2_times_3 := dk_seg dksX2_times_2 24 rfl rfl
theorem dksX2_times_4 : cX2_times.data.toList.drop 95 = dktX2_times_4 := dk_seg dksX2_times_3 24 rfl rfl
theorem dksX2_times_5 : cX2_times.data.toList.drop 118 = dktX2_times_5 := dk_seg dksX2_times_4 23 rfl rfl
theorem dksX2_times_6 : cX2_times.data.toList.drop 142 = dktX2_times_6 := dk_seg dksX2_times_5 24 rfl rfl
theorem dX2_times_0 : decode cX2_times 0 = .ok (.iload_n 1, 1) := dk_27 (dk_at dksX2_times_0 0 rfl rfl)
theorem dX2_times_1 : decode cX2_times 1 = .ok (.invokestatic 231, 3) := dk_184 0 231 (dk_at dksX2_times_0 1 rfl rfl)
theorem dX2_times_4 : decode cX2_times 4 = .ok (.ifCond .eq 17, 3) := dk_153 0 17 (dk_at dksX2_times_0 4 rfl rfl)
theorem dX2_times_7 : decode cX2_times 7 = .ok (.iload_n 2, 1) := dk_28 (dk_at dksX2_times_0 7 rfl rfl)
theorem dX2_times_8 : decode cX2_times 8 = .ok (.invokestatic 231, 3) := dk_184 0 231 (dk_at dksX2_times_0 8 rfl rfl)
theorem dX2_times_11 : decode cX2_times 11 = .ok (.ifCond .eq 10, 3) := dk_153 0 10 (dk_at dksX2_times_0 11 rfl rfl)
theorem dX2_times_14 : decode cX2_times 14 = .ok (.iload_n 3, 1) := dk_29 (dk_at dksX2_times_0 14 rfl rfl)
theorem dX2_times_15 : decode cX2_times 15 = .ok (.invokestatic 231, 3) := dk_184 0 231 (dk_at dksX2_times_0 15 rfl rfl)
theorem dX2_times_18 : decode cX2_times 18 = .ok (.ifCond .ne 5, 3) := dk_154 0 5 (dk_at dksX2_times_0 18 rfl rfl)
theorem dX2_times_21 : decode cX2_times 21 = .ok (.iconst (-1), 1) := dk_2 (dk_at dksX2_times_0 21 rfl rfl)
theorem dX2_times_22 : decode cX2_times 22 = .ok (.ireturn, 1) := dk_172 (dk_at dksX2_times_0 22 rfl rfl)
theorem dX2_times_23 : decode cX2_times 23 = .ok (.aload_n 0, 1) := dk_42 (dk_at dksX2_times_0 23 rfl rfl)
theorem dX2_times_24 : decode cX2_times 24 = .ok (.iload_n 1, 1) := dk_27 (dk_at dksX2_times_1 0 rfl rfl)
theorem dX2_times_25 : decode cX2_times 25 = .ok (.invokevirtual 187, 3) := dk_182 0 187 (dk_at dksX2_times_1 1 rfl rfl)
theorem dX2_times_28 : decode cX2_times 28 = .ok (.istore 4, 2) := dk_54 4 (dk_at dksX2_times_1 4 rfl rfl)
theorem dX2_times_30 : decode cX2_times 30 = .ok (.aload_n 0, 1) := dk_42 (dk_at dksX2_times_1 6 rfl rfl)
theorem dX2_times_31 : decode cX2_times 31 = .ok (.iload_n 2, 1) := dk_28 (dk_at dksX2_times_1 7 rfl rfl)
theorem dX2_times_32 : decode cX2_times 32 = .ok (.invokevirtual 187, 3) := dk_182 0 187 (dk_at dksX2_times_1 8 rfl rfl)
theorem dX2_times_35 : decode cX2_times 35 = .ok (.istore 5, 2) := dk_54 5 (dk_at dksX2_times_1 11 rfl rfl)
theorem dX2_times_37 : decode cX2_times 37 = .ok (.iload 4, 2) := dk_21 4 (dk_at dksX2_times_1 13 rfl rfl)
theorem dX2_times_39 : decode cX2_times 39 = .ok (.ifCond .lt 21, 3) := dk_155 0 21 (dk_at dksX2_times_1 15 rfl rfl)
theorem dX2_times_42 : decode cX2_times 42 = .ok (.iload 5, 2) := dk_21 5 (dk_at dksX2_times_1 18 rfl rfl)
theorem dX2_times_44 : decode cX2_times 44 = .ok (.ifCond .lt 16, 3) := dk_155 0 16 (dk_at dksX2_times_1 20 rfl rfl)
theorem dX2_times_47 : decode cX2_times 47 = .ok (.iload 4, 2) := dk_21 4 (dk_at dksX2_times_2 0 rfl rfl)
theorem dX2_times_49 : decode cX2_times 49 = .ok (.iload 5, 2) := dk_21 5 (dk_at dksX2_times_2 2 rfl rfl)
theorem dX2_times_51 : decode cX2_times 51 = .ok (.iadd, 1) := dk_96 (dk_at dksX2_times_2 4 rfl rfl)
theorem dX2_times_52 : decode cX2_times 52 = .ok (.bipush 8, 2) := dk_16 8 (dk_at dksX2_times_2 5 rfl rfl)
theorem dX2_times_54 : decode cX2_times 54 = .ok (.if_icmp .le 6, 3) := dk_164 0 6 (dk_at dksX2_times_2 7 rfl rfl)
theorem dX2_times_57 : decode cX2_times 57 = .ok (.bipush (-6), 2) := dk_16 250 (dk_at dksX2_times_2 10 rfl rfl)
theorem dX2_times_59 : decode cX2_times 59 = .ok (.ireturn, 1) := dk_172 (dk_at dksX2_times_2 12 rfl rfl)
theorem dX2_times_60 : decode cX2_times 60 = .ok (.iconst 0, 1) := dk_3 (dk_at dksX2_times_2 13 rfl rfl)
theorem dX2_times_61 : decode cX2_times 61 = .ok (.istore 6, 2) := dk_54 6 (dk_at dksX2_times_2 14 rfl rfl)
theorem dX2_times_63 : decode cX2_times 63 = .ok (.iload 6, 2) := dk_21 6 (dk_at dksX2_times_2 16 rfl rfl)
theorem dX2_times_65 : decode cX2_times 65 = .ok (.bipush 9, 2) := dk_16 9 (dk_at dksX2_times_2 18 rfl rfl)
theorem dX2_times_67 : decode cX2_times 67 = .ok (.if_icmp .ge 63, 3) := dk_162 0 63 (dk_at dksX2_times_2 20 rfl rfl)
theorem dX2_times_70 : decode cX2_times 70 = .ok (.aload_n 0, 1) := dk_42 (dk_at dksX2_times_2 23 rfl rfl)
theorem dX2_times_71 : decode cX2_times 71 = .ok (.getfield 16, 3) := dk_180 0 16 (dk_at dksX2_times_3 0 rfl rfl)
theorem dX2_times_74 : decode cX2_times 74 = .ok (.iload 6, 2) := dk_21 6 (dk_at dksX2_times_3 3 rfl rfl)
theorem dX2_times_76 : decode cX2_times 76 = .ok (.lconst 0, 1) := dk_9 (dk_at dksX2_times_3 5 rfl rfl)
theorem dX2_times_77 : decode cX2_times 77 = .ok (.lastore, 1) := dk_80 (dk_at dksX2_times_3 6 rfl rfl)
theorem dX2_times_78 : decode cX2_times 78 = .ok (.iconst 0, 1) := dk_3 (dk_at dksX2_times_3 7 rfl rfl)
theorem dX2_times_79 : decode cX2_times 79 = .ok (.istore 7, 2) := dk_54 7 (dk_at dksX2_times_3 8 rfl rfl)
theorem dX2_times_81 : decode cX2_times 81 = .ok (.iload 7, 2) := dk_21 7 (dk_at dksX2_times_3 10 rfl rfl)
theorem dX2_times_83 : decode cX2_times 83 = .ok (.iload 6, 2) := dk_21 6 (dk_at dksX2_times_3 12 rfl rfl)
theorem dX2_times_85 : decode cX2_times 85 = .ok (.if_icmp .gt 39, 3) := dk_163 0 39 (dk_at dksX2_times_3 14 rfl rfl)
theorem dX2_times_88 : decode cX2_times 88 = .ok (.aload_n 0, 1) := dk_42 (dk_at dksX2_times_3 17 rfl rfl)
theorem dX2_times_89 : decode cX2_times 89 = .ok (.getfield 16, 3) := dk_180 0 16 (dk_at dksX2_times_3 18 rfl rfl)
theorem dX2_times_92 : decode cX2_times 92 = .ok (.iload 6, 2) := dk_21 6 (dk_at dksX2_times_3 21 rfl rfl)
theorem dX2_times_94 : decode cX2_times 94 = .ok (.dup2, 1) := dk_92 (dk_at dksX2_times_3 23 rfl rfl)
theorem dX2_times_95 : decode cX2_times 95 = .ok (.laload, 1) := dk_47 (dk_at dksX2_times_4 0 rfl rfl)
theorem dX2_times_96 : decode cX2_times 96 = .ok (.aload_n 0, 1) := dk_42 (dk_at dksX2_times_4 1 rfl rfl)
theorem dX2_times_97 : decode cX2_times 97 = .ok (.iload_n 1, 1) := dk_27 (dk_at dksX2_times_4 2 rfl rfl)
theorem dX2_times_98 : decode cX2_times 98 = .ok (.iload 7, 2) := dk_21 7 (dk_at dksX2_times_4 3 rfl rfl)
theorem dX2_times_100 : decode cX2_times 100 = .ok (.invokevirtual 183, 3) := dk_182 0 183 (dk_at dksX2_times_4 5 rfl rfl)
theorem dX2_times_103 : decode cX2_times 103 = .ok (.i2l, 1) := dk_133 (dk_at dksX2_times_4 8 rfl rfl)
theorem dX2_times_104 : decode cX2_times 104 = .ok (.aload_n 0, 1) := dk_42 (dk_at dksX2_times_4 9 rfl rfl)
theorem dX2_times_105 : decode cX2_times 105 = .ok (.iload_n 2, 1) := dk_28 (dk_at dksX2_times_4 10 rfl rfl)
theorem dX2_times_106 : decode cX2_times 106 = .ok (.iload 6, 2) := dk_21 6 (dk_at dksX2_times_4 11 rfl rfl)
theorem dX2_times_108 : decode cX2_times 108 = .ok (.iload 7, 2) := dk_21 7 (dk_at dksX2_times_4 13 rfl rfl)
theorem dX2_times_110 : decode cX2_times 110 = .ok (.isub, 1) := dk_100 (dk_at dksX2_times_4 15 rfl rfl)
theorem dX2_times_111 : decode cX2_times 111 = .ok (.invokevirtual 183, 3) := dk_182 0 183 (dk_at dksX2_times_4 16 rfl rfl)
theorem dX2_times_114 : decode cX2_times 114 = .ok (.i2l, 1) := dk_133 (dk_at dksX2_times_4 19 rfl rfl)
theorem dX2_times_115 : decode cX2_times 115 = .ok (.lmul, 1) := dk_105 (dk_at dksX2_times_4 20 rfl rfl)
theorem dX2_times_116 : decode cX2_times 116 = .ok (.ladd, 1) := dk_97 (dk_at dksX2_times_4 21 rfl rfl)
theorem dX2_times_117 : decode cX2_times 117 = .ok (.lastore, 1) := dk_80 (dk_at dksX2_times_4 22 rfl rfl)
theorem dX2_times_118 : decode cX2_times 118 = .ok (.iinc 7 1, 3) := dk_132 7 1 (dk_at dksX2_times_5 0 rfl rfl)
theorem dX2_times_121 : decode cX2_times 121 = .ok (.goto (-40), 3) := dk_167 255 216 (dk_at dksX2_times_5 3 rfl rfl)
theorem dX2_times_124 : decode cX2_times 124 = .ok (.iinc 6 1, 3) := dk_132 6 1 (dk_at dksX2_times_5 6 rfl rfl)
theorem dX2_times_127 : decode cX2_times 127 = .ok (.goto (-64), 3) := dk_167 255 192 (dk_at dksX2_times_5 9 rfl rfl)
theorem dX2_times_130 : decode cX2_times 130 = .ok (.aload_n 0, 1) := dk_42 (dk_at dksX2_times_5 12 rfl rfl)
theorem dX2_times_131 : decode cX2_times 131 = .ok (.iload_n 3, 1) := dk_29 (dk_at dksX2_times_5 13 rfl rfl)
theorem dX2_times_132 : decode cX2_times 132 = .ok (.invokevirtual 237, 3) := dk_182 0 237 (dk_at dksX2_times_5 14 rfl rfl)
theorem dX2_times_135 : decode cX2_times 135 = .ok (.ifCond .eq 7, 3) := dk_153 0 7 (dk_at dksX2_times_5 17 rfl rfl)
theorem dX2_times_138 : decode cX2_times 138 = .ok (.iconst 1, 1) := dk_4 (dk_at dksX2_times_5 20 rfl rfl)
theorem dX2_times_139 : decode cX2_times 139 = .ok (.goto 5, 3) := dk_167 0 5 (dk_at dksX2_times_5 21 rfl rfl)
theorem dX2_times_142 : decode cX2_times 142 = .ok (.bipush (-3), 2) := dk_16 253 (dk_at dksX2_times_6 0 rfl rfl)
theorem dX2_times_144 : decode cX2_times 144 = .ok (.ireturn, 1) := dk_172 (dk_at dksX2_times_6 2 rfl rfl)
abbrev cX2_worth : ByteArray := prog_18_method_29_code
def yX2_worth : MethodName := ⟨RX2, "worth", "(II)J"⟩
def dkwX2_worth_4 : List UInt8 := [33, 173]
abbrev dktX2_worth_4 : List UInt8 := dkwX2_worth_4 ++ []
def dkwX2_worth_3 : List UInt8 := [22, 8, 9, 148, 156, 0, 14, 33, 22, 6, 148, 158, 0, 7, 20, 0, 246, 173, 132, 5, 255, 167, 255, 181]
abbrev dktX2_worth_3 : List UInt8 := dkwX2_worth_3 ++ dktX2_worth_4
def dkwX2_worth_2 : List UInt8 := [133, 55, 8, 22, 6, 22, 8, 97, 66, 22, 8, 9, 148, 158, 0, 10, 33, 22, 6, 148, 155, 0, 17]
abbrev dktX2_worth_2 : List UInt8 := dkwX2_worth_2 ++ dktX2_worth_3
def dkwX2_worth_1 : List UInt8 := [133, 184, 0, 253, 154, 0, 7, 20, 0, 246, 173, 33, 28, 133, 105, 55, 6, 42, 27, 21, 5, 182, 0, 183]
abbrev dktX2_worth_1 : List UInt8 := dkwX2_worth_1 ++ dktX2_worth_2
def dkwX2_worth_0 : List UInt8 := [27, 184, 0, 231, 154, 0, 7, 20, 0, 246, 173, 9, 66, 16, 8, 54, 5, 21, 5, 155, 0, 76, 33, 28]
abbrev dktX2_worth_0 : List UInt8 := dkwX2_worth_0 ++ dktX2_worth_1
theorem dksX2_worth_0 : cX2_worth.data.toList.drop 0 = dktX2_worth_0 := by decide +kernel
theorem dksX2_worth_1 : cX2_worth.data.toList.drop 24 = dktX2_worth_1 := dk_seg dksX2_worth_0 24 rfl rfl
theorem dksX2_worth_2 : cX2_worth.data.toList.drop 48 = dktX2_worth_2 := dk_seg dksX2_worth_1 24 rfl rfl
theorem dksX2_worth_3 : cX2_worth.data.toList.drop 71 = dktX2_worth_3 := dk_seg dksX2_worth_2 23 rfl rfl
theorem dksX2_worth_4 : cX2_worth.data.toList.drop 95 = dktX2_worth_4 := dk_seg dksX2_worth_3 24 rfl rfl
theorem dX2_worth_0 : decode cX2_worth 0 = .ok (.iload_n 1, 1) := dk_27 (dk_at dksX2_worth_0 0 rfl rfl)
theorem dX2_worth_1 : decode cX2_worth 1 = .ok (.invokestatic 231, 3) := dk_184 0 231 (dk_at dksX2_worth_0 1 rfl rfl)
theorem dX2_worth_4 : decode cX2_worth 4 = .ok (.ifCond .ne 7, 3) := dk_154 0 7 (dk_at dksX2_worth_0 4 rfl rfl)
theorem dX2_worth_7 : decode cX2_worth 7 = .ok (.ldc2_w 246, 3) := dk_20 0 246 (dk_at dksX2_worth_0 7 rfl rfl)
theorem dX2_worth_10 : decode cX2_worth 10 = .ok (.lreturn, 1) := dk_173 (dk_at dksX2_worth_0 10 rfl rfl)
theorem dX2_worth_11 : decode cX2_worth 11 = .ok (.lconst 0, 1) := dk_9 (dk_at dksX2_worth_0 11 rfl rfl)
theorem dX2_worth_12 : decode cX2_worth 12 = .ok (.lstore_n 3, 1) := dk_66 (dk_at dksX2_worth_0 12 rfl rfl)
theorem dX2_worth_13 : decode cX2_worth 13 = .ok (.bipush 8, 2) := dk_16 8 (dk_at dksX2_worth_0 13 rfl rfl)
theorem dX2_worth_15 : decode cX2_worth 15 = .ok (.istore 5, 2) := dk_54 5 (dk_at dksX2_worth_0 15 rfl rfl)
theorem dX2_worth_17 : decode cX2_worth 17 = .ok (.iload 5, 2) := dk_21 5 (dk_at dksX2_worth_0 17 rfl rfl)
theorem dX2_worth_19 : decode cX2_worth 19 = .ok (.ifCond .lt 76, 3) := dk_155 0 76 (dk_at dksX2_worth_0 19 rfl rfl)
theorem dX2_worth_22 : decode cX2_worth 22 = .ok (.lload_n 3, 1) := dk_33 (dk_at dksX2_worth_0 22 rfl rfl)
theorem dX2_worth_23 : decode cX2_worth 23 = .ok (.iload_n 2, 1) := dk_28 (dk_at dksX2_worth_0 23 rfl rfl)
theorem dX2_worth_24 : decode cX2_worth 24 = .ok (.i2l, 1) := dk_133 (dk_at dksX2_worth_1 0 rfl rfl)
theorem dX2_worth_25 : decode cX2_worth 25 = .ok (.invokestatic 253, 3) := dk_184 0 253 (dk_at dksX2_worth_1 1 rfl rfl)
theorem dX2_worth_28 : decode cX2_worth 28 = .ok (.ifCond .ne 7, 3) := dk_154 0 7 (dk_at dksX2_worth_1 4 rfl rfl)
theorem dX2_worth_31 : decode cX2_worth 31 = .ok (.ldc2_w 246, 3) := dk_20 0 246 (dk_at dksX2_worth_1 7 rfl rfl)
theorem dX2_worth_34 : decode cX2_worth 34 = .ok (.lreturn, 1) := dk_173 (dk_at dksX2_worth_1 10 rfl rfl)
theorem dX2_worth_35 : decode cX2_worth 35 = .ok (.lload_n 3, 1) := dk_33 (dk_at dksX2_worth_1 11 rfl rfl)
theorem dX2_worth_36 : decode cX2_worth 36 = .ok (.iload_n 2, 1) := dk_28 (dk_at dksX2_worth_1 12 rfl rfl)
theorem dX2_worth_37 : decode cX2_worth 37 = .ok (.i2l, 1) := dk_133 (dk_at dksX2_worth_1 13 rfl rfl)
theorem dX2_worth_38 : decode cX2_worth 38 = .ok (.lmul, 1) := dk_105 (dk_at dksX2_worth_1 14 rfl rfl)
theorem dX2_worth_39 : decode cX2_worth 39 = .ok (.lstore 6, 2) := dk_55 6 (dk_at dksX2_worth_1 15 rfl rfl)
theorem dX2_worth_41 : decode cX2_worth 41 = .ok (.aload_n 0, 1) := dk_42 (dk_at dksX2_worth_1 17 rfl rfl)
theorem dX2_worth_42 : decode cX2_worth 42 = .ok (.iload_n 1, 1) := dk_27 (dk_at dksX2_worth_1 18 rfl rfl)
theorem dX2_worth_43 : decode cX2_worth 43 = .ok (.iload 5, 2) := dk_21 5 (dk_at dksX2_worth_1 19 rfl rfl)
theorem dX2_worth_45 : decode cX2_worth 45 = .ok (.invokevirtual 183, 3) := dk_182 0 183 (dk_at dksX2_worth_1 21 rfl rfl)
theorem dX2_worth_48 : decode cX2_worth 48 = .ok (.i2l, 1) := dk_133 (dk_at dksX2_worth_2 0 rfl rfl)
theorem dX2_worth_49 : decode cX2_worth 49 = .ok (.lstore 8, 2) := dk_55 8 (dk_at dksX2_worth_2 1 rfl rfl)
theorem dX2_worth_51 : decode cX2_worth 51 = .ok (.lload 6, 2) := dk_22 6 (dk_at dksX2_worth_2 3 rfl rfl)
theorem dX2_worth_53 : decode cX2_worth 53 = .ok (.lload 8, 2) := dk_22 8 (dk_at dksX2_worth_2 5 rfl rfl)
theorem dX2_worth_55 : decode cX2_worth 55 = .ok (.ladd, 1) := dk_97 (dk_at dksX2_worth_2 7 rfl rfl)
theorem dX2_worth_56 : decode cX2_worth 56 = .ok (.lstore_n 3, 1) := dk_66 (dk_at dksX2_worth_2 8 rfl rfl)
theorem dX2_worth_57 : decode cX2_worth 57 = .ok (.lload 8, 2) := dk_22 8 (dk_at dksX2_worth_2 9 rfl rfl)
theorem dX2_worth_59 : decode cX2_worth 59 = .ok (.lconst 0, 1) := dk_9 (dk_at dksX2_worth_2 11 rfl rfl)
theorem dX2_worth_60 : decode cX2_worth 60 = .ok (.lcmp, 1) := dk_148 (dk_at dksX2_worth_2 12 rfl rfl)
theorem dX2_worth_61 : decode cX2_worth 61 = .ok (.ifCond .le 10, 3) := dk_158 0 10 (dk_at dksX2_worth_2 13 rfl rfl)
theorem dX2_worth_64 : decode cX2_worth 64 = .ok (.lload_n 3, 1) := dk_33 (dk_at dksX2_worth_2 16 rfl rfl)
theorem dX2_worth_65 : decode cX2_worth 65 = .ok (.lload 6, 2) := dk_22 6 (dk_at dksX2_worth_2 17 rfl rfl)
theorem dX2_worth_67 : decode cX2_worth 67 = .ok (.lcmp, 1) := dk_148 (dk_at dksX2_worth_2 19 rfl rfl)
theorem dX2_worth_68 : decode cX2_worth 68 = .ok (.ifCond .lt 17, 3) := dk_155 0 17 (dk_at dksX2_worth_2 20 rfl rfl)
theorem dX2_worth_71 : decode cX2_worth 71 = .ok (.lload 8, 2) := dk_22 8 (dk_at dksX2_worth_3 0 rfl rfl)
theorem dX2_worth_73 : decode cX2_worth 73 = .ok (.lconst 0, 1) := dk_9 (dk_at dksX2_worth_3 2 rfl rfl)
theorem dX2_worth_74 : decode cX2_worth 74 = .ok (.lcmp, 1) := dk_148 (dk_at dksX2_worth_3 3 rfl rfl)
theorem dX2_worth_75 : decode cX2_worth 75 = .ok (.ifCond .ge 14, 3) := dk_156 0 14 (dk_at dksX2_worth_3 4 rfl rfl)
theorem dX2_worth_78 : decode cX2_worth 78 = .ok (.lload_n 3, 1) := dk_33 (dk_at dksX2_worth_3 7 rfl rfl)
theorem dX2_worth_79 : decode cX2_worth 79 = .ok (.lload 6, 2) := dk_22 6 (dk_at dksX2_worth_3 8 rfl rfl)
theorem dX2_worth_81 : decode cX2_worth 81 = .ok (.lcmp, 1) := dk_148 (dk_at dksX2_worth_3 10 rfl rfl)
theorem dX2_worth_82 : decode cX2_worth 82 = .ok (.ifCond .le 7, 3) := dk_158 0 7 (dk_at dksX2_worth_3 11 rfl rfl)
theorem dX2_worth_85 : decode cX2_worth 85 = .ok (.ldc2_w 246, 3) := dk_20 0 246 (dk_at dksX2_worth_3 14 rfl rfl)
theorem dX2_worth_88 : decode cX2_worth 88 = .ok (.lreturn, 1) := dk_173 (dk_at dksX2_worth_3 17 rfl rfl)
theorem dX2_worth_89 : decode cX2_worth 89 = .ok (.iinc 5 (-1), 3) := dk_132 5 255 (dk_at dksX2_worth_3 18 rfl rfl)
theorem dX2_worth_92 : decode cX2_worth 92 = .ok (.goto (-75), 3) := dk_167 255 181 (dk_at dksX2_worth_3 21 rfl rfl)
theorem dX2_worth_95 : decode cX2_worth 95 = .ok (.lload_n 3, 1) := dk_33 (dk_at dksX2_worth_4 0 rfl rfl)
theorem dX2_worth_96 : decode cX2_worth 96 = .ok (.lreturn, 1) := dk_173 (dk_at dksX2_worth_4 1 rfl rfl)
abbrev cX2_isSafe : ByteArray := prog_18_method_28_code
def yX2_isSafe : MethodName := ⟨RX2, "isSafe", "(JJ)Z"⟩
def dkwX2_isSafe_2 : List UInt8 := [30, 148, 154, 0, 7, 4, 167, 0, 4, 3, 172]
abbrev dktX2_isSafe_2 : List UInt8 := dkwX2_isSafe_2 ++ []
def dkwX2_isSafe_1 : List UInt8 := [20, 0, 251, 148, 154, 0, 7, 4, 167, 0, 4, 3, 54, 4, 21, 4, 154, 0, 17, 30, 32, 105, 32, 109]
abbrev dktX2_isSafe_1 : List UInt8 := dkwX2_isSafe_1 ++ dktX2_isSafe_2
def dkwX2_isSafe_0 : List UInt8 := [32, 9, 148, 153, 0, 9, 30, 9, 148, 154, 0, 5, 4, 172, 30, 20, 0, 246, 148, 154, 0, 15, 32]
abbrev dktX2_isSafe_0 : List UInt8 := dkwX2_isSafe_0 ++ dktX2_isSafe_1
theorem dksX2_isSafe_0 : cX2_isSafe.data.toList.drop 0 = dktX2_isSafe_0 := by decide +kernel
theorem dksX2_isSafe_1 : cX2_isSafe.data.toList.drop 23 = dktX2_isSafe_1 := dk_seg dksX2_isSafe_0 23 rfl rfl
theorem dksX2_isSafe_2 : cX2_isSafe.data.toList.drop 47 = dktX2_isSafe_2 := dk_seg dksX2_isSafe_1 24 rfl rfl
theorem dX2_isSafe_0 : decode cX2_isSafe 0 = .ok (.lload_n 2, 1) := dk_32 (dk_at dksX2_isSafe_0 0 rfl rfl)
theorem dX2_isSafe_1 : decode cX2_isSafe 1 = .ok (.lconst 0, 1) := dk_9 (dk_at dksX2_isSafe_0 1 rfl rfl)
theorem dX2_isSafe_2 : decode cX2_isSafe 2 = .ok (.lcmp, 1) := dk_148 (dk_at dksX2_isSafe_0 2 rfl rfl)
theorem dX2_isSafe_3 : decode cX2_isSafe 3 = .ok (.ifCond .eq 9, 3) := dk_153 0 9 (dk_at dksX2_isSafe_0 3 rfl rfl)
theorem dX2_isSafe_6 : decode cX2_isSafe 6 = .ok (.lload_n 0, 1) := dk_30 (dk_at dksX2_isSafe_0 6 rfl rfl)
theorem dX2_isSafe_7 : decode cX2_isSafe 7 = .ok (.lconst 0, 1) := dk_9 (dk_at dksX2_isSafe_0 7 rfl rfl)
theorem dX2_isSafe_8 : decode cX2_isSafe 8 = .ok (.lcmp, 1) := dk_148 (dk_at dksX2_isSafe_0 8 rfl rfl)
theorem dX2_isSafe_9 : decode cX2_isSafe 9 = .ok (.ifCond .ne 5, 3) := dk_154 0 5 (dk_at dksX2_isSafe_0 9 rfl rfl)
theorem dX2_isSafe_12 : decode cX2_isSafe 12 = .ok (.iconst 1, 1) := dk_4 (dk_at dksX2_isSafe_0 12 rfl rfl)
theorem dX2_isSafe_13 : decode cX2_isSafe 13 = .ok (.ireturn, 1) := dk_172 (dk_at dksX2_isSafe_0 13 rfl rfl)
theorem dX2_isSafe_14 : decode cX2_isSafe 14 = .ok (.lload_n 0, 1) := dk_30 (dk_at dksX2_isSafe_0 14 rfl rfl)
theorem dX2_isSafe_15 : decode cX2_isSafe 15 = .ok (.ldc2_w 246, 3) := dk_20 0 246 (dk_at dksX2_isSafe_0 15 rfl rfl)
theorem dX2_isSafe_18 : decode cX2_isSafe 18 = .ok (.lcmp, 1) := dk_148 (dk_at dksX2_isSafe_0 18 rfl rfl)
theorem dX2_isSafe_19 : decode cX2_isSafe 19 = .ok (.ifCond .ne 15, 3) := dk_154 0 15 (dk_at dksX2_isSafe_0 19 rfl rfl)
theorem dX2_isSafe_22 : decode cX2_isSafe 22 = .ok (.lload_n 2, 1) := dk_32 (dk_at dksX2_isSafe_0 22 rfl rfl)
theorem dX2_isSafe_23 : decode cX2_isSafe 23 = .ok (.ldc2_w 251, 3) := dk_20 0 251 (dk_at dksX2_isSafe_1 0 rfl rfl)
theorem dX2_isSafe_26 : decode cX2_isSafe 26 = .ok (.lcmp, 1) := dk_148 (dk_at dksX2_isSafe_1 3 rfl rfl)
theorem dX2_isSafe_27 : decode cX2_isSafe 27 = .ok (.ifCond .ne 7, 3) := dk_154 0 7 (dk_at dksX2_isSafe_1 4 rfl rfl)
theorem dX2_isSafe_30 : decode cX2_isSafe 30 = .ok (.iconst 1, 1) := dk_4 (dk_at dksX2_isSafe_1 7 rfl rfl)
theorem dX2_isSafe_31 : decode cX2_isSafe 31 = .ok (.goto 4, 3) := dk_167 0 4 (dk_at dksX2_isSafe_1 8 rfl rfl)
theorem dX2_isSafe_34 : decode cX2_isSafe 34 = .ok (.iconst 0, 1) := dk_3 (dk_at dksX2_isSafe_1 11 rfl rfl)
theorem dX2_isSafe_35 : decode cX2_isSafe 35 = .ok (.istore 4, 2) := dk_54 4 (dk_at dksX2_isSafe_1 12 rfl rfl)
theorem dX2_isSafe_37 : decode cX2_isSafe 37 = .ok (.iload 4, 2) := dk_21 4 (dk_at dksX2_isSafe_1 14 rfl rfl)
theorem dX2_isSafe_39 : decode cX2_isSafe 39 = .ok (.ifCond .ne 17, 3) := dk_154 0 17 (dk_at dksX2_isSafe_1 16 rfl rfl)
theorem dX2_isSafe_42 : decode cX2_isSafe 42 = .ok (.lload_n 0, 1) := dk_30 (dk_at dksX2_isSafe_1 19 rfl rfl)
theorem dX2_isSafe_43 : decode cX2_isSafe 43 = .ok (.lload_n 2, 1) := dk_32 (dk_at dksX2_isSafe_1 20 rfl rfl)
theorem dX2_isSafe_44 : decode cX2_isSafe 44 = .ok (.lmul, 1) := dk_105 (dk_at dksX2_isSafe_1 21 rfl rfl)
theorem dX2_isSafe_45 : decode cX2_isSafe 45 = .ok (.lload_n 2, 1) := dk_32 (dk_at dksX2_isSafe_1 22 rfl rfl)
theorem dX2_isSafe_46 : decode cX2_isSafe 46 = .ok (.ldiv, 1) := dk_109 (dk_at dksX2_isSafe_1 23 rfl rfl)
theorem dX2_isSafe_47 : decode cX2_isSafe 47 = .ok (.lload_n 0, 1) := dk_30 (dk_at dksX2_isSafe_2 0 rfl rfl)
theorem dX2_isSafe_48 : decode cX2_isSafe 48 = .ok (.lcmp, 1) := dk_148 (dk_at dksX2_isSafe_2 1 rfl rfl)
theorem dX2_isSafe_49 : decode cX2_isSafe 49 = .ok (.ifCond .ne 7, 3) := dk_154 0 7 (dk_at dksX2_isSafe_2 2 rfl rfl)
theorem dX2_isSafe_52 : decode cX2_isSafe 52 = .ok (.iconst 1, 1) := dk_4 (dk_at dksX2_isSafe_2 5 rfl rfl)
theorem dX2_isSafe_53 : decode cX2_isSafe 53 = .ok (.goto 4, 3) := dk_167 0 4 (dk_at dksX2_isSafe_2 6 rfl rfl)
theorem dX2_isSafe_56 : decode cX2_isSafe 56 = .ok (.iconst 0, 1) := dk_3 (dk_at dksX2_isSafe_2 9 rfl rfl)
theorem dX2_isSafe_57 : decode cX2_isSafe 57 = .ok (.ireturn, 1) := dk_172 (dk_at dksX2_isSafe_2 10 rfl rfl)
abbrev cX2_expansion : ByteArray := prog_18_method_31_code
def yX2_expansion : MethodName := ⟨RX2, "expansion", "(IIII)J"⟩
def dkwX2_expansion_6 : List UInt8 := [180, 0, 20, 29, 21, 5, 104, 21, 4, 96, 47, 167, 0, 4, 9, 173]
abbrev dktX2_expansion_6 : List UInt8 := dkwX2_expansion_6 ++ []
def dkwX2_expansion_5 : List UInt8 := [182, 1, 5, 21, 4, 21, 5, 162, 0, 30, 29, 21, 5, 104, 21, 4, 96, 16, 9, 162, 0, 18, 42]
abbrev dktX2_expansion_5 : List UInt8 := dkwX2_expansion_5 ++ dktX2_expansion_6
def dkwX2_expansion_4 : List UInt8 := [182, 0, 183, 133, 182, 1, 1, 80, 132, 6, 1, 167, 255, 204, 42, 3, 16, 9, 17, 1, 104, 21, 5]
abbrev dktX2_expansion_4 : List UInt8 := dkwX2_expansion_4 ++ dktX2_expansion_5
def dkwX2_expansion_3 : List UInt8 := [182, 0, 183, 133, 182, 1, 1, 80, 42, 180, 0, 23, 17, 1, 104, 21, 6, 96, 42, 42, 28, 21, 6]
abbrev dktX2_expansion_3 : List UInt8 := dkwX2_expansion_3 ++ dktX2_expansion_4
def dkwX2_expansion_2 : List UInt8 := [54, 5, 3, 54, 6, 21, 6, 16, 9, 162, 0, 51, 42, 180, 0, 20, 21, 6, 42, 42, 27, 21, 6]
abbrev dktX2_expansion_2 : List UInt8 := dkwX2_expansion_2 ++ dktX2_expansion_3
def dkwX2_expansion_1 : List UInt8 := [184, 0, 243, 153, 0, 11, 42, 28, 182, 0, 248, 154, 0, 7, 20, 0, 246, 173, 42, 28, 182, 0, 187]
abbrev dktX2_expansion_1 : List UInt8 := dkwX2_expansion_1 ++ dktX2_expansion_2
def dkwX2_expansion_0 : List UInt8 := [27, 184, 0, 231, 153, 0, 33, 28, 184, 0, 231, 153, 0, 26, 29, 184, 0, 243, 153, 0, 19, 21, 4]
abbrev dktX2_expansion_0 : List UInt8 := dkwX2_expansion_0 ++ dktX2_expansion_1
theorem dksX2_expansion_0 : cX2_expansion.data.toList.drop 0 = dktX2_expansion_0 := by decide +kernel
theorem dksX2_expansion_1 : cX2_expansion.data.toList.drop 23 = dktX2_expansion_1 := dk_seg dksX2_expansion_0 23 rfl rfl
theorem dksX2_expansion_2 : cX2_expansion.data.toList.drop 46 = dktX2_expansion_2 := dk_seg dksX2_expansion_1 23 rfl rfl
theorem dksX2_expansion_3 : cX2_expansion.data.toList.drop 69 = dktX2_expansion_3 := dk_seg dksX2_expansion_2 23 rfl rfl
theorem dksX2_expansion_4 : cX2_expansion.data.toList.drop 92 = dktX2_expansion_4 := dk_seg dksX2_expansion_3 23 rfl rfl
theorem dksX2_expansion_5 : cX2_expansion.data.toList.drop 115 = dktX2_expansion_5 := dk_seg dksX2_expansion_4 23 rfl rfl
theorem dksX2_expansion_6 : cX2_expansion.data.toList.drop 138 = dktX2_expansion_6 := dk_seg dksX2_expansion_5 23 rfl rfl
theorem dX2_expansion_0 : decode cX2_expansion 0 = .ok (.iload_n 1, 1) := dk_27 (dk_at dksX2_expansion_0 0 rfl rfl)
theorem dX2_expansion_1 : decode cX2_expansion 1 = .ok (.invokestatic 231, 3) := dk_184 0 231 (dk_at dksX2_expansion_0 1 rfl rfl)
theorem dX2_expansion_4 : decode cX2_expansion 4 = .ok (.ifCond .eq 33, 3) := dk_153 0 33 (dk_at dksX2_expansion_0 4 rfl rfl)
theorem dX2_expansion_7 : decode cX2_expansion 7 = .ok (.iload_n 2, 1) := dk_28 (dk_at dksX2_expansion_0 7 rfl rfl)
theorem dX2_expansion_8 : decode cX2_expansion 8 = .ok (.invokestatic 231, 3) := dk_184 0 231 (dk_at dksX2_expansion_0 8 rfl rfl)
theorem dX2_expansion_11 : decode cX2_expansion 11 = .ok (.ifCond .eq 26, 3) := dk_153 0 26 (dk_at dksX2_expansion_0 11 rfl rfl)
theorem dX2_expansion_14 : decode cX2_expansion 14 = .ok (.iload_n 3, 1) := dk_29 (dk_at dksX2_expansion_0 14 rfl rfl)
theorem dX2_expansion_15 : decode cX2_expansion 15 = .ok (.invokestatic 243, 3) := dk_184 0 243 (dk_at dksX2_expansion_0 15 rfl rfl)
theorem dX2_expansion_18 : decode cX2_expansion 18 = .ok (.ifCond .eq 19, 3) := dk_153 0 19 (dk_at dksX2_expansion_0 18 rfl rfl)
theorem dX2_expansion_21 : decode cX2_expansion 21 = .ok (.iload 4, 2) := dk_21 4 (dk_at dksX2_expansion_0 21 rfl rfl)
theorem dX2_expansion_23 : decode cX2_expansion 23 = .ok (.invokestatic 243, 3) := dk_184 0 243 (dk_at dksX2_expansion_1 0 rfl rfl)
theorem dX2_expansion_26 : decode cX2_expansion 26 = .ok (.ifCond .eq 11, 3) := dk_153 0 11 (dk_at dksX2_expansion_1 3 rfl rfl)
theorem dX2_expansion_29 : decode cX2_expansion 29 = .ok (.aload_n 0, 1) := dk_42 (dk_at dksX2_expansion_1 6 rfl rfl)
theorem dX2_expansion_30 : decode cX2_expansion 30 = .ok (.iload_n 2, 1) := dk_28 (dk_at dksX2_expansion_1 7 rfl rfl)
theorem dX2_expansion_31 : decode cX2_expansion 31 = .ok (.invokevirtual 248, 3) := dk_182 0 248 (dk_at dksX2_expansion_1 8 rfl rfl)
theorem dX2_expansion_34 : decode cX2_expansion 34 = .ok (.ifCond .ne 7, 3) := dk_154 0 7 (dk_at dksX2_expansion_1 11 rfl rfl)
theorem dX2_expansion_37 : decode cX2_expansion 37 = .ok (.ldc2_w 246, 3) := dk_20 0 246 (dk_at dksX2_expansion_1 14 rfl rfl)
theorem dX2_expansion_40 : decode cX2_expansion 40 = .ok (.lreturn, 1) := dk_173 (dk_at dksX2_expansion_1 17 rfl rfl)
theorem dX2_expansion_41 : decode cX2_expansion 41 = .ok (.aload_n 0, 1) := dk_42 (dk_at dksX2_expansion_1 18 rfl rfl)
theorem dX2_expansion_42 : decode cX2_expansion 42 = .ok (.iload_n 2, 1) := dk_28 (dk_at dksX2_expansion_1 19 rfl rfl)
theorem dX2_expansion_43 : decode cX2_expansion 43 = .ok (.invokevirtual 187, 3) := dk_182 0 187 (dk_at dksX2_expansion_1 20 rfl rfl)
theorem dX2_expansion_46 : decode cX2_expansion 46 = .ok (.istore 5, 2) := dk_54 5 (dk_at dksX2_expansion_2 0 rfl rfl)
theorem dX2_expansion_48 : decode cX2_expansion 48 = .ok (.iconst 0, 1) := dk_3 (dk_at dksX2_expansion_2 2 rfl rfl)
theorem dX2_expansion_49 : decode cX2_expansion 49 = .ok (.istore 6, 2) := dk_54 6 (dk_at dksX2_expansion_2 3 rfl rfl)
theorem dX2_expansion_51 : decode cX2_expansion 51 = .ok (.iload 6, 2) := dk_21 6 (dk_at dksX2_expansion_2 5 rfl rfl)
theorem dX2_expansion_53 : decode cX2_expansion 53 = .ok (.bipush 9, 2) := dk_16 9 (dk_at dksX2_expansion_2 7 rfl rfl)
theorem dX2_expansion_55 : decode cX2_expansion 55 = .ok (.if_icmp .ge 51, 3) := dk_162 0 51 (dk_at dksX2_expansion_2 9 rfl rfl)
theorem dX2_expansion_58 : decode cX2_expansion 58 = .ok (.aload_n 0, 1) := dk_42 (dk_at dksX2_expansion_2 12 rfl rfl)
theorem dX2_expansion_59 : decode cX2_expansion 59 = .ok (.getfield 20, 3) := dk_180 0 20 (dk_at dksX2_expansion_2 13 rfl rfl)
theorem dX2_expansion_62 : decode cX2_expansion 62 = .ok (.iload 6, 2) := dk_21 6 (dk_at dksX2_expansion_2 16 rfl rfl)
theorem dX2_expansion_64 : decode cX2_expansion 64 = .ok (.aload_n 0, 1) := dk_42 (dk_at dksX2_expansion_2 18 rfl rfl)
theorem dX2_expansion_65 : decode cX2_expansion 65 = .ok (.aload_n 0, 1) := dk_42 (dk_at dksX2_expansion_2 19 rfl rfl)
theorem dX2_expansion_66 : decode cX2_expansion 66 = .ok (.iload_n 1, 1) := dk_27 (dk_at dksX2_expansion_2 20 rfl rfl)
theorem dX2_expansion_67 : decode cX2_expansion 67 = .ok (.iload 6, 2) := dk_21 6 (dk_at dksX2_expansion_2 21 rfl rfl)
theorem dX2_expansion_69 : decode cX2_expansion 69 = .ok (.invokevirtual 183, 3) := dk_182 0 183 (dk_at dksX2_expansion_3 0 rfl rfl)
theorem dX2_expansion_72 : decode cX2_expansion 72 = .ok (.i2l, 1) := dk_133 (dk_at dksX2_expansion_3 3 rfl rfl)
theorem dX2_expansion_73 : decode cX2_expansion 73 = .ok (.invokevirtual 257, 3) := dk_182 1 1 (dk_at dksX2_expansion_3 4 rfl rfl)
theorem dX2_expansion_76 : decode cX2_expansion 76 = .ok (.lastore, 1) := dk_80 (dk_at dksX2_expansion_3 7 rfl rfl)
theorem dX2_expansion_77 : decode cX2_expansion 77 = .ok (.aload_n 0, 1) := dk_42 (dk_at dksX2_expansion_3 8 rfl rfl)
theorem dX2_expansion_78 : decode cX2_expansion 78 = .ok (.getfield 23, 3) := dk_180 0 23 (dk_at dksX2_expansion_3 9 rfl rfl)
theorem dX2_expansion_81 : decode cX2_expansion 81 = .ok (.sipush 360, 3) := dk_17 1 104 (dk_at dksX2_expansion_3 12 rfl rfl)
theorem dX2_expansion_84 : decode cX2_expansion 84 = .ok (.iload 6, 2) := dk_21 6 (dk_at dksX2_expansion_3 15 rfl rfl)
theorem dX2_expansion_86 : decode cX2_expansion 86 = .ok (.iadd, 1) := dk_96 (dk_at dksX2_expansion_3 17 rfl rfl)
theorem dX2_expansion_87 : decode cX2_expansion 87 = .ok (.aload_n 0, 1) := dk_42 (dk_at dksX2_expansion_3 18 rfl rfl)
theorem dX2_expansion_88 : decode cX2_expansion 88 = .ok (.aload_n 0, 1) := dk_42 (dk_at dksX2_expansion_3 19 rfl rfl)
theorem dX2_expansion_89 : decode cX2_expansion 89 = .ok (.iload_n 2, 1) := dk_28 (dk_at dksX2_expansion_3 20 rfl rfl)
theorem dX2_expansion_90 : decode cX2_expansion 90 = .ok (.iload 6, 2) := dk_21 6 (dk_at dksX2_expansion_3 21 rfl rfl)
theorem dX2_expansion_92 : decode cX2_expansion 92 = .ok (.invokevirtual 183, 3) := dk_182 0 183 (dk_at dksX2_expansion_4 0 rfl rfl)
theorem dX2_expansion_95 : decode cX2_expansion 95 = .ok (.i2l, 1) := dk_133 (dk_at dksX2_expansion_4 3 rfl rfl)
theorem dX2_expansion_96 : decode cX2_expansion 96 = .ok (.invokevirtual 257, 3) := dk_182 1 1 (dk_at dksX2_expansion_4 4 rfl rfl)
theorem dX2_expansion_99 : decode cX2_expansion 99 = .ok (.lastore, 1) := dk_80 (dk_at dksX2_expansion_4 7 rfl rfl)
theorem dX2_expansion_100 : decode cX2_expansion 100 = .ok (.iinc 6 1, 3) := dk_132 6 1 (dk_at dksX2_expansion_4 8 rfl rfl)
theorem dX2_expansion_103 : decode cX2_expansion 103 = .ok (.goto (-52), 3) := dk_167 255 204 (dk_at dksX2_expansion_4 11 rfl rfl)
theorem dX2_expansion_106 : decode cX2_expansion 106 = .ok (.aload_n 0, 1) := dk_42 (dk_at dksX2_expansion_4 14 rfl rfl)
theorem dX2_expansion_107 : decode cX2_expansion 107 = .ok (.iconst 0, 1) := dk_3 (dk_at dksX2_expansion_4 15 rfl rfl)
theorem dX2_expansion_108 : decode cX2_expansion 108 = .ok (.bipush 9, 2) := dk_16 9 (dk_at dksX2_expansion_4 16 rfl rfl)
theorem dX2_expansion_110 : decode cX2_expansion 110 = .ok (.sipush 360, 3) := dk_17 1 104 (dk_at dksX2_expansion_4 18 rfl rfl)
theorem dX2_expansion_113 : decode cX2_expansion 113 = .ok (.iload 5, 2) := dk_21 5 (dk_at dksX2_expansion_4 21 rfl rfl)
theorem dX2_expansion_115 : decode cX2_expansion 115 = .ok (.invokevirtual 261, 3) := dk_182 1 5 (dk_at dksX2_expansion_5 0 rfl rfl)
theorem dX2_expansion_118 : decode cX2_expansion 118 = .ok (.iload 4, 2) := dk_21 4 (dk_at dksX2_expansion_5 3 rfl rfl)
theorem dX2_expansion_120 : decode cX2_expansion 120 = .ok (.iload 5, 2) := dk_21 5 (dk_at dksX2_expansion_5 5 rfl rfl)
theorem dX2_expansion_122 : decode cX2_expansion 122 = .ok (.if_icmp .ge 30, 3) := dk_162 0 30 (dk_at dksX2_expansion_5 7 rfl rfl)
theorem dX2_expansion_125 : decode cX2_expansion 125 = .ok (.iload_n 3, 1) := dk_29 (dk_at dksX2_expansion_5 10 rfl rfl)
theorem dX2_expansion_126 : decode cX2_expansion 126 = .ok (.iload 5, 2) := dk_21 5 (dk_at dksX2_expansion_5 11 rfl rfl)
theorem dX2_expansion_128 : decode cX2_expansion 128 = .ok (.imul, 1) := dk_104 (dk_at dksX2_expansion_5 13 rfl rfl)
theorem dX2_expansion_129 : decode cX2_expansion 129 = .ok (.iload 4, 2) := dk_21 4 (dk_at dksX2_expansion_5 14 rfl rfl)
theorem dX2_expansion_131 : decode cX2_expansion 131 = .ok (.iadd, 1) := dk_96 (dk_at dksX2_expansion_5 16 rfl rfl)
theorem dX2_expansion_132 : decode cX2_expansion 132 = .ok (.bipush 9, 2) := dk_16 9 (dk_at dksX2_expansion_5 17 rfl rfl)
theorem dX2_expansion_134 : decode cX2_expansion 134 = .ok (.if_icmp .ge 18, 3) := dk_162 0 18 (dk_at dksX2_expansion_5 19 rfl rfl)
theorem dX2_expansion_137 : decode cX2_expansion 137 = .ok (.aload_n 0, 1) := dk_42 (dk_at dksX2_expansion_5 22 rfl rfl)
theorem dX2_expansion_138 : decode cX2_expansion 138 = .ok (.getfield 20, 3) := dk_180 0 20 (dk_at dksX2_expansion_6 0 rfl rfl)
theorem dX2_expansion_141 : decode cX2_expansion 141 = .ok (.iload_n 3, 1) := dk_29 (dk_at dksX2_expansion_6 3 rfl rfl)
theorem dX2_expansion_142 : decode cX2_expansion 142 = .ok (.iload 5, 2) := dk_21 5 (dk_at dksX2_expansion_6 4 rfl rfl)
theorem dX2_expansion_144 : decode cX2_expansion 144 = .ok (.imul, 1) := dk_104 (dk_at dksX2_expansion_6 6 rfl rfl)
theorem dX2_expansion_145 : decode cX2_expansion 145 = .ok (.iload 4, 2) := dk_21 4 (dk_at dksX2_expansion_6 7 rfl rfl)
theorem dX2_expansion_147 : decode cX2_expansion 147 = .ok (.iadd, 1) := dk_96 (dk_at dksX2_expansion_6 9 rfl rfl)
theorem dX2_expansion_148 : decode cX2_expansion 148 = .ok (.laload, 1) := dk_47 (dk_at dksX2_expansion_6 10 rfl rfl)
theorem dX2_expansion_149 : decode cX2_expansion 149 = .ok (.goto 4, 3) := dk_167 0 4 (dk_at dksX2_expansion_6 11 rfl rfl)
theorem dX2_expansion_152 : decode cX2_expansion 152 = .ok (.lconst 0, 1) := dk_9 (dk_at dksX2_expansion_6 14 rfl rfl)
theorem dX2_expansion_153 : decode cX2_expansion 153 = .ok (.lreturn, 1) := dk_173 (dk_at dksX2_expansion_6 15 rfl rfl)
abbrev cX2_number : ByteArray := prog_18_method_10_code
def yX2_number : MethodName := ⟨RX2, "number", "(J)J"⟩
def dkwX2_number_0 : List UInt8 := [31, 42, 180, 0, 175, 113, 66, 33, 9, 148, 156, 0, 12, 33, 42, 180, 0, 175, 97, 167, 0, 4, 33, 173]
abbrev dktX2_number_0 : List UInt8 := dkwX2_number_0 ++ []
theorem dksX2_number_0 : cX2_number.data.toList.drop 0 = dktX2_number_0 := by decide +kernel
theorem dX2_number_0 : decode cX2_number 0 = .ok (.lload_n 1, 1) := dk_31 (dk_at dksX2_number_0 0 rfl rfl)
theorem dX2_number_1 : decode cX2_number 1 = .ok (.aload_n 0, 1) := dk_42 (dk_at dksX2_number_0 1 rfl rfl)
theorem dX2_number_2 : decode cX2_number 2 = .ok (.getfield 175, 3) := dk_180 0 175 (dk_at dksX2_number_0 2 rfl rfl)
theorem dX2_number_5 : decode cX2_number 5 = .ok (.lrem, 1) := dk_113 (dk_at dksX2_number_0 5 rfl rfl)
theorem dX2_number_6 : decode cX2_number 6 = .ok (.lstore_n 3, 1) := dk_66 (dk_at dksX2_number_0 6 rfl rfl)
theorem dX2_number_7 : decode cX2_number 7 = .ok (.lload_n 3, 1) := dk_33 (dk_at dksX2_number_0 7 rfl rfl)
theorem dX2_number_8 : decode cX2_number 8 = .ok (.lconst 0, 1) := dk_9 (dk_at dksX2_number_0 8 rfl rfl)
theorem dX2_number_9 : decode cX2_number 9 = .ok (.lcmp, 1) := dk_148 (dk_at dksX2_number_0 9 rfl rfl)
theorem dX2_number_10 : decode cX2_number 10 = .ok (.ifCond .ge 12, 3) := dk_156 0 12 (dk_at dksX2_number_0 10 rfl rfl)
theorem dX2_number_13 : decode cX2_number 13 = .ok (.lload_n 3, 1) := dk_33 (dk_at dksX2_number_0 13 rfl rfl)
theorem dX2_number_14 : decode cX2_number 14 = .ok (.aload_n 0, 1) := dk_42 (dk_at dksX2_number_0 14 rfl rfl)
theorem dX2_number_15 : decode cX2_number 15 = .ok (.getfield 175, 3) := dk_180 0 175 (dk_at dksX2_number_0 15 rfl rfl)
theorem dX2_number_18 : decode cX2_number 18 = .ok (.ladd, 1) := dk_97 (dk_at dksX2_number_0 18 rfl rfl)
theorem dX2_number_19 : decode cX2_number 19 = .ok (.goto 4, 3) := dk_167 0 4 (dk_at dksX2_number_0 19 rfl rfl)
theorem dX2_number_22 : decode cX2_number 22 = .ok (.lload_n 3, 1) := dk_33 (dk_at dksX2_number_0 22 rfl rfl)
theorem dX2_number_23 : decode cX2_number 23 = .ok (.lreturn, 1) := dk_173 (dk_at dksX2_number_0 23 rfl rfl)
abbrev cX2_splits : ByteArray := prog_18_method_30_code
def yX2_splits : MethodName := ⟨RX2, "splits", "(IIII)V"⟩
def dkwX2_splits_4 : List UInt8 := [132, 6, 255, 167, 255, 179, 21, 5, 21, 4, 96, 54, 5, 167, 255, 151, 177]
abbrev dktX2_splits_4 : List UInt8 := dkwX2_splits_4 ++ []
def dkwX2_splits_3 : List UInt8 := [21, 6, 47, 42, 180, 0, 23, 29, 21, 7, 96, 47, 105, 101, 182, 1, 1, 80, 132, 7, 1, 167, 255, 198]
abbrev dktX2_splits_3 : List UInt8 := dkwX2_splits_3 ++ dktX2_splits_4
def dkwX2_splits_2 : List UInt8 := [21, 4, 100, 21, 7, 96, 42, 42, 180, 0, 20, 21, 6, 21, 4, 100, 21, 7, 96, 47, 42, 180, 0, 20]
abbrev dktX2_splits_2 : List UInt8 := dkwX2_splits_2 ++ dktX2_splits_3
def dkwX2_splits_1 : List UInt8 := [21, 5, 21, 4, 96, 161, 0, 73, 3, 54, 7, 21, 7, 21, 4, 162, 0, 57, 42, 180, 0, 20, 21, 6]
abbrev dktX2_splits_1 : List UInt8 := dkwX2_splits_1 ++ dktX2_splits_2
def dkwX2_splits_0 : List UInt8 := [27, 54, 5, 21, 5, 21, 4, 96, 27, 28, 96, 162, 0, 100, 27, 28, 96, 4, 100, 54, 6, 21, 6]
abbrev dktX2_splits_0 : List UInt8 := dkwX2_splits_0 ++ dktX2_splits_1
theorem dksX2_splits_0 : cX2_splits.data.toList.drop 0 = dktX2_splits_0 := by decide +kernel
theorem dksX2_splits_1 : cX2_splits.data.toList.drop 23 = dktX2_splits_1 := dk_seg dksX2_splits_0 23 rfl rfl
theorem dksX2_splits_2 : cX2_splits.data.toList.drop 47 = dktX2_splits_2 := dk_seg dksX2_splits_1 24 rfl rfl
theorem dksX2_splits_3 : cX2_splits.data.toList.drop 71 = dktX2_splits_3 := dk_seg dksX2_splits_2 24 rfl rfl
theorem dksX2_splits_4 : cX2_splits.data.toList.drop 95 = dktX2_splits_4 := dk_seg dksX2_splits_3 24 rfl rfl
theorem dX2_splits_0 : decode cX2_splits 0 = .ok (.iload_n 1, 1) := dk_27 (dk_at dksX2_splits_0 0 rfl rfl)
theorem dX2_splits_1 : decode cX2_splits 1 = .ok (.istore 5, 2) := dk_54 5 (dk_at dksX2_splits_0 1 rfl rfl)
theorem dX2_splits_3 : decode cX2_splits 3 = .ok (.iload 5, 2) := dk_21 5 (dk_at dksX2_splits_0 3 rfl rfl)
theorem dX2_splits_5 : decode cX2_splits 5 = .ok (.iload 4, 2) := dk_21 4 (dk_at dksX2_splits_0 5 rfl rfl)
theorem dX2_splits_7 : decode cX2_splits 7 = .ok (.iadd, 1) := dk_96 (dk_at dksX2_splits_0 7 rfl rfl)
theorem dX2_splits_8 : decode cX2_splits 8 = .ok (.iload_n 1, 1) := dk_27 (dk_at dksX2_splits_0 8 rfl rfl)
theorem dX2_splits_9 : decode cX2_splits 9 = .ok (.iload_n 2, 1) := dk_28 (dk_at dksX2_splits_0 9 rfl rfl)
theorem dX2_splits_10 : decode cX2_splits 10 = .ok (.iadd, 1) := dk_96 (dk_at dksX2_splits_0 10 rfl rfl)
theorem dX2_splits_11 : decode cX2_splits 11 = .ok (.if_icmp .ge 100, 3) := dk_162 0 100 (dk_at dksX2_splits_0 11 rfl rfl)
theorem dX2_splits_14 : decode cX2_splits 14 = .ok (.iload_n 1, 1) := dk_27 (dk_at dksX2_splits_0 14 rfl rfl)
theorem dX2_splits_15 : decode cX2_splits 15 = .ok (.iload_n 2, 1) := dk_28 (dk_at dksX2_splits_0 15 rfl rfl)
theorem dX2_splits_16 : decode cX2_splits 16 = .ok (.iadd, 1) := dk_96 (dk_at dksX2_splits_0 16 rfl rfl)
theorem dX2_splits_17 : decode cX2_splits 17 = .ok (.iconst 1, 1) := dk_4 (dk_at dksX2_splits_0 17 rfl rfl)
theorem dX2_splits_18 : decode cX2_splits 18 = .ok (.isub, 1) := dk_100 (dk_at dksX2_splits_0 18 rfl rfl)
theorem dX2_splits_19 : decode cX2_splits 19 = .ok (.istore 6, 2) := dk_54 6 (dk_at dksX2_splits_0 19 rfl rfl)
theorem dX2_splits_21 : decode cX2_splits 21 = .ok (.iload 6, 2) := dk_21 6 (dk_at dksX2_splits_0 21 rfl rfl)
theorem dX2_splits_23 : decode cX2_splits 23 = .ok (.iload 5, 2) := dk_21 5 (dk_at dksX2_splits_1 0 rfl rfl)
theorem dX2_splits_25 : decode cX2_splits 25 = .ok (.iload 4, 2) := dk_21 4 (dk_at dksX2_splits_1 2 rfl rfl)
theorem dX2_splits_27 : decode cX2_splits 27 = .ok (.iadd, 1) := dk_96 (dk_at dksX2_splits_1 4 rfl rfl)
theorem dX2_splits_28 : decode cX2_splits 28 = .ok (.if_icmp .lt 73, 3) := dk_161 0 73 (dk_at dksX2_splits_1 5 rfl rfl)
theorem dX2_splits_31 : decode cX2_splits 31 = .ok (.iconst 0, 1) := dk_3 (dk_at dksX2_splits_1 8 rfl rfl)
theorem dX2_splits_32 : decode cX2_splits 32 = .ok (.istore 7, 2) := dk_54 7 (dk_at dksX2_splits_1 9 rfl rfl)
theorem dX2_splits_34 : decode cX2_splits 34 = .ok (.iload 7, 2) := dk_21 7 (dk_at dksX2_splits_1 11 rfl rfl)
theorem dX2_splits_36 : decode cX2_splits 36 = .ok (.iload 4, 2) := dk_21 4 (dk_at dksX2_splits_1 13 rfl rfl)
theorem dX2_splits_38 : decode cX2_splits 38 = .ok (.if_icmp .ge 57, 3) := dk_162 0 57 (dk_at dksX2_splits_1 15 rfl rfl)
theorem dX2_splits_41 : decode cX2_splits 41 = .ok (.aload_n 0, 1) := dk_42 (dk_at dksX2_splits_1 18 rfl rfl)
theorem dX2_splits_42 : decode cX2_splits 42 = .ok (.getfield 20, 3) := dk_180 0 20 (dk_at dksX2_splits_1 19 rfl rfl)
theorem dX2_splits_45 : decode cX2_splits 45 = .ok (.iload 6, 2) := dk_21 6 (dk_at dksX2_splits_1 22 rfl rfl)
theorem dX2_splits_47 : decode cX2_splits 47 = .ok (.iload 4, 2) := dk_21 4 (dk_at dksX2_splits_2 0 rfl rfl)
theorem dX2_splits_49 : decode cX2_splits 49 = .ok (.isub, 1) := dk_100 (dk_at dksX2_splits_2 2 rfl rfl)
theorem dX2_splits_50 : decode cX2_splits 50 = .ok (.iload 7, 2) := dk_21 7 (dk_at dksX2_splits_2 3 rfl rfl)
theorem dX2_splits_52 : decode cX2_splits 52 = .ok (.iadd, 1) := dk_96 (dk_at dksX2_splits_2 5 rfl rfl)
theorem dX2_splits_53 : decode cX2_splits 53 = .ok (.aload_n 0, 1) := dk_42 (dk_at dksX2_splits_2 6 rfl rfl)
theorem dX2_splits_54 : decode cX2_splits 54 = .ok (.aload_n 0, 1) := dk_42 (dk_at dksX2_splits_2 7 rfl rfl)
theorem dX2_splits_55 : decode cX2_splits 55 = .ok (.getfield 20, 3) := dk_180 0 20 (dk_at dksX2_splits_2 8 rfl rfl)
theorem dX2_splits_58 : decode cX2_splits 58 = .ok (.iload 6, 2) := dk_21 6 (dk_at dksX2_splits_2 11 rfl rfl)
theorem dX2_splits_60 : decode cX2_splits 60 = .ok (.iload 4, 2) := dk_21 4 (dk_at dksX2_splits_2 13 rfl rfl)
theorem dX2_splits_62 : decode cX2_splits 62 = .ok (.isub, 1) := dk_100 (dk_at dksX2_splits_2 15 rfl rfl)
theorem dX2_splits_63 : decode cX2_splits 63 = .ok (.iload 7, 2) := dk_21 7 (dk_at dksX2_splits_2 16 rfl rfl)
theorem dX2_splits_65 : decode cX2_splits 65 = .ok (.iadd, 1) := dk_96 (dk_at dksX2_splits_2 18 rfl rfl)
theorem dX2_splits_66 : decode cX2_splits 66 = .ok (.laload, 1) := dk_47 (dk_at dksX2_splits_2 19 rfl rfl)
theorem dX2_splits_67 : decode cX2_splits 67 = .ok (.aload_n 0, 1) := dk_42 (dk_at dksX2_splits_2 20 rfl rfl)
theorem dX2_splits_68 : decode cX2_splits 68 = .ok (.getfield 20, 3) := dk_180 0 20 (dk_at dksX2_splits_2 21 rfl rfl)
theorem dX2_splits_71 : decode cX2_splits 71 = .ok (.iload 6, 2) := dk_21 6 (dk_at dksX2_splits_3 0 rfl rfl)
theorem dX2_splits_73 : decode cX2_splits 73 = .ok (.laload, 1) := dk_47 (dk_at dksX2_splits_3 2 rfl rfl)
theorem dX2_splits_74 : decode cX2_splits 74 = .ok (.aload_n 0, 1) := dk_42 (dk_at dksX2_splits_3 3 rfl rfl)
theorem dX2_splits_75 : decode cX2_splits 75 = .ok (.getfield 23, 3) := dk_180 0 23 (dk_at dksX2_splits_3 4 rfl rfl)
theorem dX2_splits_78 : decode cX2_splits 78 = .ok (.iload_n 3, 1) := dk_29 (dk_at dksX2_splits_3 7 rfl rfl)
theorem dX2_splits_79 : decode cX2_splits 79 = .ok (.iload 7, 2) := dk_21 7 (dk_at dksX2_splits_3 8 rfl rfl)
theorem dX2_splits_81 : decode cX2_splits 81 = .ok (.iadd, 1) := dk_96 (dk_at dksX2_splits_3 10 rfl rfl)
theorem dX2_splits_82 : decode cX2_splits 82 = .ok (.laload, 1) := dk_47 (dk_at dksX2_splits_3 11 rfl rfl)
theorem dX2_splits_83 : decode cX2_splits 83 = .ok (.lmul, 1) := dk_105 (dk_at dksX2_splits_3 12 rfl rfl)
theorem dX2_splits_84 : decode cX2_splits 84 = .ok (.lsub, 1) := dk_101 (dk_at dksX2_splits_3 13 rfl rfl)
theorem dX2_splits_85 : decode cX2_splits 85 = .ok (.invokevirtual 257, 3) := dk_182 1 1 (dk_at dksX2_splits_3 14 rfl rfl)
theorem dX2_splits_88 : decode cX2_splits 88 = .ok (.lastore, 1) := dk_80 (dk_at dksX2_splits_3 17 rfl rfl)
theorem dX2_splits_89 : decode cX2_splits 89 = .ok (.iinc 7 1, 3) := dk_132 7 1 (dk_at dksX2_splits_3 18 rfl rfl)
theorem dX2_splits_92 : decode cX2_splits 92 = .ok (.goto (-58), 3) := dk_167 255 198 (dk_at dksX2_splits_3 21 rfl rfl)
theorem dX2_splits_95 : decode cX2_splits 95 = .ok (.iinc 6 (-1), 3) := dk_132 6 255 (dk_at dksX2_splits_4 0 rfl rfl)
theorem dX2_splits_98 : decode cX2_splits 98 = .ok (.goto (-77), 3) := dk_167 255 179 (dk_at dksX2_splits_4 3 rfl rfl)
theorem dX2_splits_101 : decode cX2_splits 101 = .ok (.iload 5, 2) := dk_21 5 (dk_at dksX2_splits_4 6 rfl rfl)
theorem dX2_splits_103 : decode cX2_splits 103 = .ok (.iload 4, 2) := dk_21 4 (dk_at dksX2_splits_4 8 rfl rfl)
theorem dX2_splits_105 : decode cX2_splits 105 = .ok (.iadd, 1) := dk_96 (dk_at dksX2_splits_4 10 rfl rfl)
theorem dX2_splits_106 : decode cX2_splits 106 = .ok (.istore 5, 2) := dk_54 5 (dk_at dksX2_splits_4 11 rfl rfl)
theorem dX2_splits_108 : decode cX2_splits 108 = .ok (.goto (-105), 3) := dk_167 255 151 (dk_at dksX2_splits_4 13 rfl rfl)
theorem dX2_splits_111 : decode cX2_splits 111 = .ok (.return_, 1) := dk_177 (dk_at dksX2_splits_4 16 rfl rfl)
abbrev cX2_factor : ByteArray := prog_18_method_39_code
def yX2_factor : MethodName := ⟨RX2, "factor", "(III)J"⟩
def dkwX2_factor_4 : List UInt8 := [46, 133, 167, 0, 15, 42, 180, 0, 35, 16, 9, 28, 104, 29, 96, 46, 133, 173]
abbrev dktX2_factor_4 : List UInt8 := dkwX2_factor_4 ++ []
def dkwX2_factor_3 : List UInt8 := [160, 0, 13, 42, 180, 0, 32, 28, 46, 133, 167, 0, 31, 29, 16, 253, 160, 0, 13, 42, 180, 0, 29, 28]
abbrev dktX2_factor_3 : List UInt8 := dkwX2_factor_3 ++ dktX2_factor_4
def dkwX2_factor_2 : List UInt8 := [173, 28, 133, 9, 42, 180, 1, 16, 4, 100, 133, 184, 0, 193, 154, 0, 7, 20, 0, 246, 173, 29, 16, 254]
abbrev dktX2_factor_2 : List UInt8 := dkwX2_factor_2 ++ dktX2_factor_3
def dkwX2_factor_1 : List UInt8 := [182, 1, 38, 154, 0, 7, 20, 0, 246, 173, 42, 182, 1, 41, 29, 2, 160, 0, 9, 42, 180, 1, 16, 133]
abbrev dktX2_factor_1 : List UInt8 := dkwX2_factor_1 ++ dktX2_factor_2
def dkwX2_factor_0 : List UInt8 := [27, 184, 0, 231, 153, 0, 25, 29, 133, 20, 1, 34, 20, 1, 36, 184, 0, 193, 153, 0, 11, 42, 27]
abbrev dktX2_factor_0 : List UInt8 := dkwX2_factor_0 ++ dktX2_factor_1
theorem dksX2_factor_0 : cX2_factor.data.toList.drop 0 = dktX2_factor_0 := by decide +kernel
theorem dksX2_factor_1 : cX2_factor.data.toList.drop 23 = dktX2_factor_1 := dk_seg dksX2_factor_0 23 rfl rfl
theorem dksX2_factor_2 : cX2_factor.data.toList.drop 47 = dktX2_factor_2 := dk_seg dksX2_factor_1 24 rfl rfl
theorem dksX2_factor_3 : cX2_factor.data.toList.drop 71 = dktX2_factor_3 := dk_seg dksX2_factor_2 24 rfl rfl
theorem dksX2_factor_4 : cX2_factor.data.toList.drop 95 = dktX2_factor_4 := dk_seg dksX2_factor_3 24 rfl rfl
theorem dX2_factor_0 : decode cX2_factor 0 = .ok (.iload_n 1, 1) := dk_27 (dk_at dksX2_factor_0 0 rfl rfl)
theorem dX2_factor_1 : decode cX2_factor 1 = .ok (.invokestatic 231, 3) := dk_184 0 231 (dk_at dksX2_factor_0 1 rfl rfl)
theorem dX2_factor_4 : decode cX2_factor 4 = .ok (.ifCond .eq 25, 3) := dk_153 0 25 (dk_at dksX2_factor_0 4 rfl rfl)
theorem dX2_factor_7 : decode cX2_factor 7 = .ok (.iload_n 3, 1) := dk_29 (dk_at dksX2_factor_0 7 rfl rfl)
theorem dX2_factor_8 : decode cX2_factor 8 = .ok (.i2l, 1) := dk_133 (dk_at dksX2_factor_0 8 rfl rfl)
theorem dX2_factor_9 : decode cX2_factor 9 = .ok (.ldc2_w 290, 3) := dk_20 1 34 (dk_at dksX2_factor_0 9 rfl rfl)
theorem dX2_factor_12 : decode cX2_factor 12 = .ok (.ldc2_w 292, 3) := dk_20 1 36 (dk_at dksX2_factor_0 12 rfl rfl)
theorem dX2_factor_15 : decode cX2_factor 15 = .ok (.invokestatic 193, 3) := dk_184 0 193 (dk_at dksX2_factor_0 15 rfl rfl)
theorem dX2_factor_18 : decode cX2_factor 18 = .ok (.ifCond .eq 11, 3) := dk_153 0 11 (dk_at dksX2_factor_0 18 rfl rfl)
theorem dX2_factor_21 : decode cX2_factor 21 = .ok (.aload_n 0, 1) := dk_42 (dk_at dksX2_factor_0 21 rfl rfl)
theorem dX2_factor_22 : decode cX2_factor 22 = .ok (.iload_n 1, 1) := dk_27 (dk_at dksX2_factor_0 22 rfl rfl)
theorem dX2_factor_23 : decode cX2_factor 23 = .ok (.invokevirtual 294, 3) := dk_182 1 38 (dk_at dksX2_factor_1 0 rfl rfl)
theorem dX2_factor_26 : decode cX2_factor 26 = .ok (.ifCond .ne 7, 3) := dk_154 0 7 (dk_at dksX2_factor_1 3 rfl rfl)
theorem dX2_factor_29 : decode cX2_factor 29 = .ok (.ldc2_w 246, 3) := dk_20 0 246 (dk_at dksX2_factor_1 6 rfl rfl)
theorem dX2_factor_32 : decode cX2_factor 32 = .ok (.lreturn, 1) := dk_173 (dk_at dksX2_factor_1 9 rfl rfl)
theorem dX2_factor_33 : decode cX2_factor 33 = .ok (.aload_n 0, 1) := dk_42 (dk_at dksX2_factor_1 10 rfl rfl)
theorem dX2_factor_34 : decode cX2_factor 34 = .ok (.invokevirtual 297, 3) := dk_182 1 41 (dk_at dksX2_factor_1 11 rfl rfl)
theorem dX2_factor_37 : decode cX2_factor 37 = .ok (.iload_n 3, 1) := dk_29 (dk_at dksX2_factor_1 14 rfl rfl)
theorem dX2_factor_38 : decode cX2_factor 38 = .ok (.iconst (-1), 1) := dk_2 (dk_at dksX2_factor_1 15 rfl rfl)
theorem dX2_factor_39 : decode cX2_factor 39 = .ok (.if_icmp .ne 9, 3) := dk_160 0 9 (dk_at dksX2_factor_1 16 rfl rfl)
theorem dX2_factor_42 : decode cX2_factor 42 = .ok (.aload_n 0, 1) := dk_42 (dk_at dksX2_factor_1 19 rfl rfl)
theorem dX2_factor_43 : decode cX2_factor 43 = .ok (.getfield 272, 3) := dk_180 1 16 (dk_at dksX2_factor_1 20 rfl rfl)
theorem dX2_factor_46 : decode cX2_factor 46 = .ok (.i2l, 1) := dk_133 (dk_at dksX2_factor_1 23 rfl rfl)
theorem dX2_factor_47 : decode cX2_factor 47 = .ok (.lreturn, 1) := dk_173 (dk_at dksX2_factor_2 0 rfl rfl)
theorem dX2_factor_48 : decode cX2_factor 48 = .ok (.iload_n 2, 1) := dk_28 (dk_at dksX2_factor_2 1 rfl rfl)
theorem dX2_factor_49 : decode cX2_factor 49 = .ok (.i2l, 1) := dk_133 (dk_at dksX2_factor_2 2 rfl rfl)
theorem dX2_factor_50 : decode cX2_factor 50 = .ok (.lconst 0, 1) := dk_9 (dk_at dksX2_factor_2 3 rfl rfl)
theorem dX2_factor_51 : decode cX2_factor 51 = .ok (.aload_n 0, 1) := dk_42 (dk_at dksX2_factor_2 4 rfl rfl)
theorem dX2_factor_52 : decode cX2_factor 52 = .ok (.getfield 272, 3) := dk_180 1 16 (dk_at dksX2_factor_2 5 rfl rfl)
theorem dX2_factor_55 : decode cX2_factor 55 = .ok (.iconst 1, 1) := dk_4 (dk_at dksX2_factor_2 8 rfl rfl)
theorem dX2_factor_56 : decode cX2_factor 56 = .ok (.isub, 1) := dk_100 (dk_at dksX2_factor_2 9 rfl rfl)
theorem dX2_factor_57 : decode cX2_factor 57 = .ok (.i2l, 1) := dk_133 (dk_at dksX2_factor_2 10 rfl rfl)
theorem dX2_factor_58 : decode cX2_factor 58 = .ok (.invokestatic 193, 3) := dk_184 0 193 (dk_at dksX2_factor_2 11 rfl rfl)
theorem dX2_factor_61 : decode cX2_factor 61 = .ok (.ifCond .ne 7, 3) := dk_154 0 7 (dk_at dksX2_factor_2 14 rfl rfl)
theorem dX2_factor_64 : decode cX2_factor 64 = .ok (.ldc2_w 246, 3) := dk_20 0 246 (dk_at dksX2_factor_2 17 rfl rfl)
theorem dX2_factor_67 : decode cX2_factor 67 = .ok (.lreturn, 1) := dk_173 (dk_at dksX2_factor_2 20 rfl rfl)
theorem dX2_factor_68 : decode cX2_factor 68 = .ok (.iload_n 3, 1) := dk_29 (dk_at dksX2_factor_2 21 rfl rfl)
theorem dX2_factor_69 : decode cX2_factor 69 = .ok (.bipush (-2), 2) := dk_16 254 (dk_at dksX2_factor_2 22 rfl rfl)
theorem dX2_factor_71 : decode cX2_factor 71 = .ok (.if_icmp .ne 13, 3) := dk_160 0 13 (dk_at dksX2_factor_3 0 rfl rfl)
theorem dX2_factor_74 : decode cX2_factor 74 = .ok (.aload_n 0, 1) := dk_42 (dk_at dksX2_factor_3 3 rfl rfl)
theorem dX2_factor_75 : decode cX2_factor 75 = .ok (.getfield 32, 3) := dk_180 0 32 (dk_at dksX2_factor_3 4 rfl rfl)
theorem dX2_factor_78 : decode cX2_factor 78 = .ok (.iload_n 2, 1) := dk_28 (dk_at dksX2_factor_3 7 rfl rfl)
theorem dX2_factor_79 : decode cX2_factor 79 = .ok (.iaload, 1) := dk_46 (dk_at dksX2_factor_3 8 rfl rfl)
theorem dX2_factor_80 : decode cX2_factor 80 = .ok (.i2l, 1) := dk_133 (dk_at dksX2_factor_3 9 rfl rfl)
theorem dX2_factor_81 : decode cX2_factor 81 = .ok (.goto 31, 3) := dk_167 0 31 (dk_at dksX2_factor_3 10 rfl rfl)
theorem dX2_factor_84 : decode cX2_factor 84 = .ok (.iload_n 3, 1) := dk_29 (dk_at dksX2_factor_3 13 rfl rfl)
theorem dX2_factor_85 : decode cX2_factor 85 = .ok (.bipush (-3), 2) := dk_16 253 (dk_at dksX2_factor_3 14 rfl rfl)
theorem dX2_factor_87 : decode cX2_factor 87 = .ok (.if_icmp .ne 13, 3) := dk_160 0 13 (dk_at dksX2_factor_3 16 rfl rfl)
theorem dX2_factor_90 : decode cX2_factor 90 = .ok (.aload_n 0, 1) := dk_42 (dk_at dksX2_factor_3 19 rfl rfl)
theorem dX2_factor_91 : decode cX2_factor 91 = .ok (.getfield 29, 3) := dk_180 0 29 (dk_at dksX2_factor_3 20 rfl rfl)
theorem dX2_factor_94 : decode cX2_factor 94 = .ok (.iload_n 2, 1) := dk_28 (dk_at dksX2_factor_3 23 rfl rfl)
theorem dX2_factor_95 : decode cX2_factor 95 = .ok (.iaload, 1) := dk_46 (dk_at dksX2_factor_4 0 rfl rfl)
theorem dX2_factor_96 : decode cX2_factor 96 = .ok (.i2l, 1) := dk_133 (dk_at dksX2_factor_4 1 rfl rfl)
theorem dX2_factor_97 : decode cX2_factor 97 = .ok (.goto 15, 3) := dk_167 0 15 (dk_at dksX2_factor_4 2 rfl rfl)
theorem dX2_factor_100 : decode cX2_factor 100 = .ok (.aload_n 0, 1) := dk_42 (dk_at dksX2_factor_4 5 rfl rfl)
theorem dX2_factor_101 : decode cX2_factor 101 = .ok (.getfield 35, 3) := dk_180 0 35 (dk_at dksX2_factor_4 6 rfl rfl)
theorem dX2_factor_104 : decode cX2_factor 104 = .ok (.bipush 9, 2) := dk_16 9 (dk_at dksX2_factor_4 9 rfl rfl)
theorem dX2_factor_106 : decode cX2_factor 106 = .ok (.iload_n 2, 1) := dk_28 (dk_at dksX2_factor_4 11 rfl rfl)
theorem dX2_factor_107 : decode cX2_factor 107 = .ok (.imul, 1) := dk_104 (dk_at dksX2_factor_4 12 rfl rfl)
theorem dX2_factor_108 : decode cX2_factor 108 = .ok (.iload_n 3, 1) := dk_29 (dk_at dksX2_factor_4 13 rfl rfl)
theorem dX2_factor_109 : decode cX2_factor 109 = .ok (.iadd, 1) := dk_96 (dk_at dksX2_factor_4 14 rfl rfl)
theorem dX2_factor_110 : decode cX2_factor 110 = .ok (.iaload, 1) := dk_46 (dk_at dksX2_factor_4 15 rfl rfl)
theorem dX2_factor_111 : decode cX2_factor 111 = .ok (.i2l, 1) := dk_133 (dk_at dksX2_factor_4 16 rfl rfl)
theorem dX2_factor_112 : decode cX2_factor 112 = .ok (.lreturn, 1) := dk_173 (dk_at dksX2_factor_4 17 rfl rfl)
abbrev cX2_laysResidues : ByteArray := prog_18_method_38_code
def yX2_laysResidues : MethodName := ⟨RX2, "laysResidues", "(I)Z"⟩
def dkwX2_laysResidues_1 : List UInt8 := [79, 132, 2, 1, 167, 255, 230, 42, 182, 1, 19, 42, 180, 1, 9, 155, 0, 7, 4, 167, 0, 4, 3, 172]
abbrev dktX2_laysResidues_1 : List UInt8 := dkwX2_laysResidues_1 ++ []
def dkwX2_laysResidues_0 : List UInt8 := [3, 61, 28, 16, 9, 162, 0, 26, 42, 180, 0, 26, 28, 42, 42, 27, 28, 182, 0, 183, 133, 182, 1, 12]
abbrev dktX2_laysResidues_0 : List UInt8 := dkwX2_laysResidues_0 ++ dktX2_laysResidues_1
theorem dksX2_laysResidues_0 : cX2_laysResidues.data.toList.drop 0 = dktX2_laysResidues_0 := by decide +kernel
theorem dksX2_laysResidues_1 : cX2_laysResidues.data.toList.drop 24 = dktX2_laysResidues_1 := dk_seg dksX2_laysResidues_0 24 rfl rfl
theorem dX2_laysResidues_0 : decode cX2_laysResidues 0 = .ok (.iconst 0, 1) := dk_3 (dk_at dksX2_laysResidues_0 0 rfl rfl)
theorem dX2_laysResidues_1 : decode cX2_laysResidues 1 = .ok (.istore_n 2, 1) := dk_61 (dk_at dksX2_laysResidues_0 1 rfl rfl)
theorem dX2_laysResidues_2 : decode cX2_laysResidues 2 = .ok (.iload_n 2, 1) := dk_28 (dk_at dksX2_laysResidues_0 2 rfl rfl)
theorem dX2_laysResidues_3 : decode cX2_laysResidues 3 = .ok (.bipush 9, 2) := dk_16 9 (dk_at dksX2_laysResidues_0 3 rfl rfl)
theorem dX2_laysResidues_5 : decode cX2_laysResidues 5 = .ok (.if_icmp .ge 26, 3) := dk_162 0 26 (dk_at dksX2_laysResidues_0 5 rfl rfl)
theorem dX2_laysResidues_8 : decode cX2_laysResidues 8 = .ok (.aload_n 0, 1) := dk_42 (dk_at dksX2_laysResidues_0 8 rfl rfl)
theorem dX2_laysResidues_9 : decode cX2_laysResidues 9 = .ok (.getfield 26, 3) := dk_180 0 26 (dk_at dksX2_laysResidues_0 9 rfl rfl)
theorem dX2_laysResidues_12 : decode cX2_laysResidues 12 = .ok (.iload_n 2, 1) := dk_28 (dk_at dksX2_laysResidues_0 12 rfl rfl)
theorem dX2_laysResidues_13 : decode cX2_laysResidues 13 = .ok (.aload_n 0, 1) := dk_42 (dk_at dksX2_laysResidues_0 13 rfl rfl)
theorem dX2_laysResidues_14 : decode cX2_laysResidues 14 = .ok (.aload_n 0, 1) := dk_42 (dk_at dksX2_laysResidues_0 14 rfl rfl)
theorem dX2_laysResidues_15 : decode cX2_laysResidues 15 = .ok (.iload_n 1, 1) := dk_27 (dk_at dksX2_laysResidues_0 15 rfl rfl)
theorem dX2_laysResidues_16 : decode cX2_laysResidues 16 = .ok (.iload_n 2, 1) := dk_28 (dk_at dksX2_laysResidues_0 16 rfl rfl)
theorem dX2_laysResidues_17 : decode cX2_laysResidues 17 = .ok (.invokevirtual 183, 3) := dk_182 0 183 (dk_at dksX2_laysResidues_0 17 rfl rfl)
theorem dX2_laysResidues_20 : decode cX2_laysResidues 20 = .ok (.i2l, 1) := dk_133 (dk_at dksX2_laysResidues_0 20 rfl rfl)
theorem dX2_laysResidues_21 : decode cX2_laysResidues 21 = .ok (.invokevirtual 268, 3) := dk_182 1 12 (dk_at dksX2_laysResidues_0 21 rfl rfl)
theorem dX2_laysResidues_24 : decode cX2_laysResidues 24 = .ok (.iastore, 1) := dk_79 (dk_at dksX2_laysResidues_1 0 rfl rfl)
theorem dX2_laysResidues_25 : decode cX2_laysResidues 25 = .ok (.iinc 2 1, 3) := dk_132 2 1 (dk_at dksX2_laysResidues_1 1 rfl rfl)
theorem dX2_laysResidues_28 : decode cX2_laysResidues 28 = .ok (.goto (-26), 3) := dk_167 255 230 (dk_at dksX2_laysResidues_1 4 rfl rfl)
theorem dX2_laysResidues_31 : decode cX2_laysResidues 31 = .ok (.aload_n 0, 1) := dk_42 (dk_at dksX2_laysResidues_1 7 rfl rfl)
theorem dX2_laysResidues_32 : decode cX2_laysResidues 32 = .ok (.invokevirtual 275, 3) := dk_182 1 19 (dk_at dksX2_laysResidues_1 8 rfl rfl)
theorem dX2_laysResidues_35 : decode cX2_laysResidues 35 = .ok (.aload_n 0, 1) := dk_42 (dk_at dksX2_laysResidues_1 11 rfl rfl)
theorem dX2_laysResidues_36 : decode cX2_laysResidues 36 = .ok (.getfield 265, 3) := dk_180 1 9 (dk_at dksX2_laysResidues_1 12 rfl rfl)
theorem dX2_laysResidues_39 : decode cX2_laysResidues 39 = .ok (.ifCond .lt 7, 3) := dk_155 0 7 (dk_at dksX2_laysResidues_1 15 rfl rfl)
theorem dX2_laysResidues_42 : decode cX2_laysResidues 42 = .ok (.iconst 1, 1) := dk_4 (dk_at dksX2_laysResidues_1 18 rfl rfl)
theorem dX2_laysResidues_43 : decode cX2_laysResidues 43 = .ok (.goto 4, 3) := dk_167 0 4 (dk_at dksX2_laysResidues_1 19 rfl rfl)
theorem dX2_laysResidues_46 : decode cX2_laysResidues 46 = .ok (.iconst 0, 1) := dk_3 (dk_at dksX2_laysResidues_1 22 rfl rfl)
theorem dX2_laysResidues_47 : decode cX2_laysResidues 47 = .ok (.ireturn, 1) := dk_172 (dk_at dksX2_laysResidues_1 23 rfl rfl)
abbrev cX2_residue : ByteArray := prog_18_method_9_code
def yX2_residue : MethodName := ⟨RX2, "residue", "(J)I"⟩
def dkwX2_residue_0 : List UInt8 := [31, 42, 180, 0, 168, 133, 113, 136, 62, 29, 156, 0, 12, 29, 42, 180, 0, 168, 96, 167, 0, 4, 29, 172]
abbrev dktX2_residue_0 : List UInt8 := dkwX2_residue_0 ++ []
theorem dksX2_residue_0 : cX2_residue.data.toList.drop 0 = dktX2_residue_0 := by decide +kernel
theorem dX2_residue_0 : decode cX2_residue 0 = .ok (.lload_n 1, 1) := dk_31 (dk_at dksX2_residue_0 0 rfl rfl)
theorem dX2_residue_1 : decode cX2_residue 1 = .ok (.aload_n 0, 1) := dk_42 (dk_at dksX2_residue_0 1 rfl rfl)
theorem dX2_residue_2 : decode cX2_residue 2 = .ok (.getfield 168, 3) := dk_180 0 168 (dk_at dksX2_residue_0 2 rfl rfl)
theorem dX2_residue_5 : decode cX2_residue 5 = .ok (.i2l, 1) := dk_133 (dk_at dksX2_residue_0 5 rfl rfl)
theorem dX2_residue_6 : decode cX2_residue 6 = .ok (.lrem, 1) := dk_113 (dk_at dksX2_residue_0 6 rfl rfl)
theorem dX2_residue_7 : decode cX2_residue 7 = .ok (.l2i, 1) := dk_136 (dk_at dksX2_residue_0 7 rfl rfl)
theorem dX2_residue_8 : decode cX2_residue 8 = .ok (.istore_n 3, 1) := dk_62 (dk_at dksX2_residue_0 8 rfl rfl)
theorem dX2_residue_9 : decode cX2_residue 9 = .ok (.iload_n 3, 1) := dk_29 (dk_at dksX2_residue_0 9 rfl rfl)
theorem dX2_residue_10 : decode cX2_residue 10 = .ok (.ifCond .ge 12, 3) := dk_156 0 12 (dk_at dksX2_residue_0 10 rfl rfl)
theorem dX2_residue_13 : decode cX2_residue 13 = .ok (.iload_n 3, 1) := dk_29 (dk_at dksX2_residue_0 13 rfl rfl)
theorem dX2_residue_14 : decode cX2_residue 14 = .ok (.aload_n 0, 1) := dk_42 (dk_at dksX2_residue_0 14 rfl rfl)
theorem dX2_residue_15 : decode cX2_residue 15 = .ok (.getfield 168, 3) := dk_180 0 168 (dk_at dksX2_residue_0 15 rfl rfl)
theorem dX2_residue_18 : decode cX2_residue 18 = .ok (.iadd, 1) := dk_96 (dk_at dksX2_residue_0 18 rfl rfl)
theorem dX2_residue_19 : decode cX2_residue 19 = .ok (.goto 4, 3) := dk_167 0 4 (dk_at dksX2_residue_0 19 rfl rfl)
theorem dX2_residue_22 : decode cX2_residue 22 = .ok (.iload_n 3, 1) := dk_29 (dk_at dksX2_residue_0 22 rfl rfl)
theorem dX2_residue_23 : decode cX2_residue 23 = .ok (.ireturn, 1) := dk_172 (dk_at dksX2_residue_0 23 rfl rfl)
abbrev cX2_measures : ByteArray := prog_18_method_33_code
def yX2_measures : MethodName := ⟨RX2, "measures", "()V"⟩
def dkwX2_measures_1 : List UInt8 := [167, 0, 7, 42, 180, 1, 9, 181, 1, 9, 132, 1, 1, 167, 255, 226, 177]
abbrev dktX2_measures_1 : List UInt8 := dkwX2_measures_1 ++ []
def dkwX2_measures_0 : List UInt8 := [42, 2, 181, 1, 9, 3, 60, 27, 16, 9, 162, 0, 30, 42, 42, 180, 0, 26, 27, 46, 153, 0, 7, 27]
abbrev dktX2_measures_0 : List UInt8 := dkwX2_measures_0 ++ dktX2_measures_1
theorem dksX2_measures_0 : cX2_measures.data.toList.drop 0 = dktX2_measures_0 := by decide +kernel
theorem dksX2_measures_1 : cX2_measures.data.toList.drop 24 = dktX2_measures_1 := dk_seg dksX2_measures_0 24 rfl rfl
theorem dX2_measures_0 : decode cX2_measures 0 = .ok (.aload_n 0, 1) := dk_42 (dk_at dksX2_measures_0 0 rfl rfl)
theorem dX2_measures_1 : decode cX2_measures 1 = .ok (.iconst (-1), 1) := dk_2 (dk_at dksX2_measures_0 1 rfl rfl)
theorem dX2_measures_2 : decode cX2_measures 2 = .ok (.putfield 265, 3) := dk_181 1 9 (dk_at dksX2_measures_0 2 rfl rfl)
theorem dX2_measures_5 : decode cX2_measures 5 = .ok (.iconst 0, 1) := dk_3 (dk_at dksX2_measures_0 5 rfl rfl)
theorem dX2_measures_6 : decode cX2_measures 6 = .ok (.istore_n 1, 1) := dk_60 (dk_at dksX2_measures_0 6 rfl rfl)
theorem dX2_measures_7 : decode cX2_measures 7 = .ok (.iload_n 1, 1) := dk_27 (dk_at dksX2_measures_0 7 rfl rfl)
theorem dX2_measures_8 : decode cX2_measures 8 = .ok (.bipush 9, 2) := dk_16 9 (dk_at dksX2_measures_0 8 rfl rfl)
theorem dX2_measures_10 : decode cX2_measures 10 = .ok (.if_icmp .ge 30, 3) := dk_162 0 30 (dk_at dksX2_measures_0 10 rfl rfl)
theorem dX2_measures_13 : decode cX2_measures 13 = .ok (.aload_n 0, 1) := dk_42 (dk_at dksX2_measures_0 13 rfl rfl)
theorem dX2_measures_14 : decode cX2_measures 14 = .ok (.aload_n 0, 1) := dk_42 (dk_at dksX2_measures_0 14 rfl rfl)
theorem dX2_measures_15 : decode cX2_measures 15 = .ok (.getfield 26, 3) := dk_180 0 26 (dk_at dksX2_measures_0 15 rfl rfl)
theorem dX2_measures_18 : decode cX2_measures 18 = .ok (.iload_n 1, 1) := dk_27 (dk_at dksX2_measures_0 18 rfl rfl)
theorem dX2_measures_19 : decode cX2_measures 19 = .ok (.iaload, 1) := dk_46 (dk_at dksX2_measures_0 19 rfl rfl)
theorem dX2_measures_20 : decode cX2_measures 20 = .ok (.ifCond .eq 7, 3) := dk_153 0 7 (dk_at dksX2_measures_0 20 rfl rfl)
theorem dX2_measures_23 : decode cX2_measures 23 = .ok (.iload_n 1, 1) := dk_27 (dk_at dksX2_measures_0 23 rfl rfl)
theorem dX2_measures_24 : decode cX2_measures 24 = .ok (.goto 7, 3) := dk_167 0 7 (dk_at dksX2_measures_1 0 rfl rfl)
theorem dX2_measures_27 : decode cX2_measures 27 = .ok (.aload_n 0, 1) := dk_42 (dk_at dksX2_measures_1 3 rfl rfl)
theorem dX2_measures_28 : decode cX2_measures 28 = .ok (.getfield 265, 3) := dk_180 1 9 (dk_at dksX2_measures_1 4 rfl rfl)
theorem dX2_measures_31 : decode cX2_measures 31 = .ok (.putfield 265, 3) := dk_181 1 9 (dk_at dksX2_measures_1 7 rfl rfl)
theorem dX2_measures_34 : decode cX2_measures 34 = .ok (.iinc 1 1, 3) := dk_132 1 1 (dk_at dksX2_measures_1 10 rfl rfl)
theorem dX2_measures_37 : decode cX2_measures 37 = .ok (.goto (-30), 3) := dk_167 255 226 (dk_at dksX2_measures_1 13 rfl rfl)
theorem dX2_measures_40 : decode cX2_measures 40 = .ok (.return_, 1) := dk_177 (dk_at dksX2_measures_1 16 rfl rfl)
abbrev cX2_takesApart : ByteArray := prog_18_method_37_code
def yX2_takesApart : MethodName := ⟨RX2, "takesApart", "()V"⟩
def dkwX2_takesApart_8 : List UInt8 := [167, 0, 4, 3, 79, 132, 3, 1, 167, 255, 223, 42, 42, 180, 1, 9, 4, 182, 1, 31, 177]
abbrev dktX2_takesApart_8 : List UInt8 := dkwX2_takesApart_8 ++ []
def dkwX2_takesApart_7 : List UInt8 := [162, 0, 33, 42, 180, 0, 38, 29, 29, 42, 180, 1, 9, 163, 0, 12, 42, 180, 0, 26, 29, 46]
abbrev dktX2_takesApart_7 : List UInt8 := dkwX2_takesApart_7 ++ dktX2_takesApart_8
def dkwX2_takesApart_6 : List UInt8 := [132, 4, 1, 167, 255, 195, 132, 3, 1, 167, 255, 169, 42, 180, 1, 9, 158, 0, 50, 3, 62, 29, 16, 9]
abbrev dktX2_takesApart_6 : List UInt8 := dkwX2_takesApart_6 ++ dktX2_takesApart_7
def dkwX2_takesApart_5 : List UInt8 := [182, 1, 28, 153, 0, 9, 132, 5, 1, 167, 255, 237, 21, 5, 158, 0, 10, 42, 29, 21, 5, 182, 1, 31]
abbrev dktX2_takesApart_5 : List UInt8 := dkwX2_takesApart_5 ++ dktX2_takesApart_6
def dkwX2_takesApart_4 : List UInt8 := [161, 0, 53, 42, 21, 4, 29, 182, 1, 25, 3, 54, 5, 42, 180, 1, 9, 29, 161, 0, 17, 42, 29]
abbrev dktX2_takesApart_4 : List UInt8 := dkwX2_takesApart_4 ++ dktX2_takesApart_5
def dkwX2_takesApart_3 : List UInt8 := [163, 0, 83, 28, 42, 180, 0, 168, 104, 61, 3, 54, 4, 21, 4, 28, 162, 0, 61, 42, 180, 1, 9, 29]
abbrev dktX2_takesApart_3 : List UInt8 := dkwX2_takesApart_3 ++ dktX2_takesApart_4
def dkwX2_takesApart_2 : List UInt8 := [180, 0, 168, 112, 79, 132, 2, 1, 167, 255, 226, 4, 61, 4, 62, 5, 29, 104, 42, 180, 1, 9]
abbrev dktX2_takesApart_2 : List UInt8 := dkwX2_takesApart_2 ++ dktX2_takesApart_3
def dkwX2_takesApart_1 : List UInt8 := [61, 28, 42, 180, 1, 9, 163, 0, 28, 42, 180, 0, 26, 28, 42, 180, 0, 26, 28, 46, 27, 104, 42]
abbrev dktX2_takesApart_1 : List UInt8 := dkwX2_takesApart_1 ++ dktX2_takesApart_2
def dkwX2_takesApart_0 : List UInt8 := [42, 3, 181, 1, 16, 42, 182, 1, 19, 42, 42, 180, 0, 26, 42, 180, 1, 9, 46, 182, 1, 22, 60, 3]
abbrev dktX2_takesApart_0 : List UInt8 := dkwX2_takesApart_0 ++ dktX2_takesApart_1
theorem dksX2_takesApart_0 : cX2_takesApart.data.toList.drop 0 = dktX2_takesApart_0 := by decide +kernel
theorem dksX2_takesApart_1 : cX2_takesApart.data.toList.drop 24 = dktX2_takesApart_1 := dk_seg dksX2_takesApart_0 24 rfl rfl
theorem dksX2_takesApart_2 : cX2_takesApart.data.toList.drop 47 = dktX2_takesApart_2 := dk_seg dksX2_takesApart_1 23 rfl rfl
theorem dksX2_takesApart_3 : cX2_takesApart.data.toList.drop 69 = dktX2_takesApart_3 := dk_seg dksX2_takesApart_2 22 rfl rfl
theorem dksX2_takesApart_4 : cX2_takesApart.data.toList.drop 93 = dktX2_takesApart_4 := dk_seg dksX2_takesApart_3 24 rfl rfl
theorem dksX2_takesApart_5 : cX2_takesApart.data.toList.drop 116 = dktX2_takesApart_5 := dk_seg dksX2_takesApart_4 23 rfl rfl
theorem dksX2_takesApart_6 : cX2_takesApart.data.toList.drop 140 = dktX2_takesApart_6 := dk_seg dksX2_takesApart_5 24 rfl rfl
theorem dksX2_takesApart_7 : cX2_takesApart.data.toList.drop 164 = dktX2_takesApart_7 := dk_seg dksX2_takesApart_6 24 rfl rfl
theorem dksX2_takesApart_8 : cX2_takesApart.data.toList.drop 186 = dktX2_takesApart_8 := dk_seg dksX2_takesApart_7 22 rfl rfl
theorem dX2_takesApart_0 : decode cX2_takesApart 0 = .ok (.aload_n 0, 1) := dk_42 (dk_at dksX2_takesApart_0 0 rfl rfl)
theorem dX2_takesApart_1 : decode cX2_takesApart 1 = .ok (.iconst 0, 1) := dk_3 (dk_at dksX2_takesApart_0 1 rfl rfl)
theorem dX2_takesApart_2 : decode cX2_takesApart 2 = .ok (.putfield 272, 3) := dk_181 1 16 (dk_at dksX2_takesApart_0 2 rfl rfl)
theorem dX2_takesApart_5 : decode cX2_takesApart 5 = .ok (.aload_n 0, 1) := dk_42 (dk_at dksX2_takesApart_0 5 rfl rfl)
theorem dX2_takesApart_6 : decode cX2_takesApart 6 = .ok (.invokevirtual 275, 3) := dk_182 1 19 (dk_at dksX2_takesApart_0 6 rfl rfl)
theorem dX2_takesApart_9 : decode cX2_takesApart 9 = .ok (.aload_n 0, 1) := dk_42 (dk_at dksX2_takesApart_0 9 rfl rfl)
theorem dX2_takesApart_10 : decode cX2_takesApart 10 = .ok (.aload_n 0, 1) := dk_42 (dk_at dksX2_takesApart_0 10 rfl rfl)
theorem dX2_takesApart_11 : decode cX2_takesApart 11 = .ok (.getfield 26, 3) := dk_180 0 26 (dk_at dksX2_takesApart_0 11 rfl rfl)
theorem dX2_takesApart_14 : decode cX2_takesApart 14 = .ok (.aload_n 0, 1) := dk_42 (dk_at dksX2_takesApart_0 14 rfl rfl)
theorem dX2_takesApart_15 : decode cX2_takesApart 15 = .ok (.getfield 265, 3) := dk_180 1 9 (dk_at dksX2_takesApart_0 15 rfl rfl)
theorem dX2_takesApart_18 : decode cX2_takesApart 18 = .ok (.iaload, 1) := dk_46 (dk_at dksX2_takesApart_0 18 rfl rfl)
theorem dX2_takesApart_19 : decode cX2_takesApart 19 = .ok (.invokevirtual 278, 3) := dk_182 1 22 (dk_at dksX2_takesApart_0 19 rfl rfl)
theorem dX2_takesApart_22 : decode cX2_takesApart 22 = .ok (.istore_n 1, 1) := dk_60 (dk_at dksX2_takesApart_0 22 rfl rfl)
theorem dX2_takesApart_23 : decode cX2_takesApart 23 = .ok (.iconst 0, 1) := dk_3 (dk_at dksX2_takesApart_0 23 rfl rfl)
theorem dX2_takesApart_24 : decode cX2_takesApart 24 = .ok (.istore_n 2, 1) := dk_61 (dk_at dksX2_takesApart_1 0 rfl rfl)
theorem dX2_takesApart_25 : decode cX2_takesApart 25 = .ok (.iload_n 2, 1) := dk_28 (dk_at dksX2_takesApart_1 1 rfl rfl)
theorem dX2_takesApart_26 : decode cX2_takesApart 26 = .ok (.aload_n 0, 1) := dk_42 (dk_at dksX2_takesApart_1 2 rfl rfl)
theorem dX2_takesApart_27 : decode cX2_takesApart 27 = .ok (.getfield 265, 3) := dk_180 1 9 (dk_at dksX2_takesApart_1 3 rfl rfl)
theorem dX2_takesApart_30 : decode cX2_takesApart 30 = .ok (.if_icmp .gt 28, 3) := dk_163 0 28 (dk_at dksX2_takesApart_1 6 rfl rfl)
theorem dX2_takesApart_33 : decode cX2_takesApart 33 = .ok (.aload_n 0, 1) := dk_42 (dk_at dksX2_takesApart_1 9 rfl rfl)
theorem dX2_takesApart_34 : decode cX2_takesApart 34 = .ok (.getfield 26, 3) := dk_180 0 26 (dk_at dksX2_takesApart_1 10 rfl rfl)
theorem dX2_takesApart_37 : decode cX2_takesApart 37 = .ok (.iload_n 2, 1) := dk_28 (dk_at dksX2_takesApart_1 13 rfl rfl)
theorem dX2_takesApart_38 : decode cX2_takesApart 38 = .ok (.aload_n 0, 1) := dk_42 (dk_at dksX2_takesApart_1 14 rfl rfl)
theorem dX2_takesApart_39 : decode cX2_takesApart 39 = .ok (.getfield 26, 3) := dk_180 0 26 (dk_at dksX2_takesApart_1 15 rfl rfl)
theorem dX2_takesApart_42 : decode cX2_takesApart 42 = .ok (.iload_n 2, 1) := dk_28 (dk_at dksX2_takesApart_1 18 rfl rfl)
theorem dX2_takesApart_43 : decode cX2_takesApart 43 = .ok (.iaload, 1) := dk_46 (dk_at dksX2_takesApart_1 19 rfl rfl)
theorem dX2_takesApart_44 : decode cX2_takesApart 44 = .ok (.iload_n 1, 1) := dk_27 (dk_at dksX2_takesApart_1 20 rfl rfl)
theorem dX2_takesApart_45 : decode cX2_takesApart 45 = .ok (.imul, 1) := dk_104 (dk_at dksX2_takesApart_1 21 rfl rfl)
theorem dX2_takesApart_46 : decode cX2_takesApart 46 = .ok (.aload_n 0, 1) := dk_42 (dk_at dksX2_takesApart_1 22 rfl rfl)
theorem dX2_takesApart_47 : decode cX2_takesApart 47 = .ok (.getfield 168, 3) := dk_180 0 168 (dk_at dksX2_takesApart_2 0 rfl rfl)
theorem dX2_takesApart_50 : decode cX2_takesApart 50 = .ok (.irem, 1) := dk_112 (dk_at dksX2_takesApart_2 3 rfl rfl)
theorem dX2_takesApart_51 : decode cX2_takesApart 51 = .ok (.iastore, 1) := dk_79 (dk_at dksX2_takesApart_2 4 rfl rfl)
theorem dX2_takesApart_52 : decode cX2_takesApart 52 = .ok (.iinc 2 1, 3) := dk_132 2 1 (dk_at dksX2_takesApart_2 5 rfl rfl)
theorem dX2_takesApart_55 : decode cX2_takesApart 55 = .ok (.goto (-30), 3) := dk_167 255 226 (dk_at dksX2_takesApart_2 8 rfl rfl)
theorem dX2_takesApart_58 : decode cX2_takesApart 58 = .ok (.iconst 1, 1) := dk_4 (dk_at dksX2_takesApart_2 11 rfl rfl)
theorem dX2_takesApart_59 : decode cX2_takesApart 59 = .ok (.istore_n 2, 1) := dk_61 (dk_at dksX2_takesApart_2 12 rfl rfl)
theorem dX2_takesApart_60 : decode cX2_takesApart 60 = .ok (.iconst 1, 1) := dk_4 (dk_at dksX2_takesApart_2 13 rfl rfl)
theorem dX2_takesApart_61 : decode cX2_takesApart 61 = .ok (.istore_n 3, 1) := dk_62 (dk_at dksX2_takesApart_2 14 rfl rfl)
theorem dX2_takesApart_62 : decode cX2_takesApart 62 = .ok (.iconst 2, 1) := dk_5 (dk_at dksX2_takesApart_2 15 rfl rfl)
theorem dX2_takesApart_63 : decode cX2_takesApart 63 = .ok (.iload_n 3, 1) := dk_29 (dk_at dksX2_takesApart_2 16 rfl rfl)
theorem dX2_takesApart_64 : decode cX2_takesApart 64 = .ok (.imul, 1) := dk_104 (dk_at dksX2_takesApart_2 17 rfl rfl)
theorem dX2_takesApart_65 : decode cX2_takesApart 65 = .ok (.aload_n 0, 1) := dk_42 (dk_at dksX2_takesApart_2 18 rfl rfl)
theorem dX2_takesApart_66 : decode cX2_takesApart 66 = .ok (.getfield 265, 3) := dk_180 1 9 (dk_at dksX2_takesApart_2 19 rfl rfl)
theorem dX2_takesApart_69 : decode cX2_takesApart 69 = .ok (.if_icmp .gt 83, 3) := dk_163 0 83 (dk_at dksX2_takesApart_3 0 rfl rfl)
theorem dX2_takesApart_72 : decode cX2_takesApart 72 = .ok (.iload_n 2, 1) := dk_28 (dk_at dksX2_takesApart_3 3 rfl rfl)
theorem dX2_takesApart_73 : decode cX2_takesApart 73 = .ok (.aload_n 0, 1) := dk_42 (dk_at dksX2_takesApart_3 4 rfl rfl)
theorem dX2_takesApart_74 : decode cX2_takesApart 74 = .ok (.getfield 168, 3) := dk_180 0 168 (dk_at dksX2_takesApart_3 5 rfl rfl)
theorem dX2_takesApart_77 : decode cX2_takesApart 77 = .ok (.imul, 1) := dk_104 (dk_at dksX2_takesApart_3 8 rfl rfl)
theorem dX2_takesApart_78 : decode cX2_takesApart 78 = .ok (.istore_n 2, 1) := dk_61 (dk_at dksX2_takesApart_3 9 rfl rfl)
theorem dX2_takesApart_79 : decode cX2_takesApart 79 = .ok (.iconst 0, 1) := dk_3 (dk_at dksX2_takesApart_3 10 rfl rfl)
theorem dX2_takesApart_80 : decode cX2_takesApart 80 = .ok (.istore 4, 2) := dk_54 4 (dk_at dksX2_takesApart_3 11 rfl rfl)
theorem dX2_takesApart_82 : decode cX2_takesApart 82 = .ok (.iload 4, 2) := dk_21 4 (dk_at dksX2_takesApart_3 13 rfl rfl)
theorem dX2_takesApart_84 : decode cX2_takesApart 84 = .ok (.iload_n 2, 1) := dk_28 (dk_at dksX2_takesApart_3 15 rfl rfl)
theorem dX2_takesApart_85 : decode cX2_takesApart 85 = .ok (.if_icmp .ge 61, 3) := dk_162 0 61 (dk_at dksX2_takesApart_3 16 rfl rfl)
theorem dX2_takesApart_88 : decode cX2_takesApart 88 = .ok (.aload_n 0, 1) := dk_42 (dk_at dksX2_takesApart_3 19 rfl rfl)
theorem dX2_takesApart_89 : decode cX2_takesApart 89 = .ok (.getfield 265, 3) := dk_180 1 9 (dk_at dksX2_takesApart_3 20 rfl rfl)
theorem dX2_takesApart_92 : decode cX2_takesApart 92 = .ok (.iload_n 3, 1) := dk_29 (dk_at dksX2_takesApart_3 23 rfl rfl)
theorem dX2_takesApart_93 : decode cX2_takesApart 93 = .ok (.if_icmp .lt 53, 3) := dk_161 0 53 (dk_at dksX2_takesApart_4 0 rfl rfl)
theorem dX2_takesApart_96 : decode cX2_takesApart 96 = .ok (.aload_n 0, 1) := dk_42 (dk_at dksX2_takesApart_4 3 rfl rfl)
theorem dX2_takesApart_97 : decode cX2_takesApart 97 = .ok (.iload 4, 2) := dk_21 4 (dk_at dksX2_takesApart_4 4 rfl rfl)
theorem dX2_takesApart_99 : decode cX2_takesApart 99 = .ok (.iload_n 3, 1) := dk_29 (dk_at dksX2_takesApart_4 6 rfl rfl)
theorem dX2_takesApart_100 : decode cX2_takesApart 100 = .ok (.invokevirtual 281, 3) := dk_182 1 25 (dk_at dksX2_takesApart_4 7 rfl rfl)
theorem dX2_takesApart_103 : decode cX2_takesApart 103 = .ok (.iconst 0, 1) := dk_3 (dk_at dksX2_takesApart_4 10 rfl rfl)
theorem dX2_takesApart_104 : decode cX2_takesApart 104 = .ok (.istore 5, 2) := dk_54 5 (dk_at dksX2_takesApart_4 11 rfl rfl)
theorem dX2_takesApart_106 : decode cX2_takesApart 106 = .ok (.aload_n 0, 1) := dk_42 (dk_at dksX2_takesApart_4 13 rfl rfl)
theorem dX2_takesApart_107 : decode cX2_takesApart 107 = .ok (.getfield 265, 3) := dk_180 1 9 (dk_at dksX2_takesApart_4 14 rfl rfl)
theorem dX2_takesApart_110 : decode cX2_takesApart 110 = .ok (.iload_n 3, 1) := dk_29 (dk_at dksX2_takesApart_4 17 rfl rfl)
theorem dX2_takesApart_111 : decode cX2_takesApart 111 = .ok (.if_icmp .lt 17, 3) := dk_161 0 17 (dk_at dksX2_takesApart_4 18 rfl rfl)
theorem dX2_takesApart_114 : decode cX2_takesApart 114 = .ok (.aload_n 0, 1) := dk_42 (dk_at dksX2_takesApart_4 21 rfl rfl)
theorem dX2_takesApart_115 : decode cX2_takesApart 115 = .ok (.iload_n 3, 1) := dk_29 (dk_at dksX2_takesApart_4 22 rfl rfl)
theorem dX2_takesApart_116 : decode cX2_takesApart 116 = .ok (.invokevirtual 284, 3) := dk_182 1 28 (dk_at dksX2_takesApart_5 0 rfl rfl)
theorem dX2_takesApart_119 : decode cX2_takesApart 119 = .ok (.ifCond .eq 9, 3) := dk_153 0 9 (dk_at dksX2_takesApart_5 3 rfl rfl)
theorem dX2_takesApart_122 : decode cX2_takesApart 122 = .ok (.iinc 5 1, 3) := dk_132 5 1 (dk_at dksX2_takesApart_5 6 rfl rfl)
theorem dX2_takesApart_125 : decode cX2_takesApart 125 = .ok (.goto (-19), 3) := dk_167 255 237 (dk_at dksX2_takesApart_5 9 rfl rfl)
theorem dX2_takesApart_128 : decode cX2_takesApart 128 = .ok (.iload 5, 2) := dk_21 5 (dk_at dksX2_takesApart_5 12 rfl rfl)
theorem dX2_takesApart_130 : decode cX2_takesApart 130 = .ok (.ifCond .le 10, 3) := dk_158 0 10 (dk_at dksX2_takesApart_5 14 rfl rfl)
theorem dX2_takesApart_133 : decode cX2_takesApart 133 = .ok (.aload_n 0, 1) := dk_42 (dk_at dksX2_takesApart_5 17 rfl rfl)
theorem dX2_takesApart_134 : decode cX2_takesApart 134 = .ok (.iload_n 3, 1) := dk_29 (dk_at dksX2_takesApart_5 18 rfl rfl)
theorem dX2_takesApart_135 : decode cX2_takesApart 135 = .ok (.iload 5, 2) := dk_21 5 (dk_at dksX2_takesApart_5 19 rfl rfl)
theorem dX2_takesApart_137 : decode cX2_takesApart 137 = .ok (.invokevirtual 287, 3) := dk_182 1 31 (dk_at dksX2_takesApart_5 21 rfl rfl)
theorem dX2_takesApart_140 : decode cX2_takesApart 140 = .ok (.iinc 4 1, 3) := dk_132 4 1 (dk_at dksX2_takesApart_6 0 rfl rfl)
theorem dX2_takesApart_143 : decode cX2_takesApart 143 = .ok (.goto (-61), 3) := dk_167 255 195 (dk_at dksX2_takesApart_6 3 rfl rfl)
theorem dX2_takesApart_146 : decode cX2_takesApart 146 = .ok (.iinc 3 1, 3) := dk_132 3 1 (dk_at dksX2_takesApart_6 6 rfl rfl)
theorem dX2_takesApart_149 : decode cX2_takesApart 149 = .ok (.goto (-87), 3) := dk_167 255 169 (dk_at dksX2_takesApart_6 9 rfl rfl)
theorem dX2_takesApart_152 : decode cX2_takesApart 152 = .ok (.aload_n 0, 1) := dk_42 (dk_at dksX2_takesApart_6 12 rfl rfl)
theorem dX2_takesApart_153 : decode cX2_takesApart 153 = .ok (.getfield 265, 3) := dk_180 1 9 (dk_at dksX2_takesApart_6 13 rfl rfl)
theorem dX2_takesApart_156 : decode cX2_takesApart 156 = .ok (.ifCond .le 50, 3) := dk_158 0 50 (dk_at dksX2_takesApart_6 16 rfl rfl)
theorem dX2_takesApart_159 : decode cX2_takesApart 159 = .ok (.iconst 0, 1) := dk_3 (dk_at dksX2_takesApart_6 19 rfl rfl)
theorem dX2_takesApart_160 : decode cX2_takesApart 160 = .ok (.istore_n 3, 1) := dk_62 (dk_at dksX2_takesApart_6 20 rfl rfl)
theorem dX2_takesApart_161 : decode cX2_takesApart 161 = .ok (.iload_n 3, 1) := dk_29 (dk_at dksX2_takesApart_6 21 rfl rfl)
theorem dX2_takesApart_162 : decode cX2_takesApart 162 = .ok (.bipush 9, 2) := dk_16 9 (dk_at dksX2_takesApart_6 22 rfl rfl)
theorem dX2_takesApart_164 : decode cX2_takesApart 164 = .ok (.if_icmp .ge 33, 3) := dk_162 0 33 (dk_at dksX2_takesApart_7 0 rfl rfl)
theorem dX2_takesApart_167 : decode cX2_takesApart 167 = .ok (.aload_n 0, 1) := dk_42 (dk_at dksX2_takesApart_7 3 rfl rfl)
theorem dX2_takesApart_168 : decode cX2_takesApart 168 = .ok (.getfield 38, 3) := dk_180 0 38 (dk_at dksX2_takesApart_7 4 rfl rfl)
theorem dX2_takesApart_171 : decode cX2_takesApart 171 = .ok (.iload_n 3, 1) := dk_29 (dk_at dksX2_takesApart_7 7 rfl rfl)
theorem dX2_takesApart_172 : decode cX2_takesApart 172 = .ok (.iload_n 3, 1) := dk_29 (dk_at dksX2_takesApart_7 8 rfl rfl)
theorem dX2_takesApart_173 : decode cX2_takesApart 173 = .ok (.aload_n 0, 1) := dk_42 (dk_at dksX2_takesApart_7 9 rfl rfl)
theorem dX2_takesApart_174 : decode cX2_takesApart 174 = .ok (.getfield 265, 3) := dk_180 1 9 (dk_at dksX2_takesApart_7 10 rfl rfl)
theorem dX2_takesApart_177 : decode cX2_takesApart 177 = .ok (.if_icmp .gt 12, 3) := dk_163 0 12 (dk_at dksX2_takesApart_7 13 rfl rfl)
theorem dX2_takesApart_180 : decode cX2_takesApart 180 = .ok (.aload_n 0, 1) := dk_42 (dk_at dksX2_takesApart_7 16 rfl rfl)
theorem dX2_takesApart_181 : decode cX2_takesApart 181 = .ok (.getfield 26, 3) := dk_180 0 26 (dk_at dksX2_takesApart_7 17 rfl rfl)
theorem dX2_takesApart_184 : decode cX2_takesApart 184 = .ok (.iload_n 3, 1) := dk_29 (dk_at dksX2_takesApart_7 20 rfl rfl)
theorem dX2_takesApart_185 : decode cX2_takesApart 185 = .ok (.iaload, 1) := dk_46 (dk_at dksX2_takesApart_7 21 rfl rfl)
theorem dX2_takesApart_186 : decode cX2_takesApart 186 = .ok (.goto 4, 3) := dk_167 0 4 (dk_at dksX2_takesApart_8 0 rfl rfl)
theorem dX2_takesApart_189 : decode cX2_takesApart 189 = .ok (.iconst 0, 1) := dk_3 (dk_at dksX2_takesApart_8 3 rfl rfl)
theorem dX2_takesApart_190 : decode cX2_takesApart 190 = .ok (.iastore, 1) := dk_79 (dk_at dksX2_takesApart_8 4 rfl rfl)
theorem dX2_takesApart_191 : decode cX2_takesApart 191 = .ok (.iinc 3 1, 3) := dk_132 3 1 (dk_at dksX2_takesApart_8 5 rfl rfl)
theorem dX2_takesApart_194 : decode cX2_takesApart 194 = .ok (.goto (-33), 3) := dk_167 255 223 (dk_at dksX2_takesApart_8 8 rfl rfl)
theorem dX2_takesApart_197 : decode cX2_takesApart 197 = .ok (.aload_n 0, 1) := dk_42 (dk_at dksX2_takesApart_8 11 rfl rfl)
theorem dX2_takesApart_198 : decode cX2_takesApart 198 = .ok (.aload_n 0, 1) := dk_42 (dk_at dksX2_takesApart_8 12 rfl rfl)
theorem dX2_takesApart_199 : decode cX2_takesApart 199 = .ok (.getfield 265, 3) := dk_180 1 9 (dk_at dksX2_takesApart_8 13 rfl rfl)
theorem dX2_takesApart_202 : decode cX2_takesApart 202 = .ok (.iconst 1, 1) := dk_4 (dk_at dksX2_takesApart_8 16 rfl rfl)
theorem dX2_takesApart_203 : decode cX2_takesApart 203 = .ok (.invokevirtual 287, 3) := dk_182 1 31 (dk_at dksX2_takesApart_8 17 rfl rfl)
theorem dX2_takesApart_206 : decode cX2_takesApart 206 = .ok (.return_, 1) := dk_177 (dk_at dksX2_takesApart_8 20 rfl rfl)
abbrev cX2_inverse : ByteArray := prog_18_method_32_code
def yX2_inverse : MethodName := ⟨RX2, "inverse", "(I)I"⟩
def dkwX2_inverse_0 : List UInt8 := [4, 61, 28, 27, 104, 42, 180, 0, 168, 112, 4, 159, 0, 9, 132, 2, 1, 167, 255, 241, 28, 172]
abbrev dktX2_inverse_0 : List UInt8 := dkwX2_inverse_0 ++ []
theorem dksX2_inverse_0 : cX2_inverse.data.toList.drop 0 = dktX2_inverse_0 := by decide +kernel
theorem dX2_inverse_0 : decode cX2_inverse 0 = .ok (.iconst 1, 1) := dk_4 (dk_at dksX2_inverse_0 0 rfl rfl)
theorem dX2_inverse_1 : decode cX2_inverse 1 = .ok (.istore_n 2, 1) := dk_61 (dk_at dksX2_inverse_0 1 rfl rfl)
theorem dX2_inverse_2 : decode cX2_inverse 2 = .ok (.iload_n 2, 1) := dk_28 (dk_at dksX2_inverse_0 2 rfl rfl)
theorem dX2_inverse_3 : decode cX2_inverse 3 = .ok (.iload_n 1, 1) := dk_27 (dk_at dksX2_inverse_0 3 rfl rfl)
theorem dX2_inverse_4 : decode cX2_inverse 4 = .ok (.imul, 1) := dk_104 (dk_at dksX2_inverse_0 4 rfl rfl)
theorem dX2_inverse_5 : decode cX2_inverse 5 = .ok (.aload_n 0, 1) := dk_42 (dk_at dksX2_inverse_0 5 rfl rfl)
theorem dX2_inverse_6 : decode cX2_inverse 6 = .ok (.getfield 168, 3) := dk_180 0 168 (dk_at dksX2_inverse_0 6 rfl rfl)
theorem dX2_inverse_9 : decode cX2_inverse 9 = .ok (.irem, 1) := dk_112 (dk_at dksX2_inverse_0 9 rfl rfl)
theorem dX2_inverse_10 : decode cX2_inverse 10 = .ok (.iconst 1, 1) := dk_4 (dk_at dksX2_inverse_0 10 rfl rfl)
theorem dX2_inverse_11 : decode cX2_inverse 11 = .ok (.if_icmp .eq 9, 3) := dk_159 0 9 (dk_at dksX2_inverse_0 11 rfl rfl)
theorem dX2_inverse_14 : decode cX2_inverse 14 = .ok (.iinc 2 1, 3) := dk_132 2 1 (dk_at dksX2_inverse_0 14 rfl rfl)
theorem dX2_inverse_17 : decode cX2_inverse 17 = .ok (.goto (-15), 3) := dk_167 255 241 (dk_at dksX2_inverse_0 17 rfl rfl)
theorem dX2_inverse_20 : decode cX2_inverse 20 = .ok (.iload_n 2, 1) := dk_28 (dk_at dksX2_inverse_0 20 rfl rfl)
theorem dX2_inverse_21 : decode cX2_inverse 21 = .ok (.ireturn, 1) := dk_172 (dk_at dksX2_inverse_0 21 rfl rfl)
abbrev cX2_laysTrial : ByteArray := prog_18_method_35_code
def yX2_laysTrial : MethodName := ⟨RX2, "laysTrial", "(II)V"⟩
def dkwX2_laysTrial_2 : List UInt8 := [180, 0, 168, 108, 62, 132, 4, 1, 167, 255, 206, 177]
abbrev dktX2_laysTrial_2 : List UInt8 := dkwX2_laysTrial_2 ++ []
def dkwX2_laysTrial_1 : List UInt8 := [29, 42, 180, 0, 168, 112, 167, 0, 14, 21, 4, 28, 160, 0, 7, 4, 167, 0, 4, 3, 79, 29, 42]
abbrev dktX2_laysTrial_1 : List UInt8 := dkwX2_laysTrial_1 ++ dktX2_laysTrial_2
def dkwX2_laysTrial_0 : List UInt8 := [27, 62, 3, 54, 4, 21, 4, 16, 9, 162, 0, 49, 42, 180, 0, 38, 21, 4, 21, 4, 28, 162, 0, 12]
abbrev dktX2_laysTrial_0 : List UInt8 := dkwX2_laysTrial_0 ++ dktX2_laysTrial_1
theorem dksX2_laysTrial_0 : cX2_laysTrial.data.toList.drop 0 = dktX2_laysTrial_0 := by decide +kernel
theorem dksX2_laysTrial_1 : cX2_laysTrial.data.toList.drop 24 = dktX2_laysTrial_1 := dk_seg dksX2_laysTrial_0 24 rfl rfl
theorem dksX2_laysTrial_2 : cX2_laysTrial.data.toList.drop 47 = dktX2_laysTrial_2 := dk_seg dksX2_laysTrial_1 23 rfl rfl
theorem dX2_laysTrial_0 : decode cX2_laysTrial 0 = .ok (.iload_n 1, 1) := dk_27 (dk_at dksX2_laysTrial_0 0 rfl rfl)
theorem dX2_laysTrial_1 : decode cX2_laysTrial 1 = .ok (.istore_n 3, 1) := dk_62 (dk_at dksX2_laysTrial_0 1 rfl rfl)
theorem dX2_laysTrial_2 : decode cX2_laysTrial 2 = .ok (.iconst 0, 1) := dk_3 (dk_at dksX2_laysTrial_0 2 rfl rfl)
theorem dX2_laysTrial_3 : decode cX2_laysTrial 3 = .ok (.istore 4, 2) := dk_54 4 (dk_at dksX2_laysTrial_0 3 rfl rfl)
theorem dX2_laysTrial_5 : decode cX2_laysTrial 5 = .ok (.iload 4, 2) := dk_21 4 (dk_at dksX2_laysTrial_0 5 rfl rfl)
theorem dX2_laysTrial_7 : decode cX2_laysTrial 7 = .ok (.bipush 9, 2) := dk_16 9 (dk_at dksX2_laysTrial_0 7 rfl rfl)
theorem dX2_laysTrial_9 : decode cX2_laysTrial 9 = .ok (.if_icmp .ge 49, 3) := dk_162 0 49 (dk_at dksX2_laysTrial_0 9 rfl rfl)
theorem dX2_laysTrial_12 : decode cX2_laysTrial 12 = .ok (.aload_n 0, 1) := dk_42 (dk_at dksX2_laysTrial_0 12 rfl rfl)
theorem dX2_laysTrial_13 : decode cX2_laysTrial 13 = .ok (.getfield 38, 3) := dk_180 0 38 (dk_at dksX2_laysTrial_0 13 rfl rfl)
theorem dX2_laysTrial_16 : decode cX2_laysTrial 16 = .ok (.iload 4, 2) := dk_21 4 (dk_at dksX2_laysTrial_0 16 rfl rfl)
theorem dX2_laysTrial_18 : decode cX2_laysTrial 18 = .ok (.iload 4, 2) := dk_21 4 (dk_at dksX2_laysTrial_0 18 rfl rfl)
theorem dX2_laysTrial_20 : decode cX2_laysTrial 20 = .ok (.iload_n 2, 1) := dk_28 (dk_at dksX2_laysTrial_0 20 rfl rfl)
theorem dX2_laysTrial_21 : decode cX2_laysTrial 21 = .ok (.if_icmp .ge 12, 3) := dk_162 0 12 (dk_at dksX2_laysTrial_0 21 rfl rfl)
theorem dX2_laysTrial_24 : decode cX2_laysTrial 24 = .ok (.iload_n 3, 1) := dk_29 (dk_at dksX2_laysTrial_1 0 rfl rfl)
theorem dX2_laysTrial_25 : decode cX2_laysTrial 25 = .ok (.aload_n 0, 1) := dk_42 (dk_at dksX2_laysTrial_1 1 rfl rfl)
theorem dX2_laysTrial_26 : decode cX2_laysTrial 26 = .ok (.getfield 168, 3) := dk_180 0 168 (dk_at dksX2_laysTrial_1 2 rfl rfl)
theorem dX2_laysTrial_29 : decode cX2_laysTrial 29 = .ok (.irem, 1) := dk_112 (dk_at dksX2_laysTrial_1 5 rfl rfl)
theorem dX2_laysTrial_30 : decode cX2_laysTrial 30 = .ok (.goto 14, 3) := dk_167 0 14 (dk_at dksX2_laysTrial_1 6 rfl rfl)
theorem dX2_laysTrial_33 : decode cX2_laysTrial 33 = .ok (.iload 4, 2) := dk_21 4 (dk_at dksX2_laysTrial_1 9 rfl rfl)
theorem dX2_laysTrial_35 : decode cX2_laysTrial 35 = .ok (.iload_n 2, 1) := dk_28 (dk_at dksX2_laysTrial_1 11 rfl rfl)
theorem dX2_laysTrial_36 : decode cX2_laysTrial 36 = .ok (.if_icmp .ne 7, 3) := dk_160 0 7 (dk_at dksX2_laysTrial_1 12 rfl rfl)
theorem dX2_laysTrial_39 : decode cX2_laysTrial 39 = .ok (.iconst 1, 1) := dk_4 (dk_at dksX2_laysTrial_1 15 rfl rfl)
theorem dX2_laysTrial_40 : decode cX2_laysTrial 40 = .ok (.goto 4, 3) := dk_167 0 4 (dk_at dksX2_laysTrial_1 16 rfl rfl)
theorem dX2_laysTrial_43 : decode cX2_laysTrial 43 = .ok (.iconst 0, 1) := dk_3 (dk_at dksX2_laysTrial_1 19 rfl rfl)
theorem dX2_laysTrial_44 : decode cX2_laysTrial 44 = .ok (.iastore, 1) := dk_79 (dk_at dksX2_laysTrial_1 20 rfl rfl)
theorem dX2_laysTrial_45 : decode cX2_laysTrial 45 = .ok (.iload_n 3, 1) := dk_29 (dk_at dksX2_laysTrial_1 21 rfl rfl)
theorem dX2_laysTrial_46 : decode cX2_laysTrial 46 = .ok (.aload_n 0, 1) := dk_42 (dk_at dksX2_laysTrial_1 22 rfl rfl)
theorem dX2_laysTrial_47 : decode cX2_laysTrial 47 = .ok (.getfield 168, 3) := dk_180 0 168 (dk_at dksX2_laysTrial_2 0 rfl rfl)
theorem dX2_laysTrial_50 : decode cX2_laysTrial 50 = .ok (.idiv, 1) := dk_108 (dk_at dksX2_laysTrial_2 3 rfl rfl)
theorem dX2_laysTrial_51 : decode cX2_laysTrial 51 = .ok (.istore_n 3, 1) := dk_62 (dk_at dksX2_laysTrial_2 4 rfl rfl)
theorem dX2_laysTrial_52 : decode cX2_laysTrial 52 = .ok (.iinc 4 1, 3) := dk_132 4 1 (dk_at dksX2_laysTrial_2 5 rfl rfl)
theorem dX2_laysTrial_55 : decode cX2_laysTrial 55 = .ok (.goto (-50), 3) := dk_167 255 206 (dk_at dksX2_laysTrial_2 8 rfl rfl)
theorem dX2_laysTrial_58 : decode cX2_laysTrial 58 = .ok (.return_, 1) := dk_177 (dk_at dksX2_laysTrial_2 11 rfl rfl)
abbrev cX2_divides : ByteArray := prog_18_method_34_code
def yX2_divides : MethodName := ⟨RX2, "divides", "(I)Z"⟩
def dkwX2_divides_8 : List UInt8 := [153, 0, 7, 27, 167, 0, 4, 3, 100, 181, 1, 9, 28, 172]
abbrev dktX2_divides_8 : List UInt8 := dkwX2_divides_8 ++ []
def dkwX2_divides_7 : List UInt8 := [180, 0, 41, 29, 27, 96, 46, 167, 0, 4, 3, 79, 132, 3, 1, 167, 255, 213, 42, 89, 180, 1, 9, 28]
abbrev dktX2_divides_7 : List UInt8 := dkwX2_divides_7 ++ dktX2_divides_8
def dkwX2_divides_6 : List UInt8 := [163, 0, 41, 28, 153, 0, 37, 42, 180, 0, 26, 29, 29, 27, 96, 42, 180, 1, 9, 163, 0, 14, 42]
abbrev dktX2_divides_6 : List UInt8 := dkwX2_divides_6 ++ dktX2_divides_7
def dkwX2_divides_5 : List UInt8 := [154, 0, 7, 4, 167, 0, 4, 3, 61, 132, 3, 1, 167, 255, 229, 3, 62, 29, 42, 180, 1, 9]
abbrev dktX2_divides_5 : List UInt8 := dkwX2_divides_5 ++ dktX2_divides_6
def dkwX2_divides_4 : List UInt8 := [167, 255, 196, 4, 61, 3, 62, 29, 27, 162, 0, 28, 28, 153, 0, 16, 42, 180, 0, 41, 29, 46]
abbrev dktX2_divides_4 : List UInt8 := dkwX2_divides_4 ++ dktX2_divides_5
def dkwX2_divides_3 : List UInt8 := [46, 42, 180, 0, 38, 29, 46, 104, 100, 133, 182, 1, 12, 79, 132, 3, 1, 167, 255, 209, 132, 2, 255]
abbrev dktX2_divides_3 : List UInt8 := dkwX2_divides_3 ++ dktX2_divides_4
def dkwX2_divides_2 : List UInt8 := [180, 0, 41, 28, 27, 100, 29, 96, 42, 42, 180, 0, 41, 28, 27, 100, 29, 96, 46, 42, 180, 0, 41, 28]
abbrev dktX2_divides_2 : List UInt8 := dkwX2_divides_2 ++ dktX2_divides_3
def dkwX2_divides_1 : List UInt8 := [132, 2, 1, 167, 255, 233, 42, 180, 1, 9, 61, 28, 27, 161, 0, 61, 3, 62, 29, 27, 162, 0, 48, 42]
abbrev dktX2_divides_1 : List UInt8 := dkwX2_divides_1 ++ dktX2_divides_2
def dkwX2_divides_0 : List UInt8 := [3, 61, 28, 42, 180, 1, 9, 163, 0, 21, 42, 180, 0, 41, 28, 42, 180, 0, 26, 28, 46, 79]
abbrev dktX2_divides_0 : List UInt8 := dkwX2_divides_0 ++ dktX2_divides_1
theorem dksX2_divides_0 : cX2_divides.data.toList.drop 0 = dktX2_divides_0 := by decide +kernel
theorem dksX2_divides_1 : cX2_divides.data.toList.drop 22 = dktX2_divides_1 := dk_seg dksX2_divides_0 22 rfl rfl
theorem dksX2_divides_2 : cX2_divides.data.toList.drop 46 = dktX2_divides_2 := dk_seg dksX2_divides_1 24 rfl rfl
theorem dksX2_divides_3 : cX2_divides.data.toList.drop 70 = dktX2_divides_3 := dk_seg dksX2_divides_2 24 rfl rfl
theorem dksX2_divides_4 : cX2_divides.data.toList.drop 93 = dktX2_divides_4 := dk_seg dksX2_divides_3 23 rfl rfl
theorem dksX2_divides_5 : cX2_divides.data.toList.drop 115 = dktX2_divides_5 := dk_seg dksX2_divides_4 22 rfl rfl
theorem dksX2_divides_6 : cX2_divides.data.toList.drop 137 = dktX2_divides_6 := dk_seg dksX2_divides_5 22 rfl rfl
theorem dksX2_divides_7 : cX2_divides.data.toList.drop 160 = dktX2_divides_7 := dk_seg dksX2_divides_6 23 rfl rfl
theorem dksX2_divides_8 : cX2_divides.data.toList.drop 184 = dktX2_divides_8 := dk_seg dksX2_divides_7 24 rfl rfl
theorem dX2_divides_0 : decode cX2_divides 0 = .ok (.iconst 0, 1) := dk_3 (dk_at dksX2_divides_0 0 rfl rfl)
theorem dX2_divides_1 : decode cX2_divides 1 = .ok (.istore_n 2, 1) := dk_61 (dk_at dksX2_divides_0 1 rfl rfl)
theorem dX2_divides_2 : decode cX2_divides 2 = .ok (.iload_n 2, 1) := dk_28 (dk_at dksX2_divides_0 2 rfl rfl)
theorem dX2_divides_3 : decode cX2_divides 3 = .ok (.aload_n 0, 1) := dk_42 (dk_at dksX2_divides_0 3 rfl rfl)
theorem dX2_divides_4 : decode cX2_divides 4 = .ok (.getfield 265, 3) := dk_180 1 9 (dk_at dksX2_divides_0 4 rfl rfl)
theorem dX2_divides_7 : decode cX2_divides 7 = .ok (.if_icmp .gt 21, 3) := dk_163 0 21 (dk_at dksX2_divides_0 7 rfl rfl)
theorem dX2_divides_10 : decode cX2_divides 10 = .ok (.aload_n 0, 1) := dk_42 (dk_at dksX2_divides_0 10 rfl rfl)
theorem dX2_divides_11 : decode cX2_divides 11 = .ok (.getfield 41, 3) := dk_180 0 41 (dk_at dksX2_divides_0 11 rfl rfl)
theorem dX2_divides_14 : decode cX2_divides 14 = .ok (.iload_n 2, 1) := dk_28 (dk_at dksX2_divides_0 14 rfl rfl)
theorem dX2_divides_15 : decode cX2_divides 15 = .ok (.aload_n 0, 1) := dk_42 (dk_at dksX2_divides_0 15 rfl rfl)
theorem dX2_divides_16 : decode cX2_divides 16 = .ok (.getfield 26, 3) := dk_180 0 26 (dk_at dksX2_divides_0 16 rfl rfl)
theorem dX2_divides_19 : decode cX2_divides 19 = .ok (.iload_n 2, 1) := dk_28 (dk_at dksX2_divides_0 19 rfl rfl)
theorem dX2_divides_20 : decode cX2_divides 20 = .ok (.iaload, 1) := dk_46 (dk_at dksX2_divides_0 20 rfl rfl)
theorem dX2_divides_21 : decode cX2_divides 21 = .ok (.iastore, 1) := dk_79 (dk_at dksX2_divides_0 21 rfl rfl)
theorem dX2_divides_22 : decode cX2_divides 22 = .ok (.iinc 2 1, 3) := dk_132 2 1 (dk_at dksX2_divides_1 0 rfl rfl)
theorem dX2_divides_25 : decode cX2_divides 25 = .ok (.goto (-23), 3) := dk_167 255 233 (dk_at dksX2_divides_1 3 rfl rfl)
theorem dX2_divides_28 : decode cX2_divides 28 = .ok (.aload_n 0, 1) := dk_42 (dk_at dksX2_divides_1 6 rfl rfl)
theorem dX2_divides_29 : decode cX2_divides 29 = .ok (.getfield 265, 3) := dk_180 1 9 (dk_at dksX2_divides_1 7 rfl rfl)
theorem dX2_divides_32 : decode cX2_divides 32 = .ok (.istore_n 2, 1) := dk_61 (dk_at dksX2_divides_1 10 rfl rfl)
theorem dX2_divides_33 : decode cX2_divides 33 = .ok (.iload_n 2, 1) := dk_28 (dk_at dksX2_divides_1 11 rfl rfl)
theorem dX2_divides_34 : decode cX2_divides 34 = .ok (.iload_n 1, 1) := dk_27 (dk_at dksX2_divides_1 12 rfl rfl)
theorem dX2_divides_35 : decode cX2_divides 35 = .ok (.if_icmp .lt 61, 3) := dk_161 0 61 (dk_at dksX2_divides_1 13 rfl rfl)
theorem dX2_divides_38 : decode cX2_divides 38 = .ok (.iconst 0, 1) := dk_3 (dk_at dksX2_divides_1 16 rfl rfl)
theorem dX2_divides_39 : decode cX2_divides 39 = .ok (.istore_n 3, 1) := dk_62 (dk_at dksX2_divides_1 17 rfl rfl)
theorem dX2_divides_40 : decode cX2_divides 40 = .ok (.iload_n 3, 1) := dk_29 (dk_at dksX2_divides_1 18 rfl rfl)
theorem dX2_divides_41 : decode cX2_divides 41 = .ok (.iload_n 1, 1) := dk_27 (dk_at dksX2_divides_1 19 rfl rfl)
theorem dX2_divides_42 : decode cX2_divides 42 = .ok (.if_icmp .ge 48, 3) := dk_162 0 48 (dk_at dksX2_divides_1 20 rfl rfl)
theorem dX2_divides_45 : decode cX2_divides 45 = .ok (.aload_n 0, 1) := dk_42 (dk_at dksX2_divides_1 23 rfl rfl)
theorem dX2_divides_46 : decode cX2_divides 46 = .ok (.getfield 41, 3) := dk_180 0 41 (dk_at dksX2_divides_2 0 rfl rfl)
theorem dX2_divides_49 : decode cX2_divides 49 = .ok (.iload_n 2, 1) := dk_28 (dk_at dksX2_divides_2 3 rfl rfl)
theorem dX2_divides_50 : decode cX2_divides 50 = .ok (.iload_n 1, 1) := dk_27 (dk_at dksX2_divides_2 4 rfl rfl)
theorem dX2_divides_51 : decode cX2_divides 51 = .ok (.isub, 1) := dk_100 (dk_at dksX2_divides_2 5 rfl rfl)
theorem dX2_divides_52 : decode cX2_divides 52 = .ok (.iload_n 3, 1) := dk_29 (dk_at dksX2_divides_2 6 rfl rfl)
theorem dX2_divides_53 : decode cX2_divides 53 = .ok (.iadd, 1) := dk_96 (dk_at dksX2_divides_2 7 rfl rfl)
theorem dX2_divides_54 : decode cX2_divides 54 = .ok (.aload_n 0, 1) := dk_42 (dk_at dksX2_divides_2 8 rfl rfl)
theorem dX2_divides_55 : decode cX2_divides 55 = .ok (.aload_n 0, 1) := dk_42 (dk_at dksX2_divides_2 9 rfl rfl)
theorem dX2_divides_56 : decode cX2_divides 56 = .ok (.getfield 41, 3) := dk_180 0 41 (dk_at dksX2_divides_2 10 rfl rfl)
theorem dX2_divides_59 : decode cX2_divides 59 = .ok (.iload_n 2, 1) := dk_28 (dk_at dksX2_divides_2 13 rfl rfl)
theorem dX2_divides_60 : decode cX2_divides 60 = .ok (.iload_n 1, 1) := dk_27 (dk_at dksX2_divides_2 14 rfl rfl)
theorem dX2_divides_61 : decode cX2_divides 61 = .ok (.isub, 1) := dk_100 (dk_at dksX2_divides_2 15 rfl rfl)
theorem dX2_divides_62 : decode cX2_divides 62 = .ok (.iload_n 3, 1) := dk_29 (dk_at dksX2_divides_2 16 rfl rfl)
theorem dX2_divides_63 : decode cX2_divides 63 = .ok (.iadd, 1) := dk_96 (dk_at dksX2_divides_2 17 rfl rfl)
theorem dX2_divides_64 : decode cX2_divides 64 = .ok (.iaload, 1) := dk_46 (dk_at dksX2_divides_2 18 rfl rfl)
theorem dX2_divides_65 : decode cX2_divides 65 = .ok (.aload_n 0, 1) := dk_42 (dk_at dksX2_divides_2 19 rfl rfl)
theorem dX2_divides_66 : decode cX2_divides 66 = .ok (.getfield 41, 3) := dk_180 0 41 (dk_at dksX2_divides_2 20 rfl rfl)
theorem dX2_divides_69 : decode cX2_divides 69 = .ok (.iload_n 2, 1) := dk_28 (dk_at dksX2_divides_2 23 rfl rfl)
theorem dX2_divides_70 : decode cX2_divides 70 = .ok (.iaload, 1) := dk_46 (dk_at dksX2_divides_3 0 rfl rfl)
theorem dX2_divides_71 : decode cX2_divides 71 = .ok (.aload_n 0, 1) := dk_42 (dk_at dksX2_divides_3 1 rfl rfl)
theorem dX2_divides_72 : decode cX2_divides 72 = .ok (.getfield 38, 3) := dk_180 0 38 (dk_at dksX2_divides_3 2 rfl rfl)
theorem dX2_divides_75 : decode cX2_divides 75 = .ok (.iload_n 3, 1) := dk_29 (dk_at dksX2_divides_3 5 rfl rfl)
theorem dX2_divides_76 : decode cX2_divides 76 = .ok (.iaload, 1) := dk_46 (dk_at dksX2_divides_3 6 rfl rfl)
theorem dX2_divides_77 : decode cX2_divides 77 = .ok (.imul, 1) := dk_104 (dk_at dksX2_divides_3 7 rfl rfl)
theorem dX2_divides_78 : decode cX2_divides 78 = .ok (.isub, 1) := dk_100 (dk_at dksX2_divides_3 8 rfl rfl)
theorem dX2_divides_79 : decode cX2_divides 79 = .ok (.i2l, 1) := dk_133 (dk_at dksX2_divides_3 9 rfl rfl)
theorem dX2_divides_80 : decode cX2_divides 80 = .ok (.invokevirtual 268, 3) := dk_182 1 12 (dk_at dksX2_divides_3 10 rfl rfl)
theorem dX2_divides_83 : decode cX2_divides 83 = .ok (.iastore, 1) := dk_79 (dk_at dksX2_divides_3 13 rfl rfl)
theorem dX2_divides_84 : decode cX2_divides 84 = .ok (.iinc 3 1, 3) := dk_132 3 1 (dk_at dksX2_divides_3 14 rfl rfl)
theorem dX2_divides_87 : decode cX2_divides 87 = .ok (.goto (-47), 3) := dk_167 255 209 (dk_at dksX2_divides_3 17 rfl rfl)
theorem dX2_divides_90 : decode cX2_divides 90 = .ok (.iinc 2 (-1), 3) := dk_132 2 255 (dk_at dksX2_divides_3 20 rfl rfl)
theorem dX2_divides_93 : decode cX2_divides 93 = .ok (.goto (-60), 3) := dk_167 255 196 (dk_at dksX2_divides_4 0 rfl rfl)
theorem dX2_divides_96 : decode cX2_divides 96 = .ok (.iconst 1, 1) := dk_4 (dk_at dksX2_divides_4 3 rfl rfl)
theorem dX2_divides_97 : decode cX2_divides 97 = .ok (.istore_n 2, 1) := dk_61 (dk_at dksX2_divides_4 4 rfl rfl)
theorem dX2_divides_98 : decode cX2_divides 98 = .ok (.iconst 0, 1) := dk_3 (dk_at dksX2_divides_4 5 rfl rfl)
theorem dX2_divides_99 : decode cX2_divides 99 = .ok (.istore_n 3, 1) := dk_62 (dk_at dksX2_divides_4 6 rfl rfl)
theorem dX2_divides_100 : decode cX2_divides 100 = .ok (.iload_n 3, 1) := dk_29 (dk_at dksX2_divides_4 7 rfl rfl)
theorem dX2_divides_101 : decode cX2_divides 101 = .ok (.iload_n 1, 1) := dk_27 (dk_at dksX2_divides_4 8 rfl rfl)
theorem dX2_divides_102 : decode cX2_divides 102 = .ok (.if_icmp .ge 28, 3) := dk_162 0 28 (dk_at dksX2_divides_4 9 rfl rfl)
theorem dX2_divides_105 : decode cX2_divides 105 = .ok (.iload_n 2, 1) := dk_28 (dk_at dksX2_divides_4 12 rfl rfl)
theorem dX2_divides_106 : decode cX2_divides 106 = .ok (.ifCond .eq 16, 3) := dk_153 0 16 (dk_at dksX2_divides_4 13 rfl rfl)
theorem dX2_divides_109 : decode cX2_divides 109 = .ok (.aload_n 0, 1) := dk_42 (dk_at dksX2_divides_4 16 rfl rfl)
theorem dX2_divides_110 : decode cX2_divides 110 = .ok (.getfield 41, 3) := dk_180 0 41 (dk_at dksX2_divides_4 17 rfl rfl)
theorem dX2_divides_113 : decode cX2_divides 113 = .ok (.iload_n 3, 1) := dk_29 (dk_at dksX2_divides_4 20 rfl rfl)
theorem dX2_divides_114 : decode cX2_divides 114 = .ok (.iaload, 1) := dk_46 (dk_at dksX2_divides_4 21 rfl rfl)
theorem dX2_divides_115 : decode cX2_divides 115 = .ok (.ifCond .ne 7, 3) := dk_154 0 7 (dk_at dksX2_divides_5 0 rfl rfl)
theorem dX2_divides_118 : decode cX2_divides 118 = .ok (.iconst 1, 1) := dk_4 (dk_at dksX2_divides_5 3 rfl rfl)
theorem dX2_divides_119 : decode cX2_divides 119 = .ok (.goto 4, 3) := dk_167 0 4 (dk_at dksX2_divides_5 4 rfl rfl)
theorem dX2_divides_122 : decode cX2_divides 122 = .ok (.iconst 0, 1) := dk_3 (dk_at dksX2_divides_5 7 rfl rfl)
theorem dX2_divides_123 : decode cX2_divides 123 = .ok (.istore_n 2, 1) := dk_61 (dk_at dksX2_divides_5 8 rfl rfl)
theorem dX2_divides_124 : decode cX2_divides 124 = .ok (.iinc 3 1, 3) := dk_132 3 1 (dk_at dksX2_divides_5 9 rfl rfl)
theorem dX2_divides_127 : decode cX2_divides 127 = .ok (.goto (-27), 3) := dk_167 255 229 (dk_at dksX2_divides_5 12 rfl rfl)
theorem dX2_divides_130 : decode cX2_divides 130 = .ok (.iconst 0, 1) := dk_3 (dk_at dksX2_divides_5 15 rfl rfl)
theorem dX2_divides_131 : decode cX2_divides 131 = .ok (.istore_n 3, 1) := dk_62 (dk_at dksX2_divides_5 16 rfl rfl)
theorem dX2_divides_132 : decode cX2_divides 132 = .ok (.iload_n 3, 1) := dk_29 (dk_at dksX2_divides_5 17 rfl rfl)
theorem dX2_divides_133 : decode cX2_divides 133 = .ok (.aload_n 0, 1) := dk_42 (dk_at dksX2_divides_5 18 rfl rfl)
theorem dX2_divides_134 : decode cX2_divides 134 = .ok (.getfield 265, 3) := dk_180 1 9 (dk_at dksX2_divides_5 19 rfl rfl)
theorem dX2_divides_137 : decode cX2_divides 137 = .ok (.if_icmp .gt 41, 3) := dk_163 0 41 (dk_at dksX2_divides_6 0 rfl rfl)
theorem dX2_divides_140 : decode cX2_divides 140 = .ok (.iload_n 2, 1) := dk_28 (dk_at dksX2_divides_6 3 rfl rfl)
theorem dX2_divides_141 : decode cX2_divides 141 = .ok (.ifCond .eq 37, 3) := dk_153 0 37 (dk_at dksX2_divides_6 4 rfl rfl)
theorem dX2_divides_144 : decode cX2_divides 144 = .ok (.aload_n 0, 1) := dk_42 (dk_at dksX2_divides_6 7 rfl rfl)
theorem dX2_divides_145 : decode cX2_divides 145 = .ok (.getfield 26, 3) := dk_180 0 26 (dk_at dksX2_divides_6 8 rfl rfl)
theorem dX2_divides_148 : decode cX2_divides 148 = .ok (.iload_n 3, 1) := dk_29 (dk_at dksX2_divides_6 11 rfl rfl)
theorem dX2_divides_149 : decode cX2_divides 149 = .ok (.iload_n 3, 1) := dk_29 (dk_at dksX2_divides_6 12 rfl rfl)
theorem dX2_divides_150 : decode cX2_divides 150 = .ok (.iload_n 1, 1) := dk_27 (dk_at dksX2_divides_6 13 rfl rfl)
theorem dX2_divides_151 : decode cX2_divides 151 = .ok (.iadd, 1) := dk_96 (dk_at dksX2_divides_6 14 rfl rfl)
theorem dX2_divides_152 : decode cX2_divides 152 = .ok (.aload_n 0, 1) := dk_42 (dk_at dksX2_divides_6 15 rfl rfl)
theorem dX2_divides_153 : decode cX2_divides 153 = .ok (.getfield 265, 3) := dk_180 1 9 (dk_at dksX2_divides_6 16 rfl rfl)
theorem dX2_divides_156 : decode cX2_divides 156 = .ok (.if_icmp .gt 14, 3) := dk_163 0 14 (dk_at dksX2_divides_6 19 rfl rfl)
theorem dX2_divides_159 : decode cX2_divides 159 = .ok (.aload_n 0, 1) := dk_42 (dk_at dksX2_divides_6 22 rfl rfl)
theorem dX2_divides_160 : decode cX2_divides 160 = .ok (.getfield 41, 3) := dk_180 0 41 (dk_at dksX2_divides_7 0 rfl rfl)
theorem dX2_divides_163 : decode cX2_divides 163 = .ok (.iload_n 3, 1) := dk_29 (dk_at dksX2_divides_7 3 rfl rfl)
theorem dX2_divides_164 : decode cX2_divides 164 = .ok (.iload_n 1, 1) := dk_27 (dk_at dksX2_divides_7 4 rfl rfl)
theorem dX2_divides_165 : decode cX2_divides 165 = .ok (.iadd, 1) := dk_96 (dk_at dksX2_divides_7 5 rfl rfl)
theorem dX2_divides_166 : decode cX2_divides 166 = .ok (.iaload, 1) := dk_46 (dk_at dksX2_divides_7 6 rfl rfl)
theorem dX2_divides_167 : decode cX2_divides 167 = .ok (.goto 4, 3) := dk_167 0 4 (dk_at dksX2_divides_7 7 rfl rfl)
theorem dX2_divides_170 : decode cX2_divides 170 = .ok (.iconst 0, 1) := dk_3 (dk_at dksX2_divides_7 10 rfl rfl)
theorem dX2_divides_171 : decode cX2_divides 171 = .ok (.iastore, 1) := dk_79 (dk_at dksX2_divides_7 11 rfl rfl)
theorem dX2_divides_172 : decode cX2_divides 172 = .ok (.iinc 3 1, 3) := dk_132 3 1 (dk_at dksX2_divides_7 12 rfl rfl)
theorem dX2_divides_175 : decode cX2_divides 175 = .ok (.goto (-43), 3) := dk_167 255 213 (dk_at dksX2_divides_7 15 rfl rfl)
theorem dX2_divides_178 : decode cX2_divides 178 = .ok (.aload_n 0, 1) := dk_42 (dk_at dksX2_divides_7 18 rfl rfl)
theorem dX2_divides_179 : decode cX2_divides 179 = .ok (.dup, 1) := dk_89 (dk_at dksX2_divides_7 19 rfl rfl)
theorem dX2_divides_180 : decode cX2_divides 180 = .ok (.getfield 265, 3) := dk_180 1 9 (dk_at dksX2_divides_7 20 rfl rfl)
theorem dX2_divides_183 : decode cX2_divides 183 = .ok (.iload_n 2, 1) := dk_28 (dk_at dksX2_divides_7 23 rfl rfl)
theorem dX2_divides_184 : decode cX2_divides 184 = .ok (.ifCond .eq 7, 3) := dk_153 0 7 (dk_at dksX2_divides_8 0 rfl rfl)
theorem dX2_divides_187 : decode cX2_divides 187 = .ok (.iload_n 1, 1) := dk_27 (dk_at dksX2_divides_8 3 rfl rfl)
theorem dX2_divides_188 : decode cX2_divides 188 = .ok (.goto 4, 3) := dk_167 0 4 (dk_at dksX2_divides_8 4 rfl rfl)
theorem dX2_divides_191 : decode cX2_divides 191 = .ok (.iconst 0, 1) := dk_3 (dk_at dksX2_divides_8 7 rfl rfl)
theorem dX2_divides_192 : decode cX2_divides 192 = .ok (.isub, 1) := dk_100 (dk_at dksX2_divides_8 8 rfl rfl)
theorem dX2_divides_193 : decode cX2_divides 193 = .ok (.putfield 265, 3) := dk_181 1 9 (dk_at dksX2_divides_8 9 rfl rfl)
theorem dX2_divides_196 : decode cX2_divides 196 = .ok (.iload_n 2, 1) := dk_28 (dk_at dksX2_divides_8 12 rfl rfl)
theorem dX2_divides_197 : decode cX2_divides 197 = .ok (.ireturn, 1) := dk_172 (dk_at dksX2_divides_8 13 rfl rfl)
abbrev cX2_addsFactor : ByteArray := prog_18_method_36_code
def yX2_addsFactor : MethodName := ⟨RX2, "addsFactor", "(II)V"⟩
def dkwX2_addsFactor_2 : List UInt8 := [79, 132, 3, 1, 167, 255, 227, 42, 89, 180, 1, 16, 4, 96, 181, 1, 16, 177]
abbrev dktX2_addsFactor_2 : List UInt8 := dkwX2_addsFactor_2 ++ []
def dkwX2_addsFactor_1 : List UInt8 := [16, 9, 162, 0, 29, 42, 180, 0, 35, 16, 9, 42, 180, 1, 16, 104, 29, 96, 42, 180, 0, 38, 29, 46]
abbrev dktX2_addsFactor_1 : List UInt8 := dkwX2_addsFactor_1 ++ dktX2_addsFactor_2
def dkwX2_addsFactor_0 : List UInt8 := [42, 180, 0, 29, 42, 180, 1, 16, 27, 79, 42, 180, 0, 32, 42, 180, 1, 16, 28, 79, 3, 62, 29]
abbrev dktX2_addsFactor_0 : List UInt8 := dkwX2_addsFactor_0 ++ dktX2_addsFactor_1
theorem dksX2_addsFactor_0 : cX2_addsFactor.data.toList.drop 0 = dktX2_addsFactor_0 := by decide +kernel
theorem dksX2_addsFactor_1 : cX2_addsFactor.data.toList.drop 23 = dktX2_addsFactor_1 := dk_seg dksX2_addsFactor_0 23 rfl rfl
theorem dksX2_addsFactor_2 : cX2_addsFactor.data.toList.drop 47 = dktX2_addsFactor_2 := dk_seg dksX2_addsFactor_1 24 rfl rfl
theorem dX2_addsFactor_0 : decode cX2_addsFactor 0 = .ok (.aload_n 0, 1) := dk_42 (dk_at dksX2_addsFactor_0 0 rfl rfl)
theorem dX2_addsFactor_1 : decode cX2_addsFactor 1 = .ok (.getfield 29, 3) := dk_180 0 29 (dk_at dksX2_addsFactor_0 1 rfl rfl)
theorem dX2_addsFactor_4 : decode cX2_addsFactor 4 = .ok (.aload_n 0, 1) := dk_42 (dk_at dksX2_addsFactor_0 4 rfl rfl)
theorem dX2_addsFactor_5 : decode cX2_addsFactor 5 = .ok (.getfield 272, 3) := dk_180 1 16 (dk_at dksX2_addsFactor_0 5 rfl rfl)
theorem dX2_addsFactor_8 : decode cX2_addsFactor 8 = .ok (.iload_n 1, 1) := dk_27 (dk_at dksX2_addsFactor_0 8 rfl rfl)
theorem dX2_addsFactor_9 : decode cX2_addsFactor 9 = .ok (.iastore, 1) := dk_79 (dk_at dksX2_addsFactor_0 9 rfl rfl)
theorem dX2_addsFactor_10 : decode cX2_addsFactor 10 = .ok (.aload_n 0, 1) := dk_42 (dk_at dksX2_addsFactor_0 10 rfl rfl)
theorem dX2_addsFactor_11 : decode cX2_addsFactor 11 = .ok (.getfield 32, 3) := dk_180 0 32 (dk_at dksX2_addsFactor_0 11 rfl rfl)
theorem dX2_addsFactor_14 : decode cX2_addsFactor 14 = .ok (.aload_n 0, 1) := dk_42 (dk_at dksX2_addsFactor_0 14 rfl rfl)
theorem dX2_addsFactor_15 : decode cX2_addsFactor 15 = .ok (.getfield 272, 3) := dk_180 1 16 (dk_at dksX2_addsFactor_0 15 rfl rfl)
theorem dX2_addsFactor_18 : decode cX2_addsFactor 18 = .ok (.iload_n 2, 1) := dk_28 (dk_at dksX2_addsFactor_0 18 rfl rfl)
theorem dX2_addsFactor_19 : decode cX2_addsFactor 19 = .ok (.iastore, 1) := dk_79 (dk_at dksX2_addsFactor_0 19 rfl rfl)
theorem dX2_addsFactor_20 : decode cX2_addsFactor 20 = .ok (.iconst 0, 1) := dk_3 (dk_at dksX2_addsFactor_0 20 rfl rfl)
theorem dX2_addsFactor_21 : decode cX2_addsFactor 21 = .ok (.istore_n 3, 1) := dk_62 (dk_at dksX2_addsFactor_0 21 rfl rfl)
theorem dX2_addsFactor_22 : decode cX2_addsFactor 22 = .ok (.iload_n 3, 1) := dk_29 (dk_at dksX2_addsFactor_0 22 rfl rfl)
theorem dX2_addsFactor_23 : decode cX2_addsFactor 23 = .ok (.bipush 9, 2) := dk_16 9 (dk_at dksX2_addsFactor_1 0 rfl rfl)
theorem dX2_addsFactor_25 : decode cX2_addsFactor 25 = .ok (.if_icmp .ge 29, 3) := dk_162 0 29 (dk_at dksX2_addsFactor_1 2 rfl rfl)
theorem dX2_addsFactor_28 : decode cX2_addsFactor 28 = .ok (.aload_n 0, 1) := dk_42 (dk_at dksX2_addsFactor_1 5 rfl rfl)
theorem dX2_addsFactor_29 : decode cX2_addsFactor 29 = .ok (.getfield 35, 3) := dk_180 0 35 (dk_at dksX2_addsFactor_1 6 rfl rfl)
theorem dX2_addsFactor_32 : decode cX2_addsFactor 32 = .ok (.bipush 9, 2) := dk_16 9 (dk_at dksX2_addsFactor_1 9 rfl rfl)
theorem dX2_addsFactor_34 : decode cX2_addsFactor 34 = .ok (.aload_n 0, 1) := dk_42 (dk_at dksX2_addsFactor_1 11 rfl rfl)
theorem dX2_addsFactor_35 : decode cX2_addsFactor 35 = .ok (.getfield 272, 3) := dk_180 1 16 (dk_at dksX2_addsFactor_1 12 rfl rfl)
theorem dX2_addsFactor_38 : decode cX2_addsFactor 38 = .ok (.imul, 1) := dk_104 (dk_at dksX2_addsFactor_1 15 rfl rfl)
theorem dX2_addsFactor_39 : decode cX2_addsFactor 39 = .ok (.iload_n 3, 1) := dk_29 (dk_at dksX2_addsFactor_1 16 rfl rfl)
theorem dX2_addsFactor_40 : decode cX2_addsFactor 40 = .ok (.iadd, 1) := dk_96 (dk_at dksX2_addsFactor_1 17 rfl rfl)
theorem dX2_addsFactor_41 : decode cX2_addsFactor 41 = .ok (.aload_n 0, 1) := dk_42 (dk_at dksX2_addsFactor_1 18 rfl rfl)
theorem dX2_addsFactor_42 : decode cX2_addsFactor 42 = .ok (.getfield 38, 3) := dk_180 0 38 (dk_at dksX2_addsFactor_1 19 rfl rfl)
theorem dX2_addsFactor_45 : decode cX2_addsFactor 45 = .ok (.iload_n 3, 1) := dk_29 (dk_at dksX2_addsFactor_1 22 rfl rfl)
theorem dX2_addsFactor_46 : decode cX2_addsFactor 46 = .ok (.iaload, 1) := dk_46 (dk_at dksX2_addsFactor_1 23 rfl rfl)
theorem dX2_addsFactor_47 : decode cX2_addsFactor 47 = .ok (.iastore, 1) := dk_79 (dk_at dksX2_addsFactor_2 0 rfl rfl)
theorem dX2_addsFactor_48 : decode cX2_addsFactor 48 = .ok (.iinc 3 1, 3) := dk_132 3 1 (dk_at dksX2_addsFactor_2 1 rfl rfl)
theorem dX2_addsFactor_51 : decode cX2_addsFactor 51 = .ok (.goto (-29), 3) := dk_167 255 227 (dk_at dksX2_addsFactor_2 4 rfl rfl)
theorem dX2_addsFactor_54 : decode cX2_addsFactor 54 = .ok (.aload_n 0, 1) := dk_42 (dk_at dksX2_addsFactor_2 7 rfl rfl)
theorem dX2_addsFactor_55 : decode cX2_addsFactor 55 = .ok (.dup, 1) := dk_89 (dk_at dksX2_addsFactor_2 8 rfl rfl)
theorem dX2_addsFactor_56 : decode cX2_addsFactor 56 = .ok (.getfield 272, 3) := dk_180 1 16 (dk_at dksX2_addsFactor_2 9 rfl rfl)
theorem dX2_addsFactor_59 : decode cX2_addsFactor 59 = .ok (.iconst 1, 1) := dk_4 (dk_at dksX2_addsFactor_2 12 rfl rfl)
theorem dX2_addsFactor_60 : decode cX2_addsFactor 60 = .ok (.iadd, 1) := dk_96 (dk_at dksX2_addsFactor_2 13 rfl rfl)
theorem dX2_addsFactor_61 : decode cX2_addsFactor 61 = .ok (.putfield 272, 3) := dk_181 1 16 (dk_at dksX2_addsFactor_2 14 rfl rfl)
theorem dX2_addsFactor_64 : decode cX2_addsFactor 64 = .ok (.return_, 1) := dk_177 (dk_at dksX2_addsFactor_2 17 rfl rfl)
abbrev cX2_grow : ByteArray := prog_18_method_69_code
def yX2_grow : MethodName := ⟨RX2, "grow", "(I)I"⟩
def dkwX2_grow_5 : List UInt8 := [182, 1, 155, 167, 255, 245, 42, 182, 1, 158, 42, 180, 1, 93, 172]
abbrev dktX2_grow_5 : List UInt8 := dkwX2_grow_5 ++ []
def dkwX2_grow_4 : List UInt8 := [79, 42, 180, 0, 146, 3, 3, 79, 42, 180, 0, 149, 3, 3, 79, 42, 180, 1, 122, 155, 0, 10, 42]
abbrev dktX2_grow_4 : List UInt8 := dkwX2_grow_4 ++ dktX2_grow_5
def dkwX2_grow_3 : List UInt8 := [181, 1, 116, 42, 3, 181, 1, 69, 42, 3, 181, 1, 93, 42, 3, 181, 1, 122, 42, 180, 0, 143, 3, 3]
abbrev dktX2_grow_3 : List UInt8 := dkwX2_grow_3 ++ dktX2_grow_4
def dkwX2_grow_2 : List UInt8 := [132, 2, 1, 167, 255, 230, 42, 42, 27, 182, 0, 187, 181, 1, 152, 42, 4, 181, 0, 179, 42, 3]
abbrev dktX2_grow_2 : List UInt8 := dkwX2_grow_2 ++ dktX2_grow_3
def dkwX2_grow_1 : List UInt8 := [16, 9, 162, 0, 26, 42, 180, 0, 44, 28, 42, 42, 27, 28, 182, 0, 183, 133, 182, 1, 1, 80]
abbrev dktX2_grow_1 : List UInt8 := dkwX2_grow_1 ++ dktX2_grow_2
def dkwX2_grow_0 : List UInt8 := [27, 184, 0, 231, 154, 0, 5, 2, 172, 42, 27, 182, 0, 248, 154, 0, 6, 16, 253, 172, 3, 61, 28]
abbrev dktX2_grow_0 : List UInt8 := dkwX2_grow_0 ++ dktX2_grow_1
theorem dksX2_grow_0 : cX2_grow.data.toList.drop 0 = dktX2_grow_0 := by decide +kernel
theorem dksX2_grow_1 : cX2_grow.data.toList.drop 23 = dktX2_grow_1 := dk_seg dksX2_grow_0 23 rfl rfl
theorem dksX2_grow_2 : cX2_grow.data.toList.drop 45 = dktX2_grow_2 := dk_seg dksX2_grow_1 22 rfl rfl
theorem dksX2_grow_3 : cX2_grow.data.toList.drop 67 = dktX2_grow_3 := dk_seg dksX2_grow_2 22 rfl rfl
theorem dksX2_grow_4 : cX2_grow.data.toList.drop 91 = dktX2_grow_4 := dk_seg dksX2_grow_3 24 rfl rfl
theorem dksX2_grow_5 : cX2_grow.data.toList.drop 114 = dktX2_grow_5 := dk_seg dksX2_grow_4 23 rfl rfl
theorem dX2_grow_0 : decode cX2_grow 0 = .ok (.iload_n 1, 1) := dk_27 (dk_at dksX2_grow_0 0 rfl rfl)
theorem dX2_grow_1 : decode cX2_grow 1 = .ok (.invokestatic 231, 3) := dk_184 0 231 (dk_at dksX2_grow_0 1 rfl rfl)
theorem dX2_grow_4 : decode cX2_grow 4 = .ok (.ifCond .ne 5, 3) := dk_154 0 5 (dk_at dksX2_grow_0 4 rfl rfl)
theorem dX2_grow_7 : decode cX2_grow 7 = .ok (.iconst (-1), 1) := dk_2 (dk_at dksX2_grow_0 7 rfl rfl)
theorem dX2_grow_8 : decode cX2_grow 8 = .ok (.ireturn, 1) := dk_172 (dk_at dksX2_grow_0 8 rfl rfl)
theorem dX2_grow_9 : decode cX2_grow 9 = .ok (.aload_n 0, 1) := dk_42 (dk_at dksX2_grow_0 9 rfl rfl)
theorem dX2_grow_10 : decode cX2_grow 10 = .ok (.iload_n 1, 1) := dk_27 (dk_at dksX2_grow_0 10 rfl rfl)
theorem dX2_grow_11 : decode cX2_grow 11 = .ok (.invokevirtual 248, 3) := dk_182 0 248 (dk_at dksX2_grow_0 11 rfl rfl)
theorem dX2_grow_14 : decode cX2_grow 14 = .ok (.ifCond .ne 6, 3) := dk_154 0 6 (dk_at dksX2_grow_0 14 rfl rfl)
theorem dX2_grow_17 : decode cX2_grow 17 = .ok (.bipush (-3), 2) := dk_16 253 (dk_at dksX2_grow_0 17 rfl rfl)
theorem dX2_grow_19 : decode cX2_grow 19 = .ok (.ireturn, 1) := dk_172 (dk_at dksX2_grow_0 19 rfl rfl)
theorem dX2_grow_20 : decode cX2_grow 20 = .ok (.iconst 0, 1) := dk_3 (dk_at dksX2_grow_0 20 rfl rfl)
theorem dX2_grow_21 : decode cX2_grow 21 = .ok (.istore_n 2, 1) := dk_61 (dk_at dksX2_grow_0 21 rfl rfl)
theorem dX2_grow_22 : decode cX2_grow 22 = .ok (.iload_n 2, 1) := dk_28 (dk_at dksX2_grow_0 22 rfl rfl)
theorem dX2_grow_23 : decode cX2_grow 23 = .ok (.bipush 9, 2) := dk_16 9 (dk_at dksX2_grow_1 0 rfl rfl)
theorem dX2_grow_25 : decode cX2_grow 25 = .ok (.if_icmp .ge 26, 3) := dk_162 0 26 (dk_at dksX2_grow_1 2 rfl rfl)
theorem dX2_grow_28 : decode cX2_grow 28 = .ok (.aload_n 0, 1) := dk_42 (dk_at dksX2_grow_1 5 rfl rfl)
theorem dX2_grow_29 : decode cX2_grow 29 = .ok (.getfield 44, 3) := dk_180 0 44 (dk_at dksX2_grow_1 6 rfl rfl)
theorem dX2_grow_32 : decode cX2_grow 32 = .ok (.iload_n 2, 1) := dk_28 (dk_at dksX2_grow_1 9 rfl rfl)
theorem dX2_grow_33 : decode cX2_grow 33 = .ok (.aload_n 0, 1) := dk_42 (dk_at dksX2_grow_1 10 rfl rfl)
theorem dX2_grow_34 : decode cX2_grow 34 = .ok (.aload_n 0, 1) := dk_42 (dk_at dksX2_grow_1 11 rfl rfl)
theorem dX2_grow_35 : decode cX2_grow 35 = .ok (.iload_n 1, 1) := dk_27 (dk_at dksX2_grow_1 12 rfl rfl)
theorem dX2_grow_36 : decode cX2_grow 36 = .ok (.iload_n 2, 1) := dk_28 (dk_at dksX2_grow_1 13 rfl rfl)
theorem dX2_grow_37 : decode cX2_grow 37 = .ok (.invokevirtual 183, 3) := dk_182 0 183 (dk_at dksX2_grow_1 14 rfl rfl)
theorem dX2_grow_40 : decode cX2_grow 40 = .ok (.i2l, 1) := dk_133 (dk_at dksX2_grow_1 17 rfl rfl)
theorem dX2_grow_41 : decode cX2_grow 41 = .ok (.invokevirtual 257, 3) := dk_182 1 1 (dk_at dksX2_grow_1 18 rfl rfl)
theorem dX2_grow_44 : decode cX2_grow 44 = .ok (.lastore, 1) := dk_80 (dk_at dksX2_grow_1 21 rfl rfl)
theorem dX2_grow_45 : decode cX2_grow 45 = .ok (.iinc 2 1, 3) := dk_132 2 1 (dk_at dksX2_grow_2 0 rfl rfl)
theorem dX2_grow_48 : decode cX2_grow 48 = .ok (.goto (-26), 3) := dk_167 255 230 (dk_at dksX2_grow_2 3 rfl rfl)
theorem dX2_grow_51 : decode cX2_grow 51 = .ok (.aload_n 0, 1) := dk_42 (dk_at dksX2_grow_2 6 rfl rfl)
theorem dX2_grow_52 : decode cX2_grow 52 = .ok (.aload_n 0, 1) := dk_42 (dk_at dksX2_grow_2 7 rfl rfl)
theorem dX2_grow_53 : decode cX2_grow 53 = .ok (.iload_n 1, 1) := dk_27 (dk_at dksX2_grow_2 8 rfl rfl)
theorem dX2_grow_54 : decode cX2_grow 54 = .ok (.invokevirtual 187, 3) := dk_182 0 187 (dk_at dksX2_grow_2 9 rfl rfl)
theorem dX2_grow_57 : decode cX2_grow 57 = .ok (.putfield 408, 3) := dk_181 1 152 (dk_at dksX2_grow_2 12 rfl rfl)
theorem dX2_grow_60 : decode cX2_grow 60 = .ok (.aload_n 0, 1) := dk_42 (dk_at dksX2_grow_2 15 rfl rfl)
theorem dX2_grow_61 : decode cX2_grow 61 = .ok (.iconst 1, 1) := dk_4 (dk_at dksX2_grow_2 16 rfl rfl)
theorem dX2_grow_62 : decode cX2_grow 62 = .ok (.putfield 179, 3) := dk_181 0 179 (dk_at dksX2_grow_2 17 rfl rfl)
theorem dX2_grow_65 : decode cX2_grow 65 = .ok (.aload_n 0, 1) := dk_42 (dk_at dksX2_grow_2 20 rfl rfl)
theorem dX2_grow_66 : decode cX2_grow 66 = .ok (.iconst 0, 1) := dk_3 (dk_at dksX2_grow_2 21 rfl rfl)
theorem dX2_grow_67 : decode cX2_grow 67 = .ok (.putfield 372, 3) := dk_181 1 116 (dk_at dksX2_grow_3 0 rfl rfl)
theorem dX2_grow_70 : decode cX2_grow 70 = .ok (.aload_n 0, 1) := dk_42 (dk_at dksX2_grow_3 3 rfl rfl)
theorem dX2_grow_71 : decode cX2_grow 71 = .ok (.iconst 0, 1) := dk_3 (dk_at dksX2_grow_3 4 rfl rfl)
theorem dX2_grow_72 : decode cX2_grow 72 = .ok (.putfield 325, 3) := dk_181 1 69 (dk_at dksX2_grow_3 5 rfl rfl)
theorem dX2_grow_75 : decode cX2_grow 75 = .ok (.aload_n 0, 1) := dk_42 (dk_at dksX2_grow_3 8 rfl rfl)
theorem dX2_grow_76 : decode cX2_grow 76 = .ok (.iconst 0, 1) := dk_3 (dk_at dksX2_grow_3 9 rfl rfl)
theorem dX2_grow_77 : decode cX2_grow 77 = .ok (.putfield 349, 3) := dk_181 1 93 (dk_at dksX2_grow_3 10 rfl rfl)
theorem dX2_grow_80 : decode cX2_grow 80 = .ok (.aload_n 0, 1) := dk_42 (dk_at dksX2_grow_3 13 rfl rfl)
theorem dX2_grow_81 : decode cX2_grow 81 = .ok (.iconst 0, 1) := dk_3 (dk_at dksX2_grow_3 14 rfl rfl)
theorem dX2_grow_82 : decode cX2_grow 82 = .ok (.putfield 378, 3) := dk_181 1 122 (dk_at dksX2_grow_3 15 rfl rfl)
theorem dX2_grow_85 : decode cX2_grow 85 = .ok (.aload_n 0, 1) := dk_42 (dk_at dksX2_grow_3 18 rfl rfl)
theorem dX2_grow_86 : decode cX2_grow 86 = .ok (.getfield 143, 3) := dk_180 0 143 (dk_at dksX2_grow_3 19 rfl rfl)
theorem dX2_grow_89 : decode cX2_grow 89 = .ok (.iconst 0, 1) := dk_3 (dk_at dksX2_grow_3 22 rfl rfl)
theorem dX2_grow_90 : decode cX2_grow 90 = .ok (.iconst 0, 1) := dk_3 (dk_at dksX2_grow_3 23 rfl rfl)
theorem dX2_grow_91 : decode cX2_grow 91 = .ok (.iastore, 1) := dk_79 (dk_at dksX2_grow_4 0 rfl rfl)
theorem dX2_grow_92 : decode cX2_grow 92 = .ok (.aload_n 0, 1) := dk_42 (dk_at dksX2_grow_4 1 rfl rfl)
theorem dX2_grow_93 : decode cX2_grow 93 = .ok (.getfield 146, 3) := dk_180 0 146 (dk_at dksX2_grow_4 2 rfl rfl)
theorem dX2_grow_96 : decode cX2_grow 96 = .ok (.iconst 0, 1) := dk_3 (dk_at dksX2_grow_4 5 rfl rfl)
theorem dX2_grow_97 : decode cX2_grow 97 = .ok (.iconst 0, 1) := dk_3 (dk_at dksX2_grow_4 6 rfl rfl)
theorem dX2_grow_98 : decode cX2_grow 98 = .ok (.iastore, 1) := dk_79 (dk_at dksX2_grow_4 7 rfl rfl)
theorem dX2_grow_99 : decode cX2_grow 99 = .ok (.aload_n 0, 1) := dk_42 (dk_at dksX2_grow_4 8 rfl rfl)
theorem dX2_grow_100 : decode cX2_grow 100 = .ok (.getfield 149, 3) := dk_180 0 149 (dk_at dksX2_grow_4 9 rfl rfl)
theorem dX2_grow_103 : decode cX2_grow 103 = .ok (.iconst 0, 1) := dk_3 (dk_at dksX2_grow_4 12 rfl rfl)
theorem dX2_grow_104 : decode cX2_grow 104 = .ok (.iconst 0, 1) := dk_3 (dk_at dksX2_grow_4 13 rfl rfl)
theorem dX2_grow_105 : decode cX2_grow 105 = .ok (.iastore, 1) := dk_79 (dk_at dksX2_grow_4 14 rfl rfl)
theorem dX2_grow_106 : decode cX2_grow 106 = .ok (.aload_n 0, 1) := dk_42 (dk_at dksX2_grow_4 15 rfl rfl)
theorem dX2_grow_107 : decode cX2_grow 107 = .ok (.getfield 378, 3) := dk_180 1 122 (dk_at dksX2_grow_4 16 rfl rfl)
theorem dX2_grow_110 : decode cX2_grow 110 = .ok (.ifCond .lt 10, 3) := dk_155 0 10 (dk_at dksX2_grow_4 19 rfl rfl)
theorem dX2_grow_113 : decode cX2_grow 113 = .ok (.aload_n 0, 1) := dk_42 (dk_at dksX2_grow_4 22 rfl rfl)
theorem dX2_grow_114 : decode cX2_grow 114 = .ok (.invokevirtual 411, 3) := dk_182 1 155 (dk_at dksX2_grow_5 0 rfl rfl)
theorem dX2_grow_117 : decode cX2_grow 117 = .ok (.goto (-11), 3) := dk_167 255 245 (dk_at dksX2_grow_5 3 rfl rfl)
theorem dX2_grow_120 : decode cX2_grow 120 = .ok (.aload_n 0, 1) := dk_42 (dk_at dksX2_grow_5 6 rfl rfl)
theorem dX2_grow_121 : decode cX2_grow 121 = .ok (.invokevirtual 414, 3) := dk_182 1 158 (dk_at dksX2_grow_5 7 rfl rfl)
theorem dX2_grow_124 : decode cX2_grow 124 = .ok (.aload_n 0, 1) := dk_42 (dk_at dksX2_grow_5 10 rfl rfl)
theorem dX2_grow_125 : decode cX2_grow 125 = .ok (.getfield 349, 3) := dk_180 1 93 (dk_at dksX2_grow_5 11 rfl rfl)
theorem dX2_grow_128 : decode cX2_grow 128 = .ok (.ireturn, 1) := dk_172 (dk_at dksX2_grow_5 14 rfl rfl)
abbrev cX2_steps : ByteArray := prog_18_method_65_code
def yX2_steps : MethodName := ⟨RX2, "steps", "()V"⟩
def dkwX2_steps_10 : List UInt8 := [182, 1, 140, 177]
abbrev dktX2_steps_10 : List UInt8 := dkwX2_steps_10 ++ []
def dkwX2_steps_9 : List UInt8 := [180, 1, 122, 154, 0, 11, 42, 29, 182, 1, 137, 167, 0, 15, 42, 27, 182, 1, 96, 42, 27, 28, 29]
abbrev dktX2_steps_9 : List UInt8 := dkwX2_steps_9 ++ dktX2_steps_10
def dkwX2_steps_8 : List UInt8 := [167, 0, 4, 3, 100, 181, 1, 122, 177, 42, 180, 0, 149, 42, 180, 1, 122, 92, 46, 4, 96, 79, 42]
abbrev dktX2_steps_8 : List UInt8 := dkwX2_steps_8 ++ dktX2_steps_9
def dkwX2_steps_7 : List UInt8 := [180, 0, 149, 42, 180, 1, 122, 3, 79, 42, 89, 180, 1, 122, 42, 180, 1, 122, 154, 0, 7, 4]
abbrev dktX2_steps_7 : List UInt8 := dkwX2_steps_7 ++ dktX2_steps_8
def dkwX2_steps_6 : List UInt8 := [29, 42, 180, 1, 16, 160, 0, 48, 42, 180, 0, 146, 42, 180, 1, 122, 92, 46, 4, 96, 79, 42]
abbrev dktX2_steps_6 : List UInt8 := dkwX2_steps_6 ++ dktX2_steps_7
def dkwX2_steps_5 : List UInt8 := [182, 1, 12, 79, 132, 3, 1, 167, 255, 210, 42, 182, 1, 41, 42, 180, 0, 149, 42, 180, 1, 122, 46, 62]
abbrev dktX2_steps_5 : List UInt8 := dkwX2_steps_5 ++ dktX2_steps_6
def dkwX2_steps_4 : List UInt8 := [158, 0, 17, 42, 180, 0, 104, 16, 9, 28, 104, 29, 96, 46, 167, 0, 13, 42, 42, 180, 0, 44, 29, 47]
abbrev dktX2_steps_4 : List UInt8 := dkwX2_steps_4 ++ dktX2_steps_5
def dkwX2_steps_3 : List UInt8 := [167, 0, 4, 3, 61, 3, 62, 29, 16, 9, 162, 0, 46, 42, 180, 0, 26, 29, 42, 180, 1, 122]
abbrev dktX2_steps_3 : List UInt8 := dkwX2_steps_3 ++ dktX2_steps_4
def dkwX2_steps_2 : List UInt8 := [42, 180, 1, 122, 158, 0, 22, 42, 180, 0, 56, 27, 46, 42, 180, 0, 146, 42, 180, 1, 122, 46, 96]
abbrev dktX2_steps_2 : List UInt8 := dkwX2_steps_2 ++ dktX2_steps_3
def dkwX2_steps_1 : List UInt8 := [180, 1, 122, 46, 42, 180, 0, 59, 27, 46, 160, 0, 14, 42, 89, 180, 1, 122, 4, 100, 181, 1, 122, 177]
abbrev dktX2_steps_1 : List UInt8 := dkwX2_steps_1 ++ dktX2_steps_2
def dkwX2_steps_0 : List UInt8 := [42, 180, 0, 143, 42, 180, 1, 122, 46, 60, 42, 180, 1, 122, 158, 0, 32, 42, 180, 0, 146, 42]
abbrev dktX2_steps_0 : List UInt8 := dkwX2_steps_0 ++ dktX2_steps_1
theorem dksX2_steps_0 : cX2_steps.data.toList.drop 0 = dktX2_steps_0 := by decide +kernel
theorem dksX2_steps_1 : cX2_steps.data.toList.drop 22 = dktX2_steps_1 := dk_seg dksX2_steps_0 22 rfl rfl
theorem dksX2_steps_2 : cX2_steps.data.toList.drop 46 = dktX2_steps_2 := dk_seg dksX2_steps_1 24 rfl rfl
theorem dksX2_steps_3 : cX2_steps.data.toList.drop 69 = dktX2_steps_3 := dk_seg dksX2_steps_2 23 rfl rfl
theorem dksX2_steps_4 : cX2_steps.data.toList.drop 91 = dktX2_steps_4 := dk_seg dksX2_steps_3 22 rfl rfl
theorem dksX2_steps_5 : cX2_steps.data.toList.drop 115 = dktX2_steps_5 := dk_seg dksX2_steps_4 24 rfl rfl
theorem dksX2_steps_6 : cX2_steps.data.toList.drop 139 = dktX2_steps_6 := dk_seg dksX2_steps_5 24 rfl rfl
theorem dksX2_steps_7 : cX2_steps.data.toList.drop 161 = dktX2_steps_7 := dk_seg dksX2_steps_6 22 rfl rfl
theorem dksX2_steps_8 : cX2_steps.data.toList.drop 183 = dktX2_steps_8 := dk_seg dksX2_steps_7 22 rfl rfl
theorem dksX2_steps_9 : cX2_steps.data.toList.drop 206 = dktX2_steps_9 := dk_seg dksX2_steps_8 23 rfl rfl
theorem dksX2_steps_10 : cX2_steps.data.toList.drop 229 = dktX2_steps_10 := dk_seg dksX2_steps_9 23 rfl rfl
theorem dX2_steps_0 : decode cX2_steps 0 = .ok (.aload_n 0, 1) := dk_42 (dk_at dksX2_steps_0 0 rfl rfl)
theorem dX2_steps_1 : decode cX2_steps 1 = .ok (.getfield 143, 3) := dk_180 0 143 (dk_at dksX2_steps_0 1 rfl rfl)
theorem dX2_steps_4 : decode cX2_steps 4 = .ok (.aload_n 0, 1) := dk_42 (dk_at dksX2_steps_0 4 rfl rfl)
theorem dX2_steps_5 : decode cX2_steps 5 = .ok (.getfield 378, 3) := dk_180 1 122 (dk_at dksX2_steps_0 5 rfl rfl)
theorem dX2_steps_8 : decode cX2_steps 8 = .ok (.iaload, 1) := dk_46 (dk_at dksX2_steps_0 8 rfl rfl)
theorem dX2_steps_9 : decode cX2_steps 9 = .ok (.istore_n 1, 1) := dk_60 (dk_at dksX2_steps_0 9 rfl rfl)
theorem dX2_steps_10 : decode cX2_steps 10 = .ok (.aload_n 0, 1) := dk_42 (dk_at dksX2_steps_0 10 rfl rfl)
theorem dX2_steps_11 : decode cX2_steps 11 = .ok (.getfield 378, 3) := dk_180 1 122 (dk_at dksX2_steps_0 11 rfl rfl)
theorem dX2_steps_14 : decode cX2_steps 14 = .ok (.ifCond .le 32, 3) := dk_158 0 32 (dk_at dksX2_steps_0 14 rfl rfl)
theorem dX2_steps_17 : decode cX2_steps 17 = .ok (.aload_n 0, 1) := dk_42 (dk_at dksX2_steps_0 17 rfl rfl)
theorem dX2_steps_18 : decode cX2_steps 18 = .ok (.getfield 146, 3) := dk_180 0 146 (dk_at dksX2_steps_0 18 rfl rfl)
theorem dX2_steps_21 : decode cX2_steps 21 = .ok (.aload_n 0, 1) := dk_42 (dk_at dksX2_steps_0 21 rfl rfl)
theorem dX2_steps_22 : decode cX2_steps 22 = .ok (.getfield 378, 3) := dk_180 1 122 (dk_at dksX2_steps_1 0 rfl rfl)
theorem dX2_steps_25 : decode cX2_steps 25 = .ok (.iaload, 1) := dk_46 (dk_at dksX2_steps_1 3 rfl rfl)
theorem dX2_steps_26 : decode cX2_steps 26 = .ok (.aload_n 0, 1) := dk_42 (dk_at dksX2_steps_1 4 rfl rfl)
theorem dX2_steps_27 : decode cX2_steps 27 = .ok (.getfield 59, 3) := dk_180 0 59 (dk_at dksX2_steps_1 5 rfl rfl)
theorem dX2_steps_30 : decode cX2_steps 30 = .ok (.iload_n 1, 1) := dk_27 (dk_at dksX2_steps_1 8 rfl rfl)
theorem dX2_steps_31 : decode cX2_steps 31 = .ok (.iaload, 1) := dk_46 (dk_at dksX2_steps_1 9 rfl rfl)
theorem dX2_steps_32 : decode cX2_steps 32 = .ok (.if_icmp .ne 14, 3) := dk_160 0 14 (dk_at dksX2_steps_1 10 rfl rfl)
theorem dX2_steps_35 : decode cX2_steps 35 = .ok (.aload_n 0, 1) := dk_42 (dk_at dksX2_steps_1 13 rfl rfl)
theorem dX2_steps_36 : decode cX2_steps 36 = .ok (.dup, 1) := dk_89 (dk_at dksX2_steps_1 14 rfl rfl)
theorem dX2_steps_37 : decode cX2_steps 37 = .ok (.getfield 378, 3) := dk_180 1 122 (dk_at dksX2_steps_1 15 rfl rfl)
theorem dX2_steps_40 : decode cX2_steps 40 = .ok (.iconst 1, 1) := dk_4 (dk_at dksX2_steps_1 18 rfl rfl)
theorem dX2_steps_41 : decode cX2_steps 41 = .ok (.isub, 1) := dk_100 (dk_at dksX2_steps_1 19 rfl rfl)
theorem dX2_steps_42 : decode cX2_steps 42 = .ok (.putfield 378, 3) := dk_181 1 122 (dk_at dksX2_steps_1 20 rfl rfl)
theorem dX2_steps_45 : decode cX2_steps 45 = .ok (.return_, 1) := dk_177 (dk_at dksX2_steps_1 23 rfl rfl)
theorem dX2_steps_46 : decode cX2_steps 46 = .ok (.aload_n 0, 1) := dk_42 (dk_at dksX2_steps_2 0 rfl rfl)
theorem dX2_steps_47 : decode cX2_steps 47 = .ok (.getfield 378, 3) := dk_180 1 122 (dk_at dksX2_steps_2 1 rfl rfl)
theorem dX2_steps_50 : decode cX2_steps 50 = .ok (.ifCond .le 22, 3) := dk_158 0 22 (dk_at dksX2_steps_2 4 rfl rfl)
theorem dX2_steps_53 : decode cX2_steps 53 = .ok (.aload_n 0, 1) := dk_42 (dk_at dksX2_steps_2 7 rfl rfl)
theorem dX2_steps_54 : decode cX2_steps 54 = .ok (.getfield 56, 3) := dk_180 0 56 (dk_at dksX2_steps_2 8 rfl rfl)
theorem dX2_steps_57 : decode cX2_steps 57 = .ok (.iload_n 1, 1) := dk_27 (dk_at dksX2_steps_2 11 rfl rfl)
theorem dX2_steps_58 : decode cX2_steps 58 = .ok (.iaload, 1) := dk_46 (dk_at dksX2_steps_2 12 rfl rfl)
theorem dX2_steps_59 : decode cX2_steps 59 = .ok (.aload_n 0, 1) := dk_42 (dk_at dksX2_steps_2 13 rfl rfl)
theorem dX2_steps_60 : decode cX2_steps 60 = .ok (.getfield 146, 3) := dk_180 0 146 (dk_at dksX2_steps_2 14 rfl rfl)
theorem dX2_steps_63 : decode cX2_steps 63 = .ok (.aload_n 0, 1) := dk_42 (dk_at dksX2_steps_2 17 rfl rfl)
theorem dX2_steps_64 : decode cX2_steps 64 = .ok (.getfield 378, 3) := dk_180 1 122 (dk_at dksX2_steps_2 18 rfl rfl)
theorem dX2_steps_67 : decode cX2_steps 67 = .ok (.iaload, 1) := dk_46 (dk_at dksX2_steps_2 21 rfl rfl)
theorem dX2_steps_68 : decode cX2_steps 68 = .ok (.iadd, 1) := dk_96 (dk_at dksX2_steps_2 22 rfl rfl)
theorem dX2_steps_69 : decode cX2_steps 69 = .ok (.goto 4, 3) := dk_167 0 4 (dk_at dksX2_steps_3 0 rfl rfl)
theorem dX2_steps_72 : decode cX2_steps 72 = .ok (.iconst 0, 1) := dk_3 (dk_at dksX2_steps_3 3 rfl rfl)
theorem dX2_steps_73 : decode cX2_steps 73 = .ok (.istore_n 2, 1) := dk_61 (dk_at dksX2_steps_3 4 rfl rfl)
theorem dX2_steps_74 : decode cX2_steps 74 = .ok (.iconst 0, 1) := dk_3 (dk_at dksX2_steps_3 5 rfl rfl)
theorem dX2_steps_75 : decode cX2_steps 75 = .ok (.istore_n 3, 1) := dk_62 (dk_at dksX2_steps_3 6 rfl rfl)
theorem dX2_steps_76 : decode cX2_steps 76 = .ok (.iload_n 3, 1) := dk_29 (dk_at dksX2_steps_3 7 rfl rfl)
theorem dX2_steps_77 : decode cX2_steps 77 = .ok (.bipush 9, 2) := dk_16 9 (dk_at dksX2_steps_3 8 rfl rfl)
theorem dX2_steps_79 : decode cX2_steps 79 = .ok (.if_icmp .ge 46, 3) := dk_162 0 46 (dk_at dksX2_steps_3 10 rfl rfl)
theorem dX2_steps_82 : decode cX2_steps 82 = .ok (.aload_n 0, 1) := dk_42 (dk_at dksX2_steps_3 13 rfl rfl)
theorem dX2_steps_83 : decode cX2_steps 83 = .ok (.getfield 26, 3) := dk_180 0 26 (dk_at dksX2_steps_3 14 rfl rfl)
theorem dX2_steps_86 : decode cX2_steps 86 = .ok (.iload_n 3, 1) := dk_29 (dk_at dksX2_steps_3 17 rfl rfl)
theorem dX2_steps_87 : decode cX2_steps 87 = .ok (.aload_n 0, 1) := dk_42 (dk_at dksX2_steps_3 18 rfl rfl)
theorem dX2_steps_88 : decode cX2_steps 88 = .ok (.getfield 378, 3) := dk_180 1 122 (dk_at dksX2_steps_3 19 rfl rfl)
theorem dX2_steps_91 : decode cX2_steps 91 = .ok (.ifCond .le 17, 3) := dk_158 0 17 (dk_at dksX2_steps_4 0 rfl rfl)
theorem dX2_steps_94 : decode cX2_steps 94 = .ok (.aload_n 0, 1) := dk_42 (dk_at dksX2_steps_4 3 rfl rfl)
theorem dX2_steps_95 : decode cX2_steps 95 = .ok (.getfield 104, 3) := dk_180 0 104 (dk_at dksX2_steps_4 4 rfl rfl)
theorem dX2_steps_98 : decode cX2_steps 98 = .ok (.bipush 9, 2) := dk_16 9 (dk_at dksX2_steps_4 7 rfl rfl)
theorem dX2_steps_100 : decode cX2_steps 100 = .ok (.iload_n 2, 1) := dk_28 (dk_at dksX2_steps_4 9 rfl rfl)
theorem dX2_steps_101 : decode cX2_steps 101 = .ok (.imul, 1) := dk_104 (dk_at dksX2_steps_4 10 rfl rfl)
theorem dX2_steps_102 : decode cX2_steps 102 = .ok (.iload_n 3, 1) := dk_29 (dk_at dksX2_steps_4 11 rfl rfl)
theorem dX2_steps_103 : decode cX2_steps 103 = .ok (.iadd, 1) := dk_96 (dk_at dksX2_steps_4 12 rfl rfl)
theorem dX2_steps_104 : decode cX2_steps 104 = .ok (.iaload, 1) := dk_46 (dk_at dksX2_steps_4 13 rfl rfl)
theorem dX2_steps_105 : decode cX2_steps 105 = .ok (.goto 13, 3) := dk_167 0 13 (dk_at dksX2_steps_4 14 rfl rfl)
theorem dX2_steps_108 : decode cX2_steps 108 = .ok (.aload_n 0, 1) := dk_42 (dk_at dksX2_steps_4 17 rfl rfl)
theorem dX2_steps_109 : decode cX2_steps 109 = .ok (.aload_n 0, 1) := dk_42 (dk_at dksX2_steps_4 18 rfl rfl)
theorem dX2_steps_110 : decode cX2_steps 110 = .ok (.getfield 44, 3) := dk_180 0 44 (dk_at dksX2_steps_4 19 rfl rfl)
theorem dX2_steps_113 : decode cX2_steps 113 = .ok (.iload_n 3, 1) := dk_29 (dk_at dksX2_steps_4 22 rfl rfl)
theorem dX2_steps_114 : decode cX2_steps 114 = .ok (.laload, 1) := dk_47 (dk_at dksX2_steps_4 23 rfl rfl)
theorem dX2_steps_115 : decode cX2_steps 115 = .ok (.invokevirtual 268, 3) := dk_182 1 12 (dk_at dksX2_steps_5 0 rfl rfl)
theorem dX2_steps_118 : decode cX2_steps 118 = .ok (.iastore, 1) := dk_79 (dk_at dksX2_steps_5 3 rfl rfl)
theorem dX2_steps_119 : decode cX2_steps 119 = .ok (.iinc 3 1, 3) := dk_132 3 1 (dk_at dksX2_steps_5 4 rfl rfl)
theorem dX2_steps_122 : decode cX2_steps 122 = .ok (.goto (-46), 3) := dk_167 255 210 (dk_at dksX2_steps_5 7 rfl rfl)
theorem dX2_steps_125 : decode cX2_steps 125 = .ok (.aload_n 0, 1) := dk_42 (dk_at dksX2_steps_5 10 rfl rfl)
theorem dX2_steps_126 : decode cX2_steps 126 = .ok (.invokevirtual 297, 3) := dk_182 1 41 (dk_at dksX2_steps_5 11 rfl rfl)
theorem dX2_steps_129 : decode cX2_steps 129 = .ok (.aload_n 0, 1) := dk_42 (dk_at dksX2_steps_5 14 rfl rfl)
theorem dX2_steps_130 : decode cX2_steps 130 = .ok (.getfield 149, 3) := dk_180 0 149 (dk_at dksX2_steps_5 15 rfl rfl)
theorem dX2_steps_133 : decode cX2_steps 133 = .ok (.aload_n 0, 1) := dk_42 (dk_at dksX2_steps_5 18 rfl rfl)
theorem dX2_steps_134 : decode cX2_steps 134 = .ok (.getfield 378, 3) := dk_180 1 122 (dk_at dksX2_steps_5 19 rfl rfl)
theorem dX2_steps_137 : decode cX2_steps 137 = .ok (.iaload, 1) := dk_46 (dk_at dksX2_steps_5 22 rfl rfl)
theorem dX2_steps_138 : decode cX2_steps 138 = .ok (.istore_n 3, 1) := dk_62 (dk_at dksX2_steps_5 23 rfl rfl)
theorem dX2_steps_139 : decode cX2_steps 139 = .ok (.iload_n 3, 1) := dk_29 (dk_at dksX2_steps_6 0 rfl rfl)
theorem dX2_steps_140 : decode cX2_steps 140 = .ok (.aload_n 0, 1) := dk_42 (dk_at dksX2_steps_6 1 rfl rfl)
theorem dX2_steps_141 : decode cX2_steps 141 = .ok (.getfield 272, 3) := dk_180 1 16 (dk_at dksX2_steps_6 2 rfl rfl)
theorem dX2_steps_144 : decode cX2_steps 144 = .ok (.if_icmp .ne 48, 3) := dk_160 0 48 (dk_at dksX2_steps_6 5 rfl rfl)
theorem dX2_steps_147 : decode cX2_steps 147 = .ok (.aload_n 0, 1) := dk_42 (dk_at dksX2_steps_6 8 rfl rfl)
theorem dX2_steps_148 : decode cX2_steps 148 = .ok (.getfield 146, 3) := dk_180 0 146 (dk_at dksX2_steps_6 9 rfl rfl)
theorem dX2_steps_151 : decode cX2_steps 151 = .ok (.aload_n 0, 1) := dk_42 (dk_at dksX2_steps_6 12 rfl rfl)
theorem dX2_steps_152 : decode cX2_steps 152 = .ok (.getfield 378, 3) := dk_180 1 122 (dk_at dksX2_steps_6 13 rfl rfl)
theorem dX2_steps_155 : decode cX2_steps 155 = .ok (.dup2, 1) := dk_92 (dk_at dksX2_steps_6 16 rfl rfl)
theorem dX2_steps_156 : decode cX2_steps 156 = .ok (.iaload, 1) := dk_46 (dk_at dksX2_steps_6 17 rfl rfl)
theorem dX2_steps_157 : decode cX2_steps 157 = .ok (.iconst 1, 1) := dk_4 (dk_at dksX2_steps_6 18 rfl rfl)
theorem dX2_steps_158 : decode cX2_steps 158 = .ok (.iadd, 1) := dk_96 (dk_at dksX2_steps_6 19 rfl rfl)
theorem dX2_steps_159 : decode cX2_steps 159 = .ok (.iastore, 1) := dk_79 (dk_at dksX2_steps_6 20 rfl rfl)
theorem dX2_steps_160 : decode cX2_steps 160 = .ok (.aload_n 0, 1) := dk_42 (dk_at dksX2_steps_6 21 rfl rfl)
theorem dX2_steps_161 : decode cX2_steps 161 = .ok (.getfield 149, 3) := dk_180 0 149 (dk_at dksX2_steps_7 0 rfl rfl)
theorem dX2_steps_164 : decode cX2_steps 164 = .ok (.aload_n 0, 1) := dk_42 (dk_at dksX2_steps_7 3 rfl rfl)
theorem dX2_steps_165 : decode cX2_steps 165 = .ok (.getfield 378, 3) := dk_180 1 122 (dk_at dksX2_steps_7 4 rfl rfl)
theorem dX2_steps_168 : decode cX2_steps 168 = .ok (.iconst 0, 1) := dk_3 (dk_at dksX2_steps_7 7 rfl rfl)
theorem dX2_steps_169 : decode cX2_steps 169 = .ok (.iastore, 1) := dk_79 (dk_at dksX2_steps_7 8 rfl rfl)
theorem dX2_steps_170 : decode cX2_steps 170 = .ok (.aload_n 0, 1) := dk_42 (dk_at dksX2_steps_7 9 rfl rfl)
theorem dX2_steps_171 : decode cX2_steps 171 = .ok (.dup, 1) := dk_89 (dk_at dksX2_steps_7 10 rfl rfl)
theorem dX2_steps_172 : decode cX2_steps 172 = .ok (.getfield 378, 3) := dk_180 1 122 (dk_at dksX2_steps_7 11 rfl rfl)
theorem dX2_steps_175 : decode cX2_steps 175 = .ok (.aload_n 0, 1) := dk_42 (dk_at dksX2_steps_7 14 rfl rfl)
theorem dX2_steps_176 : decode cX2_steps 176 = .ok (.getfield 378, 3) := dk_180 1 122 (dk_at dksX2_steps_7 15 rfl rfl)
theorem dX2_steps_179 : decode cX2_steps 179 = .ok (.ifCond .ne 7, 3) := dk_154 0 7 (dk_at dksX2_steps_7 18 rfl rfl)
theorem dX2_steps_182 : decode cX2_steps 182 = .ok (.iconst 1, 1) := dk_4 (dk_at dksX2_steps_7 21 rfl rfl)
theorem dX2_steps_183 : decode cX2_steps 183 = .ok (.goto 4, 3) := dk_167 0 4 (dk_at dksX2_steps_8 0 rfl rfl)
theorem dX2_steps_186 : decode cX2_steps 186 = .ok (.iconst 0, 1) := dk_3 (dk_at dksX2_steps_8 3 rfl rfl)
theorem dX2_steps_187 : decode cX2_steps 187 = .ok (.isub, 1) := dk_100 (dk_at dksX2_steps_8 4 rfl rfl)
theorem dX2_steps_188 : decode cX2_steps 188 = .ok (.putfield 378, 3) := dk_181 1 122 (dk_at dksX2_steps_8 5 rfl rfl)
theorem dX2_steps_191 : decode cX2_steps 191 = .ok (.return_, 1) := dk_177 (dk_at dksX2_steps_8 8 rfl rfl)
theorem dX2_steps_192 : decode cX2_steps 192 = .ok (.aload_n 0, 1) := dk_42 (dk_at dksX2_steps_8 9 rfl rfl)
theorem dX2_steps_193 : decode cX2_steps 193 = .ok (.getfield 149, 3) := dk_180 0 149 (dk_at dksX2_steps_8 10 rfl rfl)
theorem dX2_steps_196 : decode cX2_steps 196 = .ok (.aload_n 0, 1) := dk_42 (dk_at dksX2_steps_8 13 rfl rfl)
theorem dX2_steps_197 : decode cX2_steps 197 = .ok (.getfield 378, 3) := dk_180 1 122 (dk_at dksX2_steps_8 14 rfl rfl)
theorem dX2_steps_200 : decode cX2_steps 200 = .ok (.dup2, 1) := dk_92 (dk_at dksX2_steps_8 17 rfl rfl)
theorem dX2_steps_201 : decode cX2_steps 201 = .ok (.iaload, 1) := dk_46 (dk_at dksX2_steps_8 18 rfl rfl)
theorem dX2_steps_202 : decode cX2_steps 202 = .ok (.iconst 1, 1) := dk_4 (dk_at dksX2_steps_8 19 rfl rfl)
theorem dX2_steps_203 : decode cX2_steps 203 = .ok (.iadd, 1) := dk_96 (dk_at dksX2_steps_8 20 rfl rfl)
theorem dX2_steps_204 : decode cX2_steps 204 = .ok (.iastore, 1) := dk_79 (dk_at dksX2_steps_8 21 rfl rfl)
theorem dX2_steps_205 : decode cX2_steps 205 = .ok (.aload_n 0, 1) := dk_42 (dk_at dksX2_steps_8 22 rfl rfl)
theorem dX2_steps_206 : decode cX2_steps 206 = .ok (.getfield 378, 3) := dk_180 1 122 (dk_at dksX2_steps_9 0 rfl rfl)
theorem dX2_steps_209 : decode cX2_steps 209 = .ok (.ifCond .ne 11, 3) := dk_154 0 11 (dk_at dksX2_steps_9 3 rfl rfl)
theorem dX2_steps_212 : decode cX2_steps 212 = .ok (.aload_n 0, 1) := dk_42 (dk_at dksX2_steps_9 6 rfl rfl)
theorem dX2_steps_213 : decode cX2_steps 213 = .ok (.iload_n 3, 1) := dk_29 (dk_at dksX2_steps_9 7 rfl rfl)
theorem dX2_steps_214 : decode cX2_steps 214 = .ok (.invokevirtual 393, 3) := dk_182 1 137 (dk_at dksX2_steps_9 8 rfl rfl)
theorem dX2_steps_217 : decode cX2_steps 217 = .ok (.goto 15, 3) := dk_167 0 15 (dk_at dksX2_steps_9 11 rfl rfl)
theorem dX2_steps_220 : decode cX2_steps 220 = .ok (.aload_n 0, 1) := dk_42 (dk_at dksX2_steps_9 14 rfl rfl)
theorem dX2_steps_221 : decode cX2_steps 221 = .ok (.iload_n 1, 1) := dk_27 (dk_at dksX2_steps_9 15 rfl rfl)
theorem dX2_steps_222 : decode cX2_steps 222 = .ok (.invokevirtual 352, 3) := dk_182 1 96 (dk_at dksX2_steps_9 16 rfl rfl)
theorem dX2_steps_225 : decode cX2_steps 225 = .ok (.aload_n 0, 1) := dk_42 (dk_at dksX2_steps_9 19 rfl rfl)
theorem dX2_steps_226 : decode cX2_steps 226 = .ok (.iload_n 1, 1) := dk_27 (dk_at dksX2_steps_9 20 rfl rfl)
theorem dX2_steps_227 : decode cX2_steps 227 = .ok (.iload_n 2, 1) := dk_28 (dk_at dksX2_steps_9 21 rfl rfl)
theorem dX2_steps_228 : decode cX2_steps 228 = .ok (.iload_n 3, 1) := dk_29 (dk_at dksX2_steps_9 22 rfl rfl)
theorem dX2_steps_229 : decode cX2_steps 229 = .ok (.invokevirtual 396, 3) := dk_182 1 140 (dk_at dksX2_steps_10 0 rfl rfl)
theorem dX2_steps_232 : decode cX2_steps 232 = .ok (.return_, 1) := dk_177 (dk_at dksX2_steps_10 3 rfl rfl)
abbrev cX2_takesFirst : ByteArray := prog_18_method_63_code
def yX2_takesFirst : MethodName := ⟨RX2, "takesFirst", "(I)V"⟩
def dkwX2_takesFirst_4 : List UInt8 := [3, 28, 29, 104, 16, 254, 182, 1, 102, 177]
abbrev dktX2_takesFirst_4 : List UInt8 := dkwX2_takesFirst_4 ++ []
def dkwX2_takesFirst_3 : List UInt8 := [180, 0, 23, 16, 9, 21, 5, 104, 4, 96, 10, 80, 42, 21, 5, 182, 1, 131, 167, 0, 15, 42, 5, 3]
abbrev dktX2_takesFirst_3 : List UInt8 := dkwX2_takesFirst_3 ++ dktX2_takesFirst_4
def dkwX2_takesFirst_2 : List UInt8 := [182, 1, 128, 54, 5, 42, 180, 0, 23, 16, 9, 21, 5, 104, 42, 21, 4, 116, 133, 182, 1, 1, 80, 42]
abbrev dktX2_takesFirst_2 : List UInt8 := dkwX2_takesFirst_2 ++ dktX2_takesFirst_3
def dkwX2_takesFirst_1 : List UInt8 := [16, 254, 182, 1, 102, 167, 0, 75, 28, 4, 160, 0, 58, 42, 27, 182, 1, 125, 54, 4, 42, 2, 29]
abbrev dktX2_takesFirst_1 : List UInt8 := dkwX2_takesFirst_1 ++ dktX2_takesFirst_2
def dkwX2_takesFirst_0 : List UInt8 := [42, 180, 0, 29, 27, 46, 61, 42, 180, 0, 32, 27, 46, 62, 29, 4, 160, 0, 16, 42, 3, 4, 28, 28]
abbrev dktX2_takesFirst_0 : List UInt8 := dkwX2_takesFirst_0 ++ dktX2_takesFirst_1
theorem dksX2_takesFirst_0 : cX2_takesFirst.data.toList.drop 0 = dktX2_takesFirst_0 := by decide +kernel
theorem dksX2_takesFirst_1 : cX2_takesFirst.data.toList.drop 24 = dktX2_takesFirst_1 := dk_seg dksX2_takesFirst_0 24 rfl rfl
theorem dksX2_takesFirst_2 : cX2_takesFirst.data.toList.drop 47 = dktX2_takesFirst_2 := dk_seg dksX2_takesFirst_1 23 rfl rfl
theorem dksX2_takesFirst_3 : cX2_takesFirst.data.toList.drop 71 = dktX2_takesFirst_3 := dk_seg dksX2_takesFirst_2 24 rfl rfl
theorem dksX2_takesFirst_4 : cX2_takesFirst.data.toList.drop 95 = dktX2_takesFirst_4 := dk_seg dksX2_takesFirst_3 24 rfl rfl
theorem dX2_takesFirst_0 : decode cX2_takesFirst 0 = .ok (.aload_n 0, 1) := dk_42 (dk_at dksX2_takesFirst_0 0 rfl rfl)
theorem dX2_takesFirst_1 : decode cX2_takesFirst 1 = .ok (.getfield 29, 3) := dk_180 0 29 (dk_at dksX2_takesFirst_0 1 rfl rfl)
theorem dX2_takesFirst_4 : decode cX2_takesFirst 4 = .ok (.iload_n 1, 1) := dk_27 (dk_at dksX2_takesFirst_0 4 rfl rfl)
theorem dX2_takesFirst_5 : decode cX2_takesFirst 5 = .ok (.iaload, 1) := dk_46 (dk_at dksX2_takesFirst_0 5 rfl rfl)
theorem dX2_takesFirst_6 : decode cX2_takesFirst 6 = .ok (.istore_n 2, 1) := dk_61 (dk_at dksX2_takesFirst_0 6 rfl rfl)
theorem dX2_takesFirst_7 : decode cX2_takesFirst 7 = .ok (.aload_n 0, 1) := dk_42 (dk_at dksX2_takesFirst_0 7 rfl rfl)
theorem dX2_takesFirst_8 : decode cX2_takesFirst 8 = .ok (.getfield 32, 3) := dk_180 0 32 (dk_at dksX2_takesFirst_0 8 rfl rfl)
theorem dX2_takesFirst_11 : decode cX2_takesFirst 11 = .ok (.iload_n 1, 1) := dk_27 (dk_at dksX2_takesFirst_0 11 rfl rfl)
theorem dX2_takesFirst_12 : decode cX2_takesFirst 12 = .ok (.iaload, 1) := dk_46 (dk_at dksX2_takesFirst_0 12 rfl rfl)
theorem dX2_takesFirst_13 : decode cX2_takesFirst 13 = .ok (.istore_n 3, 1) := dk_62 (dk_at dksX2_takesFirst_0 13 rfl rfl)
theorem dX2_takesFirst_14 : decode cX2_takesFirst 14 = .ok (.iload_n 3, 1) := dk_29 (dk_at dksX2_takesFirst_0 14 rfl rfl)
theorem dX2_takesFirst_15 : decode cX2_takesFirst 15 = .ok (.iconst 1, 1) := dk_4 (dk_at dksX2_takesFirst_0 15 rfl rfl)
theorem dX2_takesFirst_16 : decode cX2_takesFirst 16 = .ok (.if_icmp .ne 16, 3) := dk_160 0 16 (dk_at dksX2_takesFirst_0 16 rfl rfl)
theorem dX2_takesFirst_19 : decode cX2_takesFirst 19 = .ok (.aload_n 0, 1) := dk_42 (dk_at dksX2_takesFirst_0 19 rfl rfl)
theorem dX2_takesFirst_20 : decode cX2_takesFirst 20 = .ok (.iconst 0, 1) := dk_3 (dk_at dksX2_takesFirst_0 20 rfl rfl)
theorem dX2_takesFirst_21 : decode cX2_takesFirst 21 = .ok (.iconst 1, 1) := dk_4 (dk_at dksX2_takesFirst_0 21 rfl rfl)
theorem dX2_takesFirst_22 : decode cX2_takesFirst 22 = .ok (.iload_n 2, 1) := dk_28 (dk_at dksX2_takesFirst_0 22 rfl rfl)
theorem dX2_takesFirst_23 : decode cX2_takesFirst 23 = .ok (.iload_n 2, 1) := dk_28 (dk_at dksX2_takesFirst_0 23 rfl rfl)
theorem dX2_takesFirst_24 : decode cX2_takesFirst 24 = .ok (.bipush (-2), 2) := dk_16 254 (dk_at dksX2_takesFirst_1 0 rfl rfl)
theorem dX2_takesFirst_26 : decode cX2_takesFirst 26 = .ok (.invokevirtual 358, 3) := dk_182 1 102 (dk_at dksX2_takesFirst_1 2 rfl rfl)
theorem dX2_takesFirst_29 : decode cX2_takesFirst 29 = .ok (.goto 75, 3) := dk_167 0 75 (dk_at dksX2_takesFirst_1 5 rfl rfl)
theorem dX2_takesFirst_32 : decode cX2_takesFirst 32 = .ok (.iload_n 2, 1) := dk_28 (dk_at dksX2_takesFirst_1 8 rfl rfl)
theorem dX2_takesFirst_33 : decode cX2_takesFirst 33 = .ok (.iconst 1, 1) := dk_4 (dk_at dksX2_takesFirst_1 9 rfl rfl)
theorem dX2_takesFirst_34 : decode cX2_takesFirst 34 = .ok (.if_icmp .ne 58, 3) := dk_160 0 58 (dk_at dksX2_takesFirst_1 10 rfl rfl)
theorem dX2_takesFirst_37 : decode cX2_takesFirst 37 = .ok (.aload_n 0, 1) := dk_42 (dk_at dksX2_takesFirst_1 13 rfl rfl)
theorem dX2_takesFirst_38 : decode cX2_takesFirst 38 = .ok (.iload_n 1, 1) := dk_27 (dk_at dksX2_takesFirst_1 14 rfl rfl)
theorem dX2_takesFirst_39 : decode cX2_takesFirst 39 = .ok (.invokevirtual 381, 3) := dk_182 1 125 (dk_at dksX2_takesFirst_1 15 rfl rfl)
theorem dX2_takesFirst_42 : decode cX2_takesFirst 42 = .ok (.istore 4, 2) := dk_54 4 (dk_at dksX2_takesFirst_1 18 rfl rfl)
theorem dX2_takesFirst_44 : decode cX2_takesFirst 44 = .ok (.aload_n 0, 1) := dk_42 (dk_at dksX2_takesFirst_1 20 rfl rfl)
theorem dX2_takesFirst_45 : decode cX2_takesFirst 45 = .ok (.iconst (-1), 1) := dk_2 (dk_at dksX2_takesFirst_1 21 rfl rfl)
theorem dX2_takesFirst_46 : decode cX2_takesFirst 46 = .ok (.iload_n 3, 1) := dk_29 (dk_at dksX2_takesFirst_1 22 rfl rfl)
theorem dX2_takesFirst_47 : decode cX2_takesFirst 47 = .ok (.invokevirtual 384, 3) := dk_182 1 128 (dk_at dksX2_takesFirst_2 0 rfl rfl)
theorem dX2_takesFirst_50 : decode cX2_takesFirst 50 = .ok (.istore 5, 2) := dk_54 5 (dk_at dksX2_takesFirst_2 3 rfl rfl)
theorem dX2_takesFirst_52 : decode cX2_takesFirst 52 = .ok (.aload_n 0, 1) := dk_42 (dk_at dksX2_takesFirst_2 5 rfl rfl)
theorem dX2_takesFirst_53 : decode cX2_takesFirst 53 = .ok (.getfield 23, 3) := dk_180 0 23 (dk_at dksX2_takesFirst_2 6 rfl rfl)
theorem dX2_takesFirst_56 : decode cX2_takesFirst 56 = .ok (.bipush 9, 2) := dk_16 9 (dk_at dksX2_takesFirst_2 9 rfl rfl)
theorem dX2_takesFirst_58 : decode cX2_takesFirst 58 = .ok (.iload 5, 2) := dk_21 5 (dk_at dksX2_takesFirst_2 11 rfl rfl)
theorem dX2_takesFirst_60 : decode cX2_takesFirst 60 = .ok (.imul, 1) := dk_104 (dk_at dksX2_takesFirst_2 13 rfl rfl)
theorem dX2_takesFirst_61 : decode cX2_takesFirst 61 = .ok (.aload_n 0, 1) := dk_42 (dk_at dksX2_takesFirst_2 14 rfl rfl)
theorem dX2_takesFirst_62 : decode cX2_takesFirst 62 = .ok (.iload 4, 2) := dk_21 4 (dk_at dksX2_takesFirst_2 15 rfl rfl)
theorem dX2_takesFirst_64 : decode cX2_takesFirst 64 = .ok (.ineg, 1) := dk_116 (dk_at dksX2_takesFirst_2 17 rfl rfl)
theorem dX2_takesFirst_65 : decode cX2_takesFirst 65 = .ok (.i2l, 1) := dk_133 (dk_at dksX2_takesFirst_2 18 rfl rfl)
theorem dX2_takesFirst_66 : decode cX2_takesFirst 66 = .ok (.invokevirtual 257, 3) := dk_182 1 1 (dk_at dksX2_takesFirst_2 19 rfl rfl)
theorem dX2_takesFirst_69 : decode cX2_takesFirst 69 = .ok (.lastore, 1) := dk_80 (dk_at dksX2_takesFirst_2 22 rfl rfl)
theorem dX2_takesFirst_70 : decode cX2_takesFirst 70 = .ok (.aload_n 0, 1) := dk_42 (dk_at dksX2_takesFirst_2 23 rfl rfl)
theorem dX2_takesFirst_71 : decode cX2_takesFirst 71 = .ok (.getfield 23, 3) := dk_180 0 23 (dk_at dksX2_takesFirst_3 0 rfl rfl)
theorem dX2_takesFirst_74 : decode cX2_takesFirst 74 = .ok (.bipush 9, 2) := dk_16 9 (dk_at dksX2_takesFirst_3 3 rfl rfl)
theorem dX2_takesFirst_76 : decode cX2_takesFirst 76 = .ok (.iload 5, 2) := dk_21 5 (dk_at dksX2_takesFirst_3 5 rfl rfl)
theorem dX2_takesFirst_78 : decode cX2_takesFirst 78 = .ok (.imul, 1) := dk_104 (dk_at dksX2_takesFirst_3 7 rfl rfl)
theorem dX2_takesFirst_79 : decode cX2_takesFirst 79 = .ok (.iconst 1, 1) := dk_4 (dk_at dksX2_takesFirst_3 8 rfl rfl)
theorem dX2_takesFirst_80 : decode cX2_takesFirst 80 = .ok (.iadd, 1) := dk_96 (dk_at dksX2_takesFirst_3 9 rfl rfl)
theorem dX2_takesFirst_81 : decode cX2_takesFirst 81 = .ok (.lconst 1, 1) := dk_10 (dk_at dksX2_takesFirst_3 10 rfl rfl)
theorem dX2_takesFirst_82 : decode cX2_takesFirst 82 = .ok (.lastore, 1) := dk_80 (dk_at dksX2_takesFirst_3 11 rfl rfl)
theorem dX2_takesFirst_83 : decode cX2_takesFirst 83 = .ok (.aload_n 0, 1) := dk_42 (dk_at dksX2_takesFirst_3 12 rfl rfl)
theorem dX2_takesFirst_84 : decode cX2_takesFirst 84 = .ok (.iload 5, 2) := dk_21 5 (dk_at dksX2_takesFirst_3 13 rfl rfl)
theorem dX2_takesFirst_86 : decode cX2_takesFirst 86 = .ok (.invokevirtual 387, 3) := dk_182 1 131 (dk_at dksX2_takesFirst_3 15 rfl rfl)
theorem dX2_takesFirst_89 : decode cX2_takesFirst 89 = .ok (.goto 15, 3) := dk_167 0 15 (dk_at dksX2_takesFirst_3 18 rfl rfl)
theorem dX2_takesFirst_92 : decode cX2_takesFirst 92 = .ok (.aload_n 0, 1) := dk_42 (dk_at dksX2_takesFirst_3 21 rfl rfl)
theorem dX2_takesFirst_93 : decode cX2_takesFirst 93 = .ok (.iconst 2, 1) := dk_5 (dk_at dksX2_takesFirst_3 22 rfl rfl)
theorem dX2_takesFirst_94 : decode cX2_takesFirst 94 = .ok (.iconst 0, 1) := dk_3 (dk_at dksX2_takesFirst_3 23 rfl rfl)
theorem dX2_takesFirst_95 : decode cX2_takesFirst 95 = .ok (.iconst 0, 1) := dk_3 (dk_at dksX2_takesFirst_4 0 rfl rfl)
theorem dX2_takesFirst_96 : decode cX2_takesFirst 96 = .ok (.iload_n 2, 1) := dk_28 (dk_at dksX2_takesFirst_4 1 rfl rfl)
theorem dX2_takesFirst_97 : decode cX2_takesFirst 97 = .ok (.iload_n 3, 1) := dk_29 (dk_at dksX2_takesFirst_4 2 rfl rfl)
theorem dX2_takesFirst_98 : decode cX2_takesFirst 98 = .ok (.imul, 1) := dk_104 (dk_at dksX2_takesFirst_4 3 rfl rfl)
theorem dX2_takesFirst_99 : decode cX2_takesFirst 99 = .ok (.bipush (-2), 2) := dk_16 254 (dk_at dksX2_takesFirst_4 4 rfl rfl)
theorem dX2_takesFirst_101 : decode cX2_takesFirst 101 = .ok (.invokevirtual 358, 3) := dk_182 1 102 (dk_at dksX2_takesFirst_4 6 rfl rfl)
theorem dX2_takesFirst_104 : decode cX2_takesFirst 104 = .ok (.return_, 1) := dk_177 (dk_at dksX2_takesFirst_4 9 rfl rfl)
abbrev cX2_addsLeaf : ByteArray := prog_18_method_55_code
def yX2_addsLeaf : MethodName := ⟨RX2, "addsLeaf", "(IIIII)V"⟩
def dkwX2_addsLeaf_2 : List UInt8 := [180, 1, 93, 21, 5, 79, 42, 89, 180, 1, 93, 4, 96, 181, 1, 93, 177]
abbrev dktX2_addsLeaf_2 : List UInt8 := dkwX2_addsLeaf_2 ++ []
def dkwX2_addsLeaf_1 : List UInt8 := [42, 180, 1, 93, 29, 79, 42, 180, 0, 116, 42, 180, 1, 93, 21, 4, 79, 42, 180, 0, 119, 42]
abbrev dktX2_addsLeaf_1 : List UInt8 := dkwX2_addsLeaf_1 ++ dktX2_addsLeaf_2
def dkwX2_addsLeaf_0 : List UInt8 := [42, 180, 0, 107, 42, 180, 1, 93, 27, 79, 42, 180, 0, 110, 42, 180, 1, 93, 28, 79, 42, 180, 0, 113]
abbrev dktX2_addsLeaf_0 : List UInt8 := dkwX2_addsLeaf_0 ++ dktX2_addsLeaf_1
theorem dksX2_addsLeaf_0 : cX2_addsLeaf.data.toList.drop 0 = dktX2_addsLeaf_0 := by decide +kernel
theorem dksX2_addsLeaf_1 : cX2_addsLeaf.data.toList.drop 24 = dktX2_addsLeaf_1 := dk_seg dksX2_addsLeaf_0 24 rfl rfl
theorem dksX2_addsLeaf_2 : cX2_addsLeaf.data.toList.drop 46 = dktX2_addsLeaf_2 := dk_seg dksX2_addsLeaf_1 22 rfl rfl
theorem dX2_addsLeaf_0 : decode cX2_addsLeaf 0 = .ok (.aload_n 0, 1) := dk_42 (dk_at dksX2_addsLeaf_0 0 rfl rfl)
theorem dX2_addsLeaf_1 : decode cX2_addsLeaf 1 = .ok (.getfield 107, 3) := dk_180 0 107 (dk_at dksX2_addsLeaf_0 1 rfl rfl)
theorem dX2_addsLeaf_4 : decode cX2_addsLeaf 4 = .ok (.aload_n 0, 1) := dk_42 (dk_at dksX2_addsLeaf_0 4 rfl rfl)
theorem dX2_addsLeaf_5 : decode cX2_addsLeaf 5 = .ok (.getfield 349, 3) := dk_180 1 93 (dk_at dksX2_addsLeaf_0 5 rfl rfl)
theorem dX2_addsLeaf_8 : decode cX2_addsLeaf 8 = .ok (.iload_n 1, 1) := dk_27 (dk_at dksX2_addsLeaf_0 8 rfl rfl)
theorem dX2_addsLeaf_9 : decode cX2_addsLeaf 9 = .ok (.iastore, 1) := dk_79 (dk_at dksX2_addsLeaf_0 9 rfl rfl)
theorem dX2_addsLeaf_10 : decode cX2_addsLeaf 10 = .ok (.aload_n 0, 1) := dk_42 (dk_at dksX2_addsLeaf_0 10 rfl rfl)
theorem dX2_addsLeaf_11 : decode cX2_addsLeaf 11 = .ok (.getfield 110, 3) := dk_180 0 110 (dk_at dksX2_addsLeaf_0 11 rfl rfl)
theorem dX2_addsLeaf_14 : decode cX2_addsLeaf 14 = .ok (.aload_n 0, 1) := dk_42 (dk_at dksX2_addsLeaf_0 14 rfl rfl)
theorem dX2_addsLeaf_15 : decode cX2_addsLeaf 15 = .ok (.getfield 349, 3) := dk_180 1 93 (dk_at dksX2_addsLeaf_0 15 rfl rfl)
theorem dX2_addsLeaf_18 : decode cX2_addsLeaf 18 = .ok (.iload_n 2, 1) := dk_28 (dk_at dksX2_addsLeaf_0 18 rfl rfl)
theorem dX2_addsLeaf_19 : decode cX2_addsLeaf 19 = .ok (.iastore, 1) := dk_79 (dk_at dksX2_addsLeaf_0 19 rfl rfl)
theorem dX2_addsLeaf_20 : decode cX2_addsLeaf 20 = .ok (.aload_n 0, 1) := dk_42 (dk_at dksX2_addsLeaf_0 20 rfl rfl)
theorem dX2_addsLeaf_21 : decode cX2_addsLeaf 21 = .ok (.getfield 113, 3) := dk_180 0 113 (dk_at dksX2_addsLeaf_0 21 rfl rfl)
theorem dX2_addsLeaf_24 : decode cX2_addsLeaf 24 = .ok (.aload_n 0, 1) := dk_42 (dk_at dksX2_addsLeaf_1 0 rfl rfl)
theorem dX2_addsLeaf_25 : decode cX2_addsLeaf 25 = .ok (.getfield 349, 3) := dk_180 1 93 (dk_at dksX2_addsLeaf_1 1 rfl rfl)
theorem dX2_addsLeaf_28 : decode cX2_addsLeaf 28 = .ok (.iload_n 3, 1) := dk_29 (dk_at dksX2_addsLeaf_1 4 rfl rfl)
theorem dX2_addsLeaf_29 : decode cX2_addsLeaf 29 = .ok (.iastore, 1) := dk_79 (dk_at dksX2_addsLeaf_1 5 rfl rfl)
theorem dX2_addsLeaf_30 : decode cX2_addsLeaf 30 = .ok (.aload_n 0, 1) := dk_42 (dk_at dksX2_addsLeaf_1 6 rfl rfl)
theorem dX2_addsLeaf_31 : decode cX2_addsLeaf 31 = .ok (.getfield 116, 3) := dk_180 0 116 (dk_at dksX2_addsLeaf_1 7 rfl rfl)
theorem dX2_addsLeaf_34 : decode cX2_addsLeaf 34 = .ok (.aload_n 0, 1) := dk_42 (dk_at dksX2_addsLeaf_1 10 rfl rfl)
theorem dX2_addsLeaf_35 : decode cX2_addsLeaf 35 = .ok (.getfield 349, 3) := dk_180 1 93 (dk_at dksX2_addsLeaf_1 11 rfl rfl)
theorem dX2_addsLeaf_38 : decode cX2_addsLeaf 38 = .ok (.iload 4, 2) := dk_21 4 (dk_at dksX2_addsLeaf_1 14 rfl rfl)
theorem dX2_addsLeaf_40 : decode cX2_addsLeaf 40 = .ok (.iastore, 1) := dk_79 (dk_at dksX2_addsLeaf_1 16 rfl rfl)
theorem dX2_addsLeaf_41 : decode cX2_addsLeaf 41 = .ok (.aload_n 0, 1) := dk_42 (dk_at dksX2_addsLeaf_1 17 rfl rfl)
theorem dX2_addsLeaf_42 : decode cX2_addsLeaf 42 = .ok (.getfield 119, 3) := dk_180 0 119 (dk_at dksX2_addsLeaf_1 18 rfl rfl)
theorem dX2_addsLeaf_45 : decode cX2_addsLeaf 45 = .ok (.aload_n 0, 1) := dk_42 (dk_at dksX2_addsLeaf_1 21 rfl rfl)
theorem dX2_addsLeaf_46 : decode cX2_addsLeaf 46 = .ok (.getfield 349, 3) := dk_180 1 93 (dk_at dksX2_addsLeaf_2 0 rfl rfl)
theorem dX2_addsLeaf_49 : decode cX2_addsLeaf 49 = .ok (.iload 5, 2) := dk_21 5 (dk_at dksX2_addsLeaf_2 3 rfl rfl)
theorem dX2_addsLeaf_51 : decode cX2_addsLeaf 51 = .ok (.iastore, 1) := dk_79 (dk_at dksX2_addsLeaf_2 5 rfl rfl)
theorem dX2_addsLeaf_52 : decode cX2_addsLeaf 52 = .ok (.aload_n 0, 1) := dk_42 (dk_at dksX2_addsLeaf_2 6 rfl rfl)
theorem dX2_addsLeaf_53 : decode cX2_addsLeaf 53 = .ok (.dup, 1) := dk_89 (dk_at dksX2_addsLeaf_2 7 rfl rfl)
theorem dX2_addsLeaf_54 : decode cX2_addsLeaf 54 = .ok (.getfield 349, 3) := dk_180 1 93 (dk_at dksX2_addsLeaf_2 8 rfl rfl)
theorem dX2_addsLeaf_57 : decode cX2_addsLeaf 57 = .ok (.iconst 1, 1) := dk_4 (dk_at dksX2_addsLeaf_2 11 rfl rfl)
theorem dX2_addsLeaf_58 : decode cX2_addsLeaf 58 = .ok (.iadd, 1) := dk_96 (dk_at dksX2_addsLeaf_2 12 rfl rfl)
theorem dX2_addsLeaf_59 : decode cX2_addsLeaf 59 = .ok (.putfield 349, 3) := dk_181 1 93 (dk_at dksX2_addsLeaf_2 13 rfl rfl)
theorem dX2_addsLeaf_62 : decode cX2_addsLeaf 62 = .ok (.return_, 1) := dk_177 (dk_at dksX2_addsLeaf_2 16 rfl rfl)
abbrev cX2_rootOf : ByteArray := prog_18_method_62_code
def yX2_rootOf : MethodName := ⟨RX2, "rootOf", "(I)I"⟩
def dkwX2_rootOf_0 : List UInt8 := [42, 180, 0, 168, 42, 180, 0, 35, 16, 9, 27, 104, 46, 100, 42, 180, 0, 168, 112, 172]
abbrev dktX2_rootOf_0 : List UInt8 := dkwX2_rootOf_0 ++ []
theorem dksX2_rootOf_0 : cX2_rootOf.data.toList.drop 0 = dktX2_rootOf_0 := by decide +kernel
theorem dX2_rootOf_0 : decode cX2_rootOf 0 = .ok (.aload_n 0, 1) := dk_42 (dk_at dksX2_rootOf_0 0 rfl rfl)
theorem dX2_rootOf_1 : decode cX2_rootOf 1 = .ok (.getfield 168, 3) := dk_180 0 168 (dk_at dksX2_rootOf_0 1 rfl rfl)
theorem dX2_rootOf_4 : decode cX2_rootOf 4 = .ok (.aload_n 0, 1) := dk_42 (dk_at dksX2_rootOf_0 4 rfl rfl)
theorem dX2_rootOf_5 : decode cX2_rootOf 5 = .ok (.getfield 35, 3) := dk_180 0 35 (dk_at dksX2_rootOf_0 5 rfl rfl)
theorem dX2_rootOf_8 : decode cX2_rootOf 8 = .ok (.bipush 9, 2) := dk_16 9 (dk_at dksX2_rootOf_0 8 rfl rfl)
theorem dX2_rootOf_10 : decode cX2_rootOf 10 = .ok (.iload_n 1, 1) := dk_27 (dk_at dksX2_rootOf_0 10 rfl rfl)
theorem dX2_rootOf_11 : decode cX2_rootOf 11 = .ok (.imul, 1) := dk_104 (dk_at dksX2_rootOf_0 11 rfl rfl)
theorem dX2_rootOf_12 : decode cX2_rootOf 12 = .ok (.iaload, 1) := dk_46 (dk_at dksX2_rootOf_0 12 rfl rfl)
theorem dX2_rootOf_13 : decode cX2_rootOf 13 = .ok (.isub, 1) := dk_100 (dk_at dksX2_rootOf_0 13 rfl rfl)
theorem dX2_rootOf_14 : decode cX2_rootOf 14 = .ok (.aload_n 0, 1) := dk_42 (dk_at dksX2_rootOf_0 14 rfl rfl)
theorem dX2_rootOf_15 : decode cX2_rootOf 15 = .ok (.getfield 168, 3) := dk_180 0 168 (dk_at dksX2_rootOf_0 15 rfl rfl)
theorem dX2_rootOf_18 : decode cX2_rootOf 18 = .ok (.irem, 1) := dk_112 (dk_at dksX2_rootOf_0 18 rfl rfl)
theorem dX2_rootOf_19 : decode cX2_rootOf 19 = .ok (.ireturn, 1) := dk_172 (dk_at dksX2_rootOf_0 19 rfl rfl)
abbrev cX2_newKnot : ByteArray := prog_18_method_60_code
def yX2_newKnot : MethodName := ⟨RX2, "newKnot", "(II)I"⟩
def dkwX2_newKnot_3 : List UInt8 := [9, 80, 132, 4, 1, 167, 255, 233, 29, 172]
abbrev dktX2_newKnot_3 : List UInt8 := dkwX2_newKnot_3 ++ []
def dkwX2_newKnot_2 : List UInt8 := [29, 27, 79, 3, 54, 4, 21, 4, 16, 9, 162, 0, 22, 42, 180, 0, 23, 16, 9, 29, 104, 21, 4, 96]
abbrev dktX2_newKnot_2 : List UInt8 := dkwX2_newKnot_2 ++ dktX2_newKnot_3
def dkwX2_newKnot_1 : List UInt8 := [4, 167, 0, 11, 42, 180, 0, 47, 27, 46, 4, 96, 79, 42, 180, 0, 50, 29, 28, 79, 42, 180, 0, 53]
abbrev dktX2_newKnot_1 : List UInt8 := dkwX2_newKnot_1 ++ dktX2_newKnot_2
def dkwX2_newKnot_0 : List UInt8 := [42, 180, 1, 116, 62, 42, 89, 180, 1, 116, 4, 96, 181, 1, 116, 42, 180, 0, 47, 29, 27, 156, 0, 7]
abbrev dktX2_newKnot_0 : List UInt8 := dkwX2_newKnot_0 ++ dktX2_newKnot_1
theorem dksX2_newKnot_0 : cX2_newKnot.data.toList.drop 0 = dktX2_newKnot_0 := by decide +kernel
theorem dksX2_newKnot_1 : cX2_newKnot.data.toList.drop 24 = dktX2_newKnot_1 := dk_seg dksX2_newKnot_0 24 rfl rfl
theorem dksX2_newKnot_2 : cX2_newKnot.data.toList.drop 48 = dktX2_newKnot_2 := dk_seg dksX2_newKnot_1 24 rfl rfl
theorem dksX2_newKnot_3 : cX2_newKnot.data.toList.drop 72 = dktX2_newKnot_3 := dk_seg dksX2_newKnot_2 24 rfl rfl
theorem dX2_newKnot_0 : decode cX2_newKnot 0 = .ok (.aload_n 0, 1) := dk_42 (dk_at dksX2_newKnot_0 0 rfl rfl)
theorem dX2_newKnot_1 : decode cX2_newKnot 1 = .ok (.getfield 372, 3) := dk_180 1 116 (dk_at dksX2_newKnot_0 1 rfl rfl)
theorem dX2_newKnot_4 : decode cX2_newKnot 4 = .ok (.istore_n 3, 1) := dk_62 (dk_at dksX2_newKnot_0 4 rfl rfl)
theorem dX2_newKnot_5 : decode cX2_newKnot 5 = .ok (.aload_n 0, 1) := dk_42 (dk_at dksX2_newKnot_0 5 rfl rfl)
theorem dX2_newKnot_6 : decode cX2_newKnot 6 = .ok (.dup, 1) := dk_89 (dk_at dksX2_newKnot_0 6 rfl rfl)
theorem dX2_newKnot_7 : decode cX2_newKnot 7 = .ok (.getfield 372, 3) := dk_180 1 116 (dk_at dksX2_newKnot_0 7 rfl rfl)
theorem dX2_newKnot_10 : decode cX2_newKnot 10 = .ok (.iconst 1, 1) := dk_4 (dk_at dksX2_newKnot_0 10 rfl rfl)
theorem dX2_newKnot_11 : decode cX2_newKnot 11 = .ok (.iadd, 1) := dk_96 (dk_at dksX2_newKnot_0 11 rfl rfl)
theorem dX2_newKnot_12 : decode cX2_newKnot 12 = .ok (.putfield 372, 3) := dk_181 1 116 (dk_at dksX2_newKnot_0 12 rfl rfl)
theorem dX2_newKnot_15 : decode cX2_newKnot 15 = .ok (.aload_n 0, 1) := dk_42 (dk_at dksX2_newKnot_0 15 rfl rfl)
theorem dX2_newKnot_16 : decode cX2_newKnot 16 = .ok (.getfield 47, 3) := dk_180 0 47 (dk_at dksX2_newKnot_0 16 rfl rfl)
theorem dX2_newKnot_19 : decode cX2_newKnot 19 = .ok (.iload_n 3, 1) := dk_29 (dk_at dksX2_newKnot_0 19 rfl rfl)
theorem dX2_newKnot_20 : decode cX2_newKnot 20 = .ok (.iload_n 1, 1) := dk_27 (dk_at dksX2_newKnot_0 20 rfl rfl)
theorem dX2_newKnot_21 : decode cX2_newKnot 21 = .ok (.ifCond .ge 7, 3) := dk_156 0 7 (dk_at dksX2_newKnot_0 21 rfl rfl)
theorem dX2_newKnot_24 : decode cX2_newKnot 24 = .ok (.iconst 1, 1) := dk_4 (dk_at dksX2_newKnot_1 0 rfl rfl)
theorem dX2_newKnot_25 : decode cX2_newKnot 25 = .ok (.goto 11, 3) := dk_167 0 11 (dk_at dksX2_newKnot_1 1 rfl rfl)
theorem dX2_newKnot_28 : decode cX2_newKnot 28 = .ok (.aload_n 0, 1) := dk_42 (dk_at dksX2_newKnot_1 4 rfl rfl)
theorem dX2_newKnot_29 : decode cX2_newKnot 29 = .ok (.getfield 47, 3) := dk_180 0 47 (dk_at dksX2_newKnot_1 5 rfl rfl)
theorem dX2_newKnot_32 : decode cX2_newKnot 32 = .ok (.iload_n 1, 1) := dk_27 (dk_at dksX2_newKnot_1 8 rfl rfl)
theorem dX2_newKnot_33 : decode cX2_newKnot 33 = .ok (.iaload, 1) := dk_46 (dk_at dksX2_newKnot_1 9 rfl rfl)
theorem dX2_newKnot_34 : decode cX2_newKnot 34 = .ok (.iconst 1, 1) := dk_4 (dk_at dksX2_newKnot_1 10 rfl rfl)
theorem dX2_newKnot_35 : decode cX2_newKnot 35 = .ok (.iadd, 1) := dk_96 (dk_at dksX2_newKnot_1 11 rfl rfl)
theorem dX2_newKnot_36 : decode cX2_newKnot 36 = .ok (.iastore, 1) := dk_79 (dk_at dksX2_newKnot_1 12 rfl rfl)
theorem dX2_newKnot_37 : decode cX2_newKnot 37 = .ok (.aload_n 0, 1) := dk_42 (dk_at dksX2_newKnot_1 13 rfl rfl)
theorem dX2_newKnot_38 : decode cX2_newKnot 38 = .ok (.getfield 50, 3) := dk_180 0 50 (dk_at dksX2_newKnot_1 14 rfl rfl)
theorem dX2_newKnot_41 : decode cX2_newKnot 41 = .ok (.iload_n 3, 1) := dk_29 (dk_at dksX2_newKnot_1 17 rfl rfl)
theorem dX2_newKnot_42 : decode cX2_newKnot 42 = .ok (.iload_n 2, 1) := dk_28 (dk_at dksX2_newKnot_1 18 rfl rfl)
theorem dX2_newKnot_43 : decode cX2_newKnot 43 = .ok (.iastore, 1) := dk_79 (dk_at dksX2_newKnot_1 19 rfl rfl)
theorem dX2_newKnot_44 : decode cX2_newKnot 44 = .ok (.aload_n 0, 1) := dk_42 (dk_at dksX2_newKnot_1 20 rfl rfl)
theorem dX2_newKnot_45 : decode cX2_newKnot 45 = .ok (.getfield 53, 3) := dk_180 0 53 (dk_at dksX2_newKnot_1 21 rfl rfl)
theorem dX2_newKnot_48 : decode cX2_newKnot 48 = .ok (.iload_n 3, 1) := dk_29 (dk_at dksX2_newKnot_2 0 rfl rfl)
theorem dX2_newKnot_49 : decode cX2_newKnot 49 = .ok (.iload_n 1, 1) := dk_27 (dk_at dksX2_newKnot_2 1 rfl rfl)
theorem dX2_newKnot_50 : decode cX2_newKnot 50 = .ok (.iastore, 1) := dk_79 (dk_at dksX2_newKnot_2 2 rfl rfl)
theorem dX2_newKnot_51 : decode cX2_newKnot 51 = .ok (.iconst 0, 1) := dk_3 (dk_at dksX2_newKnot_2 3 rfl rfl)
theorem dX2_newKnot_52 : decode cX2_newKnot 52 = .ok (.istore 4, 2) := dk_54 4 (dk_at dksX2_newKnot_2 4 rfl rfl)
theorem dX2_newKnot_54 : decode cX2_newKnot 54 = .ok (.iload 4, 2) := dk_21 4 (dk_at dksX2_newKnot_2 6 rfl rfl)
theorem dX2_newKnot_56 : decode cX2_newKnot 56 = .ok (.bipush 9, 2) := dk_16 9 (dk_at dksX2_newKnot_2 8 rfl rfl)
theorem dX2_newKnot_58 : decode cX2_newKnot 58 = .ok (.if_icmp .ge 22, 3) := dk_162 0 22 (dk_at dksX2_newKnot_2 10 rfl rfl)
theorem dX2_newKnot_61 : decode cX2_newKnot 61 = .ok (.aload_n 0, 1) := dk_42 (dk_at dksX2_newKnot_2 13 rfl rfl)
theorem dX2_newKnot_62 : decode cX2_newKnot 62 = .ok (.getfield 23, 3) := dk_180 0 23 (dk_at dksX2_newKnot_2 14 rfl rfl)
theorem dX2_newKnot_65 : decode cX2_newKnot 65 = .ok (.bipush 9, 2) := dk_16 9 (dk_at dksX2_newKnot_2 17 rfl rfl)
theorem dX2_newKnot_67 : decode cX2_newKnot 67 = .ok (.iload_n 3, 1) := dk_29 (dk_at dksX2_newKnot_2 19 rfl rfl)
theorem dX2_newKnot_68 : decode cX2_newKnot 68 = .ok (.imul, 1) := dk_104 (dk_at dksX2_newKnot_2 20 rfl rfl)
theorem dX2_newKnot_69 : decode cX2_newKnot 69 = .ok (.iload 4, 2) := dk_21 4 (dk_at dksX2_newKnot_2 21 rfl rfl)
theorem dX2_newKnot_71 : decode cX2_newKnot 71 = .ok (.iadd, 1) := dk_96 (dk_at dksX2_newKnot_2 23 rfl rfl)
theorem dX2_newKnot_72 : decode cX2_newKnot 72 = .ok (.lconst 0, 1) := dk_9 (dk_at dksX2_newKnot_3 0 rfl rfl)
theorem dX2_newKnot_73 : decode cX2_newKnot 73 = .ok (.lastore, 1) := dk_80 (dk_at dksX2_newKnot_3 1 rfl rfl)
theorem dX2_newKnot_74 : decode cX2_newKnot 74 = .ok (.iinc 4 1, 3) := dk_132 4 1 (dk_at dksX2_newKnot_3 2 rfl rfl)
theorem dX2_newKnot_77 : decode cX2_newKnot 77 = .ok (.goto (-23), 3) := dk_167 255 233 (dk_at dksX2_newKnot_3 5 rfl rfl)
theorem dX2_newKnot_80 : decode cX2_newKnot 80 = .ok (.iload_n 3, 1) := dk_29 (dk_at dksX2_newKnot_3 8 rfl rfl)
theorem dX2_newKnot_81 : decode cX2_newKnot 81 = .ok (.ireturn, 1) := dk_172 (dk_at dksX2_newKnot_3 9 rfl rfl)
abbrev cX2_goesInto : ByteArray := prog_18_method_61_code
def yX2_goesInto : MethodName := ⟨RX2, "goesInto", "(I)V"⟩
def dkwX2_goesInto_1 : List UInt8 := [79, 42, 180, 0, 146, 42, 180, 1, 122, 3, 79, 42, 180, 0, 149, 42, 180, 1, 122, 3, 79, 177]
abbrev dktX2_goesInto_1 : List UInt8 := dkwX2_goesInto_1 ++ []
def dkwX2_goesInto_0 : List UInt8 := [42, 27, 182, 1, 119, 42, 89, 180, 1, 122, 4, 96, 181, 1, 122, 42, 180, 0, 143, 42, 180, 1, 122, 27]
abbrev dktX2_goesInto_0 : List UInt8 := dkwX2_goesInto_0 ++ dktX2_goesInto_1
theorem dksX2_goesInto_0 : cX2_goesInto.data.toList.drop 0 = dktX2_goesInto_0 := by decide +kernel
theorem dksX2_goesInto_1 : cX2_goesInto.data.toList.drop 24 = dktX2_goesInto_1 := dk_seg dksX2_goesInto_0 24 rfl rfl
theorem dX2_goesInto_0 : decode cX2_goesInto 0 = .ok (.aload_n 0, 1) := dk_42 (dk_at dksX2_goesInto_0 0 rfl rfl)
theorem dX2_goesInto_1 : decode cX2_goesInto 1 = .ok (.iload_n 1, 1) := dk_27 (dk_at dksX2_goesInto_0 1 rfl rfl)
theorem dX2_goesInto_2 : decode cX2_goesInto 2 = .ok (.invokevirtual 375, 3) := dk_182 1 119 (dk_at dksX2_goesInto_0 2 rfl rfl)
theorem dX2_goesInto_5 : decode cX2_goesInto 5 = .ok (.aload_n 0, 1) := dk_42 (dk_at dksX2_goesInto_0 5 rfl rfl)
theorem dX2_goesInto_6 : decode cX2_goesInto 6 = .ok (.dup, 1) := dk_89 (dk_at dksX2_goesInto_0 6 rfl rfl)
theorem dX2_goesInto_7 : decode cX2_goesInto 7 = .ok (.getfield 378, 3) := dk_180 1 122 (dk_at dksX2_goesInto_0 7 rfl rfl)
theorem dX2_goesInto_10 : decode cX2_goesInto 10 = .ok (.iconst 1, 1) := dk_4 (dk_at dksX2_goesInto_0 10 rfl rfl)
theorem dX2_goesInto_11 : decode cX2_goesInto 11 = .ok (.iadd, 1) := dk_96 (dk_at dksX2_goesInto_0 11 rfl rfl)
theorem dX2_goesInto_12 : decode cX2_goesInto 12 = .ok (.putfield 378, 3) := dk_181 1 122 (dk_at dksX2_goesInto_0 12 rfl rfl)
theorem dX2_goesInto_15 : decode cX2_goesInto 15 = .ok (.aload_n 0, 1) := dk_42 (dk_at dksX2_goesInto_0 15 rfl rfl)
theorem dX2_goesInto_16 : decode cX2_goesInto 16 = .ok (.getfield 143, 3) := dk_180 0 143 (dk_at dksX2_goesInto_0 16 rfl rfl)
theorem dX2_goesInto_19 : decode cX2_goesInto 19 = .ok (.aload_n 0, 1) := dk_42 (dk_at dksX2_goesInto_0 19 rfl rfl)
theorem dX2_goesInto_20 : decode cX2_goesInto 20 = .ok (.getfield 378, 3) := dk_180 1 122 (dk_at dksX2_goesInto_0 20 rfl rfl)
theorem dX2_goesInto_23 : decode cX2_goesInto 23 = .ok (.iload_n 1, 1) := dk_27 (dk_at dksX2_goesInto_0 23 rfl rfl)
theorem dX2_goesInto_24 : decode cX2_goesInto 24 = .ok (.iastore, 1) := dk_79 (dk_at dksX2_goesInto_1 0 rfl rfl)
theorem dX2_goesInto_25 : decode cX2_goesInto 25 = .ok (.aload_n 0, 1) := dk_42 (dk_at dksX2_goesInto_1 1 rfl rfl)
theorem dX2_goesInto_26 : decode cX2_goesInto 26 = .ok (.getfield 146, 3) := dk_180 0 146 (dk_at dksX2_goesInto_1 2 rfl rfl)
theorem dX2_goesInto_29 : decode cX2_goesInto 29 = .ok (.aload_n 0, 1) := dk_42 (dk_at dksX2_goesInto_1 5 rfl rfl)
theorem dX2_goesInto_30 : decode cX2_goesInto 30 = .ok (.getfield 378, 3) := dk_180 1 122 (dk_at dksX2_goesInto_1 6 rfl rfl)
theorem dX2_goesInto_33 : decode cX2_goesInto 33 = .ok (.iconst 0, 1) := dk_3 (dk_at dksX2_goesInto_1 9 rfl rfl)
theorem dX2_goesInto_34 : decode cX2_goesInto 34 = .ok (.iastore, 1) := dk_79 (dk_at dksX2_goesInto_1 10 rfl rfl)
theorem dX2_goesInto_35 : decode cX2_goesInto 35 = .ok (.aload_n 0, 1) := dk_42 (dk_at dksX2_goesInto_1 11 rfl rfl)
theorem dX2_goesInto_36 : decode cX2_goesInto 36 = .ok (.getfield 149, 3) := dk_180 0 149 (dk_at dksX2_goesInto_1 12 rfl rfl)
theorem dX2_goesInto_39 : decode cX2_goesInto 39 = .ok (.aload_n 0, 1) := dk_42 (dk_at dksX2_goesInto_1 15 rfl rfl)
theorem dX2_goesInto_40 : decode cX2_goesInto 40 = .ok (.getfield 378, 3) := dk_180 1 122 (dk_at dksX2_goesInto_1 16 rfl rfl)
theorem dX2_goesInto_43 : decode cX2_goesInto 43 = .ok (.iconst 0, 1) := dk_3 (dk_at dksX2_goesInto_1 19 rfl rfl)
theorem dX2_goesInto_44 : decode cX2_goesInto 44 = .ok (.iastore, 1) := dk_79 (dk_at dksX2_goesInto_1 20 rfl rfl)
theorem dX2_goesInto_45 : decode cX2_goesInto 45 = .ok (.return_, 1) := dk_177 (dk_at dksX2_goesInto_1 21 rfl rfl)
abbrev cX2_laysKnot : ByteArray := prog_18_method_56_code
def yX2_laysKnot : MethodName := ⟨RX2, "laysKnot", "(I)V"⟩
def dkwX2_laysKnot_2 : List UInt8 := [160, 0, 12, 42, 4, 28, 4, 28, 27, 182, 1, 102, 42, 27, 182, 1, 106, 177]
abbrev dktX2_laysKnot_2 : List UInt8 := dkwX2_laysKnot_2 ++ []
def dkwX2_laysKnot_1 : List UInt8 := [27, 46, 62, 29, 4, 164, 0, 17, 42, 7, 3, 3, 29, 28, 104, 27, 182, 1, 102, 167, 0, 17, 29, 4]
abbrev dktX2_laysKnot_1 : List UInt8 := dkwX2_laysKnot_1 ++ dktX2_laysKnot_2
def dkwX2_laysKnot_0 : List UInt8 := [42, 27, 182, 1, 96, 42, 27, 182, 1, 99, 42, 180, 0, 125, 42, 180, 1, 44, 46, 61, 42, 180, 0, 62]
abbrev dktX2_laysKnot_0 : List UInt8 := dkwX2_laysKnot_0 ++ dktX2_laysKnot_1
theorem dksX2_laysKnot_0 : cX2_laysKnot.data.toList.drop 0 = dktX2_laysKnot_0 := by decide +kernel
theorem dksX2_laysKnot_1 : cX2_laysKnot.data.toList.drop 24 = dktX2_laysKnot_1 := dk_seg dksX2_laysKnot_0 24 rfl rfl
theorem dksX2_laysKnot_2 : cX2_laysKnot.data.toList.drop 48 = dktX2_laysKnot_2 := dk_seg dksX2_laysKnot_1 24 rfl rfl
theorem dX2_laysKnot_0 : decode cX2_laysKnot 0 = .ok (.aload_n 0, 1) := dk_42 (dk_at dksX2_laysKnot_0 0 rfl rfl)
theorem dX2_laysKnot_1 : decode cX2_laysKnot 1 = .ok (.iload_n 1, 1) := dk_27 (dk_at dksX2_laysKnot_0 1 rfl rfl)
theorem dX2_laysKnot_2 : decode cX2_laysKnot 2 = .ok (.invokevirtual 352, 3) := dk_182 1 96 (dk_at dksX2_laysKnot_0 2 rfl rfl)
theorem dX2_laysKnot_5 : decode cX2_laysKnot 5 = .ok (.aload_n 0, 1) := dk_42 (dk_at dksX2_laysKnot_0 5 rfl rfl)
theorem dX2_laysKnot_6 : decode cX2_laysKnot 6 = .ok (.iload_n 1, 1) := dk_27 (dk_at dksX2_laysKnot_0 6 rfl rfl)
theorem dX2_laysKnot_7 : decode cX2_laysKnot 7 = .ok (.invokevirtual 355, 3) := dk_182 1 99 (dk_at dksX2_laysKnot_0 7 rfl rfl)
theorem dX2_laysKnot_10 : decode cX2_laysKnot 10 = .ok (.aload_n 0, 1) := dk_42 (dk_at dksX2_laysKnot_0 10 rfl rfl)
theorem dX2_laysKnot_11 : decode cX2_laysKnot 11 = .ok (.getfield 125, 3) := dk_180 0 125 (dk_at dksX2_laysKnot_0 11 rfl rfl)
theorem dX2_laysKnot_14 : decode cX2_laysKnot 14 = .ok (.aload_n 0, 1) := dk_42 (dk_at dksX2_laysKnot_0 14 rfl rfl)
theorem dX2_laysKnot_15 : decode cX2_laysKnot 15 = .ok (.getfield 300, 3) := dk_180 1 44 (dk_at dksX2_laysKnot_0 15 rfl rfl)
theorem dX2_laysKnot_18 : decode cX2_laysKnot 18 = .ok (.iaload, 1) := dk_46 (dk_at dksX2_laysKnot_0 18 rfl rfl)
theorem dX2_laysKnot_19 : decode cX2_laysKnot 19 = .ok (.istore_n 2, 1) := dk_61 (dk_at dksX2_laysKnot_0 19 rfl rfl)
theorem dX2_laysKnot_20 : decode cX2_laysKnot 20 = .ok (.aload_n 0, 1) := dk_42 (dk_at dksX2_laysKnot_0 20 rfl rfl)
theorem dX2_laysKnot_21 : decode cX2_laysKnot 21 = .ok (.getfield 62, 3) := dk_180 0 62 (dk_at dksX2_laysKnot_0 21 rfl rfl)
theorem dX2_laysKnot_24 : decode cX2_laysKnot 24 = .ok (.iload_n 1, 1) := dk_27 (dk_at dksX2_laysKnot_1 0 rfl rfl)
theorem dX2_laysKnot_25 : decode cX2_laysKnot 25 = .ok (.iaload, 1) := dk_46 (dk_at dksX2_laysKnot_1 1 rfl rfl)
theorem dX2_laysKnot_26 : decode cX2_laysKnot 26 = .ok (.istore_n 3, 1) := dk_62 (dk_at dksX2_laysKnot_1 2 rfl rfl)
theorem dX2_laysKnot_27 : decode cX2_laysKnot 27 = .ok (.iload_n 3, 1) := dk_29 (dk_at dksX2_laysKnot_1 3 rfl rfl)
theorem dX2_laysKnot_28 : decode cX2_laysKnot 28 = .ok (.iconst 1, 1) := dk_4 (dk_at dksX2_laysKnot_1 4 rfl rfl)
theorem dX2_laysKnot_29 : decode cX2_laysKnot 29 = .ok (.if_icmp .le 17, 3) := dk_164 0 17 (dk_at dksX2_laysKnot_1 5 rfl rfl)
theorem dX2_laysKnot_32 : decode cX2_laysKnot 32 = .ok (.aload_n 0, 1) := dk_42 (dk_at dksX2_laysKnot_1 8 rfl rfl)
theorem dX2_laysKnot_33 : decode cX2_laysKnot 33 = .ok (.iconst 4, 1) := dk_7 (dk_at dksX2_laysKnot_1 9 rfl rfl)
theorem dX2_laysKnot_34 : decode cX2_laysKnot 34 = .ok (.iconst 0, 1) := dk_3 (dk_at dksX2_laysKnot_1 10 rfl rfl)
theorem dX2_laysKnot_35 : decode cX2_laysKnot 35 = .ok (.iconst 0, 1) := dk_3 (dk_at dksX2_laysKnot_1 11 rfl rfl)
theorem dX2_laysKnot_36 : decode cX2_laysKnot 36 = .ok (.iload_n 3, 1) := dk_29 (dk_at dksX2_laysKnot_1 12 rfl rfl)
theorem dX2_laysKnot_37 : decode cX2_laysKnot 37 = .ok (.iload_n 2, 1) := dk_28 (dk_at dksX2_laysKnot_1 13 rfl rfl)
theorem dX2_laysKnot_38 : decode cX2_laysKnot 38 = .ok (.imul, 1) := dk_104 (dk_at dksX2_laysKnot_1 14 rfl rfl)
theorem dX2_laysKnot_39 : decode cX2_laysKnot 39 = .ok (.iload_n 1, 1) := dk_27 (dk_at dksX2_laysKnot_1 15 rfl rfl)
theorem dX2_laysKnot_40 : decode cX2_laysKnot 40 = .ok (.invokevirtual 358, 3) := dk_182 1 102 (dk_at dksX2_laysKnot_1 16 rfl rfl)
theorem dX2_laysKnot_43 : decode cX2_laysKnot 43 = .ok (.goto 17, 3) := dk_167 0 17 (dk_at dksX2_laysKnot_1 19 rfl rfl)
theorem dX2_laysKnot_46 : decode cX2_laysKnot 46 = .ok (.iload_n 3, 1) := dk_29 (dk_at dksX2_laysKnot_1 22 rfl rfl)
theorem dX2_laysKnot_47 : decode cX2_laysKnot 47 = .ok (.iconst 1, 1) := dk_4 (dk_at dksX2_laysKnot_1 23 rfl rfl)
theorem dX2_laysKnot_48 : decode cX2_laysKnot 48 = .ok (.if_icmp .ne 12, 3) := dk_160 0 12 (dk_at dksX2_laysKnot_2 0 rfl rfl)
theorem dX2_laysKnot_51 : decode cX2_laysKnot 51 = .ok (.aload_n 0, 1) := dk_42 (dk_at dksX2_laysKnot_2 3 rfl rfl)
theorem dX2_laysKnot_52 : decode cX2_laysKnot 52 = .ok (.iconst 1, 1) := dk_4 (dk_at dksX2_laysKnot_2 4 rfl rfl)
theorem dX2_laysKnot_53 : decode cX2_laysKnot 53 = .ok (.iload_n 2, 1) := dk_28 (dk_at dksX2_laysKnot_2 5 rfl rfl)
theorem dX2_laysKnot_54 : decode cX2_laysKnot 54 = .ok (.iconst 1, 1) := dk_4 (dk_at dksX2_laysKnot_2 6 rfl rfl)
theorem dX2_laysKnot_55 : decode cX2_laysKnot 55 = .ok (.iload_n 2, 1) := dk_28 (dk_at dksX2_laysKnot_2 7 rfl rfl)
theorem dX2_laysKnot_56 : decode cX2_laysKnot 56 = .ok (.iload_n 1, 1) := dk_27 (dk_at dksX2_laysKnot_2 8 rfl rfl)
theorem dX2_laysKnot_57 : decode cX2_laysKnot 57 = .ok (.invokevirtual 358, 3) := dk_182 1 102 (dk_at dksX2_laysKnot_2 9 rfl rfl)
theorem dX2_laysKnot_60 : decode cX2_laysKnot 60 = .ok (.aload_n 0, 1) := dk_42 (dk_at dksX2_laysKnot_2 12 rfl rfl)
theorem dX2_laysKnot_61 : decode cX2_laysKnot 61 = .ok (.iload_n 1, 1) := dk_27 (dk_at dksX2_laysKnot_2 13 rfl rfl)
theorem dX2_laysKnot_62 : decode cX2_laysKnot 62 = .ok (.invokevirtual 362, 3) := dk_182 1 106 (dk_at dksX2_laysKnot_2 14 rfl rfl)
theorem dX2_laysKnot_65 : decode cX2_laysKnot 65 = .ok (.return_, 1) := dk_177 (dk_at dksX2_laysKnot_2 17 rfl rfl)
abbrev cX2_takesKnot : ByteArray := prog_18_method_40_code
def yX2_takesKnot : MethodName := ⟨RX2, "takesKnot", "(I)V"⟩
def dkwX2_takesKnot_5 : List UInt8 := [42, 180, 0, 122, 29, 46, 104, 79, 132, 3, 1, 167, 255, 190, 177]
abbrev dktX2_takesKnot_5 : List UInt8 := dkwX2_takesKnot_5 ++ []
def dkwX2_takesKnot_4 : List UInt8 := [180, 0, 74, 42, 180, 0, 134, 29, 46, 46, 79, 42, 180, 0, 125, 29, 4, 96, 42, 180, 0, 125, 29, 46]
abbrev dktX2_takesKnot_4 : List UInt8 := dkwX2_takesKnot_4 ++ dktX2_takesKnot_5
def dkwX2_takesKnot_3 : List UInt8 := [180, 0, 122, 29, 42, 180, 0, 71, 42, 180, 0, 134, 29, 46, 46, 79, 42, 180, 0, 128, 29, 42]
abbrev dktX2_takesKnot_3 : List UInt8 := dkwX2_takesKnot_3 ++ dktX2_takesKnot_4
def dkwX2_takesKnot_2 : List UInt8 := [132, 3, 255, 167, 255, 225, 42, 180, 0, 125, 4, 4, 79, 4, 62, 29, 42, 180, 1, 44, 162, 0, 64, 42]
abbrev dktX2_takesKnot_2 : List UInt8 := dkwX2_takesKnot_2 ++ dktX2_takesKnot_3
def dkwX2_takesKnot_1 : List UInt8 := [180, 0, 131, 29, 28, 79, 42, 180, 0, 134, 29, 4, 100, 28, 79, 42, 180, 0, 53, 28, 46, 61]
abbrev dktX2_takesKnot_1 : List UInt8 := dkwX2_takesKnot_1 ++ dktX2_takesKnot_2
def dkwX2_takesKnot_0 : List UInt8 := [42, 42, 180, 0, 47, 27, 46, 181, 1, 44, 27, 61, 42, 180, 1, 44, 62, 29, 4, 161, 0, 32, 42]
abbrev dktX2_takesKnot_0 : List UInt8 := dkwX2_takesKnot_0 ++ dktX2_takesKnot_1
theorem dksX2_takesKnot_0 : cX2_takesKnot.data.toList.drop 0 = dktX2_takesKnot_0 := by decide +kernel
theorem dksX2_takesKnot_1 : cX2_takesKnot.data.toList.drop 23 = dktX2_takesKnot_1 := dk_seg dksX2_takesKnot_0 23 rfl rfl
theorem dksX2_takesKnot_2 : cX2_takesKnot.data.toList.drop 45 = dktX2_takesKnot_2 := dk_seg dksX2_takesKnot_1 22 rfl rfl
theorem dksX2_takesKnot_3 : cX2_takesKnot.data.toList.drop 69 = dktX2_takesKnot_3 := dk_seg dksX2_takesKnot_2 24 rfl rfl
theorem dksX2_takesKnot_4 : cX2_takesKnot.data.toList.drop 91 = dktX2_takesKnot_4 := dk_seg dksX2_takesKnot_3 22 rfl rfl
theorem dksX2_takesKnot_5 : cX2_takesKnot.data.toList.drop 115 = dktX2_takesKnot_5 := dk_seg dksX2_takesKnot_4 24 rfl rfl
theorem dX2_takesKnot_0 : decode cX2_takesKnot 0 = .ok (.aload_n 0, 1) := dk_42 (dk_at dksX2_takesKnot_0 0 rfl rfl)
theorem dX2_takesKnot_1 : decode cX2_takesKnot 1 = .ok (.aload_n 0, 1) := dk_42 (dk_at dksX2_takesKnot_0 1 rfl rfl)
theorem dX2_takesKnot_2 : decode cX2_takesKnot 2 = .ok (.getfield 47, 3) := dk_180 0 47 (dk_at dksX2_takesKnot_0 2 rfl rfl)
theorem dX2_takesKnot_5 : decode cX2_takesKnot 5 = .ok (.iload_n 1, 1) := dk_27 (dk_at dksX2_takesKnot_0 5 rfl rfl)
theorem dX2_takesKnot_6 : decode cX2_takesKnot 6 = .ok (.iaload, 1) := dk_46 (dk_at dksX2_takesKnot_0 6 rfl rfl)
theorem dX2_takesKnot_7 : decode cX2_takesKnot 7 = .ok (.putfield 300, 3) := dk_181 1 44 (dk_at dksX2_takesKnot_0 7 rfl rfl)
theorem dX2_takesKnot_10 : decode cX2_takesKnot 10 = .ok (.iload_n 1, 1) := dk_27 (dk_at dksX2_takesKnot_0 10 rfl rfl)
theorem dX2_takesKnot_11 : decode cX2_takesKnot 11 = .ok (.istore_n 2, 1) := dk_61 (dk_at dksX2_takesKnot_0 11 rfl rfl)
theorem dX2_takesKnot_12 : decode cX2_takesKnot 12 = .ok (.aload_n 0, 1) := dk_42 (dk_at dksX2_takesKnot_0 12 rfl rfl)
theorem dX2_takesKnot_13 : decode cX2_takesKnot 13 = .ok (.getfield 300, 3) := dk_180 1 44 (dk_at dksX2_takesKnot_0 13 rfl rfl)
theorem dX2_takesKnot_16 : decode cX2_takesKnot 16 = .ok (.istore_n 3, 1) := dk_62 (dk_at dksX2_takesKnot_0 16 rfl rfl)
theorem dX2_takesKnot_17 : decode cX2_takesKnot 17 = .ok (.iload_n 3, 1) := dk_29 (dk_at dksX2_takesKnot_0 17 rfl rfl)
theorem dX2_takesKnot_18 : decode cX2_takesKnot 18 = .ok (.iconst 1, 1) := dk_4 (dk_at dksX2_takesKnot_0 18 rfl rfl)
theorem dX2_takesKnot_19 : decode cX2_takesKnot 19 = .ok (.if_icmp .lt 32, 3) := dk_161 0 32 (dk_at dksX2_takesKnot_0 19 rfl rfl)
theorem dX2_takesKnot_22 : decode cX2_takesKnot 22 = .ok (.aload_n 0, 1) := dk_42 (dk_at dksX2_takesKnot_0 22 rfl rfl)
theorem dX2_takesKnot_23 : decode cX2_takesKnot 23 = .ok (.getfield 131, 3) := dk_180 0 131 (dk_at dksX2_takesKnot_1 0 rfl rfl)
theorem dX2_takesKnot_26 : decode cX2_takesKnot 26 = .ok (.iload_n 3, 1) := dk_29 (dk_at dksX2_takesKnot_1 3 rfl rfl)
theorem dX2_takesKnot_27 : decode cX2_takesKnot 27 = .ok (.iload_n 2, 1) := dk_28 (dk_at dksX2_takesKnot_1 4 rfl rfl)
theorem dX2_takesKnot_28 : decode cX2_takesKnot 28 = .ok (.iastore, 1) := dk_79 (dk_at dksX2_takesKnot_1 5 rfl rfl)
theorem dX2_takesKnot_29 : decode cX2_takesKnot 29 = .ok (.aload_n 0, 1) := dk_42 (dk_at dksX2_takesKnot_1 6 rfl rfl)
theorem dX2_takesKnot_30 : decode cX2_takesKnot 30 = .ok (.getfield 134, 3) := dk_180 0 134 (dk_at dksX2_takesKnot_1 7 rfl rfl)
theorem dX2_takesKnot_33 : decode cX2_takesKnot 33 = .ok (.iload_n 3, 1) := dk_29 (dk_at dksX2_takesKnot_1 10 rfl rfl)
theorem dX2_takesKnot_34 : decode cX2_takesKnot 34 = .ok (.iconst 1, 1) := dk_4 (dk_at dksX2_takesKnot_1 11 rfl rfl)
theorem dX2_takesKnot_35 : decode cX2_takesKnot 35 = .ok (.isub, 1) := dk_100 (dk_at dksX2_takesKnot_1 12 rfl rfl)
theorem dX2_takesKnot_36 : decode cX2_takesKnot 36 = .ok (.iload_n 2, 1) := dk_28 (dk_at dksX2_takesKnot_1 13 rfl rfl)
theorem dX2_takesKnot_37 : decode cX2_takesKnot 37 = .ok (.iastore, 1) := dk_79 (dk_at dksX2_takesKnot_1 14 rfl rfl)
theorem dX2_takesKnot_38 : decode cX2_takesKnot 38 = .ok (.aload_n 0, 1) := dk_42 (dk_at dksX2_takesKnot_1 15 rfl rfl)
theorem dX2_takesKnot_39 : decode cX2_takesKnot 39 = .ok (.getfield 53, 3) := dk_180 0 53 (dk_at dksX2_takesKnot_1 16 rfl rfl)
theorem dX2_takesKnot_42 : decode cX2_takesKnot 42 = .ok (.iload_n 2, 1) := dk_28 (dk_at dksX2_takesKnot_1 19 rfl rfl)
theorem dX2_takesKnot_43 : decode cX2_takesKnot 43 = .ok (.iaload, 1) := dk_46 (dk_at dksX2_takesKnot_1 20 rfl rfl)
theorem dX2_takesKnot_44 : decode cX2_takesKnot 44 = .ok (.istore_n 2, 1) := dk_61 (dk_at dksX2_takesKnot_1 21 rfl rfl)
theorem dX2_takesKnot_45 : decode cX2_takesKnot 45 = .ok (.iinc 3 (-1), 3) := dk_132 3 255 (dk_at dksX2_takesKnot_2 0 rfl rfl)
theorem dX2_takesKnot_48 : decode cX2_takesKnot 48 = .ok (.goto (-31), 3) := dk_167 255 225 (dk_at dksX2_takesKnot_2 3 rfl rfl)
theorem dX2_takesKnot_51 : decode cX2_takesKnot 51 = .ok (.aload_n 0, 1) := dk_42 (dk_at dksX2_takesKnot_2 6 rfl rfl)
theorem dX2_takesKnot_52 : decode cX2_takesKnot 52 = .ok (.getfield 125, 3) := dk_180 0 125 (dk_at dksX2_takesKnot_2 7 rfl rfl)
theorem dX2_takesKnot_55 : decode cX2_takesKnot 55 = .ok (.iconst 1, 1) := dk_4 (dk_at dksX2_takesKnot_2 10 rfl rfl)
theorem dX2_takesKnot_56 : decode cX2_takesKnot 56 = .ok (.iconst 1, 1) := dk_4 (dk_at dksX2_takesKnot_2 11 rfl rfl)
theorem dX2_takesKnot_57 : decode cX2_takesKnot 57 = .ok (.iastore, 1) := dk_79 (dk_at dksX2_takesKnot_2 12 rfl rfl)
theorem dX2_takesKnot_58 : decode cX2_takesKnot 58 = .ok (.iconst 1, 1) := dk_4 (dk_at dksX2_takesKnot_2 13 rfl rfl)
theorem dX2_takesKnot_59 : decode cX2_takesKnot 59 = .ok (.istore_n 3, 1) := dk_62 (dk_at dksX2_takesKnot_2 14 rfl rfl)
theorem dX2_takesKnot_60 : decode cX2_takesKnot 60 = .ok (.iload_n 3, 1) := dk_29 (dk_at dksX2_takesKnot_2 15 rfl rfl)
theorem dX2_takesKnot_61 : decode cX2_takesKnot 61 = .ok (.aload_n 0, 1) := dk_42 (dk_at dksX2_takesKnot_2 16 rfl rfl)
theorem dX2_takesKnot_62 : decode cX2_takesKnot 62 = .ok (.getfield 300, 3) := dk_180 1 44 (dk_at dksX2_takesKnot_2 17 rfl rfl)
theorem dX2_takesKnot_65 : decode cX2_takesKnot 65 = .ok (.if_icmp .ge 64, 3) := dk_162 0 64 (dk_at dksX2_takesKnot_2 20 rfl rfl)
theorem dX2_takesKnot_68 : decode cX2_takesKnot 68 = .ok (.aload_n 0, 1) := dk_42 (dk_at dksX2_takesKnot_2 23 rfl rfl)
theorem dX2_takesKnot_69 : decode cX2_takesKnot 69 = .ok (.getfield 122, 3) := dk_180 0 122 (dk_at dksX2_takesKnot_3 0 rfl rfl)
theorem dX2_takesKnot_72 : decode cX2_takesKnot 72 = .ok (.iload_n 3, 1) := dk_29 (dk_at dksX2_takesKnot_3 3 rfl rfl)
theorem dX2_takesKnot_73 : decode cX2_takesKnot 73 = .ok (.aload_n 0, 1) := dk_42 (dk_at dksX2_takesKnot_3 4 rfl rfl)
theorem dX2_takesKnot_74 : decode cX2_takesKnot 74 = .ok (.getfield 71, 3) := dk_180 0 71 (dk_at dksX2_takesKnot_3 5 rfl rfl)
theorem dX2_takesKnot_77 : decode cX2_takesKnot 77 = .ok (.aload_n 0, 1) := dk_42 (dk_at dksX2_takesKnot_3 8 rfl rfl)
theorem dX2_takesKnot_78 : decode cX2_takesKnot 78 = .ok (.getfield 134, 3) := dk_180 0 134 (dk_at dksX2_takesKnot_3 9 rfl rfl)
theorem dX2_takesKnot_81 : decode cX2_takesKnot 81 = .ok (.iload_n 3, 1) := dk_29 (dk_at dksX2_takesKnot_3 12 rfl rfl)
theorem dX2_takesKnot_82 : decode cX2_takesKnot 82 = .ok (.iaload, 1) := dk_46 (dk_at dksX2_takesKnot_3 13 rfl rfl)
theorem dX2_takesKnot_83 : decode cX2_takesKnot 83 = .ok (.iaload, 1) := dk_46 (dk_at dksX2_takesKnot_3 14 rfl rfl)
theorem dX2_takesKnot_84 : decode cX2_takesKnot 84 = .ok (.iastore, 1) := dk_79 (dk_at dksX2_takesKnot_3 15 rfl rfl)
theorem dX2_takesKnot_85 : decode cX2_takesKnot 85 = .ok (.aload_n 0, 1) := dk_42 (dk_at dksX2_takesKnot_3 16 rfl rfl)
theorem dX2_takesKnot_86 : decode cX2_takesKnot 86 = .ok (.getfield 128, 3) := dk_180 0 128 (dk_at dksX2_takesKnot_3 17 rfl rfl)
theorem dX2_takesKnot_89 : decode cX2_takesKnot 89 = .ok (.iload_n 3, 1) := dk_29 (dk_at dksX2_takesKnot_3 20 rfl rfl)
theorem dX2_takesKnot_90 : decode cX2_takesKnot 90 = .ok (.aload_n 0, 1) := dk_42 (dk_at dksX2_takesKnot_3 21 rfl rfl)
theorem dX2_takesKnot_91 : decode cX2_takesKnot 91 = .ok (.getfield 74, 3) := dk_180 0 74 (dk_at dksX2_takesKnot_4 0 rfl rfl)
theorem dX2_takesKnot_94 : decode cX2_takesKnot 94 = .ok (.aload_n 0, 1) := dk_42 (dk_at dksX2_takesKnot_4 3 rfl rfl)
theorem dX2_takesKnot_95 : decode cX2_takesKnot 95 = .ok (.getfield 134, 3) := dk_180 0 134 (dk_at dksX2_takesKnot_4 4 rfl rfl)
theorem dX2_takesKnot_98 : decode cX2_takesKnot 98 = .ok (.iload_n 3, 1) := dk_29 (dk_at dksX2_takesKnot_4 7 rfl rfl)
theorem dX2_takesKnot_99 : decode cX2_takesKnot 99 = .ok (.iaload, 1) := dk_46 (dk_at dksX2_takesKnot_4 8 rfl rfl)
theorem dX2_takesKnot_100 : decode cX2_takesKnot 100 = .ok (.iaload, 1) := dk_46 (dk_at dksX2_takesKnot_4 9 rfl rfl)
theorem dX2_takesKnot_101 : decode cX2_takesKnot 101 = .ok (.iastore, 1) := dk_79 (dk_at dksX2_takesKnot_4 10 rfl rfl)
theorem dX2_takesKnot_102 : decode cX2_takesKnot 102 = .ok (.aload_n 0, 1) := dk_42 (dk_at dksX2_takesKnot_4 11 rfl rfl)
theorem dX2_takesKnot_103 : decode cX2_takesKnot 103 = .ok (.getfield 125, 3) := dk_180 0 125 (dk_at dksX2_takesKnot_4 12 rfl rfl)
theorem dX2_takesKnot_106 : decode cX2_takesKnot 106 = .ok (.iload_n 3, 1) := dk_29 (dk_at dksX2_takesKnot_4 15 rfl rfl)
theorem dX2_takesKnot_107 : decode cX2_takesKnot 107 = .ok (.iconst 1, 1) := dk_4 (dk_at dksX2_takesKnot_4 16 rfl rfl)
theorem dX2_takesKnot_108 : decode cX2_takesKnot 108 = .ok (.iadd, 1) := dk_96 (dk_at dksX2_takesKnot_4 17 rfl rfl)
theorem dX2_takesKnot_109 : decode cX2_takesKnot 109 = .ok (.aload_n 0, 1) := dk_42 (dk_at dksX2_takesKnot_4 18 rfl rfl)
theorem dX2_takesKnot_110 : decode cX2_takesKnot 110 = .ok (.getfield 125, 3) := dk_180 0 125 (dk_at dksX2_takesKnot_4 19 rfl rfl)
theorem dX2_takesKnot_113 : decode cX2_takesKnot 113 = .ok (.iload_n 3, 1) := dk_29 (dk_at dksX2_takesKnot_4 22 rfl rfl)
theorem dX2_takesKnot_114 : decode cX2_takesKnot 114 = .ok (.iaload, 1) := dk_46 (dk_at dksX2_takesKnot_4 23 rfl rfl)
theorem dX2_takesKnot_115 : decode cX2_takesKnot 115 = .ok (.aload_n 0, 1) := dk_42 (dk_at dksX2_takesKnot_5 0 rfl rfl)
theorem dX2_takesKnot_116 : decode cX2_takesKnot 116 = .ok (.getfield 122, 3) := dk_180 0 122 (dk_at dksX2_takesKnot_5 1 rfl rfl)
theorem dX2_takesKnot_119 : decode cX2_takesKnot 119 = .ok (.iload_n 3, 1) := dk_29 (dk_at dksX2_takesKnot_5 4 rfl rfl)
theorem dX2_takesKnot_120 : decode cX2_takesKnot 120 = .ok (.iaload, 1) := dk_46 (dk_at dksX2_takesKnot_5 5 rfl rfl)
theorem dX2_takesKnot_121 : decode cX2_takesKnot 121 = .ok (.imul, 1) := dk_104 (dk_at dksX2_takesKnot_5 6 rfl rfl)
theorem dX2_takesKnot_122 : decode cX2_takesKnot 122 = .ok (.iastore, 1) := dk_79 (dk_at dksX2_takesKnot_5 7 rfl rfl)
theorem dX2_takesKnot_123 : decode cX2_takesKnot 123 = .ok (.iinc 3 1, 3) := dk_132 3 1 (dk_at dksX2_takesKnot_5 8 rfl rfl)
theorem dX2_takesKnot_126 : decode cX2_takesKnot 126 = .ok (.goto (-66), 3) := dk_167 255 190 (dk_at dksX2_takesKnot_5 11 rfl rfl)
theorem dX2_takesKnot_129 : decode cX2_takesKnot 129 = .ok (.return_, 1) := dk_177 (dk_at dksX2_takesKnot_5 14 rfl rfl)
abbrev cX2_laysPoints : ByteArray := prog_18_method_48_code
def yX2_laysPoints : MethodName := ⟨RX2, "laysPoints", "(I)V"⟩
def dkwX2_laysPoints_6 : List UInt8 := [132, 3, 255, 167, 255, 219, 177]
abbrev dktX2_laysPoints_6 : List UInt8 := dkwX2_laysPoints_6 ++ []
def dkwX2_laysPoints_5 : List UInt8 := [180, 0, 68, 16, 9, 27, 104, 29, 96, 46, 155, 0, 7, 29, 167, 0, 9, 42, 180, 0, 62, 27, 46, 79]
abbrev dktX2_laysPoints_5 : List UInt8 := dkwX2_laysPoints_5 ++ dktX2_laysPoints_6
def dkwX2_laysPoints_4 : List UInt8 := [132, 3, 1, 167, 255, 187, 42, 180, 0, 50, 27, 46, 62, 29, 155, 0, 39, 42, 180, 0, 62, 27, 42]
abbrev dktX2_laysPoints_4 : List UInt8 := dkwX2_laysPoints_4 ++ dktX2_laysPoints_5
def dkwX2_laysPoints_3 : List UInt8 := [27, 104, 29, 96, 21, 4, 156, 0, 7, 2, 167, 0, 12, 21, 4, 29, 42, 182, 1, 63, 104, 96, 79]
abbrev dktX2_laysPoints_3 : List UInt8 := dkwX2_laysPoints_3 ++ dktX2_laysPoints_4
def dkwX2_laysPoints_2 : List UInt8 := [16, 9, 162, 0, 13, 42, 29, 28, 104, 182, 1, 60, 167, 0, 4, 2, 54, 4, 42, 180, 0, 68, 16, 9]
abbrev dktX2_laysPoints_2 : List UInt8 := dkwX2_laysPoints_2 ++ dktX2_laysPoints_3
def dkwX2_laysPoints_1 : List UInt8 := [27, 46, 79, 3, 62, 29, 16, 9, 162, 0, 69, 29, 42, 180, 0, 50, 27, 46, 163, 0, 21, 29, 28, 104]
abbrev dktX2_laysPoints_1 : List UInt8 := dkwX2_laysPoints_1 ++ dktX2_laysPoints_2
def dkwX2_laysPoints_0 : List UInt8 := [42, 180, 0, 125, 42, 180, 1, 44, 46, 61, 42, 27, 182, 1, 56, 42, 180, 0, 62, 27, 42, 180, 0, 50]
abbrev dktX2_laysPoints_0 : List UInt8 := dkwX2_laysPoints_0 ++ dktX2_laysPoints_1
theorem dksX2_laysPoints_0 : cX2_laysPoints.data.toList.drop 0 = dktX2_laysPoints_0 := by decide +kernel
theorem dksX2_laysPoints_1 : cX2_laysPoints.data.toList.drop 24 = dktX2_laysPoints_1 := dk_seg dksX2_laysPoints_0 24 rfl rfl
theorem dksX2_laysPoints_2 : cX2_laysPoints.data.toList.drop 48 = dktX2_laysPoints_2 := dk_seg dksX2_laysPoints_1 24 rfl rfl
theorem dksX2_laysPoints_3 : cX2_laysPoints.data.toList.drop 72 = dktX2_laysPoints_3 := dk_seg dksX2_laysPoints_2 24 rfl rfl
theorem dksX2_laysPoints_4 : cX2_laysPoints.data.toList.drop 95 = dktX2_laysPoints_4 := dk_seg dksX2_laysPoints_3 23 rfl rfl
theorem dksX2_laysPoints_5 : cX2_laysPoints.data.toList.drop 118 = dktX2_laysPoints_5 := dk_seg dksX2_laysPoints_4 23 rfl rfl
theorem dksX2_laysPoints_6 : cX2_laysPoints.data.toList.drop 142 = dktX2_laysPoints_6 := dk_seg dksX2_laysPoints_5 24 rfl rfl
theorem dX2_laysPoints_0 : decode cX2_laysPoints 0 = .ok (.aload_n 0, 1) := dk_42 (dk_at dksX2_laysPoints_0 0 rfl rfl)
theorem dX2_laysPoints_1 : decode cX2_laysPoints 1 = .ok (.getfield 125, 3) := dk_180 0 125 (dk_at dksX2_laysPoints_0 1 rfl rfl)
theorem dX2_laysPoints_4 : decode cX2_laysPoints 4 = .ok (.aload_n 0, 1) := dk_42 (dk_at dksX2_laysPoints_0 4 rfl rfl)
theorem dX2_laysPoints_5 : decode cX2_laysPoints 5 = .ok (.getfield 300, 3) := dk_180 1 44 (dk_at dksX2_laysPoints_0 5 rfl rfl)
theorem dX2_laysPoints_8 : decode cX2_laysPoints 8 = .ok (.iaload, 1) := dk_46 (dk_at dksX2_laysPoints_0 8 rfl rfl)
theorem dX2_laysPoints_9 : decode cX2_laysPoints 9 = .ok (.istore_n 2, 1) := dk_61 (dk_at dksX2_laysPoints_0 9 rfl rfl)
theorem dX2_laysPoints_10 : decode cX2_laysPoints 10 = .ok (.aload_n 0, 1) := dk_42 (dk_at dksX2_laysPoints_0 10 rfl rfl)
theorem dX2_laysPoints_11 : decode cX2_laysPoints 11 = .ok (.iload_n 1, 1) := dk_27 (dk_at dksX2_laysPoints_0 11 rfl rfl)
theorem dX2_laysPoints_12 : decode cX2_laysPoints 12 = .ok (.invokevirtual 312, 3) := dk_182 1 56 (dk_at dksX2_laysPoints_0 12 rfl rfl)
theorem dX2_laysPoints_15 : decode cX2_laysPoints 15 = .ok (.aload_n 0, 1) := dk_42 (dk_at dksX2_laysPoints_0 15 rfl rfl)
theorem dX2_laysPoints_16 : decode cX2_laysPoints 16 = .ok (.getfield 62, 3) := dk_180 0 62 (dk_at dksX2_laysPoints_0 16 rfl rfl)
theorem dX2_laysPoints_19 : decode cX2_laysPoints 19 = .ok (.iload_n 1, 1) := dk_27 (dk_at dksX2_laysPoints_0 19 rfl rfl)
theorem dX2_laysPoints_20 : decode cX2_laysPoints 20 = .ok (.aload_n 0, 1) := dk_42 (dk_at dksX2_laysPoints_0 20 rfl rfl)
theorem dX2_laysPoints_21 : decode cX2_laysPoints 21 = .ok (.getfield 50, 3) := dk_180 0 50 (dk_at dksX2_laysPoints_0 21 rfl rfl)
theorem dX2_laysPoints_24 : decode cX2_laysPoints 24 = .ok (.iload_n 1, 1) := dk_27 (dk_at dksX2_laysPoints_1 0 rfl rfl)
theorem dX2_laysPoints_25 : decode cX2_laysPoints 25 = .ok (.iaload, 1) := dk_46 (dk_at dksX2_laysPoints_1 1 rfl rfl)
theorem dX2_laysPoints_26 : decode cX2_laysPoints 26 = .ok (.iastore, 1) := dk_79 (dk_at dksX2_laysPoints_1 2 rfl rfl)
theorem dX2_laysPoints_27 : decode cX2_laysPoints 27 = .ok (.iconst 0, 1) := dk_3 (dk_at dksX2_laysPoints_1 3 rfl rfl)
theorem dX2_laysPoints_28 : decode cX2_laysPoints 28 = .ok (.istore_n 3, 1) := dk_62 (dk_at dksX2_laysPoints_1 4 rfl rfl)
theorem dX2_laysPoints_29 : decode cX2_laysPoints 29 = .ok (.iload_n 3, 1) := dk_29 (dk_at dksX2_laysPoints_1 5 rfl rfl)
theorem dX2_laysPoints_30 : decode cX2_laysPoints 30 = .ok (.bipush 9, 2) := dk_16 9 (dk_at dksX2_laysPoints_1 6 rfl rfl)
theorem dX2_laysPoints_32 : decode cX2_laysPoints 32 = .ok (.if_icmp .ge 69, 3) := dk_162 0 69 (dk_at dksX2_laysPoints_1 8 rfl rfl)
theorem dX2_laysPoints_35 : decode cX2_laysPoints 35 = .ok (.iload_n 3, 1) := dk_29 (dk_at dksX2_laysPoints_1 11 rfl rfl)
theorem dX2_laysPoints_36 : decode cX2_laysPoints 36 = .ok (.aload_n 0, 1) := dk_42 (dk_at dksX2_laysPoints_1 12 rfl rfl)
theorem dX2_laysPoints_37 : decode cX2_laysPoints 37 = .ok (.getfield 50, 3) := dk_180 0 50 (dk_at dksX2_laysPoints_1 13 rfl rfl)
theorem dX2_laysPoints_40 : decode cX2_laysPoints 40 = .ok (.iload_n 1, 1) := dk_27 (dk_at dksX2_laysPoints_1 16 rfl rfl)
theorem dX2_laysPoints_41 : decode cX2_laysPoints 41 = .ok (.iaload, 1) := dk_46 (dk_at dksX2_laysPoints_1 17 rfl rfl)
theorem dX2_laysPoints_42 : decode cX2_laysPoints 42 = .ok (.if_icmp .gt 21, 3) := dk_163 0 21 (dk_at dksX2_laysPoints_1 18 rfl rfl)
theorem dX2_laysPoints_45 : decode cX2_laysPoints 45 = .ok (.iload_n 3, 1) := dk_29 (dk_at dksX2_laysPoints_1 21 rfl rfl)
theorem dX2_laysPoints_46 : decode cX2_laysPoints 46 = .ok (.iload_n 2, 1) := dk_28 (dk_at dksX2_laysPoints_1 22 rfl rfl)
theorem dX2_laysPoints_47 : decode cX2_laysPoints 47 = .ok (.imul, 1) := dk_104 (dk_at dksX2_laysPoints_1 23 rfl rfl)
theorem dX2_laysPoints_48 : decode cX2_laysPoints 48 = .ok (.bipush 9, 2) := dk_16 9 (dk_at dksX2_laysPoints_2 0 rfl rfl)
theorem dX2_laysPoints_50 : decode cX2_laysPoints 50 = .ok (.if_icmp .ge 13, 3) := dk_162 0 13 (dk_at dksX2_laysPoints_2 2 rfl rfl)
theorem dX2_laysPoints_53 : decode cX2_laysPoints 53 = .ok (.aload_n 0, 1) := dk_42 (dk_at dksX2_laysPoints_2 5 rfl rfl)
theorem dX2_laysPoints_54 : decode cX2_laysPoints 54 = .ok (.iload_n 3, 1) := dk_29 (dk_at dksX2_laysPoints_2 6 rfl rfl)
theorem dX2_laysPoints_55 : decode cX2_laysPoints 55 = .ok (.iload_n 2, 1) := dk_28 (dk_at dksX2_laysPoints_2 7 rfl rfl)
theorem dX2_laysPoints_56 : decode cX2_laysPoints 56 = .ok (.imul, 1) := dk_104 (dk_at dksX2_laysPoints_2 8 rfl rfl)
theorem dX2_laysPoints_57 : decode cX2_laysPoints 57 = .ok (.invokevirtual 316, 3) := dk_182 1 60 (dk_at dksX2_laysPoints_2 9 rfl rfl)
theorem dX2_laysPoints_60 : decode cX2_laysPoints 60 = .ok (.goto 4, 3) := dk_167 0 4 (dk_at dksX2_laysPoints_2 12 rfl rfl)
theorem dX2_laysPoints_63 : decode cX2_laysPoints 63 = .ok (.iconst (-1), 1) := dk_2 (dk_at dksX2_laysPoints_2 15 rfl rfl)
theorem dX2_laysPoints_64 : decode cX2_laysPoints 64 = .ok (.istore 4, 2) := dk_54 4 (dk_at dksX2_laysPoints_2 16 rfl rfl)
theorem dX2_laysPoints_66 : decode cX2_laysPoints 66 = .ok (.aload_n 0, 1) := dk_42 (dk_at dksX2_laysPoints_2 18 rfl rfl)
theorem dX2_laysPoints_67 : decode cX2_laysPoints 67 = .ok (.getfield 68, 3) := dk_180 0 68 (dk_at dksX2_laysPoints_2 19 rfl rfl)
theorem dX2_laysPoints_70 : decode cX2_laysPoints 70 = .ok (.bipush 9, 2) := dk_16 9 (dk_at dksX2_laysPoints_2 22 rfl rfl)
theorem dX2_laysPoints_72 : decode cX2_laysPoints 72 = .ok (.iload_n 1, 1) := dk_27 (dk_at dksX2_laysPoints_3 0 rfl rfl)
theorem dX2_laysPoints_73 : decode cX2_laysPoints 73 = .ok (.imul, 1) := dk_104 (dk_at dksX2_laysPoints_3 1 rfl rfl)
theorem dX2_laysPoints_74 : decode cX2_laysPoints 74 = .ok (.iload_n 3, 1) := dk_29 (dk_at dksX2_laysPoints_3 2 rfl rfl)
theorem dX2_laysPoints_75 : decode cX2_laysPoints 75 = .ok (.iadd, 1) := dk_96 (dk_at dksX2_laysPoints_3 3 rfl rfl)
theorem dX2_laysPoints_76 : decode cX2_laysPoints 76 = .ok (.iload 4, 2) := dk_21 4 (dk_at dksX2_laysPoints_3 4 rfl rfl)
theorem dX2_laysPoints_78 : decode cX2_laysPoints 78 = .ok (.ifCond .ge 7, 3) := dk_156 0 7 (dk_at dksX2_laysPoints_3 6 rfl rfl)
theorem dX2_laysPoints_81 : decode cX2_laysPoints 81 = .ok (.iconst (-1), 1) := dk_2 (dk_at dksX2_laysPoints_3 9 rfl rfl)
theorem dX2_laysPoints_82 : decode cX2_laysPoints 82 = .ok (.goto 12, 3) := dk_167 0 12 (dk_at dksX2_laysPoints_3 10 rfl rfl)
theorem dX2_laysPoints_85 : decode cX2_laysPoints 85 = .ok (.iload 4, 2) := dk_21 4 (dk_at dksX2_laysPoints_3 13 rfl rfl)
theorem dX2_laysPoints_87 : decode cX2_laysPoints 87 = .ok (.iload_n 3, 1) := dk_29 (dk_at dksX2_laysPoints_3 15 rfl rfl)
theorem dX2_laysPoints_88 : decode cX2_laysPoints 88 = .ok (.aload_n 0, 1) := dk_42 (dk_at dksX2_laysPoints_3 16 rfl rfl)
theorem dX2_laysPoints_89 : decode cX2_laysPoints 89 = .ok (.invokevirtual 319, 3) := dk_182 1 63 (dk_at dksX2_laysPoints_3 17 rfl rfl)
theorem dX2_laysPoints_92 : decode cX2_laysPoints 92 = .ok (.imul, 1) := dk_104 (dk_at dksX2_laysPoints_3 20 rfl rfl)
theorem dX2_laysPoints_93 : decode cX2_laysPoints 93 = .ok (.iadd, 1) := dk_96 (dk_at dksX2_laysPoints_3 21 rfl rfl)
theorem dX2_laysPoints_94 : decode cX2_laysPoints 94 = .ok (.iastore, 1) := dk_79 (dk_at dksX2_laysPoints_3 22 rfl rfl)
theorem dX2_laysPoints_95 : decode cX2_laysPoints 95 = .ok (.iinc 3 1, 3) := dk_132 3 1 (dk_at dksX2_laysPoints_4 0 rfl rfl)
theorem dX2_laysPoints_98 : decode cX2_laysPoints 98 = .ok (.goto (-69), 3) := dk_167 255 187 (dk_at dksX2_laysPoints_4 3 rfl rfl)
theorem dX2_laysPoints_101 : decode cX2_laysPoints 101 = .ok (.aload_n 0, 1) := dk_42 (dk_at dksX2_laysPoints_4 6 rfl rfl)
theorem dX2_laysPoints_102 : decode cX2_laysPoints 102 = .ok (.getfield 50, 3) := dk_180 0 50 (dk_at dksX2_laysPoints_4 7 rfl rfl)
theorem dX2_laysPoints_105 : decode cX2_laysPoints 105 = .ok (.iload_n 1, 1) := dk_27 (dk_at dksX2_laysPoints_4 10 rfl rfl)
theorem dX2_laysPoints_106 : decode cX2_laysPoints 106 = .ok (.iaload, 1) := dk_46 (dk_at dksX2_laysPoints_4 11 rfl rfl)
theorem dX2_laysPoints_107 : decode cX2_laysPoints 107 = .ok (.istore_n 3, 1) := dk_62 (dk_at dksX2_laysPoints_4 12 rfl rfl)
theorem dX2_laysPoints_108 : decode cX2_laysPoints 108 = .ok (.iload_n 3, 1) := dk_29 (dk_at dksX2_laysPoints_4 13 rfl rfl)
theorem dX2_laysPoints_109 : decode cX2_laysPoints 109 = .ok (.ifCond .lt 39, 3) := dk_155 0 39 (dk_at dksX2_laysPoints_4 14 rfl rfl)
theorem dX2_laysPoints_112 : decode cX2_laysPoints 112 = .ok (.aload_n 0, 1) := dk_42 (dk_at dksX2_laysPoints_4 17 rfl rfl)
theorem dX2_laysPoints_113 : decode cX2_laysPoints 113 = .ok (.getfield 62, 3) := dk_180 0 62 (dk_at dksX2_laysPoints_4 18 rfl rfl)
theorem dX2_laysPoints_116 : decode cX2_laysPoints 116 = .ok (.iload_n 1, 1) := dk_27 (dk_at dksX2_laysPoints_4 21 rfl rfl)
theorem dX2_laysPoints_117 : decode cX2_laysPoints 117 = .ok (.aload_n 0, 1) := dk_42 (dk_at dksX2_laysPoints_4 22 rfl rfl)
theorem dX2_laysPoints_118 : decode cX2_laysPoints 118 = .ok (.getfield 68, 3) := dk_180 0 68 (dk_at dksX2_laysPoints_5 0 rfl rfl)
theorem dX2_laysPoints_121 : decode cX2_laysPoints 121 = .ok (.bipush 9, 2) := dk_16 9 (dk_at dksX2_laysPoints_5 3 rfl rfl)
theorem dX2_laysPoints_123 : decode cX2_laysPoints 123 = .ok (.iload_n 1, 1) := dk_27 (dk_at dksX2_laysPoints_5 5 rfl rfl)
theorem dX2_laysPoints_124 : decode cX2_laysPoints 124 = .ok (.imul, 1) := dk_104 (dk_at dksX2_laysPoints_5 6 rfl rfl)
theorem dX2_laysPoints_125 : decode cX2_laysPoints 125 = .ok (.iload_n 3, 1) := dk_29 (dk_at dksX2_laysPoints_5 7 rfl rfl)
theorem dX2_laysPoints_126 : decode cX2_laysPoints 126 = .ok (.iadd, 1) := dk_96 (dk_at dksX2_laysPoints_5 8 rfl rfl)
theorem dX2_laysPoints_127 : decode cX2_laysPoints 127 = .ok (.iaload, 1) := dk_46 (dk_at dksX2_laysPoints_5 9 rfl rfl)
theorem dX2_laysPoints_128 : decode cX2_laysPoints 128 = .ok (.ifCond .lt 7, 3) := dk_155 0 7 (dk_at dksX2_laysPoints_5 10 rfl rfl)
theorem dX2_laysPoints_131 : decode cX2_laysPoints 131 = .ok (.iload_n 3, 1) := dk_29 (dk_at dksX2_laysPoints_5 13 rfl rfl)
theorem dX2_laysPoints_132 : decode cX2_laysPoints 132 = .ok (.goto 9, 3) := dk_167 0 9 (dk_at dksX2_laysPoints_5 14 rfl rfl)
theorem dX2_laysPoints_135 : decode cX2_laysPoints 135 = .ok (.aload_n 0, 1) := dk_42 (dk_at dksX2_laysPoints_5 17 rfl rfl)
theorem dX2_laysPoints_136 : decode cX2_laysPoints 136 = .ok (.getfield 62, 3) := dk_180 0 62 (dk_at dksX2_laysPoints_5 18 rfl rfl)
theorem dX2_laysPoints_139 : decode cX2_laysPoints 139 = .ok (.iload_n 1, 1) := dk_27 (dk_at dksX2_laysPoints_5 21 rfl rfl)
theorem dX2_laysPoints_140 : decode cX2_laysPoints 140 = .ok (.iaload, 1) := dk_46 (dk_at dksX2_laysPoints_5 22 rfl rfl)
theorem dX2_laysPoints_141 : decode cX2_laysPoints 141 = .ok (.iastore, 1) := dk_79 (dk_at dksX2_laysPoints_5 23 rfl rfl)
theorem dX2_laysPoints_142 : decode cX2_laysPoints 142 = .ok (.iinc 3 (-1), 3) := dk_132 3 255 (dk_at dksX2_laysPoints_6 0 rfl rfl)
theorem dX2_laysPoints_145 : decode cX2_laysPoints 145 = .ok (.goto (-37), 3) := dk_167 255 219 (dk_at dksX2_laysPoints_6 3 rfl rfl)
theorem dX2_laysPoints_148 : decode cX2_laysPoints 148 = .ok (.return_, 1) := dk_177 (dk_at dksX2_laysPoints_6 6 rfl rfl)
abbrev cX2_laysRow : ByteArray := prog_18_method_47_code
def yX2_laysRow : MethodName := ⟨RX2, "laysRow", "(I)V"⟩
def dkwX2_laysRow_2 : List UInt8 := [42, 180, 1, 44, 46, 182, 1, 5, 177]
abbrev dktX2_laysRow_2 : List UInt8 := dkwX2_laysRow_2 ++ []
def dkwX2_laysRow_1 : List UInt8 := [47, 167, 0, 4, 9, 80, 132, 2, 1, 167, 255, 225, 42, 3, 16, 9, 16, 9, 27, 104, 42, 180, 0, 125]
abbrev dktX2_laysRow_1 : List UInt8 := dkwX2_laysRow_1 ++ dktX2_laysRow_2
def dkwX2_laysRow_0 : List UInt8 := [3, 61, 28, 16, 24, 162, 0, 31, 42, 180, 0, 20, 28, 28, 16, 9, 162, 0, 12, 42, 180, 0, 44, 28]
abbrev dktX2_laysRow_0 : List UInt8 := dkwX2_laysRow_0 ++ dktX2_laysRow_1
theorem dksX2_laysRow_0 : cX2_laysRow.data.toList.drop 0 = dktX2_laysRow_0 := by decide +kernel
theorem dksX2_laysRow_1 : cX2_laysRow.data.toList.drop 24 = dktX2_laysRow_1 := dk_seg dksX2_laysRow_0 24 rfl rfl
theorem dksX2_laysRow_2 : cX2_laysRow.data.toList.drop 48 = dktX2_laysRow_2 := dk_seg dksX2_laysRow_1 24 rfl rfl
theorem dX2_laysRow_0 : decode cX2_laysRow 0 = .ok (.iconst 0, 1) := dk_3 (dk_at dksX2_laysRow_0 0 rfl rfl)
theorem dX2_laysRow_1 : decode cX2_laysRow 1 = .ok (.istore_n 2, 1) := dk_61 (dk_at dksX2_laysRow_0 1 rfl rfl)
theorem dX2_laysRow_2 : decode cX2_laysRow 2 = .ok (.iload_n 2, 1) := dk_28 (dk_at dksX2_laysRow_0 2 rfl rfl)
theorem dX2_laysRow_3 : decode cX2_laysRow 3 = .ok (.bipush 24, 2) := dk_16 24 (dk_at dksX2_laysRow_0 3 rfl rfl)
theorem dX2_laysRow_5 : decode cX2_laysRow 5 = .ok (.if_icmp .ge 31, 3) := dk_162 0 31 (dk_at dksX2_laysRow_0 5 rfl rfl)
theorem dX2_laysRow_8 : decode cX2_laysRow 8 = .ok (.aload_n 0, 1) := dk_42 (dk_at dksX2_laysRow_0 8 rfl rfl)
theorem dX2_laysRow_9 : decode cX2_laysRow 9 = .ok (.getfield 20, 3) := dk_180 0 20 (dk_at dksX2_laysRow_0 9 rfl rfl)
theorem dX2_laysRow_12 : decode cX2_laysRow 12 = .ok (.iload_n 2, 1) := dk_28 (dk_at dksX2_laysRow_0 12 rfl rfl)
theorem dX2_laysRow_13 : decode cX2_laysRow 13 = .ok (.iload_n 2, 1) := dk_28 (dk_at dksX2_laysRow_0 13 rfl rfl)
theorem dX2_laysRow_14 : decode cX2_laysRow 14 = .ok (.bipush 9, 2) := dk_16 9 (dk_at dksX2_laysRow_0 14 rfl rfl)
theorem dX2_laysRow_16 : decode cX2_laysRow 16 = .ok (.if_icmp .ge 12, 3) := dk_162 0 12 (dk_at dksX2_laysRow_0 16 rfl rfl)
theorem dX2_laysRow_19 : decode cX2_laysRow 19 = .ok (.aload_n 0, 1) := dk_42 (dk_at dksX2_laysRow_0 19 rfl rfl)
theorem dX2_laysRow_20 : decode cX2_laysRow 20 = .ok (.getfield 44, 3) := dk_180 0 44 (dk_at dksX2_laysRow_0 20 rfl rfl)
theorem dX2_laysRow_23 : decode cX2_laysRow 23 = .ok (.iload_n 2, 1) := dk_28 (dk_at dksX2_laysRow_0 23 rfl rfl)
theorem dX2_laysRow_24 : decode cX2_laysRow 24 = .ok (.laload, 1) := dk_47 (dk_at dksX2_laysRow_1 0 rfl rfl)
theorem dX2_laysRow_25 : decode cX2_laysRow 25 = .ok (.goto 4, 3) := dk_167 0 4 (dk_at dksX2_laysRow_1 1 rfl rfl)
theorem dX2_laysRow_28 : decode cX2_laysRow 28 = .ok (.lconst 0, 1) := dk_9 (dk_at dksX2_laysRow_1 4 rfl rfl)
theorem dX2_laysRow_29 : decode cX2_laysRow 29 = .ok (.lastore, 1) := dk_80 (dk_at dksX2_laysRow_1 5 rfl rfl)
theorem dX2_laysRow_30 : decode cX2_laysRow 30 = .ok (.iinc 2 1, 3) := dk_132 2 1 (dk_at dksX2_laysRow_1 6 rfl rfl)
theorem dX2_laysRow_33 : decode cX2_laysRow 33 = .ok (.goto (-31), 3) := dk_167 255 225 (dk_at dksX2_laysRow_1 9 rfl rfl)
theorem dX2_laysRow_36 : decode cX2_laysRow 36 = .ok (.aload_n 0, 1) := dk_42 (dk_at dksX2_laysRow_1 12 rfl rfl)
theorem dX2_laysRow_37 : decode cX2_laysRow 37 = .ok (.iconst 0, 1) := dk_3 (dk_at dksX2_laysRow_1 13 rfl rfl)
theorem dX2_laysRow_38 : decode cX2_laysRow 38 = .ok (.bipush 9, 2) := dk_16 9 (dk_at dksX2_laysRow_1 14 rfl rfl)
theorem dX2_laysRow_40 : decode cX2_laysRow 40 = .ok (.bipush 9, 2) := dk_16 9 (dk_at dksX2_laysRow_1 16 rfl rfl)
theorem dX2_laysRow_42 : decode cX2_laysRow 42 = .ok (.iload_n 1, 1) := dk_27 (dk_at dksX2_laysRow_1 18 rfl rfl)
theorem dX2_laysRow_43 : decode cX2_laysRow 43 = .ok (.imul, 1) := dk_104 (dk_at dksX2_laysRow_1 19 rfl rfl)
theorem dX2_laysRow_44 : decode cX2_laysRow 44 = .ok (.aload_n 0, 1) := dk_42 (dk_at dksX2_laysRow_1 20 rfl rfl)
theorem dX2_laysRow_45 : decode cX2_laysRow 45 = .ok (.getfield 125, 3) := dk_180 0 125 (dk_at dksX2_laysRow_1 21 rfl rfl)
theorem dX2_laysRow_48 : decode cX2_laysRow 48 = .ok (.aload_n 0, 1) := dk_42 (dk_at dksX2_laysRow_2 0 rfl rfl)
theorem dX2_laysRow_49 : decode cX2_laysRow 49 = .ok (.getfield 300, 3) := dk_180 1 44 (dk_at dksX2_laysRow_2 1 rfl rfl)
theorem dX2_laysRow_52 : decode cX2_laysRow 52 = .ok (.iaload, 1) := dk_46 (dk_at dksX2_laysRow_2 4 rfl rfl)
theorem dX2_laysRow_53 : decode cX2_laysRow 53 = .ok (.invokevirtual 261, 3) := dk_182 1 5 (dk_at dksX2_laysRow_2 5 rfl rfl)
theorem dX2_laysRow_56 : decode cX2_laysRow 56 = .ok (.return_, 1) := dk_177 (dk_at dksX2_laysRow_2 8 rfl rfl)
abbrev cX2_head : ByteArray := prog_18_method_43_code
def yX2_head : MethodName := ⟨RX2, "head", "(I)I"⟩
def dkwX2_head_10 : List UInt8 := [29, 172]
abbrev dktX2_head_10 : List UInt8 := dkwX2_head_10 ++ []
def dkwX2_head_9 : List UInt8 := [29, 162, 0, 8, 21, 6, 167, 0, 4, 29, 62, 132, 5, 1, 167, 255, 119, 42, 27, 21, 4, 182, 1, 50]
abbrev dktX2_head_9 : List UInt8 := dkwX2_head_9 ++ dktX2_head_10
def dkwX2_head_8 : List UInt8 := [155, 0, 9, 21, 6, 29, 162, 0, 8, 21, 5, 167, 0, 5, 21, 4, 54, 4, 29, 155, 0, 9, 21, 6]
abbrev dktX2_head_8 : List UInt8 := dkwX2_head_8 ++ dktX2_head_9
def dkwX2_head_7 : List UInt8 := [46, 104, 28, 42, 180, 0, 125, 21, 7, 4, 96, 46, 108, 104, 96, 54, 6, 132, 7, 1, 167, 255, 201, 29]
abbrev dktX2_head_7 : List UInt8 := dkwX2_head_7 ++ dktX2_head_8
def dkwX2_head_6 : List UInt8 := [21, 5, 42, 180, 0, 125, 21, 7, 46, 108, 42, 180, 0, 122, 21, 7, 46, 112, 42, 180, 0, 128, 21, 7]
abbrev dktX2_head_6 : List UInt8 := dkwX2_head_6 ++ dktX2_head_7
def dkwX2_head_5 : List UInt8 := [21, 5, 96, 47, 182, 1, 47, 104, 54, 6, 4, 54, 7, 21, 7, 42, 180, 1, 44, 162, 0, 52, 21, 6]
abbrev dktX2_head_5 : List UInt8 := dkwX2_head_5 ++ dktX2_head_6
def dkwX2_head_4 : List UInt8 := [162, 0, 137, 42, 180, 0, 20, 27, 21, 5, 96, 47, 9, 148, 153, 0, 117, 28, 42, 42, 180, 0, 20, 27]
abbrev dktX2_head_4 : List UInt8 := dkwX2_head_4 ++ dktX2_head_5
def dkwX2_head_3 : List UInt8 := [46, 96, 54, 4, 167, 255, 206, 132, 3, 255, 167, 255, 192, 2, 62, 2, 54, 4, 3, 54, 5, 21, 5, 28]
abbrev dktX2_head_3 : List UInt8 := dkwX2_head_3 ++ dktX2_head_4
def dkwX2_head_2 : List UInt8 := [180, 0, 131, 29, 46, 104, 42, 180, 0, 125, 29, 46, 182, 1, 5, 21, 4, 42, 180, 0, 125, 29, 4, 96]
abbrev dktX2_head_2 : List UInt8 := dkwX2_head_2 ++ dktX2_head_3
def dkwX2_head_1 : List UInt8 := [54, 4, 21, 4, 28, 162, 0, 50, 42, 27, 21, 4, 96, 42, 180, 0, 125, 29, 4, 96, 46, 16, 9, 42]
abbrev dktX2_head_1 : List UInt8 := dkwX2_head_1 ++ dktX2_head_2
def dkwX2_head_0 : List UInt8 := [42, 180, 0, 125, 42, 180, 1, 44, 46, 61, 42, 180, 1, 44, 4, 100, 62, 29, 4, 161, 0, 65, 3]
abbrev dktX2_head_0 : List UInt8 := dkwX2_head_0 ++ dktX2_head_1
theorem dksX2_head_0 : cX2_head.data.toList.drop 0 = dktX2_head_0 := by decide +kernel
theorem dksX2_head_1 : cX2_head.data.toList.drop 23 = dktX2_head_1 := dk_seg dksX2_head_0 23 rfl rfl
theorem dksX2_head_2 : cX2_head.data.toList.drop 47 = dktX2_head_2 := dk_seg dksX2_head_1 24 rfl rfl
theorem dksX2_head_3 : cX2_head.data.toList.drop 71 = dktX2_head_3 := dk_seg dksX2_head_2 24 rfl rfl
theorem dksX2_head_4 : cX2_head.data.toList.drop 95 = dktX2_head_4 := dk_seg dksX2_head_3 24 rfl rfl
theorem dksX2_head_5 : cX2_head.data.toList.drop 119 = dktX2_head_5 := dk_seg dksX2_head_4 24 rfl rfl
theorem dksX2_head_6 : cX2_head.data.toList.drop 143 = dktX2_head_6 := dk_seg dksX2_head_5 24 rfl rfl
theorem dksX2_head_7 : cX2_head.data.toList.drop 167 = dktX2_head_7 := dk_seg dksX2_head_6 24 rfl rfl
theorem dksX2_head_8 : cX2_head.data.toList.drop 191 = dktX2_head_8 := dk_seg dksX2_head_7 24 rfl rfl
theorem dksX2_head_9 : cX2_head.data.toList.drop 215 = dktX2_head_9 := dk_seg dksX2_head_8 24 rfl rfl
theorem dksX2_head_10 : cX2_head.data.toList.drop 239 = dktX2_head_10 := dk_seg dksX2_head_9 24 rfl rfl
theorem dX2_head_0 : decode cX2_head 0 = .ok (.aload_n 0, 1) := dk_42 (dk_at dksX2_head_0 0 rfl rfl)
theorem dX2_head_1 : decode cX2_head 1 = .ok (.getfield 125, 3) := dk_180 0 125 (dk_at dksX2_head_0 1 rfl rfl)
theorem dX2_head_4 : decode cX2_head 4 = .ok (.aload_n 0, 1) := dk_42 (dk_at dksX2_head_0 4 rfl rfl)
theorem dX2_head_5 : decode cX2_head 5 = .ok (.getfield 300, 3) := dk_180 1 44 (dk_at dksX2_head_0 5 rfl rfl)
theorem dX2_head_8 : decode cX2_head 8 = .ok (.iaload, 1) := dk_46 (dk_at dksX2_head_0 8 rfl rfl)
theorem dX2_head_9 : decode cX2_head 9 = .ok (.istore_n 2, 1) := dk_61 (dk_at dksX2_head_0 9 rfl rfl)
theorem dX2_head_10 : decode cX2_head 10 = .ok (.aload_n 0, 1) := dk_42 (dk_at dksX2_head_0 10 rfl rfl)
theorem dX2_head_11 : decode cX2_head 11 = .ok (.getfield 300, 3) := dk_180 1 44 (dk_at dksX2_head_0 11 rfl rfl)
theorem dX2_head_14 : decode cX2_head 14 = .ok (.iconst 1, 1) := dk_4 (dk_at dksX2_head_0 14 rfl rfl)
theorem dX2_head_15 : decode cX2_head 15 = .ok (.isub, 1) := dk_100 (dk_at dksX2_head_0 15 rfl rfl)
theorem dX2_head_16 : decode cX2_head 16 = .ok (.istore_n 3, 1) := dk_62 (dk_at dksX2_head_0 16 rfl rfl)
theorem dX2_head_17 : decode cX2_head 17 = .ok (.iload_n 3, 1) := dk_29 (dk_at dksX2_head_0 17 rfl rfl)
theorem dX2_head_18 : decode cX2_head 18 = .ok (.iconst 1, 1) := dk_4 (dk_at dksX2_head_0 18 rfl rfl)
theorem dX2_head_19 : decode cX2_head 19 = .ok (.if_icmp .lt 65, 3) := dk_161 0 65 (dk_at dksX2_head_0 19 rfl rfl)
theorem dX2_head_22 : decode cX2_head 22 = .ok (.iconst 0, 1) := dk_3 (dk_at dksX2_head_0 22 rfl rfl)
theorem dX2_head_23 : decode cX2_head 23 = .ok (.istore 4, 2) := dk_54 4 (dk_at dksX2_head_1 0 rfl rfl)
theorem dX2_head_25 : decode cX2_head 25 = .ok (.iload 4, 2) := dk_21 4 (dk_at dksX2_head_1 2 rfl rfl)
theorem dX2_head_27 : decode cX2_head 27 = .ok (.iload_n 2, 1) := dk_28 (dk_at dksX2_head_1 4 rfl rfl)
theorem dX2_head_28 : decode cX2_head 28 = .ok (.if_icmp .ge 50, 3) := dk_162 0 50 (dk_at dksX2_head_1 5 rfl rfl)
theorem dX2_head_31 : decode cX2_head 31 = .ok (.aload_n 0, 1) := dk_42 (dk_at dksX2_head_1 8 rfl rfl)
theorem dX2_head_32 : decode cX2_head 32 = .ok (.iload_n 1, 1) := dk_27 (dk_at dksX2_head_1 9 rfl rfl)
theorem dX2_head_33 : decode cX2_head 33 = .ok (.iload 4, 2) := dk_21 4 (dk_at dksX2_head_1 10 rfl rfl)
theorem dX2_head_35 : decode cX2_head 35 = .ok (.iadd, 1) := dk_96 (dk_at dksX2_head_1 12 rfl rfl)
theorem dX2_head_36 : decode cX2_head 36 = .ok (.aload_n 0, 1) := dk_42 (dk_at dksX2_head_1 13 rfl rfl)
theorem dX2_head_37 : decode cX2_head 37 = .ok (.getfield 125, 3) := dk_180 0 125 (dk_at dksX2_head_1 14 rfl rfl)
theorem dX2_head_40 : decode cX2_head 40 = .ok (.iload_n 3, 1) := dk_29 (dk_at dksX2_head_1 17 rfl rfl)
theorem dX2_head_41 : decode cX2_head 41 = .ok (.iconst 1, 1) := dk_4 (dk_at dksX2_head_1 18 rfl rfl)
theorem dX2_head_42 : decode cX2_head 42 = .ok (.iadd, 1) := dk_96 (dk_at dksX2_head_1 19 rfl rfl)
theorem dX2_head_43 : decode cX2_head 43 = .ok (.iaload, 1) := dk_46 (dk_at dksX2_head_1 20 rfl rfl)
theorem dX2_head_44 : decode cX2_head 44 = .ok (.bipush 9, 2) := dk_16 9 (dk_at dksX2_head_1 21 rfl rfl)
theorem dX2_head_46 : decode cX2_head 46 = .ok (.aload_n 0, 1) := dk_42 (dk_at dksX2_head_1 23 rfl rfl)
theorem dX2_head_47 : decode cX2_head 47 = .ok (.getfield 131, 3) := dk_180 0 131 (dk_at dksX2_head_2 0 rfl rfl)
theorem dX2_head_50 : decode cX2_head 50 = .ok (.iload_n 3, 1) := dk_29 (dk_at dksX2_head_2 3 rfl rfl)
theorem dX2_head_51 : decode cX2_head 51 = .ok (.iaload, 1) := dk_46 (dk_at dksX2_head_2 4 rfl rfl)
theorem dX2_head_52 : decode cX2_head 52 = .ok (.imul, 1) := dk_104 (dk_at dksX2_head_2 5 rfl rfl)
theorem dX2_head_53 : decode cX2_head 53 = .ok (.aload_n 0, 1) := dk_42 (dk_at dksX2_head_2 6 rfl rfl)
theorem dX2_head_54 : decode cX2_head 54 = .ok (.getfield 125, 3) := dk_180 0 125 (dk_at dksX2_head_2 7 rfl rfl)
theorem dX2_head_57 : decode cX2_head 57 = .ok (.iload_n 3, 1) := dk_29 (dk_at dksX2_head_2 10 rfl rfl)
theorem dX2_head_58 : decode cX2_head 58 = .ok (.iaload, 1) := dk_46 (dk_at dksX2_head_2 11 rfl rfl)
theorem dX2_head_59 : decode cX2_head 59 = .ok (.invokevirtual 261, 3) := dk_182 1 5 (dk_at dksX2_head_2 12 rfl rfl)
theorem dX2_head_62 : decode cX2_head 62 = .ok (.iload 4, 2) := dk_21 4 (dk_at dksX2_head_2 15 rfl rfl)
theorem dX2_head_64 : decode cX2_head 64 = .ok (.aload_n 0, 1) := dk_42 (dk_at dksX2_head_2 17 rfl rfl)
theorem dX2_head_65 : decode cX2_head 65 = .ok (.getfield 125, 3) := dk_180 0 125 (dk_at dksX2_head_2 18 rfl rfl)
theorem dX2_head_68 : decode cX2_head 68 = .ok (.iload_n 3, 1) := dk_29 (dk_at dksX2_head_2 21 rfl rfl)
theorem dX2_head_69 : decode cX2_head 69 = .ok (.iconst 1, 1) := dk_4 (dk_at dksX2_head_2 22 rfl rfl)
theorem dX2_head_70 : decode cX2_head 70 = .ok (.iadd, 1) := dk_96 (dk_at dksX2_head_2 23 rfl rfl)
theorem dX2_head_71 : decode cX2_head 71 = .ok (.iaload, 1) := dk_46 (dk_at dksX2_head_3 0 rfl rfl)
theorem dX2_head_72 : decode cX2_head 72 = .ok (.iadd, 1) := dk_96 (dk_at dksX2_head_3 1 rfl rfl)
theorem dX2_head_73 : decode cX2_head 73 = .ok (.istore 4, 2) := dk_54 4 (dk_at dksX2_head_3 2 rfl rfl)
theorem dX2_head_75 : decode cX2_head 75 = .ok (.goto (-50), 3) := dk_167 255 206 (dk_at dksX2_head_3 4 rfl rfl)
theorem dX2_head_78 : decode cX2_head 78 = .ok (.iinc 3 (-1), 3) := dk_132 3 255 (dk_at dksX2_head_3 7 rfl rfl)
theorem dX2_head_81 : decode cX2_head 81 = .ok (.goto (-64), 3) := dk_167 255 192 (dk_at dksX2_head_3 10 rfl rfl)
theorem dX2_head_84 : decode cX2_head 84 = .ok (.iconst (-1), 1) := dk_2 (dk_at dksX2_head_3 13 rfl rfl)
theorem dX2_head_85 : decode cX2_head 85 = .ok (.istore_n 3, 1) := dk_62 (dk_at dksX2_head_3 14 rfl rfl)
theorem dX2_head_86 : decode cX2_head 86 = .ok (.iconst (-1), 1) := dk_2 (dk_at dksX2_head_3 15 rfl rfl)
theorem dX2_head_87 : decode cX2_head 87 = .ok (.istore 4, 2) := dk_54 4 (dk_at dksX2_head_3 16 rfl rfl)
theorem dX2_head_89 : decode cX2_head 89 = .ok (.iconst 0, 1) := dk_3 (dk_at dksX2_head_3 18 rfl rfl)
theorem dX2_head_90 : decode cX2_head 90 = .ok (.istore 5, 2) := dk_54 5 (dk_at dksX2_head_3 19 rfl rfl)
theorem dX2_head_92 : decode cX2_head 92 = .ok (.iload 5, 2) := dk_21 5 (dk_at dksX2_head_3 21 rfl rfl)
theorem dX2_head_94 : decode cX2_head 94 = .ok (.iload_n 2, 1) := dk_28 (dk_at dksX2_head_3 23 rfl rfl)
theorem dX2_head_95 : decode cX2_head 95 = .ok (.if_icmp .ge 137, 3) := dk_162 0 137 (dk_at dksX2_head_4 0 rfl rfl)
theorem dX2_head_98 : decode cX2_head 98 = .ok (.aload_n 0, 1) := dk_42 (dk_at dksX2_head_4 3 rfl rfl)
theorem dX2_head_99 : decode cX2_head 99 = .ok (.getfield 20, 3) := dk_180 0 20 (dk_at dksX2_head_4 4 rfl rfl)
theorem dX2_head_102 : decode cX2_head 102 = .ok (.iload_n 1, 1) := dk_27 (dk_at dksX2_head_4 7 rfl rfl)
theorem dX2_head_103 : decode cX2_head 103 = .ok (.iload 5, 2) := dk_21 5 (dk_at dksX2_head_4 8 rfl rfl)
theorem dX2_head_105 : decode cX2_head 105 = .ok (.iadd, 1) := dk_96 (dk_at dksX2_head_4 10 rfl rfl)
theorem dX2_head_106 : decode cX2_head 106 = .ok (.laload, 1) := dk_47 (dk_at dksX2_head_4 11 rfl rfl)
theorem dX2_head_107 : decode cX2_head 107 = .ok (.lconst 0, 1) := dk_9 (dk_at dksX2_head_4 12 rfl rfl)
theorem dX2_head_108 : decode cX2_head 108 = .ok (.lcmp, 1) := dk_148 (dk_at dksX2_head_4 13 rfl rfl)
theorem dX2_head_109 : decode cX2_head 109 = .ok (.ifCond .eq 117, 3) := dk_153 0 117 (dk_at dksX2_head_4 14 rfl rfl)
theorem dX2_head_112 : decode cX2_head 112 = .ok (.iload_n 2, 1) := dk_28 (dk_at dksX2_head_4 17 rfl rfl)
theorem dX2_head_113 : decode cX2_head 113 = .ok (.aload_n 0, 1) := dk_42 (dk_at dksX2_head_4 18 rfl rfl)
theorem dX2_head_114 : decode cX2_head 114 = .ok (.aload_n 0, 1) := dk_42 (dk_at dksX2_head_4 19 rfl rfl)
theorem dX2_head_115 : decode cX2_head 115 = .ok (.getfield 20, 3) := dk_180 0 20 (dk_at dksX2_head_4 20 rfl rfl)
theorem dX2_head_118 : decode cX2_head 118 = .ok (.iload_n 1, 1) := dk_27 (dk_at dksX2_head_4 23 rfl rfl)
theorem dX2_head_119 : decode cX2_head 119 = .ok (.iload 5, 2) := dk_21 5 (dk_at dksX2_head_5 0 rfl rfl)
theorem dX2_head_121 : decode cX2_head 121 = .ok (.iadd, 1) := dk_96 (dk_at dksX2_head_5 2 rfl rfl)
theorem dX2_head_122 : decode cX2_head 122 = .ok (.laload, 1) := dk_47 (dk_at dksX2_head_5 3 rfl rfl)
theorem dX2_head_123 : decode cX2_head 123 = .ok (.invokevirtual 303, 3) := dk_182 1 47 (dk_at dksX2_head_5 4 rfl rfl)
theorem dX2_head_126 : decode cX2_head 126 = .ok (.imul, 1) := dk_104 (dk_at dksX2_head_5 7 rfl rfl)
theorem dX2_head_127 : decode cX2_head 127 = .ok (.istore 6, 2) := dk_54 6 (dk_at dksX2_head_5 8 rfl rfl)
theorem dX2_head_129 : decode cX2_head 129 = .ok (.iconst 1, 1) := dk_4 (dk_at dksX2_head_5 10 rfl rfl)
theorem dX2_head_130 : decode cX2_head 130 = .ok (.istore 7, 2) := dk_54 7 (dk_at dksX2_head_5 11 rfl rfl)
theorem dX2_head_132 : decode cX2_head 132 = .ok (.iload 7, 2) := dk_21 7 (dk_at dksX2_head_5 13 rfl rfl)
theorem dX2_head_134 : decode cX2_head 134 = .ok (.aload_n 0, 1) := dk_42 (dk_at dksX2_head_5 15 rfl rfl)
theorem dX2_head_135 : decode cX2_head 135 = .ok (.getfield 300, 3) := dk_180 1 44 (dk_at dksX2_head_5 16 rfl rfl)
theorem dX2_head_138 : decode cX2_head 138 = .ok (.if_icmp .ge 52, 3) := dk_162 0 52 (dk_at dksX2_head_5 19 rfl rfl)
theorem dX2_head_141 : decode cX2_head 141 = .ok (.iload 6, 2) := dk_21 6 (dk_at dksX2_head_5 22 rfl rfl)
theorem dX2_head_143 : decode cX2_head 143 = .ok (.iload 5, 2) := dk_21 5 (dk_at dksX2_head_6 0 rfl rfl)
theorem dX2_head_145 : decode cX2_head 145 = .ok (.aload_n 0, 1) := dk_42 (dk_at dksX2_head_6 2 rfl rfl)
theorem dX2_head_146 : decode cX2_head 146 = .ok (.getfield 125, 3) := dk_180 0 125 (dk_at dksX2_head_6 3 rfl rfl)
theorem dX2_head_149 : decode cX2_head 149 = .ok (.iload 7, 2) := dk_21 7 (dk_at dksX2_head_6 6 rfl rfl)
theorem dX2_head_151 : decode cX2_head 151 = .ok (.iaload, 1) := dk_46 (dk_at dksX2_head_6 8 rfl rfl)
theorem dX2_head_152 : decode cX2_head 152 = .ok (.idiv, 1) := dk_108 (dk_at dksX2_head_6 9 rfl rfl)
theorem dX2_head_153 : decode cX2_head 153 = .ok (.aload_n 0, 1) := dk_42 (dk_at dksX2_head_6 10 rfl rfl)
theorem dX2_head_154 : decode cX2_head 154 = .ok (.getfield 122, 3) := dk_180 0 122 (dk_at dksX2_head_6 11 rfl rfl)
theorem dX2_head_157 : decode cX2_head 157 = .ok (.iload 7, 2) := dk_21 7 (dk_at dksX2_head_6 14 rfl rfl)
theorem dX2_head_159 : decode cX2_head 159 = .ok (.iaload, 1) := dk_46 (dk_at dksX2_head_6 16 rfl rfl)
theorem dX2_head_160 : decode cX2_head 160 = .ok (.irem, 1) := dk_112 (dk_at dksX2_head_6 17 rfl rfl)
theorem dX2_head_161 : decode cX2_head 161 = .ok (.aload_n 0, 1) := dk_42 (dk_at dksX2_head_6 18 rfl rfl)
theorem dX2_head_162 : decode cX2_head 162 = .ok (.getfield 128, 3) := dk_180 0 128 (dk_at dksX2_head_6 19 rfl rfl)
theorem dX2_head_165 : decode cX2_head 165 = .ok (.iload 7, 2) := dk_21 7 (dk_at dksX2_head_6 22 rfl rfl)
theorem dX2_head_167 : decode cX2_head 167 = .ok (.iaload, 1) := dk_46 (dk_at dksX2_head_7 0 rfl rfl)
theorem dX2_head_168 : decode cX2_head 168 = .ok (.imul, 1) := dk_104 (dk_at dksX2_head_7 1 rfl rfl)
theorem dX2_head_169 : decode cX2_head 169 = .ok (.iload_n 2, 1) := dk_28 (dk_at dksX2_head_7 2 rfl rfl)
theorem dX2_head_170 : decode cX2_head 170 = .ok (.aload_n 0, 1) := dk_42 (dk_at dksX2_head_7 3 rfl rfl)
theorem dX2_head_171 : decode cX2_head 171 = .ok (.getfield 125, 3) := dk_180 0 125 (dk_at dksX2_head_7 4 rfl rfl)
theorem dX2_head_174 : decode cX2_head 174 = .ok (.iload 7, 2) := dk_21 7 (dk_at dksX2_head_7 7 rfl rfl)
theorem dX2_head_176 : decode cX2_head 176 = .ok (.iconst 1, 1) := dk_4 (dk_at dksX2_head_7 9 rfl rfl)
theorem dX2_head_177 : decode cX2_head 177 = .ok (.iadd, 1) := dk_96 (dk_at dksX2_head_7 10 rfl rfl)
theorem dX2_head_178 : decode cX2_head 178 = .ok (.iaload, 1) := dk_46 (dk_at dksX2_head_7 11 rfl rfl)
theorem dX2_head_179 : decode cX2_head 179 = .ok (.idiv, 1) := dk_108 (dk_at dksX2_head_7 12 rfl rfl)
theorem dX2_head_180 : decode cX2_head 180 = .ok (.imul, 1) := dk_104 (dk_at dksX2_head_7 13 rfl rfl)
theorem dX2_head_181 : decode cX2_head 181 = .ok (.iadd, 1) := dk_96 (dk_at dksX2_head_7 14 rfl rfl)
theorem dX2_head_182 : decode cX2_head 182 = .ok (.istore 6, 2) := dk_54 6 (dk_at dksX2_head_7 15 rfl rfl)
theorem dX2_head_184 : decode cX2_head 184 = .ok (.iinc 7 1, 3) := dk_132 7 1 (dk_at dksX2_head_7 17 rfl rfl)
theorem dX2_head_187 : decode cX2_head 187 = .ok (.goto (-55), 3) := dk_167 255 201 (dk_at dksX2_head_7 20 rfl rfl)
theorem dX2_head_190 : decode cX2_head 190 = .ok (.iload_n 3, 1) := dk_29 (dk_at dksX2_head_7 23 rfl rfl)
theorem dX2_head_191 : decode cX2_head 191 = .ok (.ifCond .lt 9, 3) := dk_155 0 9 (dk_at dksX2_head_8 0 rfl rfl)
theorem dX2_head_194 : decode cX2_head 194 = .ok (.iload 6, 2) := dk_21 6 (dk_at dksX2_head_8 3 rfl rfl)
theorem dX2_head_196 : decode cX2_head 196 = .ok (.iload_n 3, 1) := dk_29 (dk_at dksX2_head_8 5 rfl rfl)
theorem dX2_head_197 : decode cX2_head 197 = .ok (.if_icmp .ge 8, 3) := dk_162 0 8 (dk_at dksX2_head_8 6 rfl rfl)
theorem dX2_head_200 : decode cX2_head 200 = .ok (.iload 5, 2) := dk_21 5 (dk_at dksX2_head_8 9 rfl rfl)
theorem dX2_head_202 : decode cX2_head 202 = .ok (.goto 5, 3) := dk_167 0 5 (dk_at dksX2_head_8 11 rfl rfl)
theorem dX2_head_205 : decode cX2_head 205 = .ok (.iload 4, 2) := dk_21 4 (dk_at dksX2_head_8 14 rfl rfl)
theorem dX2_head_207 : decode cX2_head 207 = .ok (.istore 4, 2) := dk_54 4 (dk_at dksX2_head_8 16 rfl rfl)
theorem dX2_head_209 : decode cX2_head 209 = .ok (.iload_n 3, 1) := dk_29 (dk_at dksX2_head_8 18 rfl rfl)
theorem dX2_head_210 : decode cX2_head 210 = .ok (.ifCond .lt 9, 3) := dk_155 0 9 (dk_at dksX2_head_8 19 rfl rfl)
theorem dX2_head_213 : decode cX2_head 213 = .ok (.iload 6, 2) := dk_21 6 (dk_at dksX2_head_8 22 rfl rfl)
theorem dX2_head_215 : decode cX2_head 215 = .ok (.iload_n 3, 1) := dk_29 (dk_at dksX2_head_9 0 rfl rfl)
theorem dX2_head_216 : decode cX2_head 216 = .ok (.if_icmp .ge 8, 3) := dk_162 0 8 (dk_at dksX2_head_9 1 rfl rfl)
theorem dX2_head_219 : decode cX2_head 219 = .ok (.iload 6, 2) := dk_21 6 (dk_at dksX2_head_9 4 rfl rfl)
theorem dX2_head_221 : decode cX2_head 221 = .ok (.goto 4, 3) := dk_167 0 4 (dk_at dksX2_head_9 6 rfl rfl)
theorem dX2_head_224 : decode cX2_head 224 = .ok (.iload_n 3, 1) := dk_29 (dk_at dksX2_head_9 9 rfl rfl)
theorem dX2_head_225 : decode cX2_head 225 = .ok (.istore_n 3, 1) := dk_62 (dk_at dksX2_head_9 10 rfl rfl)
theorem dX2_head_226 : decode cX2_head 226 = .ok (.iinc 5 1, 3) := dk_132 5 1 (dk_at dksX2_head_9 11 rfl rfl)
theorem dX2_head_229 : decode cX2_head 229 = .ok (.goto (-137), 3) := dk_167 255 119 (dk_at dksX2_head_9 14 rfl rfl)
theorem dX2_head_232 : decode cX2_head 232 = .ok (.aload_n 0, 1) := dk_42 (dk_at dksX2_head_9 17 rfl rfl)
theorem dX2_head_233 : decode cX2_head 233 = .ok (.iload_n 1, 1) := dk_27 (dk_at dksX2_head_9 18 rfl rfl)
theorem dX2_head_234 : decode cX2_head 234 = .ok (.iload 4, 2) := dk_21 4 (dk_at dksX2_head_9 19 rfl rfl)
theorem dX2_head_236 : decode cX2_head 236 = .ok (.invokevirtual 306, 3) := dk_182 1 50 (dk_at dksX2_head_9 21 rfl rfl)
theorem dX2_head_239 : decode cX2_head 239 = .ok (.iload_n 3, 1) := dk_29 (dk_at dksX2_head_10 0 rfl rfl)
theorem dX2_head_240 : decode cX2_head 240 = .ok (.ireturn, 1) := dk_172 (dk_at dksX2_head_10 1 rfl rfl)
abbrev cX2_powerIn : ByteArray := prog_18_method_42_code
def yX2_powerIn : MethodName := ⟨RX2, "powerIn", "(J)I"⟩
def dkwX2_powerIn_1 : List UInt8 := [180, 0, 168, 133, 109, 55, 4, 167, 255, 230, 29, 172]
abbrev dktX2_powerIn_1 : List UInt8 := dkwX2_powerIn_1 ++ []
def dkwX2_powerIn_0 : List UInt8 := [3, 62, 31, 55, 4, 22, 4, 42, 180, 0, 168, 133, 113, 9, 148, 154, 0, 19, 132, 3, 1, 22, 4, 42]
abbrev dktX2_powerIn_0 : List UInt8 := dkwX2_powerIn_0 ++ dktX2_powerIn_1
theorem dksX2_powerIn_0 : cX2_powerIn.data.toList.drop 0 = dktX2_powerIn_0 := by decide +kernel
theorem dksX2_powerIn_1 : cX2_powerIn.data.toList.drop 24 = dktX2_powerIn_1 := dk_seg dksX2_powerIn_0 24 rfl rfl
theorem dX2_powerIn_0 : decode cX2_powerIn 0 = .ok (.iconst 0, 1) := dk_3 (dk_at dksX2_powerIn_0 0 rfl rfl)
theorem dX2_powerIn_1 : decode cX2_powerIn 1 = .ok (.istore_n 3, 1) := dk_62 (dk_at dksX2_powerIn_0 1 rfl rfl)
theorem dX2_powerIn_2 : decode cX2_powerIn 2 = .ok (.lload_n 1, 1) := dk_31 (dk_at dksX2_powerIn_0 2 rfl rfl)
theorem dX2_powerIn_3 : decode cX2_powerIn 3 = .ok (.lstore 4, 2) := dk_55 4 (dk_at dksX2_powerIn_0 3 rfl rfl)
theorem dX2_powerIn_5 : decode cX2_powerIn 5 = .ok (.lload 4, 2) := dk_22 4 (dk_at dksX2_powerIn_0 5 rfl rfl)
theorem dX2_powerIn_7 : decode cX2_powerIn 7 = .ok (.aload_n 0, 1) := dk_42 (dk_at dksX2_powerIn_0 7 rfl rfl)
theorem dX2_powerIn_8 : decode cX2_powerIn 8 = .ok (.getfield 168, 3) := dk_180 0 168 (dk_at dksX2_powerIn_0 8 rfl rfl)
theorem dX2_powerIn_11 : decode cX2_powerIn 11 = .ok (.i2l, 1) := dk_133 (dk_at dksX2_powerIn_0 11 rfl rfl)
theorem dX2_powerIn_12 : decode cX2_powerIn 12 = .ok (.lrem, 1) := dk_113 (dk_at dksX2_powerIn_0 12 rfl rfl)
theorem dX2_powerIn_13 : decode cX2_powerIn 13 = .ok (.lconst 0, 1) := dk_9 (dk_at dksX2_powerIn_0 13 rfl rfl)
theorem dX2_powerIn_14 : decode cX2_powerIn 14 = .ok (.lcmp, 1) := dk_148 (dk_at dksX2_powerIn_0 14 rfl rfl)
theorem dX2_powerIn_15 : decode cX2_powerIn 15 = .ok (.ifCond .ne 19, 3) := dk_154 0 19 (dk_at dksX2_powerIn_0 15 rfl rfl)
theorem dX2_powerIn_18 : decode cX2_powerIn 18 = .ok (.iinc 3 1, 3) := dk_132 3 1 (dk_at dksX2_powerIn_0 18 rfl rfl)
theorem dX2_powerIn_21 : decode cX2_powerIn 21 = .ok (.lload 4, 2) := dk_22 4 (dk_at dksX2_powerIn_0 21 rfl rfl)
theorem dX2_powerIn_23 : decode cX2_powerIn 23 = .ok (.aload_n 0, 1) := dk_42 (dk_at dksX2_powerIn_0 23 rfl rfl)
theorem dX2_powerIn_24 : decode cX2_powerIn 24 = .ok (.getfield 168, 3) := dk_180 0 168 (dk_at dksX2_powerIn_1 0 rfl rfl)
theorem dX2_powerIn_27 : decode cX2_powerIn 27 = .ok (.i2l, 1) := dk_133 (dk_at dksX2_powerIn_1 3 rfl rfl)
theorem dX2_powerIn_28 : decode cX2_powerIn 28 = .ok (.ldiv, 1) := dk_109 (dk_at dksX2_powerIn_1 4 rfl rfl)
theorem dX2_powerIn_29 : decode cX2_powerIn 29 = .ok (.lstore 4, 2) := dk_55 4 (dk_at dksX2_powerIn_1 5 rfl rfl)
theorem dX2_powerIn_31 : decode cX2_powerIn 31 = .ok (.goto (-26), 3) := dk_167 255 230 (dk_at dksX2_powerIn_1 7 rfl rfl)
theorem dX2_powerIn_34 : decode cX2_powerIn 34 = .ok (.iload_n 3, 1) := dk_29 (dk_at dksX2_powerIn_1 10 rfl rfl)
theorem dX2_powerIn_35 : decode cX2_powerIn 35 = .ok (.ireturn, 1) := dk_172 (dk_at dksX2_powerIn_1 11 rfl rfl)
abbrev cX2_laysHead : ByteArray := prog_18_method_44_code
def yX2_laysHead : MethodName := ⟨RX2, "laysHead", "(II)V"⟩
def dkwX2_laysHead_5 : List UInt8 := [167, 255, 234, 42, 42, 33, 182, 1, 12, 181, 1, 53, 177]
abbrev dktX2_laysHead_5 : List UInt8 := dkwX2_laysHead_5 ++ []
def dkwX2_laysHead_4 : List UInt8 := [54, 5, 21, 5, 42, 180, 0, 137, 3, 46, 162, 0, 17, 33, 42, 180, 0, 168, 133, 109, 66, 132, 5, 1]
abbrev dktX2_laysHead_4 : List UInt8 := dkwX2_laysHead_4 ++ dktX2_laysHead_5
def dkwX2_laysHead_3 : List UInt8 := [180, 0, 122, 29, 46, 112, 79, 132, 3, 1, 167, 255, 224, 42, 180, 0, 20, 27, 28, 96, 47, 66, 3]
abbrev dktX2_laysHead_3 : List UInt8 := dkwX2_laysHead_3 ++ dktX2_laysHead_4
def dkwX2_laysHead_2 : List UInt8 := [29, 42, 180, 1, 44, 162, 0, 30, 42, 180, 0, 137, 29, 28, 42, 180, 0, 125, 29, 46, 108, 42]
abbrev dktX2_laysHead_2 : List UInt8 := dkwX2_laysHead_2 ++ dktX2_laysHead_3
def dkwX2_laysHead_1 : List UInt8 := [156, 0, 4, 177, 42, 180, 0, 137, 3, 42, 42, 180, 0, 20, 27, 28, 96, 47, 182, 1, 47, 79, 4, 62]
abbrev dktX2_laysHead_1 : List UInt8 := dkwX2_laysHead_1 ++ dktX2_laysHead_2
def dkwX2_laysHead_0 : List UInt8 := [3, 62, 29, 16, 7, 162, 0, 16, 42, 180, 0, 137, 29, 3, 79, 132, 3, 1, 167, 255, 240, 28]
abbrev dktX2_laysHead_0 : List UInt8 := dkwX2_laysHead_0 ++ dktX2_laysHead_1
theorem dksX2_laysHead_0 : cX2_laysHead.data.toList.drop 0 = dktX2_laysHead_0 := by decide +kernel
theorem dksX2_laysHead_1 : cX2_laysHead.data.toList.drop 22 = dktX2_laysHead_1 := dk_seg dksX2_laysHead_0 22 rfl rfl
theorem dksX2_laysHead_2 : cX2_laysHead.data.toList.drop 46 = dktX2_laysHead_2 := dk_seg dksX2_laysHead_1 24 rfl rfl
theorem dksX2_laysHead_3 : cX2_laysHead.data.toList.drop 68 = dktX2_laysHead_3 := dk_seg dksX2_laysHead_2 22 rfl rfl
theorem dksX2_laysHead_4 : cX2_laysHead.data.toList.drop 91 = dktX2_laysHead_4 := dk_seg dksX2_laysHead_3 23 rfl rfl
theorem dksX2_laysHead_5 : cX2_laysHead.data.toList.drop 115 = dktX2_laysHead_5 := dk_seg dksX2_laysHead_4 24 rfl rfl
theorem dX2_laysHead_0 : decode cX2_laysHead 0 = .ok (.iconst 0, 1) := dk_3 (dk_at dksX2_laysHead_0 0 rfl rfl)
theorem dX2_laysHead_1 : decode cX2_laysHead 1 = .ok (.istore_n 3, 1) := dk_62 (dk_at dksX2_laysHead_0 1 rfl rfl)
theorem dX2_laysHead_2 : decode cX2_laysHead 2 = .ok (.iload_n 3, 1) := dk_29 (dk_at dksX2_laysHead_0 2 rfl rfl)
theorem dX2_laysHead_3 : decode cX2_laysHead 3 = .ok (.bipush 7, 2) := dk_16 7 (dk_at dksX2_laysHead_0 3 rfl rfl)
theorem dX2_laysHead_5 : decode cX2_laysHead 5 = .ok (.if_icmp .ge 16, 3) := dk_162 0 16 (dk_at dksX2_laysHead_0 5 rfl rfl)
theorem dX2_laysHead_8 : decode cX2_laysHead 8 = .ok (.aload_n 0, 1) := dk_42 (dk_at dksX2_laysHead_0 8 rfl rfl)
theorem dX2_laysHead_9 : decode cX2_laysHead 9 = .ok (.getfield 137, 3) := dk_180 0 137 (dk_at dksX2_laysHead_0 9 rfl rfl)
theorem dX2_laysHead_12 : decode cX2_laysHead 12 = .ok (.iload_n 3, 1) := dk_29 (dk_at dksX2_laysHead_0 12 rfl rfl)
theorem dX2_laysHead_13 : decode cX2_laysHead 13 = .ok (.iconst 0, 1) := dk_3 (dk_at dksX2_laysHead_0 13 rfl rfl)
theorem dX2_laysHead_14 : decode cX2_laysHead 14 = .ok (.iastore, 1) := dk_79 (dk_at dksX2_laysHead_0 14 rfl rfl)
theorem dX2_laysHead_15 : decode cX2_laysHead 15 = .ok (.iinc 3 1, 3) := dk_132 3 1 (dk_at dksX2_laysHead_0 15 rfl rfl)
theorem dX2_laysHead_18 : decode cX2_laysHead 18 = .ok (.goto (-16), 3) := dk_167 255 240 (dk_at dksX2_laysHead_0 18 rfl rfl)
theorem dX2_laysHead_21 : decode cX2_laysHead 21 = .ok (.iload_n 2, 1) := dk_28 (dk_at dksX2_laysHead_0 21 rfl rfl)
theorem dX2_laysHead_22 : decode cX2_laysHead 22 = .ok (.ifCond .ge 4, 3) := dk_156 0 4 (dk_at dksX2_laysHead_1 0 rfl rfl)
theorem dX2_laysHead_25 : decode cX2_laysHead 25 = .ok (.return_, 1) := dk_177 (dk_at dksX2_laysHead_1 3 rfl rfl)
theorem dX2_laysHead_26 : decode cX2_laysHead 26 = .ok (.aload_n 0, 1) := dk_42 (dk_at dksX2_laysHead_1 4 rfl rfl)
theorem dX2_laysHead_27 : decode cX2_laysHead 27 = .ok (.getfield 137, 3) := dk_180 0 137 (dk_at dksX2_laysHead_1 5 rfl rfl)
theorem dX2_laysHead_30 : decode cX2_laysHead 30 = .ok (.iconst 0, 1) := dk_3 (dk_at dksX2_laysHead_1 8 rfl rfl)
theorem dX2_laysHead_31 : decode cX2_laysHead 31 = .ok (.aload_n 0, 1) := dk_42 (dk_at dksX2_laysHead_1 9 rfl rfl)
theorem dX2_laysHead_32 : decode cX2_laysHead 32 = .ok (.aload_n 0, 1) := dk_42 (dk_at dksX2_laysHead_1 10 rfl rfl)
theorem dX2_laysHead_33 : decode cX2_laysHead 33 = .ok (.getfield 20, 3) := dk_180 0 20 (dk_at dksX2_laysHead_1 11 rfl rfl)
theorem dX2_laysHead_36 : decode cX2_laysHead 36 = .ok (.iload_n 1, 1) := dk_27 (dk_at dksX2_laysHead_1 14 rfl rfl)
theorem dX2_laysHead_37 : decode cX2_laysHead 37 = .ok (.iload_n 2, 1) := dk_28 (dk_at dksX2_laysHead_1 15 rfl rfl)
theorem dX2_laysHead_38 : decode cX2_laysHead 38 = .ok (.iadd, 1) := dk_96 (dk_at dksX2_laysHead_1 16 rfl rfl)
theorem dX2_laysHead_39 : decode cX2_laysHead 39 = .ok (.laload, 1) := dk_47 (dk_at dksX2_laysHead_1 17 rfl rfl)
theorem dX2_laysHead_40 : decode cX2_laysHead 40 = .ok (.invokevirtual 303, 3) := dk_182 1 47 (dk_at dksX2_laysHead_1 18 rfl rfl)
theorem dX2_laysHead_43 : decode cX2_laysHead 43 = .ok (.iastore, 1) := dk_79 (dk_at dksX2_laysHead_1 21 rfl rfl)
theorem dX2_laysHead_44 : decode cX2_laysHead 44 = .ok (.iconst 1, 1) := dk_4 (dk_at dksX2_laysHead_1 22 rfl rfl)
theorem dX2_laysHead_45 : decode cX2_laysHead 45 = .ok (.istore_n 3, 1) := dk_62 (dk_at dksX2_laysHead_1 23 rfl rfl)
theorem dX2_laysHead_46 : decode cX2_laysHead 46 = .ok (.iload_n 3, 1) := dk_29 (dk_at dksX2_laysHead_2 0 rfl rfl)
theorem dX2_laysHead_47 : decode cX2_laysHead 47 = .ok (.aload_n 0, 1) := dk_42 (dk_at dksX2_laysHead_2 1 rfl rfl)
theorem dX2_laysHead_48 : decode cX2_laysHead 48 = .ok (.getfield 300, 3) := dk_180 1 44 (dk_at dksX2_laysHead_2 2 rfl rfl)
theorem dX2_laysHead_51 : decode cX2_laysHead 51 = .ok (.if_icmp .ge 30, 3) := dk_162 0 30 (dk_at dksX2_laysHead_2 5 rfl rfl)
theorem dX2_laysHead_54 : decode cX2_laysHead 54 = .ok (.aload_n 0, 1) := dk_42 (dk_at dksX2_laysHead_2 8 rfl rfl)
theorem dX2_laysHead_55 : decode cX2_laysHead 55 = .ok (.getfield 137, 3) := dk_180 0 137 (dk_at dksX2_laysHead_2 9 rfl rfl)
theorem dX2_laysHead_58 : decode cX2_laysHead 58 = .ok (.iload_n 3, 1) := dk_29 (dk_at dksX2_laysHead_2 12 rfl rfl)
theorem dX2_laysHead_59 : decode cX2_laysHead 59 = .ok (.iload_n 2, 1) := dk_28 (dk_at dksX2_laysHead_2 13 rfl rfl)
theorem dX2_laysHead_60 : decode cX2_laysHead 60 = .ok (.aload_n 0, 1) := dk_42 (dk_at dksX2_laysHead_2 14 rfl rfl)
theorem dX2_laysHead_61 : decode cX2_laysHead 61 = .ok (.getfield 125, 3) := dk_180 0 125 (dk_at dksX2_laysHead_2 15 rfl rfl)
theorem dX2_laysHead_64 : decode cX2_laysHead 64 = .ok (.iload_n 3, 1) := dk_29 (dk_at dksX2_laysHead_2 18 rfl rfl)
theorem dX2_laysHead_65 : decode cX2_laysHead 65 = .ok (.iaload, 1) := dk_46 (dk_at dksX2_laysHead_2 19 rfl rfl)
theorem dX2_laysHead_66 : decode cX2_laysHead 66 = .ok (.idiv, 1) := dk_108 (dk_at dksX2_laysHead_2 20 rfl rfl)
theorem dX2_laysHead_67 : decode cX2_laysHead 67 = .ok (.aload_n 0, 1) := dk_42 (dk_at dksX2_laysHead_2 21 rfl rfl)
theorem dX2_laysHead_68 : decode cX2_laysHead 68 = .ok (.getfield 122, 3) := dk_180 0 122 (dk_at dksX2_laysHead_3 0 rfl rfl)
theorem dX2_laysHead_71 : decode cX2_laysHead 71 = .ok (.iload_n 3, 1) := dk_29 (dk_at dksX2_laysHead_3 3 rfl rfl)
theorem dX2_laysHead_72 : decode cX2_laysHead 72 = .ok (.iaload, 1) := dk_46 (dk_at dksX2_laysHead_3 4 rfl rfl)
theorem dX2_laysHead_73 : decode cX2_laysHead 73 = .ok (.irem, 1) := dk_112 (dk_at dksX2_laysHead_3 5 rfl rfl)
theorem dX2_laysHead_74 : decode cX2_laysHead 74 = .ok (.iastore, 1) := dk_79 (dk_at dksX2_laysHead_3 6 rfl rfl)
theorem dX2_laysHead_75 : decode cX2_laysHead 75 = .ok (.iinc 3 1, 3) := dk_132 3 1 (dk_at dksX2_laysHead_3 7 rfl rfl)
theorem dX2_laysHead_78 : decode cX2_laysHead 78 = .ok (.goto (-32), 3) := dk_167 255 224 (dk_at dksX2_laysHead_3 10 rfl rfl)
theorem dX2_laysHead_81 : decode cX2_laysHead 81 = .ok (.aload_n 0, 1) := dk_42 (dk_at dksX2_laysHead_3 13 rfl rfl)
theorem dX2_laysHead_82 : decode cX2_laysHead 82 = .ok (.getfield 20, 3) := dk_180 0 20 (dk_at dksX2_laysHead_3 14 rfl rfl)
theorem dX2_laysHead_85 : decode cX2_laysHead 85 = .ok (.iload_n 1, 1) := dk_27 (dk_at dksX2_laysHead_3 17 rfl rfl)
theorem dX2_laysHead_86 : decode cX2_laysHead 86 = .ok (.iload_n 2, 1) := dk_28 (dk_at dksX2_laysHead_3 18 rfl rfl)
theorem dX2_laysHead_87 : decode cX2_laysHead 87 = .ok (.iadd, 1) := dk_96 (dk_at dksX2_laysHead_3 19 rfl rfl)
theorem dX2_laysHead_88 : decode cX2_laysHead 88 = .ok (.laload, 1) := dk_47 (dk_at dksX2_laysHead_3 20 rfl rfl)
theorem dX2_laysHead_89 : decode cX2_laysHead 89 = .ok (.lstore_n 3, 1) := dk_66 (dk_at dksX2_laysHead_3 21 rfl rfl)
theorem dX2_laysHead_90 : decode cX2_laysHead 90 = .ok (.iconst 0, 1) := dk_3 (dk_at dksX2_laysHead_3 22 rfl rfl)
theorem dX2_laysHead_91 : decode cX2_laysHead 91 = .ok (.istore 5, 2) := dk_54 5 (dk_at dksX2_laysHead_4 0 rfl rfl)
theorem dX2_laysHead_93 : decode cX2_laysHead 93 = .ok (.iload 5, 2) := dk_21 5 (dk_at dksX2_laysHead_4 2 rfl rfl)
theorem dX2_laysHead_95 : decode cX2_laysHead 95 = .ok (.aload_n 0, 1) := dk_42 (dk_at dksX2_laysHead_4 4 rfl rfl)
theorem dX2_laysHead_96 : decode cX2_laysHead 96 = .ok (.getfield 137, 3) := dk_180 0 137 (dk_at dksX2_laysHead_4 5 rfl rfl)
theorem dX2_laysHead_99 : decode cX2_laysHead 99 = .ok (.iconst 0, 1) := dk_3 (dk_at dksX2_laysHead_4 8 rfl rfl)
theorem dX2_laysHead_100 : decode cX2_laysHead 100 = .ok (.iaload, 1) := dk_46 (dk_at dksX2_laysHead_4 9 rfl rfl)
theorem dX2_laysHead_101 : decode cX2_laysHead 101 = .ok (.if_icmp .ge 17, 3) := dk_162 0 17 (dk_at dksX2_laysHead_4 10 rfl rfl)
theorem dX2_laysHead_104 : decode cX2_laysHead 104 = .ok (.lload_n 3, 1) := dk_33 (dk_at dksX2_laysHead_4 13 rfl rfl)
theorem dX2_laysHead_105 : decode cX2_laysHead 105 = .ok (.aload_n 0, 1) := dk_42 (dk_at dksX2_laysHead_4 14 rfl rfl)
theorem dX2_laysHead_106 : decode cX2_laysHead 106 = .ok (.getfield 168, 3) := dk_180 0 168 (dk_at dksX2_laysHead_4 15 rfl rfl)
theorem dX2_laysHead_109 : decode cX2_laysHead 109 = .ok (.i2l, 1) := dk_133 (dk_at dksX2_laysHead_4 18 rfl rfl)
theorem dX2_laysHead_110 : decode cX2_laysHead 110 = .ok (.ldiv, 1) := dk_109 (dk_at dksX2_laysHead_4 19 rfl rfl)
theorem dX2_laysHead_111 : decode cX2_laysHead 111 = .ok (.lstore_n 3, 1) := dk_66 (dk_at dksX2_laysHead_4 20 rfl rfl)
theorem dX2_laysHead_112 : decode cX2_laysHead 112 = .ok (.iinc 5 1, 3) := dk_132 5 1 (dk_at dksX2_laysHead_4 21 rfl rfl)
theorem dX2_laysHead_115 : decode cX2_laysHead 115 = .ok (.goto (-22), 3) := dk_167 255 234 (dk_at dksX2_laysHead_5 0 rfl rfl)
theorem dX2_laysHead_118 : decode cX2_laysHead 118 = .ok (.aload_n 0, 1) := dk_42 (dk_at dksX2_laysHead_5 3 rfl rfl)
theorem dX2_laysHead_119 : decode cX2_laysHead 119 = .ok (.aload_n 0, 1) := dk_42 (dk_at dksX2_laysHead_5 4 rfl rfl)
theorem dX2_laysHead_120 : decode cX2_laysHead 120 = .ok (.lload_n 3, 1) := dk_33 (dk_at dksX2_laysHead_5 5 rfl rfl)
theorem dX2_laysHead_121 : decode cX2_laysHead 121 = .ok (.invokevirtual 268, 3) := dk_182 1 12 (dk_at dksX2_laysHead_5 6 rfl rfl)
theorem dX2_laysHead_124 : decode cX2_laysHead 124 = .ok (.putfield 309, 3) := dk_181 1 53 (dk_at dksX2_laysHead_5 9 rfl rfl)
theorem dX2_laysHead_127 : decode cX2_laysHead 127 = .ok (.return_, 1) := dk_177 (dk_at dksX2_laysHead_5 12 rfl rfl)
abbrev cX2_lift : ByteArray := prog_18_method_41_code
def yX2_lift : MethodName := ⟨RX2, "lift", "()I"⟩
def dkwX2_lift_1 : List UInt8 := [180, 0, 128, 42, 180, 1, 44, 4, 100, 46, 104, 172]
abbrev dktX2_lift_1 : List UInt8 := dkwX2_lift_1 ++ []
def dkwX2_lift_0 : List UInt8 := [42, 180, 1, 44, 4, 160, 0, 7, 3, 167, 0, 26, 42, 180, 0, 122, 42, 180, 1, 44, 4, 100, 46, 42]
abbrev dktX2_lift_0 : List UInt8 := dkwX2_lift_0 ++ dktX2_lift_1
theorem dksX2_lift_0 : cX2_lift.data.toList.drop 0 = dktX2_lift_0 := by decide +kernel
theorem dksX2_lift_1 : cX2_lift.data.toList.drop 24 = dktX2_lift_1 := dk_seg dksX2_lift_0 24 rfl rfl
theorem dX2_lift_0 : decode cX2_lift 0 = .ok (.aload_n 0, 1) := dk_42 (dk_at dksX2_lift_0 0 rfl rfl)
theorem dX2_lift_1 : decode cX2_lift 1 = .ok (.getfield 300, 3) := dk_180 1 44 (dk_at dksX2_lift_0 1 rfl rfl)
theorem dX2_lift_4 : decode cX2_lift 4 = .ok (.iconst 1, 1) := dk_4 (dk_at dksX2_lift_0 4 rfl rfl)
theorem dX2_lift_5 : decode cX2_lift 5 = .ok (.if_icmp .ne 7, 3) := dk_160 0 7 (dk_at dksX2_lift_0 5 rfl rfl)
theorem dX2_lift_8 : decode cX2_lift 8 = .ok (.iconst 0, 1) := dk_3 (dk_at dksX2_lift_0 8 rfl rfl)
theorem dX2_lift_9 : decode cX2_lift 9 = .ok (.goto 26, 3) := dk_167 0 26 (dk_at dksX2_lift_0 9 rfl rfl)
theorem dX2_lift_12 : decode cX2_lift 12 = .ok (.aload_n 0, 1) := dk_42 (dk_at dksX2_lift_0 12 rfl rfl)
theorem dX2_lift_13 : decode cX2_lift 13 = .ok (.getfield 122, 3) := dk_180 0 122 (dk_at dksX2_lift_0 13 rfl rfl)
theorem dX2_lift_16 : decode cX2_lift 16 = .ok (.aload_n 0, 1) := dk_42 (dk_at dksX2_lift_0 16 rfl rfl)
theorem dX2_lift_17 : decode cX2_lift 17 = .ok (.getfield 300, 3) := dk_180 1 44 (dk_at dksX2_lift_0 17 rfl rfl)
theorem dX2_lift_20 : decode cX2_lift 20 = .ok (.iconst 1, 1) := dk_4 (dk_at dksX2_lift_0 20 rfl rfl)
theorem dX2_lift_21 : decode cX2_lift 21 = .ok (.isub, 1) := dk_100 (dk_at dksX2_lift_0 21 rfl rfl)
theorem dX2_lift_22 : decode cX2_lift 22 = .ok (.iaload, 1) := dk_46 (dk_at dksX2_lift_0 22 rfl rfl)
theorem dX2_lift_23 : decode cX2_lift 23 = .ok (.aload_n 0, 1) := dk_42 (dk_at dksX2_lift_0 23 rfl rfl)
theorem dX2_lift_24 : decode cX2_lift 24 = .ok (.getfield 128, 3) := dk_180 0 128 (dk_at dksX2_lift_1 0 rfl rfl)
theorem dX2_lift_27 : decode cX2_lift 27 = .ok (.aload_n 0, 1) := dk_42 (dk_at dksX2_lift_1 3 rfl rfl)
theorem dX2_lift_28 : decode cX2_lift 28 = .ok (.getfield 300, 3) := dk_180 1 44 (dk_at dksX2_lift_1 4 rfl rfl)
theorem dX2_lift_31 : decode cX2_lift 31 = .ok (.iconst 1, 1) := dk_4 (dk_at dksX2_lift_1 7 rfl rfl)
theorem dX2_lift_32 : decode cX2_lift 32 = .ok (.isub, 1) := dk_100 (dk_at dksX2_lift_1 8 rfl rfl)
theorem dX2_lift_33 : decode cX2_lift 33 = .ok (.iaload, 1) := dk_46 (dk_at dksX2_lift_1 9 rfl rfl)
theorem dX2_lift_34 : decode cX2_lift 34 = .ok (.imul, 1) := dk_104 (dk_at dksX2_lift_1 10 rfl rfl)
theorem dX2_lift_35 : decode cX2_lift 35 = .ok (.ireturn, 1) := dk_172 (dk_at dksX2_lift_1 11 rfl rfl)
abbrev cX2_laysSides : ByteArray := prog_18_method_52_code
def yX2_laysSides : MethodName := ⟨RX2, "laysSides", "(I)V"⟩
def dkwX2_laysSides_10 : List UInt8 := [42, 180, 0, 59, 27, 42, 180, 1, 69, 42, 180, 0, 56, 27, 46, 100, 79, 177]
abbrev dktX2_laysSides_10 : List UInt8 := dkwX2_laysSides_10 ++ []
def dkwX2_laysSides_9 : List UInt8 := [158, 0, 8, 21, 10, 167, 0, 4, 3, 96, 79, 132, 8, 1, 167, 255, 187, 21, 6, 54, 5, 167, 255, 124]
abbrev dktX2_laysSides_9 : List UInt8 := dkwX2_laysSides_9 ++ dktX2_laysSides_10
def dkwX2_laysSides_8 : List UInt8 := [42, 27, 21, 5, 182, 1, 66, 21, 9, 100, 21, 4, 100, 54, 10, 42, 180, 0, 65, 27, 92, 46, 21, 10]
abbrev dktX2_laysSides_8 : List UInt8 := dkwX2_laysSides_8 ++ dktX2_laysSides_9
def dkwX2_laysSides_7 : List UInt8 := [21, 7, 21, 8, 21, 5, 100, 104, 21, 6, 96, 21, 5, 100, 4, 100, 21, 6, 21, 5, 100, 108, 54, 9]
abbrev dktX2_laysSides_7 : List UInt8 := dkwX2_laysSides_7 ++ dktX2_laysSides_8
def dkwX2_laysSides_6 : List UInt8 := [54, 7, 21, 5, 4, 162, 0, 7, 4, 167, 0, 5, 21, 5, 54, 8, 21, 8, 21, 6, 162, 0, 68]
abbrev dktX2_laysSides_6 : List UInt8 := dkwX2_laysSides_6 ++ dktX2_laysSides_7
def dkwX2_laysSides_5 : List UInt8 := [42, 27, 21, 5, 21, 6, 182, 1, 76, 42, 27, 21, 5, 182, 1, 66, 42, 27, 21, 6, 182, 1, 66, 100]
abbrev dktX2_laysSides_5 : List UInt8 := dkwX2_laysSides_5 ++ dktX2_laysSides_6
def dkwX2_laysSides_4 : List UInt8 := [182, 1, 66, 54, 4, 28, 54, 5, 21, 5, 29, 162, 0, 132, 42, 27, 21, 5, 29, 182, 1, 72, 54, 6]
abbrev dktX2_laysSides_4 : List UInt8 := dkwX2_laysSides_4 ++ dktX2_laysSides_5
def dkwX2_laysSides_3 : List UInt8 := [182, 1, 66, 162, 0, 8, 21, 4, 167, 0, 4, 29, 62, 132, 4, 1, 167, 255, 200, 42, 27, 29]
abbrev dktX2_laysSides_3 : List UInt8 := dkwX2_laysSides_3 ++ dktX2_laysSides_4
def dkwX2_laysSides_2 : List UInt8 := [155, 0, 33, 42, 27, 29, 182, 1, 66, 155, 0, 19, 42, 27, 21, 4, 182, 1, 66, 42, 27, 29]
abbrev dktX2_laysSides_2 : List UInt8 := dkwX2_laysSides_2 ++ dktX2_laysSides_3
def dkwX2_laysSides_1 : List UInt8 := [28, 62, 28, 54, 4, 21, 4, 42, 180, 0, 50, 27, 46, 163, 0, 51, 42, 27, 21, 4, 182, 1, 66]
abbrev dktX2_laysSides_1 : List UInt8 := dkwX2_laysSides_1 ++ dktX2_laysSides_2
def dkwX2_laysSides_0 : List UInt8 := [42, 180, 0, 56, 27, 42, 180, 1, 69, 79, 42, 180, 0, 65, 27, 3, 79, 42, 180, 0, 62, 27, 46, 61]
abbrev dktX2_laysSides_0 : List UInt8 := dkwX2_laysSides_0 ++ dktX2_laysSides_1
theorem dksX2_laysSides_0 : cX2_laysSides.data.toList.drop 0 = dktX2_laysSides_0 := by decide +kernel
theorem dksX2_laysSides_1 : cX2_laysSides.data.toList.drop 24 = dktX2_laysSides_1 := dk_seg dksX2_laysSides_0 24 rfl rfl
theorem dksX2_laysSides_2 : cX2_laysSides.data.toList.drop 47 = dktX2_laysSides_2 := dk_seg dksX2_laysSides_1 23 rfl rfl
theorem dksX2_laysSides_3 : cX2_laysSides.data.toList.drop 69 = dktX2_laysSides_3 := dk_seg dksX2_laysSides_2 22 rfl rfl
theorem dksX2_laysSides_4 : cX2_laysSides.data.toList.drop 91 = dktX2_laysSides_4 := dk_seg dksX2_laysSides_3 22 rfl rfl
theorem dksX2_laysSides_5 : cX2_laysSides.data.toList.drop 115 = dktX2_laysSides_5 := dk_seg dksX2_laysSides_4 24 rfl rfl
theorem dksX2_laysSides_6 : cX2_laysSides.data.toList.drop 139 = dktX2_laysSides_6 := dk_seg dksX2_laysSides_5 24 rfl rfl
theorem dksX2_laysSides_7 : cX2_laysSides.data.toList.drop 162 = dktX2_laysSides_7 := dk_seg dksX2_laysSides_6 23 rfl rfl
theorem dksX2_laysSides_8 : cX2_laysSides.data.toList.drop 186 = dktX2_laysSides_8 := dk_seg dksX2_laysSides_7 24 rfl rfl
theorem dksX2_laysSides_9 : cX2_laysSides.data.toList.drop 210 = dktX2_laysSides_9 := dk_seg dksX2_laysSides_8 24 rfl rfl
theorem dksX2_laysSides_10 : cX2_laysSides.data.toList.drop 234 = dktX2_laysSides_10 := dk_seg dksX2_laysSides_9 24 rfl rfl
theorem dX2_laysSides_0 : decode cX2_laysSides 0 = .ok (.aload_n 0, 1) := dk_42 (dk_at dksX2_laysSides_0 0 rfl rfl)
theorem dX2_laysSides_1 : decode cX2_laysSides 1 = .ok (.getfield 56, 3) := dk_180 0 56 (dk_at dksX2_laysSides_0 1 rfl rfl)
theorem dX2_laysSides_4 : decode cX2_laysSides 4 = .ok (.iload_n 1, 1) := dk_27 (dk_at dksX2_laysSides_0 4 rfl rfl)
theorem dX2_laysSides_5 : decode cX2_laysSides 5 = .ok (.aload_n 0, 1) := dk_42 (dk_at dksX2_laysSides_0 5 rfl rfl)
theorem dX2_laysSides_6 : decode cX2_laysSides 6 = .ok (.getfield 325, 3) := dk_180 1 69 (dk_at dksX2_laysSides_0 6 rfl rfl)
theorem dX2_laysSides_9 : decode cX2_laysSides 9 = .ok (.iastore, 1) := dk_79 (dk_at dksX2_laysSides_0 9 rfl rfl)
theorem dX2_laysSides_10 : decode cX2_laysSides 10 = .ok (.aload_n 0, 1) := dk_42 (dk_at dksX2_laysSides_0 10 rfl rfl)
theorem dX2_laysSides_11 : decode cX2_laysSides 11 = .ok (.getfield 65, 3) := dk_180 0 65 (dk_at dksX2_laysSides_0 11 rfl rfl)
theorem dX2_laysSides_14 : decode cX2_laysSides 14 = .ok (.iload_n 1, 1) := dk_27 (dk_at dksX2_laysSides_0 14 rfl rfl)
theorem dX2_laysSides_15 : decode cX2_laysSides 15 = .ok (.iconst 0, 1) := dk_3 (dk_at dksX2_laysSides_0 15 rfl rfl)
theorem dX2_laysSides_16 : decode cX2_laysSides 16 = .ok (.iastore, 1) := dk_79 (dk_at dksX2_laysSides_0 16 rfl rfl)
theorem dX2_laysSides_17 : decode cX2_laysSides 17 = .ok (.aload_n 0, 1) := dk_42 (dk_at dksX2_laysSides_0 17 rfl rfl)
theorem dX2_laysSides_18 : decode cX2_laysSides 18 = .ok (.getfield 62, 3) := dk_180 0 62 (dk_at dksX2_laysSides_0 18 rfl rfl)
theorem dX2_laysSides_21 : decode cX2_laysSides 21 = .ok (.iload_n 1, 1) := dk_27 (dk_at dksX2_laysSides_0 21 rfl rfl)
theorem dX2_laysSides_22 : decode cX2_laysSides 22 = .ok (.iaload, 1) := dk_46 (dk_at dksX2_laysSides_0 22 rfl rfl)
theorem dX2_laysSides_23 : decode cX2_laysSides 23 = .ok (.istore_n 2, 1) := dk_61 (dk_at dksX2_laysSides_0 23 rfl rfl)
theorem dX2_laysSides_24 : decode cX2_laysSides 24 = .ok (.iload_n 2, 1) := dk_28 (dk_at dksX2_laysSides_1 0 rfl rfl)
theorem dX2_laysSides_25 : decode cX2_laysSides 25 = .ok (.istore_n 3, 1) := dk_62 (dk_at dksX2_laysSides_1 1 rfl rfl)
theorem dX2_laysSides_26 : decode cX2_laysSides 26 = .ok (.iload_n 2, 1) := dk_28 (dk_at dksX2_laysSides_1 2 rfl rfl)
theorem dX2_laysSides_27 : decode cX2_laysSides 27 = .ok (.istore 4, 2) := dk_54 4 (dk_at dksX2_laysSides_1 3 rfl rfl)
theorem dX2_laysSides_29 : decode cX2_laysSides 29 = .ok (.iload 4, 2) := dk_21 4 (dk_at dksX2_laysSides_1 5 rfl rfl)
theorem dX2_laysSides_31 : decode cX2_laysSides 31 = .ok (.aload_n 0, 1) := dk_42 (dk_at dksX2_laysSides_1 7 rfl rfl)
theorem dX2_laysSides_32 : decode cX2_laysSides 32 = .ok (.getfield 50, 3) := dk_180 0 50 (dk_at dksX2_laysSides_1 8 rfl rfl)
theorem dX2_laysSides_35 : decode cX2_laysSides 35 = .ok (.iload_n 1, 1) := dk_27 (dk_at dksX2_laysSides_1 11 rfl rfl)
theorem dX2_laysSides_36 : decode cX2_laysSides 36 = .ok (.iaload, 1) := dk_46 (dk_at dksX2_laysSides_1 12 rfl rfl)
theorem dX2_laysSides_37 : decode cX2_laysSides 37 = .ok (.if_icmp .gt 51, 3) := dk_163 0 51 (dk_at dksX2_laysSides_1 13 rfl rfl)
theorem dX2_laysSides_40 : decode cX2_laysSides 40 = .ok (.aload_n 0, 1) := dk_42 (dk_at dksX2_laysSides_1 16 rfl rfl)
theorem dX2_laysSides_41 : decode cX2_laysSides 41 = .ok (.iload_n 1, 1) := dk_27 (dk_at dksX2_laysSides_1 17 rfl rfl)
theorem dX2_laysSides_42 : decode cX2_laysSides 42 = .ok (.iload 4, 2) := dk_21 4 (dk_at dksX2_laysSides_1 18 rfl rfl)
theorem dX2_laysSides_44 : decode cX2_laysSides 44 = .ok (.invokevirtual 322, 3) := dk_182 1 66 (dk_at dksX2_laysSides_1 20 rfl rfl)
theorem dX2_laysSides_47 : decode cX2_laysSides 47 = .ok (.ifCond .lt 33, 3) := dk_155 0 33 (dk_at dksX2_laysSides_2 0 rfl rfl)
theorem dX2_laysSides_50 : decode cX2_laysSides 50 = .ok (.aload_n 0, 1) := dk_42 (dk_at dksX2_laysSides_2 3 rfl rfl)
theorem dX2_laysSides_51 : decode cX2_laysSides 51 = .ok (.iload_n 1, 1) := dk_27 (dk_at dksX2_laysSides_2 4 rfl rfl)
theorem dX2_laysSides_52 : decode cX2_laysSides 52 = .ok (.iload_n 3, 1) := dk_29 (dk_at dksX2_laysSides_2 5 rfl rfl)
theorem dX2_laysSides_53 : decode cX2_laysSides 53 = .ok (.invokevirtual 322, 3) := dk_182 1 66 (dk_at dksX2_laysSides_2 6 rfl rfl)
theorem dX2_laysSides_56 : decode cX2_laysSides 56 = .ok (.ifCond .lt 19, 3) := dk_155 0 19 (dk_at dksX2_laysSides_2 9 rfl rfl)
theorem dX2_laysSides_59 : decode cX2_laysSides 59 = .ok (.aload_n 0, 1) := dk_42 (dk_at dksX2_laysSides_2 12 rfl rfl)
theorem dX2_laysSides_60 : decode cX2_laysSides 60 = .ok (.iload_n 1, 1) := dk_27 (dk_at dksX2_laysSides_2 13 rfl rfl)
theorem dX2_laysSides_61 : decode cX2_laysSides 61 = .ok (.iload 4, 2) := dk_21 4 (dk_at dksX2_laysSides_2 14 rfl rfl)
theorem dX2_laysSides_63 : decode cX2_laysSides 63 = .ok (.invokevirtual 322, 3) := dk_182 1 66 (dk_at dksX2_laysSides_2 16 rfl rfl)
theorem dX2_laysSides_66 : decode cX2_laysSides 66 = .ok (.aload_n 0, 1) := dk_42 (dk_at dksX2_laysSides_2 19 rfl rfl)
theorem dX2_laysSides_67 : decode cX2_laysSides 67 = .ok (.iload_n 1, 1) := dk_27 (dk_at dksX2_laysSides_2 20 rfl rfl)
theorem dX2_laysSides_68 : decode cX2_laysSides 68 = .ok (.iload_n 3, 1) := dk_29 (dk_at dksX2_laysSides_2 21 rfl rfl)
theorem dX2_laysSides_69 : decode cX2_laysSides 69 = .ok (.invokevirtual 322, 3) := dk_182 1 66 (dk_at dksX2_laysSides_3 0 rfl rfl)
theorem dX2_laysSides_72 : decode cX2_laysSides 72 = .ok (.if_icmp .ge 8, 3) := dk_162 0 8 (dk_at dksX2_laysSides_3 3 rfl rfl)
theorem dX2_laysSides_75 : decode cX2_laysSides 75 = .ok (.iload 4, 2) := dk_21 4 (dk_at dksX2_laysSides_3 6 rfl rfl)
theorem dX2_laysSides_77 : decode cX2_laysSides 77 = .ok (.goto 4, 3) := dk_167 0 4 (dk_at dksX2_laysSides_3 8 rfl rfl)
theorem dX2_laysSides_80 : decode cX2_laysSides 80 = .ok (.iload_n 3, 1) := dk_29 (dk_at dksX2_laysSides_3 11 rfl rfl)
theorem dX2_laysSides_81 : decode cX2_laysSides 81 = .ok (.istore_n 3, 1) := dk_62 (dk_at dksX2_laysSides_3 12 rfl rfl)
theorem dX2_laysSides_82 : decode cX2_laysSides 82 = .ok (.iinc 4 1, 3) := dk_132 4 1 (dk_at dksX2_laysSides_3 13 rfl rfl)
theorem dX2_laysSides_85 : decode cX2_laysSides 85 = .ok (.goto (-56), 3) := dk_167 255 200 (dk_at dksX2_laysSides_3 16 rfl rfl)
theorem dX2_laysSides_88 : decode cX2_laysSides 88 = .ok (.aload_n 0, 1) := dk_42 (dk_at dksX2_laysSides_3 19 rfl rfl)
theorem dX2_laysSides_89 : decode cX2_laysSides 89 = .ok (.iload_n 1, 1) := dk_27 (dk_at dksX2_laysSides_3 20 rfl rfl)
theorem dX2_laysSides_90 : decode cX2_laysSides 90 = .ok (.iload_n 3, 1) := dk_29 (dk_at dksX2_laysSides_3 21 rfl rfl)
theorem dX2_laysSides_91 : decode cX2_laysSides 91 = .ok (.invokevirtual 322, 3) := dk_182 1 66 (dk_at dksX2_laysSides_4 0 rfl rfl)
theorem dX2_laysSides_94 : decode cX2_laysSides 94 = .ok (.istore 4, 2) := dk_54 4 (dk_at dksX2_laysSides_4 3 rfl rfl)
theorem dX2_laysSides_96 : decode cX2_laysSides 96 = .ok (.iload_n 2, 1) := dk_28 (dk_at dksX2_laysSides_4 5 rfl rfl)
theorem dX2_laysSides_97 : decode cX2_laysSides 97 = .ok (.istore 5, 2) := dk_54 5 (dk_at dksX2_laysSides_4 6 rfl rfl)
theorem dX2_laysSides_99 : decode cX2_laysSides 99 = .ok (.iload 5, 2) := dk_21 5 (dk_at dksX2_laysSides_4 8 rfl rfl)
theorem dX2_laysSides_101 : decode cX2_laysSides 101 = .ok (.iload_n 3, 1) := dk_29 (dk_at dksX2_laysSides_4 10 rfl rfl)
theorem dX2_laysSides_102 : decode cX2_laysSides 102 = .ok (.if_icmp .ge 132, 3) := dk_162 0 132 (dk_at dksX2_laysSides_4 11 rfl rfl)
theorem dX2_laysSides_105 : decode cX2_laysSides 105 = .ok (.aload_n 0, 1) := dk_42 (dk_at dksX2_laysSides_4 14 rfl rfl)
theorem dX2_laysSides_106 : decode cX2_laysSides 106 = .ok (.iload_n 1, 1) := dk_27 (dk_at dksX2_laysSides_4 15 rfl rfl)
theorem dX2_laysSides_107 : decode cX2_laysSides 107 = .ok (.iload 5, 2) := dk_21 5 (dk_at dksX2_laysSides_4 16 rfl rfl)
theorem dX2_laysSides_109 : decode cX2_laysSides 109 = .ok (.iload_n 3, 1) := dk_29 (dk_at dksX2_laysSides_4 18 rfl rfl)
theorem dX2_laysSides_110 : decode cX2_laysSides 110 = .ok (.invokevirtual 328, 3) := dk_182 1 72 (dk_at dksX2_laysSides_4 19 rfl rfl)
theorem dX2_laysSides_113 : decode cX2_laysSides 113 = .ok (.istore 6, 2) := dk_54 6 (dk_at dksX2_laysSides_4 22 rfl rfl)
theorem dX2_laysSides_115 : decode cX2_laysSides 115 = .ok (.aload_n 0, 1) := dk_42 (dk_at dksX2_laysSides_5 0 rfl rfl)
theorem dX2_laysSides_116 : decode cX2_laysSides 116 = .ok (.iload_n 1, 1) := dk_27 (dk_at dksX2_laysSides_5 1 rfl rfl)
theorem dX2_laysSides_117 : decode cX2_laysSides 117 = .ok (.iload 5, 2) := dk_21 5 (dk_at dksX2_laysSides_5 2 rfl rfl)
theorem dX2_laysSides_119 : decode cX2_laysSides 119 = .ok (.iload 6, 2) := dk_21 6 (dk_at dksX2_laysSides_5 4 rfl rfl)
theorem dX2_laysSides_121 : decode cX2_laysSides 121 = .ok (.invokevirtual 332, 3) := dk_182 1 76 (dk_at dksX2_laysSides_5 6 rfl rfl)
theorem dX2_laysSides_124 : decode cX2_laysSides 124 = .ok (.aload_n 0, 1) := dk_42 (dk_at dksX2_laysSides_5 9 rfl rfl)
theorem dX2_laysSides_125 : decode cX2_laysSides 125 = .ok (.iload_n 1, 1) := dk_27 (dk_at dksX2_laysSides_5 10 rfl rfl)
theorem dX2_laysSides_126 : decode cX2_laysSides 126 = .ok (.iload 5, 2) := dk_21 5 (dk_at dksX2_laysSides_5 11 rfl rfl)
theorem dX2_laysSides_128 : decode cX2_laysSides 128 = .ok (.invokevirtual 322, 3) := dk_182 1 66 (dk_at dksX2_laysSides_5 13 rfl rfl)
theorem dX2_laysSides_131 : decode cX2_laysSides 131 = .ok (.aload_n 0, 1) := dk_42 (dk_at dksX2_laysSides_5 16 rfl rfl)
theorem dX2_laysSides_132 : decode cX2_laysSides 132 = .ok (.iload_n 1, 1) := dk_27 (dk_at dksX2_laysSides_5 17 rfl rfl)
theorem dX2_laysSides_133 : decode cX2_laysSides 133 = .ok (.iload 6, 2) := dk_21 6 (dk_at dksX2_laysSides_5 18 rfl rfl)
theorem dX2_laysSides_135 : decode cX2_laysSides 135 = .ok (.invokevirtual 322, 3) := dk_182 1 66 (dk_at dksX2_laysSides_5 20 rfl rfl)
theorem dX2_laysSides_138 : decode cX2_laysSides 138 = .ok (.isub, 1) := dk_100 (dk_at dksX2_laysSides_5 23 rfl rfl)
theorem dX2_laysSides_139 : decode cX2_laysSides 139 = .ok (.istore 7, 2) := dk_54 7 (dk_at dksX2_laysSides_6 0 rfl rfl)
theorem dX2_laysSides_141 : decode cX2_laysSides 141 = .ok (.iload 5, 2) := dk_21 5 (dk_at dksX2_laysSides_6 2 rfl rfl)
theorem dX2_laysSides_143 : decode cX2_laysSides 143 = .ok (.iconst 1, 1) := dk_4 (dk_at dksX2_laysSides_6 4 rfl rfl)
theorem dX2_laysSides_144 : decode cX2_laysSides 144 = .ok (.if_icmp .ge 7, 3) := dk_162 0 7 (dk_at dksX2_laysSides_6 5 rfl rfl)
theorem dX2_laysSides_147 : decode cX2_laysSides 147 = .ok (.iconst 1, 1) := dk_4 (dk_at dksX2_laysSides_6 8 rfl rfl)
theorem dX2_laysSides_148 : decode cX2_laysSides 148 = .ok (.goto 5, 3) := dk_167 0 5 (dk_at dksX2_laysSides_6 9 rfl rfl)
theorem dX2_laysSides_151 : decode cX2_laysSides 151 = .ok (.iload 5, 2) := dk_21 5 (dk_at dksX2_laysSides_6 12 rfl rfl)
theorem dX2_laysSides_153 : decode cX2_laysSides 153 = .ok (.istore 8, 2) := dk_54 8 (dk_at dksX2_laysSides_6 14 rfl rfl)
theorem dX2_laysSides_155 : decode cX2_laysSides 155 = .ok (.iload 8, 2) := dk_21 8 (dk_at dksX2_laysSides_6 16 rfl rfl)
theorem dX2_laysSides_157 : decode cX2_laysSides 157 = .ok (.iload 6, 2) := dk_21 6 (dk_at dksX2_laysSides_6 18 rfl rfl)
theorem dX2_laysSides_159 : decode cX2_laysSides 159 = .ok (.if_icmp .ge 68, 3) := dk_162 0 68 (dk_at dksX2_laysSides_6 20 rfl rfl)
theorem dX2_laysSides_162 : decode cX2_laysSides 162 = .ok (.iload 7, 2) := dk_21 7 (dk_at dksX2_laysSides_7 0 rfl rfl)
theorem dX2_laysSides_164 : decode cX2_laysSides 164 = .ok (.iload 8, 2) := dk_21 8 (dk_at dksX2_laysSides_7 2 rfl rfl)
theorem dX2_laysSides_166 : decode cX2_laysSides 166 = .ok (.iload 5, 2) := dk_21 5 (dk_at dksX2_laysSides_7 4 rfl rfl)
theorem dX2_laysSides_168 : decode cX2_laysSides 168 = .ok (.isub, 1) := dk_100 (dk_at dksX2_laysSides_7 6 rfl rfl)
theorem dX2_laysSides_169 : decode cX2_laysSides 169 = .ok (.imul, 1) := dk_104 (dk_at dksX2_laysSides_7 7 rfl rfl)
theorem dX2_laysSides_170 : decode cX2_laysSides 170 = .ok (.iload 6, 2) := dk_21 6 (dk_at dksX2_laysSides_7 8 rfl rfl)
theorem dX2_laysSides_172 : decode cX2_laysSides 172 = .ok (.iadd, 1) := dk_96 (dk_at dksX2_laysSides_7 10 rfl rfl)
theorem dX2_laysSides_173 : decode cX2_laysSides 173 = .ok (.iload 5, 2) := dk_21 5 (dk_at dksX2_laysSides_7 11 rfl rfl)
theorem dX2_laysSides_175 : decode cX2_laysSides 175 = .ok (.isub, 1) := dk_100 (dk_at dksX2_laysSides_7 13 rfl rfl)
theorem dX2_laysSides_176 : decode cX2_laysSides 176 = .ok (.iconst 1, 1) := dk_4 (dk_at dksX2_laysSides_7 14 rfl rfl)
theorem dX2_laysSides_177 : decode cX2_laysSides 177 = .ok (.isub, 1) := dk_100 (dk_at dksX2_laysSides_7 15 rfl rfl)
theorem dX2_laysSides_178 : decode cX2_laysSides 178 = .ok (.iload 6, 2) := dk_21 6 (dk_at dksX2_laysSides_7 16 rfl rfl)
theorem dX2_laysSides_180 : decode cX2_laysSides 180 = .ok (.iload 5, 2) := dk_21 5 (dk_at dksX2_laysSides_7 18 rfl rfl)
theorem dX2_laysSides_182 : decode cX2_laysSides 182 = .ok (.isub, 1) := dk_100 (dk_at dksX2_laysSides_7 20 rfl rfl)
theorem dX2_laysSides_183 : decode cX2_laysSides 183 = .ok (.idiv, 1) := dk_108 (dk_at dksX2_laysSides_7 21 rfl rfl)
theorem dX2_laysSides_184 : decode cX2_laysSides 184 = .ok (.istore 9, 2) := dk_54 9 (dk_at dksX2_laysSides_7 22 rfl rfl)
theorem dX2_laysSides_186 : decode cX2_laysSides 186 = .ok (.aload_n 0, 1) := dk_42 (dk_at dksX2_laysSides_8 0 rfl rfl)
theorem dX2_laysSides_187 : decode cX2_laysSides 187 = .ok (.iload_n 1, 1) := dk_27 (dk_at dksX2_laysSides_8 1 rfl rfl)
theorem dX2_laysSides_188 : decode cX2_laysSides 188 = .ok (.iload 5, 2) := dk_21 5 (dk_at dksX2_laysSides_8 2 rfl rfl)
theorem dX2_laysSides_190 : decode cX2_laysSides 190 = .ok (.invokevirtual 322, 3) := dk_182 1 66 (dk_at dksX2_laysSides_8 4 rfl rfl)
theorem dX2_laysSides_193 : decode cX2_laysSides 193 = .ok (.iload 9, 2) := dk_21 9 (dk_at dksX2_laysSides_8 7 rfl rfl)
theorem dX2_laysSides_195 : decode cX2_laysSides 195 = .ok (.isub, 1) := dk_100 (dk_at dksX2_laysSides_8 9 rfl rfl)
theorem dX2_laysSides_196 : decode cX2_laysSides 196 = .ok (.iload 4, 2) := dk_21 4 (dk_at dksX2_laysSides_8 10 rfl rfl)
theorem dX2_laysSides_198 : decode cX2_laysSides 198 = .ok (.isub, 1) := dk_100 (dk_at dksX2_laysSides_8 12 rfl rfl)
theorem dX2_laysSides_199 : decode cX2_laysSides 199 = .ok (.istore 10, 2) := dk_54 10 (dk_at dksX2_laysSides_8 13 rfl rfl)
theorem dX2_laysSides_201 : decode cX2_laysSides 201 = .ok (.aload_n 0, 1) := dk_42 (dk_at dksX2_laysSides_8 15 rfl rfl)
theorem dX2_laysSides_202 : decode cX2_laysSides 202 = .ok (.getfield 65, 3) := dk_180 0 65 (dk_at dksX2_laysSides_8 16 rfl rfl)
theorem dX2_laysSides_205 : decode cX2_laysSides 205 = .ok (.iload_n 1, 1) := dk_27 (dk_at dksX2_laysSides_8 19 rfl rfl)
theorem dX2_laysSides_206 : decode cX2_laysSides 206 = .ok (.dup2, 1) := dk_92 (dk_at dksX2_laysSides_8 20 rfl rfl)
theorem dX2_laysSides_207 : decode cX2_laysSides 207 = .ok (.iaload, 1) := dk_46 (dk_at dksX2_laysSides_8 21 rfl rfl)
theorem dX2_laysSides_208 : decode cX2_laysSides 208 = .ok (.iload 10, 2) := dk_21 10 (dk_at dksX2_laysSides_8 22 rfl rfl)
theorem dX2_laysSides_210 : decode cX2_laysSides 210 = .ok (.ifCond .le 8, 3) := dk_158 0 8 (dk_at dksX2_laysSides_9 0 rfl rfl)
theorem dX2_laysSides_213 : decode cX2_laysSides 213 = .ok (.iload 10, 2) := dk_21 10 (dk_at dksX2_laysSides_9 3 rfl rfl)
theorem dX2_laysSides_215 : decode cX2_laysSides 215 = .ok (.goto 4, 3) := dk_167 0 4 (dk_at dksX2_laysSides_9 5 rfl rfl)
theorem dX2_laysSides_218 : decode cX2_laysSides 218 = .ok (.iconst 0, 1) := dk_3 (dk_at dksX2_laysSides_9 8 rfl rfl)
theorem dX2_laysSides_219 : decode cX2_laysSides 219 = .ok (.iadd, 1) := dk_96 (dk_at dksX2_laysSides_9 9 rfl rfl)
theorem dX2_laysSides_220 : decode cX2_laysSides 220 = .ok (.iastore, 1) := dk_79 (dk_at dksX2_laysSides_9 10 rfl rfl)
theorem dX2_laysSides_221 : decode cX2_laysSides 221 = .ok (.iinc 8 1, 3) := dk_132 8 1 (dk_at dksX2_laysSides_9 11 rfl rfl)
theorem dX2_laysSides_224 : decode cX2_laysSides 224 = .ok (.goto (-69), 3) := dk_167 255 187 (dk_at dksX2_laysSides_9 14 rfl rfl)
theorem dX2_laysSides_227 : decode cX2_laysSides 227 = .ok (.iload 6, 2) := dk_21 6 (dk_at dksX2_laysSides_9 17 rfl rfl)
theorem dX2_laysSides_229 : decode cX2_laysSides 229 = .ok (.istore 5, 2) := dk_54 5 (dk_at dksX2_laysSides_9 19 rfl rfl)
theorem dX2_laysSides_231 : decode cX2_laysSides 231 = .ok (.goto (-132), 3) := dk_167 255 124 (dk_at dksX2_laysSides_9 21 rfl rfl)
theorem dX2_laysSides_234 : decode cX2_laysSides 234 = .ok (.aload_n 0, 1) := dk_42 (dk_at dksX2_laysSides_10 0 rfl rfl)
theorem dX2_laysSides_235 : decode cX2_laysSides 235 = .ok (.getfield 59, 3) := dk_180 0 59 (dk_at dksX2_laysSides_10 1 rfl rfl)
theorem dX2_laysSides_238 : decode cX2_laysSides 238 = .ok (.iload_n 1, 1) := dk_27 (dk_at dksX2_laysSides_10 4 rfl rfl)
theorem dX2_laysSides_239 : decode cX2_laysSides 239 = .ok (.aload_n 0, 1) := dk_42 (dk_at dksX2_laysSides_10 5 rfl rfl)
theorem dX2_laysSides_240 : decode cX2_laysSides 240 = .ok (.getfield 325, 3) := dk_180 1 69 (dk_at dksX2_laysSides_10 6 rfl rfl)
theorem dX2_laysSides_243 : decode cX2_laysSides 243 = .ok (.aload_n 0, 1) := dk_42 (dk_at dksX2_laysSides_10 9 rfl rfl)
theorem dX2_laysSides_244 : decode cX2_laysSides 244 = .ok (.getfield 56, 3) := dk_180 0 56 (dk_at dksX2_laysSides_10 10 rfl rfl)
theorem dX2_laysSides_247 : decode cX2_laysSides 247 = .ok (.iload_n 1, 1) := dk_27 (dk_at dksX2_laysSides_10 13 rfl rfl)
theorem dX2_laysSides_248 : decode cX2_laysSides 248 = .ok (.iaload, 1) := dk_46 (dk_at dksX2_laysSides_10 14 rfl rfl)
theorem dX2_laysSides_249 : decode cX2_laysSides 249 = .ok (.isub, 1) := dk_100 (dk_at dksX2_laysSides_10 15 rfl rfl)
theorem dX2_laysSides_250 : decode cX2_laysSides 250 = .ok (.iastore, 1) := dk_79 (dk_at dksX2_laysSides_10 16 rfl rfl)
theorem dX2_laysSides_251 : decode cX2_laysSides 251 = .ok (.return_, 1) := dk_177 (dk_at dksX2_laysSides_10 17 rfl rfl)
abbrev cX2_point0 : ByteArray := prog_18_method_49_code
def yX2_point0 : MethodName := ⟨RX2, "point0", "(II)I"⟩
def dkwX2_point0_0 : List UInt8 := [42, 180, 0, 68, 16, 9, 27, 104, 28, 96, 46, 172]
abbrev dktX2_point0_0 : List UInt8 := dkwX2_point0_0 ++ []
theorem dksX2_point0_0 : cX2_point0.data.toList.drop 0 = dktX2_point0_0 := by decide +kernel
theorem dX2_point0_0 : decode cX2_point0 0 = .ok (.aload_n 0, 1) := dk_42 (dk_at dksX2_point0_0 0 rfl rfl)
theorem dX2_point0_1 : decode cX2_point0 1 = .ok (.getfield 68, 3) := dk_180 0 68 (dk_at dksX2_point0_0 1 rfl rfl)
theorem dX2_point0_4 : decode cX2_point0 4 = .ok (.bipush 9, 2) := dk_16 9 (dk_at dksX2_point0_0 4 rfl rfl)
theorem dX2_point0_6 : decode cX2_point0 6 = .ok (.iload_n 1, 1) := dk_27 (dk_at dksX2_point0_0 6 rfl rfl)
theorem dX2_point0_7 : decode cX2_point0 7 = .ok (.imul, 1) := dk_104 (dk_at dksX2_point0_0 7 rfl rfl)
theorem dX2_point0_8 : decode cX2_point0 8 = .ok (.iload_n 2, 1) := dk_28 (dk_at dksX2_point0_0 8 rfl rfl)
theorem dX2_point0_9 : decode cX2_point0 9 = .ok (.iadd, 1) := dk_96 (dk_at dksX2_point0_0 9 rfl rfl)
theorem dX2_point0_10 : decode cX2_point0 10 = .ok (.iaload, 1) := dk_46 (dk_at dksX2_point0_0 10 rfl rfl)
theorem dX2_point0_11 : decode cX2_point0 11 = .ok (.ireturn, 1) := dk_172 (dk_at dksX2_point0_0 11 rfl rfl)
abbrev cX2_nextCorner : ByteArray := prog_18_method_51_code
def yX2_nextCorner : MethodName := ⟨RX2, "nextCorner", "(III)I"⟩
def dkwX2_nextCorner_4 : List UInt8 := [132, 5, 1, 167, 255, 166, 21, 4, 172]
abbrev dktX2_nextCorner_4 : List UInt8 := dkwX2_nextCorner_4 ++ []
def dkwX2_nextCorner_3 : List UInt8 := [163, 0, 7, 4, 167, 0, 4, 3, 54, 7, 21, 7, 153, 0, 8, 21, 5, 167, 0, 5, 21, 4, 54, 4]
abbrev dktX2_nextCorner_3 : List UInt8 := dkwX2_nextCorner_3 ++ dktX2_nextCorner_4
def dkwX2_nextCorner_2 : List UInt8 := [21, 4, 28, 100, 104, 42, 27, 21, 4, 182, 1, 66, 42, 27, 28, 182, 1, 66, 100, 21, 5, 28, 100, 104]
abbrev dktX2_nextCorner_2 : List UInt8 := dkwX2_nextCorner_2 ++ dktX2_nextCorner_3
def dkwX2_nextCorner_1 : List UInt8 := [42, 27, 21, 5, 182, 1, 66, 42, 27, 28, 182, 1, 66, 100, 54, 6, 21, 4, 155, 0, 32, 21, 6]
abbrev dktX2_nextCorner_1 : List UInt8 := dkwX2_nextCorner_1 ++ dktX2_nextCorner_2
def dkwX2_nextCorner_0 : List UInt8 := [2, 54, 4, 28, 4, 96, 54, 5, 21, 5, 29, 163, 0, 90, 42, 27, 21, 5, 182, 1, 66, 155, 0, 74]
abbrev dktX2_nextCorner_0 : List UInt8 := dkwX2_nextCorner_0 ++ dktX2_nextCorner_1
theorem dksX2_nextCorner_0 : cX2_nextCorner.data.toList.drop 0 = dktX2_nextCorner_0 := by decide +kernel
theorem dksX2_nextCorner_1 : cX2_nextCorner.data.toList.drop 24 = dktX2_nextCorner_1 := dk_seg dksX2_nextCorner_0 24 rfl rfl
theorem dksX2_nextCorner_2 : cX2_nextCorner.data.toList.drop 47 = dktX2_nextCorner_2 := dk_seg dksX2_nextCorner_1 23 rfl rfl
theorem dksX2_nextCorner_3 : cX2_nextCorner.data.toList.drop 71 = dktX2_nextCorner_3 := dk_seg dksX2_nextCorner_2 24 rfl rfl
theorem dksX2_nextCorner_4 : cX2_nextCorner.data.toList.drop 95 = dktX2_nextCorner_4 := dk_seg dksX2_nextCorner_3 24 rfl rfl
theorem dX2_nextCorner_0 : decode cX2_nextCorner 0 = .ok (.iconst (-1), 1) := dk_2 (dk_at dksX2_nextCorner_0 0 rfl rfl)
theorem dX2_nextCorner_1 : decode cX2_nextCorner 1 = .ok (.istore 4, 2) := dk_54 4 (dk_at dksX2_nextCorner_0 1 rfl rfl)
theorem dX2_nextCorner_3 : decode cX2_nextCorner 3 = .ok (.iload_n 2, 1) := dk_28 (dk_at dksX2_nextCorner_0 3 rfl rfl)
theorem dX2_nextCorner_4 : decode cX2_nextCorner 4 = .ok (.iconst 1, 1) := dk_4 (dk_at dksX2_nextCorner_0 4 rfl rfl)
theorem dX2_nextCorner_5 : decode cX2_nextCorner 5 = .ok (.iadd, 1) := dk_96 (dk_at dksX2_nextCorner_0 5 rfl rfl)
theorem dX2_nextCorner_6 : decode cX2_nextCorner 6 = .ok (.istore 5, 2) := dk_54 5 (dk_at dksX2_nextCorner_0 6 rfl rfl)
theorem dX2_nextCorner_8 : decode cX2_nextCorner 8 = .ok (.iload 5, 2) := dk_21 5 (dk_at dksX2_nextCorner_0 8 rfl rfl)
theorem dX2_nextCorner_10 : decode cX2_nextCorner 10 = .ok (.iload_n 3, 1) := dk_29 (dk_at dksX2_nextCorner_0 10 rfl rfl)
theorem dX2_nextCorner_11 : decode cX2_nextCorner 11 = .ok (.if_icmp .gt 90, 3) := dk_163 0 90 (dk_at dksX2_nextCorner_0 11 rfl rfl)
theorem dX2_nextCorner_14 : decode cX2_nextCorner 14 = .ok (.aload_n 0, 1) := dk_42 (dk_at dksX2_nextCorner_0 14 rfl rfl)
theorem dX2_nextCorner_15 : decode cX2_nextCorner 15 = .ok (.iload_n 1, 1) := dk_27 (dk_at dksX2_nextCorner_0 15 rfl rfl)
theorem dX2_nextCorner_16 : decode cX2_nextCorner 16 = .ok (.iload 5, 2) := dk_21 5 (dk_at dksX2_nextCorner_0 16 rfl rfl)
theorem dX2_nextCorner_18 : decode cX2_nextCorner 18 = .ok (.invokevirtual 322, 3) := dk_182 1 66 (dk_at dksX2_nextCorner_0 18 rfl rfl)
theorem dX2_nextCorner_21 : decode cX2_nextCorner 21 = .ok (.ifCond .lt 74, 3) := dk_155 0 74 (dk_at dksX2_nextCorner_0 21 rfl rfl)
theorem dX2_nextCorner_24 : decode cX2_nextCorner 24 = .ok (.aload_n 0, 1) := dk_42 (dk_at dksX2_nextCorner_1 0 rfl rfl)
theorem dX2_nextCorner_25 : decode cX2_nextCorner 25 = .ok (.iload_n 1, 1) := dk_27 (dk_at dksX2_nextCorner_1 1 rfl rfl)
theorem dX2_nextCorner_26 : decode cX2_nextCorner 26 = .ok (.iload 5, 2) := dk_21 5 (dk_at dksX2_nextCorner_1 2 rfl rfl)
theorem dX2_nextCorner_28 : decode cX2_nextCorner 28 = .ok (.invokevirtual 322, 3) := dk_182 1 66 (dk_at dksX2_nextCorner_1 4 rfl rfl)
theorem dX2_nextCorner_31 : decode cX2_nextCorner 31 = .ok (.aload_n 0, 1) := dk_42 (dk_at dksX2_nextCorner_1 7 rfl rfl)
theorem dX2_nextCorner_32 : decode cX2_nextCorner 32 = .ok (.iload_n 1, 1) := dk_27 (dk_at dksX2_nextCorner_1 8 rfl rfl)
theorem dX2_nextCorner_33 : decode cX2_nextCorner 33 = .ok (.iload_n 2, 1) := dk_28 (dk_at dksX2_nextCorner_1 9 rfl rfl)
theorem dX2_nextCorner_34 : decode cX2_nextCorner 34 = .ok (.invokevirtual 322, 3) := dk_182 1 66 (dk_at dksX2_nextCorner_1 10 rfl rfl)
theorem dX2_nextCorner_37 : decode cX2_nextCorner 37 = .ok (.isub, 1) := dk_100 (dk_at dksX2_nextCorner_1 13 rfl rfl)
theorem dX2_nextCorner_38 : decode cX2_nextCorner 38 = .ok (.istore 6, 2) := dk_54 6 (dk_at dksX2_nextCorner_1 14 rfl rfl)
theorem dX2_nextCorner_40 : decode cX2_nextCorner 40 = .ok (.iload 4, 2) := dk_21 4 (dk_at dksX2_nextCorner_1 16 rfl rfl)
theorem dX2_nextCorner_42 : decode cX2_nextCorner 42 = .ok (.ifCond .lt 32, 3) := dk_155 0 32 (dk_at dksX2_nextCorner_1 18 rfl rfl)
theorem dX2_nextCorner_45 : decode cX2_nextCorner 45 = .ok (.iload 6, 2) := dk_21 6 (dk_at dksX2_nextCorner_1 21 rfl rfl)
theorem dX2_nextCorner_47 : decode cX2_nextCorner 47 = .ok (.iload 4, 2) := dk_21 4 (dk_at dksX2_nextCorner_2 0 rfl rfl)
theorem dX2_nextCorner_49 : decode cX2_nextCorner 49 = .ok (.iload_n 2, 1) := dk_28 (dk_at dksX2_nextCorner_2 2 rfl rfl)
theorem dX2_nextCorner_50 : decode cX2_nextCorner 50 = .ok (.isub, 1) := dk_100 (dk_at dksX2_nextCorner_2 3 rfl rfl)
theorem dX2_nextCorner_51 : decode cX2_nextCorner 51 = .ok (.imul, 1) := dk_104 (dk_at dksX2_nextCorner_2 4 rfl rfl)
theorem dX2_nextCorner_52 : decode cX2_nextCorner 52 = .ok (.aload_n 0, 1) := dk_42 (dk_at dksX2_nextCorner_2 5 rfl rfl)
theorem dX2_nextCorner_53 : decode cX2_nextCorner 53 = .ok (.iload_n 1, 1) := dk_27 (dk_at dksX2_nextCorner_2 6 rfl rfl)
theorem dX2_nextCorner_54 : decode cX2_nextCorner 54 = .ok (.iload 4, 2) := dk_21 4 (dk_at dksX2_nextCorner_2 7 rfl rfl)
theorem dX2_nextCorner_56 : decode cX2_nextCorner 56 = .ok (.invokevirtual 322, 3) := dk_182 1 66 (dk_at dksX2_nextCorner_2 9 rfl rfl)
theorem dX2_nextCorner_59 : decode cX2_nextCorner 59 = .ok (.aload_n 0, 1) := dk_42 (dk_at dksX2_nextCorner_2 12 rfl rfl)
theorem dX2_nextCorner_60 : decode cX2_nextCorner 60 = .ok (.iload_n 1, 1) := dk_27 (dk_at dksX2_nextCorner_2 13 rfl rfl)
theorem dX2_nextCorner_61 : decode cX2_nextCorner 61 = .ok (.iload_n 2, 1) := dk_28 (dk_at dksX2_nextCorner_2 14 rfl rfl)
theorem dX2_nextCorner_62 : decode cX2_nextCorner 62 = .ok (.invokevirtual 322, 3) := dk_182 1 66 (dk_at dksX2_nextCorner_2 15 rfl rfl)
theorem dX2_nextCorner_65 : decode cX2_nextCorner 65 = .ok (.isub, 1) := dk_100 (dk_at dksX2_nextCorner_2 18 rfl rfl)
theorem dX2_nextCorner_66 : decode cX2_nextCorner 66 = .ok (.iload 5, 2) := dk_21 5 (dk_at dksX2_nextCorner_2 19 rfl rfl)
theorem dX2_nextCorner_68 : decode cX2_nextCorner 68 = .ok (.iload_n 2, 1) := dk_28 (dk_at dksX2_nextCorner_2 21 rfl rfl)
theorem dX2_nextCorner_69 : decode cX2_nextCorner 69 = .ok (.isub, 1) := dk_100 (dk_at dksX2_nextCorner_2 22 rfl rfl)
theorem dX2_nextCorner_70 : decode cX2_nextCorner 70 = .ok (.imul, 1) := dk_104 (dk_at dksX2_nextCorner_2 23 rfl rfl)
theorem dX2_nextCorner_71 : decode cX2_nextCorner 71 = .ok (.if_icmp .gt 7, 3) := dk_163 0 7 (dk_at dksX2_nextCorner_3 0 rfl rfl)
theorem dX2_nextCorner_74 : decode cX2_nextCorner 74 = .ok (.iconst 1, 1) := dk_4 (dk_at dksX2_nextCorner_3 3 rfl rfl)
theorem dX2_nextCorner_75 : decode cX2_nextCorner 75 = .ok (.goto 4, 3) := dk_167 0 4 (dk_at dksX2_nextCorner_3 4 rfl rfl)
theorem dX2_nextCorner_78 : decode cX2_nextCorner 78 = .ok (.iconst 0, 1) := dk_3 (dk_at dksX2_nextCorner_3 7 rfl rfl)
theorem dX2_nextCorner_79 : decode cX2_nextCorner 79 = .ok (.istore 7, 2) := dk_54 7 (dk_at dksX2_nextCorner_3 8 rfl rfl)
theorem dX2_nextCorner_81 : decode cX2_nextCorner 81 = .ok (.iload 7, 2) := dk_21 7 (dk_at dksX2_nextCorner_3 10 rfl rfl)
theorem dX2_nextCorner_83 : decode cX2_nextCorner 83 = .ok (.ifCond .eq 8, 3) := dk_153 0 8 (dk_at dksX2_nextCorner_3 12 rfl rfl)
theorem dX2_nextCorner_86 : decode cX2_nextCorner 86 = .ok (.iload 5, 2) := dk_21 5 (dk_at dksX2_nextCorner_3 15 rfl rfl)
theorem dX2_nextCorner_88 : decode cX2_nextCorner 88 = .ok (.goto 5, 3) := dk_167 0 5 (dk_at dksX2_nextCorner_3 17 rfl rfl)
theorem dX2_nextCorner_91 : decode cX2_nextCorner 91 = .ok (.iload 4, 2) := dk_21 4 (dk_at dksX2_nextCorner_3 20 rfl rfl)
theorem dX2_nextCorner_93 : decode cX2_nextCorner 93 = .ok (.istore 4, 2) := dk_54 4 (dk_at dksX2_nextCorner_3 22 rfl rfl)
theorem dX2_nextCorner_95 : decode cX2_nextCorner 95 = .ok (.iinc 5 1, 3) := dk_132 5 1 (dk_at dksX2_nextCorner_4 0 rfl rfl)
theorem dX2_nextCorner_98 : decode cX2_nextCorner 98 = .ok (.goto (-90), 3) := dk_167 255 166 (dk_at dksX2_nextCorner_4 3 rfl rfl)
theorem dX2_nextCorner_101 : decode cX2_nextCorner 101 = .ok (.iload 4, 2) := dk_21 4 (dk_at dksX2_nextCorner_4 6 rfl rfl)
theorem dX2_nextCorner_103 : decode cX2_nextCorner 103 = .ok (.ireturn, 1) := dk_172 (dk_at dksX2_nextCorner_4 8 rfl rfl)
abbrev cX2_laysSide : ByteArray := prog_18_method_53_code
def yX2_laysSide : MethodName := ⟨RX2, "laysSide", "(III)V"⟩
def dkwX2_laysSide_11 : List UInt8 := [177]
abbrev dktX2_laysSide_11 : List UInt8 := dkwX2_laysSide_11 ++ []
def dkwX2_laysSide_10 : List UInt8 := [182, 1, 86, 167, 0, 4, 3, 79, 132, 7, 1, 167, 255, 160, 42, 89, 180, 1, 69, 4, 96, 181, 1, 69]
abbrev dktX2_laysSide_10 : List UInt8 := dkwX2_laysSide_10 ++ dktX2_laysSide_11
def dkwX2_laysSide_9 : List UInt8 := [180, 0, 104, 16, 9, 21, 4, 104, 21, 7, 96, 21, 9, 153, 0, 17, 42, 27, 21, 4, 21, 8, 21, 7]
abbrev dktX2_laysSide_9 : List UInt8 := dkwX2_laysSide_9 ++ dktX2_laysSide_10
def dkwX2_laysSide_8 : List UInt8 := [182, 1, 66, 21, 7, 21, 5, 21, 6, 108, 104, 100, 160, 0, 7, 4, 167, 0, 4, 3, 54, 9, 42]
abbrev dktX2_laysSide_8 : List UInt8 := dkwX2_laysSide_8 ++ dktX2_laysSide_9
def dkwX2_laysSide_7 : List UInt8 := [21, 4, 46, 104, 96, 54, 8, 21, 7, 21, 6, 163, 0, 32, 42, 27, 21, 8, 182, 1, 66, 42, 27, 28]
abbrev dktX2_laysSide_7 : List UInt8 := dkwX2_laysSide_7 ++ dktX2_laysSide_8
def dkwX2_laysSide_6 : List UInt8 := [79, 132, 7, 1, 167, 255, 226, 3, 54, 7, 21, 7, 16, 9, 162, 0, 95, 28, 21, 7, 42, 180, 0, 92]
abbrev dktX2_laysSide_6 : List UInt8 := dkwX2_laysSide_6 ++ dktX2_laysSide_7
def dkwX2_laysSide_5 : List UInt8 := [16, 7, 162, 0, 29, 42, 180, 0, 101, 16, 7, 21, 4, 104, 21, 7, 96, 42, 180, 0, 137, 21, 7, 46]
abbrev dktX2_laysSide_5 : List UInt8 := dkwX2_laysSide_5 ++ dktX2_laysSide_6
def dkwX2_laysSide_4 : List UInt8 := [21, 5, 21, 6, 108, 96, 79, 42, 42, 180, 0, 98, 21, 4, 46, 182, 1, 83, 3, 54, 7, 21, 7]
abbrev dktX2_laysSide_4 : List UInt8 := dkwX2_laysSide_4 ++ dktX2_laysSide_5
def dkwX2_laysSide_3 : List UInt8 := [28, 100, 21, 6, 108, 79, 42, 180, 0, 98, 21, 4, 42, 180, 0, 92, 21, 4, 46, 42, 182, 1, 63, 104]
abbrev dktX2_laysSide_3 : List UInt8 := dkwX2_laysSide_3 ++ dktX2_laysSide_4
def dkwX2_laysSide_2 : List UInt8 := [180, 0, 89, 21, 4, 21, 5, 79, 42, 180, 0, 95, 21, 4, 21, 6, 79, 42, 180, 0, 92, 21, 4, 29]
abbrev dktX2_laysSide_2 : List UInt8 := dkwX2_laysSide_2 ++ dktX2_laysSide_3
def dkwX2_laysSide_1 : List UInt8 := [21, 5, 184, 1, 80, 54, 6, 42, 180, 0, 83, 21, 4, 28, 79, 42, 180, 0, 86, 21, 4, 29, 79, 42]
abbrev dktX2_laysSide_1 : List UInt8 := dkwX2_laysSide_1 ++ dktX2_laysSide_2
def dkwX2_laysSide_0 : List UInt8 := [42, 180, 1, 69, 54, 4, 42, 27, 28, 182, 1, 66, 42, 27, 29, 182, 1, 66, 100, 54, 5, 29, 28, 100]
abbrev dktX2_laysSide_0 : List UInt8 := dkwX2_laysSide_0 ++ dktX2_laysSide_1
theorem dksX2_laysSide_0 : cX2_laysSide.data.toList.drop 0 = dktX2_laysSide_0 := by decide +kernel
theorem dksX2_laysSide_1 : cX2_laysSide.data.toList.drop 24 = dktX2_laysSide_1 := dk_seg dksX2_laysSide_0 24 rfl rfl
theorem dksX2_laysSide_2 : cX2_laysSide.data.toList.drop 48 = dktX2_laysSide_2 := dk_seg dksX2_laysSide_1 24 rfl rfl
theorem dksX2_laysSide_3 : cX2_laysSide.data.toList.drop 72 = dktX2_laysSide_3 := dk_seg dksX2_laysSide_2 24 rfl rfl
theorem dksX2_laysSide_4 : cX2_laysSide.data.toList.drop 96 = dktX2_laysSide_4 := dk_seg dksX2_laysSide_3 24 rfl rfl
theorem dksX2_laysSide_5 : cX2_laysSide.data.toList.drop 119 = dktX2_laysSide_5 := dk_seg dksX2_laysSide_4 23 rfl rfl
theorem dksX2_laysSide_6 : cX2_laysSide.data.toList.drop 143 = dktX2_laysSide_6 := dk_seg dksX2_laysSide_5 24 rfl rfl
theorem dksX2_laysSide_7 : cX2_laysSide.data.toList.drop 167 = dktX2_laysSide_7 := dk_seg dksX2_laysSide_6 24 rfl rfl
theorem dksX2_laysSide_8 : cX2_laysSide.data.toList.drop 191 = dktX2_laysSide_8 := dk_seg dksX2_laysSide_7 24 rfl rfl
theorem dksX2_laysSide_9 : cX2_laysSide.data.toList.drop 214 = dktX2_laysSide_9 := dk_seg dksX2_laysSide_8 23 rfl rfl
theorem dksX2_laysSide_10 : cX2_laysSide.data.toList.drop 238 = dktX2_laysSide_10 := dk_seg dksX2_laysSide_9 24 rfl rfl
theorem dksX2_laysSide_11 : cX2_laysSide.data.toList.drop 262 = dktX2_laysSide_11 := dk_seg dksX2_laysSide_10 24 rfl rfl
theorem dX2_laysSide_0 : decode cX2_laysSide 0 = .ok (.aload_n 0, 1) := dk_42 (dk_at dksX2_laysSide_0 0 rfl rfl)
theorem dX2_laysSide_1 : decode cX2_laysSide 1 = .ok (.getfield 325, 3) := dk_180 1 69 (dk_at dksX2_laysSide_0 1 rfl rfl)
theorem dX2_laysSide_4 : decode cX2_laysSide 4 = .ok (.istore 4, 2) := dk_54 4 (dk_at dksX2_laysSide_0 4 rfl rfl)
theorem dX2_laysSide_6 : decode cX2_laysSide 6 = .ok (.aload_n 0, 1) := dk_42 (dk_at dksX2_laysSide_0 6 rfl rfl)
theorem dX2_laysSide_7 : decode cX2_laysSide 7 = .ok (.iload_n 1, 1) := dk_27 (dk_at dksX2_laysSide_0 7 rfl rfl)
theorem dX2_laysSide_8 : decode cX2_laysSide 8 = .ok (.iload_n 2, 1) := dk_28 (dk_at dksX2_laysSide_0 8 rfl rfl)
theorem dX2_laysSide_9 : decode cX2_laysSide 9 = .ok (.invokevirtual 322, 3) := dk_182 1 66 (dk_at dksX2_laysSide_0 9 rfl rfl)
theorem dX2_laysSide_12 : decode cX2_laysSide 12 = .ok (.aload_n 0, 1) := dk_42 (dk_at dksX2_laysSide_0 12 rfl rfl)
theorem dX2_laysSide_13 : decode cX2_laysSide 13 = .ok (.iload_n 1, 1) := dk_27 (dk_at dksX2_laysSide_0 13 rfl rfl)
theorem dX2_laysSide_14 : decode cX2_laysSide 14 = .ok (.iload_n 3, 1) := dk_29 (dk_at dksX2_laysSide_0 14 rfl rfl)
theorem dX2_laysSide_15 : decode cX2_laysSide 15 = .ok (.invokevirtual 322, 3) := dk_182 1 66 (dk_at dksX2_laysSide_0 15 rfl rfl)
theorem dX2_laysSide_18 : decode cX2_laysSide 18 = .ok (.isub, 1) := dk_100 (dk_at dksX2_laysSide_0 18 rfl rfl)
theorem dX2_laysSide_19 : decode cX2_laysSide 19 = .ok (.istore 5, 2) := dk_54 5 (dk_at dksX2_laysSide_0 19 rfl rfl)
theorem dX2_laysSide_21 : decode cX2_laysSide 21 = .ok (.iload_n 3, 1) := dk_29 (dk_at dksX2_laysSide_0 21 rfl rfl)
theorem dX2_laysSide_22 : decode cX2_laysSide 22 = .ok (.iload_n 2, 1) := dk_28 (dk_at dksX2_laysSide_0 22 rfl rfl)
theorem dX2_laysSide_23 : decode cX2_laysSide 23 = .ok (.isub, 1) := dk_100 (dk_at dksX2_laysSide_0 23 rfl rfl)
theorem dX2_laysSide_24 : decode cX2_laysSide 24 = .ok (.iload 5, 2) := dk_21 5 (dk_at dksX2_laysSide_1 0 rfl rfl)
theorem dX2_laysSide_26 : decode cX2_laysSide 26 = .ok (.invokestatic 336, 3) := dk_184 1 80 (dk_at dksX2_laysSide_1 2 rfl rfl)
theorem dX2_laysSide_29 : decode cX2_laysSide 29 = .ok (.istore 6, 2) := dk_54 6 (dk_at dksX2_laysSide_1 5 rfl rfl)
theorem dX2_laysSide_31 : decode cX2_laysSide 31 = .ok (.aload_n 0, 1) := dk_42 (dk_at dksX2_laysSide_1 7 rfl rfl)
theorem dX2_laysSide_32 : decode cX2_laysSide 32 = .ok (.getfield 83, 3) := dk_180 0 83 (dk_at dksX2_laysSide_1 8 rfl rfl)
theorem dX2_laysSide_35 : decode cX2_laysSide 35 = .ok (.iload 4, 2) := dk_21 4 (dk_at dksX2_laysSide_1 11 rfl rfl)
theorem dX2_laysSide_37 : decode cX2_laysSide 37 = .ok (.iload_n 2, 1) := dk_28 (dk_at dksX2_laysSide_1 13 rfl rfl)
theorem dX2_laysSide_38 : decode cX2_laysSide 38 = .ok (.iastore, 1) := dk_79 (dk_at dksX2_laysSide_1 14 rfl rfl)
theorem dX2_laysSide_39 : decode cX2_laysSide 39 = .ok (.aload_n 0, 1) := dk_42 (dk_at dksX2_laysSide_1 15 rfl rfl)
theorem dX2_laysSide_40 : decode cX2_laysSide 40 = .ok (.getfield 86, 3) := dk_180 0 86 (dk_at dksX2_laysSide_1 16 rfl rfl)
theorem dX2_laysSide_43 : decode cX2_laysSide 43 = .ok (.iload 4, 2) := dk_21 4 (dk_at dksX2_laysSide_1 19 rfl rfl)
theorem dX2_laysSide_45 : decode cX2_laysSide 45 = .ok (.iload_n 3, 1) := dk_29 (dk_at dksX2_laysSide_1 21 rfl rfl)
theorem dX2_laysSide_46 : decode cX2_laysSide 46 = .ok (.iastore, 1) := dk_79 (dk_at dksX2_laysSide_1 22 rfl rfl)
theorem dX2_laysSide_47 : decode cX2_laysSide 47 = .ok (.aload_n 0, 1) := dk_42 (dk_at dksX2_laysSide_1 23 rfl rfl)
theorem dX2_laysSide_48 : decode cX2_laysSide 48 = .ok (.getfield 89, 3) := dk_180 0 89 (dk_at dksX2_laysSide_2 0 rfl rfl)
theorem dX2_laysSide_51 : decode cX2_laysSide 51 = .ok (.iload 4, 2) := dk_21 4 (dk_at dksX2_laysSide_2 3 rfl rfl)
theorem dX2_laysSide_53 : decode cX2_laysSide 53 = .ok (.iload 5, 2) := dk_21 5 (dk_at dksX2_laysSide_2 5 rfl rfl)
theorem dX2_laysSide_55 : decode cX2_laysSide 55 = .ok (.iastore, 1) := dk_79 (dk_at dksX2_laysSide_2 7 rfl rfl)
theorem dX2_laysSide_56 : decode cX2_laysSide 56 = .ok (.aload_n 0, 1) := dk_42 (dk_at dksX2_laysSide_2 8 rfl rfl)
theorem dX2_laysSide_57 : decode cX2_laysSide 57 = .ok (.getfield 95, 3) := dk_180 0 95 (dk_at dksX2_laysSide_2 9 rfl rfl)
theorem dX2_laysSide_60 : decode cX2_laysSide 60 = .ok (.iload 4, 2) := dk_21 4 (dk_at dksX2_laysSide_2 12 rfl rfl)
theorem dX2_laysSide_62 : decode cX2_laysSide 62 = .ok (.iload 6, 2) := dk_21 6 (dk_at dksX2_laysSide_2 14 rfl rfl)
theorem dX2_laysSide_64 : decode cX2_laysSide 64 = .ok (.iastore, 1) := dk_79 (dk_at dksX2_laysSide_2 16 rfl rfl)
theorem dX2_laysSide_65 : decode cX2_laysSide 65 = .ok (.aload_n 0, 1) := dk_42 (dk_at dksX2_laysSide_2 17 rfl rfl)
theorem dX2_laysSide_66 : decode cX2_laysSide 66 = .ok (.getfield 92, 3) := dk_180 0 92 (dk_at dksX2_laysSide_2 18 rfl rfl)
theorem dX2_laysSide_69 : decode cX2_laysSide 69 = .ok (.iload 4, 2) := dk_21 4 (dk_at dksX2_laysSide_2 21 rfl rfl)
theorem dX2_laysSide_71 : decode cX2_laysSide 71 = .ok (.iload_n 3, 1) := dk_29 (dk_at dksX2_laysSide_2 23 rfl rfl)
theorem dX2_laysSide_72 : decode cX2_laysSide 72 = .ok (.iload_n 2, 1) := dk_28 (dk_at dksX2_laysSide_3 0 rfl rfl)
theorem dX2_laysSide_73 : decode cX2_laysSide 73 = .ok (.isub, 1) := dk_100 (dk_at dksX2_laysSide_3 1 rfl rfl)
theorem dX2_laysSide_74 : decode cX2_laysSide 74 = .ok (.iload 6, 2) := dk_21 6 (dk_at dksX2_laysSide_3 2 rfl rfl)
theorem dX2_laysSide_76 : decode cX2_laysSide 76 = .ok (.idiv, 1) := dk_108 (dk_at dksX2_laysSide_3 4 rfl rfl)
theorem dX2_laysSide_77 : decode cX2_laysSide 77 = .ok (.iastore, 1) := dk_79 (dk_at dksX2_laysSide_3 5 rfl rfl)
theorem dX2_laysSide_78 : decode cX2_laysSide 78 = .ok (.aload_n 0, 1) := dk_42 (dk_at dksX2_laysSide_3 6 rfl rfl)
theorem dX2_laysSide_79 : decode cX2_laysSide 79 = .ok (.getfield 98, 3) := dk_180 0 98 (dk_at dksX2_laysSide_3 7 rfl rfl)
theorem dX2_laysSide_82 : decode cX2_laysSide 82 = .ok (.iload 4, 2) := dk_21 4 (dk_at dksX2_laysSide_3 10 rfl rfl)
theorem dX2_laysSide_84 : decode cX2_laysSide 84 = .ok (.aload_n 0, 1) := dk_42 (dk_at dksX2_laysSide_3 12 rfl rfl)
theorem dX2_laysSide_85 : decode cX2_laysSide 85 = .ok (.getfield 92, 3) := dk_180 0 92 (dk_at dksX2_laysSide_3 13 rfl rfl)
theorem dX2_laysSide_88 : decode cX2_laysSide 88 = .ok (.iload 4, 2) := dk_21 4 (dk_at dksX2_laysSide_3 16 rfl rfl)
theorem dX2_laysSide_90 : decode cX2_laysSide 90 = .ok (.iaload, 1) := dk_46 (dk_at dksX2_laysSide_3 18 rfl rfl)
theorem dX2_laysSide_91 : decode cX2_laysSide 91 = .ok (.aload_n 0, 1) := dk_42 (dk_at dksX2_laysSide_3 19 rfl rfl)
theorem dX2_laysSide_92 : decode cX2_laysSide 92 = .ok (.invokevirtual 319, 3) := dk_182 1 63 (dk_at dksX2_laysSide_3 20 rfl rfl)
theorem dX2_laysSide_95 : decode cX2_laysSide 95 = .ok (.imul, 1) := dk_104 (dk_at dksX2_laysSide_3 23 rfl rfl)
theorem dX2_laysSide_96 : decode cX2_laysSide 96 = .ok (.iload 5, 2) := dk_21 5 (dk_at dksX2_laysSide_4 0 rfl rfl)
theorem dX2_laysSide_98 : decode cX2_laysSide 98 = .ok (.iload 6, 2) := dk_21 6 (dk_at dksX2_laysSide_4 2 rfl rfl)
theorem dX2_laysSide_100 : decode cX2_laysSide 100 = .ok (.idiv, 1) := dk_108 (dk_at dksX2_laysSide_4 4 rfl rfl)
theorem dX2_laysSide_101 : decode cX2_laysSide 101 = .ok (.iadd, 1) := dk_96 (dk_at dksX2_laysSide_4 5 rfl rfl)
theorem dX2_laysSide_102 : decode cX2_laysSide 102 = .ok (.iastore, 1) := dk_79 (dk_at dksX2_laysSide_4 6 rfl rfl)
theorem dX2_laysSide_103 : decode cX2_laysSide 103 = .ok (.aload_n 0, 1) := dk_42 (dk_at dksX2_laysSide_4 7 rfl rfl)
theorem dX2_laysSide_104 : decode cX2_laysSide 104 = .ok (.aload_n 0, 1) := dk_42 (dk_at dksX2_laysSide_4 8 rfl rfl)
theorem dX2_laysSide_105 : decode cX2_laysSide 105 = .ok (.getfield 98, 3) := dk_180 0 98 (dk_at dksX2_laysSide_4 9 rfl rfl)
theorem dX2_laysSide_108 : decode cX2_laysSide 108 = .ok (.iload 4, 2) := dk_21 4 (dk_at dksX2_laysSide_4 12 rfl rfl)
theorem dX2_laysSide_110 : decode cX2_laysSide 110 = .ok (.iaload, 1) := dk_46 (dk_at dksX2_laysSide_4 14 rfl rfl)
theorem dX2_laysSide_111 : decode cX2_laysSide 111 = .ok (.invokevirtual 339, 3) := dk_182 1 83 (dk_at dksX2_laysSide_4 15 rfl rfl)
theorem dX2_laysSide_114 : decode cX2_laysSide 114 = .ok (.iconst 0, 1) := dk_3 (dk_at dksX2_laysSide_4 18 rfl rfl)
theorem dX2_laysSide_115 : decode cX2_laysSide 115 = .ok (.istore 7, 2) := dk_54 7 (dk_at dksX2_laysSide_4 19 rfl rfl)
theorem dX2_laysSide_117 : decode cX2_laysSide 117 = .ok (.iload 7, 2) := dk_21 7 (dk_at dksX2_laysSide_4 21 rfl rfl)
theorem dX2_laysSide_119 : decode cX2_laysSide 119 = .ok (.bipush 7, 2) := dk_16 7 (dk_at dksX2_laysSide_5 0 rfl rfl)
theorem dX2_laysSide_121 : decode cX2_laysSide 121 = .ok (.if_icmp .ge 29, 3) := dk_162 0 29 (dk_at dksX2_laysSide_5 2 rfl rfl)
theorem dX2_laysSide_124 : decode cX2_laysSide 124 = .ok (.aload_n 0, 1) := dk_42 (dk_at dksX2_laysSide_5 5 rfl rfl)
theorem dX2_laysSide_125 : decode cX2_laysSide 125 = .ok (.getfield 101, 3) := dk_180 0 101 (dk_at dksX2_laysSide_5 6 rfl rfl)
theorem dX2_laysSide_128 : decode cX2_laysSide 128 = .ok (.bipush 7, 2) := dk_16 7 (dk_at dksX2_laysSide_5 9 rfl rfl)
theorem dX2_laysSide_130 : decode cX2_laysSide 130 = .ok (.iload 4, 2) := dk_21 4 (dk_at dksX2_laysSide_5 11 rfl rfl)
theorem dX2_laysSide_132 : decode cX2_laysSide 132 = .ok (.imul, 1) := dk_104 (dk_at dksX2_laysSide_5 13 rfl rfl)
theorem dX2_laysSide_133 : decode cX2_laysSide 133 = .ok (.iload 7, 2) := dk_21 7 (dk_at dksX2_laysSide_5 14 rfl rfl)
theorem dX2_laysSide_135 : decode cX2_laysSide 135 = .ok (.iadd, 1) := dk_96 (dk_at dksX2_laysSide_5 16 rfl rfl)
theorem dX2_laysSide_136 : decode cX2_laysSide 136 = .ok (.aload_n 0, 1) := dk_42 (dk_at dksX2_laysSide_5 17 rfl rfl)
theorem dX2_laysSide_137 : decode cX2_laysSide 137 = .ok (.getfield 137, 3) := dk_180 0 137 (dk_at dksX2_laysSide_5 18 rfl rfl)
theorem dX2_laysSide_140 : decode cX2_laysSide 140 = .ok (.iload 7, 2) := dk_21 7 (dk_at dksX2_laysSide_5 21 rfl rfl)
theorem dX2_laysSide_142 : decode cX2_laysSide 142 = .ok (.iaload, 1) := dk_46 (dk_at dksX2_laysSide_5 23 rfl rfl)
theorem dX2_laysSide_143 : decode cX2_laysSide 143 = .ok (.iastore, 1) := dk_79 (dk_at dksX2_laysSide_6 0 rfl rfl)
theorem dX2_laysSide_144 : decode cX2_laysSide 144 = .ok (.iinc 7 1, 3) := dk_132 7 1 (dk_at dksX2_laysSide_6 1 rfl rfl)
theorem dX2_laysSide_147 : decode cX2_laysSide 147 = .ok (.goto (-30), 3) := dk_167 255 226 (dk_at dksX2_laysSide_6 4 rfl rfl)
theorem dX2_laysSide_150 : decode cX2_laysSide 150 = .ok (.iconst 0, 1) := dk_3 (dk_at dksX2_laysSide_6 7 rfl rfl)
theorem dX2_laysSide_151 : decode cX2_laysSide 151 = .ok (.istore 7, 2) := dk_54 7 (dk_at dksX2_laysSide_6 8 rfl rfl)
theorem dX2_laysSide_153 : decode cX2_laysSide 153 = .ok (.iload 7, 2) := dk_21 7 (dk_at dksX2_laysSide_6 10 rfl rfl)
theorem dX2_laysSide_155 : decode cX2_laysSide 155 = .ok (.bipush 9, 2) := dk_16 9 (dk_at dksX2_laysSide_6 12 rfl rfl)
theorem dX2_laysSide_157 : decode cX2_laysSide 157 = .ok (.if_icmp .ge 95, 3) := dk_162 0 95 (dk_at dksX2_laysSide_6 14 rfl rfl)
theorem dX2_laysSide_160 : decode cX2_laysSide 160 = .ok (.iload_n 2, 1) := dk_28 (dk_at dksX2_laysSide_6 17 rfl rfl)
theorem dX2_laysSide_161 : decode cX2_laysSide 161 = .ok (.iload 7, 2) := dk_21 7 (dk_at dksX2_laysSide_6 18 rfl rfl)
theorem dX2_laysSide_163 : decode cX2_laysSide 163 = .ok (.aload_n 0, 1) := dk_42 (dk_at dksX2_laysSide_6 20 rfl rfl)
theorem dX2_laysSide_164 : decode cX2_laysSide 164 = .ok (.getfield 92, 3) := dk_180 0 92 (dk_at dksX2_laysSide_6 21 rfl rfl)
theorem dX2_laysSide_167 : decode cX2_laysSide 167 = .ok (.iload 4, 2) := dk_21 4 (dk_at dksX2_laysSide_7 0 rfl rfl)
theorem dX2_laysSide_169 : decode cX2_laysSide 169 = .ok (.iaload, 1) := dk_46 (dk_at dksX2_laysSide_7 2 rfl rfl)
theorem dX2_laysSide_170 : decode cX2_laysSide 170 = .ok (.imul, 1) := dk_104 (dk_at dksX2_laysSide_7 3 rfl rfl)
theorem dX2_laysSide_171 : decode cX2_laysSide 171 = .ok (.iadd, 1) := dk_96 (dk_at dksX2_laysSide_7 4 rfl rfl)
theorem dX2_laysSide_172 : decode cX2_laysSide 172 = .ok (.istore 8, 2) := dk_54 8 (dk_at dksX2_laysSide_7 5 rfl rfl)
theorem dX2_laysSide_174 : decode cX2_laysSide 174 = .ok (.iload 7, 2) := dk_21 7 (dk_at dksX2_laysSide_7 7 rfl rfl)
theorem dX2_laysSide_176 : decode cX2_laysSide 176 = .ok (.iload 6, 2) := dk_21 6 (dk_at dksX2_laysSide_7 9 rfl rfl)
theorem dX2_laysSide_178 : decode cX2_laysSide 178 = .ok (.if_icmp .gt 32, 3) := dk_163 0 32 (dk_at dksX2_laysSide_7 11 rfl rfl)
theorem dX2_laysSide_181 : decode cX2_laysSide 181 = .ok (.aload_n 0, 1) := dk_42 (dk_at dksX2_laysSide_7 14 rfl rfl)
theorem dX2_laysSide_182 : decode cX2_laysSide 182 = .ok (.iload_n 1, 1) := dk_27 (dk_at dksX2_laysSide_7 15 rfl rfl)
theorem dX2_laysSide_183 : decode cX2_laysSide 183 = .ok (.iload 8, 2) := dk_21 8 (dk_at dksX2_laysSide_7 16 rfl rfl)
theorem dX2_laysSide_185 : decode cX2_laysSide 185 = .ok (.invokevirtual 322, 3) := dk_182 1 66 (dk_at dksX2_laysSide_7 18 rfl rfl)
theorem dX2_laysSide_188 : decode cX2_laysSide 188 = .ok (.aload_n 0, 1) := dk_42 (dk_at dksX2_laysSide_7 21 rfl rfl)
theorem dX2_laysSide_189 : decode cX2_laysSide 189 = .ok (.iload_n 1, 1) := dk_27 (dk_at dksX2_laysSide_7 22 rfl rfl)
theorem dX2_laysSide_190 : decode cX2_laysSide 190 = .ok (.iload_n 2, 1) := dk_28 (dk_at dksX2_laysSide_7 23 rfl rfl)
theorem dX2_laysSide_191 : decode cX2_laysSide 191 = .ok (.invokevirtual 322, 3) := dk_182 1 66 (dk_at dksX2_laysSide_8 0 rfl rfl)
theorem dX2_laysSide_194 : decode cX2_laysSide 194 = .ok (.iload 7, 2) := dk_21 7 (dk_at dksX2_laysSide_8 3 rfl rfl)
theorem dX2_laysSide_196 : decode cX2_laysSide 196 = .ok (.iload 5, 2) := dk_21 5 (dk_at dksX2_laysSide_8 5 rfl rfl)
theorem dX2_laysSide_198 : decode cX2_laysSide 198 = .ok (.iload 6, 2) := dk_21 6 (dk_at dksX2_laysSide_8 7 rfl rfl)
theorem dX2_laysSide_200 : decode cX2_laysSide 200 = .ok (.idiv, 1) := dk_108 (dk_at dksX2_laysSide_8 9 rfl rfl)
theorem dX2_laysSide_201 : decode cX2_laysSide 201 = .ok (.imul, 1) := dk_104 (dk_at dksX2_laysSide_8 10 rfl rfl)
theorem dX2_laysSide_202 : decode cX2_laysSide 202 = .ok (.isub, 1) := dk_100 (dk_at dksX2_laysSide_8 11 rfl rfl)
theorem dX2_laysSide_203 : decode cX2_laysSide 203 = .ok (.if_icmp .ne 7, 3) := dk_160 0 7 (dk_at dksX2_laysSide_8 12 rfl rfl)
theorem dX2_laysSide_206 : decode cX2_laysSide 206 = .ok (.iconst 1, 1) := dk_4 (dk_at dksX2_laysSide_8 15 rfl rfl)
theorem dX2_laysSide_207 : decode cX2_laysSide 207 = .ok (.goto 4, 3) := dk_167 0 4 (dk_at dksX2_laysSide_8 16 rfl rfl)
theorem dX2_laysSide_210 : decode cX2_laysSide 210 = .ok (.iconst 0, 1) := dk_3 (dk_at dksX2_laysSide_8 19 rfl rfl)
theorem dX2_laysSide_211 : decode cX2_laysSide 211 = .ok (.istore 9, 2) := dk_54 9 (dk_at dksX2_laysSide_8 20 rfl rfl)
theorem dX2_laysSide_213 : decode cX2_laysSide 213 = .ok (.aload_n 0, 1) := dk_42 (dk_at dksX2_laysSide_8 22 rfl rfl)
theorem dX2_laysSide_214 : decode cX2_laysSide 214 = .ok (.getfield 104, 3) := dk_180 0 104 (dk_at dksX2_laysSide_9 0 rfl rfl)
theorem dX2_laysSide_217 : decode cX2_laysSide 217 = .ok (.bipush 9, 2) := dk_16 9 (dk_at dksX2_laysSide_9 3 rfl rfl)
theorem dX2_laysSide_219 : decode cX2_laysSide 219 = .ok (.iload 4, 2) := dk_21 4 (dk_at dksX2_laysSide_9 5 rfl rfl)
theorem dX2_laysSide_221 : decode cX2_laysSide 221 = .ok (.imul, 1) := dk_104 (dk_at dksX2_laysSide_9 7 rfl rfl)
theorem dX2_laysSide_222 : decode cX2_laysSide 222 = .ok (.iload 7, 2) := dk_21 7 (dk_at dksX2_laysSide_9 8 rfl rfl)
theorem dX2_laysSide_224 : decode cX2_laysSide 224 = .ok (.iadd, 1) := dk_96 (dk_at dksX2_laysSide_9 10 rfl rfl)
theorem dX2_laysSide_225 : decode cX2_laysSide 225 = .ok (.iload 9, 2) := dk_21 9 (dk_at dksX2_laysSide_9 11 rfl rfl)
theorem dX2_laysSide_227 : decode cX2_laysSide 227 = .ok (.ifCond .eq 17, 3) := dk_153 0 17 (dk_at dksX2_laysSide_9 13 rfl rfl)
theorem dX2_laysSide_230 : decode cX2_laysSide 230 = .ok (.aload_n 0, 1) := dk_42 (dk_at dksX2_laysSide_9 16 rfl rfl)
theorem dX2_laysSide_231 : decode cX2_laysSide 231 = .ok (.iload_n 1, 1) := dk_27 (dk_at dksX2_laysSide_9 17 rfl rfl)
theorem dX2_laysSide_232 : decode cX2_laysSide 232 = .ok (.iload 4, 2) := dk_21 4 (dk_at dksX2_laysSide_9 18 rfl rfl)
theorem dX2_laysSide_234 : decode cX2_laysSide 234 = .ok (.iload 8, 2) := dk_21 8 (dk_at dksX2_laysSide_9 20 rfl rfl)
theorem dX2_laysSide_236 : decode cX2_laysSide 236 = .ok (.iload 7, 2) := dk_21 7 (dk_at dksX2_laysSide_9 22 rfl rfl)
theorem dX2_laysSide_238 : decode cX2_laysSide 238 = .ok (.invokevirtual 342, 3) := dk_182 1 86 (dk_at dksX2_laysSide_10 0 rfl rfl)
theorem dX2_laysSide_241 : decode cX2_laysSide 241 = .ok (.goto 4, 3) := dk_167 0 4 (dk_at dksX2_laysSide_10 3 rfl rfl)
theorem dX2_laysSide_244 : decode cX2_laysSide 244 = .ok (.iconst 0, 1) := dk_3 (dk_at dksX2_laysSide_10 6 rfl rfl)
theorem dX2_laysSide_245 : decode cX2_laysSide 245 = .ok (.iastore, 1) := dk_79 (dk_at dksX2_laysSide_10 7 rfl rfl)
theorem dX2_laysSide_246 : decode cX2_laysSide 246 = .ok (.iinc 7 1, 3) := dk_132 7 1 (dk_at dksX2_laysSide_10 8 rfl rfl)
theorem dX2_laysSide_249 : decode cX2_laysSide 249 = .ok (.goto (-96), 3) := dk_167 255 160 (dk_at dksX2_laysSide_10 11 rfl rfl)
theorem dX2_laysSide_252 : decode cX2_laysSide 252 = .ok (.aload_n 0, 1) := dk_42 (dk_at dksX2_laysSide_10 14 rfl rfl)
theorem dX2_laysSide_253 : decode cX2_laysSide 253 = .ok (.dup, 1) := dk_89 (dk_at dksX2_laysSide_10 15 rfl rfl)
theorem dX2_laysSide_254 : decode cX2_laysSide 254 = .ok (.getfield 325, 3) := dk_180 1 69 (dk_at dksX2_laysSide_10 16 rfl rfl)
theorem dX2_laysSide_257 : decode cX2_laysSide 257 = .ok (.iconst 1, 1) := dk_4 (dk_at dksX2_laysSide_10 19 rfl rfl)
theorem dX2_laysSide_258 : decode cX2_laysSide 258 = .ok (.iadd, 1) := dk_96 (dk_at dksX2_laysSide_10 20 rfl rfl)
theorem dX2_laysSide_259 : decode cX2_laysSide 259 = .ok (.putfield 325, 3) := dk_181 1 69 (dk_at dksX2_laysSide_10 21 rfl rfl)
theorem dX2_laysSide_262 : decode cX2_laysSide 262 = .ok (.return_, 1) := dk_177 (dk_at dksX2_laysSide_11 0 rfl rfl)
abbrev cX2_divisor : ByteArray := prog_18_method_50_code
def yX2_divisor : MethodName := ⟨RX2, "divisor", "(II)I"⟩
def dkwX2_divisor_0 : List UInt8 := [26, 61, 27, 62, 29, 153, 0, 16, 28, 29, 112, 54, 4, 29, 61, 21, 4, 62, 167, 255, 242, 28, 172]
abbrev dktX2_divisor_0 : List UInt8 := dkwX2_divisor_0 ++ []
theorem dksX2_divisor_0 : cX2_divisor.data.toList.drop 0 = dktX2_divisor_0 := by decide +kernel
theorem dX2_divisor_0 : decode cX2_divisor 0 = .ok (.iload_n 0, 1) := dk_26 (dk_at dksX2_divisor_0 0 rfl rfl)
theorem dX2_divisor_1 : decode cX2_divisor 1 = .ok (.istore_n 2, 1) := dk_61 (dk_at dksX2_divisor_0 1 rfl rfl)
theorem dX2_divisor_2 : decode cX2_divisor 2 = .ok (.iload_n 1, 1) := dk_27 (dk_at dksX2_divisor_0 2 rfl rfl)
theorem dX2_divisor_3 : decode cX2_divisor 3 = .ok (.istore_n 3, 1) := dk_62 (dk_at dksX2_divisor_0 3 rfl rfl)
theorem dX2_divisor_4 : decode cX2_divisor 4 = .ok (.iload_n 3, 1) := dk_29 (dk_at dksX2_divisor_0 4 rfl rfl)
theorem dX2_divisor_5 : decode cX2_divisor 5 = .ok (.ifCond .eq 16, 3) := dk_153 0 16 (dk_at dksX2_divisor_0 5 rfl rfl)
theorem dX2_divisor_8 : decode cX2_divisor 8 = .ok (.iload_n 2, 1) := dk_28 (dk_at dksX2_divisor_0 8 rfl rfl)
theorem dX2_divisor_9 : decode cX2_divisor 9 = .ok (.iload_n 3, 1) := dk_29 (dk_at dksX2_divisor_0 9 rfl rfl)
theorem dX2_divisor_10 : decode cX2_divisor 10 = .ok (.irem, 1) := dk_112 (dk_at dksX2_divisor_0 10 rfl rfl)
theorem dX2_divisor_11 : decode cX2_divisor 11 = .ok (.istore 4, 2) := dk_54 4 (dk_at dksX2_divisor_0 11 rfl rfl)
theorem dX2_divisor_13 : decode cX2_divisor 13 = .ok (.iload_n 3, 1) := dk_29 (dk_at dksX2_divisor_0 13 rfl rfl)
theorem dX2_divisor_14 : decode cX2_divisor 14 = .ok (.istore_n 2, 1) := dk_61 (dk_at dksX2_divisor_0 14 rfl rfl)
theorem dX2_divisor_15 : decode cX2_divisor 15 = .ok (.iload 4, 2) := dk_21 4 (dk_at dksX2_divisor_0 15 rfl rfl)
theorem dX2_divisor_17 : decode cX2_divisor 17 = .ok (.istore_n 3, 1) := dk_62 (dk_at dksX2_divisor_0 17 rfl rfl)
theorem dX2_divisor_18 : decode cX2_divisor 18 = .ok (.goto (-14), 3) := dk_167 255 242 (dk_at dksX2_divisor_0 18 rfl rfl)
theorem dX2_divisor_21 : decode cX2_divisor 21 = .ok (.iload_n 2, 1) := dk_28 (dk_at dksX2_divisor_0 21 rfl rfl)
theorem dX2_divisor_22 : decode cX2_divisor 22 = .ok (.ireturn, 1) := dk_172 (dk_at dksX2_divisor_0 22 rfl rfl)
abbrev cX2_laysMonomial : ByteArray := prog_18_method_46_code
def yX2_laysMonomial : MethodName := ⟨RX2, "laysMonomial", "(I)V"⟩
def dkwX2_laysMonomial_4 : List UInt8 := [167, 255, 191, 42, 180, 0, 137, 3, 28, 79, 177]
abbrev dktX2_laysMonomial_4 : List UInt8 := dkwX2_laysMonomial_4 ++ []
def dkwX2_laysMonomial_3 : List UInt8 := [79, 28, 21, 4, 42, 180, 0, 128, 29, 46, 104, 100, 42, 180, 0, 122, 29, 46, 108, 61, 132, 3, 255]
abbrev dktX2_laysMonomial_3 : List UInt8 := dkwX2_laysMonomial_3 ++ dktX2_laysMonomial_4
def dkwX2_laysMonomial_2 : List UInt8 := [100, 42, 180, 0, 122, 29, 46, 112, 153, 0, 9, 132, 4, 1, 167, 255, 232, 42, 180, 0, 137, 29, 21, 4]
abbrev dktX2_laysMonomial_2 : List UInt8 := dkwX2_laysMonomial_2 ++ dktX2_laysMonomial_3
def dkwX2_laysMonomial_1 : List UInt8 := [180, 1, 44, 4, 100, 62, 29, 4, 161, 0, 66, 3, 54, 4, 28, 21, 4, 42, 180, 0, 128, 29, 46, 104]
abbrev dktX2_laysMonomial_1 : List UInt8 := dkwX2_laysMonomial_1 ++ dktX2_laysMonomial_2
def dkwX2_laysMonomial_0 : List UInt8 := [27, 61, 3, 62, 29, 16, 7, 162, 0, 16, 42, 180, 0, 137, 29, 3, 79, 132, 3, 1, 167, 255, 240, 42]
abbrev dktX2_laysMonomial_0 : List UInt8 := dkwX2_laysMonomial_0 ++ dktX2_laysMonomial_1
theorem dksX2_laysMonomial_0 : cX2_laysMonomial.data.toList.drop 0 = dktX2_laysMonomial_0 := by decide +kernel
theorem dksX2_laysMonomial_1 : cX2_laysMonomial.data.toList.drop 24 = dktX2_laysMonomial_1 := dk_seg dksX2_laysMonomial_0 24 rfl rfl
theorem dksX2_laysMonomial_2 : cX2_laysMonomial.data.toList.drop 48 = dktX2_laysMonomial_2 := dk_seg dksX2_laysMonomial_1 24 rfl rfl
theorem dksX2_laysMonomial_3 : cX2_laysMonomial.data.toList.drop 72 = dktX2_laysMonomial_3 := dk_seg dksX2_laysMonomial_2 24 rfl rfl
theorem dksX2_laysMonomial_4 : cX2_laysMonomial.data.toList.drop 95 = dktX2_laysMonomial_4 := dk_seg dksX2_laysMonomial_3 23 rfl rfl
theorem dX2_laysMonomial_0 : decode cX2_laysMonomial 0 = .ok (.iload_n 1, 1) := dk_27 (dk_at dksX2_laysMonomial_0 0 rfl rfl)
theorem dX2_laysMonomial_1 : decode cX2_laysMonomial 1 = .ok (.istore_n 2, 1) := dk_61 (dk_at dksX2_laysMonomial_0 1 rfl rfl)
theorem dX2_laysMonomial_2 : decode cX2_laysMonomial 2 = .ok (.iconst 0, 1) := dk_3 (dk_at dksX2_laysMonomial_0 2 rfl rfl)
theorem dX2_laysMonomial_3 : decode cX2_laysMonomial 3 = .ok (.istore_n 3, 1) := dk_62 (dk_at dksX2_laysMonomial_0 3 rfl rfl)
theorem dX2_laysMonomial_4 : decode cX2_laysMonomial 4 = .ok (.iload_n 3, 1) := dk_29 (dk_at dksX2_laysMonomial_0 4 rfl rfl)
theorem dX2_laysMonomial_5 : decode cX2_laysMonomial 5 = .ok (.bipush 7, 2) := dk_16 7 (dk_at dksX2_laysMonomial_0 5 rfl rfl)
theorem dX2_laysMonomial_7 : decode cX2_laysMonomial 7 = .ok (.if_icmp .ge 16, 3) := dk_162 0 16 (dk_at dksX2_laysMonomial_0 7 rfl rfl)
theorem dX2_laysMonomial_10 : decode cX2_laysMonomial 10 = .ok (.aload_n 0, 1) := dk_42 (dk_at dksX2_laysMonomial_0 10 rfl rfl)
theorem dX2_laysMonomial_11 : decode cX2_laysMonomial 11 = .ok (.getfield 137, 3) := dk_180 0 137 (dk_at dksX2_laysMonomial_0 11 rfl rfl)
theorem dX2_laysMonomial_14 : decode cX2_laysMonomial 14 = .ok (.iload_n 3, 1) := dk_29 (dk_at dksX2_laysMonomial_0 14 rfl rfl)
theorem dX2_laysMonomial_15 : decode cX2_laysMonomial 15 = .ok (.iconst 0, 1) := dk_3 (dk_at dksX2_laysMonomial_0 15 rfl rfl)
theorem dX2_laysMonomial_16 : decode cX2_laysMonomial 16 = .ok (.iastore, 1) := dk_79 (dk_at dksX2_laysMonomial_0 16 rfl rfl)
theorem dX2_laysMonomial_17 : decode cX2_laysMonomial 17 = .ok (.iinc 3 1, 3) := dk_132 3 1 (dk_at dksX2_laysMonomial_0 17 rfl rfl)
theorem dX2_laysMonomial_20 : decode cX2_laysMonomial 20 = .ok (.goto (-16), 3) := dk_167 255 240 (dk_at dksX2_laysMonomial_0 20 rfl rfl)
theorem dX2_laysMonomial_23 : decode cX2_laysMonomial 23 = .ok (.aload_n 0, 1) := dk_42 (dk_at dksX2_laysMonomial_0 23 rfl rfl)
theorem dX2_laysMonomial_24 : decode cX2_laysMonomial 24 = .ok (.getfield 300, 3) := dk_180 1 44 (dk_at dksX2_laysMonomial_1 0 rfl rfl)
theorem dX2_laysMonomial_27 : decode cX2_laysMonomial 27 = .ok (.iconst 1, 1) := dk_4 (dk_at dksX2_laysMonomial_1 3 rfl rfl)
theorem dX2_laysMonomial_28 : decode cX2_laysMonomial 28 = .ok (.isub, 1) := dk_100 (dk_at dksX2_laysMonomial_1 4 rfl rfl)
theorem dX2_laysMonomial_29 : decode cX2_laysMonomial 29 = .ok (.istore_n 3, 1) := dk_62 (dk_at dksX2_laysMonomial_1 5 rfl rfl)
theorem dX2_laysMonomial_30 : decode cX2_laysMonomial 30 = .ok (.iload_n 3, 1) := dk_29 (dk_at dksX2_laysMonomial_1 6 rfl rfl)
theorem dX2_laysMonomial_31 : decode cX2_laysMonomial 31 = .ok (.iconst 1, 1) := dk_4 (dk_at dksX2_laysMonomial_1 7 rfl rfl)
theorem dX2_laysMonomial_32 : decode cX2_laysMonomial 32 = .ok (.if_icmp .lt 66, 3) := dk_161 0 66 (dk_at dksX2_laysMonomial_1 8 rfl rfl)
theorem dX2_laysMonomial_35 : decode cX2_laysMonomial 35 = .ok (.iconst 0, 1) := dk_3 (dk_at dksX2_laysMonomial_1 11 rfl rfl)
theorem dX2_laysMonomial_36 : decode cX2_laysMonomial 36 = .ok (.istore 4, 2) := dk_54 4 (dk_at dksX2_laysMonomial_1 12 rfl rfl)
theorem dX2_laysMonomial_38 : decode cX2_laysMonomial 38 = .ok (.iload_n 2, 1) := dk_28 (dk_at dksX2_laysMonomial_1 14 rfl rfl)
theorem dX2_laysMonomial_39 : decode cX2_laysMonomial 39 = .ok (.iload 4, 2) := dk_21 4 (dk_at dksX2_laysMonomial_1 15 rfl rfl)
theorem dX2_laysMonomial_41 : decode cX2_laysMonomial 41 = .ok (.aload_n 0, 1) := dk_42 (dk_at dksX2_laysMonomial_1 17 rfl rfl)
theorem dX2_laysMonomial_42 : decode cX2_laysMonomial 42 = .ok (.getfield 128, 3) := dk_180 0 128 (dk_at dksX2_laysMonomial_1 18 rfl rfl)
theorem dX2_laysMonomial_45 : decode cX2_laysMonomial 45 = .ok (.iload_n 3, 1) := dk_29 (dk_at dksX2_laysMonomial_1 21 rfl rfl)
theorem dX2_laysMonomial_46 : decode cX2_laysMonomial 46 = .ok (.iaload, 1) := dk_46 (dk_at dksX2_laysMonomial_1 22 rfl rfl)
theorem dX2_laysMonomial_47 : decode cX2_laysMonomial 47 = .ok (.imul, 1) := dk_104 (dk_at dksX2_laysMonomial_1 23 rfl rfl)
theorem dX2_laysMonomial_48 : decode cX2_laysMonomial 48 = .ok (.isub, 1) := dk_100 (dk_at dksX2_laysMonomial_2 0 rfl rfl)
theorem dX2_laysMonomial_49 : decode cX2_laysMonomial 49 = .ok (.aload_n 0, 1) := dk_42 (dk_at dksX2_laysMonomial_2 1 rfl rfl)
theorem dX2_laysMonomial_50 : decode cX2_laysMonomial 50 = .ok (.getfield 122, 3) := dk_180 0 122 (dk_at dksX2_laysMonomial_2 2 rfl rfl)
theorem dX2_laysMonomial_53 : decode cX2_laysMonomial 53 = .ok (.iload_n 3, 1) := dk_29 (dk_at dksX2_laysMonomial_2 5 rfl rfl)
theorem dX2_laysMonomial_54 : decode cX2_laysMonomial 54 = .ok (.iaload, 1) := dk_46 (dk_at dksX2_laysMonomial_2 6 rfl rfl)
theorem dX2_laysMonomial_55 : decode cX2_laysMonomial 55 = .ok (.irem, 1) := dk_112 (dk_at dksX2_laysMonomial_2 7 rfl rfl)
theorem dX2_laysMonomial_56 : decode cX2_laysMonomial 56 = .ok (.ifCond .eq 9, 3) := dk_153 0 9 (dk_at dksX2_laysMonomial_2 8 rfl rfl)
theorem dX2_laysMonomial_59 : decode cX2_laysMonomial 59 = .ok (.iinc 4 1, 3) := dk_132 4 1 (dk_at dksX2_laysMonomial_2 11 rfl rfl)
theorem dX2_laysMonomial_62 : decode cX2_laysMonomial 62 = .ok (.goto (-24), 3) := dk_167 255 232 (dk_at dksX2_laysMonomial_2 14 rfl rfl)
theorem dX2_laysMonomial_65 : decode cX2_laysMonomial 65 = .ok (.aload_n 0, 1) := dk_42 (dk_at dksX2_laysMonomial_2 17 rfl rfl)
theorem dX2_laysMonomial_66 : decode cX2_laysMonomial 66 = .ok (.getfield 137, 3) := dk_180 0 137 (dk_at dksX2_laysMonomial_2 18 rfl rfl)
theorem dX2_laysMonomial_69 : decode cX2_laysMonomial 69 = .ok (.iload_n 3, 1) := dk_29 (dk_at dksX2_laysMonomial_2 21 rfl rfl)
theorem dX2_laysMonomial_70 : decode cX2_laysMonomial 70 = .ok (.iload 4, 2) := dk_21 4 (dk_at dksX2_laysMonomial_2 22 rfl rfl)
theorem dX2_laysMonomial_72 : decode cX2_laysMonomial 72 = .ok (.iastore, 1) := dk_79 (dk_at dksX2_laysMonomial_3 0 rfl rfl)
theorem dX2_laysMonomial_73 : decode cX2_laysMonomial 73 = .ok (.iload_n 2, 1) := dk_28 (dk_at dksX2_laysMonomial_3 1 rfl rfl)
theorem dX2_laysMonomial_74 : decode cX2_laysMonomial 74 = .ok (.iload 4, 2) := dk_21 4 (dk_at dksX2_laysMonomial_3 2 rfl rfl)
theorem dX2_laysMonomial_76 : decode cX2_laysMonomial 76 = .ok (.aload_n 0, 1) := dk_42 (dk_at dksX2_laysMonomial_3 4 rfl rfl)
theorem dX2_laysMonomial_77 : decode cX2_laysMonomial 77 = .ok (.getfield 128, 3) := dk_180 0 128 (dk_at dksX2_laysMonomial_3 5 rfl rfl)
theorem dX2_laysMonomial_80 : decode cX2_laysMonomial 80 = .ok (.iload_n 3, 1) := dk_29 (dk_at dksX2_laysMonomial_3 8 rfl rfl)
theorem dX2_laysMonomial_81 : decode cX2_laysMonomial 81 = .ok (.iaload, 1) := dk_46 (dk_at dksX2_laysMonomial_3 9 rfl rfl)
theorem dX2_laysMonomial_82 : decode cX2_laysMonomial 82 = .ok (.imul, 1) := dk_104 (dk_at dksX2_laysMonomial_3 10 rfl rfl)
theorem dX2_laysMonomial_83 : decode cX2_laysMonomial 83 = .ok (.isub, 1) := dk_100 (dk_at dksX2_laysMonomial_3 11 rfl rfl)
theorem dX2_laysMonomial_84 : decode cX2_laysMonomial 84 = .ok (.aload_n 0, 1) := dk_42 (dk_at dksX2_laysMonomial_3 12 rfl rfl)
theorem dX2_laysMonomial_85 : decode cX2_laysMonomial 85 = .ok (.getfield 122, 3) := dk_180 0 122 (dk_at dksX2_laysMonomial_3 13 rfl rfl)
theorem dX2_laysMonomial_88 : decode cX2_laysMonomial 88 = .ok (.iload_n 3, 1) := dk_29 (dk_at dksX2_laysMonomial_3 16 rfl rfl)
theorem dX2_laysMonomial_89 : decode cX2_laysMonomial 89 = .ok (.iaload, 1) := dk_46 (dk_at dksX2_laysMonomial_3 17 rfl rfl)
theorem dX2_laysMonomial_90 : decode cX2_laysMonomial 90 = .ok (.idiv, 1) := dk_108 (dk_at dksX2_laysMonomial_3 18 rfl rfl)
theorem dX2_laysMonomial_91 : decode cX2_laysMonomial 91 = .ok (.istore_n 2, 1) := dk_61 (dk_at dksX2_laysMonomial_3 19 rfl rfl)
theorem dX2_laysMonomial_92 : decode cX2_laysMonomial 92 = .ok (.iinc 3 (-1), 3) := dk_132 3 255 (dk_at dksX2_laysMonomial_3 20 rfl rfl)
theorem dX2_laysMonomial_95 : decode cX2_laysMonomial 95 = .ok (.goto (-65), 3) := dk_167 255 191 (dk_at dksX2_laysMonomial_4 0 rfl rfl)
theorem dX2_laysMonomial_98 : decode cX2_laysMonomial 98 = .ok (.aload_n 0, 1) := dk_42 (dk_at dksX2_laysMonomial_4 3 rfl rfl)
theorem dX2_laysMonomial_99 : decode cX2_laysMonomial 99 = .ok (.getfield 137, 3) := dk_180 0 137 (dk_at dksX2_laysMonomial_4 4 rfl rfl)
theorem dX2_laysMonomial_102 : decode cX2_laysMonomial 102 = .ok (.iconst 0, 1) := dk_3 (dk_at dksX2_laysMonomial_4 7 rfl rfl)
theorem dX2_laysMonomial_103 : decode cX2_laysMonomial 103 = .ok (.iload_n 2, 1) := dk_28 (dk_at dksX2_laysMonomial_4 8 rfl rfl)
theorem dX2_laysMonomial_104 : decode cX2_laysMonomial 104 = .ok (.iastore, 1) := dk_79 (dk_at dksX2_laysMonomial_4 9 rfl rfl)
theorem dX2_laysMonomial_105 : decode cX2_laysMonomial 105 = .ok (.return_, 1) := dk_177 (dk_at dksX2_laysMonomial_4 10 rfl rfl)
abbrev cX2_residualAt : ByteArray := prog_18_method_54_code
def yX2_residualAt : MethodName := ⟨RX2, "residualAt", "(IIII)I"⟩
def dkwX2_residualAt_3 : List UInt8 := [180, 1, 53, 172]
abbrev dktX2_residualAt_3 : List UInt8 := dkwX2_residualAt_3 ++ []
def dkwX2_residualAt_2 : List UInt8 := [16, 7, 28, 104, 21, 6, 96, 46, 104, 96, 79, 132, 6, 1, 167, 255, 221, 42, 182, 1, 90, 42]
abbrev dktX2_residualAt_2 : List UInt8 := dkwX2_residualAt_2 ++ dktX2_residualAt_3
def dkwX2_residualAt_1 : List UInt8 := [54, 6, 21, 6, 16, 7, 162, 0, 34, 42, 180, 0, 137, 21, 6, 92, 46, 21, 4, 42, 180, 0, 101]
abbrev dktX2_residualAt_1 : List UInt8 := dkwX2_residualAt_1 ++ dktX2_residualAt_2
def dkwX2_residualAt_0 : List UInt8 := [42, 27, 182, 1, 56, 42, 29, 42, 180, 0, 125, 42, 180, 1, 44, 46, 104, 182, 1, 60, 54, 5, 3]
abbrev dktX2_residualAt_0 : List UInt8 := dkwX2_residualAt_0 ++ dktX2_residualAt_1
theorem dksX2_residualAt_0 : cX2_residualAt.data.toList.drop 0 = dktX2_residualAt_0 := by decide +kernel
theorem dksX2_residualAt_1 : cX2_residualAt.data.toList.drop 23 = dktX2_residualAt_1 := dk_seg dksX2_residualAt_0 23 rfl rfl
theorem dksX2_residualAt_2 : cX2_residualAt.data.toList.drop 46 = dktX2_residualAt_2 := dk_seg dksX2_residualAt_1 23 rfl rfl
theorem dksX2_residualAt_3 : cX2_residualAt.data.toList.drop 68 = dktX2_residualAt_3 := dk_seg dksX2_residualAt_2 22 rfl rfl
theorem dX2_residualAt_0 : decode cX2_residualAt 0 = .ok (.aload_n 0, 1) := dk_42 (dk_at dksX2_residualAt_0 0 rfl rfl)
theorem dX2_residualAt_1 : decode cX2_residualAt 1 = .ok (.iload_n 1, 1) := dk_27 (dk_at dksX2_residualAt_0 1 rfl rfl)
theorem dX2_residualAt_2 : decode cX2_residualAt 2 = .ok (.invokevirtual 312, 3) := dk_182 1 56 (dk_at dksX2_residualAt_0 2 rfl rfl)
theorem dX2_residualAt_5 : decode cX2_residualAt 5 = .ok (.aload_n 0, 1) := dk_42 (dk_at dksX2_residualAt_0 5 rfl rfl)
theorem dX2_residualAt_6 : decode cX2_residualAt 6 = .ok (.iload_n 3, 1) := dk_29 (dk_at dksX2_residualAt_0 6 rfl rfl)
theorem dX2_residualAt_7 : decode cX2_residualAt 7 = .ok (.aload_n 0, 1) := dk_42 (dk_at dksX2_residualAt_0 7 rfl rfl)
theorem dX2_residualAt_8 : decode cX2_residualAt 8 = .ok (.getfield 125, 3) := dk_180 0 125 (dk_at dksX2_residualAt_0 8 rfl rfl)
theorem dX2_residualAt_11 : decode cX2_residualAt 11 = .ok (.aload_n 0, 1) := dk_42 (dk_at dksX2_residualAt_0 11 rfl rfl)
theorem dX2_residualAt_12 : decode cX2_residualAt 12 = .ok (.getfield 300, 3) := dk_180 1 44 (dk_at dksX2_residualAt_0 12 rfl rfl)
theorem dX2_residualAt_15 : decode cX2_residualAt 15 = .ok (.iaload, 1) := dk_46 (dk_at dksX2_residualAt_0 15 rfl rfl)
theorem dX2_residualAt_16 : decode cX2_residualAt 16 = .ok (.imul, 1) := dk_104 (dk_at dksX2_residualAt_0 16 rfl rfl)
theorem dX2_residualAt_17 : decode cX2_residualAt 17 = .ok (.invokevirtual 316, 3) := dk_182 1 60 (dk_at dksX2_residualAt_0 17 rfl rfl)
theorem dX2_residualAt_20 : decode cX2_residualAt 20 = .ok (.istore 5, 2) := dk_54 5 (dk_at dksX2_residualAt_0 20 rfl rfl)
theorem dX2_residualAt_22 : decode cX2_residualAt 22 = .ok (.iconst 0, 1) := dk_3 (dk_at dksX2_residualAt_0 22 rfl rfl)
theorem dX2_residualAt_23 : decode cX2_residualAt 23 = .ok (.istore 6, 2) := dk_54 6 (dk_at dksX2_residualAt_1 0 rfl rfl)
theorem dX2_residualAt_25 : decode cX2_residualAt 25 = .ok (.iload 6, 2) := dk_21 6 (dk_at dksX2_residualAt_1 2 rfl rfl)
theorem dX2_residualAt_27 : decode cX2_residualAt 27 = .ok (.bipush 7, 2) := dk_16 7 (dk_at dksX2_residualAt_1 4 rfl rfl)
theorem dX2_residualAt_29 : decode cX2_residualAt 29 = .ok (.if_icmp .ge 34, 3) := dk_162 0 34 (dk_at dksX2_residualAt_1 6 rfl rfl)
theorem dX2_residualAt_32 : decode cX2_residualAt 32 = .ok (.aload_n 0, 1) := dk_42 (dk_at dksX2_residualAt_1 9 rfl rfl)
theorem dX2_residualAt_33 : decode cX2_residualAt 33 = .ok (.getfield 137, 3) := dk_180 0 137 (dk_at dksX2_residualAt_1 10 rfl rfl)
theorem dX2_residualAt_36 : decode cX2_residualAt 36 = .ok (.iload 6, 2) := dk_21 6 (dk_at dksX2_residualAt_1 13 rfl rfl)
theorem dX2_residualAt_38 : decode cX2_residualAt 38 = .ok (.dup2, 1) := dk_92 (dk_at dksX2_residualAt_1 15 rfl rfl)
theorem dX2_residualAt_39 : decode cX2_residualAt 39 = .ok (.iaload, 1) := dk_46 (dk_at dksX2_residualAt_1 16 rfl rfl)
theorem dX2_residualAt_40 : decode cX2_residualAt 40 = .ok (.iload 4, 2) := dk_21 4 (dk_at dksX2_residualAt_1 17 rfl rfl)
theorem dX2_residualAt_42 : decode cX2_residualAt 42 = .ok (.aload_n 0, 1) := dk_42 (dk_at dksX2_residualAt_1 19 rfl rfl)
theorem dX2_residualAt_43 : decode cX2_residualAt 43 = .ok (.getfield 101, 3) := dk_180 0 101 (dk_at dksX2_residualAt_1 20 rfl rfl)
theorem dX2_residualAt_46 : decode cX2_residualAt 46 = .ok (.bipush 7, 2) := dk_16 7 (dk_at dksX2_residualAt_2 0 rfl rfl)
theorem dX2_residualAt_48 : decode cX2_residualAt 48 = .ok (.iload_n 2, 1) := dk_28 (dk_at dksX2_residualAt_2 2 rfl rfl)
theorem dX2_residualAt_49 : decode cX2_residualAt 49 = .ok (.imul, 1) := dk_104 (dk_at dksX2_residualAt_2 3 rfl rfl)
theorem dX2_residualAt_50 : decode cX2_residualAt 50 = .ok (.iload 6, 2) := dk_21 6 (dk_at dksX2_residualAt_2 4 rfl rfl)
theorem dX2_residualAt_52 : decode cX2_residualAt 52 = .ok (.iadd, 1) := dk_96 (dk_at dksX2_residualAt_2 6 rfl rfl)
theorem dX2_residualAt_53 : decode cX2_residualAt 53 = .ok (.iaload, 1) := dk_46 (dk_at dksX2_residualAt_2 7 rfl rfl)
theorem dX2_residualAt_54 : decode cX2_residualAt 54 = .ok (.imul, 1) := dk_104 (dk_at dksX2_residualAt_2 8 rfl rfl)
theorem dX2_residualAt_55 : decode cX2_residualAt 55 = .ok (.iadd, 1) := dk_96 (dk_at dksX2_residualAt_2 9 rfl rfl)
theorem dX2_residualAt_56 : decode cX2_residualAt 56 = .ok (.iastore, 1) := dk_79 (dk_at dksX2_residualAt_2 10 rfl rfl)
theorem dX2_residualAt_57 : decode cX2_residualAt 57 = .ok (.iinc 6 1, 3) := dk_132 6 1 (dk_at dksX2_residualAt_2 11 rfl rfl)
theorem dX2_residualAt_60 : decode cX2_residualAt 60 = .ok (.goto (-35), 3) := dk_167 255 221 (dk_at dksX2_residualAt_2 14 rfl rfl)
theorem dX2_residualAt_63 : decode cX2_residualAt 63 = .ok (.aload_n 0, 1) := dk_42 (dk_at dksX2_residualAt_2 17 rfl rfl)
theorem dX2_residualAt_64 : decode cX2_residualAt 64 = .ok (.invokevirtual 346, 3) := dk_182 1 90 (dk_at dksX2_residualAt_2 18 rfl rfl)
theorem dX2_residualAt_67 : decode cX2_residualAt 67 = .ok (.aload_n 0, 1) := dk_42 (dk_at dksX2_residualAt_2 21 rfl rfl)
theorem dX2_residualAt_68 : decode cX2_residualAt 68 = .ok (.getfield 309, 3) := dk_180 1 53 (dk_at dksX2_residualAt_3 0 rfl rfl)
theorem dX2_residualAt_71 : decode cX2_residualAt 71 = .ok (.ireturn, 1) := dk_172 (dk_at dksX2_residualAt_3 3 rfl rfl)
abbrev cX2_takesDown : ByteArray := prog_18_method_45_code
def yX2_takesDown : MethodName := ⟨RX2, "takesDown", "()V"⟩
def dkwX2_takesDown_4 : List UInt8 := [46, 46, 104, 42, 180, 0, 168, 112, 181, 1, 53, 167, 255, 162, 132, 1, 255, 167, 255, 151, 177]
abbrev dktX2_takesDown_4 : List UInt8 := dkwX2_takesDown_4 ++ []
def dkwX2_takesDown_3 : List UInt8 := [96, 46, 96, 79, 132, 2, 1, 167, 255, 222, 42, 42, 180, 1, 53, 42, 180, 0, 77, 42, 180, 0, 134, 27]
abbrev dktX2_takesDown_3 : List UInt8 := dkwX2_takesDown_3 ++ dktX2_takesDown_4
def dkwX2_takesDown_2 : List UInt8 := [162, 0, 34, 42, 180, 0, 137, 28, 92, 46, 42, 180, 0, 80, 16, 7, 42, 180, 0, 134, 27, 46, 104, 28]
abbrev dktX2_takesDown_2 : List UInt8 := dkwX2_takesDown_2 ++ dktX2_takesDown_3
def dkwX2_takesDown_1 : List UInt8 := [161, 0, 85, 42, 180, 0, 137, 27, 92, 46, 42, 180, 0, 122, 27, 46, 100, 79, 3, 61, 28, 16, 7]
abbrev dktX2_takesDown_1 : List UInt8 := dkwX2_takesDown_1 ++ dktX2_takesDown_2
def dkwX2_takesDown_0 : List UInt8 := [42, 180, 1, 44, 4, 100, 60, 27, 4, 161, 0, 106, 42, 180, 0, 137, 27, 46, 42, 180, 0, 122, 27, 46]
abbrev dktX2_takesDown_0 : List UInt8 := dkwX2_takesDown_0 ++ dktX2_takesDown_1
theorem dksX2_takesDown_0 : cX2_takesDown.data.toList.drop 0 = dktX2_takesDown_0 := by decide +kernel
theorem dksX2_takesDown_1 : cX2_takesDown.data.toList.drop 24 = dktX2_takesDown_1 := dk_seg dksX2_takesDown_0 24 rfl rfl
theorem dksX2_takesDown_2 : cX2_takesDown.data.toList.drop 47 = dktX2_takesDown_2 := dk_seg dksX2_takesDown_1 23 rfl rfl
theorem dksX2_takesDown_3 : cX2_takesDown.data.toList.drop 71 = dktX2_takesDown_3 := dk_seg dksX2_takesDown_2 24 rfl rfl
theorem dksX2_takesDown_4 : cX2_takesDown.data.toList.drop 95 = dktX2_takesDown_4 := dk_seg dksX2_takesDown_3 24 rfl rfl
theorem dX2_takesDown_0 : decode cX2_takesDown 0 = .ok (.aload_n 0, 1) := dk_42 (dk_at dksX2_takesDown_0 0 rfl rfl)
theorem dX2_takesDown_1 : decode cX2_takesDown 1 = .ok (.getfield 300, 3) := dk_180 1 44 (dk_at dksX2_takesDown_0 1 rfl rfl)
theorem dX2_takesDown_4 : decode cX2_takesDown 4 = .ok (.iconst 1, 1) := dk_4 (dk_at dksX2_takesDown_0 4 rfl rfl)
theorem dX2_takesDown_5 : decode cX2_takesDown 5 = .ok (.isub, 1) := dk_100 (dk_at dksX2_takesDown_0 5 rfl rfl)
theorem dX2_takesDown_6 : decode cX2_takesDown 6 = .ok (.istore_n 1, 1) := dk_60 (dk_at dksX2_takesDown_0 6 rfl rfl)
theorem dX2_takesDown_7 : decode cX2_takesDown 7 = .ok (.iload_n 1, 1) := dk_27 (dk_at dksX2_takesDown_0 7 rfl rfl)
theorem dX2_takesDown_8 : decode cX2_takesDown 8 = .ok (.iconst 1, 1) := dk_4 (dk_at dksX2_takesDown_0 8 rfl rfl)
theorem dX2_takesDown_9 : decode cX2_takesDown 9 = .ok (.if_icmp .lt 106, 3) := dk_161 0 106 (dk_at dksX2_takesDown_0 9 rfl rfl)
theorem dX2_takesDown_12 : decode cX2_takesDown 12 = .ok (.aload_n 0, 1) := dk_42 (dk_at dksX2_takesDown_0 12 rfl rfl)
theorem dX2_takesDown_13 : decode cX2_takesDown 13 = .ok (.getfield 137, 3) := dk_180 0 137 (dk_at dksX2_takesDown_0 13 rfl rfl)
theorem dX2_takesDown_16 : decode cX2_takesDown 16 = .ok (.iload_n 1, 1) := dk_27 (dk_at dksX2_takesDown_0 16 rfl rfl)
theorem dX2_takesDown_17 : decode cX2_takesDown 17 = .ok (.iaload, 1) := dk_46 (dk_at dksX2_takesDown_0 17 rfl rfl)
theorem dX2_takesDown_18 : decode cX2_takesDown 18 = .ok (.aload_n 0, 1) := dk_42 (dk_at dksX2_takesDown_0 18 rfl rfl)
theorem dX2_takesDown_19 : decode cX2_takesDown 19 = .ok (.getfield 122, 3) := dk_180 0 122 (dk_at dksX2_takesDown_0 19 rfl rfl)
theorem dX2_takesDown_22 : decode cX2_takesDown 22 = .ok (.iload_n 1, 1) := dk_27 (dk_at dksX2_takesDown_0 22 rfl rfl)
theorem dX2_takesDown_23 : decode cX2_takesDown 23 = .ok (.iaload, 1) := dk_46 (dk_at dksX2_takesDown_0 23 rfl rfl)
theorem dX2_takesDown_24 : decode cX2_takesDown 24 = .ok (.if_icmp .lt 85, 3) := dk_161 0 85 (dk_at dksX2_takesDown_1 0 rfl rfl)
theorem dX2_takesDown_27 : decode cX2_takesDown 27 = .ok (.aload_n 0, 1) := dk_42 (dk_at dksX2_takesDown_1 3 rfl rfl)
theorem dX2_takesDown_28 : decode cX2_takesDown 28 = .ok (.getfield 137, 3) := dk_180 0 137 (dk_at dksX2_takesDown_1 4 rfl rfl)
theorem dX2_takesDown_31 : decode cX2_takesDown 31 = .ok (.iload_n 1, 1) := dk_27 (dk_at dksX2_takesDown_1 7 rfl rfl)
theorem dX2_takesDown_32 : decode cX2_takesDown 32 = .ok (.dup2, 1) := dk_92 (dk_at dksX2_takesDown_1 8 rfl rfl)
theorem dX2_takesDown_33 : decode cX2_takesDown 33 = .ok (.iaload, 1) := dk_46 (dk_at dksX2_takesDown_1 9 rfl rfl)
theorem dX2_takesDown_34 : decode cX2_takesDown 34 = .ok (.aload_n 0, 1) := dk_42 (dk_at dksX2_takesDown_1 10 rfl rfl)
theorem dX2_takesDown_35 : decode cX2_takesDown 35 = .ok (.getfield 122, 3) := dk_180 0 122 (dk_at dksX2_takesDown_1 11 rfl rfl)
theorem dX2_takesDown_38 : decode cX2_takesDown 38 = .ok (.iload_n 1, 1) := dk_27 (dk_at dksX2_takesDown_1 14 rfl rfl)
theorem dX2_takesDown_39 : decode cX2_takesDown 39 = .ok (.iaload, 1) := dk_46 (dk_at dksX2_takesDown_1 15 rfl rfl)
theorem dX2_takesDown_40 : decode cX2_takesDown 40 = .ok (.isub, 1) := dk_100 (dk_at dksX2_takesDown_1 16 rfl rfl)
theorem dX2_takesDown_41 : decode cX2_takesDown 41 = .ok (.iastore, 1) := dk_79 (dk_at dksX2_takesDown_1 17 rfl rfl)
theorem dX2_takesDown_42 : decode cX2_takesDown 42 = .ok (.iconst 0, 1) := dk_3 (dk_at dksX2_takesDown_1 18 rfl rfl)
theorem dX2_takesDown_43 : decode cX2_takesDown 43 = .ok (.istore_n 2, 1) := dk_61 (dk_at dksX2_takesDown_1 19 rfl rfl)
theorem dX2_takesDown_44 : decode cX2_takesDown 44 = .ok (.iload_n 2, 1) := dk_28 (dk_at dksX2_takesDown_1 20 rfl rfl)
theorem dX2_takesDown_45 : decode cX2_takesDown 45 = .ok (.bipush 7, 2) := dk_16 7 (dk_at dksX2_takesDown_1 21 rfl rfl)
theorem dX2_takesDown_47 : decode cX2_takesDown 47 = .ok (.if_icmp .ge 34, 3) := dk_162 0 34 (dk_at dksX2_takesDown_2 0 rfl rfl)
theorem dX2_takesDown_50 : decode cX2_takesDown 50 = .ok (.aload_n 0, 1) := dk_42 (dk_at dksX2_takesDown_2 3 rfl rfl)
theorem dX2_takesDown_51 : decode cX2_takesDown 51 = .ok (.getfield 137, 3) := dk_180 0 137 (dk_at dksX2_takesDown_2 4 rfl rfl)
theorem dX2_takesDown_54 : decode cX2_takesDown 54 = .ok (.iload_n 2, 1) := dk_28 (dk_at dksX2_takesDown_2 7 rfl rfl)
theorem dX2_takesDown_55 : decode cX2_takesDown 55 = .ok (.dup2, 1) := dk_92 (dk_at dksX2_takesDown_2 8 rfl rfl)
theorem dX2_takesDown_56 : decode cX2_takesDown 56 = .ok (.iaload, 1) := dk_46 (dk_at dksX2_takesDown_2 9 rfl rfl)
theorem dX2_takesDown_57 : decode cX2_takesDown 57 = .ok (.aload_n 0, 1) := dk_42 (dk_at dksX2_takesDown_2 10 rfl rfl)
theorem dX2_takesDown_58 : decode cX2_takesDown 58 = .ok (.getfield 80, 3) := dk_180 0 80 (dk_at dksX2_takesDown_2 11 rfl rfl)
theorem dX2_takesDown_61 : decode cX2_takesDown 61 = .ok (.bipush 7, 2) := dk_16 7 (dk_at dksX2_takesDown_2 14 rfl rfl)
theorem dX2_takesDown_63 : decode cX2_takesDown 63 = .ok (.aload_n 0, 1) := dk_42 (dk_at dksX2_takesDown_2 16 rfl rfl)
theorem dX2_takesDown_64 : decode cX2_takesDown 64 = .ok (.getfield 134, 3) := dk_180 0 134 (dk_at dksX2_takesDown_2 17 rfl rfl)
theorem dX2_takesDown_67 : decode cX2_takesDown 67 = .ok (.iload_n 1, 1) := dk_27 (dk_at dksX2_takesDown_2 20 rfl rfl)
theorem dX2_takesDown_68 : decode cX2_takesDown 68 = .ok (.iaload, 1) := dk_46 (dk_at dksX2_takesDown_2 21 rfl rfl)
theorem dX2_takesDown_69 : decode cX2_takesDown 69 = .ok (.imul, 1) := dk_104 (dk_at dksX2_takesDown_2 22 rfl rfl)
theorem dX2_takesDown_70 : decode cX2_takesDown 70 = .ok (.iload_n 2, 1) := dk_28 (dk_at dksX2_takesDown_2 23 rfl rfl)
theorem dX2_takesDown_71 : decode cX2_takesDown 71 = .ok (.iadd, 1) := dk_96 (dk_at dksX2_takesDown_3 0 rfl rfl)
theorem dX2_takesDown_72 : decode cX2_takesDown 72 = .ok (.iaload, 1) := dk_46 (dk_at dksX2_takesDown_3 1 rfl rfl)
theorem dX2_takesDown_73 : decode cX2_takesDown 73 = .ok (.iadd, 1) := dk_96 (dk_at dksX2_takesDown_3 2 rfl rfl)
theorem dX2_takesDown_74 : decode cX2_takesDown 74 = .ok (.iastore, 1) := dk_79 (dk_at dksX2_takesDown_3 3 rfl rfl)
theorem dX2_takesDown_75 : decode cX2_takesDown 75 = .ok (.iinc 2 1, 3) := dk_132 2 1 (dk_at dksX2_takesDown_3 4 rfl rfl)
theorem dX2_takesDown_78 : decode cX2_takesDown 78 = .ok (.goto (-34), 3) := dk_167 255 222 (dk_at dksX2_takesDown_3 7 rfl rfl)
theorem dX2_takesDown_81 : decode cX2_takesDown 81 = .ok (.aload_n 0, 1) := dk_42 (dk_at dksX2_takesDown_3 10 rfl rfl)
theorem dX2_takesDown_82 : decode cX2_takesDown 82 = .ok (.aload_n 0, 1) := dk_42 (dk_at dksX2_takesDown_3 11 rfl rfl)
theorem dX2_takesDown_83 : decode cX2_takesDown 83 = .ok (.getfield 309, 3) := dk_180 1 53 (dk_at dksX2_takesDown_3 12 rfl rfl)
theorem dX2_takesDown_86 : decode cX2_takesDown 86 = .ok (.aload_n 0, 1) := dk_42 (dk_at dksX2_takesDown_3 15 rfl rfl)
theorem dX2_takesDown_87 : decode cX2_takesDown 87 = .ok (.getfield 77, 3) := dk_180 0 77 (dk_at dksX2_takesDown_3 16 rfl rfl)
theorem dX2_takesDown_90 : decode cX2_takesDown 90 = .ok (.aload_n 0, 1) := dk_42 (dk_at dksX2_takesDown_3 19 rfl rfl)
theorem dX2_takesDown_91 : decode cX2_takesDown 91 = .ok (.getfield 134, 3) := dk_180 0 134 (dk_at dksX2_takesDown_3 20 rfl rfl)
theorem dX2_takesDown_94 : decode cX2_takesDown 94 = .ok (.iload_n 1, 1) := dk_27 (dk_at dksX2_takesDown_3 23 rfl rfl)
theorem dX2_takesDown_95 : decode cX2_takesDown 95 = .ok (.iaload, 1) := dk_46 (dk_at dksX2_takesDown_4 0 rfl rfl)
theorem dX2_takesDown_96 : decode cX2_takesDown 96 = .ok (.iaload, 1) := dk_46 (dk_at dksX2_takesDown_4 1 rfl rfl)
theorem dX2_takesDown_97 : decode cX2_takesDown 97 = .ok (.imul, 1) := dk_104 (dk_at dksX2_takesDown_4 2 rfl rfl)
theorem dX2_takesDown_98 : decode cX2_takesDown 98 = .ok (.aload_n 0, 1) := dk_42 (dk_at dksX2_takesDown_4 3 rfl rfl)
theorem dX2_takesDown_99 : decode cX2_takesDown 99 = .ok (.getfield 168, 3) := dk_180 0 168 (dk_at dksX2_takesDown_4 4 rfl rfl)
theorem dX2_takesDown_102 : decode cX2_takesDown 102 = .ok (.irem, 1) := dk_112 (dk_at dksX2_takesDown_4 7 rfl rfl)
theorem dX2_takesDown_103 : decode cX2_takesDown 103 = .ok (.putfield 309, 3) := dk_181 1 53 (dk_at dksX2_takesDown_4 8 rfl rfl)
theorem dX2_takesDown_106 : decode cX2_takesDown 106 = .ok (.goto (-94), 3) := dk_167 255 162 (dk_at dksX2_takesDown_4 11 rfl rfl)
theorem dX2_takesDown_109 : decode cX2_takesDown 109 = .ok (.iinc 1 (-1), 3) := dk_132 1 255 (dk_at dksX2_takesDown_4 14 rfl rfl)
theorem dX2_takesDown_112 : decode cX2_takesDown 112 = .ok (.goto (-105), 3) := dk_167 255 151 (dk_at dksX2_takesDown_4 17 rfl rfl)
theorem dX2_takesDown_115 : decode cX2_takesDown 115 = .ok (.return_, 1) := dk_177 (dk_at dksX2_takesDown_4 20 rfl rfl)
abbrev cX2_takesFactor : ByteArray := prog_18_method_64_code
def yX2_takesFactor : MethodName := ⟨RX2, "takesFactor", "(III)V"⟩
def dkwX2_takesFactor_9 : List UInt8 := [21, 8, 182, 1, 131, 177]
abbrev dktX2_takesFactor_9 : List UInt8 := dkwX2_takesFactor_9 ++ []
def dkwX2_takesFactor_8 : List UInt8 := [21, 9, 96, 42, 180, 0, 101, 16, 7, 28, 104, 21, 9, 96, 46, 79, 132, 9, 1, 167, 255, 221, 42]
abbrev dktX2_takesFactor_8 : List UInt8 := dkwX2_takesFactor_8 ++ dktX2_takesFactor_9
def dkwX2_takesFactor_7 : List UInt8 := [21, 8, 21, 7, 79, 3, 54, 9, 21, 9, 16, 7, 162, 0, 34, 42, 180, 0, 80, 16, 7, 21, 8, 104]
abbrev dktX2_takesFactor_7 : List UInt8 := dkwX2_takesFactor_7 ++ dktX2_takesFactor_8
def dkwX2_takesFactor_6 : List UInt8 := [180, 0, 92, 28, 46, 79, 42, 180, 0, 74, 21, 8, 42, 180, 0, 98, 28, 46, 79, 42, 180, 0, 77]
abbrev dktX2_takesFactor_6 : List UInt8 := dkwX2_takesFactor_6 ++ dktX2_takesFactor_7
def dkwX2_takesFactor_5 : List UInt8 := [182, 1, 128, 54, 8, 42, 21, 8, 27, 28, 21, 7, 182, 1, 134, 42, 180, 0, 71, 21, 8, 42]
abbrev dktX2_takesFactor_5 : List UInt8 := dkwX2_takesFactor_5 ++ dktX2_takesFactor_6
def dkwX2_takesFactor_4 : List UInt8 := [21, 5, 21, 6, 104, 27, 182, 1, 102, 167, 0, 111, 42, 29, 182, 1, 125, 54, 7, 42, 27, 21, 5]
abbrev dktX2_takesFactor_4 : List UInt8 := dkwX2_takesFactor_4 ++ dktX2_takesFactor_5
def dkwX2_takesFactor_3 : List UInt8 := [104, 21, 6, 104, 27, 182, 1, 102, 167, 0, 136, 42, 180, 1, 44, 16, 6, 160, 0, 19, 42, 6, 3, 3]
abbrev dktX2_takesFactor_3 : List UInt8 := dkwX2_takesFactor_3 ++ dktX2_takesFactor_4
def dkwX2_takesFactor_2 : List UInt8 := [21, 4, 104, 27, 182, 1, 102, 167, 0, 161, 21, 4, 4, 164, 0, 22, 42, 5, 3, 3, 21, 4, 21, 5]
abbrev dktX2_takesFactor_2 : List UInt8 := dkwX2_takesFactor_2 ++ dktX2_takesFactor_3
def dkwX2_takesFactor_1 : List UInt8 := [46, 42, 180, 0, 92, 28, 46, 104, 54, 6, 21, 5, 4, 160, 0, 21, 42, 3, 21, 6, 21, 4, 21, 6]
abbrev dktX2_takesFactor_1 : List UInt8 := dkwX2_takesFactor_1 ++ dktX2_takesFactor_2
def dkwX2_takesFactor_0 : List UInt8 := [42, 180, 0, 29, 29, 46, 54, 4, 42, 180, 0, 32, 29, 46, 54, 5, 42, 180, 0, 125, 42, 180, 1, 44]
abbrev dktX2_takesFactor_0 : List UInt8 := dkwX2_takesFactor_0 ++ dktX2_takesFactor_1
theorem dksX2_takesFactor_0 : cX2_takesFactor.data.toList.drop 0 = dktX2_takesFactor_0 := by decide +kernel
theorem dksX2_takesFactor_1 : cX2_takesFactor.data.toList.drop 24 = dktX2_takesFactor_1 := dk_seg dksX2_takesFactor_0 24 rfl rfl
theorem dksX2_takesFactor_2 : cX2_takesFactor.data.toList.drop 48 = dktX2_takesFactor_2 := dk_seg dksX2_takesFactor_1 24 rfl rfl
theorem dksX2_takesFactor_3 : cX2_takesFactor.data.toList.drop 72 = dktX2_takesFactor_3 := dk_seg dksX2_takesFactor_2 24 rfl rfl
theorem dksX2_takesFactor_4 : cX2_takesFactor.data.toList.drop 96 = dktX2_takesFactor_4 := dk_seg dksX2_takesFactor_3 24 rfl rfl
theorem dksX2_takesFactor_5 : cX2_takesFactor.data.toList.drop 119 = dktX2_takesFactor_5 := dk_seg dksX2_takesFactor_4 23 rfl rfl
theorem dksX2_takesFactor_6 : cX2_takesFactor.data.toList.drop 141 = dktX2_takesFactor_6 := dk_seg dksX2_takesFactor_5 22 rfl rfl
theorem dksX2_takesFactor_7 : cX2_takesFactor.data.toList.drop 164 = dktX2_takesFactor_7 := dk_seg dksX2_takesFactor_6 23 rfl rfl
theorem dksX2_takesFactor_8 : cX2_takesFactor.data.toList.drop 188 = dktX2_takesFactor_8 := dk_seg dksX2_takesFactor_7 24 rfl rfl
theorem dksX2_takesFactor_9 : cX2_takesFactor.data.toList.drop 211 = dktX2_takesFactor_9 := dk_seg dksX2_takesFactor_8 23 rfl rfl
theorem dX2_takesFactor_0 : decode cX2_takesFactor 0 = .ok (.aload_n 0, 1) := dk_42 (dk_at dksX2_takesFactor_0 0 rfl rfl)
theorem dX2_takesFactor_1 : decode cX2_takesFactor 1 = .ok (.getfield 29, 3) := dk_180 0 29 (dk_at dksX2_takesFactor_0 1 rfl rfl)
theorem dX2_takesFactor_4 : decode cX2_takesFactor 4 = .ok (.iload_n 3, 1) := dk_29 (dk_at dksX2_takesFactor_0 4 rfl rfl)
theorem dX2_takesFactor_5 : decode cX2_takesFactor 5 = .ok (.iaload, 1) := dk_46 (dk_at dksX2_takesFactor_0 5 rfl rfl)
theorem dX2_takesFactor_6 : decode cX2_takesFactor 6 = .ok (.istore 4, 2) := dk_54 4 (dk_at dksX2_takesFactor_0 6 rfl rfl)
theorem dX2_takesFactor_8 : decode cX2_takesFactor 8 = .ok (.aload_n 0, 1) := dk_42 (dk_at dksX2_takesFactor_0 8 rfl rfl)
theorem dX2_takesFactor_9 : decode cX2_takesFactor 9 = .ok (.getfield 32, 3) := dk_180 0 32 (dk_at dksX2_takesFactor_0 9 rfl rfl)
theorem dX2_takesFactor_12 : decode cX2_takesFactor 12 = .ok (.iload_n 3, 1) := dk_29 (dk_at dksX2_takesFactor_0 12 rfl rfl)
theorem dX2_takesFactor_13 : decode cX2_takesFactor 13 = .ok (.iaload, 1) := dk_46 (dk_at dksX2_takesFactor_0 13 rfl rfl)
theorem dX2_takesFactor_14 : decode cX2_takesFactor 14 = .ok (.istore 5, 2) := dk_54 5 (dk_at dksX2_takesFactor_0 14 rfl rfl)
theorem dX2_takesFactor_16 : decode cX2_takesFactor 16 = .ok (.aload_n 0, 1) := dk_42 (dk_at dksX2_takesFactor_0 16 rfl rfl)
theorem dX2_takesFactor_17 : decode cX2_takesFactor 17 = .ok (.getfield 125, 3) := dk_180 0 125 (dk_at dksX2_takesFactor_0 17 rfl rfl)
theorem dX2_takesFactor_20 : decode cX2_takesFactor 20 = .ok (.aload_n 0, 1) := dk_42 (dk_at dksX2_takesFactor_0 20 rfl rfl)
theorem dX2_takesFactor_21 : decode cX2_takesFactor 21 = .ok (.getfield 300, 3) := dk_180 1 44 (dk_at dksX2_takesFactor_0 21 rfl rfl)
theorem dX2_takesFactor_24 : decode cX2_takesFactor 24 = .ok (.iaload, 1) := dk_46 (dk_at dksX2_takesFactor_1 0 rfl rfl)
theorem dX2_takesFactor_25 : decode cX2_takesFactor 25 = .ok (.aload_n 0, 1) := dk_42 (dk_at dksX2_takesFactor_1 1 rfl rfl)
theorem dX2_takesFactor_26 : decode cX2_takesFactor 26 = .ok (.getfield 92, 3) := dk_180 0 92 (dk_at dksX2_takesFactor_1 2 rfl rfl)
theorem dX2_takesFactor_29 : decode cX2_takesFactor 29 = .ok (.iload_n 2, 1) := dk_28 (dk_at dksX2_takesFactor_1 5 rfl rfl)
theorem dX2_takesFactor_30 : decode cX2_takesFactor 30 = .ok (.iaload, 1) := dk_46 (dk_at dksX2_takesFactor_1 6 rfl rfl)
theorem dX2_takesFactor_31 : decode cX2_takesFactor 31 = .ok (.imul, 1) := dk_104 (dk_at dksX2_takesFactor_1 7 rfl rfl)
theorem dX2_takesFactor_32 : decode cX2_takesFactor 32 = .ok (.istore 6, 2) := dk_54 6 (dk_at dksX2_takesFactor_1 8 rfl rfl)
theorem dX2_takesFactor_34 : decode cX2_takesFactor 34 = .ok (.iload 5, 2) := dk_21 5 (dk_at dksX2_takesFactor_1 10 rfl rfl)
theorem dX2_takesFactor_36 : decode cX2_takesFactor 36 = .ok (.iconst 1, 1) := dk_4 (dk_at dksX2_takesFactor_1 12 rfl rfl)
theorem dX2_takesFactor_37 : decode cX2_takesFactor 37 = .ok (.if_icmp .ne 21, 3) := dk_160 0 21 (dk_at dksX2_takesFactor_1 13 rfl rfl)
theorem dX2_takesFactor_40 : decode cX2_takesFactor 40 = .ok (.aload_n 0, 1) := dk_42 (dk_at dksX2_takesFactor_1 16 rfl rfl)
theorem dX2_takesFactor_41 : decode cX2_takesFactor 41 = .ok (.iconst 0, 1) := dk_3 (dk_at dksX2_takesFactor_1 17 rfl rfl)
theorem dX2_takesFactor_42 : decode cX2_takesFactor 42 = .ok (.iload 6, 2) := dk_21 6 (dk_at dksX2_takesFactor_1 18 rfl rfl)
theorem dX2_takesFactor_44 : decode cX2_takesFactor 44 = .ok (.iload 4, 2) := dk_21 4 (dk_at dksX2_takesFactor_1 20 rfl rfl)
theorem dX2_takesFactor_46 : decode cX2_takesFactor 46 = .ok (.iload 6, 2) := dk_21 6 (dk_at dksX2_takesFactor_1 22 rfl rfl)
theorem dX2_takesFactor_48 : decode cX2_takesFactor 48 = .ok (.iload 4, 2) := dk_21 4 (dk_at dksX2_takesFactor_2 0 rfl rfl)
theorem dX2_takesFactor_50 : decode cX2_takesFactor 50 = .ok (.imul, 1) := dk_104 (dk_at dksX2_takesFactor_2 2 rfl rfl)
theorem dX2_takesFactor_51 : decode cX2_takesFactor 51 = .ok (.iload_n 1, 1) := dk_27 (dk_at dksX2_takesFactor_2 3 rfl rfl)
theorem dX2_takesFactor_52 : decode cX2_takesFactor 52 = .ok (.invokevirtual 358, 3) := dk_182 1 102 (dk_at dksX2_takesFactor_2 4 rfl rfl)
theorem dX2_takesFactor_55 : decode cX2_takesFactor 55 = .ok (.goto 161, 3) := dk_167 0 161 (dk_at dksX2_takesFactor_2 7 rfl rfl)
theorem dX2_takesFactor_58 : decode cX2_takesFactor 58 = .ok (.iload 4, 2) := dk_21 4 (dk_at dksX2_takesFactor_2 10 rfl rfl)
theorem dX2_takesFactor_60 : decode cX2_takesFactor 60 = .ok (.iconst 1, 1) := dk_4 (dk_at dksX2_takesFactor_2 12 rfl rfl)
theorem dX2_takesFactor_61 : decode cX2_takesFactor 61 = .ok (.if_icmp .le 22, 3) := dk_164 0 22 (dk_at dksX2_takesFactor_2 13 rfl rfl)
theorem dX2_takesFactor_64 : decode cX2_takesFactor 64 = .ok (.aload_n 0, 1) := dk_42 (dk_at dksX2_takesFactor_2 16 rfl rfl)
theorem dX2_takesFactor_65 : decode cX2_takesFactor 65 = .ok (.iconst 2, 1) := dk_5 (dk_at dksX2_takesFactor_2 17 rfl rfl)
theorem dX2_takesFactor_66 : decode cX2_takesFactor 66 = .ok (.iconst 0, 1) := dk_3 (dk_at dksX2_takesFactor_2 18 rfl rfl)
theorem dX2_takesFactor_67 : decode cX2_takesFactor 67 = .ok (.iconst 0, 1) := dk_3 (dk_at dksX2_takesFactor_2 19 rfl rfl)
theorem dX2_takesFactor_68 : decode cX2_takesFactor 68 = .ok (.iload 4, 2) := dk_21 4 (dk_at dksX2_takesFactor_2 20 rfl rfl)
theorem dX2_takesFactor_70 : decode cX2_takesFactor 70 = .ok (.iload 5, 2) := dk_21 5 (dk_at dksX2_takesFactor_2 22 rfl rfl)
theorem dX2_takesFactor_72 : decode cX2_takesFactor 72 = .ok (.imul, 1) := dk_104 (dk_at dksX2_takesFactor_3 0 rfl rfl)
theorem dX2_takesFactor_73 : decode cX2_takesFactor 73 = .ok (.iload 6, 2) := dk_21 6 (dk_at dksX2_takesFactor_3 1 rfl rfl)
theorem dX2_takesFactor_75 : decode cX2_takesFactor 75 = .ok (.imul, 1) := dk_104 (dk_at dksX2_takesFactor_3 3 rfl rfl)
theorem dX2_takesFactor_76 : decode cX2_takesFactor 76 = .ok (.iload_n 1, 1) := dk_27 (dk_at dksX2_takesFactor_3 4 rfl rfl)
theorem dX2_takesFactor_77 : decode cX2_takesFactor 77 = .ok (.invokevirtual 358, 3) := dk_182 1 102 (dk_at dksX2_takesFactor_3 5 rfl rfl)
theorem dX2_takesFactor_80 : decode cX2_takesFactor 80 = .ok (.goto 136, 3) := dk_167 0 136 (dk_at dksX2_takesFactor_3 8 rfl rfl)
theorem dX2_takesFactor_83 : decode cX2_takesFactor 83 = .ok (.aload_n 0, 1) := dk_42 (dk_at dksX2_takesFactor_3 11 rfl rfl)
theorem dX2_takesFactor_84 : decode cX2_takesFactor 84 = .ok (.getfield 300, 3) := dk_180 1 44 (dk_at dksX2_takesFactor_3 12 rfl rfl)
theorem dX2_takesFactor_87 : decode cX2_takesFactor 87 = .ok (.bipush 6, 2) := dk_16 6 (dk_at dksX2_takesFactor_3 15 rfl rfl)
theorem dX2_takesFactor_89 : decode cX2_takesFactor 89 = .ok (.if_icmp .ne 19, 3) := dk_160 0 19 (dk_at dksX2_takesFactor_3 17 rfl rfl)
theorem dX2_takesFactor_92 : decode cX2_takesFactor 92 = .ok (.aload_n 0, 1) := dk_42 (dk_at dksX2_takesFactor_3 20 rfl rfl)
theorem dX2_takesFactor_93 : decode cX2_takesFactor 93 = .ok (.iconst 3, 1) := dk_6 (dk_at dksX2_takesFactor_3 21 rfl rfl)
theorem dX2_takesFactor_94 : decode cX2_takesFactor 94 = .ok (.iconst 0, 1) := dk_3 (dk_at dksX2_takesFactor_3 22 rfl rfl)
theorem dX2_takesFactor_95 : decode cX2_takesFactor 95 = .ok (.iconst 0, 1) := dk_3 (dk_at dksX2_takesFactor_3 23 rfl rfl)
theorem dX2_takesFactor_96 : decode cX2_takesFactor 96 = .ok (.iload 5, 2) := dk_21 5 (dk_at dksX2_takesFactor_4 0 rfl rfl)
theorem dX2_takesFactor_98 : decode cX2_takesFactor 98 = .ok (.iload 6, 2) := dk_21 6 (dk_at dksX2_takesFactor_4 2 rfl rfl)
theorem dX2_takesFactor_100 : decode cX2_takesFactor 100 = .ok (.imul, 1) := dk_104 (dk_at dksX2_takesFactor_4 4 rfl rfl)
theorem dX2_takesFactor_101 : decode cX2_takesFactor 101 = .ok (.iload_n 1, 1) := dk_27 (dk_at dksX2_takesFactor_4 5 rfl rfl)
theorem dX2_takesFactor_102 : decode cX2_takesFactor 102 = .ok (.invokevirtual 358, 3) := dk_182 1 102 (dk_at dksX2_takesFactor_4 6 rfl rfl)
theorem dX2_takesFactor_105 : decode cX2_takesFactor 105 = .ok (.goto 111, 3) := dk_167 0 111 (dk_at dksX2_takesFactor_4 9 rfl rfl)
theorem dX2_takesFactor_108 : decode cX2_takesFactor 108 = .ok (.aload_n 0, 1) := dk_42 (dk_at dksX2_takesFactor_4 12 rfl rfl)
theorem dX2_takesFactor_109 : decode cX2_takesFactor 109 = .ok (.iload_n 3, 1) := dk_29 (dk_at dksX2_takesFactor_4 13 rfl rfl)
theorem dX2_takesFactor_110 : decode cX2_takesFactor 110 = .ok (.invokevirtual 381, 3) := dk_182 1 125 (dk_at dksX2_takesFactor_4 14 rfl rfl)
theorem dX2_takesFactor_113 : decode cX2_takesFactor 113 = .ok (.istore 7, 2) := dk_54 7 (dk_at dksX2_takesFactor_4 17 rfl rfl)
theorem dX2_takesFactor_115 : decode cX2_takesFactor 115 = .ok (.aload_n 0, 1) := dk_42 (dk_at dksX2_takesFactor_4 19 rfl rfl)
theorem dX2_takesFactor_116 : decode cX2_takesFactor 116 = .ok (.iload_n 1, 1) := dk_27 (dk_at dksX2_takesFactor_4 20 rfl rfl)
theorem dX2_takesFactor_117 : decode cX2_takesFactor 117 = .ok (.iload 5, 2) := dk_21 5 (dk_at dksX2_takesFactor_4 21 rfl rfl)
theorem dX2_takesFactor_119 : decode cX2_takesFactor 119 = .ok (.invokevirtual 384, 3) := dk_182 1 128 (dk_at dksX2_takesFactor_5 0 rfl rfl)
theorem dX2_takesFactor_122 : decode cX2_takesFactor 122 = .ok (.istore 8, 2) := dk_54 8 (dk_at dksX2_takesFactor_5 3 rfl rfl)
theorem dX2_takesFactor_124 : decode cX2_takesFactor 124 = .ok (.aload_n 0, 1) := dk_42 (dk_at dksX2_takesFactor_5 5 rfl rfl)
theorem dX2_takesFactor_125 : decode cX2_takesFactor 125 = .ok (.iload 8, 2) := dk_21 8 (dk_at dksX2_takesFactor_5 6 rfl rfl)
theorem dX2_takesFactor_127 : decode cX2_takesFactor 127 = .ok (.iload_n 1, 1) := dk_27 (dk_at dksX2_takesFactor_5 8 rfl rfl)
theorem dX2_takesFactor_128 : decode cX2_takesFactor 128 = .ok (.iload_n 2, 1) := dk_28 (dk_at dksX2_takesFactor_5 9 rfl rfl)
theorem dX2_takesFactor_129 : decode cX2_takesFactor 129 = .ok (.iload 7, 2) := dk_21 7 (dk_at dksX2_takesFactor_5 10 rfl rfl)
theorem dX2_takesFactor_131 : decode cX2_takesFactor 131 = .ok (.invokevirtual 390, 3) := dk_182 1 134 (dk_at dksX2_takesFactor_5 12 rfl rfl)
theorem dX2_takesFactor_134 : decode cX2_takesFactor 134 = .ok (.aload_n 0, 1) := dk_42 (dk_at dksX2_takesFactor_5 15 rfl rfl)
theorem dX2_takesFactor_135 : decode cX2_takesFactor 135 = .ok (.getfield 71, 3) := dk_180 0 71 (dk_at dksX2_takesFactor_5 16 rfl rfl)
theorem dX2_takesFactor_138 : decode cX2_takesFactor 138 = .ok (.iload 8, 2) := dk_21 8 (dk_at dksX2_takesFactor_5 19 rfl rfl)
theorem dX2_takesFactor_140 : decode cX2_takesFactor 140 = .ok (.aload_n 0, 1) := dk_42 (dk_at dksX2_takesFactor_5 21 rfl rfl)
theorem dX2_takesFactor_141 : decode cX2_takesFactor 141 = .ok (.getfield 92, 3) := dk_180 0 92 (dk_at dksX2_takesFactor_6 0 rfl rfl)
theorem dX2_takesFactor_144 : decode cX2_takesFactor 144 = .ok (.iload_n 2, 1) := dk_28 (dk_at dksX2_takesFactor_6 3 rfl rfl)
theorem dX2_takesFactor_145 : decode cX2_takesFactor 145 = .ok (.iaload, 1) := dk_46 (dk_at dksX2_takesFactor_6 4 rfl rfl)
theorem dX2_takesFactor_146 : decode cX2_takesFactor 146 = .ok (.iastore, 1) := dk_79 (dk_at dksX2_takesFactor_6 5 rfl rfl)
theorem dX2_takesFactor_147 : decode cX2_takesFactor 147 = .ok (.aload_n 0, 1) := dk_42 (dk_at dksX2_takesFactor_6 6 rfl rfl)
theorem dX2_takesFactor_148 : decode cX2_takesFactor 148 = .ok (.getfield 74, 3) := dk_180 0 74 (dk_at dksX2_takesFactor_6 7 rfl rfl)
theorem dX2_takesFactor_151 : decode cX2_takesFactor 151 = .ok (.iload 8, 2) := dk_21 8 (dk_at dksX2_takesFactor_6 10 rfl rfl)
theorem dX2_takesFactor_153 : decode cX2_takesFactor 153 = .ok (.aload_n 0, 1) := dk_42 (dk_at dksX2_takesFactor_6 12 rfl rfl)
theorem dX2_takesFactor_154 : decode cX2_takesFactor 154 = .ok (.getfield 98, 3) := dk_180 0 98 (dk_at dksX2_takesFactor_6 13 rfl rfl)
theorem dX2_takesFactor_157 : decode cX2_takesFactor 157 = .ok (.iload_n 2, 1) := dk_28 (dk_at dksX2_takesFactor_6 16 rfl rfl)
theorem dX2_takesFactor_158 : decode cX2_takesFactor 158 = .ok (.iaload, 1) := dk_46 (dk_at dksX2_takesFactor_6 17 rfl rfl)
theorem dX2_takesFactor_159 : decode cX2_takesFactor 159 = .ok (.iastore, 1) := dk_79 (dk_at dksX2_takesFactor_6 18 rfl rfl)
theorem dX2_takesFactor_160 : decode cX2_takesFactor 160 = .ok (.aload_n 0, 1) := dk_42 (dk_at dksX2_takesFactor_6 19 rfl rfl)
theorem dX2_takesFactor_161 : decode cX2_takesFactor 161 = .ok (.getfield 77, 3) := dk_180 0 77 (dk_at dksX2_takesFactor_6 20 rfl rfl)
theorem dX2_takesFactor_164 : decode cX2_takesFactor 164 = .ok (.iload 8, 2) := dk_21 8 (dk_at dksX2_takesFactor_7 0 rfl rfl)
theorem dX2_takesFactor_166 : decode cX2_takesFactor 166 = .ok (.iload 7, 2) := dk_21 7 (dk_at dksX2_takesFactor_7 2 rfl rfl)
theorem dX2_takesFactor_168 : decode cX2_takesFactor 168 = .ok (.iastore, 1) := dk_79 (dk_at dksX2_takesFactor_7 4 rfl rfl)
theorem dX2_takesFactor_169 : decode cX2_takesFactor 169 = .ok (.iconst 0, 1) := dk_3 (dk_at dksX2_takesFactor_7 5 rfl rfl)
theorem dX2_takesFactor_170 : decode cX2_takesFactor 170 = .ok (.istore 9, 2) := dk_54 9 (dk_at dksX2_takesFactor_7 6 rfl rfl)
theorem dX2_takesFactor_172 : decode cX2_takesFactor 172 = .ok (.iload 9, 2) := dk_21 9 (dk_at dksX2_takesFactor_7 8 rfl rfl)
theorem dX2_takesFactor_174 : decode cX2_takesFactor 174 = .ok (.bipush 7, 2) := dk_16 7 (dk_at dksX2_takesFactor_7 10 rfl rfl)
theorem dX2_takesFactor_176 : decode cX2_takesFactor 176 = .ok (.if_icmp .ge 34, 3) := dk_162 0 34 (dk_at dksX2_takesFactor_7 12 rfl rfl)
theorem dX2_takesFactor_179 : decode cX2_takesFactor 179 = .ok (.aload_n 0, 1) := dk_42 (dk_at dksX2_takesFactor_7 15 rfl rfl)
theorem dX2_takesFactor_180 : decode cX2_takesFactor 180 = .ok (.getfield 80, 3) := dk_180 0 80 (dk_at dksX2_takesFactor_7 16 rfl rfl)
theorem dX2_takesFactor_183 : decode cX2_takesFactor 183 = .ok (.bipush 7, 2) := dk_16 7 (dk_at dksX2_takesFactor_7 19 rfl rfl)
theorem dX2_takesFactor_185 : decode cX2_takesFactor 185 = .ok (.iload 8, 2) := dk_21 8 (dk_at dksX2_takesFactor_7 21 rfl rfl)
theorem dX2_takesFactor_187 : decode cX2_takesFactor 187 = .ok (.imul, 1) := dk_104 (dk_at dksX2_takesFactor_7 23 rfl rfl)
theorem dX2_takesFactor_188 : decode cX2_takesFactor 188 = .ok (.iload 9, 2) := dk_21 9 (dk_at dksX2_takesFactor_8 0 rfl rfl)
theorem dX2_takesFactor_190 : decode cX2_takesFactor 190 = .ok (.iadd, 1) := dk_96 (dk_at dksX2_takesFactor_8 2 rfl rfl)
theorem dX2_takesFactor_191 : decode cX2_takesFactor 191 = .ok (.aload_n 0, 1) := dk_42 (dk_at dksX2_takesFactor_8 3 rfl rfl)
theorem dX2_takesFactor_192 : decode cX2_takesFactor 192 = .ok (.getfield 101, 3) := dk_180 0 101 (dk_at dksX2_takesFactor_8 4 rfl rfl)
theorem dX2_takesFactor_195 : decode cX2_takesFactor 195 = .ok (.bipush 7, 2) := dk_16 7 (dk_at dksX2_takesFactor_8 7 rfl rfl)
theorem dX2_takesFactor_197 : decode cX2_takesFactor 197 = .ok (.iload_n 2, 1) := dk_28 (dk_at dksX2_takesFactor_8 9 rfl rfl)
theorem dX2_takesFactor_198 : decode cX2_takesFactor 198 = .ok (.imul, 1) := dk_104 (dk_at dksX2_takesFactor_8 10 rfl rfl)
theorem dX2_takesFactor_199 : decode cX2_takesFactor 199 = .ok (.iload 9, 2) := dk_21 9 (dk_at dksX2_takesFactor_8 11 rfl rfl)
theorem dX2_takesFactor_201 : decode cX2_takesFactor 201 = .ok (.iadd, 1) := dk_96 (dk_at dksX2_takesFactor_8 13 rfl rfl)
theorem dX2_takesFactor_202 : decode cX2_takesFactor 202 = .ok (.iaload, 1) := dk_46 (dk_at dksX2_takesFactor_8 14 rfl rfl)
theorem dX2_takesFactor_203 : decode cX2_takesFactor 203 = .ok (.iastore, 1) := dk_79 (dk_at dksX2_takesFactor_8 15 rfl rfl)
theorem dX2_takesFactor_204 : decode cX2_takesFactor 204 = .ok (.iinc 9 1, 3) := dk_132 9 1 (dk_at dksX2_takesFactor_8 16 rfl rfl)
theorem dX2_takesFactor_207 : decode cX2_takesFactor 207 = .ok (.goto (-35), 3) := dk_167 255 221 (dk_at dksX2_takesFactor_8 19 rfl rfl)
theorem dX2_takesFactor_210 : decode cX2_takesFactor 210 = .ok (.aload_n 0, 1) := dk_42 (dk_at dksX2_takesFactor_8 22 rfl rfl)
theorem dX2_takesFactor_211 : decode cX2_takesFactor 211 = .ok (.iload 8, 2) := dk_21 8 (dk_at dksX2_takesFactor_9 0 rfl rfl)
theorem dX2_takesFactor_213 : decode cX2_takesFactor 213 = .ok (.invokevirtual 387, 3) := dk_182 1 131 (dk_at dksX2_takesFactor_9 2 rfl rfl)
theorem dX2_takesFactor_216 : decode cX2_takesFactor 216 = .ok (.return_, 1) := dk_177 (dk_at dksX2_takesFactor_9 5 rfl rfl)
abbrev cX2_laysKey : ByteArray := prog_18_method_59_code
def yX2_laysKey : MethodName := ⟨RX2, "laysKey", "(IIII)V"⟩
def dkwX2_laysKey_10 : List UInt8 := [21, 5, 47, 101, 182, 1, 1, 80, 132, 5, 1, 167, 255, 210, 177]
abbrev dktX2_laysKey_10 : List UInt8 := dkwX2_laysKey_10 ++ []
def dkwX2_laysKey_9 : List UInt8 := [16, 9, 27, 104, 21, 5, 96, 42, 42, 180, 0, 23, 16, 9, 27, 104, 21, 5, 96, 47, 42, 180, 0, 140]
abbrev dktX2_laysKey_9 : List UInt8 := dkwX2_laysKey_9 ++ dktX2_laysKey_10
def dkwX2_laysKey_8 : List UInt8 := [167, 255, 222, 132, 5, 1, 167, 255, 204, 3, 54, 5, 21, 5, 16, 9, 162, 0, 45, 42, 180, 0, 23]
abbrev dktX2_laysKey_8 : List UInt8 := dkwX2_laysKey_8 ++ dktX2_laysKey_9
def dkwX2_laysKey_7 : List UInt8 := [96, 46, 162, 0, 23, 42, 16, 9, 42, 180, 0, 131, 21, 5, 46, 104, 182, 1, 113, 132, 6, 1]
abbrev dktX2_laysKey_7 : List UInt8 := dkwX2_laysKey_7 ++ dktX2_laysKey_8
def dkwX2_laysKey_6 : List UInt8 := [21, 5, 42, 180, 1, 44, 162, 0, 49, 3, 54, 6, 21, 6, 42, 180, 0, 101, 16, 7, 29, 104, 21, 5]
abbrev dktX2_laysKey_6 : List UInt8 := dkwX2_laysKey_6 ++ dktX2_laysKey_7
def dkwX2_laysKey_5 : List UInt8 := [180, 0, 168, 133, 105, 182, 1, 1, 80, 132, 6, 1, 167, 255, 222, 132, 5, 1, 167, 255, 199, 4, 54, 5]
abbrev dktX2_laysKey_5 : List UInt8 := dkwX2_laysKey_5 ++ dktX2_laysKey_6
def dkwX2_laysKey_4 : List UInt8 := [21, 6, 16, 9, 162, 0, 33, 42, 180, 0, 140, 21, 6, 42, 42, 180, 0, 140, 21, 6, 47, 42]
abbrev dktX2_laysKey_4 : List UInt8 := dkwX2_laysKey_4 ++ dktX2_laysKey_5
def dkwX2_laysKey_3 : List UInt8 := [133, 182, 1, 109, 3, 54, 5, 21, 5, 42, 180, 0, 101, 16, 7, 29, 104, 46, 162, 0, 49, 3, 54, 6]
abbrev dktX2_laysKey_3 : List UInt8 := dkwX2_laysKey_3 ++ dktX2_laysKey_4
def dkwX2_laysKey_2 : List UInt8 := [16, 9, 27, 104, 21, 5, 96, 42, 180, 0, 140, 21, 5, 47, 80, 132, 5, 1, 167, 255, 227, 42, 21, 4]
abbrev dktX2_laysKey_2 : List UInt8 := dkwX2_laysKey_2 ++ dktX2_laysKey_3
def dkwX2_laysKey_1 : List UInt8 := [182, 1, 113, 132, 5, 1, 167, 255, 234, 3, 54, 5, 21, 5, 16, 9, 162, 0, 28, 42, 180, 0, 23]
abbrev dktX2_laysKey_1 : List UInt8 := dkwX2_laysKey_1 ++ dktX2_laysKey_2
def dkwX2_laysKey_0 : List UInt8 := [42, 10, 182, 1, 109, 3, 54, 5, 21, 5, 42, 180, 0, 92, 29, 46, 162, 0, 17, 42, 16, 9, 28, 104]
abbrev dktX2_laysKey_0 : List UInt8 := dkwX2_laysKey_0 ++ dktX2_laysKey_1
theorem dksX2_laysKey_0 : cX2_laysKey.data.toList.drop 0 = dktX2_laysKey_0 := by decide +kernel
theorem dksX2_laysKey_1 : cX2_laysKey.data.toList.drop 24 = dktX2_laysKey_1 := dk_seg dksX2_laysKey_0 24 rfl rfl
theorem dksX2_laysKey_2 : cX2_laysKey.data.toList.drop 47 = dktX2_laysKey_2 := dk_seg dksX2_laysKey_1 23 rfl rfl
theorem dksX2_laysKey_3 : cX2_laysKey.data.toList.drop 71 = dktX2_laysKey_3 := dk_seg dksX2_laysKey_2 24 rfl rfl
theorem dksX2_laysKey_4 : cX2_laysKey.data.toList.drop 95 = dktX2_laysKey_4 := dk_seg dksX2_laysKey_3 24 rfl rfl
theorem dksX2_laysKey_5 : cX2_laysKey.data.toList.drop 117 = dktX2_laysKey_5 := dk_seg dksX2_laysKey_4 22 rfl rfl
theorem dksX2_laysKey_6 : cX2_laysKey.data.toList.drop 141 = dktX2_laysKey_6 := dk_seg dksX2_laysKey_5 24 rfl rfl
theorem dksX2_laysKey_7 : cX2_laysKey.data.toList.drop 165 = dktX2_laysKey_7 := dk_seg dksX2_laysKey_6 24 rfl rfl
theorem dksX2_laysKey_8 : cX2_laysKey.data.toList.drop 187 = dktX2_laysKey_8 := dk_seg dksX2_laysKey_7 22 rfl rfl
theorem dksX2_laysKey_9 : cX2_laysKey.data.toList.drop 210 = dktX2_laysKey_9 := dk_seg dksX2_laysKey_8 23 rfl rfl
theorem dksX2_laysKey_10 : cX2_laysKey.data.toList.drop 234 = dktX2_laysKey_10 := dk_seg dksX2_laysKey_9 24 rfl rfl
theorem dX2_laysKey_0 : decode cX2_laysKey 0 = .ok (.aload_n 0, 1) := dk_42 (dk_at dksX2_laysKey_0 0 rfl rfl)
theorem dX2_laysKey_1 : decode cX2_laysKey 1 = .ok (.lconst 1, 1) := dk_10 (dk_at dksX2_laysKey_0 1 rfl rfl)
theorem dX2_laysKey_2 : decode cX2_laysKey 2 = .ok (.invokevirtual 365, 3) := dk_182 1 109 (dk_at dksX2_laysKey_0 2 rfl rfl)
theorem dX2_laysKey_5 : decode cX2_laysKey 5 = .ok (.iconst 0, 1) := dk_3 (dk_at dksX2_laysKey_0 5 rfl rfl)
theorem dX2_laysKey_6 : decode cX2_laysKey 6 = .ok (.istore 5, 2) := dk_54 5 (dk_at dksX2_laysKey_0 6 rfl rfl)
theorem dX2_laysKey_8 : decode cX2_laysKey 8 = .ok (.iload 5, 2) := dk_21 5 (dk_at dksX2_laysKey_0 8 rfl rfl)
theorem dX2_laysKey_10 : decode cX2_laysKey 10 = .ok (.aload_n 0, 1) := dk_42 (dk_at dksX2_laysKey_0 10 rfl rfl)
theorem dX2_laysKey_11 : decode cX2_laysKey 11 = .ok (.getfield 92, 3) := dk_180 0 92 (dk_at dksX2_laysKey_0 11 rfl rfl)
theorem dX2_laysKey_14 : decode cX2_laysKey 14 = .ok (.iload_n 3, 1) := dk_29 (dk_at dksX2_laysKey_0 14 rfl rfl)
theorem dX2_laysKey_15 : decode cX2_laysKey 15 = .ok (.iaload, 1) := dk_46 (dk_at dksX2_laysKey_0 15 rfl rfl)
theorem dX2_laysKey_16 : decode cX2_laysKey 16 = .ok (.if_icmp .ge 17, 3) := dk_162 0 17 (dk_at dksX2_laysKey_0 16 rfl rfl)
theorem dX2_laysKey_19 : decode cX2_laysKey 19 = .ok (.aload_n 0, 1) := dk_42 (dk_at dksX2_laysKey_0 19 rfl rfl)
theorem dX2_laysKey_20 : decode cX2_laysKey 20 = .ok (.bipush 9, 2) := dk_16 9 (dk_at dksX2_laysKey_0 20 rfl rfl)
theorem dX2_laysKey_22 : decode cX2_laysKey 22 = .ok (.iload_n 2, 1) := dk_28 (dk_at dksX2_laysKey_0 22 rfl rfl)
theorem dX2_laysKey_23 : decode cX2_laysKey 23 = .ok (.imul, 1) := dk_104 (dk_at dksX2_laysKey_0 23 rfl rfl)
theorem dX2_laysKey_24 : decode cX2_laysKey 24 = .ok (.invokevirtual 369, 3) := dk_182 1 113 (dk_at dksX2_laysKey_1 0 rfl rfl)
theorem dX2_laysKey_27 : decode cX2_laysKey 27 = .ok (.iinc 5 1, 3) := dk_132 5 1 (dk_at dksX2_laysKey_1 3 rfl rfl)
theorem dX2_laysKey_30 : decode cX2_laysKey 30 = .ok (.goto (-22), 3) := dk_167 255 234 (dk_at dksX2_laysKey_1 6 rfl rfl)
theorem dX2_laysKey_33 : decode cX2_laysKey 33 = .ok (.iconst 0, 1) := dk_3 (dk_at dksX2_laysKey_1 9 rfl rfl)
theorem dX2_laysKey_34 : decode cX2_laysKey 34 = .ok (.istore 5, 2) := dk_54 5 (dk_at dksX2_laysKey_1 10 rfl rfl)
theorem dX2_laysKey_36 : decode cX2_laysKey 36 = .ok (.iload 5, 2) := dk_21 5 (dk_at dksX2_laysKey_1 12 rfl rfl)
theorem dX2_laysKey_38 : decode cX2_laysKey 38 = .ok (.bipush 9, 2) := dk_16 9 (dk_at dksX2_laysKey_1 14 rfl rfl)
theorem dX2_laysKey_40 : decode cX2_laysKey 40 = .ok (.if_icmp .ge 28, 3) := dk_162 0 28 (dk_at dksX2_laysKey_1 16 rfl rfl)
theorem dX2_laysKey_43 : decode cX2_laysKey 43 = .ok (.aload_n 0, 1) := dk_42 (dk_at dksX2_laysKey_1 19 rfl rfl)
theorem dX2_laysKey_44 : decode cX2_laysKey 44 = .ok (.getfield 23, 3) := dk_180 0 23 (dk_at dksX2_laysKey_1 20 rfl rfl)
theorem dX2_laysKey_47 : decode cX2_laysKey 47 = .ok (.bipush 9, 2) := dk_16 9 (dk_at dksX2_laysKey_2 0 rfl rfl)
theorem dX2_laysKey_49 : decode cX2_laysKey 49 = .ok (.iload_n 1, 1) := dk_27 (dk_at dksX2_laysKey_2 2 rfl rfl)
theorem dX2_laysKey_50 : decode cX2_laysKey 50 = .ok (.imul, 1) := dk_104 (dk_at dksX2_laysKey_2 3 rfl rfl)
theorem dX2_laysKey_51 : decode cX2_laysKey 51 = .ok (.iload 5, 2) := dk_21 5 (dk_at dksX2_laysKey_2 4 rfl rfl)
theorem dX2_laysKey_53 : decode cX2_laysKey 53 = .ok (.iadd, 1) := dk_96 (dk_at dksX2_laysKey_2 6 rfl rfl)
theorem dX2_laysKey_54 : decode cX2_laysKey 54 = .ok (.aload_n 0, 1) := dk_42 (dk_at dksX2_laysKey_2 7 rfl rfl)
theorem dX2_laysKey_55 : decode cX2_laysKey 55 = .ok (.getfield 140, 3) := dk_180 0 140 (dk_at dksX2_laysKey_2 8 rfl rfl)
theorem dX2_laysKey_58 : decode cX2_laysKey 58 = .ok (.iload 5, 2) := dk_21 5 (dk_at dksX2_laysKey_2 11 rfl rfl)
theorem dX2_laysKey_60 : decode cX2_laysKey 60 = .ok (.laload, 1) := dk_47 (dk_at dksX2_laysKey_2 13 rfl rfl)
theorem dX2_laysKey_61 : decode cX2_laysKey 61 = .ok (.lastore, 1) := dk_80 (dk_at dksX2_laysKey_2 14 rfl rfl)
theorem dX2_laysKey_62 : decode cX2_laysKey 62 = .ok (.iinc 5 1, 3) := dk_132 5 1 (dk_at dksX2_laysKey_2 15 rfl rfl)
theorem dX2_laysKey_65 : decode cX2_laysKey 65 = .ok (.goto (-29), 3) := dk_167 255 227 (dk_at dksX2_laysKey_2 18 rfl rfl)
theorem dX2_laysKey_68 : decode cX2_laysKey 68 = .ok (.aload_n 0, 1) := dk_42 (dk_at dksX2_laysKey_2 21 rfl rfl)
theorem dX2_laysKey_69 : decode cX2_laysKey 69 = .ok (.iload 4, 2) := dk_21 4 (dk_at dksX2_laysKey_2 22 rfl rfl)
theorem dX2_laysKey_71 : decode cX2_laysKey 71 = .ok (.i2l, 1) := dk_133 (dk_at dksX2_laysKey_3 0 rfl rfl)
theorem dX2_laysKey_72 : decode cX2_laysKey 72 = .ok (.invokevirtual 365, 3) := dk_182 1 109 (dk_at dksX2_laysKey_3 1 rfl rfl)
theorem dX2_laysKey_75 : decode cX2_laysKey 75 = .ok (.iconst 0, 1) := dk_3 (dk_at dksX2_laysKey_3 4 rfl rfl)
theorem dX2_laysKey_76 : decode cX2_laysKey 76 = .ok (.istore 5, 2) := dk_54 5 (dk_at dksX2_laysKey_3 5 rfl rfl)
theorem dX2_laysKey_78 : decode cX2_laysKey 78 = .ok (.iload 5, 2) := dk_21 5 (dk_at dksX2_laysKey_3 7 rfl rfl)
theorem dX2_laysKey_80 : decode cX2_laysKey 80 = .ok (.aload_n 0, 1) := dk_42 (dk_at dksX2_laysKey_3 9 rfl rfl)
theorem dX2_laysKey_81 : decode cX2_laysKey 81 = .ok (.getfield 101, 3) := dk_180 0 101 (dk_at dksX2_laysKey_3 10 rfl rfl)
theorem dX2_laysKey_84 : decode cX2_laysKey 84 = .ok (.bipush 7, 2) := dk_16 7 (dk_at dksX2_laysKey_3 13 rfl rfl)
theorem dX2_laysKey_86 : decode cX2_laysKey 86 = .ok (.iload_n 3, 1) := dk_29 (dk_at dksX2_laysKey_3 15 rfl rfl)
theorem dX2_laysKey_87 : decode cX2_laysKey 87 = .ok (.imul, 1) := dk_104 (dk_at dksX2_laysKey_3 16 rfl rfl)
theorem dX2_laysKey_88 : decode cX2_laysKey 88 = .ok (.iaload, 1) := dk_46 (dk_at dksX2_laysKey_3 17 rfl rfl)
theorem dX2_laysKey_89 : decode cX2_laysKey 89 = .ok (.if_icmp .ge 49, 3) := dk_162 0 49 (dk_at dksX2_laysKey_3 18 rfl rfl)
theorem dX2_laysKey_92 : decode cX2_laysKey 92 = .ok (.iconst 0, 1) := dk_3 (dk_at dksX2_laysKey_3 21 rfl rfl)
theorem dX2_laysKey_93 : decode cX2_laysKey 93 = .ok (.istore 6, 2) := dk_54 6 (dk_at dksX2_laysKey_3 22 rfl rfl)
theorem dX2_laysKey_95 : decode cX2_laysKey 95 = .ok (.iload 6, 2) := dk_21 6 (dk_at dksX2_laysKey_4 0 rfl rfl)
theorem dX2_laysKey_97 : decode cX2_laysKey 97 = .ok (.bipush 9, 2) := dk_16 9 (dk_at dksX2_laysKey_4 2 rfl rfl)
theorem dX2_laysKey_99 : decode cX2_laysKey 99 = .ok (.if_icmp .ge 33, 3) := dk_162 0 33 (dk_at dksX2_laysKey_4 4 rfl rfl)
theorem dX2_laysKey_102 : decode cX2_laysKey 102 = .ok (.aload_n 0, 1) := dk_42 (dk_at dksX2_laysKey_4 7 rfl rfl)
theorem dX2_laysKey_103 : decode cX2_laysKey 103 = .ok (.getfield 140, 3) := dk_180 0 140 (dk_at dksX2_laysKey_4 8 rfl rfl)
theorem dX2_laysKey_106 : decode cX2_laysKey 106 = .ok (.iload 6, 2) := dk_21 6 (dk_at dksX2_laysKey_4 11 rfl rfl)
theorem dX2_laysKey_108 : decode cX2_laysKey 108 = .ok (.aload_n 0, 1) := dk_42 (dk_at dksX2_laysKey_4 13 rfl rfl)
theorem dX2_laysKey_109 : decode cX2_laysKey 109 = .ok (.aload_n 0, 1) := dk_42 (dk_at dksX2_laysKey_4 14 rfl rfl)
theorem dX2_laysKey_110 : decode cX2_laysKey 110 = .ok (.getfield 140, 3) := dk_180 0 140 (dk_at dksX2_laysKey_4 15 rfl rfl)
theorem dX2_laysKey_113 : decode cX2_laysKey 113 = .ok (.iload 6, 2) := dk_21 6 (dk_at dksX2_laysKey_4 18 rfl rfl)
theorem dX2_laysKey_115 : decode cX2_laysKey 115 = .ok (.laload, 1) := dk_47 (dk_at dksX2_laysKey_4 20 rfl rfl)
theorem dX2_laysKey_116 : decode cX2_laysKey 116 = .ok (.aload_n 0, 1) := dk_42 (dk_at dksX2_laysKey_4 21 rfl rfl)
theorem dX2_laysKey_117 : decode cX2_laysKey 117 = .ok (.getfield 168, 3) := dk_180 0 168 (dk_at dksX2_laysKey_5 0 rfl rfl)
theorem dX2_laysKey_120 : decode cX2_laysKey 120 = .ok (.i2l, 1) := dk_133 (dk_at dksX2_laysKey_5 3 rfl rfl)
theorem dX2_laysKey_121 : decode cX2_laysKey 121 = .ok (.lmul, 1) := dk_105 (dk_at dksX2_laysKey_5 4 rfl rfl)
theorem dX2_laysKey_122 : decode cX2_laysKey 122 = .ok (.invokevirtual 257, 3) := dk_182 1 1 (dk_at dksX2_laysKey_5 5 rfl rfl)
theorem dX2_laysKey_125 : decode cX2_laysKey 125 = .ok (.lastore, 1) := dk_80 (dk_at dksX2_laysKey_5 8 rfl rfl)
theorem dX2_laysKey_126 : decode cX2_laysKey 126 = .ok (.iinc 6 1, 3) := dk_132 6 1 (dk_at dksX2_laysKey_5 9 rfl rfl)
theorem dX2_laysKey_129 : decode cX2_laysKey 129 = .ok (.goto (-34), 3) := dk_167 255 222 (dk_at dksX2_laysKey_5 12 rfl rfl)
theorem dX2_laysKey_132 : decode cX2_laysKey 132 = .ok (.iinc 5 1, 3) := dk_132 5 1 (dk_at dksX2_laysKey_5 15 rfl rfl)
theorem dX2_laysKey_135 : decode cX2_laysKey 135 = .ok (.goto (-57), 3) := dk_167 255 199 (dk_at dksX2_laysKey_5 18 rfl rfl)
theorem dX2_laysKey_138 : decode cX2_laysKey 138 = .ok (.iconst 1, 1) := dk_4 (dk_at dksX2_laysKey_5 21 rfl rfl)
theorem dX2_laysKey_139 : decode cX2_laysKey 139 = .ok (.istore 5, 2) := dk_54 5 (dk_at dksX2_laysKey_5 22 rfl rfl)
theorem dX2_laysKey_141 : decode cX2_laysKey 141 = .ok (.iload 5, 2) := dk_21 5 (dk_at dksX2_laysKey_6 0 rfl rfl)
theorem dX2_laysKey_143 : decode cX2_laysKey 143 = .ok (.aload_n 0, 1) := dk_42 (dk_at dksX2_laysKey_6 2 rfl rfl)
theorem dX2_laysKey_144 : decode cX2_laysKey 144 = .ok (.getfield 300, 3) := dk_180 1 44 (dk_at dksX2_laysKey_6 3 rfl rfl)
theorem dX2_laysKey_147 : decode cX2_laysKey 147 = .ok (.if_icmp .ge 49, 3) := dk_162 0 49 (dk_at dksX2_laysKey_6 6 rfl rfl)
theorem dX2_laysKey_150 : decode cX2_laysKey 150 = .ok (.iconst 0, 1) := dk_3 (dk_at dksX2_laysKey_6 9 rfl rfl)
theorem dX2_laysKey_151 : decode cX2_laysKey 151 = .ok (.istore 6, 2) := dk_54 6 (dk_at dksX2_laysKey_6 10 rfl rfl)
theorem dX2_laysKey_153 : decode cX2_laysKey 153 = .ok (.iload 6, 2) := dk_21 6 (dk_at dksX2_laysKey_6 12 rfl rfl)
theorem dX2_laysKey_155 : decode cX2_laysKey 155 = .ok (.aload_n 0, 1) := dk_42 (dk_at dksX2_laysKey_6 14 rfl rfl)
theorem dX2_laysKey_156 : decode cX2_laysKey 156 = .ok (.getfield 101, 3) := dk_180 0 101 (dk_at dksX2_laysKey_6 15 rfl rfl)
theorem dX2_laysKey_159 : decode cX2_laysKey 159 = .ok (.bipush 7, 2) := dk_16 7 (dk_at dksX2_laysKey_6 18 rfl rfl)
theorem dX2_laysKey_161 : decode cX2_laysKey 161 = .ok (.iload_n 3, 1) := dk_29 (dk_at dksX2_laysKey_6 20 rfl rfl)
theorem dX2_laysKey_162 : decode cX2_laysKey 162 = .ok (.imul, 1) := dk_104 (dk_at dksX2_laysKey_6 21 rfl rfl)
theorem dX2_laysKey_163 : decode cX2_laysKey 163 = .ok (.iload 5, 2) := dk_21 5 (dk_at dksX2_laysKey_6 22 rfl rfl)
theorem dX2_laysKey_165 : decode cX2_laysKey 165 = .ok (.iadd, 1) := dk_96 (dk_at dksX2_laysKey_7 0 rfl rfl)
theorem dX2_laysKey_166 : decode cX2_laysKey 166 = .ok (.iaload, 1) := dk_46 (dk_at dksX2_laysKey_7 1 rfl rfl)
theorem dX2_laysKey_167 : decode cX2_laysKey 167 = .ok (.if_icmp .ge 23, 3) := dk_162 0 23 (dk_at dksX2_laysKey_7 2 rfl rfl)
theorem dX2_laysKey_170 : decode cX2_laysKey 170 = .ok (.aload_n 0, 1) := dk_42 (dk_at dksX2_laysKey_7 5 rfl rfl)
theorem dX2_laysKey_171 : decode cX2_laysKey 171 = .ok (.bipush 9, 2) := dk_16 9 (dk_at dksX2_laysKey_7 6 rfl rfl)
theorem dX2_laysKey_173 : decode cX2_laysKey 173 = .ok (.aload_n 0, 1) := dk_42 (dk_at dksX2_laysKey_7 8 rfl rfl)
theorem dX2_laysKey_174 : decode cX2_laysKey 174 = .ok (.getfield 131, 3) := dk_180 0 131 (dk_at dksX2_laysKey_7 9 rfl rfl)
theorem dX2_laysKey_177 : decode cX2_laysKey 177 = .ok (.iload 5, 2) := dk_21 5 (dk_at dksX2_laysKey_7 12 rfl rfl)
theorem dX2_laysKey_179 : decode cX2_laysKey 179 = .ok (.iaload, 1) := dk_46 (dk_at dksX2_laysKey_7 14 rfl rfl)
theorem dX2_laysKey_180 : decode cX2_laysKey 180 = .ok (.imul, 1) := dk_104 (dk_at dksX2_laysKey_7 15 rfl rfl)
theorem dX2_laysKey_181 : decode cX2_laysKey 181 = .ok (.invokevirtual 369, 3) := dk_182 1 113 (dk_at dksX2_laysKey_7 16 rfl rfl)
theorem dX2_laysKey_184 : decode cX2_laysKey 184 = .ok (.iinc 6 1, 3) := dk_132 6 1 (dk_at dksX2_laysKey_7 19 rfl rfl)
theorem dX2_laysKey_187 : decode cX2_laysKey 187 = .ok (.goto (-34), 3) := dk_167 255 222 (dk_at dksX2_laysKey_8 0 rfl rfl)
theorem dX2_laysKey_190 : decode cX2_laysKey 190 = .ok (.iinc 5 1, 3) := dk_132 5 1 (dk_at dksX2_laysKey_8 3 rfl rfl)
theorem dX2_laysKey_193 : decode cX2_laysKey 193 = .ok (.goto (-52), 3) := dk_167 255 204 (dk_at dksX2_laysKey_8 6 rfl rfl)
theorem dX2_laysKey_196 : decode cX2_laysKey 196 = .ok (.iconst 0, 1) := dk_3 (dk_at dksX2_laysKey_8 9 rfl rfl)
theorem dX2_laysKey_197 : decode cX2_laysKey 197 = .ok (.istore 5, 2) := dk_54 5 (dk_at dksX2_laysKey_8 10 rfl rfl)
theorem dX2_laysKey_199 : decode cX2_laysKey 199 = .ok (.iload 5, 2) := dk_21 5 (dk_at dksX2_laysKey_8 12 rfl rfl)
theorem dX2_laysKey_201 : decode cX2_laysKey 201 = .ok (.bipush 9, 2) := dk_16 9 (dk_at dksX2_laysKey_8 14 rfl rfl)
theorem dX2_laysKey_203 : decode cX2_laysKey 203 = .ok (.if_icmp .ge 45, 3) := dk_162 0 45 (dk_at dksX2_laysKey_8 16 rfl rfl)
theorem dX2_laysKey_206 : decode cX2_laysKey 206 = .ok (.aload_n 0, 1) := dk_42 (dk_at dksX2_laysKey_8 19 rfl rfl)
theorem dX2_laysKey_207 : decode cX2_laysKey 207 = .ok (.getfield 23, 3) := dk_180 0 23 (dk_at dksX2_laysKey_8 20 rfl rfl)
theorem dX2_laysKey_210 : decode cX2_laysKey 210 = .ok (.bipush 9, 2) := dk_16 9 (dk_at dksX2_laysKey_9 0 rfl rfl)
theorem dX2_laysKey_212 : decode cX2_laysKey 212 = .ok (.iload_n 1, 1) := dk_27 (dk_at dksX2_laysKey_9 2 rfl rfl)
theorem dX2_laysKey_213 : decode cX2_laysKey 213 = .ok (.imul, 1) := dk_104 (dk_at dksX2_laysKey_9 3 rfl rfl)
theorem dX2_laysKey_214 : decode cX2_laysKey 214 = .ok (.iload 5, 2) := dk_21 5 (dk_at dksX2_laysKey_9 4 rfl rfl)
theorem dX2_laysKey_216 : decode cX2_laysKey 216 = .ok (.iadd, 1) := dk_96 (dk_at dksX2_laysKey_9 6 rfl rfl)
theorem dX2_laysKey_217 : decode cX2_laysKey 217 = .ok (.aload_n 0, 1) := dk_42 (dk_at dksX2_laysKey_9 7 rfl rfl)
theorem dX2_laysKey_218 : decode cX2_laysKey 218 = .ok (.aload_n 0, 1) := dk_42 (dk_at dksX2_laysKey_9 8 rfl rfl)
theorem dX2_laysKey_219 : decode cX2_laysKey 219 = .ok (.getfield 23, 3) := dk_180 0 23 (dk_at dksX2_laysKey_9 9 rfl rfl)
theorem dX2_laysKey_222 : decode cX2_laysKey 222 = .ok (.bipush 9, 2) := dk_16 9 (dk_at dksX2_laysKey_9 12 rfl rfl)
theorem dX2_laysKey_224 : decode cX2_laysKey 224 = .ok (.iload_n 1, 1) := dk_27 (dk_at dksX2_laysKey_9 14 rfl rfl)
theorem dX2_laysKey_225 : decode cX2_laysKey 225 = .ok (.imul, 1) := dk_104 (dk_at dksX2_laysKey_9 15 rfl rfl)
theorem dX2_laysKey_226 : decode cX2_laysKey 226 = .ok (.iload 5, 2) := dk_21 5 (dk_at dksX2_laysKey_9 16 rfl rfl)
theorem dX2_laysKey_228 : decode cX2_laysKey 228 = .ok (.iadd, 1) := dk_96 (dk_at dksX2_laysKey_9 18 rfl rfl)
theorem dX2_laysKey_229 : decode cX2_laysKey 229 = .ok (.laload, 1) := dk_47 (dk_at dksX2_laysKey_9 19 rfl rfl)
theorem dX2_laysKey_230 : decode cX2_laysKey 230 = .ok (.aload_n 0, 1) := dk_42 (dk_at dksX2_laysKey_9 20 rfl rfl)
theorem dX2_laysKey_231 : decode cX2_laysKey 231 = .ok (.getfield 140, 3) := dk_180 0 140 (dk_at dksX2_laysKey_9 21 rfl rfl)
theorem dX2_laysKey_234 : decode cX2_laysKey 234 = .ok (.iload 5, 2) := dk_21 5 (dk_at dksX2_laysKey_10 0 rfl rfl)
theorem dX2_laysKey_236 : decode cX2_laysKey 236 = .ok (.laload, 1) := dk_47 (dk_at dksX2_laysKey_10 2 rfl rfl)
theorem dX2_laysKey_237 : decode cX2_laysKey 237 = .ok (.lsub, 1) := dk_101 (dk_at dksX2_laysKey_10 3 rfl rfl)
theorem dX2_laysKey_238 : decode cX2_laysKey 238 = .ok (.invokevirtual 257, 3) := dk_182 1 1 (dk_at dksX2_laysKey_10 4 rfl rfl)
theorem dX2_laysKey_241 : decode cX2_laysKey 241 = .ok (.lastore, 1) := dk_80 (dk_at dksX2_laysKey_10 7 rfl rfl)
theorem dX2_laysKey_242 : decode cX2_laysKey 242 = .ok (.iinc 5 1, 3) := dk_132 5 1 (dk_at dksX2_laysKey_10 8 rfl rfl)
theorem dX2_laysKey_245 : decode cX2_laysKey 245 = .ok (.goto (-46), 3) := dk_167 255 210 (dk_at dksX2_laysKey_10 11 rfl rfl)
theorem dX2_laysKey_248 : decode cX2_laysKey 248 = .ok (.return_, 1) := dk_177 (dk_at dksX2_laysKey_10 14 rfl rfl)
abbrev cX2_begins : ByteArray := prog_18_method_58_code
def yX2_begins : MethodName := ⟨RX2, "begins", "(J)V"⟩
def dkwX2_begins_1 : List UInt8 := [167, 0, 4, 9, 80, 132, 3, 1, 167, 255, 228, 177]
abbrev dktX2_begins_1 : List UInt8 := dkwX2_begins_1 ++ []
def dkwX2_begins_0 : List UInt8 := [3, 62, 29, 16, 9, 162, 0, 28, 42, 180, 0, 140, 29, 29, 154, 0, 11, 42, 31, 182, 1, 1]
abbrev dktX2_begins_0 : List UInt8 := dkwX2_begins_0 ++ dktX2_begins_1
theorem dksX2_begins_0 : cX2_begins.data.toList.drop 0 = dktX2_begins_0 := by decide +kernel
theorem dksX2_begins_1 : cX2_begins.data.toList.drop 22 = dktX2_begins_1 := dk_seg dksX2_begins_0 22 rfl rfl
theorem dX2_begins_0 : decode cX2_begins 0 = .ok (.iconst 0, 1) := dk_3 (dk_at dksX2_begins_0 0 rfl rfl)
theorem dX2_begins_1 : decode cX2_begins 1 = .ok (.istore_n 3, 1) := dk_62 (dk_at dksX2_begins_0 1 rfl rfl)
theorem dX2_begins_2 : decode cX2_begins 2 = .ok (.iload_n 3, 1) := dk_29 (dk_at dksX2_begins_0 2 rfl rfl)
theorem dX2_begins_3 : decode cX2_begins 3 = .ok (.bipush 9, 2) := dk_16 9 (dk_at dksX2_begins_0 3 rfl rfl)
theorem dX2_begins_5 : decode cX2_begins 5 = .ok (.if_icmp .ge 28, 3) := dk_162 0 28 (dk_at dksX2_begins_0 5 rfl rfl)
theorem dX2_begins_8 : decode cX2_begins 8 = .ok (.aload_n 0, 1) := dk_42 (dk_at dksX2_begins_0 8 rfl rfl)
theorem dX2_begins_9 : decode cX2_begins 9 = .ok (.getfield 140, 3) := dk_180 0 140 (dk_at dksX2_begins_0 9 rfl rfl)
theorem dX2_begins_12 : decode cX2_begins 12 = .ok (.iload_n 3, 1) := dk_29 (dk_at dksX2_begins_0 12 rfl rfl)
theorem dX2_begins_13 : decode cX2_begins 13 = .ok (.iload_n 3, 1) := dk_29 (dk_at dksX2_begins_0 13 rfl rfl)
theorem dX2_begins_14 : decode cX2_begins 14 = .ok (.ifCond .ne 11, 3) := dk_154 0 11 (dk_at dksX2_begins_0 14 rfl rfl)
theorem dX2_begins_17 : decode cX2_begins 17 = .ok (.aload_n 0, 1) := dk_42 (dk_at dksX2_begins_0 17 rfl rfl)
theorem dX2_begins_18 : decode cX2_begins 18 = .ok (.lload_n 1, 1) := dk_31 (dk_at dksX2_begins_0 18 rfl rfl)
theorem dX2_begins_19 : decode cX2_begins 19 = .ok (.invokevirtual 257, 3) := dk_182 1 1 (dk_at dksX2_begins_0 19 rfl rfl)
theorem dX2_begins_22 : decode cX2_begins 22 = .ok (.goto 4, 3) := dk_167 0 4 (dk_at dksX2_begins_1 0 rfl rfl)
theorem dX2_begins_25 : decode cX2_begins 25 = .ok (.lconst 0, 1) := dk_9 (dk_at dksX2_begins_1 3 rfl rfl)
theorem dX2_begins_26 : decode cX2_begins 26 = .ok (.lastore, 1) := dk_80 (dk_at dksX2_begins_1 4 rfl rfl)
theorem dX2_begins_27 : decode cX2_begins 27 = .ok (.iinc 3 1, 3) := dk_132 3 1 (dk_at dksX2_begins_1 5 rfl rfl)
theorem dX2_begins_30 : decode cX2_begins 30 = .ok (.goto (-28), 3) := dk_167 255 228 (dk_at dksX2_begins_1 8 rfl rfl)
theorem dX2_begins_33 : decode cX2_begins 33 = .ok (.return_, 1) := dk_177 (dk_at dksX2_begins_1 11 rfl rfl)
abbrev cX2_multiplies : ByteArray := prog_18_method_57_code
def yX2_multiplies : MethodName := ⟨RX2, "multiplies", "(I)V"⟩
def dkwX2_multiplies_2 : List UInt8 := [167, 255, 221, 42, 180, 0, 140, 28, 33, 80, 132, 2, 255, 167, 255, 199, 177]
abbrev dktX2_multiplies_2 : List UInt8 := dkwX2_multiplies_2 ++ []
def dkwX2_multiplies_1 : List UInt8 := [21, 5, 47, 42, 180, 0, 23, 27, 28, 96, 21, 5, 100, 47, 105, 97, 182, 1, 1, 66, 132, 5, 1]
abbrev dktX2_multiplies_1 : List UInt8 := dkwX2_multiplies_1 ++ dktX2_multiplies_2
def dkwX2_multiplies_0 : List UInt8 := [16, 8, 61, 28, 155, 0, 59, 9, 66, 3, 54, 5, 21, 5, 28, 163, 0, 35, 42, 33, 42, 180, 0, 140]
abbrev dktX2_multiplies_0 : List UInt8 := dkwX2_multiplies_0 ++ dktX2_multiplies_1
theorem dksX2_multiplies_0 : cX2_multiplies.data.toList.drop 0 = dktX2_multiplies_0 := by decide +kernel
theorem dksX2_multiplies_1 : cX2_multiplies.data.toList.drop 24 = dktX2_multiplies_1 := dk_seg dksX2_multiplies_0 24 rfl rfl
theorem dksX2_multiplies_2 : cX2_multiplies.data.toList.drop 47 = dktX2_multiplies_2 := dk_seg dksX2_multiplies_1 23 rfl rfl
theorem dX2_multiplies_0 : decode cX2_multiplies 0 = .ok (.bipush 8, 2) := dk_16 8 (dk_at dksX2_multiplies_0 0 rfl rfl)
theorem dX2_multiplies_2 : decode cX2_multiplies 2 = .ok (.istore_n 2, 1) := dk_61 (dk_at dksX2_multiplies_0 2 rfl rfl)
theorem dX2_multiplies_3 : decode cX2_multiplies 3 = .ok (.iload_n 2, 1) := dk_28 (dk_at dksX2_multiplies_0 3 rfl rfl)
theorem dX2_multiplies_4 : decode cX2_multiplies 4 = .ok (.ifCond .lt 59, 3) := dk_155 0 59 (dk_at dksX2_multiplies_0 4 rfl rfl)
theorem dX2_multiplies_7 : decode cX2_multiplies 7 = .ok (.lconst 0, 1) := dk_9 (dk_at dksX2_multiplies_0 7 rfl rfl)
theorem dX2_multiplies_8 : decode cX2_multiplies 8 = .ok (.lstore_n 3, 1) := dk_66 (dk_at dksX2_multiplies_0 8 rfl rfl)
theorem dX2_multiplies_9 : decode cX2_multiplies 9 = .ok (.iconst 0, 1) := dk_3 (dk_at dksX2_multiplies_0 9 rfl rfl)
theorem dX2_multiplies_10 : decode cX2_multiplies 10 = .ok (.istore 5, 2) := dk_54 5 (dk_at dksX2_multiplies_0 10 rfl rfl)
theorem dX2_multiplies_12 : decode cX2_multiplies 12 = .ok (.iload 5, 2) := dk_21 5 (dk_at dksX2_multiplies_0 12 rfl rfl)
theorem dX2_multiplies_14 : decode cX2_multiplies 14 = .ok (.iload_n 2, 1) := dk_28 (dk_at dksX2_multiplies_0 14 rfl rfl)
theorem dX2_multiplies_15 : decode cX2_multiplies 15 = .ok (.if_icmp .gt 35, 3) := dk_163 0 35 (dk_at dksX2_multiplies_0 15 rfl rfl)
theorem dX2_multiplies_18 : decode cX2_multiplies 18 = .ok (.aload_n 0, 1) := dk_42 (dk_at dksX2_multiplies_0 18 rfl rfl)
theorem dX2_multiplies_19 : decode cX2_multiplies 19 = .ok (.lload_n 3, 1) := dk_33 (dk_at dksX2_multiplies_0 19 rfl rfl)
theorem dX2_multiplies_20 : decode cX2_multiplies 20 = .ok (.aload_n 0, 1) := dk_42 (dk_at dksX2_multiplies_0 20 rfl rfl)
theorem dX2_multiplies_21 : decode cX2_multiplies 21 = .ok (.getfield 140, 3) := dk_180 0 140 (dk_at dksX2_multiplies_0 21 rfl rfl)
theorem dX2_multiplies_24 : decode cX2_multiplies 24 = .ok (.iload 5, 2) := dk_21 5 (dk_at dksX2_multiplies_1 0 rfl rfl)
theorem dX2_multiplies_26 : decode cX2_multiplies 26 = .ok (.laload, 1) := dk_47 (dk_at dksX2_multiplies_1 2 rfl rfl)
theorem dX2_multiplies_27 : decode cX2_multiplies 27 = .ok (.aload_n 0, 1) := dk_42 (dk_at dksX2_multiplies_1 3 rfl rfl)
theorem dX2_multiplies_28 : decode cX2_multiplies 28 = .ok (.getfield 23, 3) := dk_180 0 23 (dk_at dksX2_multiplies_1 4 rfl rfl)
theorem dX2_multiplies_31 : decode cX2_multiplies 31 = .ok (.iload_n 1, 1) := dk_27 (dk_at dksX2_multiplies_1 7 rfl rfl)
theorem dX2_multiplies_32 : decode cX2_multiplies 32 = .ok (.iload_n 2, 1) := dk_28 (dk_at dksX2_multiplies_1 8 rfl rfl)
theorem dX2_multiplies_33 : decode cX2_multiplies 33 = .ok (.iadd, 1) := dk_96 (dk_at dksX2_multiplies_1 9 rfl rfl)
theorem dX2_multiplies_34 : decode cX2_multiplies 34 = .ok (.iload 5, 2) := dk_21 5 (dk_at dksX2_multiplies_1 10 rfl rfl)
theorem dX2_multiplies_36 : decode cX2_multiplies 36 = .ok (.isub, 1) := dk_100 (dk_at dksX2_multiplies_1 12 rfl rfl)
theorem dX2_multiplies_37 : decode cX2_multiplies 37 = .ok (.laload, 1) := dk_47 (dk_at dksX2_multiplies_1 13 rfl rfl)
theorem dX2_multiplies_38 : decode cX2_multiplies 38 = .ok (.lmul, 1) := dk_105 (dk_at dksX2_multiplies_1 14 rfl rfl)
theorem dX2_multiplies_39 : decode cX2_multiplies 39 = .ok (.ladd, 1) := dk_97 (dk_at dksX2_multiplies_1 15 rfl rfl)
theorem dX2_multiplies_40 : decode cX2_multiplies 40 = .ok (.invokevirtual 257, 3) := dk_182 1 1 (dk_at dksX2_multiplies_1 16 rfl rfl)
theorem dX2_multiplies_43 : decode cX2_multiplies 43 = .ok (.lstore_n 3, 1) := dk_66 (dk_at dksX2_multiplies_1 19 rfl rfl)
theorem dX2_multiplies_44 : decode cX2_multiplies 44 = .ok (.iinc 5 1, 3) := dk_132 5 1 (dk_at dksX2_multiplies_1 20 rfl rfl)
theorem dX2_multiplies_47 : decode cX2_multiplies 47 = .ok (.goto (-35), 3) := dk_167 255 221 (dk_at dksX2_multiplies_2 0 rfl rfl)
theorem dX2_multiplies_50 : decode cX2_multiplies 50 = .ok (.aload_n 0, 1) := dk_42 (dk_at dksX2_multiplies_2 3 rfl rfl)
theorem dX2_multiplies_51 : decode cX2_multiplies 51 = .ok (.getfield 140, 3) := dk_180 0 140 (dk_at dksX2_multiplies_2 4 rfl rfl)
theorem dX2_multiplies_54 : decode cX2_multiplies 54 = .ok (.iload_n 2, 1) := dk_28 (dk_at dksX2_multiplies_2 7 rfl rfl)
theorem dX2_multiplies_55 : decode cX2_multiplies 55 = .ok (.lload_n 3, 1) := dk_33 (dk_at dksX2_multiplies_2 8 rfl rfl)
theorem dX2_multiplies_56 : decode cX2_multiplies 56 = .ok (.lastore, 1) := dk_80 (dk_at dksX2_multiplies_2 9 rfl rfl)
theorem dX2_multiplies_57 : decode cX2_multiplies 57 = .ok (.iinc 2 (-1), 3) := dk_132 2 255 (dk_at dksX2_multiplies_2 10 rfl rfl)
theorem dX2_multiplies_60 : decode cX2_multiplies 60 = .ok (.goto (-57), 3) := dk_167 255 199 (dk_at dksX2_multiplies_2 13 rfl rfl)
theorem dX2_multiplies_63 : decode cX2_multiplies 63 = .ok (.return_, 1) := dk_177 (dk_at dksX2_multiplies_2 16 rfl rfl)
abbrev cX2_spellsAll : ByteArray := prog_18_method_68_code
def yX2_spellsAll : MethodName := ⟨RX2, "spellsAll", "()V"⟩
def dkwX2_spellsAll_4 : List UInt8 := [182, 1, 149, 28, 4, 160, 0, 9, 42, 16, 33, 182, 1, 146, 132, 1, 1, 167, 255, 154, 177]
abbrev dktX2_spellsAll_4 : List UInt8 := dkwX2_spellsAll_4 ++ []
def dkwX2_spellsAll_3 : List UInt8 := [42, 42, 180, 0, 110, 27, 46, 182, 1, 149, 42, 16, 46, 182, 1, 146, 42, 42, 180, 0, 113, 27, 46]
abbrev dktX2_spellsAll_3 : List UInt8 := dkwX2_spellsAll_3 ++ dktX2_spellsAll_4
def dkwX2_spellsAll_2 : List UInt8 := [132, 3, 1, 167, 255, 242, 28, 5, 161, 0, 16, 42, 42, 180, 0, 116, 27, 46, 182, 1, 149, 167, 0, 29]
abbrev dktX2_spellsAll_2 : List UInt8 := dkwX2_spellsAll_2 ++ dktX2_spellsAll_3
def dkwX2_spellsAll_1 : List UInt8 := [182, 1, 146, 42, 180, 0, 107, 27, 46, 61, 5, 62, 29, 28, 163, 0, 15, 42, 16, 63, 182, 1, 146]
abbrev dktX2_spellsAll_1 : List UInt8 := dkwX2_spellsAll_1 ++ dktX2_spellsAll_2
def dkwX2_spellsAll_0 : List UInt8 := [42, 3, 181, 1, 143, 3, 60, 27, 42, 180, 1, 93, 162, 0, 100, 27, 158, 0, 9, 42, 16, 43]
abbrev dktX2_spellsAll_0 : List UInt8 := dkwX2_spellsAll_0 ++ dktX2_spellsAll_1
theorem dksX2_spellsAll_0 : cX2_spellsAll.data.toList.drop 0 = dktX2_spellsAll_0 := by decide +kernel
theorem dksX2_spellsAll_1 : cX2_spellsAll.data.toList.drop 22 = dktX2_spellsAll_1 := dk_seg dksX2_spellsAll_0 22 rfl rfl
theorem dksX2_spellsAll_2 : cX2_spellsAll.data.toList.drop 45 = dktX2_spellsAll_2 := dk_seg dksX2_spellsAll_1 23 rfl rfl
theorem dksX2_spellsAll_3 : cX2_spellsAll.data.toList.drop 69 = dktX2_spellsAll_3 := dk_seg dksX2_spellsAll_2 24 rfl rfl
theorem dksX2_spellsAll_4 : cX2_spellsAll.data.toList.drop 92 = dktX2_spellsAll_4 := dk_seg dksX2_spellsAll_3 23 rfl rfl
theorem dX2_spellsAll_0 : decode cX2_spellsAll 0 = .ok (.aload_n 0, 1) := dk_42 (dk_at dksX2_spellsAll_0 0 rfl rfl)
theorem dX2_spellsAll_1 : decode cX2_spellsAll 1 = .ok (.iconst 0, 1) := dk_3 (dk_at dksX2_spellsAll_0 1 rfl rfl)
theorem dX2_spellsAll_2 : decode cX2_spellsAll 2 = .ok (.putfield 399, 3) := dk_181 1 143 (dk_at dksX2_spellsAll_0 2 rfl rfl)
theorem dX2_spellsAll_5 : decode cX2_spellsAll 5 = .ok (.iconst 0, 1) := dk_3 (dk_at dksX2_spellsAll_0 5 rfl rfl)
theorem dX2_spellsAll_6 : decode cX2_spellsAll 6 = .ok (.istore_n 1, 1) := dk_60 (dk_at dksX2_spellsAll_0 6 rfl rfl)
theorem dX2_spellsAll_7 : decode cX2_spellsAll 7 = .ok (.iload_n 1, 1) := dk_27 (dk_at dksX2_spellsAll_0 7 rfl rfl)
theorem dX2_spellsAll_8 : decode cX2_spellsAll 8 = .ok (.aload_n 0, 1) := dk_42 (dk_at dksX2_spellsAll_0 8 rfl rfl)
theorem dX2_spellsAll_9 : decode cX2_spellsAll 9 = .ok (.getfield 349, 3) := dk_180 1 93 (dk_at dksX2_spellsAll_0 9 rfl rfl)
theorem dX2_spellsAll_12 : decode cX2_spellsAll 12 = .ok (.if_icmp .ge 100, 3) := dk_162 0 100 (dk_at dksX2_spellsAll_0 12 rfl rfl)
theorem dX2_spellsAll_15 : decode cX2_spellsAll 15 = .ok (.iload_n 1, 1) := dk_27 (dk_at dksX2_spellsAll_0 15 rfl rfl)
theorem dX2_spellsAll_16 : decode cX2_spellsAll 16 = .ok (.ifCond .le 9, 3) := dk_158 0 9 (dk_at dksX2_spellsAll_0 16 rfl rfl)
theorem dX2_spellsAll_19 : decode cX2_spellsAll 19 = .ok (.aload_n 0, 1) := dk_42 (dk_at dksX2_spellsAll_0 19 rfl rfl)
theorem dX2_spellsAll_20 : decode cX2_spellsAll 20 = .ok (.bipush 43, 2) := dk_16 43 (dk_at dksX2_spellsAll_0 20 rfl rfl)
theorem dX2_spellsAll_22 : decode cX2_spellsAll 22 = .ok (.invokevirtual 402, 3) := dk_182 1 146 (dk_at dksX2_spellsAll_1 0 rfl rfl)
theorem dX2_spellsAll_25 : decode cX2_spellsAll 25 = .ok (.aload_n 0, 1) := dk_42 (dk_at dksX2_spellsAll_1 3 rfl rfl)
theorem dX2_spellsAll_26 : decode cX2_spellsAll 26 = .ok (.getfield 107, 3) := dk_180 0 107 (dk_at dksX2_spellsAll_1 4 rfl rfl)
theorem dX2_spellsAll_29 : decode cX2_spellsAll 29 = .ok (.iload_n 1, 1) := dk_27 (dk_at dksX2_spellsAll_1 7 rfl rfl)
theorem dX2_spellsAll_30 : decode cX2_spellsAll 30 = .ok (.iaload, 1) := dk_46 (dk_at dksX2_spellsAll_1 8 rfl rfl)
theorem dX2_spellsAll_31 : decode cX2_spellsAll 31 = .ok (.istore_n 2, 1) := dk_61 (dk_at dksX2_spellsAll_1 9 rfl rfl)
theorem dX2_spellsAll_32 : decode cX2_spellsAll 32 = .ok (.iconst 2, 1) := dk_5 (dk_at dksX2_spellsAll_1 10 rfl rfl)
theorem dX2_spellsAll_33 : decode cX2_spellsAll 33 = .ok (.istore_n 3, 1) := dk_62 (dk_at dksX2_spellsAll_1 11 rfl rfl)
theorem dX2_spellsAll_34 : decode cX2_spellsAll 34 = .ok (.iload_n 3, 1) := dk_29 (dk_at dksX2_spellsAll_1 12 rfl rfl)
theorem dX2_spellsAll_35 : decode cX2_spellsAll 35 = .ok (.iload_n 2, 1) := dk_28 (dk_at dksX2_spellsAll_1 13 rfl rfl)
theorem dX2_spellsAll_36 : decode cX2_spellsAll 36 = .ok (.if_icmp .gt 15, 3) := dk_163 0 15 (dk_at dksX2_spellsAll_1 14 rfl rfl)
theorem dX2_spellsAll_39 : decode cX2_spellsAll 39 = .ok (.aload_n 0, 1) := dk_42 (dk_at dksX2_spellsAll_1 17 rfl rfl)
theorem dX2_spellsAll_40 : decode cX2_spellsAll 40 = .ok (.bipush 63, 2) := dk_16 63 (dk_at dksX2_spellsAll_1 18 rfl rfl)
theorem dX2_spellsAll_42 : decode cX2_spellsAll 42 = .ok (.invokevirtual 402, 3) := dk_182 1 146 (dk_at dksX2_spellsAll_1 20 rfl rfl)
theorem dX2_spellsAll_45 : decode cX2_spellsAll 45 = .ok (.iinc 3 1, 3) := dk_132 3 1 (dk_at dksX2_spellsAll_2 0 rfl rfl)
theorem dX2_spellsAll_48 : decode cX2_spellsAll 48 = .ok (.goto (-14), 3) := dk_167 255 242 (dk_at dksX2_spellsAll_2 3 rfl rfl)
theorem dX2_spellsAll_51 : decode cX2_spellsAll 51 = .ok (.iload_n 2, 1) := dk_28 (dk_at dksX2_spellsAll_2 6 rfl rfl)
theorem dX2_spellsAll_52 : decode cX2_spellsAll 52 = .ok (.iconst 2, 1) := dk_5 (dk_at dksX2_spellsAll_2 7 rfl rfl)
theorem dX2_spellsAll_53 : decode cX2_spellsAll 53 = .ok (.if_icmp .lt 16, 3) := dk_161 0 16 (dk_at dksX2_spellsAll_2 8 rfl rfl)
theorem dX2_spellsAll_56 : decode cX2_spellsAll 56 = .ok (.aload_n 0, 1) := dk_42 (dk_at dksX2_spellsAll_2 11 rfl rfl)
theorem dX2_spellsAll_57 : decode cX2_spellsAll 57 = .ok (.aload_n 0, 1) := dk_42 (dk_at dksX2_spellsAll_2 12 rfl rfl)
theorem dX2_spellsAll_58 : decode cX2_spellsAll 58 = .ok (.getfield 116, 3) := dk_180 0 116 (dk_at dksX2_spellsAll_2 13 rfl rfl)
theorem dX2_spellsAll_61 : decode cX2_spellsAll 61 = .ok (.iload_n 1, 1) := dk_27 (dk_at dksX2_spellsAll_2 16 rfl rfl)
theorem dX2_spellsAll_62 : decode cX2_spellsAll 62 = .ok (.iaload, 1) := dk_46 (dk_at dksX2_spellsAll_2 17 rfl rfl)
theorem dX2_spellsAll_63 : decode cX2_spellsAll 63 = .ok (.invokevirtual 405, 3) := dk_182 1 149 (dk_at dksX2_spellsAll_2 18 rfl rfl)
theorem dX2_spellsAll_66 : decode cX2_spellsAll 66 = .ok (.goto 29, 3) := dk_167 0 29 (dk_at dksX2_spellsAll_2 21 rfl rfl)
theorem dX2_spellsAll_69 : decode cX2_spellsAll 69 = .ok (.aload_n 0, 1) := dk_42 (dk_at dksX2_spellsAll_3 0 rfl rfl)
theorem dX2_spellsAll_70 : decode cX2_spellsAll 70 = .ok (.aload_n 0, 1) := dk_42 (dk_at dksX2_spellsAll_3 1 rfl rfl)
theorem dX2_spellsAll_71 : decode cX2_spellsAll 71 = .ok (.getfield 110, 3) := dk_180 0 110 (dk_at dksX2_spellsAll_3 2 rfl rfl)
theorem dX2_spellsAll_74 : decode cX2_spellsAll 74 = .ok (.iload_n 1, 1) := dk_27 (dk_at dksX2_spellsAll_3 5 rfl rfl)
theorem dX2_spellsAll_75 : decode cX2_spellsAll 75 = .ok (.iaload, 1) := dk_46 (dk_at dksX2_spellsAll_3 6 rfl rfl)
theorem dX2_spellsAll_76 : decode cX2_spellsAll 76 = .ok (.invokevirtual 405, 3) := dk_182 1 149 (dk_at dksX2_spellsAll_3 7 rfl rfl)
theorem dX2_spellsAll_79 : decode cX2_spellsAll 79 = .ok (.aload_n 0, 1) := dk_42 (dk_at dksX2_spellsAll_3 10 rfl rfl)
theorem dX2_spellsAll_80 : decode cX2_spellsAll 80 = .ok (.bipush 46, 2) := dk_16 46 (dk_at dksX2_spellsAll_3 11 rfl rfl)
theorem dX2_spellsAll_82 : decode cX2_spellsAll 82 = .ok (.invokevirtual 402, 3) := dk_182 1 146 (dk_at dksX2_spellsAll_3 13 rfl rfl)
theorem dX2_spellsAll_85 : decode cX2_spellsAll 85 = .ok (.aload_n 0, 1) := dk_42 (dk_at dksX2_spellsAll_3 16 rfl rfl)
theorem dX2_spellsAll_86 : decode cX2_spellsAll 86 = .ok (.aload_n 0, 1) := dk_42 (dk_at dksX2_spellsAll_3 17 rfl rfl)
theorem dX2_spellsAll_87 : decode cX2_spellsAll 87 = .ok (.getfield 113, 3) := dk_180 0 113 (dk_at dksX2_spellsAll_3 18 rfl rfl)
theorem dX2_spellsAll_90 : decode cX2_spellsAll 90 = .ok (.iload_n 1, 1) := dk_27 (dk_at dksX2_spellsAll_3 21 rfl rfl)
theorem dX2_spellsAll_91 : decode cX2_spellsAll 91 = .ok (.iaload, 1) := dk_46 (dk_at dksX2_spellsAll_3 22 rfl rfl)
theorem dX2_spellsAll_92 : decode cX2_spellsAll 92 = .ok (.invokevirtual 405, 3) := dk_182 1 149 (dk_at dksX2_spellsAll_4 0 rfl rfl)
theorem dX2_spellsAll_95 : decode cX2_spellsAll 95 = .ok (.iload_n 2, 1) := dk_28 (dk_at dksX2_spellsAll_4 3 rfl rfl)
theorem dX2_spellsAll_96 : decode cX2_spellsAll 96 = .ok (.iconst 1, 1) := dk_4 (dk_at dksX2_spellsAll_4 4 rfl rfl)
theorem dX2_spellsAll_97 : decode cX2_spellsAll 97 = .ok (.if_icmp .ne 9, 3) := dk_160 0 9 (dk_at dksX2_spellsAll_4 5 rfl rfl)
theorem dX2_spellsAll_100 : decode cX2_spellsAll 100 = .ok (.aload_n 0, 1) := dk_42 (dk_at dksX2_spellsAll_4 8 rfl rfl)
theorem dX2_spellsAll_101 : decode cX2_spellsAll 101 = .ok (.bipush 33, 2) := dk_16 33 (dk_at dksX2_spellsAll_4 9 rfl rfl)
theorem dX2_spellsAll_103 : decode cX2_spellsAll 103 = .ok (.invokevirtual 402, 3) := dk_182 1 146 (dk_at dksX2_spellsAll_4 11 rfl rfl)
theorem dX2_spellsAll_106 : decode cX2_spellsAll 106 = .ok (.iinc 1 1, 3) := dk_132 1 1 (dk_at dksX2_spellsAll_4 14 rfl rfl)
theorem dX2_spellsAll_109 : decode cX2_spellsAll 109 = .ok (.goto (-102), 3) := dk_167 255 154 (dk_at dksX2_spellsAll_4 17 rfl rfl)
theorem dX2_spellsAll_112 : decode cX2_spellsAll 112 = .ok (.return_, 1) := dk_177 (dk_at dksX2_spellsAll_4 20 rfl rfl)
abbrev cX2_spells : ByteArray := prog_18_method_66_code
def yX2_spells : MethodName := ⟨RX2, "spells", "(I)V"⟩
def dkwX2_spells_0 : List UInt8 := [42, 180, 0, 152, 42, 180, 1, 143, 27, 79, 42, 89, 180, 1, 143, 4, 96, 181, 1, 143, 177]
abbrev dktX2_spells_0 : List UInt8 := dkwX2_spells_0 ++ []
theorem dksX2_spells_0 : cX2_spells.data.toList.drop 0 = dktX2_spells_0 := by decide +kernel
theorem dX2_spells_0 : decode cX2_spells 0 = .ok (.aload_n 0, 1) := dk_42 (dk_at dksX2_spells_0 0 rfl rfl)
theorem dX2_spells_1 : decode cX2_spells 1 = .ok (.getfield 152, 3) := dk_180 0 152 (dk_at dksX2_spells_0 1 rfl rfl)
theorem dX2_spells_4 : decode cX2_spells 4 = .ok (.aload_n 0, 1) := dk_42 (dk_at dksX2_spells_0 4 rfl rfl)
theorem dX2_spells_5 : decode cX2_spells 5 = .ok (.getfield 399, 3) := dk_180 1 143 (dk_at dksX2_spells_0 5 rfl rfl)
theorem dX2_spells_8 : decode cX2_spells 8 = .ok (.iload_n 1, 1) := dk_27 (dk_at dksX2_spells_0 8 rfl rfl)
theorem dX2_spells_9 : decode cX2_spells 9 = .ok (.iastore, 1) := dk_79 (dk_at dksX2_spells_0 9 rfl rfl)
theorem dX2_spells_10 : decode cX2_spells 10 = .ok (.aload_n 0, 1) := dk_42 (dk_at dksX2_spells_0 10 rfl rfl)
theorem dX2_spells_11 : decode cX2_spells 11 = .ok (.dup, 1) := dk_89 (dk_at dksX2_spells_0 11 rfl rfl)
theorem dX2_spells_12 : decode cX2_spells 12 = .ok (.getfield 399, 3) := dk_180 1 143 (dk_at dksX2_spells_0 12 rfl rfl)
theorem dX2_spells_15 : decode cX2_spells 15 = .ok (.iconst 1, 1) := dk_4 (dk_at dksX2_spells_0 15 rfl rfl)
theorem dX2_spells_16 : decode cX2_spells 16 = .ok (.iadd, 1) := dk_96 (dk_at dksX2_spells_0 16 rfl rfl)
theorem dX2_spells_17 : decode cX2_spells 17 = .ok (.putfield 399, 3) := dk_181 1 143 (dk_at dksX2_spells_0 17 rfl rfl)
theorem dX2_spells_20 : decode cX2_spells 20 = .ok (.return_, 1) := dk_177 (dk_at dksX2_spells_0 20 rfl rfl)
abbrev cX2_spellsNumber : ByteArray := prog_18_method_67_code
def yX2_spellsNumber : MethodName := ⟨RX2, "spellsNumber", "(I)V"⟩
def dkwX2_spellsNumber_1 : List UInt8 := [96, 182, 1, 146, 177]
abbrev dktX2_spellsNumber_1 : List UInt8 := dkwX2_spellsNumber_1 ++ []
def dkwX2_spellsNumber_0 : List UInt8 := [27, 16, 9, 164, 0, 14, 42, 16, 48, 27, 16, 10, 108, 96, 182, 1, 146, 42, 16, 48, 27, 16, 10, 112]
abbrev dktX2_spellsNumber_0 : List UInt8 := dkwX2_spellsNumber_0 ++ dktX2_spellsNumber_1
theorem dksX2_spellsNumber_0 : cX2_spellsNumber.data.toList.drop 0 = dktX2_spellsNumber_0 := by decide +kernel
theorem dksX2_spellsNumber_1 : cX2_spellsNumber.data.toList.drop 24 = dktX2_spellsNumber_1 := dk_seg dksX2_spellsNumber_0 24 rfl rfl
theorem dX2_spellsNumber_0 : decode cX2_spellsNumber 0 = .ok (.iload_n 1, 1) := dk_27 (dk_at dksX2_spellsNumber_0 0 rfl rfl)
theorem dX2_spellsNumber_1 : decode cX2_spellsNumber 1 = .ok (.bipush 9, 2) := dk_16 9 (dk_at dksX2_spellsNumber_0 1 rfl rfl)
theorem dX2_spellsNumber_3 : decode cX2_spellsNumber 3 = .ok (.if_icmp .le 14, 3) := dk_164 0 14 (dk_at dksX2_spellsNumber_0 3 rfl rfl)
theorem dX2_spellsNumber_6 : decode cX2_spellsNumber 6 = .ok (.aload_n 0, 1) := dk_42 (dk_at dksX2_spellsNumber_0 6 rfl rfl)
theorem dX2_spellsNumber_7 : decode cX2_spellsNumber 7 = .ok (.bipush 48, 2) := dk_16 48 (dk_at dksX2_spellsNumber_0 7 rfl rfl)
theorem dX2_spellsNumber_9 : decode cX2_spellsNumber 9 = .ok (.iload_n 1, 1) := dk_27 (dk_at dksX2_spellsNumber_0 9 rfl rfl)
theorem dX2_spellsNumber_10 : decode cX2_spellsNumber 10 = .ok (.bipush 10, 2) := dk_16 10 (dk_at dksX2_spellsNumber_0 10 rfl rfl)
theorem dX2_spellsNumber_12 : decode cX2_spellsNumber 12 = .ok (.idiv, 1) := dk_108 (dk_at dksX2_spellsNumber_0 12 rfl rfl)
theorem dX2_spellsNumber_13 : decode cX2_spellsNumber 13 = .ok (.iadd, 1) := dk_96 (dk_at dksX2_spellsNumber_0 13 rfl rfl)
theorem dX2_spellsNumber_14 : decode cX2_spellsNumber 14 = .ok (.invokevirtual 402, 3) := dk_182 1 146 (dk_at dksX2_spellsNumber_0 14 rfl rfl)
theorem dX2_spellsNumber_17 : decode cX2_spellsNumber 17 = .ok (.aload_n 0, 1) := dk_42 (dk_at dksX2_spellsNumber_0 17 rfl rfl)
theorem dX2_spellsNumber_18 : decode cX2_spellsNumber 18 = .ok (.bipush 48, 2) := dk_16 48 (dk_at dksX2_spellsNumber_0 18 rfl rfl)
theorem dX2_spellsNumber_20 : decode cX2_spellsNumber 20 = .ok (.iload_n 1, 1) := dk_27 (dk_at dksX2_spellsNumber_0 20 rfl rfl)
theorem dX2_spellsNumber_21 : decode cX2_spellsNumber 21 = .ok (.bipush 10, 2) := dk_16 10 (dk_at dksX2_spellsNumber_0 21 rfl rfl)
theorem dX2_spellsNumber_23 : decode cX2_spellsNumber 23 = .ok (.irem, 1) := dk_112 (dk_at dksX2_spellsNumber_0 23 rfl rfl)
theorem dX2_spellsNumber_24 : decode cX2_spellsNumber 24 = .ok (.iadd, 1) := dk_96 (dk_at dksX2_spellsNumber_1 0 rfl rfl)
theorem dX2_spellsNumber_25 : decode cX2_spellsNumber 25 = .ok (.invokevirtual 402, 3) := dk_182 1 146 (dk_at dksX2_spellsNumber_1 1 rfl rfl)
theorem dX2_spellsNumber_28 : decode cX2_spellsNumber 28 = .ok (.return_, 1) := dk_177 (dk_at dksX2_spellsNumber_1 4 rfl rfl)
abbrev cX2_tree : ByteArray := prog_18_method_71_code
def yX2_tree : MethodName := ⟨RX2, "tree", "(I)I"⟩
def dkwX2_tree_1 : List UInt8 := [182, 1, 163, 167, 0, 5, 16, 254, 172]
abbrev dktX2_tree_1 : List UInt8 := dkwX2_tree_1 ++ []
def dkwX2_tree_0 : List UInt8 := [27, 133, 9, 20, 1, 161, 184, 0, 193, 154, 0, 5, 2, 172, 42, 180, 0, 179, 153, 0, 11, 42, 27]
abbrev dktX2_tree_0 : List UInt8 := dkwX2_tree_0 ++ dktX2_tree_1
theorem dksX2_tree_0 : cX2_tree.data.toList.drop 0 = dktX2_tree_0 := by decide +kernel
theorem dksX2_tree_1 : cX2_tree.data.toList.drop 23 = dktX2_tree_1 := dk_seg dksX2_tree_0 23 rfl rfl
theorem dX2_tree_0 : decode cX2_tree 0 = .ok (.iload_n 1, 1) := dk_27 (dk_at dksX2_tree_0 0 rfl rfl)
theorem dX2_tree_1 : decode cX2_tree 1 = .ok (.i2l, 1) := dk_133 (dk_at dksX2_tree_0 1 rfl rfl)
theorem dX2_tree_2 : decode cX2_tree 2 = .ok (.lconst 0, 1) := dk_9 (dk_at dksX2_tree_0 2 rfl rfl)
theorem dX2_tree_3 : decode cX2_tree 3 = .ok (.ldc2_w 417, 3) := dk_20 1 161 (dk_at dksX2_tree_0 3 rfl rfl)
theorem dX2_tree_6 : decode cX2_tree 6 = .ok (.invokestatic 193, 3) := dk_184 0 193 (dk_at dksX2_tree_0 6 rfl rfl)
theorem dX2_tree_9 : decode cX2_tree 9 = .ok (.ifCond .ne 5, 3) := dk_154 0 5 (dk_at dksX2_tree_0 9 rfl rfl)
theorem dX2_tree_12 : decode cX2_tree 12 = .ok (.iconst (-1), 1) := dk_2 (dk_at dksX2_tree_0 12 rfl rfl)
theorem dX2_tree_13 : decode cX2_tree 13 = .ok (.ireturn, 1) := dk_172 (dk_at dksX2_tree_0 13 rfl rfl)
theorem dX2_tree_14 : decode cX2_tree 14 = .ok (.aload_n 0, 1) := dk_42 (dk_at dksX2_tree_0 14 rfl rfl)
theorem dX2_tree_15 : decode cX2_tree 15 = .ok (.getfield 179, 3) := dk_180 0 179 (dk_at dksX2_tree_0 15 rfl rfl)
theorem dX2_tree_18 : decode cX2_tree 18 = .ok (.ifCond .eq 11, 3) := dk_153 0 11 (dk_at dksX2_tree_0 18 rfl rfl)
theorem dX2_tree_21 : decode cX2_tree 21 = .ok (.aload_n 0, 1) := dk_42 (dk_at dksX2_tree_0 21 rfl rfl)
theorem dX2_tree_22 : decode cX2_tree 22 = .ok (.iload_n 1, 1) := dk_27 (dk_at dksX2_tree_0 22 rfl rfl)
theorem dX2_tree_23 : decode cX2_tree 23 = .ok (.invokevirtual 419, 3) := dk_182 1 163 (dk_at dksX2_tree_1 0 rfl rfl)
theorem dX2_tree_26 : decode cX2_tree 26 = .ok (.goto 5, 3) := dk_167 0 5 (dk_at dksX2_tree_1 3 rfl rfl)
theorem dX2_tree_29 : decode cX2_tree 29 = .ok (.bipush (-2), 2) := dk_16 254 (dk_at dksX2_tree_1 6 rfl rfl)
theorem dX2_tree_31 : decode cX2_tree 31 = .ok (.ireturn, 1) := dk_172 (dk_at dksX2_tree_1 8 rfl rfl)
abbrev cX2_asked : ByteArray := prog_18_method_70_code
def yX2_asked : MethodName := ⟨RX2, "asked", "(I)I"⟩
def dkwX2_asked_9 : List UInt8 := [172]
abbrev dktX2_asked_9 : List UInt8 := dkwX2_asked_9 ++ []
def dkwX2_asked_8 : List UInt8 := [160, 0, 10, 42, 180, 1, 143, 167, 0, 17, 27, 16, 7, 160, 0, 10, 42, 180, 1, 152, 167, 0, 4, 28]
abbrev dktX2_asked_8 : List UInt8 := dkwX2_asked_8 ++ dktX2_asked_9
def dkwX2_asked_7 : List UInt8 := [42, 180, 1, 116, 167, 0, 42, 27, 4, 160, 0, 10, 42, 180, 1, 93, 167, 0, 30, 27, 16, 6]
abbrev dktX2_asked_7 : List UInt8 := dkwX2_asked_7 ++ dktX2_asked_8
def dkwX2_asked_6 : List UInt8 := [164, 0, 12, 42, 180, 0, 47, 29, 46, 167, 0, 4, 28, 61, 132, 3, 1, 167, 255, 201, 27, 154, 0, 10]
abbrev dktX2_asked_6 : List UInt8 := dkwX2_asked_6 ++ dktX2_asked_7
def dkwX2_asked_5 : List UInt8 := [180, 0, 65, 29, 46, 167, 0, 4, 3, 96, 61, 27, 8, 160, 0, 22, 42, 180, 0, 47, 29, 46, 28]
abbrev dktX2_asked_5 : List UInt8 := dkwX2_asked_5 ++ dktX2_asked_6
def dkwX2_asked_4 : List UInt8 := [132, 3, 1, 167, 255, 165, 3, 62, 29, 42, 180, 1, 116, 162, 0, 53, 28, 27, 5, 160, 0, 12, 42]
abbrev dktX2_asked_4 : List UInt8 := dkwX2_asked_4 ++ dktX2_asked_5
def dkwX2_asked_3 : List UInt8 := [153, 0, 22, 42, 180, 0, 110, 29, 46, 28, 164, 0, 12, 42, 180, 0, 110, 29, 46, 167, 0, 4, 28, 61]
abbrev dktX2_asked_3 : List UInt8 := dkwX2_asked_3 ++ dktX2_asked_4
def dkwX2_asked_2 : List UInt8 := [154, 0, 12, 42, 180, 0, 116, 29, 46, 167, 0, 4, 3, 96, 61, 27, 7, 160, 0, 27, 21, 4]
abbrev dktX2_asked_2 : List UInt8 := dkwX2_asked_2 ++ dktX2_asked_3
def dkwX2_asked_1 : List UInt8 := [180, 0, 107, 29, 46, 4, 160, 0, 7, 4, 167, 0, 4, 3, 54, 4, 28, 27, 6, 160, 0, 17, 21, 4]
abbrev dktX2_asked_1 : List UInt8 := dkwX2_asked_1 ++ dktX2_asked_2
def dkwX2_asked_0 : List UInt8 := [3, 61, 3, 62, 29, 42, 180, 1, 93, 162, 0, 89, 42, 180, 0, 107, 29, 46, 153, 0, 13, 42]
abbrev dktX2_asked_0 : List UInt8 := dkwX2_asked_0 ++ dktX2_asked_1
theorem dksX2_asked_0 : cX2_asked.data.toList.drop 0 = dktX2_asked_0 := by decide +kernel
theorem dksX2_asked_1 : cX2_asked.data.toList.drop 22 = dktX2_asked_1 := dk_seg dksX2_asked_0 22 rfl rfl
theorem dksX2_asked_2 : cX2_asked.data.toList.drop 46 = dktX2_asked_2 := dk_seg dksX2_asked_1 24 rfl rfl
theorem dksX2_asked_3 : cX2_asked.data.toList.drop 68 = dktX2_asked_3 := dk_seg dksX2_asked_2 22 rfl rfl
theorem dksX2_asked_4 : cX2_asked.data.toList.drop 92 = dktX2_asked_4 := dk_seg dksX2_asked_3 24 rfl rfl
theorem dksX2_asked_5 : cX2_asked.data.toList.drop 115 = dktX2_asked_5 := dk_seg dksX2_asked_4 23 rfl rfl
theorem dksX2_asked_6 : cX2_asked.data.toList.drop 138 = dktX2_asked_6 := dk_seg dksX2_asked_5 23 rfl rfl
theorem dksX2_asked_7 : cX2_asked.data.toList.drop 162 = dktX2_asked_7 := dk_seg dksX2_asked_6 24 rfl rfl
theorem dksX2_asked_8 : cX2_asked.data.toList.drop 184 = dktX2_asked_8 := dk_seg dksX2_asked_7 22 rfl rfl
theorem dksX2_asked_9 : cX2_asked.data.toList.drop 208 = dktX2_asked_9 := dk_seg dksX2_asked_8 24 rfl rfl
theorem dX2_asked_0 : decode cX2_asked 0 = .ok (.iconst 0, 1) := dk_3 (dk_at dksX2_asked_0 0 rfl rfl)
theorem dX2_asked_1 : decode cX2_asked 1 = .ok (.istore_n 2, 1) := dk_61 (dk_at dksX2_asked_0 1 rfl rfl)
theorem dX2_asked_2 : decode cX2_asked 2 = .ok (.iconst 0, 1) := dk_3 (dk_at dksX2_asked_0 2 rfl rfl)
theorem dX2_asked_3 : decode cX2_asked 3 = .ok (.istore_n 3, 1) := dk_62 (dk_at dksX2_asked_0 3 rfl rfl)
theorem dX2_asked_4 : decode cX2_asked 4 = .ok (.iload_n 3, 1) := dk_29 (dk_at dksX2_asked_0 4 rfl rfl)
theorem dX2_asked_5 : decode cX2_asked 5 = .ok (.aload_n 0, 1) := dk_42 (dk_at dksX2_asked_0 5 rfl rfl)
theorem dX2_asked_6 : decode cX2_asked 6 = .ok (.getfield 349, 3) := dk_180 1 93 (dk_at dksX2_asked_0 6 rfl rfl)
theorem dX2_asked_9 : decode cX2_asked 9 = .ok (.if_icmp .ge 89, 3) := dk_162 0 89 (dk_at dksX2_asked_0 9 rfl rfl)
theorem dX2_asked_12 : decode cX2_asked 12 = .ok (.aload_n 0, 1) := dk_42 (dk_at dksX2_asked_0 12 rfl rfl)
theorem dX2_asked_13 : decode cX2_asked 13 = .ok (.getfield 107, 3) := dk_180 0 107 (dk_at dksX2_asked_0 13 rfl rfl)
theorem dX2_asked_16 : decode cX2_asked 16 = .ok (.iload_n 3, 1) := dk_29 (dk_at dksX2_asked_0 16 rfl rfl)
theorem dX2_asked_17 : decode cX2_asked 17 = .ok (.iaload, 1) := dk_46 (dk_at dksX2_asked_0 17 rfl rfl)
theorem dX2_asked_18 : decode cX2_asked 18 = .ok (.ifCond .eq 13, 3) := dk_153 0 13 (dk_at dksX2_asked_0 18 rfl rfl)
theorem dX2_asked_21 : decode cX2_asked 21 = .ok (.aload_n 0, 1) := dk_42 (dk_at dksX2_asked_0 21 rfl rfl)
theorem dX2_asked_22 : decode cX2_asked 22 = .ok (.getfield 107, 3) := dk_180 0 107 (dk_at dksX2_asked_1 0 rfl rfl)
theorem dX2_asked_25 : decode cX2_asked 25 = .ok (.iload_n 3, 1) := dk_29 (dk_at dksX2_asked_1 3 rfl rfl)
theorem dX2_asked_26 : decode cX2_asked 26 = .ok (.iaload, 1) := dk_46 (dk_at dksX2_asked_1 4 rfl rfl)
theorem dX2_asked_27 : decode cX2_asked 27 = .ok (.iconst 1, 1) := dk_4 (dk_at dksX2_asked_1 5 rfl rfl)
theorem dX2_asked_28 : decode cX2_asked 28 = .ok (.if_icmp .ne 7, 3) := dk_160 0 7 (dk_at dksX2_asked_1 6 rfl rfl)
theorem dX2_asked_31 : decode cX2_asked 31 = .ok (.iconst 1, 1) := dk_4 (dk_at dksX2_asked_1 9 rfl rfl)
theorem dX2_asked_32 : decode cX2_asked 32 = .ok (.goto 4, 3) := dk_167 0 4 (dk_at dksX2_asked_1 10 rfl rfl)
theorem dX2_asked_35 : decode cX2_asked 35 = .ok (.iconst 0, 1) := dk_3 (dk_at dksX2_asked_1 13 rfl rfl)
theorem dX2_asked_36 : decode cX2_asked 36 = .ok (.istore 4, 2) := dk_54 4 (dk_at dksX2_asked_1 14 rfl rfl)
theorem dX2_asked_38 : decode cX2_asked 38 = .ok (.iload_n 2, 1) := dk_28 (dk_at dksX2_asked_1 16 rfl rfl)
theorem dX2_asked_39 : decode cX2_asked 39 = .ok (.iload_n 1, 1) := dk_27 (dk_at dksX2_asked_1 17 rfl rfl)
theorem dX2_asked_40 : decode cX2_asked 40 = .ok (.iconst 3, 1) := dk_6 (dk_at dksX2_asked_1 18 rfl rfl)
theorem dX2_asked_41 : decode cX2_asked 41 = .ok (.if_icmp .ne 17, 3) := dk_160 0 17 (dk_at dksX2_asked_1 19 rfl rfl)
theorem dX2_asked_44 : decode cX2_asked 44 = .ok (.iload 4, 2) := dk_21 4 (dk_at dksX2_asked_1 22 rfl rfl)
theorem dX2_asked_46 : decode cX2_asked 46 = .ok (.ifCond .ne 12, 3) := dk_154 0 12 (dk_at dksX2_asked_2 0 rfl rfl)
theorem dX2_asked_49 : decode cX2_asked 49 = .ok (.aload_n 0, 1) := dk_42 (dk_at dksX2_asked_2 3 rfl rfl)
theorem dX2_asked_50 : decode cX2_asked 50 = .ok (.getfield 116, 3) := dk_180 0 116 (dk_at dksX2_asked_2 4 rfl rfl)
theorem dX2_asked_53 : decode cX2_asked 53 = .ok (.iload_n 3, 1) := dk_29 (dk_at dksX2_asked_2 7 rfl rfl)
theorem dX2_asked_54 : decode cX2_asked 54 = .ok (.iaload, 1) := dk_46 (dk_at dksX2_asked_2 8 rfl rfl)
theorem dX2_asked_55 : decode cX2_asked 55 = .ok (.goto 4, 3) := dk_167 0 4 (dk_at dksX2_asked_2 9 rfl rfl)
theorem dX2_asked_58 : decode cX2_asked 58 = .ok (.iconst 0, 1) := dk_3 (dk_at dksX2_asked_2 12 rfl rfl)
theorem dX2_asked_59 : decode cX2_asked 59 = .ok (.iadd, 1) := dk_96 (dk_at dksX2_asked_2 13 rfl rfl)
theorem dX2_asked_60 : decode cX2_asked 60 = .ok (.istore_n 2, 1) := dk_61 (dk_at dksX2_asked_2 14 rfl rfl)
theorem dX2_asked_61 : decode cX2_asked 61 = .ok (.iload_n 1, 1) := dk_27 (dk_at dksX2_asked_2 15 rfl rfl)
theorem dX2_asked_62 : decode cX2_asked 62 = .ok (.iconst 4, 1) := dk_7 (dk_at dksX2_asked_2 16 rfl rfl)
theorem dX2_asked_63 : decode cX2_asked 63 = .ok (.if_icmp .ne 27, 3) := dk_160 0 27 (dk_at dksX2_asked_2 17 rfl rfl)
theorem dX2_asked_66 : decode cX2_asked 66 = .ok (.iload 4, 2) := dk_21 4 (dk_at dksX2_asked_2 20 rfl rfl)
theorem dX2_asked_68 : decode cX2_asked 68 = .ok (.ifCond .eq 22, 3) := dk_153 0 22 (dk_at dksX2_asked_3 0 rfl rfl)
theorem dX2_asked_71 : decode cX2_asked 71 = .ok (.aload_n 0, 1) := dk_42 (dk_at dksX2_asked_3 3 rfl rfl)
theorem dX2_asked_72 : decode cX2_asked 72 = .ok (.getfield 110, 3) := dk_180 0 110 (dk_at dksX2_asked_3 4 rfl rfl)
theorem dX2_asked_75 : decode cX2_asked 75 = .ok (.iload_n 3, 1) := dk_29 (dk_at dksX2_asked_3 7 rfl rfl)
theorem dX2_asked_76 : decode cX2_asked 76 = .ok (.iaload, 1) := dk_46 (dk_at dksX2_asked_3 8 rfl rfl)
theorem dX2_asked_77 : decode cX2_asked 77 = .ok (.iload_n 2, 1) := dk_28 (dk_at dksX2_asked_3 9 rfl rfl)
theorem dX2_asked_78 : decode cX2_asked 78 = .ok (.if_icmp .le 12, 3) := dk_164 0 12 (dk_at dksX2_asked_3 10 rfl rfl)
theorem dX2_asked_81 : decode cX2_asked 81 = .ok (.aload_n 0, 1) := dk_42 (dk_at dksX2_asked_3 13 rfl rfl)
theorem dX2_asked_82 : decode cX2_asked 82 = .ok (.getfield 110, 3) := dk_180 0 110 (dk_at dksX2_asked_3 14 rfl rfl)
theorem dX2_asked_85 : decode cX2_asked 85 = .ok (.iload_n 3, 1) := dk_29 (dk_at dksX2_asked_3 17 rfl rfl)
theorem dX2_asked_86 : decode cX2_asked 86 = .ok (.iaload, 1) := dk_46 (dk_at dksX2_asked_3 18 rfl rfl)
theorem dX2_asked_87 : decode cX2_asked 87 = .ok (.goto 4, 3) := dk_167 0 4 (dk_at dksX2_asked_3 19 rfl rfl)
theorem dX2_asked_90 : decode cX2_asked 90 = .ok (.iload_n 2, 1) := dk_28 (dk_at dksX2_asked_3 22 rfl rfl)
theorem dX2_asked_91 : decode cX2_asked 91 = .ok (.istore_n 2, 1) := dk_61 (dk_at dksX2_asked_3 23 rfl rfl)
theorem dX2_asked_92 : decode cX2_asked 92 = .ok (.iinc 3 1, 3) := dk_132 3 1 (dk_at dksX2_asked_4 0 rfl rfl)
theorem dX2_asked_95 : decode cX2_asked 95 = .ok (.goto (-91), 3) := dk_167 255 165 (dk_at dksX2_asked_4 3 rfl rfl)
theorem dX2_asked_98 : decode cX2_asked 98 = .ok (.iconst 0, 1) := dk_3 (dk_at dksX2_asked_4 6 rfl rfl)
theorem dX2_asked_99 : decode cX2_asked 99 = .ok (.istore_n 3, 1) := dk_62 (dk_at dksX2_asked_4 7 rfl rfl)
theorem dX2_asked_100 : decode cX2_asked 100 = .ok (.iload_n 3, 1) := dk_29 (dk_at dksX2_asked_4 8 rfl rfl)
theorem dX2_asked_101 : decode cX2_asked 101 = .ok (.aload_n 0, 1) := dk_42 (dk_at dksX2_asked_4 9 rfl rfl)
theorem dX2_asked_102 : decode cX2_asked 102 = .ok (.getfield 372, 3) := dk_180 1 116 (dk_at dksX2_asked_4 10 rfl rfl)
theorem dX2_asked_105 : decode cX2_asked 105 = .ok (.if_icmp .ge 53, 3) := dk_162 0 53 (dk_at dksX2_asked_4 13 rfl rfl)
theorem dX2_asked_108 : decode cX2_asked 108 = .ok (.iload_n 2, 1) := dk_28 (dk_at dksX2_asked_4 16 rfl rfl)
theorem dX2_asked_109 : decode cX2_asked 109 = .ok (.iload_n 1, 1) := dk_27 (dk_at dksX2_asked_4 17 rfl rfl)
theorem dX2_asked_110 : decode cX2_asked 110 = .ok (.iconst 2, 1) := dk_5 (dk_at dksX2_asked_4 18 rfl rfl)
theorem dX2_asked_111 : decode cX2_asked 111 = .ok (.if_icmp .ne 12, 3) := dk_160 0 12 (dk_at dksX2_asked_4 19 rfl rfl)
theorem dX2_asked_114 : decode cX2_asked 114 = .ok (.aload_n 0, 1) := dk_42 (dk_at dksX2_asked_4 22 rfl rfl)
theorem dX2_asked_115 : decode cX2_asked 115 = .ok (.getfield 65, 3) := dk_180 0 65 (dk_at dksX2_asked_5 0 rfl rfl)
theorem dX2_asked_118 : decode cX2_asked 118 = .ok (.iload_n 3, 1) := dk_29 (dk_at dksX2_asked_5 3 rfl rfl)
theorem dX2_asked_119 : decode cX2_asked 119 = .ok (.iaload, 1) := dk_46 (dk_at dksX2_asked_5 4 rfl rfl)
theorem dX2_asked_120 : decode cX2_asked 120 = .ok (.goto 4, 3) := dk_167 0 4 (dk_at dksX2_asked_5 5 rfl rfl)
theorem dX2_asked_123 : decode cX2_asked 123 = .ok (.iconst 0, 1) := dk_3 (dk_at dksX2_asked_5 8 rfl rfl)
theorem dX2_asked_124 : decode cX2_asked 124 = .ok (.iadd, 1) := dk_96 (dk_at dksX2_asked_5 9 rfl rfl)
theorem dX2_asked_125 : decode cX2_asked 125 = .ok (.istore_n 2, 1) := dk_61 (dk_at dksX2_asked_5 10 rfl rfl)
theorem dX2_asked_126 : decode cX2_asked 126 = .ok (.iload_n 1, 1) := dk_27 (dk_at dksX2_asked_5 11 rfl rfl)
theorem dX2_asked_127 : decode cX2_asked 127 = .ok (.iconst 5, 1) := dk_8 (dk_at dksX2_asked_5 12 rfl rfl)
theorem dX2_asked_128 : decode cX2_asked 128 = .ok (.if_icmp .ne 22, 3) := dk_160 0 22 (dk_at dksX2_asked_5 13 rfl rfl)
theorem dX2_asked_131 : decode cX2_asked 131 = .ok (.aload_n 0, 1) := dk_42 (dk_at dksX2_asked_5 16 rfl rfl)
theorem dX2_asked_132 : decode cX2_asked 132 = .ok (.getfield 47, 3) := dk_180 0 47 (dk_at dksX2_asked_5 17 rfl rfl)
theorem dX2_asked_135 : decode cX2_asked 135 = .ok (.iload_n 3, 1) := dk_29 (dk_at dksX2_asked_5 20 rfl rfl)
theorem dX2_asked_136 : decode cX2_asked 136 = .ok (.iaload, 1) := dk_46 (dk_at dksX2_asked_5 21 rfl rfl)
theorem dX2_asked_137 : decode cX2_asked 137 = .ok (.iload_n 2, 1) := dk_28 (dk_at dksX2_asked_5 22 rfl rfl)
theorem dX2_asked_138 : decode cX2_asked 138 = .ok (.if_icmp .le 12, 3) := dk_164 0 12 (dk_at dksX2_asked_6 0 rfl rfl)
theorem dX2_asked_141 : decode cX2_asked 141 = .ok (.aload_n 0, 1) := dk_42 (dk_at dksX2_asked_6 3 rfl rfl)
theorem dX2_asked_142 : decode cX2_asked 142 = .ok (.getfield 47, 3) := dk_180 0 47 (dk_at dksX2_asked_6 4 rfl rfl)
theorem dX2_asked_145 : decode cX2_asked 145 = .ok (.iload_n 3, 1) := dk_29 (dk_at dksX2_asked_6 7 rfl rfl)
theorem dX2_asked_146 : decode cX2_asked 146 = .ok (.iaload, 1) := dk_46 (dk_at dksX2_asked_6 8 rfl rfl)
theorem dX2_asked_147 : decode cX2_asked 147 = .ok (.goto 4, 3) := dk_167 0 4 (dk_at dksX2_asked_6 9 rfl rfl)
theorem dX2_asked_150 : decode cX2_asked 150 = .ok (.iload_n 2, 1) := dk_28 (dk_at dksX2_asked_6 12 rfl rfl)
theorem dX2_asked_151 : decode cX2_asked 151 = .ok (.istore_n 2, 1) := dk_61 (dk_at dksX2_asked_6 13 rfl rfl)
theorem dX2_asked_152 : decode cX2_asked 152 = .ok (.iinc 3 1, 3) := dk_132 3 1 (dk_at dksX2_asked_6 14 rfl rfl)
theorem dX2_asked_155 : decode cX2_asked 155 = .ok (.goto (-55), 3) := dk_167 255 201 (dk_at dksX2_asked_6 17 rfl rfl)
theorem dX2_asked_158 : decode cX2_asked 158 = .ok (.iload_n 1, 1) := dk_27 (dk_at dksX2_asked_6 20 rfl rfl)
theorem dX2_asked_159 : decode cX2_asked 159 = .ok (.ifCond .ne 10, 3) := dk_154 0 10 (dk_at dksX2_asked_6 21 rfl rfl)
theorem dX2_asked_162 : decode cX2_asked 162 = .ok (.aload_n 0, 1) := dk_42 (dk_at dksX2_asked_7 0 rfl rfl)
theorem dX2_asked_163 : decode cX2_asked 163 = .ok (.getfield 372, 3) := dk_180 1 116 (dk_at dksX2_asked_7 1 rfl rfl)
theorem dX2_asked_166 : decode cX2_asked 166 = .ok (.goto 42, 3) := dk_167 0 42 (dk_at dksX2_asked_7 4 rfl rfl)
theorem dX2_asked_169 : decode cX2_asked 169 = .ok (.iload_n 1, 1) := dk_27 (dk_at dksX2_asked_7 7 rfl rfl)
theorem dX2_asked_170 : decode cX2_asked 170 = .ok (.iconst 1, 1) := dk_4 (dk_at dksX2_asked_7 8 rfl rfl)
theorem dX2_asked_171 : decode cX2_asked 171 = .ok (.if_icmp .ne 10, 3) := dk_160 0 10 (dk_at dksX2_asked_7 9 rfl rfl)
theorem dX2_asked_174 : decode cX2_asked 174 = .ok (.aload_n 0, 1) := dk_42 (dk_at dksX2_asked_7 12 rfl rfl)
theorem dX2_asked_175 : decode cX2_asked 175 = .ok (.getfield 349, 3) := dk_180 1 93 (dk_at dksX2_asked_7 13 rfl rfl)
theorem dX2_asked_178 : decode cX2_asked 178 = .ok (.goto 30, 3) := dk_167 0 30 (dk_at dksX2_asked_7 16 rfl rfl)
theorem dX2_asked_181 : decode cX2_asked 181 = .ok (.iload_n 1, 1) := dk_27 (dk_at dksX2_asked_7 19 rfl rfl)
theorem dX2_asked_182 : decode cX2_asked 182 = .ok (.bipush 6, 2) := dk_16 6 (dk_at dksX2_asked_7 20 rfl rfl)
theorem dX2_asked_184 : decode cX2_asked 184 = .ok (.if_icmp .ne 10, 3) := dk_160 0 10 (dk_at dksX2_asked_8 0 rfl rfl)
theorem dX2_asked_187 : decode cX2_asked 187 = .ok (.aload_n 0, 1) := dk_42 (dk_at dksX2_asked_8 3 rfl rfl)
theorem dX2_asked_188 : decode cX2_asked 188 = .ok (.getfield 399, 3) := dk_180 1 143 (dk_at dksX2_asked_8 4 rfl rfl)
theorem dX2_asked_191 : decode cX2_asked 191 = .ok (.goto 17, 3) := dk_167 0 17 (dk_at dksX2_asked_8 7 rfl rfl)
theorem dX2_asked_194 : decode cX2_asked 194 = .ok (.iload_n 1, 1) := dk_27 (dk_at dksX2_asked_8 10 rfl rfl)
theorem dX2_asked_195 : decode cX2_asked 195 = .ok (.bipush 7, 2) := dk_16 7 (dk_at dksX2_asked_8 11 rfl rfl)
theorem dX2_asked_197 : decode cX2_asked 197 = .ok (.if_icmp .ne 10, 3) := dk_160 0 10 (dk_at dksX2_asked_8 13 rfl rfl)
theorem dX2_asked_200 : decode cX2_asked 200 = .ok (.aload_n 0, 1) := dk_42 (dk_at dksX2_asked_8 16 rfl rfl)
theorem dX2_asked_201 : decode cX2_asked 201 = .ok (.getfield 408, 3) := dk_180 1 152 (dk_at dksX2_asked_8 17 rfl rfl)
theorem dX2_asked_204 : decode cX2_asked 204 = .ok (.goto 4, 3) := dk_167 0 4 (dk_at dksX2_asked_8 20 rfl rfl)
theorem dX2_asked_207 : decode cX2_asked 207 = .ok (.iload_n 2, 1) := dk_28 (dk_at dksX2_asked_8 23 rfl rfl)
theorem dX2_asked_208 : decode cX2_asked 208 = .ok (.ireturn, 1) := dk_172 (dk_at dksX2_asked_9 0 rfl rfl)
abbrev cX2_knot : ByteArray := prog_18_method_73_code
def yX2_knot : MethodName := ⟨RX2, "knot", "(II)I"⟩
def dkwX2_knot_5 : List UInt8 := [46, 156, 0, 8, 16, 254, 167, 0, 9, 42, 180, 0, 53, 27, 46, 172, 42, 180, 0, 62, 27, 46, 172]
abbrev dktX2_knot_5 : List UInt8 := dkwX2_knot_5 ++ []
def dkwX2_knot_4 : List UInt8 := [180, 1, 44, 46, 172, 42, 180, 0, 59, 27, 46, 172, 42, 180, 0, 65, 27, 46, 172, 42, 180, 0, 53, 27]
abbrev dktX2_knot_4 : List UInt8 := dkwX2_knot_4 ++ dktX2_knot_5
def dkwX2_knot_3 : List UInt8 := [42, 180, 0, 47, 27, 46, 172, 42, 180, 0, 50, 27, 46, 172, 42, 27, 182, 1, 96, 42, 180, 0, 125, 42]
abbrev dktX2_knot_3 : List UInt8 := dkwX2_knot_3 ++ dktX2_knot_4
def dkwX2_knot_2 : List UInt8 := [170, 0, 0, 0, 0, 102, 0, 0, 0, 0, 0, 0, 0, 5, 0, 0, 0, 38, 0, 0, 0, 45, 0, 0, 0, 52, 0, 0, 0, 67, 0, 0, 0, 74, 0, 0, 0, 81]
abbrev dktX2_knot_2 : List UInt8 := dkwX2_knot_2 ++ dktX2_knot_3
def dkwX2_knot_1 : List UInt8 := [172, 28]
abbrev dktX2_knot_1 : List UInt8 := dkwX2_knot_1 ++ dktX2_knot_2
def dkwX2_knot_0 : List UInt8 := [28, 133, 9, 20, 1, 166, 184, 0, 193, 154, 0, 5, 2, 172, 42, 27, 182, 1, 168, 154, 0, 6, 16, 254]
abbrev dktX2_knot_0 : List UInt8 := dkwX2_knot_0 ++ dktX2_knot_1
theorem dksX2_knot_0 : cX2_knot.data.toList.drop 0 = dktX2_knot_0 := by decide +kernel
theorem dksX2_knot_1 : cX2_knot.data.toList.drop 24 = dktX2_knot_1 := dk_seg dksX2_knot_0 24 rfl rfl
theorem dksX2_knot_2 : cX2_knot.data.toList.drop 26 = dktX2_knot_2 := dk_seg dksX2_knot_1 2 rfl rfl
theorem dksX2_knot_3 : cX2_knot.data.toList.drop 64 = dktX2_knot_3 := dk_seg dksX2_knot_2 38 rfl rfl
theorem dksX2_knot_4 : cX2_knot.data.toList.drop 88 = dktX2_knot_4 := dk_seg dksX2_knot_3 24 rfl rfl
theorem dksX2_knot_5 : cX2_knot.data.toList.drop 112 = dktX2_knot_5 := dk_seg dksX2_knot_4 24 rfl rfl
theorem dX2_knot_0 : decode cX2_knot 0 = .ok (.iload_n 2, 1) := dk_28 (dk_at dksX2_knot_0 0 rfl rfl)
theorem dX2_knot_1 : decode cX2_knot 1 = .ok (.i2l, 1) := dk_133 (dk_at dksX2_knot_0 1 rfl rfl)
theorem dX2_knot_2 : decode cX2_knot 2 = .ok (.lconst 0, 1) := dk_9 (dk_at dksX2_knot_0 2 rfl rfl)
theorem dX2_knot_3 : decode cX2_knot 3 = .ok (.ldc2_w 422, 3) := dk_20 1 166 (dk_at dksX2_knot_0 3 rfl rfl)
theorem dX2_knot_6 : decode cX2_knot 6 = .ok (.invokestatic 193, 3) := dk_184 0 193 (dk_at dksX2_knot_0 6 rfl rfl)
theorem dX2_knot_9 : decode cX2_knot 9 = .ok (.ifCond .ne 5, 3) := dk_154 0 5 (dk_at dksX2_knot_0 9 rfl rfl)
theorem dX2_knot_12 : decode cX2_knot 12 = .ok (.iconst (-1), 1) := dk_2 (dk_at dksX2_knot_0 12 rfl rfl)
theorem dX2_knot_13 : decode cX2_knot 13 = .ok (.ireturn, 1) := dk_172 (dk_at dksX2_knot_0 13 rfl rfl)
theorem dX2_knot_14 : decode cX2_knot 14 = .ok (.aload_n 0, 1) := dk_42 (dk_at dksX2_knot_0 14 rfl rfl)
theorem dX2_knot_15 : decode cX2_knot 15 = .ok (.iload_n 1, 1) := dk_27 (dk_at dksX2_knot_0 15 rfl rfl)
theorem dX2_knot_16 : decode cX2_knot 16 = .ok (.invokevirtual 424, 3) := dk_182 1 168 (dk_at dksX2_knot_0 16 rfl rfl)
theorem dX2_knot_19 : decode cX2_knot 19 = .ok (.ifCond .ne 6, 3) := dk_154 0 6 (dk_at dksX2_knot_0 19 rfl rfl)
theorem dX2_knot_22 : decode cX2_knot 22 = .ok (.bipush (-2), 2) := dk_16 254 (dk_at dksX2_knot_0 22 rfl rfl)
theorem dX2_knot_24 : decode cX2_knot 24 = .ok (.ireturn, 1) := dk_172 (dk_at dksX2_knot_1 0 rfl rfl)
theorem dX2_knot_25 : decode cX2_knot 25 = .ok (.iload_n 2, 1) := dk_28 (dk_at dksX2_knot_1 1 rfl rfl)
theorem dX2_knot_26 : decode cX2_knot 26 = .ok (.tableswitch 102 0 5 #[38, 45, 52, 67, 74, 81], 38) := by decide +kernel
theorem dX2_knot_64 : decode cX2_knot 64 = .ok (.aload_n 0, 1) := dk_42 (dk_at dksX2_knot_3 0 rfl rfl)
theorem dX2_knot_65 : decode cX2_knot 65 = .ok (.getfield 47, 3) := dk_180 0 47 (dk_at dksX2_knot_3 1 rfl rfl)
theorem dX2_knot_68 : decode cX2_knot 68 = .ok (.iload_n 1, 1) := dk_27 (dk_at dksX2_knot_3 4 rfl rfl)
theorem dX2_knot_69 : decode cX2_knot 69 = .ok (.iaload, 1) := dk_46 (dk_at dksX2_knot_3 5 rfl rfl)
theorem dX2_knot_70 : decode cX2_knot 70 = .ok (.ireturn, 1) := dk_172 (dk_at dksX2_knot_3 6 rfl rfl)
theorem dX2_knot_71 : decode cX2_knot 71 = .ok (.aload_n 0, 1) := dk_42 (dk_at dksX2_knot_3 7 rfl rfl)
theorem dX2_knot_72 : decode cX2_knot 72 = .ok (.getfield 50, 3) := dk_180 0 50 (dk_at dksX2_knot_3 8 rfl rfl)
theorem dX2_knot_75 : decode cX2_knot 75 = .ok (.iload_n 1, 1) := dk_27 (dk_at dksX2_knot_3 11 rfl rfl)
theorem dX2_knot_76 : decode cX2_knot 76 = .ok (.iaload, 1) := dk_46 (dk_at dksX2_knot_3 12 rfl rfl)
theorem dX2_knot_77 : decode cX2_knot 77 = .ok (.ireturn, 1) := dk_172 (dk_at dksX2_knot_3 13 rfl rfl)
theorem dX2_knot_78 : decode cX2_knot 78 = .ok (.aload_n 0, 1) := dk_42 (dk_at dksX2_knot_3 14 rfl rfl)
theorem dX2_knot_79 : decode cX2_knot 79 = .ok (.iload_n 1, 1) := dk_27 (dk_at dksX2_knot_3 15 rfl rfl)
theorem dX2_knot_80 : decode cX2_knot 80 = .ok (.invokevirtual 352, 3) := dk_182 1 96 (dk_at dksX2_knot_3 16 rfl rfl)
theorem dX2_knot_83 : decode cX2_knot 83 = .ok (.aload_n 0, 1) := dk_42 (dk_at dksX2_knot_3 19 rfl rfl)
theorem dX2_knot_84 : decode cX2_knot 84 = .ok (.getfield 125, 3) := dk_180 0 125 (dk_at dksX2_knot_3 20 rfl rfl)
theorem dX2_knot_87 : decode cX2_knot 87 = .ok (.aload_n 0, 1) := dk_42 (dk_at dksX2_knot_3 23 rfl rfl)
theorem dX2_knot_88 : decode cX2_knot 88 = .ok (.getfield 300, 3) := dk_180 1 44 (dk_at dksX2_knot_4 0 rfl rfl)
theorem dX2_knot_91 : decode cX2_knot 91 = .ok (.iaload, 1) := dk_46 (dk_at dksX2_knot_4 3 rfl rfl)
theorem dX2_knot_92 : decode cX2_knot 92 = .ok (.ireturn, 1) := dk_172 (dk_at dksX2_knot_4 4 rfl rfl)
theorem dX2_knot_93 : decode cX2_knot 93 = .ok (.aload_n 0, 1) := dk_42 (dk_at dksX2_knot_4 5 rfl rfl)
theorem dX2_knot_94 : decode cX2_knot 94 = .ok (.getfield 59, 3) := dk_180 0 59 (dk_at dksX2_knot_4 6 rfl rfl)
theorem dX2_knot_97 : decode cX2_knot 97 = .ok (.iload_n 1, 1) := dk_27 (dk_at dksX2_knot_4 9 rfl rfl)
theorem dX2_knot_98 : decode cX2_knot 98 = .ok (.iaload, 1) := dk_46 (dk_at dksX2_knot_4 10 rfl rfl)
theorem dX2_knot_99 : decode cX2_knot 99 = .ok (.ireturn, 1) := dk_172 (dk_at dksX2_knot_4 11 rfl rfl)
theorem dX2_knot_100 : decode cX2_knot 100 = .ok (.aload_n 0, 1) := dk_42 (dk_at dksX2_knot_4 12 rfl rfl)
theorem dX2_knot_101 : decode cX2_knot 101 = .ok (.getfield 65, 3) := dk_180 0 65 (dk_at dksX2_knot_4 13 rfl rfl)
theorem dX2_knot_104 : decode cX2_knot 104 = .ok (.iload_n 1, 1) := dk_27 (dk_at dksX2_knot_4 16 rfl rfl)
theorem dX2_knot_105 : decode cX2_knot 105 = .ok (.iaload, 1) := dk_46 (dk_at dksX2_knot_4 17 rfl rfl)
theorem dX2_knot_106 : decode cX2_knot 106 = .ok (.ireturn, 1) := dk_172 (dk_at dksX2_knot_4 18 rfl rfl)
theorem dX2_knot_107 : decode cX2_knot 107 = .ok (.aload_n 0, 1) := dk_42 (dk_at dksX2_knot_4 19 rfl rfl)
theorem dX2_knot_108 : decode cX2_knot 108 = .ok (.getfield 53, 3) := dk_180 0 53 (dk_at dksX2_knot_4 20 rfl rfl)
theorem dX2_knot_111 : decode cX2_knot 111 = .ok (.iload_n 1, 1) := dk_27 (dk_at dksX2_knot_4 23 rfl rfl)
theorem dX2_knot_112 : decode cX2_knot 112 = .ok (.iaload, 1) := dk_46 (dk_at dksX2_knot_5 0 rfl rfl)
theorem dX2_knot_113 : decode cX2_knot 113 = .ok (.ifCond .ge 8, 3) := dk_156 0 8 (dk_at dksX2_knot_5 1 rfl rfl)
theorem dX2_knot_116 : decode cX2_knot 116 = .ok (.bipush (-2), 2) := dk_16 254 (dk_at dksX2_knot_5 4 rfl rfl)
theorem dX2_knot_118 : decode cX2_knot 118 = .ok (.goto 9, 3) := dk_167 0 9 (dk_at dksX2_knot_5 6 rfl rfl)
theorem dX2_knot_121 : decode cX2_knot 121 = .ok (.aload_n 0, 1) := dk_42 (dk_at dksX2_knot_5 9 rfl rfl)
theorem dX2_knot_122 : decode cX2_knot 122 = .ok (.getfield 53, 3) := dk_180 0 53 (dk_at dksX2_knot_5 10 rfl rfl)
theorem dX2_knot_125 : decode cX2_knot 125 = .ok (.iload_n 1, 1) := dk_27 (dk_at dksX2_knot_5 13 rfl rfl)
theorem dX2_knot_126 : decode cX2_knot 126 = .ok (.iaload, 1) := dk_46 (dk_at dksX2_knot_5 14 rfl rfl)
theorem dX2_knot_127 : decode cX2_knot 127 = .ok (.ireturn, 1) := dk_172 (dk_at dksX2_knot_5 15 rfl rfl)
theorem dX2_knot_128 : decode cX2_knot 128 = .ok (.aload_n 0, 1) := dk_42 (dk_at dksX2_knot_5 16 rfl rfl)
theorem dX2_knot_129 : decode cX2_knot 129 = .ok (.getfield 62, 3) := dk_180 0 62 (dk_at dksX2_knot_5 17 rfl rfl)
theorem dX2_knot_132 : decode cX2_knot 132 = .ok (.iload_n 1, 1) := dk_27 (dk_at dksX2_knot_5 20 rfl rfl)
theorem dX2_knot_133 : decode cX2_knot 133 = .ok (.iaload, 1) := dk_46 (dk_at dksX2_knot_5 21 rfl rfl)
theorem dX2_knot_134 : decode cX2_knot 134 = .ok (.ireturn, 1) := dk_172 (dk_at dksX2_knot_5 22 rfl rfl)
abbrev cX2_isKnot : ByteArray := prog_18_method_72_code
def yX2_isKnot : MethodName := ⟨RX2, "isKnot", "(I)Z"⟩
def dkwX2_isKnot_1 : List UInt8 := [167, 0, 4, 3, 172]
abbrev dktX2_isKnot_1 : List UInt8 := dkwX2_isKnot_1 ++ []
def dkwX2_isKnot_0 : List UInt8 := [42, 180, 0, 179, 153, 0, 23, 27, 133, 9, 42, 180, 1, 116, 4, 100, 133, 184, 0, 193, 153, 0, 7, 4]
abbrev dktX2_isKnot_0 : List UInt8 := dkwX2_isKnot_0 ++ dktX2_isKnot_1
theorem dksX2_isKnot_0 : cX2_isKnot.data.toList.drop 0 = dktX2_isKnot_0 := by decide +kernel
theorem dksX2_isKnot_1 : cX2_isKnot.data.toList.drop 24 = dktX2_isKnot_1 := dk_seg dksX2_isKnot_0 24 rfl rfl
theorem dX2_isKnot_0 : decode cX2_isKnot 0 = .ok (.aload_n 0, 1) := dk_42 (dk_at dksX2_isKnot_0 0 rfl rfl)
theorem dX2_isKnot_1 : decode cX2_isKnot 1 = .ok (.getfield 179, 3) := dk_180 0 179 (dk_at dksX2_isKnot_0 1 rfl rfl)
theorem dX2_isKnot_4 : decode cX2_isKnot 4 = .ok (.ifCond .eq 23, 3) := dk_153 0 23 (dk_at dksX2_isKnot_0 4 rfl rfl)
theorem dX2_isKnot_7 : decode cX2_isKnot 7 = .ok (.iload_n 1, 1) := dk_27 (dk_at dksX2_isKnot_0 7 rfl rfl)
theorem dX2_isKnot_8 : decode cX2_isKnot 8 = .ok (.i2l, 1) := dk_133 (dk_at dksX2_isKnot_0 8 rfl rfl)
theorem dX2_isKnot_9 : decode cX2_isKnot 9 = .ok (.lconst 0, 1) := dk_9 (dk_at dksX2_isKnot_0 9 rfl rfl)
theorem dX2_isKnot_10 : decode cX2_isKnot 10 = .ok (.aload_n 0, 1) := dk_42 (dk_at dksX2_isKnot_0 10 rfl rfl)
theorem dX2_isKnot_11 : decode cX2_isKnot 11 = .ok (.getfield 372, 3) := dk_180 1 116 (dk_at dksX2_isKnot_0 11 rfl rfl)
theorem dX2_isKnot_14 : decode cX2_isKnot 14 = .ok (.iconst 1, 1) := dk_4 (dk_at dksX2_isKnot_0 14 rfl rfl)
theorem dX2_isKnot_15 : decode cX2_isKnot 15 = .ok (.isub, 1) := dk_100 (dk_at dksX2_isKnot_0 15 rfl rfl)
theorem dX2_isKnot_16 : decode cX2_isKnot 16 = .ok (.i2l, 1) := dk_133 (dk_at dksX2_isKnot_0 16 rfl rfl)
theorem dX2_isKnot_17 : decode cX2_isKnot 17 = .ok (.invokestatic 193, 3) := dk_184 0 193 (dk_at dksX2_isKnot_0 17 rfl rfl)
theorem dX2_isKnot_20 : decode cX2_isKnot 20 = .ok (.ifCond .eq 7, 3) := dk_153 0 7 (dk_at dksX2_isKnot_0 20 rfl rfl)
theorem dX2_isKnot_23 : decode cX2_isKnot 23 = .ok (.iconst 1, 1) := dk_4 (dk_at dksX2_isKnot_0 23 rfl rfl)
theorem dX2_isKnot_24 : decode cX2_isKnot 24 = .ok (.goto 4, 3) := dk_167 0 4 (dk_at dksX2_isKnot_1 0 rfl rfl)
theorem dX2_isKnot_27 : decode cX2_isKnot 27 = .ok (.iconst 0, 1) := dk_3 (dk_at dksX2_isKnot_1 3 rfl rfl)
theorem dX2_isKnot_28 : decode cX2_isKnot 28 = .ok (.ireturn, 1) := dk_172 (dk_at dksX2_isKnot_1 4 rfl rfl)
abbrev cX2_key : ByteArray := prog_18_method_74_code
def yX2_key : MethodName := ⟨RX2, "key", "(II)J"⟩
def dkwX2_key_1 : List UInt8 := [96, 47, 167, 0, 6, 20, 0, 246, 173]
abbrev dktX2_key_1 : List UInt8 := dkwX2_key_1 ++ []
def dkwX2_key_0 : List UInt8 := [42, 27, 182, 1, 168, 153, 0, 24, 28, 184, 0, 243, 153, 0, 17, 42, 180, 0, 23, 16, 9, 27, 104, 28]
abbrev dktX2_key_0 : List UInt8 := dkwX2_key_0 ++ dktX2_key_1
theorem dksX2_key_0 : cX2_key.data.toList.drop 0 = dktX2_key_0 := by decide +kernel
theorem dksX2_key_1 : cX2_key.data.toList.drop 24 = dktX2_key_1 := dk_seg dksX2_key_0 24 rfl rfl
theorem dX2_key_0 : decode cX2_key 0 = .ok (.aload_n 0, 1) := dk_42 (dk_at dksX2_key_0 0 rfl rfl)
theorem dX2_key_1 : decode cX2_key 1 = .ok (.iload_n 1, 1) := dk_27 (dk_at dksX2_key_0 1 rfl rfl)
theorem dX2_key_2 : decode cX2_key 2 = .ok (.invokevirtual 424, 3) := dk_182 1 168 (dk_at dksX2_key_0 2 rfl rfl)
theorem dX2_key_5 : decode cX2_key 5 = .ok (.ifCond .eq 24, 3) := dk_153 0 24 (dk_at dksX2_key_0 5 rfl rfl)
theorem dX2_key_8 : decode cX2_key 8 = .ok (.iload_n 2, 1) := dk_28 (dk_at dksX2_key_0 8 rfl rfl)
theorem dX2_key_9 : decode cX2_key 9 = .ok (.invokestatic 243, 3) := dk_184 0 243 (dk_at dksX2_key_0 9 rfl rfl)
theorem dX2_key_12 : decode cX2_key 12 = .ok (.ifCond .eq 17, 3) := dk_153 0 17 (dk_at dksX2_key_0 12 rfl rfl)
theorem dX2_key_15 : decode cX2_key 15 = .ok (.aload_n 0, 1) := dk_42 (dk_at dksX2_key_0 15 rfl rfl)
theorem dX2_key_16 : decode cX2_key 16 = .ok (.getfield 23, 3) := dk_180 0 23 (dk_at dksX2_key_0 16 rfl rfl)
theorem dX2_key_19 : decode cX2_key 19 = .ok (.bipush 9, 2) := dk_16 9 (dk_at dksX2_key_0 19 rfl rfl)
theorem dX2_key_21 : decode cX2_key 21 = .ok (.iload_n 1, 1) := dk_27 (dk_at dksX2_key_0 21 rfl rfl)
theorem dX2_key_22 : decode cX2_key 22 = .ok (.imul, 1) := dk_104 (dk_at dksX2_key_0 22 rfl rfl)
theorem dX2_key_23 : decode cX2_key 23 = .ok (.iload_n 2, 1) := dk_28 (dk_at dksX2_key_0 23 rfl rfl)
theorem dX2_key_24 : decode cX2_key 24 = .ok (.iadd, 1) := dk_96 (dk_at dksX2_key_1 0 rfl rfl)
theorem dX2_key_25 : decode cX2_key 25 = .ok (.laload, 1) := dk_47 (dk_at dksX2_key_1 1 rfl rfl)
theorem dX2_key_26 : decode cX2_key 26 = .ok (.goto 6, 3) := dk_167 0 6 (dk_at dksX2_key_1 2 rfl rfl)
theorem dX2_key_29 : decode cX2_key 29 = .ok (.ldc2_w 246, 3) := dk_20 0 246 (dk_at dksX2_key_1 5 rfl rfl)
theorem dX2_key_32 : decode cX2_key 32 = .ok (.lreturn, 1) := dk_173 (dk_at dksX2_key_1 8 rfl rfl)
abbrev cX2_point : ByteArray := prog_18_method_75_code
def yX2_point : MethodName := ⟨RX2, "point", "(II)I"⟩
def dkwX2_point_1 : List UInt8 := [156, 0, 8, 16, 254, 167, 0, 9, 42, 27, 28, 182, 1, 66, 172]
abbrev dktX2_point_1 : List UInt8 := dkwX2_point_1 ++ []
def dkwX2_point_0 : List UInt8 := [28, 184, 0, 243, 154, 0, 5, 2, 172, 42, 27, 182, 1, 168, 153, 0, 12, 42, 27, 28, 182, 1, 66]
abbrev dktX2_point_0 : List UInt8 := dkwX2_point_0 ++ dktX2_point_1
theorem dksX2_point_0 : cX2_point.data.toList.drop 0 = dktX2_point_0 := by decide +kernel
theorem dksX2_point_1 : cX2_point.data.toList.drop 23 = dktX2_point_1 := dk_seg dksX2_point_0 23 rfl rfl
theorem dX2_point_0 : decode cX2_point 0 = .ok (.iload_n 2, 1) := dk_28 (dk_at dksX2_point_0 0 rfl rfl)
theorem dX2_point_1 : decode cX2_point 1 = .ok (.invokestatic 243, 3) := dk_184 0 243 (dk_at dksX2_point_0 1 rfl rfl)
theorem dX2_point_4 : decode cX2_point 4 = .ok (.ifCond .ne 5, 3) := dk_154 0 5 (dk_at dksX2_point_0 4 rfl rfl)
theorem dX2_point_7 : decode cX2_point 7 = .ok (.iconst (-1), 1) := dk_2 (dk_at dksX2_point_0 7 rfl rfl)
theorem dX2_point_8 : decode cX2_point 8 = .ok (.ireturn, 1) := dk_172 (dk_at dksX2_point_0 8 rfl rfl)
theorem dX2_point_9 : decode cX2_point 9 = .ok (.aload_n 0, 1) := dk_42 (dk_at dksX2_point_0 9 rfl rfl)
theorem dX2_point_10 : decode cX2_point 10 = .ok (.iload_n 1, 1) := dk_27 (dk_at dksX2_point_0 10 rfl rfl)
theorem dX2_point_11 : decode cX2_point 11 = .ok (.invokevirtual 424, 3) := dk_182 1 168 (dk_at dksX2_point_0 11 rfl rfl)
theorem dX2_point_14 : decode cX2_point 14 = .ok (.ifCond .eq 12, 3) := dk_153 0 12 (dk_at dksX2_point_0 14 rfl rfl)
theorem dX2_point_17 : decode cX2_point 17 = .ok (.aload_n 0, 1) := dk_42 (dk_at dksX2_point_0 17 rfl rfl)
theorem dX2_point_18 : decode cX2_point 18 = .ok (.iload_n 1, 1) := dk_27 (dk_at dksX2_point_0 18 rfl rfl)
theorem dX2_point_19 : decode cX2_point 19 = .ok (.iload_n 2, 1) := dk_28 (dk_at dksX2_point_0 19 rfl rfl)
theorem dX2_point_20 : decode cX2_point 20 = .ok (.invokevirtual 322, 3) := dk_182 1 66 (dk_at dksX2_point_0 20 rfl rfl)
theorem dX2_point_23 : decode cX2_point 23 = .ok (.ifCond .ge 8, 3) := dk_156 0 8 (dk_at dksX2_point_1 0 rfl rfl)
theorem dX2_point_26 : decode cX2_point 26 = .ok (.bipush (-2), 2) := dk_16 254 (dk_at dksX2_point_1 3 rfl rfl)
theorem dX2_point_28 : decode cX2_point 28 = .ok (.goto 9, 3) := dk_167 0 9 (dk_at dksX2_point_1 5 rfl rfl)
theorem dX2_point_31 : decode cX2_point 31 = .ok (.aload_n 0, 1) := dk_42 (dk_at dksX2_point_1 8 rfl rfl)
theorem dX2_point_32 : decode cX2_point 32 = .ok (.iload_n 1, 1) := dk_27 (dk_at dksX2_point_1 9 rfl rfl)
theorem dX2_point_33 : decode cX2_point 33 = .ok (.iload_n 2, 1) := dk_28 (dk_at dksX2_point_1 10 rfl rfl)
theorem dX2_point_34 : decode cX2_point 34 = .ok (.invokevirtual 322, 3) := dk_182 1 66 (dk_at dksX2_point_1 11 rfl rfl)
theorem dX2_point_37 : decode cX2_point 37 = .ok (.ireturn, 1) := dk_172 (dk_at dksX2_point_1 14 rfl rfl)
abbrev cX2_side : ByteArray := prog_18_method_77_code
def yX2_side : MethodName := ⟨RX2, "side", "(III)I"⟩
def dkwX2_side_4 : List UInt8 := [42, 180, 0, 92, 21, 4, 46, 172, 42, 180, 0, 95, 21, 4, 46, 172, 42, 180, 0, 98, 21, 4, 46, 172]
abbrev dktX2_side_4 : List UInt8 := dkwX2_side_4 ++ []
def dkwX2_side_3 : List UInt8 := [42, 180, 0, 83, 21, 4, 46, 172, 42, 180, 0, 86, 21, 4, 46, 172, 42, 180, 0, 89, 21, 4, 46, 172]
abbrev dktX2_side_3 : List UInt8 := dkwX2_side_3 ++ dktX2_side_4
def dkwX2_side_2 : List UInt8 := [170, 0, 0, 0, 0, 0, 75, 0, 0, 0, 0, 0, 0, 0, 4, 0, 0, 0, 35, 0, 0, 0, 43, 0, 0, 0, 51, 0, 0, 0, 59, 0, 0, 0, 67]
abbrev dktX2_side_2 : List UInt8 := dkwX2_side_2 ++ dktX2_side_3
def dkwX2_side_1 : List UInt8 := [16, 254, 172, 42, 180, 0, 56, 27, 46, 28, 96, 54, 4, 29]
abbrev dktX2_side_1 : List UInt8 := dkwX2_side_1 ++ dktX2_side_2
def dkwX2_side_0 : List UInt8 := [29, 133, 9, 20, 1, 171, 184, 0, 193, 154, 0, 5, 2, 172, 42, 27, 28, 182, 1, 173, 154, 0, 6]
abbrev dktX2_side_0 : List UInt8 := dkwX2_side_0 ++ dktX2_side_1
theorem dksX2_side_0 : cX2_side.data.toList.drop 0 = dktX2_side_0 := by decide +kernel
theorem dksX2_side_1 : cX2_side.data.toList.drop 23 = dktX2_side_1 := dk_seg dksX2_side_0 23 rfl rfl
theorem dksX2_side_2 : cX2_side.data.toList.drop 37 = dktX2_side_2 := dk_seg dksX2_side_1 14 rfl rfl
theorem dksX2_side_3 : cX2_side.data.toList.drop 72 = dktX2_side_3 := dk_seg dksX2_side_2 35 rfl rfl
theorem dksX2_side_4 : cX2_side.data.toList.drop 96 = dktX2_side_4 := dk_seg dksX2_side_3 24 rfl rfl
theorem dX2_side_0 : decode cX2_side 0 = .ok (.iload_n 3, 1) := dk_29 (dk_at dksX2_side_0 0 rfl rfl)
theorem dX2_side_1 : decode cX2_side 1 = .ok (.i2l, 1) := dk_133 (dk_at dksX2_side_0 1 rfl rfl)
theorem dX2_side_2 : decode cX2_side 2 = .ok (.lconst 0, 1) := dk_9 (dk_at dksX2_side_0 2 rfl rfl)
theorem dX2_side_3 : decode cX2_side 3 = .ok (.ldc2_w 427, 3) := dk_20 1 171 (dk_at dksX2_side_0 3 rfl rfl)
theorem dX2_side_6 : decode cX2_side 6 = .ok (.invokestatic 193, 3) := dk_184 0 193 (dk_at dksX2_side_0 6 rfl rfl)
theorem dX2_side_9 : decode cX2_side 9 = .ok (.ifCond .ne 5, 3) := dk_154 0 5 (dk_at dksX2_side_0 9 rfl rfl)
theorem dX2_side_12 : decode cX2_side 12 = .ok (.iconst (-1), 1) := dk_2 (dk_at dksX2_side_0 12 rfl rfl)
theorem dX2_side_13 : decode cX2_side 13 = .ok (.ireturn, 1) := dk_172 (dk_at dksX2_side_0 13 rfl rfl)
theorem dX2_side_14 : decode cX2_side 14 = .ok (.aload_n 0, 1) := dk_42 (dk_at dksX2_side_0 14 rfl rfl)
theorem dX2_side_15 : decode cX2_side 15 = .ok (.iload_n 1, 1) := dk_27 (dk_at dksX2_side_0 15 rfl rfl)
theorem dX2_side_16 : decode cX2_side 16 = .ok (.iload_n 2, 1) := dk_28 (dk_at dksX2_side_0 16 rfl rfl)
theorem dX2_side_17 : decode cX2_side 17 = .ok (.invokevirtual 429, 3) := dk_182 1 173 (dk_at dksX2_side_0 17 rfl rfl)
theorem dX2_side_20 : decode cX2_side 20 = .ok (.ifCond .ne 6, 3) := dk_154 0 6 (dk_at dksX2_side_0 20 rfl rfl)
theorem dX2_side_23 : decode cX2_side 23 = .ok (.bipush (-2), 2) := dk_16 254 (dk_at dksX2_side_1 0 rfl rfl)
theorem dX2_side_25 : decode cX2_side 25 = .ok (.ireturn, 1) := dk_172 (dk_at dksX2_side_1 2 rfl rfl)
theorem dX2_side_26 : decode cX2_side 26 = .ok (.aload_n 0, 1) := dk_42 (dk_at dksX2_side_1 3 rfl rfl)
theorem dX2_side_27 : decode cX2_side 27 = .ok (.getfield 56, 3) := dk_180 0 56 (dk_at dksX2_side_1 4 rfl rfl)
theorem dX2_side_30 : decode cX2_side 30 = .ok (.iload_n 1, 1) := dk_27 (dk_at dksX2_side_1 7 rfl rfl)
theorem dX2_side_31 : decode cX2_side 31 = .ok (.iaload, 1) := dk_46 (dk_at dksX2_side_1 8 rfl rfl)
theorem dX2_side_32 : decode cX2_side 32 = .ok (.iload_n 2, 1) := dk_28 (dk_at dksX2_side_1 9 rfl rfl)
theorem dX2_side_33 : decode cX2_side 33 = .ok (.iadd, 1) := dk_96 (dk_at dksX2_side_1 10 rfl rfl)
theorem dX2_side_34 : decode cX2_side 34 = .ok (.istore 4, 2) := dk_54 4 (dk_at dksX2_side_1 11 rfl rfl)
theorem dX2_side_36 : decode cX2_side 36 = .ok (.iload_n 3, 1) := dk_29 (dk_at dksX2_side_1 13 rfl rfl)
theorem dX2_side_37 : decode cX2_side 37 = .ok (.tableswitch 75 0 4 #[35, 43, 51, 59, 67], 35) := by decide +kernel
theorem dX2_side_72 : decode cX2_side 72 = .ok (.aload_n 0, 1) := dk_42 (dk_at dksX2_side_3 0 rfl rfl)
theorem dX2_side_73 : decode cX2_side 73 = .ok (.getfield 83, 3) := dk_180 0 83 (dk_at dksX2_side_3 1 rfl rfl)
theorem dX2_side_76 : decode cX2_side 76 = .ok (.iload 4, 2) := dk_21 4 (dk_at dksX2_side_3 4 rfl rfl)
theorem dX2_side_78 : decode cX2_side 78 = .ok (.iaload, 1) := dk_46 (dk_at dksX2_side_3 6 rfl rfl)
theorem dX2_side_79 : decode cX2_side 79 = .ok (.ireturn, 1) := dk_172 (dk_at dksX2_side_3 7 rfl rfl)
theorem dX2_side_80 : decode cX2_side 80 = .ok (.aload_n 0, 1) := dk_42 (dk_at dksX2_side_3 8 rfl rfl)
theorem dX2_side_81 : decode cX2_side 81 = .ok (.getfield 86, 3) := dk_180 0 86 (dk_at dksX2_side_3 9 rfl rfl)
theorem dX2_side_84 : decode cX2_side 84 = .ok (.iload 4, 2) := dk_21 4 (dk_at dksX2_side_3 12 rfl rfl)
theorem dX2_side_86 : decode cX2_side 86 = .ok (.iaload, 1) := dk_46 (dk_at dksX2_side_3 14 rfl rfl)
theorem dX2_side_87 : decode cX2_side 87 = .ok (.ireturn, 1) := dk_172 (dk_at dksX2_side_3 15 rfl rfl)
theorem dX2_side_88 : decode cX2_side 88 = .ok (.aload_n 0, 1) := dk_42 (dk_at dksX2_side_3 16 rfl rfl)
theorem dX2_side_89 : decode cX2_side 89 = .ok (.getfield 89, 3) := dk_180 0 89 (dk_at dksX2_side_3 17 rfl rfl)
theorem dX2_side_92 : decode cX2_side 92 = .ok (.iload 4, 2) := dk_21 4 (dk_at dksX2_side_3 20 rfl rfl)
theorem dX2_side_94 : decode cX2_side 94 = .ok (.iaload, 1) := dk_46 (dk_at dksX2_side_3 22 rfl rfl)
theorem dX2_side_95 : decode cX2_side 95 = .ok (.ireturn, 1) := dk_172 (dk_at dksX2_side_3 23 rfl rfl)
theorem dX2_side_96 : decode cX2_side 96 = .ok (.aload_n 0, 1) := dk_42 (dk_at dksX2_side_4 0 rfl rfl)
theorem dX2_side_97 : decode cX2_side 97 = .ok (.getfield 92, 3) := dk_180 0 92 (dk_at dksX2_side_4 1 rfl rfl)
theorem dX2_side_100 : decode cX2_side 100 = .ok (.iload 4, 2) := dk_21 4 (dk_at dksX2_side_4 4 rfl rfl)
theorem dX2_side_102 : decode cX2_side 102 = .ok (.iaload, 1) := dk_46 (dk_at dksX2_side_4 6 rfl rfl)
theorem dX2_side_103 : decode cX2_side 103 = .ok (.ireturn, 1) := dk_172 (dk_at dksX2_side_4 7 rfl rfl)
theorem dX2_side_104 : decode cX2_side 104 = .ok (.aload_n 0, 1) := dk_42 (dk_at dksX2_side_4 8 rfl rfl)
theorem dX2_side_105 : decode cX2_side 105 = .ok (.getfield 95, 3) := dk_180 0 95 (dk_at dksX2_side_4 9 rfl rfl)
theorem dX2_side_108 : decode cX2_side 108 = .ok (.iload 4, 2) := dk_21 4 (dk_at dksX2_side_4 12 rfl rfl)
theorem dX2_side_110 : decode cX2_side 110 = .ok (.iaload, 1) := dk_46 (dk_at dksX2_side_4 14 rfl rfl)
theorem dX2_side_111 : decode cX2_side 111 = .ok (.ireturn, 1) := dk_172 (dk_at dksX2_side_4 15 rfl rfl)
theorem dX2_side_112 : decode cX2_side 112 = .ok (.aload_n 0, 1) := dk_42 (dk_at dksX2_side_4 16 rfl rfl)
theorem dX2_side_113 : decode cX2_side 113 = .ok (.getfield 98, 3) := dk_180 0 98 (dk_at dksX2_side_4 17 rfl rfl)
theorem dX2_side_116 : decode cX2_side 116 = .ok (.iload 4, 2) := dk_21 4 (dk_at dksX2_side_4 20 rfl rfl)
theorem dX2_side_118 : decode cX2_side 118 = .ok (.iaload, 1) := dk_46 (dk_at dksX2_side_4 22 rfl rfl)
theorem dX2_side_119 : decode cX2_side 119 = .ok (.ireturn, 1) := dk_172 (dk_at dksX2_side_4 23 rfl rfl)
abbrev cX2_isSide : ByteArray := prog_18_method_76_code
def yX2_isSide : MethodName := ⟨RX2, "isSide", "(II)Z"⟩
def dkwX2_isSide_1 : List UInt8 := [153, 0, 7, 4, 167, 0, 4, 3, 172]
abbrev dktX2_isSide_1 : List UInt8 := dkwX2_isSide_1 ++ []
def dkwX2_isSide_0 : List UInt8 := [42, 27, 182, 1, 168, 153, 0, 25, 28, 133, 9, 42, 180, 0, 59, 27, 46, 4, 100, 133, 184, 0, 193]
abbrev dktX2_isSide_0 : List UInt8 := dkwX2_isSide_0 ++ dktX2_isSide_1
theorem dksX2_isSide_0 : cX2_isSide.data.toList.drop 0 = dktX2_isSide_0 := by decide +kernel
theorem dksX2_isSide_1 : cX2_isSide.data.toList.drop 23 = dktX2_isSide_1 := dk_seg dksX2_isSide_0 23 rfl rfl
theorem dX2_isSide_0 : decode cX2_isSide 0 = .ok (.aload_n 0, 1) := dk_42 (dk_at dksX2_isSide_0 0 rfl rfl)
theorem dX2_isSide_1 : decode cX2_isSide 1 = .ok (.iload_n 1, 1) := dk_27 (dk_at dksX2_isSide_0 1 rfl rfl)
theorem dX2_isSide_2 : decode cX2_isSide 2 = .ok (.invokevirtual 424, 3) := dk_182 1 168 (dk_at dksX2_isSide_0 2 rfl rfl)
theorem dX2_isSide_5 : decode cX2_isSide 5 = .ok (.ifCond .eq 25, 3) := dk_153 0 25 (dk_at dksX2_isSide_0 5 rfl rfl)
theorem dX2_isSide_8 : decode cX2_isSide 8 = .ok (.iload_n 2, 1) := dk_28 (dk_at dksX2_isSide_0 8 rfl rfl)
theorem dX2_isSide_9 : decode cX2_isSide 9 = .ok (.i2l, 1) := dk_133 (dk_at dksX2_isSide_0 9 rfl rfl)
theorem dX2_isSide_10 : decode cX2_isSide 10 = .ok (.lconst 0, 1) := dk_9 (dk_at dksX2_isSide_0 10 rfl rfl)
theorem dX2_isSide_11 : decode cX2_isSide 11 = .ok (.aload_n 0, 1) := dk_42 (dk_at dksX2_isSide_0 11 rfl rfl)
theorem dX2_isSide_12 : decode cX2_isSide 12 = .ok (.getfield 59, 3) := dk_180 0 59 (dk_at dksX2_isSide_0 12 rfl rfl)
theorem dX2_isSide_15 : decode cX2_isSide 15 = .ok (.iload_n 1, 1) := dk_27 (dk_at dksX2_isSide_0 15 rfl rfl)
theorem dX2_isSide_16 : decode cX2_isSide 16 = .ok (.iaload, 1) := dk_46 (dk_at dksX2_isSide_0 16 rfl rfl)
theorem dX2_isSide_17 : decode cX2_isSide 17 = .ok (.iconst 1, 1) := dk_4 (dk_at dksX2_isSide_0 17 rfl rfl)
theorem dX2_isSide_18 : decode cX2_isSide 18 = .ok (.isub, 1) := dk_100 (dk_at dksX2_isSide_0 18 rfl rfl)
theorem dX2_isSide_19 : decode cX2_isSide 19 = .ok (.i2l, 1) := dk_133 (dk_at dksX2_isSide_0 19 rfl rfl)
theorem dX2_isSide_20 : decode cX2_isSide 20 = .ok (.invokestatic 193, 3) := dk_184 0 193 (dk_at dksX2_isSide_0 20 rfl rfl)
theorem dX2_isSide_23 : decode cX2_isSide 23 = .ok (.ifCond .eq 7, 3) := dk_153 0 7 (dk_at dksX2_isSide_1 0 rfl rfl)
theorem dX2_isSide_26 : decode cX2_isSide 26 = .ok (.iconst 1, 1) := dk_4 (dk_at dksX2_isSide_1 3 rfl rfl)
theorem dX2_isSide_27 : decode cX2_isSide 27 = .ok (.goto 4, 3) := dk_167 0 4 (dk_at dksX2_isSide_1 4 rfl rfl)
theorem dX2_isSide_30 : decode cX2_isSide 30 = .ok (.iconst 0, 1) := dk_3 (dk_at dksX2_isSide_1 7 rfl rfl)
theorem dX2_isSide_31 : decode cX2_isSide 31 = .ok (.ireturn, 1) := dk_172 (dk_at dksX2_isSide_1 8 rfl rfl)
abbrev cX2_residual : ByteArray := prog_18_method_78_code
def yX2_residual : MethodName := ⟨RX2, "residual", "(III)I"⟩
def dkwX2_residual_1 : List UInt8 := [42, 180, 0, 56, 27, 46, 28, 96, 104, 29, 96, 46, 167, 0, 5, 16, 254, 172]
abbrev dktX2_residual_1 : List UInt8 := dkwX2_residual_1 ++ []
def dkwX2_residual_0 : List UInt8 := [29, 184, 0, 243, 154, 0, 5, 2, 172, 42, 27, 28, 182, 1, 173, 153, 0, 24, 42, 180, 0, 104, 16, 9]
abbrev dktX2_residual_0 : List UInt8 := dkwX2_residual_0 ++ dktX2_residual_1
theorem dksX2_residual_0 : cX2_residual.data.toList.drop 0 = dktX2_residual_0 := by decide +kernel
theorem dksX2_residual_1 : cX2_residual.data.toList.drop 24 = dktX2_residual_1 := dk_seg dksX2_residual_0 24 rfl rfl
theorem dX2_residual_0 : decode cX2_residual 0 = .ok (.iload_n 3, 1) := dk_29 (dk_at dksX2_residual_0 0 rfl rfl)
theorem dX2_residual_1 : decode cX2_residual 1 = .ok (.invokestatic 243, 3) := dk_184 0 243 (dk_at dksX2_residual_0 1 rfl rfl)
theorem dX2_residual_4 : decode cX2_residual 4 = .ok (.ifCond .ne 5, 3) := dk_154 0 5 (dk_at dksX2_residual_0 4 rfl rfl)
theorem dX2_residual_7 : decode cX2_residual 7 = .ok (.iconst (-1), 1) := dk_2 (dk_at dksX2_residual_0 7 rfl rfl)
theorem dX2_residual_8 : decode cX2_residual 8 = .ok (.ireturn, 1) := dk_172 (dk_at dksX2_residual_0 8 rfl rfl)
theorem dX2_residual_9 : decode cX2_residual 9 = .ok (.aload_n 0, 1) := dk_42 (dk_at dksX2_residual_0 9 rfl rfl)
theorem dX2_residual_10 : decode cX2_residual 10 = .ok (.iload_n 1, 1) := dk_27 (dk_at dksX2_residual_0 10 rfl rfl)
theorem dX2_residual_11 : decode cX2_residual 11 = .ok (.iload_n 2, 1) := dk_28 (dk_at dksX2_residual_0 11 rfl rfl)
theorem dX2_residual_12 : decode cX2_residual 12 = .ok (.invokevirtual 429, 3) := dk_182 1 173 (dk_at dksX2_residual_0 12 rfl rfl)
theorem dX2_residual_15 : decode cX2_residual 15 = .ok (.ifCond .eq 24, 3) := dk_153 0 24 (dk_at dksX2_residual_0 15 rfl rfl)
theorem dX2_residual_18 : decode cX2_residual 18 = .ok (.aload_n 0, 1) := dk_42 (dk_at dksX2_residual_0 18 rfl rfl)
theorem dX2_residual_19 : decode cX2_residual 19 = .ok (.getfield 104, 3) := dk_180 0 104 (dk_at dksX2_residual_0 19 rfl rfl)
theorem dX2_residual_22 : decode cX2_residual 22 = .ok (.bipush 9, 2) := dk_16 9 (dk_at dksX2_residual_0 22 rfl rfl)
theorem dX2_residual_24 : decode cX2_residual 24 = .ok (.aload_n 0, 1) := dk_42 (dk_at dksX2_residual_1 0 rfl rfl)
theorem dX2_residual_25 : decode cX2_residual 25 = .ok (.getfield 56, 3) := dk_180 0 56 (dk_at dksX2_residual_1 1 rfl rfl)
theorem dX2_residual_28 : decode cX2_residual 28 = .ok (.iload_n 1, 1) := dk_27 (dk_at dksX2_residual_1 4 rfl rfl)
theorem dX2_residual_29 : decode cX2_residual 29 = .ok (.iaload, 1) := dk_46 (dk_at dksX2_residual_1 5 rfl rfl)
theorem dX2_residual_30 : decode cX2_residual 30 = .ok (.iload_n 2, 1) := dk_28 (dk_at dksX2_residual_1 6 rfl rfl)
theorem dX2_residual_31 : decode cX2_residual 31 = .ok (.iadd, 1) := dk_96 (dk_at dksX2_residual_1 7 rfl rfl)
theorem dX2_residual_32 : decode cX2_residual 32 = .ok (.imul, 1) := dk_104 (dk_at dksX2_residual_1 8 rfl rfl)
theorem dX2_residual_33 : decode cX2_residual 33 = .ok (.iload_n 3, 1) := dk_29 (dk_at dksX2_residual_1 9 rfl rfl)
theorem dX2_residual_34 : decode cX2_residual 34 = .ok (.iadd, 1) := dk_96 (dk_at dksX2_residual_1 10 rfl rfl)
theorem dX2_residual_35 : decode cX2_residual 35 = .ok (.iaload, 1) := dk_46 (dk_at dksX2_residual_1 11 rfl rfl)
theorem dX2_residual_36 : decode cX2_residual 36 = .ok (.goto 5, 3) := dk_167 0 5 (dk_at dksX2_residual_1 12 rfl rfl)
theorem dX2_residual_39 : decode cX2_residual 39 = .ok (.bipush (-2), 2) := dk_16 254 (dk_at dksX2_residual_1 15 rfl rfl)
theorem dX2_residual_41 : decode cX2_residual 41 = .ok (.ireturn, 1) := dk_172 (dk_at dksX2_residual_1 17 rfl rfl)
abbrev cX2_monomial : ByteArray := prog_18_method_79_code
def yX2_monomial : MethodName := ⟨RX2, "monomial", "(III)I"⟩
def dkwX2_monomial_1 : List UInt8 := [180, 0, 101, 16, 7, 42, 180, 0, 56, 27, 46, 28, 96, 104, 29, 96, 46, 167, 0, 5, 16, 254, 172]
abbrev dktX2_monomial_1 : List UInt8 := dkwX2_monomial_1 ++ []
def dkwX2_monomial_0 : List UInt8 := [29, 133, 9, 20, 1, 166, 184, 0, 193, 154, 0, 5, 2, 172, 42, 27, 28, 182, 1, 173, 153, 0, 24, 42]
abbrev dktX2_monomial_0 : List UInt8 := dkwX2_monomial_0 ++ dktX2_monomial_1
theorem dksX2_monomial_0 : cX2_monomial.data.toList.drop 0 = dktX2_monomial_0 := by decide +kernel
theorem dksX2_monomial_1 : cX2_monomial.data.toList.drop 24 = dktX2_monomial_1 := dk_seg dksX2_monomial_0 24 rfl rfl
theorem dX2_monomial_0 : decode cX2_monomial 0 = .ok (.iload_n 3, 1) := dk_29 (dk_at dksX2_monomial_0 0 rfl rfl)
theorem dX2_monomial_1 : decode cX2_monomial 1 = .ok (.i2l, 1) := dk_133 (dk_at dksX2_monomial_0 1 rfl rfl)
theorem dX2_monomial_2 : decode cX2_monomial 2 = .ok (.lconst 0, 1) := dk_9 (dk_at dksX2_monomial_0 2 rfl rfl)
theorem dX2_monomial_3 : decode cX2_monomial 3 = .ok (.ldc2_w 422, 3) := dk_20 1 166 (dk_at dksX2_monomial_0 3 rfl rfl)
theorem dX2_monomial_6 : decode cX2_monomial 6 = .ok (.invokestatic 193, 3) := dk_184 0 193 (dk_at dksX2_monomial_0 6 rfl rfl)
theorem dX2_monomial_9 : decode cX2_monomial 9 = .ok (.ifCond .ne 5, 3) := dk_154 0 5 (dk_at dksX2_monomial_0 9 rfl rfl)
theorem dX2_monomial_12 : decode cX2_monomial 12 = .ok (.iconst (-1), 1) := dk_2 (dk_at dksX2_monomial_0 12 rfl rfl)
theorem dX2_monomial_13 : decode cX2_monomial 13 = .ok (.ireturn, 1) := dk_172 (dk_at dksX2_monomial_0 13 rfl rfl)
theorem dX2_monomial_14 : decode cX2_monomial 14 = .ok (.aload_n 0, 1) := dk_42 (dk_at dksX2_monomial_0 14 rfl rfl)
theorem dX2_monomial_15 : decode cX2_monomial 15 = .ok (.iload_n 1, 1) := dk_27 (dk_at dksX2_monomial_0 15 rfl rfl)
theorem dX2_monomial_16 : decode cX2_monomial 16 = .ok (.iload_n 2, 1) := dk_28 (dk_at dksX2_monomial_0 16 rfl rfl)
theorem dX2_monomial_17 : decode cX2_monomial 17 = .ok (.invokevirtual 429, 3) := dk_182 1 173 (dk_at dksX2_monomial_0 17 rfl rfl)
theorem dX2_monomial_20 : decode cX2_monomial 20 = .ok (.ifCond .eq 24, 3) := dk_153 0 24 (dk_at dksX2_monomial_0 20 rfl rfl)
theorem dX2_monomial_23 : decode cX2_monomial 23 = .ok (.aload_n 0, 1) := dk_42 (dk_at dksX2_monomial_0 23 rfl rfl)
theorem dX2_monomial_24 : decode cX2_monomial 24 = .ok (.getfield 101, 3) := dk_180 0 101 (dk_at dksX2_monomial_1 0 rfl rfl)
theorem dX2_monomial_27 : decode cX2_monomial 27 = .ok (.bipush 7, 2) := dk_16 7 (dk_at dksX2_monomial_1 3 rfl rfl)
theorem dX2_monomial_29 : decode cX2_monomial 29 = .ok (.aload_n 0, 1) := dk_42 (dk_at dksX2_monomial_1 5 rfl rfl)
theorem dX2_monomial_30 : decode cX2_monomial 30 = .ok (.getfield 56, 3) := dk_180 0 56 (dk_at dksX2_monomial_1 6 rfl rfl)
theorem dX2_monomial_33 : decode cX2_monomial 33 = .ok (.iload_n 1, 1) := dk_27 (dk_at dksX2_monomial_1 9 rfl rfl)
theorem dX2_monomial_34 : decode cX2_monomial 34 = .ok (.iaload, 1) := dk_46 (dk_at dksX2_monomial_1 10 rfl rfl)
theorem dX2_monomial_35 : decode cX2_monomial 35 = .ok (.iload_n 2, 1) := dk_28 (dk_at dksX2_monomial_1 11 rfl rfl)
theorem dX2_monomial_36 : decode cX2_monomial 36 = .ok (.iadd, 1) := dk_96 (dk_at dksX2_monomial_1 12 rfl rfl)
theorem dX2_monomial_37 : decode cX2_monomial 37 = .ok (.imul, 1) := dk_104 (dk_at dksX2_monomial_1 13 rfl rfl)
theorem dX2_monomial_38 : decode cX2_monomial 38 = .ok (.iload_n 3, 1) := dk_29 (dk_at dksX2_monomial_1 14 rfl rfl)
theorem dX2_monomial_39 : decode cX2_monomial 39 = .ok (.iadd, 1) := dk_96 (dk_at dksX2_monomial_1 15 rfl rfl)
theorem dX2_monomial_40 : decode cX2_monomial 40 = .ok (.iaload, 1) := dk_46 (dk_at dksX2_monomial_1 16 rfl rfl)
theorem dX2_monomial_41 : decode cX2_monomial 41 = .ok (.goto 5, 3) := dk_167 0 5 (dk_at dksX2_monomial_1 17 rfl rfl)
theorem dX2_monomial_44 : decode cX2_monomial 44 = .ok (.bipush (-2), 2) := dk_16 254 (dk_at dksX2_monomial_1 20 rfl rfl)
theorem dX2_monomial_46 : decode cX2_monomial 46 = .ok (.ireturn, 1) := dk_172 (dk_at dksX2_monomial_1 22 rfl rfl)
abbrev cX2_leaf : ByteArray := prog_18_method_80_code
def yX2_leaf : MethodName := ⟨RX2, "leaf", "(II)I"⟩
def dkwX2_leaf_4 : List UInt8 := [180, 0, 116, 27, 46, 172, 42, 180, 0, 119, 27, 46, 172]
abbrev dktX2_leaf_4 : List UInt8 := dkwX2_leaf_4 ++ []
def dkwX2_leaf_3 : List UInt8 := [42, 180, 0, 107, 27, 46, 172, 42, 180, 0, 110, 27, 46, 172, 42, 180, 0, 113, 27, 46, 172, 42]
abbrev dktX2_leaf_3 : List UInt8 := dkwX2_leaf_3 ++ dktX2_leaf_4
def dkwX2_leaf_2 : List UInt8 := [170, 0, 0, 0, 0, 0, 59, 0, 0, 0, 0, 0, 0, 0, 3, 0, 0, 0, 31, 0, 0, 0, 38, 0, 0, 0, 45, 0, 0, 0, 52]
abbrev dktX2_leaf_2 : List UInt8 := dkwX2_leaf_2 ++ dktX2_leaf_3
def dkwX2_leaf_1 : List UInt8 := [42, 180, 1, 93, 4, 100, 133, 184, 0, 193, 154, 0, 6, 16, 254, 172, 28]
abbrev dktX2_leaf_1 : List UInt8 := dkwX2_leaf_1 ++ dktX2_leaf_2
def dkwX2_leaf_0 : List UInt8 := [28, 133, 9, 20, 1, 177, 184, 0, 193, 154, 0, 5, 2, 172, 42, 180, 0, 179, 153, 0, 19, 27, 133, 9]
abbrev dktX2_leaf_0 : List UInt8 := dkwX2_leaf_0 ++ dktX2_leaf_1
theorem dksX2_leaf_0 : cX2_leaf.data.toList.drop 0 = dktX2_leaf_0 := by decide +kernel
theorem dksX2_leaf_1 : cX2_leaf.data.toList.drop 24 = dktX2_leaf_1 := dk_seg dksX2_leaf_0 24 rfl rfl
theorem dksX2_leaf_2 : cX2_leaf.data.toList.drop 41 = dktX2_leaf_2 := dk_seg dksX2_leaf_1 17 rfl rfl
theorem dksX2_leaf_3 : cX2_leaf.data.toList.drop 72 = dktX2_leaf_3 := dk_seg dksX2_leaf_2 31 rfl rfl
theorem dksX2_leaf_4 : cX2_leaf.data.toList.drop 94 = dktX2_leaf_4 := dk_seg dksX2_leaf_3 22 rfl rfl
theorem dX2_leaf_0 : decode cX2_leaf 0 = .ok (.iload_n 2, 1) := dk_28 (dk_at dksX2_leaf_0 0 rfl rfl)
theorem dX2_leaf_1 : decode cX2_leaf 1 = .ok (.i2l, 1) := dk_133 (dk_at dksX2_leaf_0 1 rfl rfl)
theorem dX2_leaf_2 : decode cX2_leaf 2 = .ok (.lconst 0, 1) := dk_9 (dk_at dksX2_leaf_0 2 rfl rfl)
theorem dX2_leaf_3 : decode cX2_leaf 3 = .ok (.ldc2_w 433, 3) := dk_20 1 177 (dk_at dksX2_leaf_0 3 rfl rfl)
theorem dX2_leaf_6 : decode cX2_leaf 6 = .ok (.invokestatic 193, 3) := dk_184 0 193 (dk_at dksX2_leaf_0 6 rfl rfl)
theorem dX2_leaf_9 : decode cX2_leaf 9 = .ok (.ifCond .ne 5, 3) := dk_154 0 5 (dk_at dksX2_leaf_0 9 rfl rfl)
theorem dX2_leaf_12 : decode cX2_leaf 12 = .ok (.iconst (-1), 1) := dk_2 (dk_at dksX2_leaf_0 12 rfl rfl)
theorem dX2_leaf_13 : decode cX2_leaf 13 = .ok (.ireturn, 1) := dk_172 (dk_at dksX2_leaf_0 13 rfl rfl)
theorem dX2_leaf_14 : decode cX2_leaf 14 = .ok (.aload_n 0, 1) := dk_42 (dk_at dksX2_leaf_0 14 rfl rfl)
theorem dX2_leaf_15 : decode cX2_leaf 15 = .ok (.getfield 179, 3) := dk_180 0 179 (dk_at dksX2_leaf_0 15 rfl rfl)
theorem dX2_leaf_18 : decode cX2_leaf 18 = .ok (.ifCond .eq 19, 3) := dk_153 0 19 (dk_at dksX2_leaf_0 18 rfl rfl)
theorem dX2_leaf_21 : decode cX2_leaf 21 = .ok (.iload_n 1, 1) := dk_27 (dk_at dksX2_leaf_0 21 rfl rfl)
theorem dX2_leaf_22 : decode cX2_leaf 22 = .ok (.i2l, 1) := dk_133 (dk_at dksX2_leaf_0 22 rfl rfl)
theorem dX2_leaf_23 : decode cX2_leaf 23 = .ok (.lconst 0, 1) := dk_9 (dk_at dksX2_leaf_0 23 rfl rfl)
theorem dX2_leaf_24 : decode cX2_leaf 24 = .ok (.aload_n 0, 1) := dk_42 (dk_at dksX2_leaf_1 0 rfl rfl)
theorem dX2_leaf_25 : decode cX2_leaf 25 = .ok (.getfield 349, 3) := dk_180 1 93 (dk_at dksX2_leaf_1 1 rfl rfl)
theorem dX2_leaf_28 : decode cX2_leaf 28 = .ok (.iconst 1, 1) := dk_4 (dk_at dksX2_leaf_1 4 rfl rfl)
theorem dX2_leaf_29 : decode cX2_leaf 29 = .ok (.isub, 1) := dk_100 (dk_at dksX2_leaf_1 5 rfl rfl)
theorem dX2_leaf_30 : decode cX2_leaf 30 = .ok (.i2l, 1) := dk_133 (dk_at dksX2_leaf_1 6 rfl rfl)
theorem dX2_leaf_31 : decode cX2_leaf 31 = .ok (.invokestatic 193, 3) := dk_184 0 193 (dk_at dksX2_leaf_1 7 rfl rfl)
theorem dX2_leaf_34 : decode cX2_leaf 34 = .ok (.ifCond .ne 6, 3) := dk_154 0 6 (dk_at dksX2_leaf_1 10 rfl rfl)
theorem dX2_leaf_37 : decode cX2_leaf 37 = .ok (.bipush (-2), 2) := dk_16 254 (dk_at dksX2_leaf_1 13 rfl rfl)
theorem dX2_leaf_39 : decode cX2_leaf 39 = .ok (.ireturn, 1) := dk_172 (dk_at dksX2_leaf_1 15 rfl rfl)
theorem dX2_leaf_40 : decode cX2_leaf 40 = .ok (.iload_n 2, 1) := dk_28 (dk_at dksX2_leaf_1 16 rfl rfl)
theorem dX2_leaf_41 : decode cX2_leaf 41 = .ok (.tableswitch 59 0 3 #[31, 38, 45, 52], 31) := by decide +kernel
theorem dX2_leaf_72 : decode cX2_leaf 72 = .ok (.aload_n 0, 1) := dk_42 (dk_at dksX2_leaf_3 0 rfl rfl)
theorem dX2_leaf_73 : decode cX2_leaf 73 = .ok (.getfield 107, 3) := dk_180 0 107 (dk_at dksX2_leaf_3 1 rfl rfl)
theorem dX2_leaf_76 : decode cX2_leaf 76 = .ok (.iload_n 1, 1) := dk_27 (dk_at dksX2_leaf_3 4 rfl rfl)
theorem dX2_leaf_77 : decode cX2_leaf 77 = .ok (.iaload, 1) := dk_46 (dk_at dksX2_leaf_3 5 rfl rfl)
theorem dX2_leaf_78 : decode cX2_leaf 78 = .ok (.ireturn, 1) := dk_172 (dk_at dksX2_leaf_3 6 rfl rfl)
theorem dX2_leaf_79 : decode cX2_leaf 79 = .ok (.aload_n 0, 1) := dk_42 (dk_at dksX2_leaf_3 7 rfl rfl)
theorem dX2_leaf_80 : decode cX2_leaf 80 = .ok (.getfield 110, 3) := dk_180 0 110 (dk_at dksX2_leaf_3 8 rfl rfl)
theorem dX2_leaf_83 : decode cX2_leaf 83 = .ok (.iload_n 1, 1) := dk_27 (dk_at dksX2_leaf_3 11 rfl rfl)
theorem dX2_leaf_84 : decode cX2_leaf 84 = .ok (.iaload, 1) := dk_46 (dk_at dksX2_leaf_3 12 rfl rfl)
theorem dX2_leaf_85 : decode cX2_leaf 85 = .ok (.ireturn, 1) := dk_172 (dk_at dksX2_leaf_3 13 rfl rfl)
theorem dX2_leaf_86 : decode cX2_leaf 86 = .ok (.aload_n 0, 1) := dk_42 (dk_at dksX2_leaf_3 14 rfl rfl)
theorem dX2_leaf_87 : decode cX2_leaf 87 = .ok (.getfield 113, 3) := dk_180 0 113 (dk_at dksX2_leaf_3 15 rfl rfl)
theorem dX2_leaf_90 : decode cX2_leaf 90 = .ok (.iload_n 1, 1) := dk_27 (dk_at dksX2_leaf_3 18 rfl rfl)
theorem dX2_leaf_91 : decode cX2_leaf 91 = .ok (.iaload, 1) := dk_46 (dk_at dksX2_leaf_3 19 rfl rfl)
theorem dX2_leaf_92 : decode cX2_leaf 92 = .ok (.ireturn, 1) := dk_172 (dk_at dksX2_leaf_3 20 rfl rfl)
theorem dX2_leaf_93 : decode cX2_leaf 93 = .ok (.aload_n 0, 1) := dk_42 (dk_at dksX2_leaf_3 21 rfl rfl)
theorem dX2_leaf_94 : decode cX2_leaf 94 = .ok (.getfield 116, 3) := dk_180 0 116 (dk_at dksX2_leaf_4 0 rfl rfl)
theorem dX2_leaf_97 : decode cX2_leaf 97 = .ok (.iload_n 1, 1) := dk_27 (dk_at dksX2_leaf_4 3 rfl rfl)
theorem dX2_leaf_98 : decode cX2_leaf 98 = .ok (.iaload, 1) := dk_46 (dk_at dksX2_leaf_4 4 rfl rfl)
theorem dX2_leaf_99 : decode cX2_leaf 99 = .ok (.ireturn, 1) := dk_172 (dk_at dksX2_leaf_4 5 rfl rfl)
theorem dX2_leaf_100 : decode cX2_leaf 100 = .ok (.aload_n 0, 1) := dk_42 (dk_at dksX2_leaf_4 6 rfl rfl)
theorem dX2_leaf_101 : decode cX2_leaf 101 = .ok (.getfield 119, 3) := dk_180 0 119 (dk_at dksX2_leaf_4 7 rfl rfl)
theorem dX2_leaf_104 : decode cX2_leaf 104 = .ok (.iload_n 1, 1) := dk_27 (dk_at dksX2_leaf_4 10 rfl rfl)
theorem dX2_leaf_105 : decode cX2_leaf 105 = .ok (.iaload, 1) := dk_46 (dk_at dksX2_leaf_4 11 rfl rfl)
theorem dX2_leaf_106 : decode cX2_leaf 106 = .ok (.ireturn, 1) := dk_172 (dk_at dksX2_leaf_4 12 rfl rfl)
abbrev cX2_spelling : ByteArray := prog_18_method_81_code
def yX2_spelling : MethodName := ⟨RX2, "spelling", "(I)I"⟩
def dkwX2_spelling_1 : List UInt8 := [180, 0, 152, 27, 46, 167, 0, 5, 16, 254, 172]
abbrev dktX2_spelling_1 : List UInt8 := dkwX2_spelling_1 ++ []
def dkwX2_spelling_0 : List UInt8 := [42, 180, 0, 179, 153, 0, 28, 27, 133, 9, 42, 180, 1, 143, 4, 100, 133, 184, 0, 193, 153, 0, 12, 42]
abbrev dktX2_spelling_0 : List UInt8 := dkwX2_spelling_0 ++ dktX2_spelling_1
theorem dksX2_spelling_0 : cX2_spelling.data.toList.drop 0 = dktX2_spelling_0 := by decide +kernel
theorem dksX2_spelling_1 : cX2_spelling.data.toList.drop 24 = dktX2_spelling_1 := dk_seg dksX2_spelling_0 24 rfl rfl
theorem dX2_spelling_0 : decode cX2_spelling 0 = .ok (.aload_n 0, 1) := dk_42 (dk_at dksX2_spelling_0 0 rfl rfl)
theorem dX2_spelling_1 : decode cX2_spelling 1 = .ok (.getfield 179, 3) := dk_180 0 179 (dk_at dksX2_spelling_0 1 rfl rfl)
theorem dX2_spelling_4 : decode cX2_spelling 4 = .ok (.ifCond .eq 28, 3) := dk_153 0 28 (dk_at dksX2_spelling_0 4 rfl rfl)
theorem dX2_spelling_7 : decode cX2_spelling 7 = .ok (.iload_n 1, 1) := dk_27 (dk_at dksX2_spelling_0 7 rfl rfl)
theorem dX2_spelling_8 : decode cX2_spelling 8 = .ok (.i2l, 1) := dk_133 (dk_at dksX2_spelling_0 8 rfl rfl)
theorem dX2_spelling_9 : decode cX2_spelling 9 = .ok (.lconst 0, 1) := dk_9 (dk_at dksX2_spelling_0 9 rfl rfl)
theorem dX2_spelling_10 : decode cX2_spelling 10 = .ok (.aload_n 0, 1) := dk_42 (dk_at dksX2_spelling_0 10 rfl rfl)
theorem dX2_spelling_11 : decode cX2_spelling 11 = .ok (.getfield 399, 3) := dk_180 1 143 (dk_at dksX2_spelling_0 11 rfl rfl)
theorem dX2_spelling_14 : decode cX2_spelling 14 = .ok (.iconst 1, 1) := dk_4 (dk_at dksX2_spelling_0 14 rfl rfl)
theorem dX2_spelling_15 : decode cX2_spelling 15 = .ok (.isub, 1) := dk_100 (dk_at dksX2_spelling_0 15 rfl rfl)
theorem dX2_spelling_16 : decode cX2_spelling 16 = .ok (.i2l, 1) := dk_133 (dk_at dksX2_spelling_0 16 rfl rfl)
theorem dX2_spelling_17 : decode cX2_spelling 17 = .ok (.invokestatic 193, 3) := dk_184 0 193 (dk_at dksX2_spelling_0 17 rfl rfl)
theorem dX2_spelling_20 : decode cX2_spelling 20 = .ok (.ifCond .eq 12, 3) := dk_153 0 12 (dk_at dksX2_spelling_0 20 rfl rfl)
theorem dX2_spelling_23 : decode cX2_spelling 23 = .ok (.aload_n 0, 1) := dk_42 (dk_at dksX2_spelling_0 23 rfl rfl)
theorem dX2_spelling_24 : decode cX2_spelling 24 = .ok (.getfield 152, 3) := dk_180 0 152 (dk_at dksX2_spelling_1 0 rfl rfl)
theorem dX2_spelling_27 : decode cX2_spelling 27 = .ok (.iload_n 1, 1) := dk_27 (dk_at dksX2_spelling_1 3 rfl rfl)
theorem dX2_spelling_28 : decode cX2_spelling 28 = .ok (.iaload, 1) := dk_46 (dk_at dksX2_spelling_1 4 rfl rfl)
theorem dX2_spelling_29 : decode cX2_spelling 29 = .ok (.goto 5, 3) := dk_167 0 5 (dk_at dksX2_spelling_1 5 rfl rfl)
theorem dX2_spelling_32 : decode cX2_spelling 32 = .ok (.bipush (-2), 2) := dk_16 254 (dk_at dksX2_spelling_1 8 rfl rfl)
theorem dX2_spelling_34 : decode cX2_spelling 34 = .ok (.ireturn, 1) := dk_172 (dk_at dksX2_spelling_1 10 rfl rfl)
abbrev cX2_ask : ByteArray := prog_18_method_83_code
def yX2_ask : MethodName := ⟨RX2, "ask", "()I"⟩
def dkwX2_ask_1 : List UInt8 := [180, 0, 168, 167, 0, 20, 42, 180, 0, 179, 153, 0, 11, 42, 27, 182, 1, 163, 167, 0, 5, 16, 254, 172]
abbrev dktX2_ask_1 : List UInt8 := dkwX2_ask_1 ++ []
def dkwX2_ask_0 : List UInt8 := [42, 182, 1, 205, 60, 42, 3, 181, 0, 197, 27, 156, 0, 6, 16, 253, 172, 27, 16, 8, 160, 0, 10, 42]
abbrev dktX2_ask_0 : List UInt8 := dkwX2_ask_0 ++ dktX2_ask_1
theorem dksX2_ask_0 : cX2_ask.data.toList.drop 0 = dktX2_ask_0 := by decide +kernel
theorem dksX2_ask_1 : cX2_ask.data.toList.drop 24 = dktX2_ask_1 := dk_seg dksX2_ask_0 24 rfl rfl
theorem dX2_ask_0 : decode cX2_ask 0 = .ok (.aload_n 0, 1) := dk_42 (dk_at dksX2_ask_0 0 rfl rfl)
theorem dX2_ask_1 : decode cX2_ask 1 = .ok (.invokevirtual 461, 3) := dk_182 1 205 (dk_at dksX2_ask_0 1 rfl rfl)
theorem dX2_ask_4 : decode cX2_ask 4 = .ok (.istore_n 1, 1) := dk_60 (dk_at dksX2_ask_0 4 rfl rfl)
theorem dX2_ask_5 : decode cX2_ask 5 = .ok (.aload_n 0, 1) := dk_42 (dk_at dksX2_ask_0 5 rfl rfl)
theorem dX2_ask_6 : decode cX2_ask 6 = .ok (.iconst 0, 1) := dk_3 (dk_at dksX2_ask_0 6 rfl rfl)
theorem dX2_ask_7 : decode cX2_ask 7 = .ok (.putfield 197, 3) := dk_181 0 197 (dk_at dksX2_ask_0 7 rfl rfl)
theorem dX2_ask_10 : decode cX2_ask 10 = .ok (.iload_n 1, 1) := dk_27 (dk_at dksX2_ask_0 10 rfl rfl)
theorem dX2_ask_11 : decode cX2_ask 11 = .ok (.ifCond .ge 6, 3) := dk_156 0 6 (dk_at dksX2_ask_0 11 rfl rfl)
theorem dX2_ask_14 : decode cX2_ask 14 = .ok (.bipush (-3), 2) := dk_16 253 (dk_at dksX2_ask_0 14 rfl rfl)
theorem dX2_ask_16 : decode cX2_ask 16 = .ok (.ireturn, 1) := dk_172 (dk_at dksX2_ask_0 16 rfl rfl)
theorem dX2_ask_17 : decode cX2_ask 17 = .ok (.iload_n 1, 1) := dk_27 (dk_at dksX2_ask_0 17 rfl rfl)
theorem dX2_ask_18 : decode cX2_ask 18 = .ok (.bipush 8, 2) := dk_16 8 (dk_at dksX2_ask_0 18 rfl rfl)
theorem dX2_ask_20 : decode cX2_ask 20 = .ok (.if_icmp .ne 10, 3) := dk_160 0 10 (dk_at dksX2_ask_0 20 rfl rfl)
theorem dX2_ask_23 : decode cX2_ask 23 = .ok (.aload_n 0, 1) := dk_42 (dk_at dksX2_ask_0 23 rfl rfl)
theorem dX2_ask_24 : decode cX2_ask 24 = .ok (.getfield 168, 3) := dk_180 0 168 (dk_at dksX2_ask_1 0 rfl rfl)
theorem dX2_ask_27 : decode cX2_ask 27 = .ok (.goto 20, 3) := dk_167 0 20 (dk_at dksX2_ask_1 3 rfl rfl)
theorem dX2_ask_30 : decode cX2_ask 30 = .ok (.aload_n 0, 1) := dk_42 (dk_at dksX2_ask_1 6 rfl rfl)
theorem dX2_ask_31 : decode cX2_ask 31 = .ok (.getfield 179, 3) := dk_180 0 179 (dk_at dksX2_ask_1 7 rfl rfl)
theorem dX2_ask_34 : decode cX2_ask 34 = .ok (.ifCond .eq 11, 3) := dk_153 0 11 (dk_at dksX2_ask_1 10 rfl rfl)
theorem dX2_ask_37 : decode cX2_ask 37 = .ok (.aload_n 0, 1) := dk_42 (dk_at dksX2_ask_1 13 rfl rfl)
theorem dX2_ask_38 : decode cX2_ask 38 = .ok (.iload_n 1, 1) := dk_27 (dk_at dksX2_ask_1 14 rfl rfl)
theorem dX2_ask_39 : decode cX2_ask 39 = .ok (.invokevirtual 419, 3) := dk_182 1 163 (dk_at dksX2_ask_1 15 rfl rfl)
theorem dX2_ask_42 : decode cX2_ask 42 = .ok (.goto 5, 3) := dk_167 0 5 (dk_at dksX2_ask_1 18 rfl rfl)
theorem dX2_ask_45 : decode cX2_ask 45 = .ok (.bipush (-2), 2) := dk_16 254 (dk_at dksX2_ask_1 21 rfl rfl)
theorem dX2_ask_47 : decode cX2_ask 47 = .ok (.ireturn, 1) := dk_172 (dk_at dksX2_ask_1 23 rfl rfl)
abbrev cX2_wordHere : ByteArray := prog_18_method_82_code
def yX2_wordHere : MethodName := ⟨RX2, "wordHere", "()I"⟩
def dkwX2_wordHere_7 : List UInt8 := [16, 7, 167, 0, 17, 31, 20, 1, 203, 148, 154, 0, 8, 16, 8, 167, 0, 4, 2, 172]
abbrev dktX2_wordHere_7 : List UInt8 := dkwX2_wordHere_7 ++ []
def dkwX2_wordHere_6 : List UInt8 := [167, 0, 43, 31, 20, 1, 199, 148, 154, 0, 8, 16, 6, 167, 0, 30, 31, 20, 1, 201, 148, 154, 0, 8]
abbrev dktX2_wordHere_6 : List UInt8 := dkwX2_wordHere_6 ++ dktX2_wordHere_7
def dkwX2_wordHere_5 : List UInt8 := [167, 0, 67, 31, 20, 1, 195, 148, 154, 0, 7, 7, 167, 0, 55, 31, 20, 1, 197, 148, 154, 0, 7, 8]
abbrev dktX2_wordHere_5 : List UInt8 := dkwX2_wordHere_5 ++ dktX2_wordHere_6
def dkwX2_wordHere_4 : List UInt8 := [167, 0, 91, 31, 20, 1, 191, 148, 154, 0, 7, 5, 167, 0, 79, 31, 20, 1, 193, 148, 154, 0, 7, 6]
abbrev dktX2_wordHere_4 : List UInt8 := dkwX2_wordHere_4 ++ dktX2_wordHere_5
def dkwX2_wordHere_3 : List UInt8 := [167, 255, 190, 31, 20, 1, 187, 148, 154, 0, 7, 3, 167, 0, 103, 31, 20, 1, 189, 148, 154, 0, 7, 4]
abbrev dktX2_wordHere_3 : List UInt8 := dkwX2_wordHere_3 ++ dktX2_wordHere_4
def dkwX2_wordHere_2 : List UInt8 := [42, 180, 0, 13, 29, 46, 133, 97, 20, 1, 185, 101, 167, 0, 6, 20, 0, 251, 64, 132, 3, 1]
abbrev dktX2_wordHere_2 : List UInt8 := dkwX2_wordHere_2 ++ dktX2_wordHere_3
def dkwX2_wordHere_1 : List UInt8 := [133, 20, 1, 179, 20, 1, 181, 184, 0, 193, 153, 0, 29, 31, 9, 148, 155, 0, 23, 20, 1, 183, 31, 105]
abbrev dktX2_wordHere_1 : List UInt8 := dkwX2_wordHere_1 ++ dktX2_wordHere_2
def dkwX2_wordHere_0 : List UInt8 := [9, 64, 3, 62, 29, 42, 180, 0, 197, 162, 0, 64, 29, 16, 8, 162, 0, 48, 42, 180, 0, 13, 29, 46]
abbrev dktX2_wordHere_0 : List UInt8 := dkwX2_wordHere_0 ++ dktX2_wordHere_1
theorem dksX2_wordHere_0 : cX2_wordHere.data.toList.drop 0 = dktX2_wordHere_0 := by decide +kernel
theorem dksX2_wordHere_1 : cX2_wordHere.data.toList.drop 24 = dktX2_wordHere_1 := dk_seg dksX2_wordHere_0 24 rfl rfl
theorem dksX2_wordHere_2 : cX2_wordHere.data.toList.drop 48 = dktX2_wordHere_2 := dk_seg dksX2_wordHere_1 24 rfl rfl
theorem dksX2_wordHere_3 : cX2_wordHere.data.toList.drop 70 = dktX2_wordHere_3 := dk_seg dksX2_wordHere_2 22 rfl rfl
theorem dksX2_wordHere_4 : cX2_wordHere.data.toList.drop 94 = dktX2_wordHere_4 := dk_seg dksX2_wordHere_3 24 rfl rfl
theorem dksX2_wordHere_5 : cX2_wordHere.data.toList.drop 118 = dktX2_wordHere_5 := dk_seg dksX2_wordHere_4 24 rfl rfl
theorem dksX2_wordHere_6 : cX2_wordHere.data.toList.drop 142 = dktX2_wordHere_6 := dk_seg dksX2_wordHere_5 24 rfl rfl
theorem dksX2_wordHere_7 : cX2_wordHere.data.toList.drop 166 = dktX2_wordHere_7 := dk_seg dksX2_wordHere_6 24 rfl rfl
theorem dX2_wordHere_0 : decode cX2_wordHere 0 = .ok (.lconst 0, 1) := dk_9 (dk_at dksX2_wordHere_0 0 rfl rfl)
theorem dX2_wordHere_1 : decode cX2_wordHere 1 = .ok (.lstore_n 1, 1) := dk_64 (dk_at dksX2_wordHere_0 1 rfl rfl)
theorem dX2_wordHere_2 : decode cX2_wordHere 2 = .ok (.iconst 0, 1) := dk_3 (dk_at dksX2_wordHere_0 2 rfl rfl)
theorem dX2_wordHere_3 : decode cX2_wordHere 3 = .ok (.istore_n 3, 1) := dk_62 (dk_at dksX2_wordHere_0 3 rfl rfl)
theorem dX2_wordHere_4 : decode cX2_wordHere 4 = .ok (.iload_n 3, 1) := dk_29 (dk_at dksX2_wordHere_0 4 rfl rfl)
theorem dX2_wordHere_5 : decode cX2_wordHere 5 = .ok (.aload_n 0, 1) := dk_42 (dk_at dksX2_wordHere_0 5 rfl rfl)
theorem dX2_wordHere_6 : decode cX2_wordHere 6 = .ok (.getfield 197, 3) := dk_180 0 197 (dk_at dksX2_wordHere_0 6 rfl rfl)
theorem dX2_wordHere_9 : decode cX2_wordHere 9 = .ok (.if_icmp .ge 64, 3) := dk_162 0 64 (dk_at dksX2_wordHere_0 9 rfl rfl)
theorem dX2_wordHere_12 : decode cX2_wordHere 12 = .ok (.iload_n 3, 1) := dk_29 (dk_at dksX2_wordHere_0 12 rfl rfl)
theorem dX2_wordHere_13 : decode cX2_wordHere 13 = .ok (.bipush 8, 2) := dk_16 8 (dk_at dksX2_wordHere_0 13 rfl rfl)
theorem dX2_wordHere_15 : decode cX2_wordHere 15 = .ok (.if_icmp .ge 48, 3) := dk_162 0 48 (dk_at dksX2_wordHere_0 15 rfl rfl)
theorem dX2_wordHere_18 : decode cX2_wordHere 18 = .ok (.aload_n 0, 1) := dk_42 (dk_at dksX2_wordHere_0 18 rfl rfl)
theorem dX2_wordHere_19 : decode cX2_wordHere 19 = .ok (.getfield 13, 3) := dk_180 0 13 (dk_at dksX2_wordHere_0 19 rfl rfl)
theorem dX2_wordHere_22 : decode cX2_wordHere 22 = .ok (.iload_n 3, 1) := dk_29 (dk_at dksX2_wordHere_0 22 rfl rfl)
theorem dX2_wordHere_23 : decode cX2_wordHere 23 = .ok (.iaload, 1) := dk_46 (dk_at dksX2_wordHere_0 23 rfl rfl)
theorem dX2_wordHere_24 : decode cX2_wordHere 24 = .ok (.i2l, 1) := dk_133 (dk_at dksX2_wordHere_1 0 rfl rfl)
theorem dX2_wordHere_25 : decode cX2_wordHere 25 = .ok (.ldc2_w 435, 3) := dk_20 1 179 (dk_at dksX2_wordHere_1 1 rfl rfl)
theorem dX2_wordHere_28 : decode cX2_wordHere 28 = .ok (.ldc2_w 437, 3) := dk_20 1 181 (dk_at dksX2_wordHere_1 4 rfl rfl)
theorem dX2_wordHere_31 : decode cX2_wordHere 31 = .ok (.invokestatic 193, 3) := dk_184 0 193 (dk_at dksX2_wordHere_1 7 rfl rfl)
theorem dX2_wordHere_34 : decode cX2_wordHere 34 = .ok (.ifCond .eq 29, 3) := dk_153 0 29 (dk_at dksX2_wordHere_1 10 rfl rfl)
theorem dX2_wordHere_37 : decode cX2_wordHere 37 = .ok (.lload_n 1, 1) := dk_31 (dk_at dksX2_wordHere_1 13 rfl rfl)
theorem dX2_wordHere_38 : decode cX2_wordHere 38 = .ok (.lconst 0, 1) := dk_9 (dk_at dksX2_wordHere_1 14 rfl rfl)
theorem dX2_wordHere_39 : decode cX2_wordHere 39 = .ok (.lcmp, 1) := dk_148 (dk_at dksX2_wordHere_1 15 rfl rfl)
theorem dX2_wordHere_40 : decode cX2_wordHere 40 = .ok (.ifCond .lt 23, 3) := dk_155 0 23 (dk_at dksX2_wordHere_1 16 rfl rfl)
theorem dX2_wordHere_43 : decode cX2_wordHere 43 = .ok (.ldc2_w 439, 3) := dk_20 1 183 (dk_at dksX2_wordHere_1 19 rfl rfl)
theorem dX2_wordHere_46 : decode cX2_wordHere 46 = .ok (.lload_n 1, 1) := dk_31 (dk_at dksX2_wordHere_1 22 rfl rfl)
theorem dX2_wordHere_47 : decode cX2_wordHere 47 = .ok (.lmul, 1) := dk_105 (dk_at dksX2_wordHere_1 23 rfl rfl)
theorem dX2_wordHere_48 : decode cX2_wordHere 48 = .ok (.aload_n 0, 1) := dk_42 (dk_at dksX2_wordHere_2 0 rfl rfl)
theorem dX2_wordHere_49 : decode cX2_wordHere 49 = .ok (.getfield 13, 3) := dk_180 0 13 (dk_at dksX2_wordHere_2 1 rfl rfl)
theorem dX2_wordHere_52 : decode cX2_wordHere 52 = .ok (.iload_n 3, 1) := dk_29 (dk_at dksX2_wordHere_2 4 rfl rfl)
theorem dX2_wordHere_53 : decode cX2_wordHere 53 = .ok (.iaload, 1) := dk_46 (dk_at dksX2_wordHere_2 5 rfl rfl)
theorem dX2_wordHere_54 : decode cX2_wordHere 54 = .ok (.i2l, 1) := dk_133 (dk_at dksX2_wordHere_2 6 rfl rfl)
theorem dX2_wordHere_55 : decode cX2_wordHere 55 = .ok (.ladd, 1) := dk_97 (dk_at dksX2_wordHere_2 7 rfl rfl)
theorem dX2_wordHere_56 : decode cX2_wordHere 56 = .ok (.ldc2_w 441, 3) := dk_20 1 185 (dk_at dksX2_wordHere_2 8 rfl rfl)
theorem dX2_wordHere_59 : decode cX2_wordHere 59 = .ok (.lsub, 1) := dk_101 (dk_at dksX2_wordHere_2 11 rfl rfl)
theorem dX2_wordHere_60 : decode cX2_wordHere 60 = .ok (.goto 6, 3) := dk_167 0 6 (dk_at dksX2_wordHere_2 12 rfl rfl)
theorem dX2_wordHere_63 : decode cX2_wordHere 63 = .ok (.ldc2_w 251, 3) := dk_20 0 251 (dk_at dksX2_wordHere_2 15 rfl rfl)
theorem dX2_wordHere_66 : decode cX2_wordHere 66 = .ok (.lstore_n 1, 1) := dk_64 (dk_at dksX2_wordHere_2 18 rfl rfl)
theorem dX2_wordHere_67 : decode cX2_wordHere 67 = .ok (.iinc 3 1, 3) := dk_132 3 1 (dk_at dksX2_wordHere_2 19 rfl rfl)
theorem dX2_wordHere_70 : decode cX2_wordHere 70 = .ok (.goto (-66), 3) := dk_167 255 190 (dk_at dksX2_wordHere_3 0 rfl rfl)
theorem dX2_wordHere_73 : decode cX2_wordHere 73 = .ok (.lload_n 1, 1) := dk_31 (dk_at dksX2_wordHere_3 3 rfl rfl)
theorem dX2_wordHere_74 : decode cX2_wordHere 74 = .ok (.ldc2_w 443, 3) := dk_20 1 187 (dk_at dksX2_wordHere_3 4 rfl rfl)
theorem dX2_wordHere_77 : decode cX2_wordHere 77 = .ok (.lcmp, 1) := dk_148 (dk_at dksX2_wordHere_3 7 rfl rfl)
theorem dX2_wordHere_78 : decode cX2_wordHere 78 = .ok (.ifCond .ne 7, 3) := dk_154 0 7 (dk_at dksX2_wordHere_3 8 rfl rfl)
theorem dX2_wordHere_81 : decode cX2_wordHere 81 = .ok (.iconst 0, 1) := dk_3 (dk_at dksX2_wordHere_3 11 rfl rfl)
theorem dX2_wordHere_82 : decode cX2_wordHere 82 = .ok (.goto 103, 3) := dk_167 0 103 (dk_at dksX2_wordHere_3 12 rfl rfl)
theorem dX2_wordHere_85 : decode cX2_wordHere 85 = .ok (.lload_n 1, 1) := dk_31 (dk_at dksX2_wordHere_3 15 rfl rfl)
theorem dX2_wordHere_86 : decode cX2_wordHere 86 = .ok (.ldc2_w 445, 3) := dk_20 1 189 (dk_at dksX2_wordHere_3 16 rfl rfl)
theorem dX2_wordHere_89 : decode cX2_wordHere 89 = .ok (.lcmp, 1) := dk_148 (dk_at dksX2_wordHere_3 19 rfl rfl)
theorem dX2_wordHere_90 : decode cX2_wordHere 90 = .ok (.ifCond .ne 7, 3) := dk_154 0 7 (dk_at dksX2_wordHere_3 20 rfl rfl)
theorem dX2_wordHere_93 : decode cX2_wordHere 93 = .ok (.iconst 1, 1) := dk_4 (dk_at dksX2_wordHere_3 23 rfl rfl)
theorem dX2_wordHere_94 : decode cX2_wordHere 94 = .ok (.goto 91, 3) := dk_167 0 91 (dk_at dksX2_wordHere_4 0 rfl rfl)
theorem dX2_wordHere_97 : decode cX2_wordHere 97 = .ok (.lload_n 1, 1) := dk_31 (dk_at dksX2_wordHere_4 3 rfl rfl)
theorem dX2_wordHere_98 : decode cX2_wordHere 98 = .ok (.ldc2_w 447, 3) := dk_20 1 191 (dk_at dksX2_wordHere_4 4 rfl rfl)
theorem dX2_wordHere_101 : decode cX2_wordHere 101 = .ok (.lcmp, 1) := dk_148 (dk_at dksX2_wordHere_4 7 rfl rfl)
theorem dX2_wordHere_102 : decode cX2_wordHere 102 = .ok (.ifCond .ne 7, 3) := dk_154 0 7 (dk_at dksX2_wordHere_4 8 rfl rfl)
theorem dX2_wordHere_105 : decode cX2_wordHere 105 = .ok (.iconst 2, 1) := dk_5 (dk_at dksX2_wordHere_4 11 rfl rfl)
theorem dX2_wordHere_106 : decode cX2_wordHere 106 = .ok (.goto 79, 3) := dk_167 0 79 (dk_at dksX2_wordHere_4 12 rfl rfl)
theorem dX2_wordHere_109 : decode cX2_wordHere 109 = .ok (.lload_n 1, 1) := dk_31 (dk_at dksX2_wordHere_4 15 rfl rfl)
theorem dX2_wordHere_110 : decode cX2_wordHere 110 = .ok (.ldc2_w 449, 3) := dk_20 1 193 (dk_at dksX2_wordHere_4 16 rfl rfl)
theorem dX2_wordHere_113 : decode cX2_wordHere 113 = .ok (.lcmp, 1) := dk_148 (dk_at dksX2_wordHere_4 19 rfl rfl)
theorem dX2_wordHere_114 : decode cX2_wordHere 114 = .ok (.ifCond .ne 7, 3) := dk_154 0 7 (dk_at dksX2_wordHere_4 20 rfl rfl)
theorem dX2_wordHere_117 : decode cX2_wordHere 117 = .ok (.iconst 3, 1) := dk_6 (dk_at dksX2_wordHere_4 23 rfl rfl)
theorem dX2_wordHere_118 : decode cX2_wordHere 118 = .ok (.goto 67, 3) := dk_167 0 67 (dk_at dksX2_wordHere_5 0 rfl rfl)
theorem dX2_wordHere_121 : decode cX2_wordHere 121 = .ok (.lload_n 1, 1) := dk_31 (dk_at dksX2_wordHere_5 3 rfl rfl)
theorem dX2_wordHere_122 : decode cX2_wordHere 122 = .ok (.ldc2_w 451, 3) := dk_20 1 195 (dk_at dksX2_wordHere_5 4 rfl rfl)
theorem dX2_wordHere_125 : decode cX2_wordHere 125 = .ok (.lcmp, 1) := dk_148 (dk_at dksX2_wordHere_5 7 rfl rfl)
theorem dX2_wordHere_126 : decode cX2_wordHere 126 = .ok (.ifCond .ne 7, 3) := dk_154 0 7 (dk_at dksX2_wordHere_5 8 rfl rfl)
theorem dX2_wordHere_129 : decode cX2_wordHere 129 = .ok (.iconst 4, 1) := dk_7 (dk_at dksX2_wordHere_5 11 rfl rfl)
theorem dX2_wordHere_130 : decode cX2_wordHere 130 = .ok (.goto 55, 3) := dk_167 0 55 (dk_at dksX2_wordHere_5 12 rfl rfl)
theorem dX2_wordHere_133 : decode cX2_wordHere 133 = .ok (.lload_n 1, 1) := dk_31 (dk_at dksX2_wordHere_5 15 rfl rfl)
theorem dX2_wordHere_134 : decode cX2_wordHere 134 = .ok (.ldc2_w 453, 3) := dk_20 1 197 (dk_at dksX2_wordHere_5 16 rfl rfl)
theorem dX2_wordHere_137 : decode cX2_wordHere 137 = .ok (.lcmp, 1) := dk_148 (dk_at dksX2_wordHere_5 19 rfl rfl)
theorem dX2_wordHere_138 : decode cX2_wordHere 138 = .ok (.ifCond .ne 7, 3) := dk_154 0 7 (dk_at dksX2_wordHere_5 20 rfl rfl)
theorem dX2_wordHere_141 : decode cX2_wordHere 141 = .ok (.iconst 5, 1) := dk_8 (dk_at dksX2_wordHere_5 23 rfl rfl)
theorem dX2_wordHere_142 : decode cX2_wordHere 142 = .ok (.goto 43, 3) := dk_167 0 43 (dk_at dksX2_wordHere_6 0 rfl rfl)
theorem dX2_wordHere_145 : decode cX2_wordHere 145 = .ok (.lload_n 1, 1) := dk_31 (dk_at dksX2_wordHere_6 3 rfl rfl)
theorem dX2_wordHere_146 : decode cX2_wordHere 146 = .ok (.ldc2_w 455, 3) := dk_20 1 199 (dk_at dksX2_wordHere_6 4 rfl rfl)
theorem dX2_wordHere_149 : decode cX2_wordHere 149 = .ok (.lcmp, 1) := dk_148 (dk_at dksX2_wordHere_6 7 rfl rfl)
theorem dX2_wordHere_150 : decode cX2_wordHere 150 = .ok (.ifCond .ne 8, 3) := dk_154 0 8 (dk_at dksX2_wordHere_6 8 rfl rfl)
theorem dX2_wordHere_153 : decode cX2_wordHere 153 = .ok (.bipush 6, 2) := dk_16 6 (dk_at dksX2_wordHere_6 11 rfl rfl)
theorem dX2_wordHere_155 : decode cX2_wordHere 155 = .ok (.goto 30, 3) := dk_167 0 30 (dk_at dksX2_wordHere_6 13 rfl rfl)
theorem dX2_wordHere_158 : decode cX2_wordHere 158 = .ok (.lload_n 1, 1) := dk_31 (dk_at dksX2_wordHere_6 16 rfl rfl)
theorem dX2_wordHere_159 : decode cX2_wordHere 159 = .ok (.ldc2_w 457, 3) := dk_20 1 201 (dk_at dksX2_wordHere_6 17 rfl rfl)
theorem dX2_wordHere_162 : decode cX2_wordHere 162 = .ok (.lcmp, 1) := dk_148 (dk_at dksX2_wordHere_6 20 rfl rfl)
theorem dX2_wordHere_163 : decode cX2_wordHere 163 = .ok (.ifCond .ne 8, 3) := dk_154 0 8 (dk_at dksX2_wordHere_6 21 rfl rfl)
theorem dX2_wordHere_166 : decode cX2_wordHere 166 = .ok (.bipush 7, 2) := dk_16 7 (dk_at dksX2_wordHere_7 0 rfl rfl)
theorem dX2_wordHere_168 : decode cX2_wordHere 168 = .ok (.goto 17, 3) := dk_167 0 17 (dk_at dksX2_wordHere_7 2 rfl rfl)
theorem dX2_wordHere_171 : decode cX2_wordHere 171 = .ok (.lload_n 1, 1) := dk_31 (dk_at dksX2_wordHere_7 5 rfl rfl)
theorem dX2_wordHere_172 : decode cX2_wordHere 172 = .ok (.ldc2_w 459, 3) := dk_20 1 203 (dk_at dksX2_wordHere_7 6 rfl rfl)
theorem dX2_wordHere_175 : decode cX2_wordHere 175 = .ok (.lcmp, 1) := dk_148 (dk_at dksX2_wordHere_7 9 rfl rfl)
theorem dX2_wordHere_176 : decode cX2_wordHere 176 = .ok (.ifCond .ne 8, 3) := dk_154 0 8 (dk_at dksX2_wordHere_7 10 rfl rfl)
theorem dX2_wordHere_179 : decode cX2_wordHere 179 = .ok (.bipush 8, 2) := dk_16 8 (dk_at dksX2_wordHere_7 13 rfl rfl)
theorem dX2_wordHere_181 : decode cX2_wordHere 181 = .ok (.goto 4, 3) := dk_167 0 4 (dk_at dksX2_wordHere_7 15 rfl rfl)
theorem dX2_wordHere_184 : decode cX2_wordHere 184 = .ok (.iconst (-1), 1) := dk_2 (dk_at dksX2_wordHere_7 18 rfl rfl)
theorem dX2_wordHere_185 : decode cX2_wordHere 185 = .ok (.ireturn, 1) := dk_172 (dk_at dksX2_wordHere_7 19 rfl rfl)
abbrev cX2_corner : ByteArray := prog_18_method_87_code
def yX2_corner : MethodName := ⟨RX2, "corner", "(II)I"⟩
def dkwX2_corner_4 : List UInt8 := [29, 156, 0, 8, 16, 254, 167, 0, 4, 29, 172]
abbrev dktX2_corner_4 : List UInt8 := dkwX2_corner_4 ++ []
def dkwX2_corner_3 : List UInt8 := [162, 0, 20, 29, 155, 0, 16, 42, 27, 29, 182, 1, 215, 62, 132, 4, 1, 167, 255, 236, 28, 155, 0, 7]
abbrev dktX2_corner_3 : List UInt8 := dkwX2_corner_3 ++ dktX2_corner_4
def dkwX2_corner_2 : List UInt8 := [155, 0, 8, 21, 4, 167, 0, 4, 29, 62, 132, 4, 255, 167, 255, 229, 3, 54, 4, 21, 4, 28]
abbrev dktX2_corner_2 : List UInt8 := dkwX2_corner_2 ++ dktX2_corner_3
def dkwX2_corner_1 : List UInt8 := [180, 0, 158, 27, 46, 4, 100, 54, 4, 21, 4, 155, 0, 28, 42, 27, 21, 4, 182, 1, 208, 9, 148]
abbrev dktX2_corner_1 : List UInt8 := dkwX2_corner_1 ++ dktX2_corner_2
def dkwX2_corner_0 : List UInt8 := [27, 184, 1, 212, 154, 0, 5, 2, 172, 42, 180, 0, 155, 27, 46, 156, 0, 6, 16, 245, 172, 2, 62, 42]
abbrev dktX2_corner_0 : List UInt8 := dkwX2_corner_0 ++ dktX2_corner_1
theorem dksX2_corner_0 : cX2_corner.data.toList.drop 0 = dktX2_corner_0 := by decide +kernel
theorem dksX2_corner_1 : cX2_corner.data.toList.drop 24 = dktX2_corner_1 := dk_seg dksX2_corner_0 24 rfl rfl
theorem dksX2_corner_2 : cX2_corner.data.toList.drop 47 = dktX2_corner_2 := dk_seg dksX2_corner_1 23 rfl rfl
theorem dksX2_corner_3 : cX2_corner.data.toList.drop 69 = dktX2_corner_3 := dk_seg dksX2_corner_2 22 rfl rfl
theorem dksX2_corner_4 : cX2_corner.data.toList.drop 93 = dktX2_corner_4 := dk_seg dksX2_corner_3 24 rfl rfl
theorem dX2_corner_0 : decode cX2_corner 0 = .ok (.iload_n 1, 1) := dk_27 (dk_at dksX2_corner_0 0 rfl rfl)
theorem dX2_corner_1 : decode cX2_corner 1 = .ok (.invokestatic 468, 3) := dk_184 1 212 (dk_at dksX2_corner_0 1 rfl rfl)
theorem dX2_corner_4 : decode cX2_corner 4 = .ok (.ifCond .ne 5, 3) := dk_154 0 5 (dk_at dksX2_corner_0 4 rfl rfl)
theorem dX2_corner_7 : decode cX2_corner 7 = .ok (.iconst (-1), 1) := dk_2 (dk_at dksX2_corner_0 7 rfl rfl)
theorem dX2_corner_8 : decode cX2_corner 8 = .ok (.ireturn, 1) := dk_172 (dk_at dksX2_corner_0 8 rfl rfl)
theorem dX2_corner_9 : decode cX2_corner 9 = .ok (.aload_n 0, 1) := dk_42 (dk_at dksX2_corner_0 9 rfl rfl)
theorem dX2_corner_10 : decode cX2_corner 10 = .ok (.getfield 155, 3) := dk_180 0 155 (dk_at dksX2_corner_0 10 rfl rfl)
theorem dX2_corner_13 : decode cX2_corner 13 = .ok (.iload_n 1, 1) := dk_27 (dk_at dksX2_corner_0 13 rfl rfl)
theorem dX2_corner_14 : decode cX2_corner 14 = .ok (.iaload, 1) := dk_46 (dk_at dksX2_corner_0 14 rfl rfl)
theorem dX2_corner_15 : decode cX2_corner 15 = .ok (.ifCond .ge 6, 3) := dk_156 0 6 (dk_at dksX2_corner_0 15 rfl rfl)
theorem dX2_corner_18 : decode cX2_corner 18 = .ok (.bipush (-11), 2) := dk_16 245 (dk_at dksX2_corner_0 18 rfl rfl)
theorem dX2_corner_20 : decode cX2_corner 20 = .ok (.ireturn, 1) := dk_172 (dk_at dksX2_corner_0 20 rfl rfl)
theorem dX2_corner_21 : decode cX2_corner 21 = .ok (.iconst (-1), 1) := dk_2 (dk_at dksX2_corner_0 21 rfl rfl)
theorem dX2_corner_22 : decode cX2_corner 22 = .ok (.istore_n 3, 1) := dk_62 (dk_at dksX2_corner_0 22 rfl rfl)
theorem dX2_corner_23 : decode cX2_corner 23 = .ok (.aload_n 0, 1) := dk_42 (dk_at dksX2_corner_0 23 rfl rfl)
theorem dX2_corner_24 : decode cX2_corner 24 = .ok (.getfield 158, 3) := dk_180 0 158 (dk_at dksX2_corner_1 0 rfl rfl)
theorem dX2_corner_27 : decode cX2_corner 27 = .ok (.iload_n 1, 1) := dk_27 (dk_at dksX2_corner_1 3 rfl rfl)
theorem dX2_corner_28 : decode cX2_corner 28 = .ok (.iaload, 1) := dk_46 (dk_at dksX2_corner_1 4 rfl rfl)
theorem dX2_corner_29 : decode cX2_corner 29 = .ok (.iconst 1, 1) := dk_4 (dk_at dksX2_corner_1 5 rfl rfl)
theorem dX2_corner_30 : decode cX2_corner 30 = .ok (.isub, 1) := dk_100 (dk_at dksX2_corner_1 6 rfl rfl)
theorem dX2_corner_31 : decode cX2_corner 31 = .ok (.istore 4, 2) := dk_54 4 (dk_at dksX2_corner_1 7 rfl rfl)
theorem dX2_corner_33 : decode cX2_corner 33 = .ok (.iload 4, 2) := dk_21 4 (dk_at dksX2_corner_1 9 rfl rfl)
theorem dX2_corner_35 : decode cX2_corner 35 = .ok (.ifCond .lt 28, 3) := dk_155 0 28 (dk_at dksX2_corner_1 11 rfl rfl)
theorem dX2_corner_38 : decode cX2_corner 38 = .ok (.aload_n 0, 1) := dk_42 (dk_at dksX2_corner_1 14 rfl rfl)
theorem dX2_corner_39 : decode cX2_corner 39 = .ok (.iload_n 1, 1) := dk_27 (dk_at dksX2_corner_1 15 rfl rfl)
theorem dX2_corner_40 : decode cX2_corner 40 = .ok (.iload 4, 2) := dk_21 4 (dk_at dksX2_corner_1 16 rfl rfl)
theorem dX2_corner_42 : decode cX2_corner 42 = .ok (.invokevirtual 464, 3) := dk_182 1 208 (dk_at dksX2_corner_1 18 rfl rfl)
theorem dX2_corner_45 : decode cX2_corner 45 = .ok (.lconst 0, 1) := dk_9 (dk_at dksX2_corner_1 21 rfl rfl)
theorem dX2_corner_46 : decode cX2_corner 46 = .ok (.lcmp, 1) := dk_148 (dk_at dksX2_corner_1 22 rfl rfl)
theorem dX2_corner_47 : decode cX2_corner 47 = .ok (.ifCond .lt 8, 3) := dk_155 0 8 (dk_at dksX2_corner_2 0 rfl rfl)
theorem dX2_corner_50 : decode cX2_corner 50 = .ok (.iload 4, 2) := dk_21 4 (dk_at dksX2_corner_2 3 rfl rfl)
theorem dX2_corner_52 : decode cX2_corner 52 = .ok (.goto 4, 3) := dk_167 0 4 (dk_at dksX2_corner_2 5 rfl rfl)
theorem dX2_corner_55 : decode cX2_corner 55 = .ok (.iload_n 3, 1) := dk_29 (dk_at dksX2_corner_2 8 rfl rfl)
theorem dX2_corner_56 : decode cX2_corner 56 = .ok (.istore_n 3, 1) := dk_62 (dk_at dksX2_corner_2 9 rfl rfl)
theorem dX2_corner_57 : decode cX2_corner 57 = .ok (.iinc 4 (-1), 3) := dk_132 4 255 (dk_at dksX2_corner_2 10 rfl rfl)
theorem dX2_corner_60 : decode cX2_corner 60 = .ok (.goto (-27), 3) := dk_167 255 229 (dk_at dksX2_corner_2 13 rfl rfl)
theorem dX2_corner_63 : decode cX2_corner 63 = .ok (.iconst 0, 1) := dk_3 (dk_at dksX2_corner_2 16 rfl rfl)
theorem dX2_corner_64 : decode cX2_corner 64 = .ok (.istore 4, 2) := dk_54 4 (dk_at dksX2_corner_2 17 rfl rfl)
theorem dX2_corner_66 : decode cX2_corner 66 = .ok (.iload 4, 2) := dk_21 4 (dk_at dksX2_corner_2 19 rfl rfl)
theorem dX2_corner_68 : decode cX2_corner 68 = .ok (.iload_n 2, 1) := dk_28 (dk_at dksX2_corner_2 21 rfl rfl)
theorem dX2_corner_69 : decode cX2_corner 69 = .ok (.if_icmp .ge 20, 3) := dk_162 0 20 (dk_at dksX2_corner_3 0 rfl rfl)
theorem dX2_corner_72 : decode cX2_corner 72 = .ok (.iload_n 3, 1) := dk_29 (dk_at dksX2_corner_3 3 rfl rfl)
theorem dX2_corner_73 : decode cX2_corner 73 = .ok (.ifCond .lt 16, 3) := dk_155 0 16 (dk_at dksX2_corner_3 4 rfl rfl)
theorem dX2_corner_76 : decode cX2_corner 76 = .ok (.aload_n 0, 1) := dk_42 (dk_at dksX2_corner_3 7 rfl rfl)
theorem dX2_corner_77 : decode cX2_corner 77 = .ok (.iload_n 1, 1) := dk_27 (dk_at dksX2_corner_3 8 rfl rfl)
theorem dX2_corner_78 : decode cX2_corner 78 = .ok (.iload_n 3, 1) := dk_29 (dk_at dksX2_corner_3 9 rfl rfl)
theorem dX2_corner_79 : decode cX2_corner 79 = .ok (.invokevirtual 471, 3) := dk_182 1 215 (dk_at dksX2_corner_3 10 rfl rfl)
theorem dX2_corner_82 : decode cX2_corner 82 = .ok (.istore_n 3, 1) := dk_62 (dk_at dksX2_corner_3 13 rfl rfl)
theorem dX2_corner_83 : decode cX2_corner 83 = .ok (.iinc 4 1, 3) := dk_132 4 1 (dk_at dksX2_corner_3 14 rfl rfl)
theorem dX2_corner_86 : decode cX2_corner 86 = .ok (.goto (-20), 3) := dk_167 255 236 (dk_at dksX2_corner_3 17 rfl rfl)
theorem dX2_corner_89 : decode cX2_corner 89 = .ok (.iload_n 2, 1) := dk_28 (dk_at dksX2_corner_3 20 rfl rfl)
theorem dX2_corner_90 : decode cX2_corner 90 = .ok (.ifCond .lt 7, 3) := dk_155 0 7 (dk_at dksX2_corner_3 21 rfl rfl)
theorem dX2_corner_93 : decode cX2_corner 93 = .ok (.iload_n 3, 1) := dk_29 (dk_at dksX2_corner_4 0 rfl rfl)
theorem dX2_corner_94 : decode cX2_corner 94 = .ok (.ifCond .ge 8, 3) := dk_156 0 8 (dk_at dksX2_corner_4 1 rfl rfl)
theorem dX2_corner_97 : decode cX2_corner 97 = .ok (.bipush (-2), 2) := dk_16 254 (dk_at dksX2_corner_4 4 rfl rfl)
theorem dX2_corner_99 : decode cX2_corner 99 = .ok (.goto 4, 3) := dk_167 0 4 (dk_at dksX2_corner_4 6 rfl rfl)
theorem dX2_corner_102 : decode cX2_corner 102 = .ok (.iload_n 3, 1) := dk_29 (dk_at dksX2_corner_4 9 rfl rfl)
theorem dX2_corner_103 : decode cX2_corner 103 = .ok (.ireturn, 1) := dk_172 (dk_at dksX2_corner_4 10 rfl rfl)
abbrev cX2_isSheet : ByteArray := prog_18_method_84_code
def yX2_isSheet : MethodName := ⟨RX2, "isSheet", "(I)Z"⟩
def dkwX2_isSheet_0 : List UInt8 := [26, 155, 0, 12, 26, 7, 162, 0, 7, 4, 167, 0, 4, 3, 172]
abbrev dktX2_isSheet_0 : List UInt8 := dkwX2_isSheet_0 ++ []
theorem dksX2_isSheet_0 : cX2_isSheet.data.toList.drop 0 = dktX2_isSheet_0 := by decide +kernel
theorem dX2_isSheet_0 : decode cX2_isSheet 0 = .ok (.iload_n 0, 1) := dk_26 (dk_at dksX2_isSheet_0 0 rfl rfl)
theorem dX2_isSheet_1 : decode cX2_isSheet 1 = .ok (.ifCond .lt 12, 3) := dk_155 0 12 (dk_at dksX2_isSheet_0 1 rfl rfl)
theorem dX2_isSheet_4 : decode cX2_isSheet 4 = .ok (.iload_n 0, 1) := dk_26 (dk_at dksX2_isSheet_0 4 rfl rfl)
theorem dX2_isSheet_5 : decode cX2_isSheet 5 = .ok (.iconst 4, 1) := dk_7 (dk_at dksX2_isSheet_0 5 rfl rfl)
theorem dX2_isSheet_6 : decode cX2_isSheet 6 = .ok (.if_icmp .ge 7, 3) := dk_162 0 7 (dk_at dksX2_isSheet_0 6 rfl rfl)
theorem dX2_isSheet_9 : decode cX2_isSheet 9 = .ok (.iconst 1, 1) := dk_4 (dk_at dksX2_isSheet_0 9 rfl rfl)
theorem dX2_isSheet_10 : decode cX2_isSheet 10 = .ok (.goto 4, 3) := dk_167 0 4 (dk_at dksX2_isSheet_0 10 rfl rfl)
theorem dX2_isSheet_13 : decode cX2_isSheet 13 = .ok (.iconst 0, 1) := dk_3 (dk_at dksX2_isSheet_0 13 rfl rfl)
theorem dX2_isSheet_14 : decode cX2_isSheet 14 = .ok (.ireturn, 1) := dk_172 (dk_at dksX2_isSheet_0 14 rfl rfl)
abbrev cX2_item0 : ByteArray := prog_18_method_85_code
def yX2_item0 : MethodName := ⟨RX2, "item0", "(II)J"⟩
def dkwX2_item0_0 : List UInt8 := [42, 180, 0, 161, 16, 40, 27, 104, 28, 96, 46, 133, 173]
abbrev dktX2_item0_0 : List UInt8 := dkwX2_item0_0 ++ []
theorem dksX2_item0_0 : cX2_item0.data.toList.drop 0 = dktX2_item0_0 := by decide +kernel
theorem dX2_item0_0 : decode cX2_item0 0 = .ok (.aload_n 0, 1) := dk_42 (dk_at dksX2_item0_0 0 rfl rfl)
theorem dX2_item0_1 : decode cX2_item0 1 = .ok (.getfield 161, 3) := dk_180 0 161 (dk_at dksX2_item0_0 1 rfl rfl)
theorem dX2_item0_4 : decode cX2_item0 4 = .ok (.bipush 40, 2) := dk_16 40 (dk_at dksX2_item0_0 4 rfl rfl)
theorem dX2_item0_6 : decode cX2_item0 6 = .ok (.iload_n 1, 1) := dk_27 (dk_at dksX2_item0_0 6 rfl rfl)
theorem dX2_item0_7 : decode cX2_item0 7 = .ok (.imul, 1) := dk_104 (dk_at dksX2_item0_0 7 rfl rfl)
theorem dX2_item0_8 : decode cX2_item0 8 = .ok (.iload_n 2, 1) := dk_28 (dk_at dksX2_item0_0 8 rfl rfl)
theorem dX2_item0_9 : decode cX2_item0 9 = .ok (.iadd, 1) := dk_96 (dk_at dksX2_item0_0 9 rfl rfl)
theorem dX2_item0_10 : decode cX2_item0 10 = .ok (.iaload, 1) := dk_46 (dk_at dksX2_item0_0 10 rfl rfl)
theorem dX2_item0_11 : decode cX2_item0 11 = .ok (.i2l, 1) := dk_133 (dk_at dksX2_item0_0 11 rfl rfl)
theorem dX2_item0_12 : decode cX2_item0 12 = .ok (.lreturn, 1) := dk_173 (dk_at dksX2_item0_0 12 rfl rfl)
abbrev cX2_goesOn : ByteArray := prog_18_method_86_code
def yX2_goesOn : MethodName := ⟨RX2, "goesOn", "(II)I"⟩
def dkwX2_goesOn_4 : List UInt8 := [167, 0, 4, 29, 62, 132, 4, 1, 167, 255, 161, 29, 172]
abbrev dktX2_goesOn_4 : List UInt8 := dkwX2_goesOn_4 ++ []
def dkwX2_goesOn_3 : List UInt8 := [21, 4, 28, 100, 133, 105, 148, 157, 0, 7, 4, 167, 0, 4, 3, 54, 7, 21, 7, 153, 0, 8, 21, 4]
abbrev dktX2_goesOn_3 : List UInt8 := dkwX2_goesOn_3 ++ dktX2_goesOn_4
def dkwX2_goesOn_2 : List UInt8 := [29, 155, 0, 33, 22, 5, 29, 28, 100, 133, 105, 42, 27, 29, 182, 1, 208, 42, 27, 28, 182, 1, 208, 101]
abbrev dktX2_goesOn_2 : List UInt8 := dkwX2_goesOn_2 ++ dktX2_goesOn_3
def dkwX2_goesOn_1 : List UInt8 := [182, 1, 208, 9, 148, 155, 0, 72, 42, 27, 21, 4, 182, 1, 208, 42, 27, 28, 182, 1, 208, 101, 55, 5]
abbrev dktX2_goesOn_1 : List UInt8 := dkwX2_goesOn_1 ++ dktX2_goesOn_2
def dkwX2_goesOn_0 : List UInt8 := [2, 62, 28, 4, 96, 54, 4, 21, 4, 42, 180, 0, 158, 27, 46, 162, 0, 90, 42, 27, 21, 4]
abbrev dktX2_goesOn_0 : List UInt8 := dkwX2_goesOn_0 ++ dktX2_goesOn_1
theorem dksX2_goesOn_0 : cX2_goesOn.data.toList.drop 0 = dktX2_goesOn_0 := by decide +kernel
theorem dksX2_goesOn_1 : cX2_goesOn.data.toList.drop 22 = dktX2_goesOn_1 := dk_seg dksX2_goesOn_0 22 rfl rfl
theorem dksX2_goesOn_2 : cX2_goesOn.data.toList.drop 46 = dktX2_goesOn_2 := dk_seg dksX2_goesOn_1 24 rfl rfl
theorem dksX2_goesOn_3 : cX2_goesOn.data.toList.drop 70 = dktX2_goesOn_3 := dk_seg dksX2_goesOn_2 24 rfl rfl
theorem dksX2_goesOn_4 : cX2_goesOn.data.toList.drop 94 = dktX2_goesOn_4 := dk_seg dksX2_goesOn_3 24 rfl rfl
theorem dX2_goesOn_0 : decode cX2_goesOn 0 = .ok (.iconst (-1), 1) := dk_2 (dk_at dksX2_goesOn_0 0 rfl rfl)
theorem dX2_goesOn_1 : decode cX2_goesOn 1 = .ok (.istore_n 3, 1) := dk_62 (dk_at dksX2_goesOn_0 1 rfl rfl)
theorem dX2_goesOn_2 : decode cX2_goesOn 2 = .ok (.iload_n 2, 1) := dk_28 (dk_at dksX2_goesOn_0 2 rfl rfl)
theorem dX2_goesOn_3 : decode cX2_goesOn 3 = .ok (.iconst 1, 1) := dk_4 (dk_at dksX2_goesOn_0 3 rfl rfl)
theorem dX2_goesOn_4 : decode cX2_goesOn 4 = .ok (.iadd, 1) := dk_96 (dk_at dksX2_goesOn_0 4 rfl rfl)
theorem dX2_goesOn_5 : decode cX2_goesOn 5 = .ok (.istore 4, 2) := dk_54 4 (dk_at dksX2_goesOn_0 5 rfl rfl)
theorem dX2_goesOn_7 : decode cX2_goesOn 7 = .ok (.iload 4, 2) := dk_21 4 (dk_at dksX2_goesOn_0 7 rfl rfl)
theorem dX2_goesOn_9 : decode cX2_goesOn 9 = .ok (.aload_n 0, 1) := dk_42 (dk_at dksX2_goesOn_0 9 rfl rfl)
theorem dX2_goesOn_10 : decode cX2_goesOn 10 = .ok (.getfield 158, 3) := dk_180 0 158 (dk_at dksX2_goesOn_0 10 rfl rfl)
theorem dX2_goesOn_13 : decode cX2_goesOn 13 = .ok (.iload_n 1, 1) := dk_27 (dk_at dksX2_goesOn_0 13 rfl rfl)
theorem dX2_goesOn_14 : decode cX2_goesOn 14 = .ok (.iaload, 1) := dk_46 (dk_at dksX2_goesOn_0 14 rfl rfl)
theorem dX2_goesOn_15 : decode cX2_goesOn 15 = .ok (.if_icmp .ge 90, 3) := dk_162 0 90 (dk_at dksX2_goesOn_0 15 rfl rfl)
theorem dX2_goesOn_18 : decode cX2_goesOn 18 = .ok (.aload_n 0, 1) := dk_42 (dk_at dksX2_goesOn_0 18 rfl rfl)
theorem dX2_goesOn_19 : decode cX2_goesOn 19 = .ok (.iload_n 1, 1) := dk_27 (dk_at dksX2_goesOn_0 19 rfl rfl)
theorem dX2_goesOn_20 : decode cX2_goesOn 20 = .ok (.iload 4, 2) := dk_21 4 (dk_at dksX2_goesOn_0 20 rfl rfl)
theorem dX2_goesOn_22 : decode cX2_goesOn 22 = .ok (.invokevirtual 464, 3) := dk_182 1 208 (dk_at dksX2_goesOn_1 0 rfl rfl)
theorem dX2_goesOn_25 : decode cX2_goesOn 25 = .ok (.lconst 0, 1) := dk_9 (dk_at dksX2_goesOn_1 3 rfl rfl)
theorem dX2_goesOn_26 : decode cX2_goesOn 26 = .ok (.lcmp, 1) := dk_148 (dk_at dksX2_goesOn_1 4 rfl rfl)
theorem dX2_goesOn_27 : decode cX2_goesOn 27 = .ok (.ifCond .lt 72, 3) := dk_155 0 72 (dk_at dksX2_goesOn_1 5 rfl rfl)
theorem dX2_goesOn_30 : decode cX2_goesOn 30 = .ok (.aload_n 0, 1) := dk_42 (dk_at dksX2_goesOn_1 8 rfl rfl)
theorem dX2_goesOn_31 : decode cX2_goesOn 31 = .ok (.iload_n 1, 1) := dk_27 (dk_at dksX2_goesOn_1 9 rfl rfl)
theorem dX2_goesOn_32 : decode cX2_goesOn 32 = .ok (.iload 4, 2) := dk_21 4 (dk_at dksX2_goesOn_1 10 rfl rfl)
theorem dX2_goesOn_34 : decode cX2_goesOn 34 = .ok (.invokevirtual 464, 3) := dk_182 1 208 (dk_at dksX2_goesOn_1 12 rfl rfl)
theorem dX2_goesOn_37 : decode cX2_goesOn 37 = .ok (.aload_n 0, 1) := dk_42 (dk_at dksX2_goesOn_1 15 rfl rfl)
theorem dX2_goesOn_38 : decode cX2_goesOn 38 = .ok (.iload_n 1, 1) := dk_27 (dk_at dksX2_goesOn_1 16 rfl rfl)
theorem dX2_goesOn_39 : decode cX2_goesOn 39 = .ok (.iload_n 2, 1) := dk_28 (dk_at dksX2_goesOn_1 17 rfl rfl)
theorem dX2_goesOn_40 : decode cX2_goesOn 40 = .ok (.invokevirtual 464, 3) := dk_182 1 208 (dk_at dksX2_goesOn_1 18 rfl rfl)
theorem dX2_goesOn_43 : decode cX2_goesOn 43 = .ok (.lsub, 1) := dk_101 (dk_at dksX2_goesOn_1 21 rfl rfl)
theorem dX2_goesOn_44 : decode cX2_goesOn 44 = .ok (.lstore 5, 2) := dk_55 5 (dk_at dksX2_goesOn_1 22 rfl rfl)
theorem dX2_goesOn_46 : decode cX2_goesOn 46 = .ok (.iload_n 3, 1) := dk_29 (dk_at dksX2_goesOn_2 0 rfl rfl)
theorem dX2_goesOn_47 : decode cX2_goesOn 47 = .ok (.ifCond .lt 33, 3) := dk_155 0 33 (dk_at dksX2_goesOn_2 1 rfl rfl)
theorem dX2_goesOn_50 : decode cX2_goesOn 50 = .ok (.lload 5, 2) := dk_22 5 (dk_at dksX2_goesOn_2 4 rfl rfl)
theorem dX2_goesOn_52 : decode cX2_goesOn 52 = .ok (.iload_n 3, 1) := dk_29 (dk_at dksX2_goesOn_2 6 rfl rfl)
theorem dX2_goesOn_53 : decode cX2_goesOn 53 = .ok (.iload_n 2, 1) := dk_28 (dk_at dksX2_goesOn_2 7 rfl rfl)
theorem dX2_goesOn_54 : decode cX2_goesOn 54 = .ok (.isub, 1) := dk_100 (dk_at dksX2_goesOn_2 8 rfl rfl)
theorem dX2_goesOn_55 : decode cX2_goesOn 55 = .ok (.i2l, 1) := dk_133 (dk_at dksX2_goesOn_2 9 rfl rfl)
theorem dX2_goesOn_56 : decode cX2_goesOn 56 = .ok (.lmul, 1) := dk_105 (dk_at dksX2_goesOn_2 10 rfl rfl)
theorem dX2_goesOn_57 : decode cX2_goesOn 57 = .ok (.aload_n 0, 1) := dk_42 (dk_at dksX2_goesOn_2 11 rfl rfl)
theorem dX2_goesOn_58 : decode cX2_goesOn 58 = .ok (.iload_n 1, 1) := dk_27 (dk_at dksX2_goesOn_2 12 rfl rfl)
theorem dX2_goesOn_59 : decode cX2_goesOn 59 = .ok (.iload_n 3, 1) := dk_29 (dk_at dksX2_goesOn_2 13 rfl rfl)
theorem dX2_goesOn_60 : decode cX2_goesOn 60 = .ok (.invokevirtual 464, 3) := dk_182 1 208 (dk_at dksX2_goesOn_2 14 rfl rfl)
theorem dX2_goesOn_63 : decode cX2_goesOn 63 = .ok (.aload_n 0, 1) := dk_42 (dk_at dksX2_goesOn_2 17 rfl rfl)
theorem dX2_goesOn_64 : decode cX2_goesOn 64 = .ok (.iload_n 1, 1) := dk_27 (dk_at dksX2_goesOn_2 18 rfl rfl)
theorem dX2_goesOn_65 : decode cX2_goesOn 65 = .ok (.iload_n 2, 1) := dk_28 (dk_at dksX2_goesOn_2 19 rfl rfl)
theorem dX2_goesOn_66 : decode cX2_goesOn 66 = .ok (.invokevirtual 464, 3) := dk_182 1 208 (dk_at dksX2_goesOn_2 20 rfl rfl)
theorem dX2_goesOn_69 : decode cX2_goesOn 69 = .ok (.lsub, 1) := dk_101 (dk_at dksX2_goesOn_2 23 rfl rfl)
theorem dX2_goesOn_70 : decode cX2_goesOn 70 = .ok (.iload 4, 2) := dk_21 4 (dk_at dksX2_goesOn_3 0 rfl rfl)
theorem dX2_goesOn_72 : decode cX2_goesOn 72 = .ok (.iload_n 2, 1) := dk_28 (dk_at dksX2_goesOn_3 2 rfl rfl)
theorem dX2_goesOn_73 : decode cX2_goesOn 73 = .ok (.isub, 1) := dk_100 (dk_at dksX2_goesOn_3 3 rfl rfl)
theorem dX2_goesOn_74 : decode cX2_goesOn 74 = .ok (.i2l, 1) := dk_133 (dk_at dksX2_goesOn_3 4 rfl rfl)
theorem dX2_goesOn_75 : decode cX2_goesOn 75 = .ok (.lmul, 1) := dk_105 (dk_at dksX2_goesOn_3 5 rfl rfl)
theorem dX2_goesOn_76 : decode cX2_goesOn 76 = .ok (.lcmp, 1) := dk_148 (dk_at dksX2_goesOn_3 6 rfl rfl)
theorem dX2_goesOn_77 : decode cX2_goesOn 77 = .ok (.ifCond .gt 7, 3) := dk_157 0 7 (dk_at dksX2_goesOn_3 7 rfl rfl)
theorem dX2_goesOn_80 : decode cX2_goesOn 80 = .ok (.iconst 1, 1) := dk_4 (dk_at dksX2_goesOn_3 10 rfl rfl)
theorem dX2_goesOn_81 : decode cX2_goesOn 81 = .ok (.goto 4, 3) := dk_167 0 4 (dk_at dksX2_goesOn_3 11 rfl rfl)
theorem dX2_goesOn_84 : decode cX2_goesOn 84 = .ok (.iconst 0, 1) := dk_3 (dk_at dksX2_goesOn_3 14 rfl rfl)
theorem dX2_goesOn_85 : decode cX2_goesOn 85 = .ok (.istore 7, 2) := dk_54 7 (dk_at dksX2_goesOn_3 15 rfl rfl)
theorem dX2_goesOn_87 : decode cX2_goesOn 87 = .ok (.iload 7, 2) := dk_21 7 (dk_at dksX2_goesOn_3 17 rfl rfl)
theorem dX2_goesOn_89 : decode cX2_goesOn 89 = .ok (.ifCond .eq 8, 3) := dk_153 0 8 (dk_at dksX2_goesOn_3 19 rfl rfl)
theorem dX2_goesOn_92 : decode cX2_goesOn 92 = .ok (.iload 4, 2) := dk_21 4 (dk_at dksX2_goesOn_3 22 rfl rfl)
theorem dX2_goesOn_94 : decode cX2_goesOn 94 = .ok (.goto 4, 3) := dk_167 0 4 (dk_at dksX2_goesOn_4 0 rfl rfl)
theorem dX2_goesOn_97 : decode cX2_goesOn 97 = .ok (.iload_n 3, 1) := dk_29 (dk_at dksX2_goesOn_4 3 rfl rfl)
theorem dX2_goesOn_98 : decode cX2_goesOn 98 = .ok (.istore_n 3, 1) := dk_62 (dk_at dksX2_goesOn_4 4 rfl rfl)
theorem dX2_goesOn_99 : decode cX2_goesOn 99 = .ok (.iinc 4 1, 3) := dk_132 4 1 (dk_at dksX2_goesOn_4 5 rfl rfl)
theorem dX2_goesOn_102 : decode cX2_goesOn 102 = .ok (.goto (-95), 3) := dk_167 255 161 (dk_at dksX2_goesOn_4 8 rfl rfl)
theorem dX2_goesOn_105 : decode cX2_goesOn 105 = .ok (.iload_n 3, 1) := dk_29 (dk_at dksX2_goesOn_4 11 rfl rfl)
theorem dX2_goesOn_106 : decode cX2_goesOn 106 = .ok (.ireturn, 1) := dk_172 (dk_at dksX2_goesOn_4 12 rfl rfl)
abbrev cX2_slope : ByteArray := prog_18_method_89_code
def yX2_slope : MethodName := ⟨RX2, "slope", "(IIII)J"⟩
def dkwX2_slope_2 : List UInt8 := [154, 0, 11, 22, 5, 22, 7, 109, 167, 0, 8, 22, 5, 22, 7, 113, 173]
abbrev dktX2_slope_2 : List UInt8 := dkwX2_slope_2 ++ []
def dkwX2_slope_1 : List UInt8 := [173, 42, 27, 28, 182, 1, 208, 42, 27, 29, 182, 1, 208, 101, 55, 5, 29, 28, 100, 133, 55, 7, 21, 4]
abbrev dktX2_slope_1 : List UInt8 := dkwX2_slope_1 ++ dktX2_slope_2
def dkwX2_slope_0 : List UInt8 := [42, 27, 28, 29, 182, 1, 218, 154, 0, 14, 21, 4, 133, 9, 10, 184, 0, 193, 154, 0, 7, 20, 0, 246]
abbrev dktX2_slope_0 : List UInt8 := dkwX2_slope_0 ++ dktX2_slope_1
theorem dksX2_slope_0 : cX2_slope.data.toList.drop 0 = dktX2_slope_0 := by decide +kernel
theorem dksX2_slope_1 : cX2_slope.data.toList.drop 24 = dktX2_slope_1 := dk_seg dksX2_slope_0 24 rfl rfl
theorem dksX2_slope_2 : cX2_slope.data.toList.drop 48 = dktX2_slope_2 := dk_seg dksX2_slope_1 24 rfl rfl
theorem dX2_slope_0 : decode cX2_slope 0 = .ok (.aload_n 0, 1) := dk_42 (dk_at dksX2_slope_0 0 rfl rfl)
theorem dX2_slope_1 : decode cX2_slope 1 = .ok (.iload_n 1, 1) := dk_27 (dk_at dksX2_slope_0 1 rfl rfl)
theorem dX2_slope_2 : decode cX2_slope 2 = .ok (.iload_n 2, 1) := dk_28 (dk_at dksX2_slope_0 2 rfl rfl)
theorem dX2_slope_3 : decode cX2_slope 3 = .ok (.iload_n 3, 1) := dk_29 (dk_at dksX2_slope_0 3 rfl rfl)
theorem dX2_slope_4 : decode cX2_slope 4 = .ok (.invokevirtual 474, 3) := dk_182 1 218 (dk_at dksX2_slope_0 4 rfl rfl)
theorem dX2_slope_7 : decode cX2_slope 7 = .ok (.ifCond .ne 14, 3) := dk_154 0 14 (dk_at dksX2_slope_0 7 rfl rfl)
theorem dX2_slope_10 : decode cX2_slope 10 = .ok (.iload 4, 2) := dk_21 4 (dk_at dksX2_slope_0 10 rfl rfl)
theorem dX2_slope_12 : decode cX2_slope 12 = .ok (.i2l, 1) := dk_133 (dk_at dksX2_slope_0 12 rfl rfl)
theorem dX2_slope_13 : decode cX2_slope 13 = .ok (.lconst 0, 1) := dk_9 (dk_at dksX2_slope_0 13 rfl rfl)
theorem dX2_slope_14 : decode cX2_slope 14 = .ok (.lconst 1, 1) := dk_10 (dk_at dksX2_slope_0 14 rfl rfl)
theorem dX2_slope_15 : decode cX2_slope 15 = .ok (.invokestatic 193, 3) := dk_184 0 193 (dk_at dksX2_slope_0 15 rfl rfl)
theorem dX2_slope_18 : decode cX2_slope 18 = .ok (.ifCond .ne 7, 3) := dk_154 0 7 (dk_at dksX2_slope_0 18 rfl rfl)
theorem dX2_slope_21 : decode cX2_slope 21 = .ok (.ldc2_w 246, 3) := dk_20 0 246 (dk_at dksX2_slope_0 21 rfl rfl)
theorem dX2_slope_24 : decode cX2_slope 24 = .ok (.lreturn, 1) := dk_173 (dk_at dksX2_slope_1 0 rfl rfl)
theorem dX2_slope_25 : decode cX2_slope 25 = .ok (.aload_n 0, 1) := dk_42 (dk_at dksX2_slope_1 1 rfl rfl)
theorem dX2_slope_26 : decode cX2_slope 26 = .ok (.iload_n 1, 1) := dk_27 (dk_at dksX2_slope_1 2 rfl rfl)
theorem dX2_slope_27 : decode cX2_slope 27 = .ok (.iload_n 2, 1) := dk_28 (dk_at dksX2_slope_1 3 rfl rfl)
theorem dX2_slope_28 : decode cX2_slope 28 = .ok (.invokevirtual 464, 3) := dk_182 1 208 (dk_at dksX2_slope_1 4 rfl rfl)
theorem dX2_slope_31 : decode cX2_slope 31 = .ok (.aload_n 0, 1) := dk_42 (dk_at dksX2_slope_1 7 rfl rfl)
theorem dX2_slope_32 : decode cX2_slope 32 = .ok (.iload_n 1, 1) := dk_27 (dk_at dksX2_slope_1 8 rfl rfl)
theorem dX2_slope_33 : decode cX2_slope 33 = .ok (.iload_n 3, 1) := dk_29 (dk_at dksX2_slope_1 9 rfl rfl)
theorem dX2_slope_34 : decode cX2_slope 34 = .ok (.invokevirtual 464, 3) := dk_182 1 208 (dk_at dksX2_slope_1 10 rfl rfl)
theorem dX2_slope_37 : decode cX2_slope 37 = .ok (.lsub, 1) := dk_101 (dk_at dksX2_slope_1 13 rfl rfl)
theorem dX2_slope_38 : decode cX2_slope 38 = .ok (.lstore 5, 2) := dk_55 5 (dk_at dksX2_slope_1 14 rfl rfl)
theorem dX2_slope_40 : decode cX2_slope 40 = .ok (.iload_n 3, 1) := dk_29 (dk_at dksX2_slope_1 16 rfl rfl)
theorem dX2_slope_41 : decode cX2_slope 41 = .ok (.iload_n 2, 1) := dk_28 (dk_at dksX2_slope_1 17 rfl rfl)
theorem dX2_slope_42 : decode cX2_slope 42 = .ok (.isub, 1) := dk_100 (dk_at dksX2_slope_1 18 rfl rfl)
theorem dX2_slope_43 : decode cX2_slope 43 = .ok (.i2l, 1) := dk_133 (dk_at dksX2_slope_1 19 rfl rfl)
theorem dX2_slope_44 : decode cX2_slope 44 = .ok (.lstore 7, 2) := dk_55 7 (dk_at dksX2_slope_1 20 rfl rfl)
theorem dX2_slope_46 : decode cX2_slope 46 = .ok (.iload 4, 2) := dk_21 4 (dk_at dksX2_slope_1 22 rfl rfl)
theorem dX2_slope_48 : decode cX2_slope 48 = .ok (.ifCond .ne 11, 3) := dk_154 0 11 (dk_at dksX2_slope_2 0 rfl rfl)
theorem dX2_slope_51 : decode cX2_slope 51 = .ok (.lload 5, 2) := dk_22 5 (dk_at dksX2_slope_2 3 rfl rfl)
theorem dX2_slope_53 : decode cX2_slope 53 = .ok (.lload 7, 2) := dk_22 7 (dk_at dksX2_slope_2 5 rfl rfl)
theorem dX2_slope_55 : decode cX2_slope 55 = .ok (.ldiv, 1) := dk_109 (dk_at dksX2_slope_2 7 rfl rfl)
theorem dX2_slope_56 : decode cX2_slope 56 = .ok (.goto 8, 3) := dk_167 0 8 (dk_at dksX2_slope_2 8 rfl rfl)
theorem dX2_slope_59 : decode cX2_slope 59 = .ok (.lload 5, 2) := dk_22 5 (dk_at dksX2_slope_2 11 rfl rfl)
theorem dX2_slope_61 : decode cX2_slope 61 = .ok (.lload 7, 2) := dk_22 7 (dk_at dksX2_slope_2 13 rfl rfl)
theorem dX2_slope_63 : decode cX2_slope 63 = .ok (.lrem, 1) := dk_113 (dk_at dksX2_slope_2 15 rfl rfl)
theorem dX2_slope_64 : decode cX2_slope 64 = .ok (.lreturn, 1) := dk_173 (dk_at dksX2_slope_2 16 rfl rfl)
abbrev cX2_unasked : ByteArray := prog_18_method_88_code
def yX2_unasked : MethodName := ⟨RX2, "unasked", "(III)I"⟩
def dkwX2_unasked_3 : List UInt8 := [167, 0, 14, 28, 29, 160, 0, 8, 16, 241, 167, 0, 4, 3, 172]
abbrev dktX2_unasked_3 : List UInt8 := dkwX2_unasked_3 ++ []
def dkwX2_unasked_2 : List UInt8 := [4, 100, 133, 184, 0, 193, 153, 0, 7, 4, 167, 0, 4, 3, 54, 4, 21, 4, 154, 0, 8, 16, 244]
abbrev dktX2_unasked_2 : List UInt8 := dkwX2_unasked_2 ++ dktX2_unasked_3
def dkwX2_unasked_1 : List UInt8 := [42, 180, 0, 158, 27, 46, 4, 100, 133, 184, 0, 193, 153, 0, 25, 29, 133, 9, 42, 180, 0, 158, 27, 46]
abbrev dktX2_unasked_1 : List UInt8 := dkwX2_unasked_1 ++ dktX2_unasked_2
def dkwX2_unasked_0 : List UInt8 := [27, 184, 1, 212, 154, 0, 5, 2, 172, 42, 180, 0, 155, 27, 46, 156, 0, 6, 16, 245, 172, 28, 133, 9]
abbrev dktX2_unasked_0 : List UInt8 := dkwX2_unasked_0 ++ dktX2_unasked_1
theorem dksX2_unasked_0 : cX2_unasked.data.toList.drop 0 = dktX2_unasked_0 := by decide +kernel
theorem dksX2_unasked_1 : cX2_unasked.data.toList.drop 24 = dktX2_unasked_1 := dk_seg dksX2_unasked_0 24 rfl rfl
theorem dksX2_unasked_2 : cX2_unasked.data.toList.drop 48 = dktX2_unasked_2 := dk_seg dksX2_unasked_1 24 rfl rfl
theorem dksX2_unasked_3 : cX2_unasked.data.toList.drop 71 = dktX2_unasked_3 := dk_seg dksX2_unasked_2 23 rfl rfl
theorem dX2_unasked_0 : decode cX2_unasked 0 = .ok (.iload_n 1, 1) := dk_27 (dk_at dksX2_unasked_0 0 rfl rfl)
theorem dX2_unasked_1 : decode cX2_unasked 1 = .ok (.invokestatic 468, 3) := dk_184 1 212 (dk_at dksX2_unasked_0 1 rfl rfl)
theorem dX2_unasked_4 : decode cX2_unasked 4 = .ok (.ifCond .ne 5, 3) := dk_154 0 5 (dk_at dksX2_unasked_0 4 rfl rfl)
theorem dX2_unasked_7 : decode cX2_unasked 7 = .ok (.iconst (-1), 1) := dk_2 (dk_at dksX2_unasked_0 7 rfl rfl)
theorem dX2_unasked_8 : decode cX2_unasked 8 = .ok (.ireturn, 1) := dk_172 (dk_at dksX2_unasked_0 8 rfl rfl)
theorem dX2_unasked_9 : decode cX2_unasked 9 = .ok (.aload_n 0, 1) := dk_42 (dk_at dksX2_unasked_0 9 rfl rfl)
theorem dX2_unasked_10 : decode cX2_unasked 10 = .ok (.getfield 155, 3) := dk_180 0 155 (dk_at dksX2_unasked_0 10 rfl rfl)
theorem dX2_unasked_13 : decode cX2_unasked 13 = .ok (.iload_n 1, 1) := dk_27 (dk_at dksX2_unasked_0 13 rfl rfl)
theorem dX2_unasked_14 : decode cX2_unasked 14 = .ok (.iaload, 1) := dk_46 (dk_at dksX2_unasked_0 14 rfl rfl)
theorem dX2_unasked_15 : decode cX2_unasked 15 = .ok (.ifCond .ge 6, 3) := dk_156 0 6 (dk_at dksX2_unasked_0 15 rfl rfl)
theorem dX2_unasked_18 : decode cX2_unasked 18 = .ok (.bipush (-11), 2) := dk_16 245 (dk_at dksX2_unasked_0 18 rfl rfl)
theorem dX2_unasked_20 : decode cX2_unasked 20 = .ok (.ireturn, 1) := dk_172 (dk_at dksX2_unasked_0 20 rfl rfl)
theorem dX2_unasked_21 : decode cX2_unasked 21 = .ok (.iload_n 2, 1) := dk_28 (dk_at dksX2_unasked_0 21 rfl rfl)
theorem dX2_unasked_22 : decode cX2_unasked 22 = .ok (.i2l, 1) := dk_133 (dk_at dksX2_unasked_0 22 rfl rfl)
theorem dX2_unasked_23 : decode cX2_unasked 23 = .ok (.lconst 0, 1) := dk_9 (dk_at dksX2_unasked_0 23 rfl rfl)
theorem dX2_unasked_24 : decode cX2_unasked 24 = .ok (.aload_n 0, 1) := dk_42 (dk_at dksX2_unasked_1 0 rfl rfl)
theorem dX2_unasked_25 : decode cX2_unasked 25 = .ok (.getfield 158, 3) := dk_180 0 158 (dk_at dksX2_unasked_1 1 rfl rfl)
theorem dX2_unasked_28 : decode cX2_unasked 28 = .ok (.iload_n 1, 1) := dk_27 (dk_at dksX2_unasked_1 4 rfl rfl)
theorem dX2_unasked_29 : decode cX2_unasked 29 = .ok (.iaload, 1) := dk_46 (dk_at dksX2_unasked_1 5 rfl rfl)
theorem dX2_unasked_30 : decode cX2_unasked 30 = .ok (.iconst 1, 1) := dk_4 (dk_at dksX2_unasked_1 6 rfl rfl)
theorem dX2_unasked_31 : decode cX2_unasked 31 = .ok (.isub, 1) := dk_100 (dk_at dksX2_unasked_1 7 rfl rfl)
theorem dX2_unasked_32 : decode cX2_unasked 32 = .ok (.i2l, 1) := dk_133 (dk_at dksX2_unasked_1 8 rfl rfl)
theorem dX2_unasked_33 : decode cX2_unasked 33 = .ok (.invokestatic 193, 3) := dk_184 0 193 (dk_at dksX2_unasked_1 9 rfl rfl)
theorem dX2_unasked_36 : decode cX2_unasked 36 = .ok (.ifCond .eq 25, 3) := dk_153 0 25 (dk_at dksX2_unasked_1 12 rfl rfl)
theorem dX2_unasked_39 : decode cX2_unasked 39 = .ok (.iload_n 3, 1) := dk_29 (dk_at dksX2_unasked_1 15 rfl rfl)
theorem dX2_unasked_40 : decode cX2_unasked 40 = .ok (.i2l, 1) := dk_133 (dk_at dksX2_unasked_1 16 rfl rfl)
theorem dX2_unasked_41 : decode cX2_unasked 41 = .ok (.lconst 0, 1) := dk_9 (dk_at dksX2_unasked_1 17 rfl rfl)
theorem dX2_unasked_42 : decode cX2_unasked 42 = .ok (.aload_n 0, 1) := dk_42 (dk_at dksX2_unasked_1 18 rfl rfl)
theorem dX2_unasked_43 : decode cX2_unasked 43 = .ok (.getfield 158, 3) := dk_180 0 158 (dk_at dksX2_unasked_1 19 rfl rfl)
theorem dX2_unasked_46 : decode cX2_unasked 46 = .ok (.iload_n 1, 1) := dk_27 (dk_at dksX2_unasked_1 22 rfl rfl)
theorem dX2_unasked_47 : decode cX2_unasked 47 = .ok (.iaload, 1) := dk_46 (dk_at dksX2_unasked_1 23 rfl rfl)
theorem dX2_unasked_48 : decode cX2_unasked 48 = .ok (.iconst 1, 1) := dk_4 (dk_at dksX2_unasked_2 0 rfl rfl)
theorem dX2_unasked_49 : decode cX2_unasked 49 = .ok (.isub, 1) := dk_100 (dk_at dksX2_unasked_2 1 rfl rfl)
theorem dX2_unasked_50 : decode cX2_unasked 50 = .ok (.i2l, 1) := dk_133 (dk_at dksX2_unasked_2 2 rfl rfl)
theorem dX2_unasked_51 : decode cX2_unasked 51 = .ok (.invokestatic 193, 3) := dk_184 0 193 (dk_at dksX2_unasked_2 3 rfl rfl)
theorem dX2_unasked_54 : decode cX2_unasked 54 = .ok (.ifCond .eq 7, 3) := dk_153 0 7 (dk_at dksX2_unasked_2 6 rfl rfl)
theorem dX2_unasked_57 : decode cX2_unasked 57 = .ok (.iconst 1, 1) := dk_4 (dk_at dksX2_unasked_2 9 rfl rfl)
theorem dX2_unasked_58 : decode cX2_unasked 58 = .ok (.goto 4, 3) := dk_167 0 4 (dk_at dksX2_unasked_2 10 rfl rfl)
theorem dX2_unasked_61 : decode cX2_unasked 61 = .ok (.iconst 0, 1) := dk_3 (dk_at dksX2_unasked_2 13 rfl rfl)
theorem dX2_unasked_62 : decode cX2_unasked 62 = .ok (.istore 4, 2) := dk_54 4 (dk_at dksX2_unasked_2 14 rfl rfl)
theorem dX2_unasked_64 : decode cX2_unasked 64 = .ok (.iload 4, 2) := dk_21 4 (dk_at dksX2_unasked_2 16 rfl rfl)
theorem dX2_unasked_66 : decode cX2_unasked 66 = .ok (.ifCond .ne 8, 3) := dk_154 0 8 (dk_at dksX2_unasked_2 18 rfl rfl)
theorem dX2_unasked_69 : decode cX2_unasked 69 = .ok (.bipush (-12), 2) := dk_16 244 (dk_at dksX2_unasked_2 21 rfl rfl)
theorem dX2_unasked_71 : decode cX2_unasked 71 = .ok (.goto 14, 3) := dk_167 0 14 (dk_at dksX2_unasked_3 0 rfl rfl)
theorem dX2_unasked_74 : decode cX2_unasked 74 = .ok (.iload_n 2, 1) := dk_28 (dk_at dksX2_unasked_3 3 rfl rfl)
theorem dX2_unasked_75 : decode cX2_unasked 75 = .ok (.iload_n 3, 1) := dk_29 (dk_at dksX2_unasked_3 4 rfl rfl)
theorem dX2_unasked_76 : decode cX2_unasked 76 = .ok (.if_icmp .ne 8, 3) := dk_160 0 8 (dk_at dksX2_unasked_3 5 rfl rfl)
theorem dX2_unasked_79 : decode cX2_unasked 79 = .ok (.bipush (-15), 2) := dk_16 241 (dk_at dksX2_unasked_3 8 rfl rfl)
theorem dX2_unasked_81 : decode cX2_unasked 81 = .ok (.goto 4, 3) := dk_167 0 4 (dk_at dksX2_unasked_3 10 rfl rfl)
theorem dX2_unasked_84 : decode cX2_unasked 84 = .ok (.iconst 0, 1) := dk_3 (dk_at dksX2_unasked_3 13 rfl rfl)
theorem dX2_unasked_85 : decode cX2_unasked 85 = .ok (.ireturn, 1) := dk_172 (dk_at dksX2_unasked_3 14 rfl rfl)
abbrev cX2_whyNot : ByteArray := prog_18_method_90_code
def yX2_whyNot : MethodName := ⟨RX2, "whyNot", "(III)I"⟩
def dkwX2_whyNot_0 : List UInt8 := [42, 27, 28, 29, 182, 1, 218, 172]
abbrev dktX2_whyNot_0 : List UInt8 := dkwX2_whyNot_0 ++ []
theorem dksX2_whyNot_0 : cX2_whyNot.data.toList.drop 0 = dktX2_whyNot_0 := by decide +kernel
theorem dX2_whyNot_0 : decode cX2_whyNot 0 = .ok (.aload_n 0, 1) := dk_42 (dk_at dksX2_whyNot_0 0 rfl rfl)
theorem dX2_whyNot_1 : decode cX2_whyNot 1 = .ok (.iload_n 1, 1) := dk_27 (dk_at dksX2_whyNot_0 1 rfl rfl)
theorem dX2_whyNot_2 : decode cX2_whyNot 2 = .ok (.iload_n 2, 1) := dk_28 (dk_at dksX2_whyNot_0 2 rfl rfl)
theorem dX2_whyNot_3 : decode cX2_whyNot 3 = .ok (.iload_n 3, 1) := dk_29 (dk_at dksX2_whyNot_0 3 rfl rfl)
theorem dX2_whyNot_4 : decode cX2_whyNot 4 = .ok (.invokevirtual 474, 3) := dk_182 1 218 (dk_at dksX2_whyNot_0 4 rfl rfl)
theorem dX2_whyNot_7 : decode cX2_whyNot 7 = .ok (.ireturn, 1) := dk_172 (dk_at dksX2_whyNot_0 7 rfl rfl)
abbrev cX2_spill : ByteArray := prog_18_method_92_code
def yX2_spill : MethodName := ⟨RX2, "spill", "(III)I"⟩
def dkwX2_spill_4 : List UInt8 := [182, 1, 66, 182, 1, 221, 79, 132, 4, 1, 167, 255, 207, 21, 4, 172]
abbrev dktX2_spill_4 : List UInt8 := dkwX2_spill_4 ++ []
def dkwX2_spill_3 : List UInt8 := [162, 0, 35, 42, 180, 0, 161, 16, 40, 28, 104, 29, 96, 21, 4, 96, 42, 28, 42, 27, 21, 4]
abbrev dktX2_spill_3 : List UInt8 := dkwX2_spill_3 ++ dktX2_spill_4
def dkwX2_spill_2 : List UInt8 := [16, 244, 172, 3, 54, 4, 21, 4, 16, 9, 162, 0, 48, 29, 21, 4, 96, 42, 180, 0, 158, 28, 46]
abbrev dktX2_spill_2 : List UInt8 := dkwX2_spill_2 ++ dktX2_spill_3
def dkwX2_spill_1 : List UInt8 := [28, 46, 156, 0, 6, 16, 245, 172, 29, 133, 9, 42, 180, 0, 158, 28, 46, 133, 184, 0, 193, 154, 0, 6]
abbrev dktX2_spill_1 : List UInt8 := dkwX2_spill_1 ++ dktX2_spill_2
def dkwX2_spill_0 : List UInt8 := [28, 184, 1, 212, 154, 0, 5, 2, 172, 42, 27, 182, 1, 168, 154, 0, 6, 16, 254, 172, 42, 180, 0, 155]
abbrev dktX2_spill_0 : List UInt8 := dkwX2_spill_0 ++ dktX2_spill_1
theorem dksX2_spill_0 : cX2_spill.data.toList.drop 0 = dktX2_spill_0 := by decide +kernel
theorem dksX2_spill_1 : cX2_spill.data.toList.drop 24 = dktX2_spill_1 := dk_seg dksX2_spill_0 24 rfl rfl
theorem dksX2_spill_2 : cX2_spill.data.toList.drop 48 = dktX2_spill_2 := dk_seg dksX2_spill_1 24 rfl rfl
theorem dksX2_spill_3 : cX2_spill.data.toList.drop 71 = dktX2_spill_3 := dk_seg dksX2_spill_2 23 rfl rfl
theorem dksX2_spill_4 : cX2_spill.data.toList.drop 93 = dktX2_spill_4 := dk_seg dksX2_spill_3 22 rfl rfl
theorem dX2_spill_0 : decode cX2_spill 0 = .ok (.iload_n 2, 1) := dk_28 (dk_at dksX2_spill_0 0 rfl rfl)
theorem dX2_spill_1 : decode cX2_spill 1 = .ok (.invokestatic 468, 3) := dk_184 1 212 (dk_at dksX2_spill_0 1 rfl rfl)
theorem dX2_spill_4 : decode cX2_spill 4 = .ok (.ifCond .ne 5, 3) := dk_154 0 5 (dk_at dksX2_spill_0 4 rfl rfl)
theorem dX2_spill_7 : decode cX2_spill 7 = .ok (.iconst (-1), 1) := dk_2 (dk_at dksX2_spill_0 7 rfl rfl)
theorem dX2_spill_8 : decode cX2_spill 8 = .ok (.ireturn, 1) := dk_172 (dk_at dksX2_spill_0 8 rfl rfl)
theorem dX2_spill_9 : decode cX2_spill 9 = .ok (.aload_n 0, 1) := dk_42 (dk_at dksX2_spill_0 9 rfl rfl)
theorem dX2_spill_10 : decode cX2_spill 10 = .ok (.iload_n 1, 1) := dk_27 (dk_at dksX2_spill_0 10 rfl rfl)
theorem dX2_spill_11 : decode cX2_spill 11 = .ok (.invokevirtual 424, 3) := dk_182 1 168 (dk_at dksX2_spill_0 11 rfl rfl)
theorem dX2_spill_14 : decode cX2_spill 14 = .ok (.ifCond .ne 6, 3) := dk_154 0 6 (dk_at dksX2_spill_0 14 rfl rfl)
theorem dX2_spill_17 : decode cX2_spill 17 = .ok (.bipush (-2), 2) := dk_16 254 (dk_at dksX2_spill_0 17 rfl rfl)
theorem dX2_spill_19 : decode cX2_spill 19 = .ok (.ireturn, 1) := dk_172 (dk_at dksX2_spill_0 19 rfl rfl)
theorem dX2_spill_20 : decode cX2_spill 20 = .ok (.aload_n 0, 1) := dk_42 (dk_at dksX2_spill_0 20 rfl rfl)
theorem dX2_spill_21 : decode cX2_spill 21 = .ok (.getfield 155, 3) := dk_180 0 155 (dk_at dksX2_spill_0 21 rfl rfl)
theorem dX2_spill_24 : decode cX2_spill 24 = .ok (.iload_n 2, 1) := dk_28 (dk_at dksX2_spill_1 0 rfl rfl)
theorem dX2_spill_25 : decode cX2_spill 25 = .ok (.iaload, 1) := dk_46 (dk_at dksX2_spill_1 1 rfl rfl)
theorem dX2_spill_26 : decode cX2_spill 26 = .ok (.ifCond .ge 6, 3) := dk_156 0 6 (dk_at dksX2_spill_1 2 rfl rfl)
theorem dX2_spill_29 : decode cX2_spill 29 = .ok (.bipush (-11), 2) := dk_16 245 (dk_at dksX2_spill_1 5 rfl rfl)
theorem dX2_spill_31 : decode cX2_spill 31 = .ok (.ireturn, 1) := dk_172 (dk_at dksX2_spill_1 7 rfl rfl)
theorem dX2_spill_32 : decode cX2_spill 32 = .ok (.iload_n 3, 1) := dk_29 (dk_at dksX2_spill_1 8 rfl rfl)
theorem dX2_spill_33 : decode cX2_spill 33 = .ok (.i2l, 1) := dk_133 (dk_at dksX2_spill_1 9 rfl rfl)
theorem dX2_spill_34 : decode cX2_spill 34 = .ok (.lconst 0, 1) := dk_9 (dk_at dksX2_spill_1 10 rfl rfl)
theorem dX2_spill_35 : decode cX2_spill 35 = .ok (.aload_n 0, 1) := dk_42 (dk_at dksX2_spill_1 11 rfl rfl)
theorem dX2_spill_36 : decode cX2_spill 36 = .ok (.getfield 158, 3) := dk_180 0 158 (dk_at dksX2_spill_1 12 rfl rfl)
theorem dX2_spill_39 : decode cX2_spill 39 = .ok (.iload_n 2, 1) := dk_28 (dk_at dksX2_spill_1 15 rfl rfl)
theorem dX2_spill_40 : decode cX2_spill 40 = .ok (.iaload, 1) := dk_46 (dk_at dksX2_spill_1 16 rfl rfl)
theorem dX2_spill_41 : decode cX2_spill 41 = .ok (.i2l, 1) := dk_133 (dk_at dksX2_spill_1 17 rfl rfl)
theorem dX2_spill_42 : decode cX2_spill 42 = .ok (.invokestatic 193, 3) := dk_184 0 193 (dk_at dksX2_spill_1 18 rfl rfl)
theorem dX2_spill_45 : decode cX2_spill 45 = .ok (.ifCond .ne 6, 3) := dk_154 0 6 (dk_at dksX2_spill_1 21 rfl rfl)
theorem dX2_spill_48 : decode cX2_spill 48 = .ok (.bipush (-12), 2) := dk_16 244 (dk_at dksX2_spill_2 0 rfl rfl)
theorem dX2_spill_50 : decode cX2_spill 50 = .ok (.ireturn, 1) := dk_172 (dk_at dksX2_spill_2 2 rfl rfl)
theorem dX2_spill_51 : decode cX2_spill 51 = .ok (.iconst 0, 1) := dk_3 (dk_at dksX2_spill_2 3 rfl rfl)
theorem dX2_spill_52 : decode cX2_spill 52 = .ok (.istore 4, 2) := dk_54 4 (dk_at dksX2_spill_2 4 rfl rfl)
theorem dX2_spill_54 : decode cX2_spill 54 = .ok (.iload 4, 2) := dk_21 4 (dk_at dksX2_spill_2 6 rfl rfl)
theorem dX2_spill_56 : decode cX2_spill 56 = .ok (.bipush 9, 2) := dk_16 9 (dk_at dksX2_spill_2 8 rfl rfl)
theorem dX2_spill_58 : decode cX2_spill 58 = .ok (.if_icmp .ge 48, 3) := dk_162 0 48 (dk_at dksX2_spill_2 10 rfl rfl)
theorem dX2_spill_61 : decode cX2_spill 61 = .ok (.iload_n 3, 1) := dk_29 (dk_at dksX2_spill_2 13 rfl rfl)
theorem dX2_spill_62 : decode cX2_spill 62 = .ok (.iload 4, 2) := dk_21 4 (dk_at dksX2_spill_2 14 rfl rfl)
theorem dX2_spill_64 : decode cX2_spill 64 = .ok (.iadd, 1) := dk_96 (dk_at dksX2_spill_2 16 rfl rfl)
theorem dX2_spill_65 : decode cX2_spill 65 = .ok (.aload_n 0, 1) := dk_42 (dk_at dksX2_spill_2 17 rfl rfl)
theorem dX2_spill_66 : decode cX2_spill 66 = .ok (.getfield 158, 3) := dk_180 0 158 (dk_at dksX2_spill_2 18 rfl rfl)
theorem dX2_spill_69 : decode cX2_spill 69 = .ok (.iload_n 2, 1) := dk_28 (dk_at dksX2_spill_2 21 rfl rfl)
theorem dX2_spill_70 : decode cX2_spill 70 = .ok (.iaload, 1) := dk_46 (dk_at dksX2_spill_2 22 rfl rfl)
theorem dX2_spill_71 : decode cX2_spill 71 = .ok (.if_icmp .ge 35, 3) := dk_162 0 35 (dk_at dksX2_spill_3 0 rfl rfl)
theorem dX2_spill_74 : decode cX2_spill 74 = .ok (.aload_n 0, 1) := dk_42 (dk_at dksX2_spill_3 3 rfl rfl)
theorem dX2_spill_75 : decode cX2_spill 75 = .ok (.getfield 161, 3) := dk_180 0 161 (dk_at dksX2_spill_3 4 rfl rfl)
theorem dX2_spill_78 : decode cX2_spill 78 = .ok (.bipush 40, 2) := dk_16 40 (dk_at dksX2_spill_3 7 rfl rfl)
theorem dX2_spill_80 : decode cX2_spill 80 = .ok (.iload_n 2, 1) := dk_28 (dk_at dksX2_spill_3 9 rfl rfl)
theorem dX2_spill_81 : decode cX2_spill 81 = .ok (.imul, 1) := dk_104 (dk_at dksX2_spill_3 10 rfl rfl)
theorem dX2_spill_82 : decode cX2_spill 82 = .ok (.iload_n 3, 1) := dk_29 (dk_at dksX2_spill_3 11 rfl rfl)
theorem dX2_spill_83 : decode cX2_spill 83 = .ok (.iadd, 1) := dk_96 (dk_at dksX2_spill_3 12 rfl rfl)
theorem dX2_spill_84 : decode cX2_spill 84 = .ok (.iload 4, 2) := dk_21 4 (dk_at dksX2_spill_3 13 rfl rfl)
theorem dX2_spill_86 : decode cX2_spill 86 = .ok (.iadd, 1) := dk_96 (dk_at dksX2_spill_3 15 rfl rfl)
theorem dX2_spill_87 : decode cX2_spill 87 = .ok (.aload_n 0, 1) := dk_42 (dk_at dksX2_spill_3 16 rfl rfl)
theorem dX2_spill_88 : decode cX2_spill 88 = .ok (.iload_n 2, 1) := dk_28 (dk_at dksX2_spill_3 17 rfl rfl)
theorem dX2_spill_89 : decode cX2_spill 89 = .ok (.aload_n 0, 1) := dk_42 (dk_at dksX2_spill_3 18 rfl rfl)
theorem dX2_spill_90 : decode cX2_spill 90 = .ok (.iload_n 1, 1) := dk_27 (dk_at dksX2_spill_3 19 rfl rfl)
theorem dX2_spill_91 : decode cX2_spill 91 = .ok (.iload 4, 2) := dk_21 4 (dk_at dksX2_spill_3 20 rfl rfl)
theorem dX2_spill_93 : decode cX2_spill 93 = .ok (.invokevirtual 322, 3) := dk_182 1 66 (dk_at dksX2_spill_4 0 rfl rfl)
theorem dX2_spill_96 : decode cX2_spill 96 = .ok (.invokevirtual 477, 3) := dk_182 1 221 (dk_at dksX2_spill_4 3 rfl rfl)
theorem dX2_spill_99 : decode cX2_spill 99 = .ok (.iastore, 1) := dk_79 (dk_at dksX2_spill_4 6 rfl rfl)
theorem dX2_spill_100 : decode cX2_spill 100 = .ok (.iinc 4 1, 3) := dk_132 4 1 (dk_at dksX2_spill_4 7 rfl rfl)
theorem dX2_spill_103 : decode cX2_spill 103 = .ok (.goto (-49), 3) := dk_167 255 207 (dk_at dksX2_spill_4 10 rfl rfl)
theorem dX2_spill_106 : decode cX2_spill 106 = .ok (.iload 4, 2) := dk_21 4 (dk_at dksX2_spill_4 13 rfl rfl)
theorem dX2_spill_108 : decode cX2_spill 108 = .ok (.ireturn, 1) := dk_172 (dk_at dksX2_spill_4 15 rfl rfl)
abbrev cX2_lowest : ByteArray := prog_18_method_91_code
def yX2_lowest : MethodName := ⟨RX2, "lowest", "(II)I"⟩
def dkwX2_lowest_0 : List UInt8 := [42, 180, 0, 155, 27, 46, 154, 0, 8, 28, 145, 167, 0, 4, 28, 172]
abbrev dktX2_lowest_0 : List UInt8 := dkwX2_lowest_0 ++ []
theorem dksX2_lowest_0 : cX2_lowest.data.toList.drop 0 = dktX2_lowest_0 := by decide +kernel
theorem dX2_lowest_0 : decode cX2_lowest 0 = .ok (.aload_n 0, 1) := dk_42 (dk_at dksX2_lowest_0 0 rfl rfl)
theorem dX2_lowest_1 : decode cX2_lowest 1 = .ok (.getfield 155, 3) := dk_180 0 155 (dk_at dksX2_lowest_0 1 rfl rfl)
theorem dX2_lowest_4 : decode cX2_lowest 4 = .ok (.iload_n 1, 1) := dk_27 (dk_at dksX2_lowest_0 4 rfl rfl)
theorem dX2_lowest_5 : decode cX2_lowest 5 = .ok (.iaload, 1) := dk_46 (dk_at dksX2_lowest_0 5 rfl rfl)
theorem dX2_lowest_6 : decode cX2_lowest 6 = .ok (.ifCond .ne 8, 3) := dk_154 0 8 (dk_at dksX2_lowest_0 6 rfl rfl)
theorem dX2_lowest_9 : decode cX2_lowest 9 = .ok (.iload_n 2, 1) := dk_28 (dk_at dksX2_lowest_0 9 rfl rfl)
theorem dX2_lowest_10 : decode cX2_lowest 10 = .ok (.i2b, 1) := dk_145 (dk_at dksX2_lowest_0 10 rfl rfl)
theorem dX2_lowest_11 : decode cX2_lowest 11 = .ok (.goto 4, 3) := dk_167 0 4 (dk_at dksX2_lowest_0 11 rfl rfl)
theorem dX2_lowest_14 : decode cX2_lowest 14 = .ok (.iload_n 2, 1) := dk_28 (dk_at dksX2_lowest_0 14 rfl rfl)
theorem dX2_lowest_15 : decode cX2_lowest 15 = .ok (.ireturn, 1) := dk_172 (dk_at dksX2_lowest_0 15 rfl rfl)
abbrev cX2_sheet : ByteArray := prog_18_method_93_code
def yX2_sheet : MethodName := ⟨RX2, "sheet", "(III)I"⟩
def dkwX2_sheet_3 : List UInt8 := [162, 0, 22, 42, 180, 0, 161, 16, 40, 27, 104, 21, 4, 96, 3, 79, 132, 4, 1, 167, 255, 233, 4, 172]
abbrev dktX2_sheet_3 : List UInt8 := dkwX2_sheet_3 ++ []
def dkwX2_sheet_2 : List UInt8 := [79, 42, 180, 0, 158, 27, 28, 156, 0, 7, 3, 167, 0, 4, 29, 79, 3, 54, 4, 21, 4, 16, 40]
abbrev dktX2_sheet_2 : List UInt8 := dkwX2_sheet_2 ++ dktX2_sheet_3
def dkwX2_sheet_1 : List UInt8 := [16, 40, 164, 0, 5, 2, 172, 28, 155, 0, 10, 29, 156, 0, 6, 16, 242, 172, 42, 180, 0, 155, 27, 28]
abbrev dktX2_sheet_1 : List UInt8 := dkwX2_sheet_1 ++ dktX2_sheet_2
def dkwX2_sheet_0 : List UInt8 := [27, 184, 1, 212, 153, 0, 25, 28, 133, 20, 0, 251, 10, 184, 0, 193, 153, 0, 13, 28, 155, 0, 11, 29]
abbrev dktX2_sheet_0 : List UInt8 := dkwX2_sheet_0 ++ dktX2_sheet_1
theorem dksX2_sheet_0 : cX2_sheet.data.toList.drop 0 = dktX2_sheet_0 := by decide +kernel
theorem dksX2_sheet_1 : cX2_sheet.data.toList.drop 24 = dktX2_sheet_1 := dk_seg dksX2_sheet_0 24 rfl rfl
theorem dksX2_sheet_2 : cX2_sheet.data.toList.drop 48 = dktX2_sheet_2 := dk_seg dksX2_sheet_1 24 rfl rfl
theorem dksX2_sheet_3 : cX2_sheet.data.toList.drop 71 = dktX2_sheet_3 := dk_seg dksX2_sheet_2 23 rfl rfl
theorem dX2_sheet_0 : decode cX2_sheet 0 = .ok (.iload_n 1, 1) := dk_27 (dk_at dksX2_sheet_0 0 rfl rfl)
theorem dX2_sheet_1 : decode cX2_sheet 1 = .ok (.invokestatic 468, 3) := dk_184 1 212 (dk_at dksX2_sheet_0 1 rfl rfl)
theorem dX2_sheet_4 : decode cX2_sheet 4 = .ok (.ifCond .eq 25, 3) := dk_153 0 25 (dk_at dksX2_sheet_0 4 rfl rfl)
theorem dX2_sheet_7 : decode cX2_sheet 7 = .ok (.iload_n 2, 1) := dk_28 (dk_at dksX2_sheet_0 7 rfl rfl)
theorem dX2_sheet_8 : decode cX2_sheet 8 = .ok (.i2l, 1) := dk_133 (dk_at dksX2_sheet_0 8 rfl rfl)
theorem dX2_sheet_9 : decode cX2_sheet 9 = .ok (.ldc2_w 251, 3) := dk_20 0 251 (dk_at dksX2_sheet_0 9 rfl rfl)
theorem dX2_sheet_12 : decode cX2_sheet 12 = .ok (.lconst 1, 1) := dk_10 (dk_at dksX2_sheet_0 12 rfl rfl)
theorem dX2_sheet_13 : decode cX2_sheet 13 = .ok (.invokestatic 193, 3) := dk_184 0 193 (dk_at dksX2_sheet_0 13 rfl rfl)
theorem dX2_sheet_16 : decode cX2_sheet 16 = .ok (.ifCond .eq 13, 3) := dk_153 0 13 (dk_at dksX2_sheet_0 16 rfl rfl)
theorem dX2_sheet_19 : decode cX2_sheet 19 = .ok (.iload_n 2, 1) := dk_28 (dk_at dksX2_sheet_0 19 rfl rfl)
theorem dX2_sheet_20 : decode cX2_sheet 20 = .ok (.ifCond .lt 11, 3) := dk_155 0 11 (dk_at dksX2_sheet_0 20 rfl rfl)
theorem dX2_sheet_23 : decode cX2_sheet 23 = .ok (.iload_n 3, 1) := dk_29 (dk_at dksX2_sheet_0 23 rfl rfl)
theorem dX2_sheet_24 : decode cX2_sheet 24 = .ok (.bipush 40, 2) := dk_16 40 (dk_at dksX2_sheet_1 0 rfl rfl)
theorem dX2_sheet_26 : decode cX2_sheet 26 = .ok (.if_icmp .le 5, 3) := dk_164 0 5 (dk_at dksX2_sheet_1 2 rfl rfl)
theorem dX2_sheet_29 : decode cX2_sheet 29 = .ok (.iconst (-1), 1) := dk_2 (dk_at dksX2_sheet_1 5 rfl rfl)
theorem dX2_sheet_30 : decode cX2_sheet 30 = .ok (.ireturn, 1) := dk_172 (dk_at dksX2_sheet_1 6 rfl rfl)
theorem dX2_sheet_31 : decode cX2_sheet 31 = .ok (.iload_n 2, 1) := dk_28 (dk_at dksX2_sheet_1 7 rfl rfl)
theorem dX2_sheet_32 : decode cX2_sheet 32 = .ok (.ifCond .lt 10, 3) := dk_155 0 10 (dk_at dksX2_sheet_1 8 rfl rfl)
theorem dX2_sheet_35 : decode cX2_sheet 35 = .ok (.iload_n 3, 1) := dk_29 (dk_at dksX2_sheet_1 11 rfl rfl)
theorem dX2_sheet_36 : decode cX2_sheet 36 = .ok (.ifCond .ge 6, 3) := dk_156 0 6 (dk_at dksX2_sheet_1 12 rfl rfl)
theorem dX2_sheet_39 : decode cX2_sheet 39 = .ok (.bipush (-14), 2) := dk_16 242 (dk_at dksX2_sheet_1 15 rfl rfl)
theorem dX2_sheet_41 : decode cX2_sheet 41 = .ok (.ireturn, 1) := dk_172 (dk_at dksX2_sheet_1 17 rfl rfl)
theorem dX2_sheet_42 : decode cX2_sheet 42 = .ok (.aload_n 0, 1) := dk_42 (dk_at dksX2_sheet_1 18 rfl rfl)
theorem dX2_sheet_43 : decode cX2_sheet 43 = .ok (.getfield 155, 3) := dk_180 0 155 (dk_at dksX2_sheet_1 19 rfl rfl)
theorem dX2_sheet_46 : decode cX2_sheet 46 = .ok (.iload_n 1, 1) := dk_27 (dk_at dksX2_sheet_1 22 rfl rfl)
theorem dX2_sheet_47 : decode cX2_sheet 47 = .ok (.iload_n 2, 1) := dk_28 (dk_at dksX2_sheet_1 23 rfl rfl)
theorem dX2_sheet_48 : decode cX2_sheet 48 = .ok (.iastore, 1) := dk_79 (dk_at dksX2_sheet_2 0 rfl rfl)
theorem dX2_sheet_49 : decode cX2_sheet 49 = .ok (.aload_n 0, 1) := dk_42 (dk_at dksX2_sheet_2 1 rfl rfl)
theorem dX2_sheet_50 : decode cX2_sheet 50 = .ok (.getfield 158, 3) := dk_180 0 158 (dk_at dksX2_sheet_2 2 rfl rfl)
theorem dX2_sheet_53 : decode cX2_sheet 53 = .ok (.iload_n 1, 1) := dk_27 (dk_at dksX2_sheet_2 5 rfl rfl)
theorem dX2_sheet_54 : decode cX2_sheet 54 = .ok (.iload_n 2, 1) := dk_28 (dk_at dksX2_sheet_2 6 rfl rfl)
theorem dX2_sheet_55 : decode cX2_sheet 55 = .ok (.ifCond .ge 7, 3) := dk_156 0 7 (dk_at dksX2_sheet_2 7 rfl rfl)
theorem dX2_sheet_58 : decode cX2_sheet 58 = .ok (.iconst 0, 1) := dk_3 (dk_at dksX2_sheet_2 10 rfl rfl)
theorem dX2_sheet_59 : decode cX2_sheet 59 = .ok (.goto 4, 3) := dk_167 0 4 (dk_at dksX2_sheet_2 11 rfl rfl)
theorem dX2_sheet_62 : decode cX2_sheet 62 = .ok (.iload_n 3, 1) := dk_29 (dk_at dksX2_sheet_2 14 rfl rfl)
theorem dX2_sheet_63 : decode cX2_sheet 63 = .ok (.iastore, 1) := dk_79 (dk_at dksX2_sheet_2 15 rfl rfl)
theorem dX2_sheet_64 : decode cX2_sheet 64 = .ok (.iconst 0, 1) := dk_3 (dk_at dksX2_sheet_2 16 rfl rfl)
theorem dX2_sheet_65 : decode cX2_sheet 65 = .ok (.istore 4, 2) := dk_54 4 (dk_at dksX2_sheet_2 17 rfl rfl)
theorem dX2_sheet_67 : decode cX2_sheet 67 = .ok (.iload 4, 2) := dk_21 4 (dk_at dksX2_sheet_2 19 rfl rfl)
theorem dX2_sheet_69 : decode cX2_sheet 69 = .ok (.bipush 40, 2) := dk_16 40 (dk_at dksX2_sheet_2 21 rfl rfl)
theorem dX2_sheet_71 : decode cX2_sheet 71 = .ok (.if_icmp .ge 22, 3) := dk_162 0 22 (dk_at dksX2_sheet_3 0 rfl rfl)
theorem dX2_sheet_74 : decode cX2_sheet 74 = .ok (.aload_n 0, 1) := dk_42 (dk_at dksX2_sheet_3 3 rfl rfl)
theorem dX2_sheet_75 : decode cX2_sheet 75 = .ok (.getfield 161, 3) := dk_180 0 161 (dk_at dksX2_sheet_3 4 rfl rfl)
theorem dX2_sheet_78 : decode cX2_sheet 78 = .ok (.bipush 40, 2) := dk_16 40 (dk_at dksX2_sheet_3 7 rfl rfl)
theorem dX2_sheet_80 : decode cX2_sheet 80 = .ok (.iload_n 1, 1) := dk_27 (dk_at dksX2_sheet_3 9 rfl rfl)
theorem dX2_sheet_81 : decode cX2_sheet 81 = .ok (.imul, 1) := dk_104 (dk_at dksX2_sheet_3 10 rfl rfl)
theorem dX2_sheet_82 : decode cX2_sheet 82 = .ok (.iload 4, 2) := dk_21 4 (dk_at dksX2_sheet_3 11 rfl rfl)
theorem dX2_sheet_84 : decode cX2_sheet 84 = .ok (.iadd, 1) := dk_96 (dk_at dksX2_sheet_3 13 rfl rfl)
theorem dX2_sheet_85 : decode cX2_sheet 85 = .ok (.iconst 0, 1) := dk_3 (dk_at dksX2_sheet_3 14 rfl rfl)
theorem dX2_sheet_86 : decode cX2_sheet 86 = .ok (.iastore, 1) := dk_79 (dk_at dksX2_sheet_3 15 rfl rfl)
theorem dX2_sheet_87 : decode cX2_sheet 87 = .ok (.iinc 4 1, 3) := dk_132 4 1 (dk_at dksX2_sheet_3 16 rfl rfl)
theorem dX2_sheet_90 : decode cX2_sheet 90 = .ok (.goto (-23), 3) := dk_167 255 233 (dk_at dksX2_sheet_3 19 rfl rfl)
theorem dX2_sheet_93 : decode cX2_sheet 93 = .ok (.iconst 1, 1) := dk_4 (dk_at dksX2_sheet_3 22 rfl rfl)
theorem dX2_sheet_94 : decode cX2_sheet 94 = .ok (.ireturn, 1) := dk_172 (dk_at dksX2_sheet_3 23 rfl rfl)
abbrev cX2_cell : ByteArray := prog_18_method_94_code
def yX2_cell : MethodName := ⟨RX2, "cell", "(III)I"⟩
def dkwX2_cell_2 : List UInt8 := [27, 104, 28, 96, 42, 27, 29, 182, 1, 221, 79, 4, 172]
abbrev dktX2_cell_2 : List UInt8 := dkwX2_cell_2 ++ []
def dkwX2_cell_1 : List UInt8 := [42, 180, 0, 158, 27, 46, 4, 100, 133, 184, 0, 193, 154, 0, 6, 16, 244, 172, 42, 180, 0, 161, 16, 40]
abbrev dktX2_cell_1 : List UInt8 := dkwX2_cell_1 ++ dktX2_cell_2
def dkwX2_cell_0 : List UInt8 := [27, 184, 1, 212, 154, 0, 5, 2, 172, 42, 180, 0, 155, 27, 46, 156, 0, 6, 16, 245, 172, 28, 133, 9]
abbrev dktX2_cell_0 : List UInt8 := dkwX2_cell_0 ++ dktX2_cell_1
theorem dksX2_cell_0 : cX2_cell.data.toList.drop 0 = dktX2_cell_0 := by decide +kernel
theorem dksX2_cell_1 : cX2_cell.data.toList.drop 24 = dktX2_cell_1 := dk_seg dksX2_cell_0 24 rfl rfl
theorem dksX2_cell_2 : cX2_cell.data.toList.drop 48 = dktX2_cell_2 := dk_seg dksX2_cell_1 24 rfl rfl
theorem dX2_cell_0 : decode cX2_cell 0 = .ok (.iload_n 1, 1) := dk_27 (dk_at dksX2_cell_0 0 rfl rfl)
theorem dX2_cell_1 : decode cX2_cell 1 = .ok (.invokestatic 468, 3) := dk_184 1 212 (dk_at dksX2_cell_0 1 rfl rfl)
theorem dX2_cell_4 : decode cX2_cell 4 = .ok (.ifCond .ne 5, 3) := dk_154 0 5 (dk_at dksX2_cell_0 4 rfl rfl)
theorem dX2_cell_7 : decode cX2_cell 7 = .ok (.iconst (-1), 1) := dk_2 (dk_at dksX2_cell_0 7 rfl rfl)
theorem dX2_cell_8 : decode cX2_cell 8 = .ok (.ireturn, 1) := dk_172 (dk_at dksX2_cell_0 8 rfl rfl)
theorem dX2_cell_9 : decode cX2_cell 9 = .ok (.aload_n 0, 1) := dk_42 (dk_at dksX2_cell_0 9 rfl rfl)
theorem dX2_cell_10 : decode cX2_cell 10 = .ok (.getfield 155, 3) := dk_180 0 155 (dk_at dksX2_cell_0 10 rfl rfl)
theorem dX2_cell_13 : decode cX2_cell 13 = .ok (.iload_n 1, 1) := dk_27 (dk_at dksX2_cell_0 13 rfl rfl)
theorem dX2_cell_14 : decode cX2_cell 14 = .ok (.iaload, 1) := dk_46 (dk_at dksX2_cell_0 14 rfl rfl)
theorem dX2_cell_15 : decode cX2_cell 15 = .ok (.ifCond .ge 6, 3) := dk_156 0 6 (dk_at dksX2_cell_0 15 rfl rfl)
theorem dX2_cell_18 : decode cX2_cell 18 = .ok (.bipush (-11), 2) := dk_16 245 (dk_at dksX2_cell_0 18 rfl rfl)
theorem dX2_cell_20 : decode cX2_cell 20 = .ok (.ireturn, 1) := dk_172 (dk_at dksX2_cell_0 20 rfl rfl)
theorem dX2_cell_21 : decode cX2_cell 21 = .ok (.iload_n 2, 1) := dk_28 (dk_at dksX2_cell_0 21 rfl rfl)
theorem dX2_cell_22 : decode cX2_cell 22 = .ok (.i2l, 1) := dk_133 (dk_at dksX2_cell_0 22 rfl rfl)
theorem dX2_cell_23 : decode cX2_cell 23 = .ok (.lconst 0, 1) := dk_9 (dk_at dksX2_cell_0 23 rfl rfl)
theorem dX2_cell_24 : decode cX2_cell 24 = .ok (.aload_n 0, 1) := dk_42 (dk_at dksX2_cell_1 0 rfl rfl)
theorem dX2_cell_25 : decode cX2_cell 25 = .ok (.getfield 158, 3) := dk_180 0 158 (dk_at dksX2_cell_1 1 rfl rfl)
theorem dX2_cell_28 : decode cX2_cell 28 = .ok (.iload_n 1, 1) := dk_27 (dk_at dksX2_cell_1 4 rfl rfl)
theorem dX2_cell_29 : decode cX2_cell 29 = .ok (.iaload, 1) := dk_46 (dk_at dksX2_cell_1 5 rfl rfl)
theorem dX2_cell_30 : decode cX2_cell 30 = .ok (.iconst 1, 1) := dk_4 (dk_at dksX2_cell_1 6 rfl rfl)
theorem dX2_cell_31 : decode cX2_cell 31 = .ok (.isub, 1) := dk_100 (dk_at dksX2_cell_1 7 rfl rfl)
theorem dX2_cell_32 : decode cX2_cell 32 = .ok (.i2l, 1) := dk_133 (dk_at dksX2_cell_1 8 rfl rfl)
theorem dX2_cell_33 : decode cX2_cell 33 = .ok (.invokestatic 193, 3) := dk_184 0 193 (dk_at dksX2_cell_1 9 rfl rfl)
theorem dX2_cell_36 : decode cX2_cell 36 = .ok (.ifCond .ne 6, 3) := dk_154 0 6 (dk_at dksX2_cell_1 12 rfl rfl)
theorem dX2_cell_39 : decode cX2_cell 39 = .ok (.bipush (-12), 2) := dk_16 244 (dk_at dksX2_cell_1 15 rfl rfl)
theorem dX2_cell_41 : decode cX2_cell 41 = .ok (.ireturn, 1) := dk_172 (dk_at dksX2_cell_1 17 rfl rfl)
theorem dX2_cell_42 : decode cX2_cell 42 = .ok (.aload_n 0, 1) := dk_42 (dk_at dksX2_cell_1 18 rfl rfl)
theorem dX2_cell_43 : decode cX2_cell 43 = .ok (.getfield 161, 3) := dk_180 0 161 (dk_at dksX2_cell_1 19 rfl rfl)
theorem dX2_cell_46 : decode cX2_cell 46 = .ok (.bipush 40, 2) := dk_16 40 (dk_at dksX2_cell_1 22 rfl rfl)
theorem dX2_cell_48 : decode cX2_cell 48 = .ok (.iload_n 1, 1) := dk_27 (dk_at dksX2_cell_2 0 rfl rfl)
theorem dX2_cell_49 : decode cX2_cell 49 = .ok (.imul, 1) := dk_104 (dk_at dksX2_cell_2 1 rfl rfl)
theorem dX2_cell_50 : decode cX2_cell 50 = .ok (.iload_n 2, 1) := dk_28 (dk_at dksX2_cell_2 2 rfl rfl)
theorem dX2_cell_51 : decode cX2_cell 51 = .ok (.iadd, 1) := dk_96 (dk_at dksX2_cell_2 3 rfl rfl)
theorem dX2_cell_52 : decode cX2_cell 52 = .ok (.aload_n 0, 1) := dk_42 (dk_at dksX2_cell_2 4 rfl rfl)
theorem dX2_cell_53 : decode cX2_cell 53 = .ok (.iload_n 1, 1) := dk_27 (dk_at dksX2_cell_2 5 rfl rfl)
theorem dX2_cell_54 : decode cX2_cell 54 = .ok (.iload_n 3, 1) := dk_29 (dk_at dksX2_cell_2 6 rfl rfl)
theorem dX2_cell_55 : decode cX2_cell 55 = .ok (.invokevirtual 477, 3) := dk_182 1 221 (dk_at dksX2_cell_2 7 rfl rfl)
theorem dX2_cell_58 : decode cX2_cell 58 = .ok (.iastore, 1) := dk_79 (dk_at dksX2_cell_2 10 rfl rfl)
theorem dX2_cell_59 : decode cX2_cell 59 = .ok (.iconst 1, 1) := dk_4 (dk_at dksX2_cell_2 11 rfl rfl)
theorem dX2_cell_60 : decode cX2_cell 60 = .ok (.ireturn, 1) := dk_172 (dk_at dksX2_cell_2 12 rfl rfl)
abbrev cX2_item : ByteArray := prog_18_method_95_code
def yX2_item : MethodName := ⟨RX2, "item", "(II)J"⟩
def dkwX2_item_1 : List UInt8 := [153, 0, 12, 42, 27, 28, 182, 1, 208, 167, 0, 6, 20, 0, 246, 173]
abbrev dktX2_item_1 : List UInt8 := dkwX2_item_1 ++ []
def dkwX2_item_0 : List UInt8 := [27, 184, 1, 212, 153, 0, 30, 28, 133, 9, 42, 180, 0, 158, 27, 46, 4, 100, 133, 184, 0, 193]
abbrev dktX2_item_0 : List UInt8 := dkwX2_item_0 ++ dktX2_item_1
theorem dksX2_item_0 : cX2_item.data.toList.drop 0 = dktX2_item_0 := by decide +kernel
theorem dksX2_item_1 : cX2_item.data.toList.drop 22 = dktX2_item_1 := dk_seg dksX2_item_0 22 rfl rfl
theorem dX2_item_0 : decode cX2_item 0 = .ok (.iload_n 1, 1) := dk_27 (dk_at dksX2_item_0 0 rfl rfl)
theorem dX2_item_1 : decode cX2_item 1 = .ok (.invokestatic 468, 3) := dk_184 1 212 (dk_at dksX2_item_0 1 rfl rfl)
theorem dX2_item_4 : decode cX2_item 4 = .ok (.ifCond .eq 30, 3) := dk_153 0 30 (dk_at dksX2_item_0 4 rfl rfl)
theorem dX2_item_7 : decode cX2_item 7 = .ok (.iload_n 2, 1) := dk_28 (dk_at dksX2_item_0 7 rfl rfl)
theorem dX2_item_8 : decode cX2_item 8 = .ok (.i2l, 1) := dk_133 (dk_at dksX2_item_0 8 rfl rfl)
theorem dX2_item_9 : decode cX2_item 9 = .ok (.lconst 0, 1) := dk_9 (dk_at dksX2_item_0 9 rfl rfl)
theorem dX2_item_10 : decode cX2_item 10 = .ok (.aload_n 0, 1) := dk_42 (dk_at dksX2_item_0 10 rfl rfl)
theorem dX2_item_11 : decode cX2_item 11 = .ok (.getfield 158, 3) := dk_180 0 158 (dk_at dksX2_item_0 11 rfl rfl)
theorem dX2_item_14 : decode cX2_item 14 = .ok (.iload_n 1, 1) := dk_27 (dk_at dksX2_item_0 14 rfl rfl)
theorem dX2_item_15 : decode cX2_item 15 = .ok (.iaload, 1) := dk_46 (dk_at dksX2_item_0 15 rfl rfl)
theorem dX2_item_16 : decode cX2_item 16 = .ok (.iconst 1, 1) := dk_4 (dk_at dksX2_item_0 16 rfl rfl)
theorem dX2_item_17 : decode cX2_item 17 = .ok (.isub, 1) := dk_100 (dk_at dksX2_item_0 17 rfl rfl)
theorem dX2_item_18 : decode cX2_item 18 = .ok (.i2l, 1) := dk_133 (dk_at dksX2_item_0 18 rfl rfl)
theorem dX2_item_19 : decode cX2_item 19 = .ok (.invokestatic 193, 3) := dk_184 0 193 (dk_at dksX2_item_0 19 rfl rfl)
theorem dX2_item_22 : decode cX2_item 22 = .ok (.ifCond .eq 12, 3) := dk_153 0 12 (dk_at dksX2_item_1 0 rfl rfl)
theorem dX2_item_25 : decode cX2_item 25 = .ok (.aload_n 0, 1) := dk_42 (dk_at dksX2_item_1 3 rfl rfl)
theorem dX2_item_26 : decode cX2_item 26 = .ok (.iload_n 1, 1) := dk_27 (dk_at dksX2_item_1 4 rfl rfl)
theorem dX2_item_27 : decode cX2_item 27 = .ok (.iload_n 2, 1) := dk_28 (dk_at dksX2_item_1 5 rfl rfl)
theorem dX2_item_28 : decode cX2_item 28 = .ok (.invokevirtual 464, 3) := dk_182 1 208 (dk_at dksX2_item_1 6 rfl rfl)
theorem dX2_item_31 : decode cX2_item 31 = .ok (.goto 6, 3) := dk_167 0 6 (dk_at dksX2_item_1 9 rfl rfl)
theorem dX2_item_34 : decode cX2_item 34 = .ok (.ldc2_w 246, 3) := dk_20 0 246 (dk_at dksX2_item_1 12 rfl rfl)
theorem dX2_item_37 : decode cX2_item 37 = .ok (.lreturn, 1) := dk_173 (dk_at dksX2_item_1 15 rfl rfl)
abbrev cX2_shift : ByteArray := prog_18_method_96_code
def yX2_shift : MethodName := ⟨RX2, "shift", "(IIIII)I"⟩
def dkwX2_shift_8 : List UInt8 := [132, 7, 1, 167, 255, 198, 21, 5, 172]
abbrev dktX2_shift_8 : List UInt8 := dkwX2_shift_8 ++ []
def dkwX2_shift_7 : List UInt8 := [104, 21, 4, 96, 21, 8, 96, 42, 180, 0, 161, 16, 40, 27, 104, 28, 96, 21, 8, 96, 46, 79]
abbrev dktX2_shift_7 : List UInt8 := dkwX2_shift_7 ++ dktX2_shift_8
def dkwX2_shift_6 : List UInt8 := [153, 0, 13, 21, 5, 4, 100, 21, 7, 100, 167, 0, 5, 21, 7, 54, 8, 42, 180, 0, 161, 16, 40, 29]
abbrev dktX2_shift_6 : List UInt8 := dkwX2_shift_6 ++ dktX2_shift_7
def dkwX2_shift_5 : List UInt8 := [162, 0, 7, 4, 167, 0, 4, 3, 54, 6, 3, 54, 7, 21, 7, 21, 5, 162, 0, 57, 21, 6]
abbrev dktX2_shift_5 : List UInt8 := dkwX2_shift_5 ++ dktX2_shift_6
def dkwX2_shift_4 : List UInt8 := [21, 4, 100, 164, 0, 6, 16, 244, 172, 16, 40, 27, 104, 28, 96, 16, 40, 29, 104, 21, 4, 96]
abbrev dktX2_shift_4 : List UInt8 := dkwX2_shift_4 ++ dktX2_shift_5
def dkwX2_shift_3 : List UInt8 := [155, 0, 30, 21, 5, 42, 180, 0, 158, 27, 46, 28, 100, 163, 0, 17, 21, 5, 42, 180, 0, 158, 29, 46]
abbrev dktX2_shift_3 : List UInt8 := dkwX2_shift_3 ++ dktX2_shift_4
def dkwX2_shift_2 : List UInt8 := [180, 0, 155, 29, 46, 159, 0, 6, 16, 243, 172, 21, 5, 155, 0, 39, 28, 155, 0, 35, 21, 4]
abbrev dktX2_shift_2 : List UInt8 := dkwX2_shift_2 ++ dktX2_shift_3
def dkwX2_shift_1 : List UInt8 := [155, 0, 12, 42, 180, 0, 155, 29, 46, 156, 0, 6, 16, 245, 172, 42, 180, 0, 155, 27, 46, 42]
abbrev dktX2_shift_1 : List UInt8 := dkwX2_shift_1 ++ dktX2_shift_2
def dkwX2_shift_0 : List UInt8 := [27, 184, 1, 212, 153, 0, 10, 29, 184, 1, 212, 154, 0, 5, 2, 172, 42, 180, 0, 155, 27, 46]
abbrev dktX2_shift_0 : List UInt8 := dkwX2_shift_0 ++ dktX2_shift_1
theorem dksX2_shift_0 : cX2_shift.data.toList.drop 0 = dktX2_shift_0 := by decide +kernel
theorem dksX2_shift_1 : cX2_shift.data.toList.drop 22 = dktX2_shift_1 := dk_seg dksX2_shift_0 22 rfl rfl
theorem dksX2_shift_2 : cX2_shift.data.toList.drop 44 = dktX2_shift_2 := dk_seg dksX2_shift_1 22 rfl rfl
theorem dksX2_shift_3 : cX2_shift.data.toList.drop 66 = dktX2_shift_3 := dk_seg dksX2_shift_2 22 rfl rfl
theorem dksX2_shift_4 : cX2_shift.data.toList.drop 90 = dktX2_shift_4 := dk_seg dksX2_shift_3 24 rfl rfl
theorem dksX2_shift_5 : cX2_shift.data.toList.drop 112 = dktX2_shift_5 := dk_seg dksX2_shift_4 22 rfl rfl
theorem dksX2_shift_6 : cX2_shift.data.toList.drop 134 = dktX2_shift_6 := dk_seg dksX2_shift_5 22 rfl rfl
theorem dksX2_shift_7 : cX2_shift.data.toList.drop 158 = dktX2_shift_7 := dk_seg dksX2_shift_6 24 rfl rfl
theorem dksX2_shift_8 : cX2_shift.data.toList.drop 180 = dktX2_shift_8 := dk_seg dksX2_shift_7 22 rfl rfl
theorem dX2_shift_0 : decode cX2_shift 0 = .ok (.iload_n 1, 1) := dk_27 (dk_at dksX2_shift_0 0 rfl rfl)
theorem dX2_shift_1 : decode cX2_shift 1 = .ok (.invokestatic 468, 3) := dk_184 1 212 (dk_at dksX2_shift_0 1 rfl rfl)
theorem dX2_shift_4 : decode cX2_shift 4 = .ok (.ifCond .eq 10, 3) := dk_153 0 10 (dk_at dksX2_shift_0 4 rfl rfl)
theorem dX2_shift_7 : decode cX2_shift 7 = .ok (.iload_n 3, 1) := dk_29 (dk_at dksX2_shift_0 7 rfl rfl)
theorem dX2_shift_8 : decode cX2_shift 8 = .ok (.invokestatic 468, 3) := dk_184 1 212 (dk_at dksX2_shift_0 8 rfl rfl)
theorem dX2_shift_11 : decode cX2_shift 11 = .ok (.ifCond .ne 5, 3) := dk_154 0 5 (dk_at dksX2_shift_0 11 rfl rfl)
theorem dX2_shift_14 : decode cX2_shift 14 = .ok (.iconst (-1), 1) := dk_2 (dk_at dksX2_shift_0 14 rfl rfl)
theorem dX2_shift_15 : decode cX2_shift 15 = .ok (.ireturn, 1) := dk_172 (dk_at dksX2_shift_0 15 rfl rfl)
theorem dX2_shift_16 : decode cX2_shift 16 = .ok (.aload_n 0, 1) := dk_42 (dk_at dksX2_shift_0 16 rfl rfl)
theorem dX2_shift_17 : decode cX2_shift 17 = .ok (.getfield 155, 3) := dk_180 0 155 (dk_at dksX2_shift_0 17 rfl rfl)
theorem dX2_shift_20 : decode cX2_shift 20 = .ok (.iload_n 1, 1) := dk_27 (dk_at dksX2_shift_0 20 rfl rfl)
theorem dX2_shift_21 : decode cX2_shift 21 = .ok (.iaload, 1) := dk_46 (dk_at dksX2_shift_0 21 rfl rfl)
theorem dX2_shift_22 : decode cX2_shift 22 = .ok (.ifCond .lt 12, 3) := dk_155 0 12 (dk_at dksX2_shift_1 0 rfl rfl)
theorem dX2_shift_25 : decode cX2_shift 25 = .ok (.aload_n 0, 1) := dk_42 (dk_at dksX2_shift_1 3 rfl rfl)
theorem dX2_shift_26 : decode cX2_shift 26 = .ok (.getfield 155, 3) := dk_180 0 155 (dk_at dksX2_shift_1 4 rfl rfl)
theorem dX2_shift_29 : decode cX2_shift 29 = .ok (.iload_n 3, 1) := dk_29 (dk_at dksX2_shift_1 7 rfl rfl)
theorem dX2_shift_30 : decode cX2_shift 30 = .ok (.iaload, 1) := dk_46 (dk_at dksX2_shift_1 8 rfl rfl)
theorem dX2_shift_31 : decode cX2_shift 31 = .ok (.ifCond .ge 6, 3) := dk_156 0 6 (dk_at dksX2_shift_1 9 rfl rfl)
theorem dX2_shift_34 : decode cX2_shift 34 = .ok (.bipush (-11), 2) := dk_16 245 (dk_at dksX2_shift_1 12 rfl rfl)
theorem dX2_shift_36 : decode cX2_shift 36 = .ok (.ireturn, 1) := dk_172 (dk_at dksX2_shift_1 14 rfl rfl)
theorem dX2_shift_37 : decode cX2_shift 37 = .ok (.aload_n 0, 1) := dk_42 (dk_at dksX2_shift_1 15 rfl rfl)
theorem dX2_shift_38 : decode cX2_shift 38 = .ok (.getfield 155, 3) := dk_180 0 155 (dk_at dksX2_shift_1 16 rfl rfl)
theorem dX2_shift_41 : decode cX2_shift 41 = .ok (.iload_n 1, 1) := dk_27 (dk_at dksX2_shift_1 19 rfl rfl)
theorem dX2_shift_42 : decode cX2_shift 42 = .ok (.iaload, 1) := dk_46 (dk_at dksX2_shift_1 20 rfl rfl)
theorem dX2_shift_43 : decode cX2_shift 43 = .ok (.aload_n 0, 1) := dk_42 (dk_at dksX2_shift_1 21 rfl rfl)
theorem dX2_shift_44 : decode cX2_shift 44 = .ok (.getfield 155, 3) := dk_180 0 155 (dk_at dksX2_shift_2 0 rfl rfl)
theorem dX2_shift_47 : decode cX2_shift 47 = .ok (.iload_n 3, 1) := dk_29 (dk_at dksX2_shift_2 3 rfl rfl)
theorem dX2_shift_48 : decode cX2_shift 48 = .ok (.iaload, 1) := dk_46 (dk_at dksX2_shift_2 4 rfl rfl)
theorem dX2_shift_49 : decode cX2_shift 49 = .ok (.if_icmp .eq 6, 3) := dk_159 0 6 (dk_at dksX2_shift_2 5 rfl rfl)
theorem dX2_shift_52 : decode cX2_shift 52 = .ok (.bipush (-13), 2) := dk_16 243 (dk_at dksX2_shift_2 8 rfl rfl)
theorem dX2_shift_54 : decode cX2_shift 54 = .ok (.ireturn, 1) := dk_172 (dk_at dksX2_shift_2 10 rfl rfl)
theorem dX2_shift_55 : decode cX2_shift 55 = .ok (.iload 5, 2) := dk_21 5 (dk_at dksX2_shift_2 11 rfl rfl)
theorem dX2_shift_57 : decode cX2_shift 57 = .ok (.ifCond .lt 39, 3) := dk_155 0 39 (dk_at dksX2_shift_2 13 rfl rfl)
theorem dX2_shift_60 : decode cX2_shift 60 = .ok (.iload_n 2, 1) := dk_28 (dk_at dksX2_shift_2 16 rfl rfl)
theorem dX2_shift_61 : decode cX2_shift 61 = .ok (.ifCond .lt 35, 3) := dk_155 0 35 (dk_at dksX2_shift_2 17 rfl rfl)
theorem dX2_shift_64 : decode cX2_shift 64 = .ok (.iload 4, 2) := dk_21 4 (dk_at dksX2_shift_2 20 rfl rfl)
theorem dX2_shift_66 : decode cX2_shift 66 = .ok (.ifCond .lt 30, 3) := dk_155 0 30 (dk_at dksX2_shift_3 0 rfl rfl)
theorem dX2_shift_69 : decode cX2_shift 69 = .ok (.iload 5, 2) := dk_21 5 (dk_at dksX2_shift_3 3 rfl rfl)
theorem dX2_shift_71 : decode cX2_shift 71 = .ok (.aload_n 0, 1) := dk_42 (dk_at dksX2_shift_3 5 rfl rfl)
theorem dX2_shift_72 : decode cX2_shift 72 = .ok (.getfield 158, 3) := dk_180 0 158 (dk_at dksX2_shift_3 6 rfl rfl)
theorem dX2_shift_75 : decode cX2_shift 75 = .ok (.iload_n 1, 1) := dk_27 (dk_at dksX2_shift_3 9 rfl rfl)
theorem dX2_shift_76 : decode cX2_shift 76 = .ok (.iaload, 1) := dk_46 (dk_at dksX2_shift_3 10 rfl rfl)
theorem dX2_shift_77 : decode cX2_shift 77 = .ok (.iload_n 2, 1) := dk_28 (dk_at dksX2_shift_3 11 rfl rfl)
theorem dX2_shift_78 : decode cX2_shift 78 = .ok (.isub, 1) := dk_100 (dk_at dksX2_shift_3 12 rfl rfl)
theorem dX2_shift_79 : decode cX2_shift 79 = .ok (.if_icmp .gt 17, 3) := dk_163 0 17 (dk_at dksX2_shift_3 13 rfl rfl)
theorem dX2_shift_82 : decode cX2_shift 82 = .ok (.iload 5, 2) := dk_21 5 (dk_at dksX2_shift_3 16 rfl rfl)
theorem dX2_shift_84 : decode cX2_shift 84 = .ok (.aload_n 0, 1) := dk_42 (dk_at dksX2_shift_3 18 rfl rfl)
theorem dX2_shift_85 : decode cX2_shift 85 = .ok (.getfield 158, 3) := dk_180 0 158 (dk_at dksX2_shift_3 19 rfl rfl)
theorem dX2_shift_88 : decode cX2_shift 88 = .ok (.iload_n 3, 1) := dk_29 (dk_at dksX2_shift_3 22 rfl rfl)
theorem dX2_shift_89 : decode cX2_shift 89 = .ok (.iaload, 1) := dk_46 (dk_at dksX2_shift_3 23 rfl rfl)
theorem dX2_shift_90 : decode cX2_shift 90 = .ok (.iload 4, 2) := dk_21 4 (dk_at dksX2_shift_4 0 rfl rfl)
theorem dX2_shift_92 : decode cX2_shift 92 = .ok (.isub, 1) := dk_100 (dk_at dksX2_shift_4 2 rfl rfl)
theorem dX2_shift_93 : decode cX2_shift 93 = .ok (.if_icmp .le 6, 3) := dk_164 0 6 (dk_at dksX2_shift_4 3 rfl rfl)
theorem dX2_shift_96 : decode cX2_shift 96 = .ok (.bipush (-12), 2) := dk_16 244 (dk_at dksX2_shift_4 6 rfl rfl)
theorem dX2_shift_98 : decode cX2_shift 98 = .ok (.ireturn, 1) := dk_172 (dk_at dksX2_shift_4 8 rfl rfl)
theorem dX2_shift_99 : decode cX2_shift 99 = .ok (.bipush 40, 2) := dk_16 40 (dk_at dksX2_shift_4 9 rfl rfl)
theorem dX2_shift_101 : decode cX2_shift 101 = .ok (.iload_n 1, 1) := dk_27 (dk_at dksX2_shift_4 11 rfl rfl)
theorem dX2_shift_102 : decode cX2_shift 102 = .ok (.imul, 1) := dk_104 (dk_at dksX2_shift_4 12 rfl rfl)
theorem dX2_shift_103 : decode cX2_shift 103 = .ok (.iload_n 2, 1) := dk_28 (dk_at dksX2_shift_4 13 rfl rfl)
theorem dX2_shift_104 : decode cX2_shift 104 = .ok (.iadd, 1) := dk_96 (dk_at dksX2_shift_4 14 rfl rfl)
theorem dX2_shift_105 : decode cX2_shift 105 = .ok (.bipush 40, 2) := dk_16 40 (dk_at dksX2_shift_4 15 rfl rfl)
theorem dX2_shift_107 : decode cX2_shift 107 = .ok (.iload_n 3, 1) := dk_29 (dk_at dksX2_shift_4 17 rfl rfl)
theorem dX2_shift_108 : decode cX2_shift 108 = .ok (.imul, 1) := dk_104 (dk_at dksX2_shift_4 18 rfl rfl)
theorem dX2_shift_109 : decode cX2_shift 109 = .ok (.iload 4, 2) := dk_21 4 (dk_at dksX2_shift_4 19 rfl rfl)
theorem dX2_shift_111 : decode cX2_shift 111 = .ok (.iadd, 1) := dk_96 (dk_at dksX2_shift_4 21 rfl rfl)
theorem dX2_shift_112 : decode cX2_shift 112 = .ok (.if_icmp .ge 7, 3) := dk_162 0 7 (dk_at dksX2_shift_5 0 rfl rfl)
theorem dX2_shift_115 : decode cX2_shift 115 = .ok (.iconst 1, 1) := dk_4 (dk_at dksX2_shift_5 3 rfl rfl)
theorem dX2_shift_116 : decode cX2_shift 116 = .ok (.goto 4, 3) := dk_167 0 4 (dk_at dksX2_shift_5 4 rfl rfl)
theorem dX2_shift_119 : decode cX2_shift 119 = .ok (.iconst 0, 1) := dk_3 (dk_at dksX2_shift_5 7 rfl rfl)
theorem dX2_shift_120 : decode cX2_shift 120 = .ok (.istore 6, 2) := dk_54 6 (dk_at dksX2_shift_5 8 rfl rfl)
theorem dX2_shift_122 : decode cX2_shift 122 = .ok (.iconst 0, 1) := dk_3 (dk_at dksX2_shift_5 10 rfl rfl)
theorem dX2_shift_123 : decode cX2_shift 123 = .ok (.istore 7, 2) := dk_54 7 (dk_at dksX2_shift_5 11 rfl rfl)
theorem dX2_shift_125 : decode cX2_shift 125 = .ok (.iload 7, 2) := dk_21 7 (dk_at dksX2_shift_5 13 rfl rfl)
theorem dX2_shift_127 : decode cX2_shift 127 = .ok (.iload 5, 2) := dk_21 5 (dk_at dksX2_shift_5 15 rfl rfl)
theorem dX2_shift_129 : decode cX2_shift 129 = .ok (.if_icmp .ge 57, 3) := dk_162 0 57 (dk_at dksX2_shift_5 17 rfl rfl)
theorem dX2_shift_132 : decode cX2_shift 132 = .ok (.iload 6, 2) := dk_21 6 (dk_at dksX2_shift_5 20 rfl rfl)
theorem dX2_shift_134 : decode cX2_shift 134 = .ok (.ifCond .eq 13, 3) := dk_153 0 13 (dk_at dksX2_shift_6 0 rfl rfl)
theorem dX2_shift_137 : decode cX2_shift 137 = .ok (.iload 5, 2) := dk_21 5 (dk_at dksX2_shift_6 3 rfl rfl)
theorem dX2_shift_139 : decode cX2_shift 139 = .ok (.iconst 1, 1) := dk_4 (dk_at dksX2_shift_6 5 rfl rfl)
theorem dX2_shift_140 : decode cX2_shift 140 = .ok (.isub, 1) := dk_100 (dk_at dksX2_shift_6 6 rfl rfl)
theorem dX2_shift_141 : decode cX2_shift 141 = .ok (.iload 7, 2) := dk_21 7 (dk_at dksX2_shift_6 7 rfl rfl)
theorem dX2_shift_143 : decode cX2_shift 143 = .ok (.isub, 1) := dk_100 (dk_at dksX2_shift_6 9 rfl rfl)
theorem dX2_shift_144 : decode cX2_shift 144 = .ok (.goto 5, 3) := dk_167 0 5 (dk_at dksX2_shift_6 10 rfl rfl)
theorem dX2_shift_147 : decode cX2_shift 147 = .ok (.iload 7, 2) := dk_21 7 (dk_at dksX2_shift_6 13 rfl rfl)
theorem dX2_shift_149 : decode cX2_shift 149 = .ok (.istore 8, 2) := dk_54 8 (dk_at dksX2_shift_6 15 rfl rfl)
theorem dX2_shift_151 : decode cX2_shift 151 = .ok (.aload_n 0, 1) := dk_42 (dk_at dksX2_shift_6 17 rfl rfl)
theorem dX2_shift_152 : decode cX2_shift 152 = .ok (.getfield 161, 3) := dk_180 0 161 (dk_at dksX2_shift_6 18 rfl rfl)
theorem dX2_shift_155 : decode cX2_shift 155 = .ok (.bipush 40, 2) := dk_16 40 (dk_at dksX2_shift_6 21 rfl rfl)
theorem dX2_shift_157 : decode cX2_shift 157 = .ok (.iload_n 3, 1) := dk_29 (dk_at dksX2_shift_6 23 rfl rfl)
theorem dX2_shift_158 : decode cX2_shift 158 = .ok (.imul, 1) := dk_104 (dk_at dksX2_shift_7 0 rfl rfl)
theorem dX2_shift_159 : decode cX2_shift 159 = .ok (.iload 4, 2) := dk_21 4 (dk_at dksX2_shift_7 1 rfl rfl)
theorem dX2_shift_161 : decode cX2_shift 161 = .ok (.iadd, 1) := dk_96 (dk_at dksX2_shift_7 3 rfl rfl)
theorem dX2_shift_162 : decode cX2_shift 162 = .ok (.iload 8, 2) := dk_21 8 (dk_at dksX2_shift_7 4 rfl rfl)
theorem dX2_shift_164 : decode cX2_shift 164 = .ok (.iadd, 1) := dk_96 (dk_at dksX2_shift_7 6 rfl rfl)
theorem dX2_shift_165 : decode cX2_shift 165 = .ok (.aload_n 0, 1) := dk_42 (dk_at dksX2_shift_7 7 rfl rfl)
theorem dX2_shift_166 : decode cX2_shift 166 = .ok (.getfield 161, 3) := dk_180 0 161 (dk_at dksX2_shift_7 8 rfl rfl)
theorem dX2_shift_169 : decode cX2_shift 169 = .ok (.bipush 40, 2) := dk_16 40 (dk_at dksX2_shift_7 11 rfl rfl)
theorem dX2_shift_171 : decode cX2_shift 171 = .ok (.iload_n 1, 1) := dk_27 (dk_at dksX2_shift_7 13 rfl rfl)
theorem dX2_shift_172 : decode cX2_shift 172 = .ok (.imul, 1) := dk_104 (dk_at dksX2_shift_7 14 rfl rfl)
theorem dX2_shift_173 : decode cX2_shift 173 = .ok (.iload_n 2, 1) := dk_28 (dk_at dksX2_shift_7 15 rfl rfl)
theorem dX2_shift_174 : decode cX2_shift 174 = .ok (.iadd, 1) := dk_96 (dk_at dksX2_shift_7 16 rfl rfl)
theorem dX2_shift_175 : decode cX2_shift 175 = .ok (.iload 8, 2) := dk_21 8 (dk_at dksX2_shift_7 17 rfl rfl)
theorem dX2_shift_177 : decode cX2_shift 177 = .ok (.iadd, 1) := dk_96 (dk_at dksX2_shift_7 19 rfl rfl)
theorem dX2_shift_178 : decode cX2_shift 178 = .ok (.iaload, 1) := dk_46 (dk_at dksX2_shift_7 20 rfl rfl)
theorem dX2_shift_179 : decode cX2_shift 179 = .ok (.iastore, 1) := dk_79 (dk_at dksX2_shift_7 21 rfl rfl)
theorem dX2_shift_180 : decode cX2_shift 180 = .ok (.iinc 7 1, 3) := dk_132 7 1 (dk_at dksX2_shift_8 0 rfl rfl)
theorem dX2_shift_183 : decode cX2_shift 183 = .ok (.goto (-58), 3) := dk_167 255 198 (dk_at dksX2_shift_8 3 rfl rfl)
theorem dX2_shift_186 : decode cX2_shift 186 = .ok (.iload 5, 2) := dk_21 5 (dk_at dksX2_shift_8 6 rfl rfl)
theorem dX2_shift_188 : decode cX2_shift 188 = .ok (.ireturn, 1) := dk_172 (dk_at dksX2_shift_8 8 rfl rfl)
abbrev cX2_count : ByteArray := prog_18_method_97_code
def yX2_count : MethodName := ⟨RX2, "count", "(I)I"⟩
def dkwX2_count_5 : List UInt8 := [132, 3, 1, 167, 255, 231, 28, 172, 42, 180, 0, 179, 153, 0, 7, 4, 167, 0, 4, 3, 172, 2, 172]
abbrev dktX2_count_5 : List UInt8 := dkwX2_count_5 ++ []
def dkwX2_count_4 : List UInt8 := [3, 62, 29, 7, 162, 0, 26, 28, 42, 180, 0, 155, 29, 46, 155, 0, 7, 4, 167, 0, 4, 3, 96, 61]
abbrev dktX2_count_4 : List UInt8 := dkwX2_count_4 ++ dktX2_count_5
def dkwX2_count_3 : List UInt8 := [29, 182, 0, 187, 155, 0, 9, 4, 29, 120, 167, 0, 4, 3, 128, 61, 132, 3, 1, 167, 255, 230, 28, 172]
abbrev dktX2_count_3 : List UInt8 := dkwX2_count_3 ++ dktX2_count_4
def dkwX2_count_2 : List UInt8 := [42, 180, 0, 168, 172, 42, 180, 0, 172, 172, 42, 180, 0, 197, 172, 3, 62, 29, 8, 162, 0, 27, 28, 42]
abbrev dktX2_count_2 : List UInt8 := dkwX2_count_2 ++ dktX2_count_3
def dkwX2_count_1 : List UInt8 := [170, 0, 0, 0, 130, 0, 0, 0, 0, 0, 0, 0, 5, 0, 0, 0, 37, 0, 0, 0, 42, 0, 0, 0, 47, 0, 0, 0, 52, 0, 0, 0, 85, 0, 0, 0, 117]
abbrev dktX2_count_1 : List UInt8 := dkwX2_count_1 ++ dktX2_count_2
def dkwX2_count_0 : List UInt8 := [3, 61, 27]
abbrev dktX2_count_0 : List UInt8 := dkwX2_count_0 ++ dktX2_count_1
theorem dksX2_count_0 : cX2_count.data.toList.drop 0 = dktX2_count_0 := by decide +kernel
theorem dksX2_count_1 : cX2_count.data.toList.drop 3 = dktX2_count_1 := dk_seg dksX2_count_0 3 rfl rfl
theorem dksX2_count_2 : cX2_count.data.toList.drop 40 = dktX2_count_2 := dk_seg dksX2_count_1 37 rfl rfl
theorem dksX2_count_3 : cX2_count.data.toList.drop 64 = dktX2_count_3 := dk_seg dksX2_count_2 24 rfl rfl
theorem dksX2_count_4 : cX2_count.data.toList.drop 88 = dktX2_count_4 := dk_seg dksX2_count_3 24 rfl rfl
theorem dksX2_count_5 : cX2_count.data.toList.drop 112 = dktX2_count_5 := dk_seg dksX2_count_4 24 rfl rfl
theorem dX2_count_0 : decode cX2_count 0 = .ok (.iconst 0, 1) := dk_3 (dk_at dksX2_count_0 0 rfl rfl)
theorem dX2_count_1 : decode cX2_count 1 = .ok (.istore_n 2, 1) := dk_61 (dk_at dksX2_count_0 1 rfl rfl)
theorem dX2_count_2 : decode cX2_count 2 = .ok (.iload_n 1, 1) := dk_27 (dk_at dksX2_count_0 2 rfl rfl)
theorem dX2_count_3 : decode cX2_count 3 = .ok (.tableswitch 130 0 5 #[37, 42, 47, 52, 85, 117], 37) := by decide +kernel
theorem dX2_count_40 : decode cX2_count 40 = .ok (.aload_n 0, 1) := dk_42 (dk_at dksX2_count_2 0 rfl rfl)
theorem dX2_count_41 : decode cX2_count 41 = .ok (.getfield 168, 3) := dk_180 0 168 (dk_at dksX2_count_2 1 rfl rfl)
theorem dX2_count_44 : decode cX2_count 44 = .ok (.ireturn, 1) := dk_172 (dk_at dksX2_count_2 4 rfl rfl)
theorem dX2_count_45 : decode cX2_count 45 = .ok (.aload_n 0, 1) := dk_42 (dk_at dksX2_count_2 5 rfl rfl)
theorem dX2_count_46 : decode cX2_count 46 = .ok (.getfield 172, 3) := dk_180 0 172 (dk_at dksX2_count_2 6 rfl rfl)
theorem dX2_count_49 : decode cX2_count 49 = .ok (.ireturn, 1) := dk_172 (dk_at dksX2_count_2 9 rfl rfl)
theorem dX2_count_50 : decode cX2_count 50 = .ok (.aload_n 0, 1) := dk_42 (dk_at dksX2_count_2 10 rfl rfl)
theorem dX2_count_51 : decode cX2_count 51 = .ok (.getfield 197, 3) := dk_180 0 197 (dk_at dksX2_count_2 11 rfl rfl)
theorem dX2_count_54 : decode cX2_count 54 = .ok (.ireturn, 1) := dk_172 (dk_at dksX2_count_2 14 rfl rfl)
theorem dX2_count_55 : decode cX2_count 55 = .ok (.iconst 0, 1) := dk_3 (dk_at dksX2_count_2 15 rfl rfl)
theorem dX2_count_56 : decode cX2_count 56 = .ok (.istore_n 3, 1) := dk_62 (dk_at dksX2_count_2 16 rfl rfl)
theorem dX2_count_57 : decode cX2_count 57 = .ok (.iload_n 3, 1) := dk_29 (dk_at dksX2_count_2 17 rfl rfl)
theorem dX2_count_58 : decode cX2_count 58 = .ok (.iconst 5, 1) := dk_8 (dk_at dksX2_count_2 18 rfl rfl)
theorem dX2_count_59 : decode cX2_count 59 = .ok (.if_icmp .ge 27, 3) := dk_162 0 27 (dk_at dksX2_count_2 19 rfl rfl)
theorem dX2_count_62 : decode cX2_count 62 = .ok (.iload_n 2, 1) := dk_28 (dk_at dksX2_count_2 22 rfl rfl)
theorem dX2_count_63 : decode cX2_count 63 = .ok (.aload_n 0, 1) := dk_42 (dk_at dksX2_count_2 23 rfl rfl)
theorem dX2_count_64 : decode cX2_count 64 = .ok (.iload_n 3, 1) := dk_29 (dk_at dksX2_count_3 0 rfl rfl)
theorem dX2_count_65 : decode cX2_count 65 = .ok (.invokevirtual 187, 3) := dk_182 0 187 (dk_at dksX2_count_3 1 rfl rfl)
theorem dX2_count_68 : decode cX2_count 68 = .ok (.ifCond .lt 9, 3) := dk_155 0 9 (dk_at dksX2_count_3 4 rfl rfl)
theorem dX2_count_71 : decode cX2_count 71 = .ok (.iconst 1, 1) := dk_4 (dk_at dksX2_count_3 7 rfl rfl)
theorem dX2_count_72 : decode cX2_count 72 = .ok (.iload_n 3, 1) := dk_29 (dk_at dksX2_count_3 8 rfl rfl)
theorem dX2_count_73 : decode cX2_count 73 = .ok (.ishl, 1) := dk_120 (dk_at dksX2_count_3 9 rfl rfl)
theorem dX2_count_74 : decode cX2_count 74 = .ok (.goto 4, 3) := dk_167 0 4 (dk_at dksX2_count_3 10 rfl rfl)
theorem dX2_count_77 : decode cX2_count 77 = .ok (.iconst 0, 1) := dk_3 (dk_at dksX2_count_3 13 rfl rfl)
theorem dX2_count_78 : decode cX2_count 78 = .ok (.ior, 1) := dk_128 (dk_at dksX2_count_3 14 rfl rfl)
theorem dX2_count_79 : decode cX2_count 79 = .ok (.istore_n 2, 1) := dk_61 (dk_at dksX2_count_3 15 rfl rfl)
theorem dX2_count_80 : decode cX2_count 80 = .ok (.iinc 3 1, 3) := dk_132 3 1 (dk_at dksX2_count_3 16 rfl rfl)
theorem dX2_count_83 : decode cX2_count 83 = .ok (.goto (-26), 3) := dk_167 255 230 (dk_at dksX2_count_3 19 rfl rfl)
theorem dX2_count_86 : decode cX2_count 86 = .ok (.iload_n 2, 1) := dk_28 (dk_at dksX2_count_3 22 rfl rfl)
theorem dX2_count_87 : decode cX2_count 87 = .ok (.ireturn, 1) := dk_172 (dk_at dksX2_count_3 23 rfl rfl)
theorem dX2_count_88 : decode cX2_count 88 = .ok (.iconst 0, 1) := dk_3 (dk_at dksX2_count_4 0 rfl rfl)
theorem dX2_count_89 : decode cX2_count 89 = .ok (.istore_n 3, 1) := dk_62 (dk_at dksX2_count_4 1 rfl rfl)
theorem dX2_count_90 : decode cX2_count 90 = .ok (.iload_n 3, 1) := dk_29 (dk_at dksX2_count_4 2 rfl rfl)
theorem dX2_count_91 : decode cX2_count 91 = .ok (.iconst 4, 1) := dk_7 (dk_at dksX2_count_4 3 rfl rfl)
theorem dX2_count_92 : decode cX2_count 92 = .ok (.if_icmp .ge 26, 3) := dk_162 0 26 (dk_at dksX2_count_4 4 rfl rfl)
theorem dX2_count_95 : decode cX2_count 95 = .ok (.iload_n 2, 1) := dk_28 (dk_at dksX2_count_4 7 rfl rfl)
theorem dX2_count_96 : decode cX2_count 96 = .ok (.aload_n 0, 1) := dk_42 (dk_at dksX2_count_4 8 rfl rfl)
theorem dX2_count_97 : decode cX2_count 97 = .ok (.getfield 155, 3) := dk_180 0 155 (dk_at dksX2_count_4 9 rfl rfl)
theorem dX2_count_100 : decode cX2_count 100 = .ok (.iload_n 3, 1) := dk_29 (dk_at dksX2_count_4 12 rfl rfl)
theorem dX2_count_101 : decode cX2_count 101 = .ok (.iaload, 1) := dk_46 (dk_at dksX2_count_4 13 rfl rfl)
theorem dX2_count_102 : decode cX2_count 102 = .ok (.ifCond .lt 7, 3) := dk_155 0 7 (dk_at dksX2_count_4 14 rfl rfl)
theorem dX2_count_105 : decode cX2_count 105 = .ok (.iconst 1, 1) := dk_4 (dk_at dksX2_count_4 17 rfl rfl)
theorem dX2_count_106 : decode cX2_count 106 = .ok (.goto 4, 3) := dk_167 0 4 (dk_at dksX2_count_4 18 rfl rfl)
theorem dX2_count_109 : decode cX2_count 109 = .ok (.iconst 0, 1) := dk_3 (dk_at dksX2_count_4 21 rfl rfl)
theorem dX2_count_110 : decode cX2_count 110 = .ok (.iadd, 1) := dk_96 (dk_at dksX2_count_4 22 rfl rfl)
theorem dX2_count_111 : decode cX2_count 111 = .ok (.istore_n 2, 1) := dk_61 (dk_at dksX2_count_4 23 rfl rfl)
theorem dX2_count_112 : decode cX2_count 112 = .ok (.iinc 3 1, 3) := dk_132 3 1 (dk_at dksX2_count_5 0 rfl rfl)
theorem dX2_count_115 : decode cX2_count 115 = .ok (.goto (-25), 3) := dk_167 255 231 (dk_at dksX2_count_5 3 rfl rfl)
theorem dX2_count_118 : decode cX2_count 118 = .ok (.iload_n 2, 1) := dk_28 (dk_at dksX2_count_5 6 rfl rfl)
theorem dX2_count_119 : decode cX2_count 119 = .ok (.ireturn, 1) := dk_172 (dk_at dksX2_count_5 7 rfl rfl)
theorem dX2_count_120 : decode cX2_count 120 = .ok (.aload_n 0, 1) := dk_42 (dk_at dksX2_count_5 8 rfl rfl)
theorem dX2_count_121 : decode cX2_count 121 = .ok (.getfield 179, 3) := dk_180 0 179 (dk_at dksX2_count_5 9 rfl rfl)
theorem dX2_count_124 : decode cX2_count 124 = .ok (.ifCond .eq 7, 3) := dk_153 0 7 (dk_at dksX2_count_5 12 rfl rfl)
theorem dX2_count_127 : decode cX2_count 127 = .ok (.iconst 1, 1) := dk_4 (dk_at dksX2_count_5 15 rfl rfl)
theorem dX2_count_128 : decode cX2_count 128 = .ok (.goto 4, 3) := dk_167 0 4 (dk_at dksX2_count_5 16 rfl rfl)
theorem dX2_count_131 : decode cX2_count 131 = .ok (.iconst 0, 1) := dk_3 (dk_at dksX2_count_5 19 rfl rfl)
theorem dX2_count_132 : decode cX2_count 132 = .ok (.ireturn, 1) := dk_172 (dk_at dksX2_count_5 20 rfl rfl)
theorem dX2_count_133 : decode cX2_count 133 = .ok (.iconst (-1), 1) := dk_2 (dk_at dksX2_count_5 21 rfl rfl)
theorem dX2_count_134 : decode cX2_count 134 = .ok (.ireturn, 1) := dk_172 (dk_at dksX2_count_5 22 rfl rfl)
theorem q113 : (Jvm.Cond.initialized "TypesAtPrimeModel") ∈ lw_all := lw_g (lw_at lw_m1 11 rfl) rfl
theorem q587 : (Jvm.Cond.selects "TypesAtPrimeModel" ({ cls := "java/lang/Object", name := "getClass", desc := "()Ljava/lang/Class;" } : Jvm.MethodName) ({ cls := "java/lang/Object", name := "getClass", desc := "()Ljava/lang/Class;" } : Jvm.MethodName)) ∈ lw_all := lw_g (lw_at lw_m3 5 rfl) rfl
theorem q1582 : (Jvm.Cond.selects "TypesAtPrimeModel" ({ cls := "java/lang/Object", name := "toString", desc := "()Ljava/lang/String;" } : Jvm.MethodName) ({ cls := "java/lang/Object", name := "toString", desc := "()Ljava/lang/String;" } : Jvm.MethodName)) ∈ lw_all := lw_g (lw_at lw_m7 40 rfl) rfl
theorem q1978 : (Jvm.Cond.instantiable "TypesAtPrimeModel" (67 : Nat)) ∈ lw_all := lw_g (lw_at lw_m8 196 rfl) rfl
theorem q1980 : (Jvm.Cond.instanceMethod ({ cls := "TypesAtPrimeModel", name := "<init>", desc := "()V" } : Jvm.MethodName)) ∈ lw_all := lw_g (lw_at lw_m8 198 rfl) rfl
theorem q1981 : (Jvm.Cond.code ({ cls := "TypesAtPrimeModel", name := "<init>", desc := "()V" } : Jvm.MethodName) prog_18_method_1_code (1 : Nat) (Option.none : Option Jvm.ClassFile.FieldType)) ∈ lw_all := lw_g (lw_at lw_m8 199 rfl) rfl
theorem q1982 : (Jvm.Cond.methodLink "TypesAtPrimeModel" (1 : Nat) ({ cls := "java/lang/Object", name := "<init>", desc := "()V" } : Jvm.MethodName)) ∈ lw_all := lw_g (lw_at lw_m8 200 rfl) rfl
theorem q1983 : (Jvm.Cond.methodLink "TypesAtPrimeModel" (164 : Nat) ({ cls := "TypesAtPrimeModel", name := "lays", desc := "(II)V" } : Jvm.MethodName)) ∈ lw_all := lw_g (lw_at lw_m8 201 rfl) rfl
theorem q1984 : (Jvm.Cond.privateMethod ({ cls := "TypesAtPrimeModel", name := "lays", desc := "(II)V" } : Jvm.MethodName)) ∈ lw_tbl := lw_at lw_m8 202 rfl
theorem q1985 : (Jvm.Cond.instanceMethod ({ cls := "TypesAtPrimeModel", name := "lays", desc := "(II)V" } : Jvm.MethodName)) ∈ lw_all := lw_g (lw_at lw_m8 203 rfl) rfl
theorem q1986 : (Jvm.Cond.code ({ cls := "TypesAtPrimeModel", name := "lays", desc := "(II)V" } : Jvm.MethodName) prog_18_method_2_code (4 : Nat) (Option.none : Option Jvm.ClassFile.FieldType)) ∈ lw_all := lw_g (lw_at lw_m8 204 rfl) rfl
theorem q1987 : (Jvm.Cond.fieldLink "TypesAtPrimeModel" (168 : Nat) "TypesAtPrimeModel" "p" "I") ∈ lw_all := lw_g (lw_at lw_m8 205 rfl) rfl
theorem q1988 : (Jvm.Cond.fieldLink "TypesAtPrimeModel" (172 : Nat) "TypesAtPrimeModel" "limit" "I") ∈ lw_all := lw_g (lw_at lw_m8 206 rfl) rfl
theorem q1989 : (Jvm.Cond.fieldLink "TypesAtPrimeModel" (175 : Nat) "TypesAtPrimeModel" "whole" "J") ∈ lw_all := lw_g (lw_at lw_m8 207 rfl) rfl
theorem q1990 : (Jvm.Cond.fieldLink "TypesAtPrimeModel" (7 : Nat) "TypesAtPrimeModel" "coefficients" "[I") ∈ lw_all := lw_g (lw_at lw_m8 208 rfl) rfl
theorem q1991 : (Jvm.Cond.fieldLink "TypesAtPrimeModel" (13 : Nat) "TypesAtPrimeModel" "tape" "[I") ∈ lw_all := lw_g (lw_at lw_m8 209 rfl) rfl
theorem q1992 : (Jvm.Cond.fieldLink "TypesAtPrimeModel" (197 : Nat) "TypesAtPrimeModel" "taped" "I") ∈ lw_all := lw_g (lw_at lw_m8 210 rfl) rfl
theorem q1993 : (Jvm.Cond.fieldLink "TypesAtPrimeModel" (200 : Nat) "TypesAtPrimeModel" "at" "I") ∈ lw_all := lw_g (lw_at lw_m8 211 rfl) rfl
theorem q1994 : (Jvm.Cond.fieldLink "TypesAtPrimeModel" (16 : Nat) "TypesAtPrimeModel" "read" "[J") ∈ lw_all := lw_g (lw_at lw_m8 212 rfl) rfl
theorem q1995 : (Jvm.Cond.fieldLink "TypesAtPrimeModel" (20 : Nat) "TypesAtPrimeModel" "row" "[J") ∈ lw_all := lw_g (lw_at lw_m8 213 rfl) rfl
theorem q1996 : (Jvm.Cond.fieldLink "TypesAtPrimeModel" (23 : Nat) "TypesAtPrimeModel" "keys" "[J") ∈ lw_all := lw_g (lw_at lw_m8 214 rfl) rfl
theorem q1997 : (Jvm.Cond.fieldLink "TypesAtPrimeModel" (26 : Nat) "TypesAtPrimeModel" "left" "[I") ∈ lw_all := lw_g (lw_at lw_m8 215 rfl) rfl
theorem q1998 : (Jvm.Cond.fieldLink "TypesAtPrimeModel" (265 : Nat) "TypesAtPrimeModel" "leftDegree" "I") ∈ lw_all := lw_g (lw_at lw_m8 216 rfl) rfl
theorem q1999 : (Jvm.Cond.fieldLink "TypesAtPrimeModel" (272 : Nat) "TypesAtPrimeModel" "factors" "I") ∈ lw_all := lw_g (lw_at lw_m8 217 rfl) rfl
theorem q2000 : (Jvm.Cond.fieldLink "TypesAtPrimeModel" (29 : Nat) "TypesAtPrimeModel" "factorDegree" "[I") ∈ lw_all := lw_g (lw_at lw_m8 218 rfl) rfl
theorem q2001 : (Jvm.Cond.fieldLink "TypesAtPrimeModel" (32 : Nat) "TypesAtPrimeModel" "factorTimes" "[I") ∈ lw_all := lw_g (lw_at lw_m8 219 rfl) rfl
theorem q2002 : (Jvm.Cond.fieldLink "TypesAtPrimeModel" (35 : Nat) "TypesAtPrimeModel" "factorAt" "[I") ∈ lw_all := lw_g (lw_at lw_m8 220 rfl) rfl
theorem q2003 : (Jvm.Cond.fieldLink "TypesAtPrimeModel" (38 : Nat) "TypesAtPrimeModel" "trial" "[I") ∈ lw_all := lw_g (lw_at lw_m8 221 rfl) rfl
theorem q2004 : (Jvm.Cond.fieldLink "TypesAtPrimeModel" (41 : Nat) "TypesAtPrimeModel" "rest" "[I") ∈ lw_all := lw_g (lw_at lw_m8 222 rfl) rfl
theorem q2005 : (Jvm.Cond.fieldLink "TypesAtPrimeModel" (179 : Nat) "TypesAtPrimeModel" "isTree" "Z") ∈ lw_all := lw_g (lw_at lw_m8 223 rfl) rfl
theorem q2006 : (Jvm.Cond.fieldLink "TypesAtPrimeModel" (44 : Nat) "TypesAtPrimeModel" "its" "[J") ∈ lw_all := lw_g (lw_at lw_m8 224 rfl) rfl
theorem q2007 : (Jvm.Cond.fieldLink "TypesAtPrimeModel" (408 : Nat) "TypesAtPrimeModel" "itsDegree" "I") ∈ lw_all := lw_g (lw_at lw_m8 225 rfl) rfl
theorem q2008 : (Jvm.Cond.fieldLink "TypesAtPrimeModel" (372 : Nat) "TypesAtPrimeModel" "knots" "I") ∈ lw_all := lw_g (lw_at lw_m8 226 rfl) rfl
theorem q2009 : (Jvm.Cond.fieldLink "TypesAtPrimeModel" (325 : Nat) "TypesAtPrimeModel" "sides" "I") ∈ lw_all := lw_g (lw_at lw_m8 227 rfl) rfl
theorem q2010 : (Jvm.Cond.fieldLink "TypesAtPrimeModel" (349 : Nat) "TypesAtPrimeModel" "leaves" "I") ∈ lw_all := lw_g (lw_at lw_m8 228 rfl) rfl
theorem q2011 : (Jvm.Cond.fieldLink "TypesAtPrimeModel" (47 : Nat) "TypesAtPrimeModel" "level" "[I") ∈ lw_all := lw_g (lw_at lw_m8 229 rfl) rfl
theorem q2012 : (Jvm.Cond.fieldLink "TypesAtPrimeModel" (50 : Nat) "TypesAtPrimeModel" "manifold" "[I") ∈ lw_all := lw_g (lw_at lw_m8 230 rfl) rfl
theorem q2013 : (Jvm.Cond.fieldLink "TypesAtPrimeModel" (53 : Nat) "TypesAtPrimeModel" "above" "[I") ∈ lw_all := lw_g (lw_at lw_m8 231 rfl) rfl
theorem q2014 : (Jvm.Cond.fieldLink "TypesAtPrimeModel" (56 : Nat) "TypesAtPrimeModel" "firstSide" "[I") ∈ lw_all := lw_g (lw_at lw_m8 232 rfl) rfl
theorem q2015 : (Jvm.Cond.fieldLink "TypesAtPrimeModel" (59 : Nat) "TypesAtPrimeModel" "manySides" "[I") ∈ lw_all := lw_g (lw_at lw_m8 233 rfl) rfl
theorem q2016 : (Jvm.Cond.fieldLink "TypesAtPrimeModel" (62 : Nat) "TypesAtPrimeModel" "zeros" "[I") ∈ lw_all := lw_g (lw_at lw_m8 234 rfl) rfl
theorem q2017 : (Jvm.Cond.fieldLink "TypesAtPrimeModel" (65 : Nat) "TypesAtPrimeModel" "index0" "[I") ∈ lw_all := lw_g (lw_at lw_m8 235 rfl) rfl
theorem q2018 : (Jvm.Cond.fieldLink "TypesAtPrimeModel" (68 : Nat) "TypesAtPrimeModel" "points" "[I") ∈ lw_all := lw_g (lw_at lw_m8 236 rfl) rfl
theorem q2019 : (Jvm.Cond.fieldLink "TypesAtPrimeModel" (71 : Nat) "TypesAtPrimeModel" "madeRamified" "[I") ∈ lw_all := lw_g (lw_at lw_m8 237 rfl) rfl
theorem q2020 : (Jvm.Cond.fieldLink "TypesAtPrimeModel" (74 : Nat) "TypesAtPrimeModel" "madeSlope" "[I") ∈ lw_all := lw_g (lw_at lw_m8 238 rfl) rfl
theorem q2021 : (Jvm.Cond.fieldLink "TypesAtPrimeModel" (77 : Nat) "TypesAtPrimeModel" "madeRoot" "[I") ∈ lw_all := lw_g (lw_at lw_m8 239 rfl) rfl
theorem q2022 : (Jvm.Cond.fieldLink "TypesAtPrimeModel" (80 : Nat) "TypesAtPrimeModel" "madeMonomial" "[I") ∈ lw_all := lw_g (lw_at lw_m9 0 rfl) rfl
theorem q2023 : (Jvm.Cond.fieldLink "TypesAtPrimeModel" (83 : Nat) "TypesAtPrimeModel" "sideFrom" "[I") ∈ lw_all := lw_g (lw_at lw_m9 1 rfl) rfl
theorem q2024 : (Jvm.Cond.fieldLink "TypesAtPrimeModel" (86 : Nat) "TypesAtPrimeModel" "sideTo" "[I") ∈ lw_all := lw_g (lw_at lw_m9 2 rfl) rfl
theorem q2025 : (Jvm.Cond.fieldLink "TypesAtPrimeModel" (89 : Nat) "TypesAtPrimeModel" "sideFall" "[I") ∈ lw_all := lw_g (lw_at lw_m9 3 rfl) rfl
theorem q2026 : (Jvm.Cond.fieldLink "TypesAtPrimeModel" (92 : Nat) "TypesAtPrimeModel" "sideRamified" "[I") ∈ lw_all := lw_g (lw_at lw_m9 4 rfl) rfl
theorem q2027 : (Jvm.Cond.fieldLink "TypesAtPrimeModel" (95 : Nat) "TypesAtPrimeModel" "sideDegree" "[I") ∈ lw_all := lw_g (lw_at lw_m9 5 rfl) rfl
theorem q2028 : (Jvm.Cond.fieldLink "TypesAtPrimeModel" (98 : Nat) "TypesAtPrimeModel" "sideSlope" "[I") ∈ lw_all := lw_g (lw_at lw_m9 6 rfl) rfl
theorem q2029 : (Jvm.Cond.fieldLink "TypesAtPrimeModel" (101 : Nat) "TypesAtPrimeModel" "sideMonomial" "[I") ∈ lw_all := lw_g (lw_at lw_m9 7 rfl) rfl
theorem q2030 : (Jvm.Cond.fieldLink "TypesAtPrimeModel" (104 : Nat) "TypesAtPrimeModel" "sideResidual" "[I") ∈ lw_all := lw_g (lw_at lw_m9 8 rfl) rfl
theorem q2031 : (Jvm.Cond.fieldLink "TypesAtPrimeModel" (107 : Nat) "TypesAtPrimeModel" "leafKind" "[I") ∈ lw_all := lw_g (lw_at lw_m9 9 rfl) rfl
theorem q2032 : (Jvm.Cond.fieldLink "TypesAtPrimeModel" (110 : Nat) "TypesAtPrimeModel" "leafRamified" "[I") ∈ lw_all := lw_g (lw_at lw_m9 10 rfl) rfl
theorem q2033 : (Jvm.Cond.fieldLink "TypesAtPrimeModel" (113 : Nat) "TypesAtPrimeModel" "leafResidue" "[I") ∈ lw_all := lw_g (lw_at lw_m9 11 rfl) rfl
theorem q2034 : (Jvm.Cond.fieldLink "TypesAtPrimeModel" (116 : Nat) "TypesAtPrimeModel" "leafDegree" "[I") ∈ lw_all := lw_g (lw_at lw_m9 12 rfl) rfl
theorem q2035 : (Jvm.Cond.fieldLink "TypesAtPrimeModel" (119 : Nat) "TypesAtPrimeModel" "leafKnot" "[I") ∈ lw_all := lw_g (lw_at lw_m9 13 rfl) rfl
theorem q2036 : (Jvm.Cond.fieldLink "TypesAtPrimeModel" (300 : Nat) "TypesAtPrimeModel" "depth" "I") ∈ lw_all := lw_g (lw_at lw_m9 14 rfl) rfl
theorem q2037 : (Jvm.Cond.fieldLink "TypesAtPrimeModel" (122 : Nat) "TypesAtPrimeModel" "ramified" "[I") ∈ lw_all := lw_g (lw_at lw_m9 15 rfl) rfl
theorem q2038 : (Jvm.Cond.fieldLink "TypesAtPrimeModel" (125 : Nat) "TypesAtPrimeModel" "keyDegree" "[I") ∈ lw_all := lw_g (lw_at lw_m9 16 rfl) rfl
theorem q2039 : (Jvm.Cond.fieldLink "TypesAtPrimeModel" (128 : Nat) "TypesAtPrimeModel" "slopes" "[I") ∈ lw_all := lw_g (lw_at lw_m9 17 rfl) rfl
theorem q2040 : (Jvm.Cond.fieldLink "TypesAtPrimeModel" (131 : Nat) "TypesAtPrimeModel" "keyOf" "[I") ∈ lw_all := lw_g (lw_at lw_m9 18 rfl) rfl
theorem q2041 : (Jvm.Cond.fieldLink "TypesAtPrimeModel" (134 : Nat) "TypesAtPrimeModel" "madeOf" "[I") ∈ lw_all := lw_g (lw_at lw_m9 19 rfl) rfl
theorem q2042 : (Jvm.Cond.fieldLink "TypesAtPrimeModel" (137 : Nat) "TypesAtPrimeModel" "monomial0" "[I") ∈ lw_all := lw_g (lw_at lw_m9 20 rfl) rfl
theorem q2043 : (Jvm.Cond.fieldLink "TypesAtPrimeModel" (309 : Nat) "TypesAtPrimeModel" "headResidue" "I") ∈ lw_all := lw_g (lw_at lw_m9 21 rfl) rfl
theorem q2044 : (Jvm.Cond.fieldLink "TypesAtPrimeModel" (140 : Nat) "TypesAtPrimeModel" "product" "[J") ∈ lw_all := lw_g (lw_at lw_m9 22 rfl) rfl
theorem q2045 : (Jvm.Cond.fieldLink "TypesAtPrimeModel" (143 : Nat) "TypesAtPrimeModel" "knotAt" "[I") ∈ lw_all := lw_g (lw_at lw_m9 23 rfl) rfl
theorem q2046 : (Jvm.Cond.fieldLink "TypesAtPrimeModel" (146 : Nat) "TypesAtPrimeModel" "sideAt" "[I") ∈ lw_all := lw_g (lw_at lw_m9 24 rfl) rfl
theorem q2047 : (Jvm.Cond.fieldLink "TypesAtPrimeModel" (149 : Nat) "TypesAtPrimeModel" "nextAt" "[I") ∈ lw_all := lw_g (lw_at lw_m9 25 rfl) rfl
theorem q2048 : (Jvm.Cond.fieldLink "TypesAtPrimeModel" (378 : Nat) "TypesAtPrimeModel" "height" "I") ∈ lw_all := lw_g (lw_at lw_m9 26 rfl) rfl
theorem q2049 : (Jvm.Cond.fieldLink "TypesAtPrimeModel" (152 : Nat) "TypesAtPrimeModel" "spelled" "[I") ∈ lw_all := lw_g (lw_at lw_m9 27 rfl) rfl
theorem q2050 : (Jvm.Cond.fieldLink "TypesAtPrimeModel" (399 : Nat) "TypesAtPrimeModel" "spelledMany" "I") ∈ lw_all := lw_g (lw_at lw_m9 28 rfl) rfl
theorem q2051 : (Jvm.Cond.fieldLink "TypesAtPrimeModel" (155 : Nat) "TypesAtPrimeModel" "sorts" "[I") ∈ lw_all := lw_g (lw_at lw_m9 29 rfl) rfl
theorem q2052 : (Jvm.Cond.fieldLink "TypesAtPrimeModel" (158 : Nat) "TypesAtPrimeModel" "sizes" "[I") ∈ lw_all := lw_g (lw_at lw_m9 30 rfl) rfl
theorem q2053 : (Jvm.Cond.fieldLink "TypesAtPrimeModel" (161 : Nat) "TypesAtPrimeModel" "numbers" "[I") ∈ lw_all := lw_g (lw_at lw_m9 31 rfl) rfl
theorem q2054 : (Jvm.Cond.lays "TypesAtPrimeModel" "TypesAtPrimeModel" "p" "I") ∈ lw_all := lw_g (lw_at lw_m9 32 rfl) rfl
theorem q2055 : (Jvm.Cond.soleField "TypesAtPrimeModel" "p") ∈ lw_all := lw_g (lw_at lw_m9 33 rfl) rfl
theorem q2056 : (Jvm.Cond.lays "TypesAtPrimeModel" "TypesAtPrimeModel" "limit" "I") ∈ lw_all := lw_g (lw_at lw_m9 34 rfl) rfl
theorem q2057 : (Jvm.Cond.soleField "TypesAtPrimeModel" "limit") ∈ lw_all := lw_g (lw_at lw_m9 35 rfl) rfl
theorem q2058 : (Jvm.Cond.lays "TypesAtPrimeModel" "TypesAtPrimeModel" "whole" "J") ∈ lw_all := lw_g (lw_at lw_m9 36 rfl) rfl
theorem q2059 : (Jvm.Cond.soleField "TypesAtPrimeModel" "whole") ∈ lw_all := lw_g (lw_at lw_m9 37 rfl) rfl
theorem q2060 : (Jvm.Cond.laysFinal "TypesAtPrimeModel" "TypesAtPrimeModel" "coefficients" "[I") ∈ lw_all := lw_g (lw_at lw_m9 38 rfl) rfl
theorem q2061 : (Jvm.Cond.soleField "TypesAtPrimeModel" "coefficients") ∈ lw_all := lw_g (lw_at lw_m9 39 rfl) rfl
theorem q2062 : (Jvm.Cond.laysFinal "TypesAtPrimeModel" "TypesAtPrimeModel" "tape" "[I") ∈ lw_all := lw_g (lw_at lw_m9 40 rfl) rfl
theorem q2063 : (Jvm.Cond.soleField "TypesAtPrimeModel" "tape") ∈ lw_all := lw_g (lw_at lw_m9 41 rfl) rfl
theorem q2064 : (Jvm.Cond.lays "TypesAtPrimeModel" "TypesAtPrimeModel" "taped" "I") ∈ lw_all := lw_g (lw_at lw_m9 42 rfl) rfl
theorem q2065 : (Jvm.Cond.soleField "TypesAtPrimeModel" "taped") ∈ lw_all := lw_g (lw_at lw_m9 43 rfl) rfl
theorem q2066 : (Jvm.Cond.lays "TypesAtPrimeModel" "TypesAtPrimeModel" "at" "I") ∈ lw_all := lw_g (lw_at lw_m9 44 rfl) rfl
theorem q2067 : (Jvm.Cond.soleField "TypesAtPrimeModel" "at") ∈ lw_all := lw_g (lw_at lw_m9 45 rfl) rfl
theorem q2068 : (Jvm.Cond.laysFinal "TypesAtPrimeModel" "TypesAtPrimeModel" "read" "[J") ∈ lw_all := lw_g (lw_at lw_m9 46 rfl) rfl
theorem q2069 : (Jvm.Cond.soleField "TypesAtPrimeModel" "read") ∈ lw_all := lw_g (lw_at lw_m9 47 rfl) rfl
theorem q2070 : (Jvm.Cond.laysFinal "TypesAtPrimeModel" "TypesAtPrimeModel" "row" "[J") ∈ lw_all := lw_g (lw_at lw_m9 48 rfl) rfl
theorem q2071 : (Jvm.Cond.soleField "TypesAtPrimeModel" "row") ∈ lw_all := lw_g (lw_at lw_m9 49 rfl) rfl
theorem q2072 : (Jvm.Cond.laysFinal "TypesAtPrimeModel" "TypesAtPrimeModel" "keys" "[J") ∈ lw_all := lw_g (lw_at lw_m9 50 rfl) rfl
theorem q2073 : (Jvm.Cond.soleField "TypesAtPrimeModel" "keys") ∈ lw_all := lw_g (lw_at lw_m9 51 rfl) rfl
theorem q2074 : (Jvm.Cond.laysFinal "TypesAtPrimeModel" "TypesAtPrimeModel" "left" "[I") ∈ lw_all := lw_g (lw_at lw_m9 52 rfl) rfl
theorem q2075 : (Jvm.Cond.soleField "TypesAtPrimeModel" "left") ∈ lw_all := lw_g (lw_at lw_m9 53 rfl) rfl
theorem q2076 : (Jvm.Cond.lays "TypesAtPrimeModel" "TypesAtPrimeModel" "leftDegree" "I") ∈ lw_all := lw_g (lw_at lw_m9 54 rfl) rfl
theorem q2077 : (Jvm.Cond.soleField "TypesAtPrimeModel" "leftDegree") ∈ lw_all := lw_g (lw_at lw_m9 55 rfl) rfl
theorem q2078 : (Jvm.Cond.lays "TypesAtPrimeModel" "TypesAtPrimeModel" "factors" "I") ∈ lw_all := lw_g (lw_at lw_m9 56 rfl) rfl
theorem q2079 : (Jvm.Cond.soleField "TypesAtPrimeModel" "factors") ∈ lw_all := lw_g (lw_at lw_m9 57 rfl) rfl
theorem q2080 : (Jvm.Cond.laysFinal "TypesAtPrimeModel" "TypesAtPrimeModel" "factorDegree" "[I") ∈ lw_all := lw_g (lw_at lw_m9 58 rfl) rfl
theorem q2081 : (Jvm.Cond.soleField "TypesAtPrimeModel" "factorDegree") ∈ lw_all := lw_g (lw_at lw_m9 59 rfl) rfl
theorem q2082 : (Jvm.Cond.laysFinal "TypesAtPrimeModel" "TypesAtPrimeModel" "factorTimes" "[I") ∈ lw_all := lw_g (lw_at lw_m9 60 rfl) rfl
theorem q2083 : (Jvm.Cond.soleField "TypesAtPrimeModel" "factorTimes") ∈ lw_all := lw_g (lw_at lw_m9 61 rfl) rfl
theorem q2084 : (Jvm.Cond.laysFinal "TypesAtPrimeModel" "TypesAtPrimeModel" "factorAt" "[I") ∈ lw_all := lw_g (lw_at lw_m9 62 rfl) rfl
theorem q2085 : (Jvm.Cond.soleField "TypesAtPrimeModel" "factorAt") ∈ lw_all := lw_g (lw_at lw_m9 63 rfl) rfl
theorem q2086 : (Jvm.Cond.laysFinal "TypesAtPrimeModel" "TypesAtPrimeModel" "trial" "[I") ∈ lw_all := lw_g (lw_at lw_m9 64 rfl) rfl
theorem q2087 : (Jvm.Cond.soleField "TypesAtPrimeModel" "trial") ∈ lw_all := lw_g (lw_at lw_m9 65 rfl) rfl
theorem q2088 : (Jvm.Cond.laysFinal "TypesAtPrimeModel" "TypesAtPrimeModel" "rest" "[I") ∈ lw_all := lw_g (lw_at lw_m9 66 rfl) rfl
theorem q2089 : (Jvm.Cond.soleField "TypesAtPrimeModel" "rest") ∈ lw_all := lw_g (lw_at lw_m9 67 rfl) rfl
theorem q2090 : (Jvm.Cond.lays "TypesAtPrimeModel" "TypesAtPrimeModel" "isTree" "Z") ∈ lw_all := lw_g (lw_at lw_m9 68 rfl) rfl
theorem q2091 : (Jvm.Cond.soleField "TypesAtPrimeModel" "isTree") ∈ lw_all := lw_g (lw_at lw_m9 69 rfl) rfl
theorem q2092 : (Jvm.Cond.laysFinal "TypesAtPrimeModel" "TypesAtPrimeModel" "its" "[J") ∈ lw_all := lw_g (lw_at lw_m9 70 rfl) rfl
theorem q2093 : (Jvm.Cond.soleField "TypesAtPrimeModel" "its") ∈ lw_all := lw_g (lw_at lw_m9 71 rfl) rfl
theorem q2094 : (Jvm.Cond.lays "TypesAtPrimeModel" "TypesAtPrimeModel" "itsDegree" "I") ∈ lw_all := lw_g (lw_at lw_m9 72 rfl) rfl
theorem q2095 : (Jvm.Cond.soleField "TypesAtPrimeModel" "itsDegree") ∈ lw_all := lw_g (lw_at lw_m9 73 rfl) rfl
theorem q2096 : (Jvm.Cond.lays "TypesAtPrimeModel" "TypesAtPrimeModel" "knots" "I") ∈ lw_all := lw_g (lw_at lw_m9 74 rfl) rfl
theorem q2097 : (Jvm.Cond.soleField "TypesAtPrimeModel" "knots") ∈ lw_all := lw_g (lw_at lw_m9 75 rfl) rfl
theorem q2098 : (Jvm.Cond.lays "TypesAtPrimeModel" "TypesAtPrimeModel" "sides" "I") ∈ lw_all := lw_g (lw_at lw_m9 76 rfl) rfl
theorem q2099 : (Jvm.Cond.soleField "TypesAtPrimeModel" "sides") ∈ lw_all := lw_g (lw_at lw_m9 77 rfl) rfl
theorem q2100 : (Jvm.Cond.lays "TypesAtPrimeModel" "TypesAtPrimeModel" "leaves" "I") ∈ lw_all := lw_g (lw_at lw_m9 78 rfl) rfl
theorem q2101 : (Jvm.Cond.soleField "TypesAtPrimeModel" "leaves") ∈ lw_all := lw_g (lw_at lw_m9 79 rfl) rfl
theorem q2102 : (Jvm.Cond.laysFinal "TypesAtPrimeModel" "TypesAtPrimeModel" "level" "[I") ∈ lw_all := lw_g (lw_at lw_m9 80 rfl) rfl
theorem q2103 : (Jvm.Cond.soleField "TypesAtPrimeModel" "level") ∈ lw_all := lw_g (lw_at lw_m9 81 rfl) rfl
theorem q2104 : (Jvm.Cond.laysFinal "TypesAtPrimeModel" "TypesAtPrimeModel" "manifold" "[I") ∈ lw_all := lw_g (lw_at lw_m9 82 rfl) rfl
theorem q2105 : (Jvm.Cond.soleField "TypesAtPrimeModel" "manifold") ∈ lw_all := lw_g (lw_at lw_m9 83 rfl) rfl
theorem q2106 : (Jvm.Cond.laysFinal "TypesAtPrimeModel" "TypesAtPrimeModel" "above" "[I") ∈ lw_all := lw_g (lw_at lw_m9 84 rfl) rfl
theorem q2107 : (Jvm.Cond.soleField "TypesAtPrimeModel" "above") ∈ lw_all := lw_g (lw_at lw_m9 85 rfl) rfl
theorem q2108 : (Jvm.Cond.laysFinal "TypesAtPrimeModel" "TypesAtPrimeModel" "firstSide" "[I") ∈ lw_all := lw_g (lw_at lw_m9 86 rfl) rfl
theorem q2109 : (Jvm.Cond.soleField "TypesAtPrimeModel" "firstSide") ∈ lw_all := lw_g (lw_at lw_m9 87 rfl) rfl
theorem q2110 : (Jvm.Cond.laysFinal "TypesAtPrimeModel" "TypesAtPrimeModel" "manySides" "[I") ∈ lw_all := lw_g (lw_at lw_m9 88 rfl) rfl
theorem q2111 : (Jvm.Cond.soleField "TypesAtPrimeModel" "manySides") ∈ lw_all := lw_g (lw_at lw_m9 89 rfl) rfl
theorem q2112 : (Jvm.Cond.laysFinal "TypesAtPrimeModel" "TypesAtPrimeModel" "zeros" "[I") ∈ lw_all := lw_g (lw_at lw_m9 90 rfl) rfl
theorem q2113 : (Jvm.Cond.soleField "TypesAtPrimeModel" "zeros") ∈ lw_all := lw_g (lw_at lw_m9 91 rfl) rfl
theorem q2114 : (Jvm.Cond.laysFinal "TypesAtPrimeModel" "TypesAtPrimeModel" "index0" "[I") ∈ lw_all := lw_g (lw_at lw_m9 92 rfl) rfl
theorem q2115 : (Jvm.Cond.soleField "TypesAtPrimeModel" "index0") ∈ lw_all := lw_g (lw_at lw_m9 93 rfl) rfl
theorem q2116 : (Jvm.Cond.laysFinal "TypesAtPrimeModel" "TypesAtPrimeModel" "points" "[I") ∈ lw_all := lw_g (lw_at lw_m9 94 rfl) rfl
theorem q2117 : (Jvm.Cond.soleField "TypesAtPrimeModel" "points") ∈ lw_all := lw_g (lw_at lw_m9 95 rfl) rfl
theorem q2118 : (Jvm.Cond.laysFinal "TypesAtPrimeModel" "TypesAtPrimeModel" "madeRamified" "[I") ∈ lw_all := lw_g (lw_at lw_m9 96 rfl) rfl
theorem q2119 : (Jvm.Cond.soleField "TypesAtPrimeModel" "madeRamified") ∈ lw_all := lw_g (lw_at lw_m9 97 rfl) rfl
theorem q2120 : (Jvm.Cond.laysFinal "TypesAtPrimeModel" "TypesAtPrimeModel" "madeSlope" "[I") ∈ lw_all := lw_g (lw_at lw_m9 98 rfl) rfl
theorem q2121 : (Jvm.Cond.soleField "TypesAtPrimeModel" "madeSlope") ∈ lw_all := lw_g (lw_at lw_m9 99 rfl) rfl
theorem q2122 : (Jvm.Cond.laysFinal "TypesAtPrimeModel" "TypesAtPrimeModel" "madeRoot" "[I") ∈ lw_all := lw_g (lw_at lw_m9 100 rfl) rfl
theorem q2123 : (Jvm.Cond.soleField "TypesAtPrimeModel" "madeRoot") ∈ lw_all := lw_g (lw_at lw_m9 101 rfl) rfl
theorem q2124 : (Jvm.Cond.laysFinal "TypesAtPrimeModel" "TypesAtPrimeModel" "madeMonomial" "[I") ∈ lw_all := lw_g (lw_at lw_m9 102 rfl) rfl
theorem q2125 : (Jvm.Cond.soleField "TypesAtPrimeModel" "madeMonomial") ∈ lw_all := lw_g (lw_at lw_m9 103 rfl) rfl
theorem q2126 : (Jvm.Cond.laysFinal "TypesAtPrimeModel" "TypesAtPrimeModel" "sideFrom" "[I") ∈ lw_all := lw_g (lw_at lw_m9 104 rfl) rfl
theorem q2127 : (Jvm.Cond.soleField "TypesAtPrimeModel" "sideFrom") ∈ lw_all := lw_g (lw_at lw_m9 105 rfl) rfl
theorem q2128 : (Jvm.Cond.laysFinal "TypesAtPrimeModel" "TypesAtPrimeModel" "sideTo" "[I") ∈ lw_all := lw_g (lw_at lw_m9 106 rfl) rfl
theorem q2129 : (Jvm.Cond.soleField "TypesAtPrimeModel" "sideTo") ∈ lw_all := lw_g (lw_at lw_m9 107 rfl) rfl
theorem q2130 : (Jvm.Cond.laysFinal "TypesAtPrimeModel" "TypesAtPrimeModel" "sideFall" "[I") ∈ lw_all := lw_g (lw_at lw_m9 108 rfl) rfl
theorem q2131 : (Jvm.Cond.soleField "TypesAtPrimeModel" "sideFall") ∈ lw_all := lw_g (lw_at lw_m9 109 rfl) rfl
theorem q2132 : (Jvm.Cond.laysFinal "TypesAtPrimeModel" "TypesAtPrimeModel" "sideRamified" "[I") ∈ lw_all := lw_g (lw_at lw_m9 110 rfl) rfl
theorem q2133 : (Jvm.Cond.soleField "TypesAtPrimeModel" "sideRamified") ∈ lw_all := lw_g (lw_at lw_m9 111 rfl) rfl
theorem q2134 : (Jvm.Cond.laysFinal "TypesAtPrimeModel" "TypesAtPrimeModel" "sideDegree" "[I") ∈ lw_all := lw_g (lw_at lw_m9 112 rfl) rfl
theorem q2135 : (Jvm.Cond.soleField "TypesAtPrimeModel" "sideDegree") ∈ lw_all := lw_g (lw_at lw_m9 113 rfl) rfl
theorem q2136 : (Jvm.Cond.laysFinal "TypesAtPrimeModel" "TypesAtPrimeModel" "sideSlope" "[I") ∈ lw_all := lw_g (lw_at lw_m9 114 rfl) rfl
theorem q2137 : (Jvm.Cond.soleField "TypesAtPrimeModel" "sideSlope") ∈ lw_all := lw_g (lw_at lw_m9 115 rfl) rfl
theorem q2138 : (Jvm.Cond.laysFinal "TypesAtPrimeModel" "TypesAtPrimeModel" "sideMonomial" "[I") ∈ lw_all := lw_g (lw_at lw_m9 116 rfl) rfl
theorem q2139 : (Jvm.Cond.soleField "TypesAtPrimeModel" "sideMonomial") ∈ lw_all := lw_g (lw_at lw_m9 117 rfl) rfl
theorem q2140 : (Jvm.Cond.laysFinal "TypesAtPrimeModel" "TypesAtPrimeModel" "sideResidual" "[I") ∈ lw_all := lw_g (lw_at lw_m9 118 rfl) rfl
theorem q2141 : (Jvm.Cond.soleField "TypesAtPrimeModel" "sideResidual") ∈ lw_all := lw_g (lw_at lw_m9 119 rfl) rfl
theorem q2142 : (Jvm.Cond.laysFinal "TypesAtPrimeModel" "TypesAtPrimeModel" "leafKind" "[I") ∈ lw_all := lw_g (lw_at lw_m9 120 rfl) rfl
theorem q2143 : (Jvm.Cond.soleField "TypesAtPrimeModel" "leafKind") ∈ lw_all := lw_g (lw_at lw_m9 121 rfl) rfl
theorem q2144 : (Jvm.Cond.laysFinal "TypesAtPrimeModel" "TypesAtPrimeModel" "leafRamified" "[I") ∈ lw_all := lw_g (lw_at lw_m9 122 rfl) rfl
theorem q2145 : (Jvm.Cond.soleField "TypesAtPrimeModel" "leafRamified") ∈ lw_all := lw_g (lw_at lw_m9 123 rfl) rfl
theorem q2146 : (Jvm.Cond.laysFinal "TypesAtPrimeModel" "TypesAtPrimeModel" "leafResidue" "[I") ∈ lw_all := lw_g (lw_at lw_m9 124 rfl) rfl
theorem q2147 : (Jvm.Cond.soleField "TypesAtPrimeModel" "leafResidue") ∈ lw_all := lw_g (lw_at lw_m9 125 rfl) rfl
theorem q2148 : (Jvm.Cond.laysFinal "TypesAtPrimeModel" "TypesAtPrimeModel" "leafDegree" "[I") ∈ lw_all := lw_g (lw_at lw_m9 126 rfl) rfl
theorem q2149 : (Jvm.Cond.soleField "TypesAtPrimeModel" "leafDegree") ∈ lw_all := lw_g (lw_at lw_m9 127 rfl) rfl
theorem q2150 : (Jvm.Cond.laysFinal "TypesAtPrimeModel" "TypesAtPrimeModel" "leafKnot" "[I") ∈ lw_all := lw_g (lw_at lw_m9 128 rfl) rfl
theorem q2151 : (Jvm.Cond.soleField "TypesAtPrimeModel" "leafKnot") ∈ lw_all := lw_g (lw_at lw_m9 129 rfl) rfl
theorem q2152 : (Jvm.Cond.lays "TypesAtPrimeModel" "TypesAtPrimeModel" "depth" "I") ∈ lw_all := lw_g (lw_at lw_m9 130 rfl) rfl
theorem q2153 : (Jvm.Cond.soleField "TypesAtPrimeModel" "depth") ∈ lw_all := lw_g (lw_at lw_m9 131 rfl) rfl
theorem q2154 : (Jvm.Cond.laysFinal "TypesAtPrimeModel" "TypesAtPrimeModel" "ramified" "[I") ∈ lw_all := lw_g (lw_at lw_m9 132 rfl) rfl
theorem q2155 : (Jvm.Cond.soleField "TypesAtPrimeModel" "ramified") ∈ lw_all := lw_g (lw_at lw_m9 133 rfl) rfl
theorem q2156 : (Jvm.Cond.laysFinal "TypesAtPrimeModel" "TypesAtPrimeModel" "keyDegree" "[I") ∈ lw_all := lw_g (lw_at lw_m9 134 rfl) rfl
theorem q2157 : (Jvm.Cond.soleField "TypesAtPrimeModel" "keyDegree") ∈ lw_all := lw_g (lw_at lw_m9 135 rfl) rfl
theorem q2158 : (Jvm.Cond.laysFinal "TypesAtPrimeModel" "TypesAtPrimeModel" "slopes" "[I") ∈ lw_all := lw_g (lw_at lw_m9 136 rfl) rfl
theorem q2159 : (Jvm.Cond.soleField "TypesAtPrimeModel" "slopes") ∈ lw_all := lw_g (lw_at lw_m9 137 rfl) rfl
theorem q2160 : (Jvm.Cond.laysFinal "TypesAtPrimeModel" "TypesAtPrimeModel" "keyOf" "[I") ∈ lw_all := lw_g (lw_at lw_m9 138 rfl) rfl
theorem q2161 : (Jvm.Cond.soleField "TypesAtPrimeModel" "keyOf") ∈ lw_all := lw_g (lw_at lw_m9 139 rfl) rfl
theorem q2162 : (Jvm.Cond.laysFinal "TypesAtPrimeModel" "TypesAtPrimeModel" "madeOf" "[I") ∈ lw_all := lw_g (lw_at lw_m9 140 rfl) rfl
theorem q2163 : (Jvm.Cond.soleField "TypesAtPrimeModel" "madeOf") ∈ lw_all := lw_g (lw_at lw_m9 141 rfl) rfl
theorem q2164 : (Jvm.Cond.laysFinal "TypesAtPrimeModel" "TypesAtPrimeModel" "monomial0" "[I") ∈ lw_all := lw_g (lw_at lw_m9 142 rfl) rfl
theorem q2165 : (Jvm.Cond.soleField "TypesAtPrimeModel" "monomial0") ∈ lw_all := lw_g (lw_at lw_m9 143 rfl) rfl
theorem q2166 : (Jvm.Cond.lays "TypesAtPrimeModel" "TypesAtPrimeModel" "headResidue" "I") ∈ lw_all := lw_g (lw_at lw_m9 144 rfl) rfl
theorem q2167 : (Jvm.Cond.soleField "TypesAtPrimeModel" "headResidue") ∈ lw_all := lw_g (lw_at lw_m9 145 rfl) rfl
theorem q2168 : (Jvm.Cond.laysFinal "TypesAtPrimeModel" "TypesAtPrimeModel" "product" "[J") ∈ lw_all := lw_g (lw_at lw_m9 146 rfl) rfl
theorem q2169 : (Jvm.Cond.soleField "TypesAtPrimeModel" "product") ∈ lw_all := lw_g (lw_at lw_m9 147 rfl) rfl
theorem q2170 : (Jvm.Cond.laysFinal "TypesAtPrimeModel" "TypesAtPrimeModel" "knotAt" "[I") ∈ lw_all := lw_g (lw_at lw_m9 148 rfl) rfl
theorem q2171 : (Jvm.Cond.soleField "TypesAtPrimeModel" "knotAt") ∈ lw_all := lw_g (lw_at lw_m9 149 rfl) rfl
theorem q2172 : (Jvm.Cond.laysFinal "TypesAtPrimeModel" "TypesAtPrimeModel" "sideAt" "[I") ∈ lw_all := lw_g (lw_at lw_m9 150 rfl) rfl
theorem q2173 : (Jvm.Cond.soleField "TypesAtPrimeModel" "sideAt") ∈ lw_all := lw_g (lw_at lw_m9 151 rfl) rfl
theorem q2174 : (Jvm.Cond.laysFinal "TypesAtPrimeModel" "TypesAtPrimeModel" "nextAt" "[I") ∈ lw_all := lw_g (lw_at lw_m9 152 rfl) rfl
theorem q2175 : (Jvm.Cond.soleField "TypesAtPrimeModel" "nextAt") ∈ lw_all := lw_g (lw_at lw_m9 153 rfl) rfl
theorem q2176 : (Jvm.Cond.lays "TypesAtPrimeModel" "TypesAtPrimeModel" "height" "I") ∈ lw_all := lw_g (lw_at lw_m9 154 rfl) rfl
theorem q2177 : (Jvm.Cond.soleField "TypesAtPrimeModel" "height") ∈ lw_all := lw_g (lw_at lw_m9 155 rfl) rfl
theorem q2178 : (Jvm.Cond.laysFinal "TypesAtPrimeModel" "TypesAtPrimeModel" "spelled" "[I") ∈ lw_all := lw_g (lw_at lw_m9 156 rfl) rfl
theorem q2179 : (Jvm.Cond.soleField "TypesAtPrimeModel" "spelled") ∈ lw_all := lw_g (lw_at lw_m9 157 rfl) rfl
theorem q2180 : (Jvm.Cond.lays "TypesAtPrimeModel" "TypesAtPrimeModel" "spelledMany" "I") ∈ lw_all := lw_g (lw_at lw_m9 158 rfl) rfl
theorem q2181 : (Jvm.Cond.soleField "TypesAtPrimeModel" "spelledMany") ∈ lw_all := lw_g (lw_at lw_m9 159 rfl) rfl
theorem q2182 : (Jvm.Cond.laysFinal "TypesAtPrimeModel" "TypesAtPrimeModel" "sorts" "[I") ∈ lw_all := lw_g (lw_at lw_m9 160 rfl) rfl
theorem q2183 : (Jvm.Cond.soleField "TypesAtPrimeModel" "sorts") ∈ lw_all := lw_g (lw_at lw_m9 161 rfl) rfl
theorem q2184 : (Jvm.Cond.laysFinal "TypesAtPrimeModel" "TypesAtPrimeModel" "sizes" "[I") ∈ lw_all := lw_g (lw_at lw_m9 162 rfl) rfl
theorem q2185 : (Jvm.Cond.soleField "TypesAtPrimeModel" "sizes") ∈ lw_all := lw_g (lw_at lw_m9 163 rfl) rfl
theorem q2186 : (Jvm.Cond.laysFinal "TypesAtPrimeModel" "TypesAtPrimeModel" "numbers" "[I") ∈ lw_all := lw_g (lw_at lw_m9 164 rfl) rfl
theorem q2187 : (Jvm.Cond.soleField "TypesAtPrimeModel" "numbers") ∈ lw_all := lw_g (lw_at lw_m9 165 rfl) rfl
theorem q2188 : (Jvm.Cond.superclass "TypesAtPrimeModel" "java/lang/Object") ∈ lw_all := lw_g (lw_at lw_m9 166 rfl) rfl
theorem q2190 : (Jvm.Cond.instanceMethod ({ cls := "TypesAtPrimeModel", name := "prime", desc := "(I)I" } : Jvm.MethodName)) ∈ lw_all := lw_g (lw_at lw_m9 168 rfl) rfl
theorem q2191 : (Jvm.Cond.selects "TypesAtPrimeModel" ({ cls := "TypesAtPrimeModel", name := "prime", desc := "(I)I" } : Jvm.MethodName) ({ cls := "TypesAtPrimeModel", name := "prime", desc := "(I)I" } : Jvm.MethodName)) ∈ lw_all := lw_g (lw_at lw_m9 169 rfl) rfl
theorem q2192 : (Jvm.Cond.code ({ cls := "TypesAtPrimeModel", name := "prime", desc := "(I)I" } : Jvm.MethodName) prog_18_method_11_code (3 : Nat) (Option.some Jvm.ClassFile.FieldType.int)) ∈ lw_all := lw_g (lw_at lw_m9 170 rfl) rfl
theorem q2194 : (Jvm.Cond.instanceMethod ({ cls := "TypesAtPrimeModel", name := "feed", desc := "(I)I" } : Jvm.MethodName)) ∈ lw_all := lw_g (lw_at lw_m9 172 rfl) rfl
theorem q2195 : (Jvm.Cond.selects "TypesAtPrimeModel" ({ cls := "TypesAtPrimeModel", name := "feed", desc := "(I)I" } : Jvm.MethodName) ({ cls := "TypesAtPrimeModel", name := "feed", desc := "(I)I" } : Jvm.MethodName)) ∈ lw_all := lw_g (lw_at lw_m9 173 rfl) rfl
theorem q2196 : (Jvm.Cond.code ({ cls := "TypesAtPrimeModel", name := "feed", desc := "(I)I" } : Jvm.MethodName) prog_18_method_12_code (2 : Nat) (Option.some Jvm.ClassFile.FieldType.int)) ∈ lw_all := lw_g (lw_at lw_m9 174 rfl) rfl
theorem q2197 : (Jvm.Cond.constantLong "TypesAtPrimeModel" (191 : Nat) (127 : Int64)) ∈ lw_all := lw_g (lw_at lw_m9 175 rfl) rfl
theorem q2198 : (Jvm.Cond.methodLink "TypesAtPrimeModel" (193 : Nat) ({ cls := "TypesAtPrimeModel", name := "in", desc := "(JJJ)Z" } : Jvm.MethodName)) ∈ lw_all := lw_g (lw_at lw_m9 176 rfl) rfl
theorem q2199 : (Jvm.Cond.static ({ cls := "TypesAtPrimeModel", name := "in", desc := "(JJJ)Z" } : Jvm.MethodName)) ∈ lw_all := lw_g (lw_at lw_m9 177 rfl) rfl
theorem q2200 : (Jvm.Cond.code ({ cls := "TypesAtPrimeModel", name := "in", desc := "(JJJ)Z" } : Jvm.MethodName) prog_18_method_3_code (6 : Nat) (Option.some Jvm.ClassFile.FieldType.boolean)) ∈ lw_all := lw_g (lw_at lw_m9 178 rfl) rfl
theorem q2202 : (Jvm.Cond.instanceMethod ({ cls := "TypesAtPrimeModel", name := "wipe", desc := "()I" } : Jvm.MethodName)) ∈ lw_all := lw_g (lw_at lw_m9 180 rfl) rfl
theorem q2203 : (Jvm.Cond.selects "TypesAtPrimeModel" ({ cls := "TypesAtPrimeModel", name := "wipe", desc := "()I" } : Jvm.MethodName) ({ cls := "TypesAtPrimeModel", name := "wipe", desc := "()I" } : Jvm.MethodName)) ∈ lw_all := lw_g (lw_at lw_m9 181 rfl) rfl
theorem q2204 : (Jvm.Cond.code ({ cls := "TypesAtPrimeModel", name := "wipe", desc := "()I" } : Jvm.MethodName) prog_18_method_13_code (2 : Nat) (Option.some Jvm.ClassFile.FieldType.int)) ∈ lw_all := lw_g (lw_at lw_m9 182 rfl) rfl
theorem q2206 : (Jvm.Cond.instanceMethod ({ cls := "TypesAtPrimeModel", name := "text", desc := "(I)I" } : Jvm.MethodName)) ∈ lw_all := lw_g (lw_at lw_m9 184 rfl) rfl
theorem q2207 : (Jvm.Cond.selects "TypesAtPrimeModel" ({ cls := "TypesAtPrimeModel", name := "text", desc := "(I)I" } : Jvm.MethodName) ({ cls := "TypesAtPrimeModel", name := "text", desc := "(I)I" } : Jvm.MethodName)) ∈ lw_all := lw_g (lw_at lw_m9 185 rfl) rfl
theorem q2208 : (Jvm.Cond.code ({ cls := "TypesAtPrimeModel", name := "text", desc := "(I)I" } : Jvm.MethodName) prog_18_method_22_code (3 : Nat) (Option.some Jvm.ClassFile.FieldType.int)) ∈ lw_all := lw_g (lw_at lw_m9 186 rfl) rfl
theorem q2209 : (Jvm.Cond.methodLink "TypesAtPrimeModel" (231 : Nat) ({ cls := "TypesAtPrimeModel", name := "isSlot", desc := "(I)Z" } : Jvm.MethodName)) ∈ lw_all := lw_g (lw_at lw_m9 187 rfl) rfl
theorem q2210 : (Jvm.Cond.static ({ cls := "TypesAtPrimeModel", name := "isSlot", desc := "(I)Z" } : Jvm.MethodName)) ∈ lw_all := lw_g (lw_at lw_m9 188 rfl) rfl
theorem q2211 : (Jvm.Cond.code ({ cls := "TypesAtPrimeModel", name := "isSlot", desc := "(I)Z" } : Jvm.MethodName) prog_18_method_4_code (1 : Nat) (Option.some Jvm.ClassFile.FieldType.boolean)) ∈ lw_all := lw_g (lw_at lw_m9 189 rfl) rfl
theorem q2212 : (Jvm.Cond.methodLink "TypesAtPrimeModel" (234 : Nat) ({ cls := "TypesAtPrimeModel", name := "readsAll", desc := "()Z" } : Jvm.MethodName)) ∈ lw_all := lw_g (lw_at lw_m9 190 rfl) rfl
theorem q2213 : (Jvm.Cond.privateMethod ({ cls := "TypesAtPrimeModel", name := "readsAll", desc := "()Z" } : Jvm.MethodName)) ∈ lw_tbl := lw_at lw_m9 191 rfl
theorem q2214 : (Jvm.Cond.instanceMethod ({ cls := "TypesAtPrimeModel", name := "readsAll", desc := "()Z" } : Jvm.MethodName)) ∈ lw_all := lw_g (lw_at lw_m9 192 rfl) rfl
theorem q2215 : (Jvm.Cond.code ({ cls := "TypesAtPrimeModel", name := "readsAll", desc := "()Z" } : Jvm.MethodName) prog_18_method_19_code (3 : Nat) (Option.some Jvm.ClassFile.FieldType.boolean)) ∈ lw_all := lw_g (lw_at lw_m9 193 rfl) rfl
theorem q2216 : (Jvm.Cond.methodLink "TypesAtPrimeModel" (211 : Nat) ({ cls := "TypesAtPrimeModel", name := "takes", desc := "(I)Z" } : Jvm.MethodName)) ∈ lw_all := lw_g (lw_at lw_m9 194 rfl) rfl
theorem q2217 : (Jvm.Cond.privateMethod ({ cls := "TypesAtPrimeModel", name := "takes", desc := "(I)Z" } : Jvm.MethodName)) ∈ lw_tbl := lw_at lw_m9 195 rfl
theorem q2218 : (Jvm.Cond.instanceMethod ({ cls := "TypesAtPrimeModel", name := "takes", desc := "(I)Z" } : Jvm.MethodName)) ∈ lw_all := lw_g (lw_at lw_m9 196 rfl) rfl
theorem q2219 : (Jvm.Cond.code ({ cls := "TypesAtPrimeModel", name := "takes", desc := "(I)Z" } : Jvm.MethodName) prog_18_method_16_code (3 : Nat) (Option.some Jvm.ClassFile.FieldType.boolean)) ∈ lw_all := lw_g (lw_at lw_m9 197 rfl) rfl
theorem q2220 : (Jvm.Cond.methodLink "TypesAtPrimeModel" (203 : Nat) ({ cls := "TypesAtPrimeModel", name := "here", desc := "()I" } : Jvm.MethodName)) ∈ lw_all := lw_g (lw_at lw_m9 198 rfl) rfl
theorem q2221 : (Jvm.Cond.privateMethod ({ cls := "TypesAtPrimeModel", name := "here", desc := "()I" } : Jvm.MethodName)) ∈ lw_tbl := lw_at lw_m9 199 rfl
theorem q2222 : (Jvm.Cond.instanceMethod ({ cls := "TypesAtPrimeModel", name := "here", desc := "()I" } : Jvm.MethodName)) ∈ lw_all := lw_g (lw_at lw_m9 200 rfl) rfl
theorem q2223 : (Jvm.Cond.code ({ cls := "TypesAtPrimeModel", name := "here", desc := "()I" } : Jvm.MethodName) prog_18_method_14_code (1 : Nat) (Option.some Jvm.ClassFile.FieldType.int)) ∈ lw_all := lw_g (lw_at lw_m9 201 rfl) rfl
theorem q2224 : (Jvm.Cond.methodLink "TypesAtPrimeModel" (224 : Nat) ({ cls := "TypesAtPrimeModel", name := "readsTerm", desc := "(I)Z" } : Jvm.MethodName)) ∈ lw_all := lw_g (lw_at lw_m9 202 rfl) rfl
theorem q2225 : (Jvm.Cond.privateMethod ({ cls := "TypesAtPrimeModel", name := "readsTerm", desc := "(I)Z" } : Jvm.MethodName)) ∈ lw_tbl := lw_at lw_m9 203 rfl
theorem q2226 : (Jvm.Cond.instanceMethod ({ cls := "TypesAtPrimeModel", name := "readsTerm", desc := "(I)Z" } : Jvm.MethodName)) ∈ lw_all := lw_g (lw_at lw_m9 204 rfl) rfl
theorem q2227 : (Jvm.Cond.code ({ cls := "TypesAtPrimeModel", name := "readsTerm", desc := "(I)Z" } : Jvm.MethodName) prog_18_method_18_code (5 : Nat) (Option.some Jvm.ClassFile.FieldType.boolean)) ∈ lw_all := lw_g (lw_at lw_m9 205 rfl) rfl
theorem q2228 : (Jvm.Cond.methodLink "TypesAtPrimeModel" (217 : Nat) ({ cls := "TypesAtPrimeModel", name := "isDigit", desc := "()Z" } : Jvm.MethodName)) ∈ lw_all := lw_g (lw_at lw_m9 206 rfl) rfl
theorem q2229 : (Jvm.Cond.privateMethod ({ cls := "TypesAtPrimeModel", name := "isDigit", desc := "()Z" } : Jvm.MethodName)) ∈ lw_tbl := lw_at lw_m9 207 rfl
theorem q2230 : (Jvm.Cond.instanceMethod ({ cls := "TypesAtPrimeModel", name := "isDigit", desc := "()Z" } : Jvm.MethodName)) ∈ lw_all := lw_g (lw_at lw_m9 208 rfl) rfl
theorem q2231 : (Jvm.Cond.code ({ cls := "TypesAtPrimeModel", name := "isDigit", desc := "()Z" } : Jvm.MethodName) prog_18_method_15_code (1 : Nat) (Option.some Jvm.ClassFile.FieldType.boolean)) ∈ lw_all := lw_g (lw_at lw_m9 209 rfl) rfl
theorem q2232 : (Jvm.Cond.constantLong "TypesAtPrimeModel" (207 : Nat) (48 : Int64)) ∈ lw_all := lw_g (lw_at lw_m9 210 rfl) rfl
theorem q2233 : (Jvm.Cond.constantLong "TypesAtPrimeModel" (209 : Nat) (57 : Int64)) ∈ lw_all := lw_g (lw_at lw_m9 211 rfl) rfl
theorem q2234 : (Jvm.Cond.methodLink "TypesAtPrimeModel" (221 : Nat) ({ cls := "TypesAtPrimeModel", name := "readsPower", desc := "()I" } : Jvm.MethodName)) ∈ lw_all := lw_g (lw_at lw_m9 212 rfl) rfl
theorem q2235 : (Jvm.Cond.privateMethod ({ cls := "TypesAtPrimeModel", name := "readsPower", desc := "()I" } : Jvm.MethodName)) ∈ lw_tbl := lw_at lw_m9 213 rfl
theorem q2236 : (Jvm.Cond.instanceMethod ({ cls := "TypesAtPrimeModel", name := "readsPower", desc := "()I" } : Jvm.MethodName)) ∈ lw_all := lw_g (lw_at lw_m9 214 rfl) rfl
theorem q2237 : (Jvm.Cond.code ({ cls := "TypesAtPrimeModel", name := "readsPower", desc := "()I" } : Jvm.MethodName) prog_18_method_17_code (1 : Nat) (Option.some Jvm.ClassFile.FieldType.int)) ∈ lw_all := lw_g (lw_at lw_m9 215 rfl) rfl
theorem q2238 : (Jvm.Cond.constantLong "TypesAtPrimeModel" (215 : Nat) (56 : Int64)) ∈ lw_all := lw_g (lw_at lw_m9 216 rfl) rfl
theorem q2239 : (Jvm.Cond.methodLink "TypesAtPrimeModel" (237 : Nat) ({ cls := "TypesAtPrimeModel", name := "takesRead", desc := "(I)Z" } : Jvm.MethodName)) ∈ lw_all := lw_g (lw_at lw_m9 217 rfl) rfl
theorem q2240 : (Jvm.Cond.privateMethod ({ cls := "TypesAtPrimeModel", name := "takesRead", desc := "(I)Z" } : Jvm.MethodName)) ∈ lw_tbl := lw_at lw_m9 218 rfl
theorem q2241 : (Jvm.Cond.instanceMethod ({ cls := "TypesAtPrimeModel", name := "takesRead", desc := "(I)Z" } : Jvm.MethodName)) ∈ lw_all := lw_g (lw_at lw_m9 219 rfl) rfl
theorem q2242 : (Jvm.Cond.code ({ cls := "TypesAtPrimeModel", name := "takesRead", desc := "(I)Z" } : Jvm.MethodName) prog_18_method_20_code (4 : Nat) (Option.some Jvm.ClassFile.FieldType.boolean)) ∈ lw_all := lw_g (lw_at lw_m9 220 rfl) rfl
theorem q2243 : (Jvm.Cond.constantLong "TypesAtPrimeModel" (227 : Nat) (-9999 : Int64)) ∈ lw_all := lw_g (lw_at lw_m9 221 rfl) rfl
theorem q2244 : (Jvm.Cond.constantLong "TypesAtPrimeModel" (229 : Nat) (9999 : Int64)) ∈ lw_all := lw_g (lw_at lw_m9 222 rfl) rfl
theorem q2245 : (Jvm.Cond.methodLink "TypesAtPrimeModel" (240 : Nat) ({ cls := "TypesAtPrimeModel", name := "toldDegree", desc := "(I)I" } : Jvm.MethodName)) ∈ lw_all := lw_g (lw_at lw_m9 223 rfl) rfl
theorem q2246 : (Jvm.Cond.privateMethod ({ cls := "TypesAtPrimeModel", name := "toldDegree", desc := "(I)I" } : Jvm.MethodName)) ∈ lw_tbl := lw_at lw_m9 224 rfl
theorem q2247 : (Jvm.Cond.instanceMethod ({ cls := "TypesAtPrimeModel", name := "toldDegree", desc := "(I)I" } : Jvm.MethodName)) ∈ lw_all := lw_g (lw_at lw_m9 225 rfl) rfl
theorem q2248 : (Jvm.Cond.code ({ cls := "TypesAtPrimeModel", name := "toldDegree", desc := "(I)I" } : Jvm.MethodName) prog_18_method_21_code (3 : Nat) (Option.some Jvm.ClassFile.FieldType.int)) ∈ lw_all := lw_g (lw_at lw_m9 226 rfl) rfl
theorem q2249 : (Jvm.Cond.methodLink "TypesAtPrimeModel" (187 : Nat) ({ cls := "TypesAtPrimeModel", name := "degreeOf", desc := "(I)I" } : Jvm.MethodName)) ∈ lw_all := lw_g (lw_at lw_m9 227 rfl) rfl
theorem q2250 : (Jvm.Cond.privateMethod ({ cls := "TypesAtPrimeModel", name := "degreeOf", desc := "(I)I" } : Jvm.MethodName)) ∈ lw_tbl := lw_at lw_m9 228 rfl
theorem q2251 : (Jvm.Cond.instanceMethod ({ cls := "TypesAtPrimeModel", name := "degreeOf", desc := "(I)I" } : Jvm.MethodName)) ∈ lw_all := lw_g (lw_at lw_m9 229 rfl) rfl
theorem q2252 : (Jvm.Cond.code ({ cls := "TypesAtPrimeModel", name := "degreeOf", desc := "(I)I" } : Jvm.MethodName) prog_18_method_7_code (4 : Nat) (Option.some Jvm.ClassFile.FieldType.int)) ∈ lw_all := lw_g (lw_at lw_m9 230 rfl) rfl
theorem q2253 : (Jvm.Cond.methodLink "TypesAtPrimeModel" (183 : Nat) ({ cls := "TypesAtPrimeModel", name := "coefficient", desc := "(II)I" } : Jvm.MethodName)) ∈ lw_all := lw_g (lw_at lw_m9 231 rfl) rfl
theorem q2254 : (Jvm.Cond.privateMethod ({ cls := "TypesAtPrimeModel", name := "coefficient", desc := "(II)I" } : Jvm.MethodName)) ∈ lw_tbl := lw_at lw_m9 232 rfl
theorem q2255 : (Jvm.Cond.instanceMethod ({ cls := "TypesAtPrimeModel", name := "coefficient", desc := "(II)I" } : Jvm.MethodName)) ∈ lw_all := lw_g (lw_at lw_m9 233 rfl) rfl
theorem q2256 : (Jvm.Cond.code ({ cls := "TypesAtPrimeModel", name := "coefficient", desc := "(II)I" } : Jvm.MethodName) prog_18_method_6_code (3 : Nat) (Option.some Jvm.ClassFile.FieldType.int)) ∈ lw_all := lw_g (lw_at lw_m9 234 rfl) rfl
theorem q2258 : (Jvm.Cond.instanceMethod ({ cls := "TypesAtPrimeModel", name := "set", desc := "(III)J" } : Jvm.MethodName)) ∈ lw_all := lw_g (lw_at lw_m9 236 rfl) rfl
theorem q2259 : (Jvm.Cond.selects "TypesAtPrimeModel" ({ cls := "TypesAtPrimeModel", name := "set", desc := "(III)J" } : Jvm.MethodName) ({ cls := "TypesAtPrimeModel", name := "set", desc := "(III)J" } : Jvm.MethodName)) ∈ lw_all := lw_g (lw_at lw_m9 237 rfl) rfl
theorem q2260 : (Jvm.Cond.code ({ cls := "TypesAtPrimeModel", name := "set", desc := "(III)J" } : Jvm.MethodName) prog_18_method_23_code (5 : Nat) (Option.some Jvm.ClassFile.FieldType.long)) ∈ lw_all := lw_g (lw_at lw_m9 238 rfl) rfl
theorem q2261 : (Jvm.Cond.methodLink "TypesAtPrimeModel" (243 : Nat) ({ cls := "TypesAtPrimeModel", name := "isPower", desc := "(I)Z" } : Jvm.MethodName)) ∈ lw_all := lw_g (lw_at lw_m9 239 rfl) rfl
theorem q2262 : (Jvm.Cond.static ({ cls := "TypesAtPrimeModel", name := "isPower", desc := "(I)Z" } : Jvm.MethodName)) ∈ lw_all := lw_g (lw_at lw_m10 0 rfl) rfl
theorem q2263 : (Jvm.Cond.code ({ cls := "TypesAtPrimeModel", name := "isPower", desc := "(I)Z" } : Jvm.MethodName) prog_18_method_5_code (1 : Nat) (Option.some Jvm.ClassFile.FieldType.boolean)) ∈ lw_all := lw_g (lw_at lw_m10 1 rfl) rfl
theorem q2264 : (Jvm.Cond.constantLong "TypesAtPrimeModel" (246 : Nat) (-9223372036854775808 : Int64)) ∈ lw_all := lw_g (lw_at lw_m10 2 rfl) rfl
theorem q2266 : (Jvm.Cond.instanceMethod ({ cls := "TypesAtPrimeModel", name := "at", desc := "(II)J" } : Jvm.MethodName)) ∈ lw_all := lw_g (lw_at lw_m10 4 rfl) rfl
theorem q2267 : (Jvm.Cond.selects "TypesAtPrimeModel" ({ cls := "TypesAtPrimeModel", name := "at", desc := "(II)J" } : Jvm.MethodName) ({ cls := "TypesAtPrimeModel", name := "at", desc := "(II)J" } : Jvm.MethodName)) ∈ lw_all := lw_g (lw_at lw_m10 5 rfl) rfl
theorem q2268 : (Jvm.Cond.code ({ cls := "TypesAtPrimeModel", name := "at", desc := "(II)J" } : Jvm.MethodName) prog_18_method_24_code (3 : Nat) (Option.some Jvm.ClassFile.FieldType.long)) ∈ lw_all := lw_g (lw_at lw_m10 6 rfl) rfl
theorem q2270 : (Jvm.Cond.instanceMethod ({ cls := "TypesAtPrimeModel", name := "told", desc := "(II)I" } : Jvm.MethodName)) ∈ lw_all := lw_g (lw_at lw_m10 8 rfl) rfl
theorem q2271 : (Jvm.Cond.selects "TypesAtPrimeModel" ({ cls := "TypesAtPrimeModel", name := "told", desc := "(II)I" } : Jvm.MethodName) ({ cls := "TypesAtPrimeModel", name := "told", desc := "(II)I" } : Jvm.MethodName)) ∈ lw_all := lw_g (lw_at lw_m10 9 rfl) rfl
theorem q2272 : (Jvm.Cond.code ({ cls := "TypesAtPrimeModel", name := "told", desc := "(II)I" } : Jvm.MethodName) prog_18_method_25_code (3 : Nat) (Option.some Jvm.ClassFile.FieldType.int)) ∈ lw_all := lw_g (lw_at lw_m10 10 rfl) rfl
theorem q2273 : (Jvm.Cond.methodLink "TypesAtPrimeModel" (248 : Nat) ({ cls := "TypesAtPrimeModel", name := "isMonic", desc := "(I)Z" } : Jvm.MethodName)) ∈ lw_all := lw_g (lw_at lw_m10 11 rfl) rfl
theorem q2274 : (Jvm.Cond.privateMethod ({ cls := "TypesAtPrimeModel", name := "isMonic", desc := "(I)Z" } : Jvm.MethodName)) ∈ lw_tbl := lw_at lw_m10 12 rfl
theorem q2275 : (Jvm.Cond.instanceMethod ({ cls := "TypesAtPrimeModel", name := "isMonic", desc := "(I)Z" } : Jvm.MethodName)) ∈ lw_all := lw_g (lw_at lw_m10 13 rfl) rfl
theorem q2276 : (Jvm.Cond.code ({ cls := "TypesAtPrimeModel", name := "isMonic", desc := "(I)Z" } : Jvm.MethodName) prog_18_method_8_code (3 : Nat) (Option.some Jvm.ClassFile.FieldType.boolean)) ∈ lw_all := lw_g (lw_at lw_m10 14 rfl) rfl
theorem q2278 : (Jvm.Cond.instanceMethod ({ cls := "TypesAtPrimeModel", name := "mix", desc := "(IIIII)I" } : Jvm.MethodName)) ∈ lw_all := lw_g (lw_at lw_m10 16 rfl) rfl
theorem q2279 : (Jvm.Cond.selects "TypesAtPrimeModel" ({ cls := "TypesAtPrimeModel", name := "mix", desc := "(IIIII)I" } : Jvm.MethodName) ({ cls := "TypesAtPrimeModel", name := "mix", desc := "(IIIII)I" } : Jvm.MethodName)) ∈ lw_all := lw_g (lw_at lw_m10 17 rfl) rfl
theorem q2280 : (Jvm.Cond.code ({ cls := "TypesAtPrimeModel", name := "mix", desc := "(IIIII)I" } : Jvm.MethodName) prog_18_method_26_code (7 : Nat) (Option.some Jvm.ClassFile.FieldType.int)) ∈ lw_all := lw_g (lw_at lw_m10 18 rfl) rfl
theorem q2282 : (Jvm.Cond.instanceMethod ({ cls := "TypesAtPrimeModel", name := "times", desc := "(III)I" } : Jvm.MethodName)) ∈ lw_all := lw_g (lw_at lw_m10 20 rfl) rfl
theorem q2283 : (Jvm.Cond.selects "TypesAtPrimeModel" ({ cls := "TypesAtPrimeModel", name := "times", desc := "(III)I" } : Jvm.MethodName) ({ cls := "TypesAtPrimeModel", name := "times", desc := "(III)I" } : Jvm.MethodName)) ∈ lw_all := lw_g (lw_at lw_m10 21 rfl) rfl
theorem q2284 : (Jvm.Cond.code ({ cls := "TypesAtPrimeModel", name := "times", desc := "(III)I" } : Jvm.MethodName) prog_18_method_27_code (8 : Nat) (Option.some Jvm.ClassFile.FieldType.int)) ∈ lw_all := lw_g (lw_at lw_m10 22 rfl) rfl
theorem q2286 : (Jvm.Cond.instanceMethod ({ cls := "TypesAtPrimeModel", name := "worth", desc := "(II)J" } : Jvm.MethodName)) ∈ lw_all := lw_g (lw_at lw_m10 24 rfl) rfl
theorem q2287 : (Jvm.Cond.selects "TypesAtPrimeModel" ({ cls := "TypesAtPrimeModel", name := "worth", desc := "(II)J" } : Jvm.MethodName) ({ cls := "TypesAtPrimeModel", name := "worth", desc := "(II)J" } : Jvm.MethodName)) ∈ lw_all := lw_g (lw_at lw_m10 25 rfl) rfl
theorem q2288 : (Jvm.Cond.code ({ cls := "TypesAtPrimeModel", name := "worth", desc := "(II)J" } : Jvm.MethodName) prog_18_method_29_code (10 : Nat) (Option.some Jvm.ClassFile.FieldType.long)) ∈ lw_all := lw_g (lw_at lw_m10 26 rfl) rfl
theorem q2289 : (Jvm.Cond.methodLink "TypesAtPrimeModel" (253 : Nat) ({ cls := "TypesAtPrimeModel", name := "isSafe", desc := "(JJ)Z" } : Jvm.MethodName)) ∈ lw_all := lw_g (lw_at lw_m10 27 rfl) rfl
theorem q2290 : (Jvm.Cond.static ({ cls := "TypesAtPrimeModel", name := "isSafe", desc := "(JJ)Z" } : Jvm.MethodName)) ∈ lw_all := lw_g (lw_at lw_m10 28 rfl) rfl
theorem q2291 : (Jvm.Cond.code ({ cls := "TypesAtPrimeModel", name := "isSafe", desc := "(JJ)Z" } : Jvm.MethodName) prog_18_method_28_code (5 : Nat) (Option.some Jvm.ClassFile.FieldType.boolean)) ∈ lw_all := lw_g (lw_at lw_m10 29 rfl) rfl
theorem q2292 : (Jvm.Cond.constantLong "TypesAtPrimeModel" (251 : Nat) (-1 : Int64)) ∈ lw_all := lw_g (lw_at lw_m10 30 rfl) rfl
theorem q2294 : (Jvm.Cond.instanceMethod ({ cls := "TypesAtPrimeModel", name := "expansion", desc := "(IIII)J" } : Jvm.MethodName)) ∈ lw_all := lw_g (lw_at lw_m10 32 rfl) rfl
theorem q2295 : (Jvm.Cond.selects "TypesAtPrimeModel" ({ cls := "TypesAtPrimeModel", name := "expansion", desc := "(IIII)J" } : Jvm.MethodName) ({ cls := "TypesAtPrimeModel", name := "expansion", desc := "(IIII)J" } : Jvm.MethodName)) ∈ lw_all := lw_g (lw_at lw_m10 33 rfl) rfl
theorem q2296 : (Jvm.Cond.code ({ cls := "TypesAtPrimeModel", name := "expansion", desc := "(IIII)J" } : Jvm.MethodName) prog_18_method_31_code (7 : Nat) (Option.some Jvm.ClassFile.FieldType.long)) ∈ lw_all := lw_g (lw_at lw_m10 34 rfl) rfl
theorem q2297 : (Jvm.Cond.methodLink "TypesAtPrimeModel" (257 : Nat) ({ cls := "TypesAtPrimeModel", name := "number", desc := "(J)J" } : Jvm.MethodName)) ∈ lw_all := lw_g (lw_at lw_m10 35 rfl) rfl
theorem q2298 : (Jvm.Cond.privateMethod ({ cls := "TypesAtPrimeModel", name := "number", desc := "(J)J" } : Jvm.MethodName)) ∈ lw_tbl := lw_at lw_m10 36 rfl
theorem q2299 : (Jvm.Cond.instanceMethod ({ cls := "TypesAtPrimeModel", name := "number", desc := "(J)J" } : Jvm.MethodName)) ∈ lw_all := lw_g (lw_at lw_m10 37 rfl) rfl
theorem q2300 : (Jvm.Cond.code ({ cls := "TypesAtPrimeModel", name := "number", desc := "(J)J" } : Jvm.MethodName) prog_18_method_10_code (5 : Nat) (Option.some Jvm.ClassFile.FieldType.long)) ∈ lw_all := lw_g (lw_at lw_m10 38 rfl) rfl
theorem q2301 : (Jvm.Cond.methodLink "TypesAtPrimeModel" (261 : Nat) ({ cls := "TypesAtPrimeModel", name := "splits", desc := "(IIII)V" } : Jvm.MethodName)) ∈ lw_all := lw_g (lw_at lw_m10 39 rfl) rfl
theorem q2302 : (Jvm.Cond.privateMethod ({ cls := "TypesAtPrimeModel", name := "splits", desc := "(IIII)V" } : Jvm.MethodName)) ∈ lw_tbl := lw_at lw_m10 40 rfl
theorem q2303 : (Jvm.Cond.instanceMethod ({ cls := "TypesAtPrimeModel", name := "splits", desc := "(IIII)V" } : Jvm.MethodName)) ∈ lw_all := lw_g (lw_at lw_m10 41 rfl) rfl
theorem q2304 : (Jvm.Cond.code ({ cls := "TypesAtPrimeModel", name := "splits", desc := "(IIII)V" } : Jvm.MethodName) prog_18_method_30_code (8 : Nat) (Option.none : Option Jvm.ClassFile.FieldType)) ∈ lw_all := lw_g (lw_at lw_m10 42 rfl) rfl
theorem q2306 : (Jvm.Cond.instanceMethod ({ cls := "TypesAtPrimeModel", name := "factor", desc := "(III)J" } : Jvm.MethodName)) ∈ lw_all := lw_g (lw_at lw_m10 44 rfl) rfl
theorem q2307 : (Jvm.Cond.selects "TypesAtPrimeModel" ({ cls := "TypesAtPrimeModel", name := "factor", desc := "(III)J" } : Jvm.MethodName) ({ cls := "TypesAtPrimeModel", name := "factor", desc := "(III)J" } : Jvm.MethodName)) ∈ lw_all := lw_g (lw_at lw_m10 45 rfl) rfl
theorem q2308 : (Jvm.Cond.code ({ cls := "TypesAtPrimeModel", name := "factor", desc := "(III)J" } : Jvm.MethodName) prog_18_method_39_code (4 : Nat) (Option.some Jvm.ClassFile.FieldType.long)) ∈ lw_all := lw_g (lw_at lw_m10 46 rfl) rfl
theorem q2309 : (Jvm.Cond.constantLong "TypesAtPrimeModel" (290 : Nat) (-3 : Int64)) ∈ lw_all := lw_g (lw_at lw_m10 47 rfl) rfl
theorem q2310 : (Jvm.Cond.constantLong "TypesAtPrimeModel" (292 : Nat) (8 : Int64)) ∈ lw_all := lw_g (lw_at lw_m10 48 rfl) rfl
theorem q2311 : (Jvm.Cond.methodLink "TypesAtPrimeModel" (294 : Nat) ({ cls := "TypesAtPrimeModel", name := "laysResidues", desc := "(I)Z" } : Jvm.MethodName)) ∈ lw_all := lw_g (lw_at lw_m10 49 rfl) rfl
theorem q2312 : (Jvm.Cond.privateMethod ({ cls := "TypesAtPrimeModel", name := "laysResidues", desc := "(I)Z" } : Jvm.MethodName)) ∈ lw_tbl := lw_at lw_m10 50 rfl
theorem q2313 : (Jvm.Cond.instanceMethod ({ cls := "TypesAtPrimeModel", name := "laysResidues", desc := "(I)Z" } : Jvm.MethodName)) ∈ lw_all := lw_g (lw_at lw_m10 51 rfl) rfl
theorem q2314 : (Jvm.Cond.code ({ cls := "TypesAtPrimeModel", name := "laysResidues", desc := "(I)Z" } : Jvm.MethodName) prog_18_method_38_code (3 : Nat) (Option.some Jvm.ClassFile.FieldType.boolean)) ∈ lw_all := lw_g (lw_at lw_m10 52 rfl) rfl
theorem q2315 : (Jvm.Cond.methodLink "TypesAtPrimeModel" (268 : Nat) ({ cls := "TypesAtPrimeModel", name := "residue", desc := "(J)I" } : Jvm.MethodName)) ∈ lw_all := lw_g (lw_at lw_m10 53 rfl) rfl
theorem q2316 : (Jvm.Cond.privateMethod ({ cls := "TypesAtPrimeModel", name := "residue", desc := "(J)I" } : Jvm.MethodName)) ∈ lw_tbl := lw_at lw_m10 54 rfl
theorem q2317 : (Jvm.Cond.instanceMethod ({ cls := "TypesAtPrimeModel", name := "residue", desc := "(J)I" } : Jvm.MethodName)) ∈ lw_all := lw_g (lw_at lw_m10 55 rfl) rfl
theorem q2318 : (Jvm.Cond.code ({ cls := "TypesAtPrimeModel", name := "residue", desc := "(J)I" } : Jvm.MethodName) prog_18_method_9_code (4 : Nat) (Option.some Jvm.ClassFile.FieldType.int)) ∈ lw_all := lw_g (lw_at lw_m10 56 rfl) rfl
theorem q2319 : (Jvm.Cond.methodLink "TypesAtPrimeModel" (275 : Nat) ({ cls := "TypesAtPrimeModel", name := "measures", desc := "()V" } : Jvm.MethodName)) ∈ lw_all := lw_g (lw_at lw_m10 57 rfl) rfl
theorem q2320 : (Jvm.Cond.privateMethod ({ cls := "TypesAtPrimeModel", name := "measures", desc := "()V" } : Jvm.MethodName)) ∈ lw_tbl := lw_at lw_m10 58 rfl
theorem q2321 : (Jvm.Cond.instanceMethod ({ cls := "TypesAtPrimeModel", name := "measures", desc := "()V" } : Jvm.MethodName)) ∈ lw_all := lw_g (lw_at lw_m10 59 rfl) rfl
theorem q2322 : (Jvm.Cond.code ({ cls := "TypesAtPrimeModel", name := "measures", desc := "()V" } : Jvm.MethodName) prog_18_method_33_code (2 : Nat) (Option.none : Option Jvm.ClassFile.FieldType)) ∈ lw_all := lw_g (lw_at lw_m10 60 rfl) rfl
theorem q2323 : (Jvm.Cond.methodLink "TypesAtPrimeModel" (297 : Nat) ({ cls := "TypesAtPrimeModel", name := "takesApart", desc := "()V" } : Jvm.MethodName)) ∈ lw_all := lw_g (lw_at lw_m10 61 rfl) rfl
theorem q2324 : (Jvm.Cond.privateMethod ({ cls := "TypesAtPrimeModel", name := "takesApart", desc := "()V" } : Jvm.MethodName)) ∈ lw_tbl := lw_at lw_m10 62 rfl
theorem q2325 : (Jvm.Cond.instanceMethod ({ cls := "TypesAtPrimeModel", name := "takesApart", desc := "()V" } : Jvm.MethodName)) ∈ lw_all := lw_g (lw_at lw_m10 63 rfl) rfl
theorem q2326 : (Jvm.Cond.code ({ cls := "TypesAtPrimeModel", name := "takesApart", desc := "()V" } : Jvm.MethodName) prog_18_method_37_code (6 : Nat) (Option.none : Option Jvm.ClassFile.FieldType)) ∈ lw_all := lw_g (lw_at lw_m10 64 rfl) rfl
theorem q2327 : (Jvm.Cond.methodLink "TypesAtPrimeModel" (278 : Nat) ({ cls := "TypesAtPrimeModel", name := "inverse", desc := "(I)I" } : Jvm.MethodName)) ∈ lw_all := lw_g (lw_at lw_m10 65 rfl) rfl
theorem q2328 : (Jvm.Cond.privateMethod ({ cls := "TypesAtPrimeModel", name := "inverse", desc := "(I)I" } : Jvm.MethodName)) ∈ lw_tbl := lw_at lw_m10 66 rfl
theorem q2329 : (Jvm.Cond.instanceMethod ({ cls := "TypesAtPrimeModel", name := "inverse", desc := "(I)I" } : Jvm.MethodName)) ∈ lw_all := lw_g (lw_at lw_m10 67 rfl) rfl
theorem q2330 : (Jvm.Cond.code ({ cls := "TypesAtPrimeModel", name := "inverse", desc := "(I)I" } : Jvm.MethodName) prog_18_method_32_code (3 : Nat) (Option.some Jvm.ClassFile.FieldType.int)) ∈ lw_all := lw_g (lw_at lw_m10 68 rfl) rfl
theorem q2331 : (Jvm.Cond.methodLink "TypesAtPrimeModel" (281 : Nat) ({ cls := "TypesAtPrimeModel", name := "laysTrial", desc := "(II)V" } : Jvm.MethodName)) ∈ lw_all := lw_g (lw_at lw_m10 69 rfl) rfl
theorem q2332 : (Jvm.Cond.privateMethod ({ cls := "TypesAtPrimeModel", name := "laysTrial", desc := "(II)V" } : Jvm.MethodName)) ∈ lw_tbl := lw_at lw_m10 70 rfl
theorem q2333 : (Jvm.Cond.instanceMethod ({ cls := "TypesAtPrimeModel", name := "laysTrial", desc := "(II)V" } : Jvm.MethodName)) ∈ lw_all := lw_g (lw_at lw_m10 71 rfl) rfl
theorem q2334 : (Jvm.Cond.code ({ cls := "TypesAtPrimeModel", name := "laysTrial", desc := "(II)V" } : Jvm.MethodName) prog_18_method_35_code (5 : Nat) (Option.none : Option Jvm.ClassFile.FieldType)) ∈ lw_all := lw_g (lw_at lw_m10 72 rfl) rfl
theorem q2335 : (Jvm.Cond.methodLink "TypesAtPrimeModel" (284 : Nat) ({ cls := "TypesAtPrimeModel", name := "divides", desc := "(I)Z" } : Jvm.MethodName)) ∈ lw_all := lw_g (lw_at lw_m10 73 rfl) rfl
theorem q2336 : (Jvm.Cond.privateMethod ({ cls := "TypesAtPrimeModel", name := "divides", desc := "(I)Z" } : Jvm.MethodName)) ∈ lw_tbl := lw_at lw_m10 74 rfl
theorem q2337 : (Jvm.Cond.instanceMethod ({ cls := "TypesAtPrimeModel", name := "divides", desc := "(I)Z" } : Jvm.MethodName)) ∈ lw_all := lw_g (lw_at lw_m10 75 rfl) rfl
theorem q2338 : (Jvm.Cond.code ({ cls := "TypesAtPrimeModel", name := "divides", desc := "(I)Z" } : Jvm.MethodName) prog_18_method_34_code (4 : Nat) (Option.some Jvm.ClassFile.FieldType.boolean)) ∈ lw_all := lw_g (lw_at lw_m10 76 rfl) rfl
theorem q2339 : (Jvm.Cond.methodLink "TypesAtPrimeModel" (287 : Nat) ({ cls := "TypesAtPrimeModel", name := "addsFactor", desc := "(II)V" } : Jvm.MethodName)) ∈ lw_all := lw_g (lw_at lw_m10 77 rfl) rfl
theorem q2340 : (Jvm.Cond.privateMethod ({ cls := "TypesAtPrimeModel", name := "addsFactor", desc := "(II)V" } : Jvm.MethodName)) ∈ lw_tbl := lw_at lw_m10 78 rfl
theorem q2341 : (Jvm.Cond.instanceMethod ({ cls := "TypesAtPrimeModel", name := "addsFactor", desc := "(II)V" } : Jvm.MethodName)) ∈ lw_all := lw_g (lw_at lw_m10 79 rfl) rfl
theorem q2342 : (Jvm.Cond.code ({ cls := "TypesAtPrimeModel", name := "addsFactor", desc := "(II)V" } : Jvm.MethodName) prog_18_method_36_code (4 : Nat) (Option.none : Option Jvm.ClassFile.FieldType)) ∈ lw_all := lw_g (lw_at lw_m10 80 rfl) rfl
theorem q2344 : (Jvm.Cond.instanceMethod ({ cls := "TypesAtPrimeModel", name := "grow", desc := "(I)I" } : Jvm.MethodName)) ∈ lw_all := lw_g (lw_at lw_m10 82 rfl) rfl
theorem q2345 : (Jvm.Cond.selects "TypesAtPrimeModel" ({ cls := "TypesAtPrimeModel", name := "grow", desc := "(I)I" } : Jvm.MethodName) ({ cls := "TypesAtPrimeModel", name := "grow", desc := "(I)I" } : Jvm.MethodName)) ∈ lw_all := lw_g (lw_at lw_m10 83 rfl) rfl
theorem q2346 : (Jvm.Cond.code ({ cls := "TypesAtPrimeModel", name := "grow", desc := "(I)I" } : Jvm.MethodName) prog_18_method_69_code (3 : Nat) (Option.some Jvm.ClassFile.FieldType.int)) ∈ lw_all := lw_g (lw_at lw_m10 84 rfl) rfl
theorem q2347 : (Jvm.Cond.methodLink "TypesAtPrimeModel" (411 : Nat) ({ cls := "TypesAtPrimeModel", name := "steps", desc := "()V" } : Jvm.MethodName)) ∈ lw_all := lw_g (lw_at lw_m10 85 rfl) rfl
theorem q2348 : (Jvm.Cond.privateMethod ({ cls := "TypesAtPrimeModel", name := "steps", desc := "()V" } : Jvm.MethodName)) ∈ lw_tbl := lw_at lw_m10 86 rfl
theorem q2349 : (Jvm.Cond.instanceMethod ({ cls := "TypesAtPrimeModel", name := "steps", desc := "()V" } : Jvm.MethodName)) ∈ lw_all := lw_g (lw_at lw_m10 87 rfl) rfl
theorem q2350 : (Jvm.Cond.code ({ cls := "TypesAtPrimeModel", name := "steps", desc := "()V" } : Jvm.MethodName) prog_18_method_65_code (4 : Nat) (Option.none : Option Jvm.ClassFile.FieldType)) ∈ lw_all := lw_g (lw_at lw_m10 88 rfl) rfl
theorem q2351 : (Jvm.Cond.methodLink "TypesAtPrimeModel" (393 : Nat) ({ cls := "TypesAtPrimeModel", name := "takesFirst", desc := "(I)V" } : Jvm.MethodName)) ∈ lw_all := lw_g (lw_at lw_m10 89 rfl) rfl
theorem q2352 : (Jvm.Cond.privateMethod ({ cls := "TypesAtPrimeModel", name := "takesFirst", desc := "(I)V" } : Jvm.MethodName)) ∈ lw_tbl := lw_at lw_m10 90 rfl
theorem q2353 : (Jvm.Cond.instanceMethod ({ cls := "TypesAtPrimeModel", name := "takesFirst", desc := "(I)V" } : Jvm.MethodName)) ∈ lw_all := lw_g (lw_at lw_m10 91 rfl) rfl
theorem q2354 : (Jvm.Cond.code ({ cls := "TypesAtPrimeModel", name := "takesFirst", desc := "(I)V" } : Jvm.MethodName) prog_18_method_63_code (6 : Nat) (Option.none : Option Jvm.ClassFile.FieldType)) ∈ lw_all := lw_g (lw_at lw_m10 92 rfl) rfl
theorem q2355 : (Jvm.Cond.methodLink "TypesAtPrimeModel" (358 : Nat) ({ cls := "TypesAtPrimeModel", name := "addsLeaf", desc := "(IIIII)V" } : Jvm.MethodName)) ∈ lw_all := lw_g (lw_at lw_m10 93 rfl) rfl
theorem q2356 : (Jvm.Cond.privateMethod ({ cls := "TypesAtPrimeModel", name := "addsLeaf", desc := "(IIIII)V" } : Jvm.MethodName)) ∈ lw_tbl := lw_at lw_m10 94 rfl
theorem q2357 : (Jvm.Cond.instanceMethod ({ cls := "TypesAtPrimeModel", name := "addsLeaf", desc := "(IIIII)V" } : Jvm.MethodName)) ∈ lw_all := lw_g (lw_at lw_m10 95 rfl) rfl
theorem q2358 : (Jvm.Cond.code ({ cls := "TypesAtPrimeModel", name := "addsLeaf", desc := "(IIIII)V" } : Jvm.MethodName) prog_18_method_55_code (6 : Nat) (Option.none : Option Jvm.ClassFile.FieldType)) ∈ lw_all := lw_g (lw_at lw_m10 96 rfl) rfl
theorem q2359 : (Jvm.Cond.methodLink "TypesAtPrimeModel" (381 : Nat) ({ cls := "TypesAtPrimeModel", name := "rootOf", desc := "(I)I" } : Jvm.MethodName)) ∈ lw_all := lw_g (lw_at lw_m10 97 rfl) rfl
theorem q2360 : (Jvm.Cond.privateMethod ({ cls := "TypesAtPrimeModel", name := "rootOf", desc := "(I)I" } : Jvm.MethodName)) ∈ lw_tbl := lw_at lw_m10 98 rfl
theorem q2361 : (Jvm.Cond.instanceMethod ({ cls := "TypesAtPrimeModel", name := "rootOf", desc := "(I)I" } : Jvm.MethodName)) ∈ lw_all := lw_g (lw_at lw_m10 99 rfl) rfl
theorem q2362 : (Jvm.Cond.code ({ cls := "TypesAtPrimeModel", name := "rootOf", desc := "(I)I" } : Jvm.MethodName) prog_18_method_62_code (2 : Nat) (Option.some Jvm.ClassFile.FieldType.int)) ∈ lw_all := lw_g (lw_at lw_m10 100 rfl) rfl
theorem q2363 : (Jvm.Cond.methodLink "TypesAtPrimeModel" (384 : Nat) ({ cls := "TypesAtPrimeModel", name := "newKnot", desc := "(II)I" } : Jvm.MethodName)) ∈ lw_all := lw_g (lw_at lw_m10 101 rfl) rfl
theorem q2364 : (Jvm.Cond.privateMethod ({ cls := "TypesAtPrimeModel", name := "newKnot", desc := "(II)I" } : Jvm.MethodName)) ∈ lw_tbl := lw_at lw_m10 102 rfl
theorem q2365 : (Jvm.Cond.instanceMethod ({ cls := "TypesAtPrimeModel", name := "newKnot", desc := "(II)I" } : Jvm.MethodName)) ∈ lw_all := lw_g (lw_at lw_m10 103 rfl) rfl
theorem q2366 : (Jvm.Cond.code ({ cls := "TypesAtPrimeModel", name := "newKnot", desc := "(II)I" } : Jvm.MethodName) prog_18_method_60_code (5 : Nat) (Option.some Jvm.ClassFile.FieldType.int)) ∈ lw_all := lw_g (lw_at lw_m10 104 rfl) rfl
theorem q2367 : (Jvm.Cond.methodLink "TypesAtPrimeModel" (387 : Nat) ({ cls := "TypesAtPrimeModel", name := "goesInto", desc := "(I)V" } : Jvm.MethodName)) ∈ lw_all := lw_g (lw_at lw_m10 105 rfl) rfl
theorem q2368 : (Jvm.Cond.privateMethod ({ cls := "TypesAtPrimeModel", name := "goesInto", desc := "(I)V" } : Jvm.MethodName)) ∈ lw_tbl := lw_at lw_m10 106 rfl
theorem q2369 : (Jvm.Cond.instanceMethod ({ cls := "TypesAtPrimeModel", name := "goesInto", desc := "(I)V" } : Jvm.MethodName)) ∈ lw_all := lw_g (lw_at lw_m10 107 rfl) rfl
theorem q2370 : (Jvm.Cond.code ({ cls := "TypesAtPrimeModel", name := "goesInto", desc := "(I)V" } : Jvm.MethodName) prog_18_method_61_code (2 : Nat) (Option.none : Option Jvm.ClassFile.FieldType)) ∈ lw_all := lw_g (lw_at lw_m10 108 rfl) rfl
theorem q2371 : (Jvm.Cond.methodLink "TypesAtPrimeModel" (375 : Nat) ({ cls := "TypesAtPrimeModel", name := "laysKnot", desc := "(I)V" } : Jvm.MethodName)) ∈ lw_all := lw_g (lw_at lw_m10 109 rfl) rfl
theorem q2372 : (Jvm.Cond.privateMethod ({ cls := "TypesAtPrimeModel", name := "laysKnot", desc := "(I)V" } : Jvm.MethodName)) ∈ lw_tbl := lw_at lw_m10 110 rfl
theorem q2373 : (Jvm.Cond.instanceMethod ({ cls := "TypesAtPrimeModel", name := "laysKnot", desc := "(I)V" } : Jvm.MethodName)) ∈ lw_all := lw_g (lw_at lw_m10 111 rfl) rfl
theorem q2374 : (Jvm.Cond.code ({ cls := "TypesAtPrimeModel", name := "laysKnot", desc := "(I)V" } : Jvm.MethodName) prog_18_method_56_code (4 : Nat) (Option.none : Option Jvm.ClassFile.FieldType)) ∈ lw_all := lw_g (lw_at lw_m10 112 rfl) rfl
theorem q2375 : (Jvm.Cond.methodLink "TypesAtPrimeModel" (352 : Nat) ({ cls := "TypesAtPrimeModel", name := "takesKnot", desc := "(I)V" } : Jvm.MethodName)) ∈ lw_all := lw_g (lw_at lw_m10 113 rfl) rfl
theorem q2376 : (Jvm.Cond.privateMethod ({ cls := "TypesAtPrimeModel", name := "takesKnot", desc := "(I)V" } : Jvm.MethodName)) ∈ lw_tbl := lw_at lw_m10 114 rfl
theorem q2377 : (Jvm.Cond.instanceMethod ({ cls := "TypesAtPrimeModel", name := "takesKnot", desc := "(I)V" } : Jvm.MethodName)) ∈ lw_all := lw_g (lw_at lw_m10 115 rfl) rfl
theorem q2378 : (Jvm.Cond.code ({ cls := "TypesAtPrimeModel", name := "takesKnot", desc := "(I)V" } : Jvm.MethodName) prog_18_method_40_code (4 : Nat) (Option.none : Option Jvm.ClassFile.FieldType)) ∈ lw_all := lw_g (lw_at lw_m10 116 rfl) rfl
theorem q2379 : (Jvm.Cond.methodLink "TypesAtPrimeModel" (355 : Nat) ({ cls := "TypesAtPrimeModel", name := "laysPoints", desc := "(I)V" } : Jvm.MethodName)) ∈ lw_all := lw_g (lw_at lw_m10 117 rfl) rfl
theorem q2380 : (Jvm.Cond.privateMethod ({ cls := "TypesAtPrimeModel", name := "laysPoints", desc := "(I)V" } : Jvm.MethodName)) ∈ lw_tbl := lw_at lw_m10 118 rfl
theorem q2381 : (Jvm.Cond.instanceMethod ({ cls := "TypesAtPrimeModel", name := "laysPoints", desc := "(I)V" } : Jvm.MethodName)) ∈ lw_all := lw_g (lw_at lw_m10 119 rfl) rfl
theorem q2382 : (Jvm.Cond.code ({ cls := "TypesAtPrimeModel", name := "laysPoints", desc := "(I)V" } : Jvm.MethodName) prog_18_method_48_code (5 : Nat) (Option.none : Option Jvm.ClassFile.FieldType)) ∈ lw_all := lw_g (lw_at lw_m10 120 rfl) rfl
theorem q2383 : (Jvm.Cond.methodLink "TypesAtPrimeModel" (312 : Nat) ({ cls := "TypesAtPrimeModel", name := "laysRow", desc := "(I)V" } : Jvm.MethodName)) ∈ lw_all := lw_g (lw_at lw_m10 121 rfl) rfl
theorem q2384 : (Jvm.Cond.privateMethod ({ cls := "TypesAtPrimeModel", name := "laysRow", desc := "(I)V" } : Jvm.MethodName)) ∈ lw_tbl := lw_at lw_m10 122 rfl
theorem q2385 : (Jvm.Cond.instanceMethod ({ cls := "TypesAtPrimeModel", name := "laysRow", desc := "(I)V" } : Jvm.MethodName)) ∈ lw_all := lw_g (lw_at lw_m10 123 rfl) rfl
theorem q2386 : (Jvm.Cond.code ({ cls := "TypesAtPrimeModel", name := "laysRow", desc := "(I)V" } : Jvm.MethodName) prog_18_method_47_code (3 : Nat) (Option.none : Option Jvm.ClassFile.FieldType)) ∈ lw_all := lw_g (lw_at lw_m10 124 rfl) rfl
theorem q2387 : (Jvm.Cond.methodLink "TypesAtPrimeModel" (316 : Nat) ({ cls := "TypesAtPrimeModel", name := "head", desc := "(I)I" } : Jvm.MethodName)) ∈ lw_all := lw_g (lw_at lw_m10 125 rfl) rfl
theorem q2388 : (Jvm.Cond.privateMethod ({ cls := "TypesAtPrimeModel", name := "head", desc := "(I)I" } : Jvm.MethodName)) ∈ lw_tbl := lw_at lw_m10 126 rfl
theorem q2389 : (Jvm.Cond.instanceMethod ({ cls := "TypesAtPrimeModel", name := "head", desc := "(I)I" } : Jvm.MethodName)) ∈ lw_all := lw_g (lw_at lw_m10 127 rfl) rfl
theorem q2390 : (Jvm.Cond.code ({ cls := "TypesAtPrimeModel", name := "head", desc := "(I)I" } : Jvm.MethodName) prog_18_method_43_code (8 : Nat) (Option.some Jvm.ClassFile.FieldType.int)) ∈ lw_all := lw_g (lw_at lw_m10 128 rfl) rfl
theorem q2391 : (Jvm.Cond.methodLink "TypesAtPrimeModel" (303 : Nat) ({ cls := "TypesAtPrimeModel", name := "powerIn", desc := "(J)I" } : Jvm.MethodName)) ∈ lw_all := lw_g (lw_at lw_m10 129 rfl) rfl
theorem q2392 : (Jvm.Cond.privateMethod ({ cls := "TypesAtPrimeModel", name := "powerIn", desc := "(J)I" } : Jvm.MethodName)) ∈ lw_tbl := lw_at lw_m10 130 rfl
theorem q2393 : (Jvm.Cond.instanceMethod ({ cls := "TypesAtPrimeModel", name := "powerIn", desc := "(J)I" } : Jvm.MethodName)) ∈ lw_all := lw_g (lw_at lw_m10 131 rfl) rfl
theorem q2394 : (Jvm.Cond.code ({ cls := "TypesAtPrimeModel", name := "powerIn", desc := "(J)I" } : Jvm.MethodName) prog_18_method_42_code (6 : Nat) (Option.some Jvm.ClassFile.FieldType.int)) ∈ lw_all := lw_g (lw_at lw_m10 132 rfl) rfl
theorem q2395 : (Jvm.Cond.methodLink "TypesAtPrimeModel" (306 : Nat) ({ cls := "TypesAtPrimeModel", name := "laysHead", desc := "(II)V" } : Jvm.MethodName)) ∈ lw_all := lw_g (lw_at lw_m10 133 rfl) rfl
theorem q2396 : (Jvm.Cond.privateMethod ({ cls := "TypesAtPrimeModel", name := "laysHead", desc := "(II)V" } : Jvm.MethodName)) ∈ lw_tbl := lw_at lw_m10 134 rfl
theorem q2397 : (Jvm.Cond.instanceMethod ({ cls := "TypesAtPrimeModel", name := "laysHead", desc := "(II)V" } : Jvm.MethodName)) ∈ lw_all := lw_g (lw_at lw_m10 135 rfl) rfl
theorem q2398 : (Jvm.Cond.code ({ cls := "TypesAtPrimeModel", name := "laysHead", desc := "(II)V" } : Jvm.MethodName) prog_18_method_44_code (6 : Nat) (Option.none : Option Jvm.ClassFile.FieldType)) ∈ lw_all := lw_g (lw_at lw_m10 136 rfl) rfl
theorem q2399 : (Jvm.Cond.methodLink "TypesAtPrimeModel" (319 : Nat) ({ cls := "TypesAtPrimeModel", name := "lift", desc := "()I" } : Jvm.MethodName)) ∈ lw_all := lw_g (lw_at lw_m10 137 rfl) rfl
theorem q2400 : (Jvm.Cond.privateMethod ({ cls := "TypesAtPrimeModel", name := "lift", desc := "()I" } : Jvm.MethodName)) ∈ lw_tbl := lw_at lw_m10 138 rfl
theorem q2401 : (Jvm.Cond.instanceMethod ({ cls := "TypesAtPrimeModel", name := "lift", desc := "()I" } : Jvm.MethodName)) ∈ lw_all := lw_g (lw_at lw_m10 139 rfl) rfl
theorem q2402 : (Jvm.Cond.code ({ cls := "TypesAtPrimeModel", name := "lift", desc := "()I" } : Jvm.MethodName) prog_18_method_41_code (1 : Nat) (Option.some Jvm.ClassFile.FieldType.int)) ∈ lw_all := lw_g (lw_at lw_m10 140 rfl) rfl
theorem q2403 : (Jvm.Cond.methodLink "TypesAtPrimeModel" (362 : Nat) ({ cls := "TypesAtPrimeModel", name := "laysSides", desc := "(I)V" } : Jvm.MethodName)) ∈ lw_all := lw_g (lw_at lw_m10 141 rfl) rfl
theorem q2404 : (Jvm.Cond.privateMethod ({ cls := "TypesAtPrimeModel", name := "laysSides", desc := "(I)V" } : Jvm.MethodName)) ∈ lw_tbl := lw_at lw_m10 142 rfl
theorem q2405 : (Jvm.Cond.instanceMethod ({ cls := "TypesAtPrimeModel", name := "laysSides", desc := "(I)V" } : Jvm.MethodName)) ∈ lw_all := lw_g (lw_at lw_m10 143 rfl) rfl
theorem q2406 : (Jvm.Cond.code ({ cls := "TypesAtPrimeModel", name := "laysSides", desc := "(I)V" } : Jvm.MethodName) prog_18_method_52_code (11 : Nat) (Option.none : Option Jvm.ClassFile.FieldType)) ∈ lw_all := lw_g (lw_at lw_m10 144 rfl) rfl
theorem q2407 : (Jvm.Cond.methodLink "TypesAtPrimeModel" (322 : Nat) ({ cls := "TypesAtPrimeModel", name := "point0", desc := "(II)I" } : Jvm.MethodName)) ∈ lw_all := lw_g (lw_at lw_m10 145 rfl) rfl
theorem q2408 : (Jvm.Cond.privateMethod ({ cls := "TypesAtPrimeModel", name := "point0", desc := "(II)I" } : Jvm.MethodName)) ∈ lw_tbl := lw_at lw_m10 146 rfl
theorem q2409 : (Jvm.Cond.instanceMethod ({ cls := "TypesAtPrimeModel", name := "point0", desc := "(II)I" } : Jvm.MethodName)) ∈ lw_all := lw_g (lw_at lw_m10 147 rfl) rfl
theorem q2410 : (Jvm.Cond.code ({ cls := "TypesAtPrimeModel", name := "point0", desc := "(II)I" } : Jvm.MethodName) prog_18_method_49_code (3 : Nat) (Option.some Jvm.ClassFile.FieldType.int)) ∈ lw_all := lw_g (lw_at lw_m10 148 rfl) rfl
theorem q2411 : (Jvm.Cond.methodLink "TypesAtPrimeModel" (328 : Nat) ({ cls := "TypesAtPrimeModel", name := "nextCorner", desc := "(III)I" } : Jvm.MethodName)) ∈ lw_all := lw_g (lw_at lw_m10 149 rfl) rfl
theorem q2412 : (Jvm.Cond.privateMethod ({ cls := "TypesAtPrimeModel", name := "nextCorner", desc := "(III)I" } : Jvm.MethodName)) ∈ lw_tbl := lw_at lw_m10 150 rfl
theorem q2413 : (Jvm.Cond.instanceMethod ({ cls := "TypesAtPrimeModel", name := "nextCorner", desc := "(III)I" } : Jvm.MethodName)) ∈ lw_all := lw_g (lw_at lw_m10 151 rfl) rfl
theorem q2414 : (Jvm.Cond.code ({ cls := "TypesAtPrimeModel", name := "nextCorner", desc := "(III)I" } : Jvm.MethodName) prog_18_method_51_code (8 : Nat) (Option.some Jvm.ClassFile.FieldType.int)) ∈ lw_all := lw_g (lw_at lw_m10 152 rfl) rfl
theorem q2415 : (Jvm.Cond.methodLink "TypesAtPrimeModel" (332 : Nat) ({ cls := "TypesAtPrimeModel", name := "laysSide", desc := "(III)V" } : Jvm.MethodName)) ∈ lw_all := lw_g (lw_at lw_m10 153 rfl) rfl
theorem q2416 : (Jvm.Cond.privateMethod ({ cls := "TypesAtPrimeModel", name := "laysSide", desc := "(III)V" } : Jvm.MethodName)) ∈ lw_tbl := lw_at lw_m10 154 rfl
theorem q2417 : (Jvm.Cond.instanceMethod ({ cls := "TypesAtPrimeModel", name := "laysSide", desc := "(III)V" } : Jvm.MethodName)) ∈ lw_all := lw_g (lw_at lw_m10 155 rfl) rfl
theorem q2418 : (Jvm.Cond.code ({ cls := "TypesAtPrimeModel", name := "laysSide", desc := "(III)V" } : Jvm.MethodName) prog_18_method_53_code (10 : Nat) (Option.none : Option Jvm.ClassFile.FieldType)) ∈ lw_all := lw_g (lw_at lw_m10 156 rfl) rfl
theorem q2419 : (Jvm.Cond.methodLink "TypesAtPrimeModel" (336 : Nat) ({ cls := "TypesAtPrimeModel", name := "divisor", desc := "(II)I" } : Jvm.MethodName)) ∈ lw_all := lw_g (lw_at lw_m10 157 rfl) rfl
theorem q2420 : (Jvm.Cond.static ({ cls := "TypesAtPrimeModel", name := "divisor", desc := "(II)I" } : Jvm.MethodName)) ∈ lw_all := lw_g (lw_at lw_m10 158 rfl) rfl
theorem q2421 : (Jvm.Cond.code ({ cls := "TypesAtPrimeModel", name := "divisor", desc := "(II)I" } : Jvm.MethodName) prog_18_method_50_code (5 : Nat) (Option.some Jvm.ClassFile.FieldType.int)) ∈ lw_all := lw_g (lw_at lw_m10 159 rfl) rfl
theorem q2422 : (Jvm.Cond.methodLink "TypesAtPrimeModel" (339 : Nat) ({ cls := "TypesAtPrimeModel", name := "laysMonomial", desc := "(I)V" } : Jvm.MethodName)) ∈ lw_all := lw_g (lw_at lw_m10 160 rfl) rfl
theorem q2423 : (Jvm.Cond.privateMethod ({ cls := "TypesAtPrimeModel", name := "laysMonomial", desc := "(I)V" } : Jvm.MethodName)) ∈ lw_tbl := lw_at lw_m10 161 rfl
theorem q2424 : (Jvm.Cond.instanceMethod ({ cls := "TypesAtPrimeModel", name := "laysMonomial", desc := "(I)V" } : Jvm.MethodName)) ∈ lw_all := lw_g (lw_at lw_m10 162 rfl) rfl
theorem q2425 : (Jvm.Cond.code ({ cls := "TypesAtPrimeModel", name := "laysMonomial", desc := "(I)V" } : Jvm.MethodName) prog_18_method_46_code (5 : Nat) (Option.none : Option Jvm.ClassFile.FieldType)) ∈ lw_all := lw_g (lw_at lw_m10 163 rfl) rfl
theorem q2426 : (Jvm.Cond.methodLink "TypesAtPrimeModel" (342 : Nat) ({ cls := "TypesAtPrimeModel", name := "residualAt", desc := "(IIII)I" } : Jvm.MethodName)) ∈ lw_all := lw_g (lw_at lw_m10 164 rfl) rfl
theorem q2427 : (Jvm.Cond.privateMethod ({ cls := "TypesAtPrimeModel", name := "residualAt", desc := "(IIII)I" } : Jvm.MethodName)) ∈ lw_tbl := lw_at lw_m10 165 rfl
theorem q2428 : (Jvm.Cond.instanceMethod ({ cls := "TypesAtPrimeModel", name := "residualAt", desc := "(IIII)I" } : Jvm.MethodName)) ∈ lw_all := lw_g (lw_at lw_m10 166 rfl) rfl
theorem q2429 : (Jvm.Cond.code ({ cls := "TypesAtPrimeModel", name := "residualAt", desc := "(IIII)I" } : Jvm.MethodName) prog_18_method_54_code (7 : Nat) (Option.some Jvm.ClassFile.FieldType.int)) ∈ lw_all := lw_g (lw_at lw_m10 167 rfl) rfl
theorem q2430 : (Jvm.Cond.methodLink "TypesAtPrimeModel" (346 : Nat) ({ cls := "TypesAtPrimeModel", name := "takesDown", desc := "()V" } : Jvm.MethodName)) ∈ lw_all := lw_g (lw_at lw_m10 168 rfl) rfl
theorem q2431 : (Jvm.Cond.privateMethod ({ cls := "TypesAtPrimeModel", name := "takesDown", desc := "()V" } : Jvm.MethodName)) ∈ lw_tbl := lw_at lw_m10 169 rfl
theorem q2432 : (Jvm.Cond.instanceMethod ({ cls := "TypesAtPrimeModel", name := "takesDown", desc := "()V" } : Jvm.MethodName)) ∈ lw_all := lw_g (lw_at lw_m10 170 rfl) rfl
theorem q2433 : (Jvm.Cond.code ({ cls := "TypesAtPrimeModel", name := "takesDown", desc := "()V" } : Jvm.MethodName) prog_18_method_45_code (3 : Nat) (Option.none : Option Jvm.ClassFile.FieldType)) ∈ lw_all := lw_g (lw_at lw_m10 171 rfl) rfl
theorem q2434 : (Jvm.Cond.methodLink "TypesAtPrimeModel" (396 : Nat) ({ cls := "TypesAtPrimeModel", name := "takesFactor", desc := "(III)V" } : Jvm.MethodName)) ∈ lw_all := lw_g (lw_at lw_m10 172 rfl) rfl
theorem q2435 : (Jvm.Cond.privateMethod ({ cls := "TypesAtPrimeModel", name := "takesFactor", desc := "(III)V" } : Jvm.MethodName)) ∈ lw_tbl := lw_at lw_m10 173 rfl
theorem q2436 : (Jvm.Cond.instanceMethod ({ cls := "TypesAtPrimeModel", name := "takesFactor", desc := "(III)V" } : Jvm.MethodName)) ∈ lw_all := lw_g (lw_at lw_m10 174 rfl) rfl
theorem q2437 : (Jvm.Cond.code ({ cls := "TypesAtPrimeModel", name := "takesFactor", desc := "(III)V" } : Jvm.MethodName) prog_18_method_64_code (10 : Nat) (Option.none : Option Jvm.ClassFile.FieldType)) ∈ lw_all := lw_g (lw_at lw_m10 175 rfl) rfl
theorem q2438 : (Jvm.Cond.methodLink "TypesAtPrimeModel" (390 : Nat) ({ cls := "TypesAtPrimeModel", name := "laysKey", desc := "(IIII)V" } : Jvm.MethodName)) ∈ lw_all := lw_g (lw_at lw_m10 176 rfl) rfl
theorem q2439 : (Jvm.Cond.privateMethod ({ cls := "TypesAtPrimeModel", name := "laysKey", desc := "(IIII)V" } : Jvm.MethodName)) ∈ lw_tbl := lw_at lw_m10 177 rfl
theorem q2440 : (Jvm.Cond.instanceMethod ({ cls := "TypesAtPrimeModel", name := "laysKey", desc := "(IIII)V" } : Jvm.MethodName)) ∈ lw_all := lw_g (lw_at lw_m10 178 rfl) rfl
theorem q2441 : (Jvm.Cond.code ({ cls := "TypesAtPrimeModel", name := "laysKey", desc := "(IIII)V" } : Jvm.MethodName) prog_18_method_59_code (7 : Nat) (Option.none : Option Jvm.ClassFile.FieldType)) ∈ lw_all := lw_g (lw_at lw_m10 179 rfl) rfl
theorem q2442 : (Jvm.Cond.methodLink "TypesAtPrimeModel" (365 : Nat) ({ cls := "TypesAtPrimeModel", name := "begins", desc := "(J)V" } : Jvm.MethodName)) ∈ lw_all := lw_g (lw_at lw_m10 180 rfl) rfl
theorem q2443 : (Jvm.Cond.privateMethod ({ cls := "TypesAtPrimeModel", name := "begins", desc := "(J)V" } : Jvm.MethodName)) ∈ lw_tbl := lw_at lw_m10 181 rfl
theorem q2444 : (Jvm.Cond.instanceMethod ({ cls := "TypesAtPrimeModel", name := "begins", desc := "(J)V" } : Jvm.MethodName)) ∈ lw_all := lw_g (lw_at lw_m10 182 rfl) rfl
theorem q2445 : (Jvm.Cond.code ({ cls := "TypesAtPrimeModel", name := "begins", desc := "(J)V" } : Jvm.MethodName) prog_18_method_58_code (4 : Nat) (Option.none : Option Jvm.ClassFile.FieldType)) ∈ lw_all := lw_g (lw_at lw_m10 183 rfl) rfl
theorem q2446 : (Jvm.Cond.methodLink "TypesAtPrimeModel" (369 : Nat) ({ cls := "TypesAtPrimeModel", name := "multiplies", desc := "(I)V" } : Jvm.MethodName)) ∈ lw_all := lw_g (lw_at lw_m10 184 rfl) rfl
theorem q2447 : (Jvm.Cond.privateMethod ({ cls := "TypesAtPrimeModel", name := "multiplies", desc := "(I)V" } : Jvm.MethodName)) ∈ lw_tbl := lw_at lw_m10 185 rfl
theorem q2448 : (Jvm.Cond.instanceMethod ({ cls := "TypesAtPrimeModel", name := "multiplies", desc := "(I)V" } : Jvm.MethodName)) ∈ lw_all := lw_g (lw_at lw_m10 186 rfl) rfl
theorem q2449 : (Jvm.Cond.code ({ cls := "TypesAtPrimeModel", name := "multiplies", desc := "(I)V" } : Jvm.MethodName) prog_18_method_57_code (6 : Nat) (Option.none : Option Jvm.ClassFile.FieldType)) ∈ lw_all := lw_g (lw_at lw_m10 187 rfl) rfl
theorem q2450 : (Jvm.Cond.methodLink "TypesAtPrimeModel" (414 : Nat) ({ cls := "TypesAtPrimeModel", name := "spellsAll", desc := "()V" } : Jvm.MethodName)) ∈ lw_all := lw_g (lw_at lw_m10 188 rfl) rfl
theorem q2451 : (Jvm.Cond.privateMethod ({ cls := "TypesAtPrimeModel", name := "spellsAll", desc := "()V" } : Jvm.MethodName)) ∈ lw_tbl := lw_at lw_m10 189 rfl
theorem q2452 : (Jvm.Cond.instanceMethod ({ cls := "TypesAtPrimeModel", name := "spellsAll", desc := "()V" } : Jvm.MethodName)) ∈ lw_all := lw_g (lw_at lw_m10 190 rfl) rfl
theorem q2453 : (Jvm.Cond.code ({ cls := "TypesAtPrimeModel", name := "spellsAll", desc := "()V" } : Jvm.MethodName) prog_18_method_68_code (4 : Nat) (Option.none : Option Jvm.ClassFile.FieldType)) ∈ lw_all := lw_g (lw_at lw_m10 191 rfl) rfl
theorem q2454 : (Jvm.Cond.methodLink "TypesAtPrimeModel" (402 : Nat) ({ cls := "TypesAtPrimeModel", name := "spells", desc := "(I)V" } : Jvm.MethodName)) ∈ lw_all := lw_g (lw_at lw_m10 192 rfl) rfl
theorem q2455 : (Jvm.Cond.privateMethod ({ cls := "TypesAtPrimeModel", name := "spells", desc := "(I)V" } : Jvm.MethodName)) ∈ lw_tbl := lw_at lw_m10 193 rfl
theorem q2456 : (Jvm.Cond.instanceMethod ({ cls := "TypesAtPrimeModel", name := "spells", desc := "(I)V" } : Jvm.MethodName)) ∈ lw_all := lw_g (lw_at lw_m10 194 rfl) rfl
theorem q2457 : (Jvm.Cond.code ({ cls := "TypesAtPrimeModel", name := "spells", desc := "(I)V" } : Jvm.MethodName) prog_18_method_66_code (2 : Nat) (Option.none : Option Jvm.ClassFile.FieldType)) ∈ lw_all := lw_g (lw_at lw_m10 195 rfl) rfl
theorem q2458 : (Jvm.Cond.methodLink "TypesAtPrimeModel" (405 : Nat) ({ cls := "TypesAtPrimeModel", name := "spellsNumber", desc := "(I)V" } : Jvm.MethodName)) ∈ lw_all := lw_g (lw_at lw_m10 196 rfl) rfl
theorem q2459 : (Jvm.Cond.privateMethod ({ cls := "TypesAtPrimeModel", name := "spellsNumber", desc := "(I)V" } : Jvm.MethodName)) ∈ lw_tbl := lw_at lw_m10 197 rfl
theorem q2460 : (Jvm.Cond.instanceMethod ({ cls := "TypesAtPrimeModel", name := "spellsNumber", desc := "(I)V" } : Jvm.MethodName)) ∈ lw_all := lw_g (lw_at lw_m10 198 rfl) rfl
theorem q2461 : (Jvm.Cond.code ({ cls := "TypesAtPrimeModel", name := "spellsNumber", desc := "(I)V" } : Jvm.MethodName) prog_18_method_67_code (2 : Nat) (Option.none : Option Jvm.ClassFile.FieldType)) ∈ lw_all := lw_g (lw_at lw_m10 199 rfl) rfl
theorem q2463 : (Jvm.Cond.instanceMethod ({ cls := "TypesAtPrimeModel", name := "tree", desc := "(I)I" } : Jvm.MethodName)) ∈ lw_all := lw_g (lw_at lw_m10 201 rfl) rfl
theorem q2464 : (Jvm.Cond.selects "TypesAtPrimeModel" ({ cls := "TypesAtPrimeModel", name := "tree", desc := "(I)I" } : Jvm.MethodName) ({ cls := "TypesAtPrimeModel", name := "tree", desc := "(I)I" } : Jvm.MethodName)) ∈ lw_all := lw_g (lw_at lw_m10 202 rfl) rfl
theorem q2465 : (Jvm.Cond.code ({ cls := "TypesAtPrimeModel", name := "tree", desc := "(I)I" } : Jvm.MethodName) prog_18_method_71_code (2 : Nat) (Option.some Jvm.ClassFile.FieldType.int)) ∈ lw_all := lw_g (lw_at lw_m10 203 rfl) rfl
theorem q2466 : (Jvm.Cond.constantLong "TypesAtPrimeModel" (417 : Nat) (7 : Int64)) ∈ lw_all := lw_g (lw_at lw_m10 204 rfl) rfl
theorem q2467 : (Jvm.Cond.methodLink "TypesAtPrimeModel" (419 : Nat) ({ cls := "TypesAtPrimeModel", name := "asked", desc := "(I)I" } : Jvm.MethodName)) ∈ lw_all := lw_g (lw_at lw_m10 205 rfl) rfl
theorem q2468 : (Jvm.Cond.privateMethod ({ cls := "TypesAtPrimeModel", name := "asked", desc := "(I)I" } : Jvm.MethodName)) ∈ lw_tbl := lw_at lw_m10 206 rfl
theorem q2469 : (Jvm.Cond.instanceMethod ({ cls := "TypesAtPrimeModel", name := "asked", desc := "(I)I" } : Jvm.MethodName)) ∈ lw_all := lw_g (lw_at lw_m10 207 rfl) rfl
theorem q2470 : (Jvm.Cond.code ({ cls := "TypesAtPrimeModel", name := "asked", desc := "(I)I" } : Jvm.MethodName) prog_18_method_70_code (5 : Nat) (Option.some Jvm.ClassFile.FieldType.int)) ∈ lw_all := lw_g (lw_at lw_m10 208 rfl) rfl
theorem q2472 : (Jvm.Cond.instanceMethod ({ cls := "TypesAtPrimeModel", name := "knot", desc := "(II)I" } : Jvm.MethodName)) ∈ lw_all := lw_g (lw_at lw_m10 210 rfl) rfl
theorem q2473 : (Jvm.Cond.selects "TypesAtPrimeModel" ({ cls := "TypesAtPrimeModel", name := "knot", desc := "(II)I" } : Jvm.MethodName) ({ cls := "TypesAtPrimeModel", name := "knot", desc := "(II)I" } : Jvm.MethodName)) ∈ lw_all := lw_g (lw_at lw_m10 211 rfl) rfl
theorem q2474 : (Jvm.Cond.code ({ cls := "TypesAtPrimeModel", name := "knot", desc := "(II)I" } : Jvm.MethodName) prog_18_method_73_code (3 : Nat) (Option.some Jvm.ClassFile.FieldType.int)) ∈ lw_all := lw_g (lw_at lw_m10 212 rfl) rfl
theorem q2475 : (Jvm.Cond.constantLong "TypesAtPrimeModel" (422 : Nat) (6 : Int64)) ∈ lw_all := lw_g (lw_at lw_m10 213 rfl) rfl
theorem q2476 : (Jvm.Cond.methodLink "TypesAtPrimeModel" (424 : Nat) ({ cls := "TypesAtPrimeModel", name := "isKnot", desc := "(I)Z" } : Jvm.MethodName)) ∈ lw_all := lw_g (lw_at lw_m10 214 rfl) rfl
theorem q2477 : (Jvm.Cond.privateMethod ({ cls := "TypesAtPrimeModel", name := "isKnot", desc := "(I)Z" } : Jvm.MethodName)) ∈ lw_tbl := lw_at lw_m10 215 rfl
theorem q2478 : (Jvm.Cond.instanceMethod ({ cls := "TypesAtPrimeModel", name := "isKnot", desc := "(I)Z" } : Jvm.MethodName)) ∈ lw_all := lw_g (lw_at lw_m10 216 rfl) rfl
theorem q2479 : (Jvm.Cond.code ({ cls := "TypesAtPrimeModel", name := "isKnot", desc := "(I)Z" } : Jvm.MethodName) prog_18_method_72_code (2 : Nat) (Option.some Jvm.ClassFile.FieldType.boolean)) ∈ lw_all := lw_g (lw_at lw_m10 217 rfl) rfl
theorem q2481 : (Jvm.Cond.instanceMethod ({ cls := "TypesAtPrimeModel", name := "key", desc := "(II)J" } : Jvm.MethodName)) ∈ lw_all := lw_g (lw_at lw_m10 219 rfl) rfl
theorem q2482 : (Jvm.Cond.selects "TypesAtPrimeModel" ({ cls := "TypesAtPrimeModel", name := "key", desc := "(II)J" } : Jvm.MethodName) ({ cls := "TypesAtPrimeModel", name := "key", desc := "(II)J" } : Jvm.MethodName)) ∈ lw_all := lw_g (lw_at lw_m10 220 rfl) rfl
theorem q2483 : (Jvm.Cond.code ({ cls := "TypesAtPrimeModel", name := "key", desc := "(II)J" } : Jvm.MethodName) prog_18_method_74_code (3 : Nat) (Option.some Jvm.ClassFile.FieldType.long)) ∈ lw_all := lw_g (lw_at lw_m10 221 rfl) rfl
theorem q2485 : (Jvm.Cond.instanceMethod ({ cls := "TypesAtPrimeModel", name := "point", desc := "(II)I" } : Jvm.MethodName)) ∈ lw_all := lw_g (lw_at lw_m10 223 rfl) rfl
theorem q2486 : (Jvm.Cond.selects "TypesAtPrimeModel" ({ cls := "TypesAtPrimeModel", name := "point", desc := "(II)I" } : Jvm.MethodName) ({ cls := "TypesAtPrimeModel", name := "point", desc := "(II)I" } : Jvm.MethodName)) ∈ lw_all := lw_g (lw_at lw_m10 224 rfl) rfl
theorem q2487 : (Jvm.Cond.code ({ cls := "TypesAtPrimeModel", name := "point", desc := "(II)I" } : Jvm.MethodName) prog_18_method_75_code (3 : Nat) (Option.some Jvm.ClassFile.FieldType.int)) ∈ lw_all := lw_g (lw_at lw_m10 225 rfl) rfl
theorem q2489 : (Jvm.Cond.instanceMethod ({ cls := "TypesAtPrimeModel", name := "side", desc := "(III)I" } : Jvm.MethodName)) ∈ lw_all := lw_g (lw_at lw_m10 227 rfl) rfl
theorem q2490 : (Jvm.Cond.selects "TypesAtPrimeModel" ({ cls := "TypesAtPrimeModel", name := "side", desc := "(III)I" } : Jvm.MethodName) ({ cls := "TypesAtPrimeModel", name := "side", desc := "(III)I" } : Jvm.MethodName)) ∈ lw_all := lw_g (lw_at lw_m10 228 rfl) rfl
theorem q2491 : (Jvm.Cond.code ({ cls := "TypesAtPrimeModel", name := "side", desc := "(III)I" } : Jvm.MethodName) prog_18_method_77_code (5 : Nat) (Option.some Jvm.ClassFile.FieldType.int)) ∈ lw_all := lw_g (lw_at lw_m10 229 rfl) rfl
theorem q2492 : (Jvm.Cond.constantLong "TypesAtPrimeModel" (427 : Nat) (5 : Int64)) ∈ lw_all := lw_g (lw_at lw_m10 230 rfl) rfl
theorem q2493 : (Jvm.Cond.methodLink "TypesAtPrimeModel" (429 : Nat) ({ cls := "TypesAtPrimeModel", name := "isSide", desc := "(II)Z" } : Jvm.MethodName)) ∈ lw_all := lw_g (lw_at lw_m10 231 rfl) rfl
theorem q2494 : (Jvm.Cond.privateMethod ({ cls := "TypesAtPrimeModel", name := "isSide", desc := "(II)Z" } : Jvm.MethodName)) ∈ lw_tbl := lw_at lw_m10 232 rfl
theorem q2495 : (Jvm.Cond.instanceMethod ({ cls := "TypesAtPrimeModel", name := "isSide", desc := "(II)Z" } : Jvm.MethodName)) ∈ lw_all := lw_g (lw_at lw_m10 233 rfl) rfl
theorem q2496 : (Jvm.Cond.code ({ cls := "TypesAtPrimeModel", name := "isSide", desc := "(II)Z" } : Jvm.MethodName) prog_18_method_76_code (3 : Nat) (Option.some Jvm.ClassFile.FieldType.boolean)) ∈ lw_all := lw_g (lw_at lw_m10 234 rfl) rfl
theorem q2498 : (Jvm.Cond.instanceMethod ({ cls := "TypesAtPrimeModel", name := "residual", desc := "(III)I" } : Jvm.MethodName)) ∈ lw_all := lw_g (lw_at lw_m10 236 rfl) rfl
theorem q2499 : (Jvm.Cond.selects "TypesAtPrimeModel" ({ cls := "TypesAtPrimeModel", name := "residual", desc := "(III)I" } : Jvm.MethodName) ({ cls := "TypesAtPrimeModel", name := "residual", desc := "(III)I" } : Jvm.MethodName)) ∈ lw_all := lw_g (lw_at lw_m10 237 rfl) rfl
theorem q2500 : (Jvm.Cond.code ({ cls := "TypesAtPrimeModel", name := "residual", desc := "(III)I" } : Jvm.MethodName) prog_18_method_78_code (4 : Nat) (Option.some Jvm.ClassFile.FieldType.int)) ∈ lw_all := lw_g (lw_at lw_m10 238 rfl) rfl
theorem q2502 : (Jvm.Cond.instanceMethod ({ cls := "TypesAtPrimeModel", name := "monomial", desc := "(III)I" } : Jvm.MethodName)) ∈ lw_all := lw_g (lw_at lw_m11 0 rfl) rfl
theorem q2503 : (Jvm.Cond.selects "TypesAtPrimeModel" ({ cls := "TypesAtPrimeModel", name := "monomial", desc := "(III)I" } : Jvm.MethodName) ({ cls := "TypesAtPrimeModel", name := "monomial", desc := "(III)I" } : Jvm.MethodName)) ∈ lw_all := lw_g (lw_at lw_m11 1 rfl) rfl
theorem q2504 : (Jvm.Cond.code ({ cls := "TypesAtPrimeModel", name := "monomial", desc := "(III)I" } : Jvm.MethodName) prog_18_method_79_code (4 : Nat) (Option.some Jvm.ClassFile.FieldType.int)) ∈ lw_all := lw_g (lw_at lw_m11 2 rfl) rfl
theorem q2506 : (Jvm.Cond.instanceMethod ({ cls := "TypesAtPrimeModel", name := "leaf", desc := "(II)I" } : Jvm.MethodName)) ∈ lw_all := lw_g (lw_at lw_m11 4 rfl) rfl
theorem q2507 : (Jvm.Cond.selects "TypesAtPrimeModel" ({ cls := "TypesAtPrimeModel", name := "leaf", desc := "(II)I" } : Jvm.MethodName) ({ cls := "TypesAtPrimeModel", name := "leaf", desc := "(II)I" } : Jvm.MethodName)) ∈ lw_all := lw_g (lw_at lw_m11 5 rfl) rfl
theorem q2508 : (Jvm.Cond.code ({ cls := "TypesAtPrimeModel", name := "leaf", desc := "(II)I" } : Jvm.MethodName) prog_18_method_80_code (3 : Nat) (Option.some Jvm.ClassFile.FieldType.int)) ∈ lw_all := lw_g (lw_at lw_m11 6 rfl) rfl
theorem q2509 : (Jvm.Cond.constantLong "TypesAtPrimeModel" (433 : Nat) (4 : Int64)) ∈ lw_all := lw_g (lw_at lw_m11 7 rfl) rfl
theorem q2511 : (Jvm.Cond.instanceMethod ({ cls := "TypesAtPrimeModel", name := "spelling", desc := "(I)I" } : Jvm.MethodName)) ∈ lw_all := lw_g (lw_at lw_m11 9 rfl) rfl
theorem q2512 : (Jvm.Cond.selects "TypesAtPrimeModel" ({ cls := "TypesAtPrimeModel", name := "spelling", desc := "(I)I" } : Jvm.MethodName) ({ cls := "TypesAtPrimeModel", name := "spelling", desc := "(I)I" } : Jvm.MethodName)) ∈ lw_all := lw_g (lw_at lw_m11 10 rfl) rfl
theorem q2513 : (Jvm.Cond.code ({ cls := "TypesAtPrimeModel", name := "spelling", desc := "(I)I" } : Jvm.MethodName) prog_18_method_81_code (2 : Nat) (Option.some Jvm.ClassFile.FieldType.int)) ∈ lw_all := lw_g (lw_at lw_m11 11 rfl) rfl
theorem q2515 : (Jvm.Cond.instanceMethod ({ cls := "TypesAtPrimeModel", name := "ask", desc := "()I" } : Jvm.MethodName)) ∈ lw_all := lw_g (lw_at lw_m11 13 rfl) rfl
theorem q2516 : (Jvm.Cond.selects "TypesAtPrimeModel" ({ cls := "TypesAtPrimeModel", name := "ask", desc := "()I" } : Jvm.MethodName) ({ cls := "TypesAtPrimeModel", name := "ask", desc := "()I" } : Jvm.MethodName)) ∈ lw_all := lw_g (lw_at lw_m11 14 rfl) rfl
theorem q2517 : (Jvm.Cond.code ({ cls := "TypesAtPrimeModel", name := "ask", desc := "()I" } : Jvm.MethodName) prog_18_method_83_code (2 : Nat) (Option.some Jvm.ClassFile.FieldType.int)) ∈ lw_all := lw_g (lw_at lw_m11 15 rfl) rfl
theorem q2518 : (Jvm.Cond.methodLink "TypesAtPrimeModel" (461 : Nat) ({ cls := "TypesAtPrimeModel", name := "wordHere", desc := "()I" } : Jvm.MethodName)) ∈ lw_all := lw_g (lw_at lw_m11 16 rfl) rfl
theorem q2519 : (Jvm.Cond.privateMethod ({ cls := "TypesAtPrimeModel", name := "wordHere", desc := "()I" } : Jvm.MethodName)) ∈ lw_tbl := lw_at lw_m11 17 rfl
theorem q2520 : (Jvm.Cond.instanceMethod ({ cls := "TypesAtPrimeModel", name := "wordHere", desc := "()I" } : Jvm.MethodName)) ∈ lw_all := lw_g (lw_at lw_m11 18 rfl) rfl
theorem q2521 : (Jvm.Cond.code ({ cls := "TypesAtPrimeModel", name := "wordHere", desc := "()I" } : Jvm.MethodName) prog_18_method_82_code (4 : Nat) (Option.some Jvm.ClassFile.FieldType.int)) ∈ lw_all := lw_g (lw_at lw_m11 19 rfl) rfl
theorem q2522 : (Jvm.Cond.constantLong "TypesAtPrimeModel" (435 : Nat) (97 : Int64)) ∈ lw_all := lw_g (lw_at lw_m11 20 rfl) rfl
theorem q2523 : (Jvm.Cond.constantLong "TypesAtPrimeModel" (437 : Nat) (122 : Int64)) ∈ lw_all := lw_g (lw_at lw_m11 21 rfl) rfl
theorem q2524 : (Jvm.Cond.constantLong "TypesAtPrimeModel" (439 : Nat) (27 : Int64)) ∈ lw_all := lw_g (lw_at lw_m11 22 rfl) rfl
theorem q2525 : (Jvm.Cond.constantLong "TypesAtPrimeModel" (441 : Nat) (96 : Int64)) ∈ lw_all := lw_g (lw_at lw_m11 23 rfl) rfl
theorem q2526 : (Jvm.Cond.constantLong "TypesAtPrimeModel" (443 : Nat) (6132907 : Int64)) ∈ lw_all := lw_g (lw_at lw_m11 24 rfl) rfl
theorem q2527 : (Jvm.Cond.constantLong "TypesAtPrimeModel" (445 : Nat) (174879964 : Int64)) ∈ lw_all := lw_g (lw_at lw_m11 25 rfl) rfl
theorem q2528 : (Jvm.Cond.constantLong "TypesAtPrimeModel" (447 : Nat) (5061606 : Int64)) ∈ lw_all := lw_g (lw_at lw_m11 26 rfl) rfl
theorem q2529 : (Jvm.Cond.constantLong "TypesAtPrimeModel" (449 : Nat) (307058 : Int64)) ∈ lw_all := lw_g (lw_at lw_m11 27 rfl) rfl
theorem q2530 : (Jvm.Cond.constantLong "TypesAtPrimeModel" (451 : Nat) (459598 : Int64)) ∈ lw_all := lw_g (lw_at lw_m11 28 rfl) rfl
theorem q2531 : (Jvm.Cond.constantLong "TypesAtPrimeModel" (453 : Nat) (175281103 : Int64)) ∈ lw_all := lw_g (lw_at lw_m11 29 rfl) rfl
theorem q2532 : (Jvm.Cond.constantLong "TypesAtPrimeModel" (455 : Nat) (381245 : Int64)) ∈ lw_all := lw_g (lw_at lw_m11 30 rfl) rfl
theorem q2533 : (Jvm.Cond.constantLong "TypesAtPrimeModel" (457 : Nat) (60203876 : Int64)) ∈ lw_all := lw_g (lw_at lw_m11 31 rfl) rfl
theorem q2534 : (Jvm.Cond.constantLong "TypesAtPrimeModel" (459 : Nat) (8864267 : Int64)) ∈ lw_all := lw_g (lw_at lw_m11 32 rfl) rfl
theorem q2536 : (Jvm.Cond.instanceMethod ({ cls := "TypesAtPrimeModel", name := "corner", desc := "(II)I" } : Jvm.MethodName)) ∈ lw_all := lw_g (lw_at lw_m11 34 rfl) rfl
theorem q2537 : (Jvm.Cond.selects "TypesAtPrimeModel" ({ cls := "TypesAtPrimeModel", name := "corner", desc := "(II)I" } : Jvm.MethodName) ({ cls := "TypesAtPrimeModel", name := "corner", desc := "(II)I" } : Jvm.MethodName)) ∈ lw_all := lw_g (lw_at lw_m11 35 rfl) rfl
theorem q2538 : (Jvm.Cond.code ({ cls := "TypesAtPrimeModel", name := "corner", desc := "(II)I" } : Jvm.MethodName) prog_18_method_87_code (5 : Nat) (Option.some Jvm.ClassFile.FieldType.int)) ∈ lw_all := lw_g (lw_at lw_m11 36 rfl) rfl
theorem q2539 : (Jvm.Cond.methodLink "TypesAtPrimeModel" (468 : Nat) ({ cls := "TypesAtPrimeModel", name := "isSheet", desc := "(I)Z" } : Jvm.MethodName)) ∈ lw_all := lw_g (lw_at lw_m11 37 rfl) rfl
theorem q2540 : (Jvm.Cond.static ({ cls := "TypesAtPrimeModel", name := "isSheet", desc := "(I)Z" } : Jvm.MethodName)) ∈ lw_all := lw_g (lw_at lw_m11 38 rfl) rfl
theorem q2541 : (Jvm.Cond.code ({ cls := "TypesAtPrimeModel", name := "isSheet", desc := "(I)Z" } : Jvm.MethodName) prog_18_method_84_code (1 : Nat) (Option.some Jvm.ClassFile.FieldType.boolean)) ∈ lw_all := lw_g (lw_at lw_m11 39 rfl) rfl
theorem q2542 : (Jvm.Cond.methodLink "TypesAtPrimeModel" (464 : Nat) ({ cls := "TypesAtPrimeModel", name := "item0", desc := "(II)J" } : Jvm.MethodName)) ∈ lw_all := lw_g (lw_at lw_m11 40 rfl) rfl
theorem q2543 : (Jvm.Cond.privateMethod ({ cls := "TypesAtPrimeModel", name := "item0", desc := "(II)J" } : Jvm.MethodName)) ∈ lw_tbl := lw_at lw_m11 41 rfl
theorem q2544 : (Jvm.Cond.instanceMethod ({ cls := "TypesAtPrimeModel", name := "item0", desc := "(II)J" } : Jvm.MethodName)) ∈ lw_all := lw_g (lw_at lw_m11 42 rfl) rfl
theorem q2545 : (Jvm.Cond.code ({ cls := "TypesAtPrimeModel", name := "item0", desc := "(II)J" } : Jvm.MethodName) prog_18_method_85_code (3 : Nat) (Option.some Jvm.ClassFile.FieldType.long)) ∈ lw_all := lw_g (lw_at lw_m11 43 rfl) rfl
theorem q2546 : (Jvm.Cond.methodLink "TypesAtPrimeModel" (471 : Nat) ({ cls := "TypesAtPrimeModel", name := "goesOn", desc := "(II)I" } : Jvm.MethodName)) ∈ lw_all := lw_g (lw_at lw_m11 44 rfl) rfl
theorem q2547 : (Jvm.Cond.privateMethod ({ cls := "TypesAtPrimeModel", name := "goesOn", desc := "(II)I" } : Jvm.MethodName)) ∈ lw_tbl := lw_at lw_m11 45 rfl
theorem q2548 : (Jvm.Cond.instanceMethod ({ cls := "TypesAtPrimeModel", name := "goesOn", desc := "(II)I" } : Jvm.MethodName)) ∈ lw_all := lw_g (lw_at lw_m11 46 rfl) rfl
theorem q2549 : (Jvm.Cond.code ({ cls := "TypesAtPrimeModel", name := "goesOn", desc := "(II)I" } : Jvm.MethodName) prog_18_method_86_code (8 : Nat) (Option.some Jvm.ClassFile.FieldType.int)) ∈ lw_all := lw_g (lw_at lw_m11 47 rfl) rfl
theorem q2551 : (Jvm.Cond.instanceMethod ({ cls := "TypesAtPrimeModel", name := "slope", desc := "(IIII)J" } : Jvm.MethodName)) ∈ lw_all := lw_g (lw_at lw_m11 49 rfl) rfl
theorem q2552 : (Jvm.Cond.selects "TypesAtPrimeModel" ({ cls := "TypesAtPrimeModel", name := "slope", desc := "(IIII)J" } : Jvm.MethodName) ({ cls := "TypesAtPrimeModel", name := "slope", desc := "(IIII)J" } : Jvm.MethodName)) ∈ lw_all := lw_g (lw_at lw_m11 50 rfl) rfl
theorem q2553 : (Jvm.Cond.code ({ cls := "TypesAtPrimeModel", name := "slope", desc := "(IIII)J" } : Jvm.MethodName) prog_18_method_89_code (9 : Nat) (Option.some Jvm.ClassFile.FieldType.long)) ∈ lw_all := lw_g (lw_at lw_m11 51 rfl) rfl
theorem q2554 : (Jvm.Cond.methodLink "TypesAtPrimeModel" (474 : Nat) ({ cls := "TypesAtPrimeModel", name := "unasked", desc := "(III)I" } : Jvm.MethodName)) ∈ lw_all := lw_g (lw_at lw_m11 52 rfl) rfl
theorem q2555 : (Jvm.Cond.privateMethod ({ cls := "TypesAtPrimeModel", name := "unasked", desc := "(III)I" } : Jvm.MethodName)) ∈ lw_tbl := lw_at lw_m11 53 rfl
theorem q2556 : (Jvm.Cond.instanceMethod ({ cls := "TypesAtPrimeModel", name := "unasked", desc := "(III)I" } : Jvm.MethodName)) ∈ lw_all := lw_g (lw_at lw_m11 54 rfl) rfl
theorem q2557 : (Jvm.Cond.code ({ cls := "TypesAtPrimeModel", name := "unasked", desc := "(III)I" } : Jvm.MethodName) prog_18_method_88_code (5 : Nat) (Option.some Jvm.ClassFile.FieldType.int)) ∈ lw_all := lw_g (lw_at lw_m11 55 rfl) rfl
theorem q2559 : (Jvm.Cond.instanceMethod ({ cls := "TypesAtPrimeModel", name := "whyNot", desc := "(III)I" } : Jvm.MethodName)) ∈ lw_all := lw_g (lw_at lw_m11 57 rfl) rfl
theorem q2560 : (Jvm.Cond.selects "TypesAtPrimeModel" ({ cls := "TypesAtPrimeModel", name := "whyNot", desc := "(III)I" } : Jvm.MethodName) ({ cls := "TypesAtPrimeModel", name := "whyNot", desc := "(III)I" } : Jvm.MethodName)) ∈ lw_all := lw_g (lw_at lw_m11 58 rfl) rfl
theorem q2561 : (Jvm.Cond.code ({ cls := "TypesAtPrimeModel", name := "whyNot", desc := "(III)I" } : Jvm.MethodName) prog_18_method_90_code (4 : Nat) (Option.some Jvm.ClassFile.FieldType.int)) ∈ lw_all := lw_g (lw_at lw_m11 59 rfl) rfl
theorem q2563 : (Jvm.Cond.instanceMethod ({ cls := "TypesAtPrimeModel", name := "spill", desc := "(III)I" } : Jvm.MethodName)) ∈ lw_all := lw_g (lw_at lw_m11 61 rfl) rfl
theorem q2564 : (Jvm.Cond.selects "TypesAtPrimeModel" ({ cls := "TypesAtPrimeModel", name := "spill", desc := "(III)I" } : Jvm.MethodName) ({ cls := "TypesAtPrimeModel", name := "spill", desc := "(III)I" } : Jvm.MethodName)) ∈ lw_all := lw_g (lw_at lw_m11 62 rfl) rfl
theorem q2565 : (Jvm.Cond.code ({ cls := "TypesAtPrimeModel", name := "spill", desc := "(III)I" } : Jvm.MethodName) prog_18_method_92_code (5 : Nat) (Option.some Jvm.ClassFile.FieldType.int)) ∈ lw_all := lw_g (lw_at lw_m11 63 rfl) rfl
theorem q2566 : (Jvm.Cond.methodLink "TypesAtPrimeModel" (477 : Nat) ({ cls := "TypesAtPrimeModel", name := "lowest", desc := "(II)I" } : Jvm.MethodName)) ∈ lw_all := lw_g (lw_at lw_m11 64 rfl) rfl
theorem q2567 : (Jvm.Cond.privateMethod ({ cls := "TypesAtPrimeModel", name := "lowest", desc := "(II)I" } : Jvm.MethodName)) ∈ lw_tbl := lw_at lw_m11 65 rfl
theorem q2568 : (Jvm.Cond.instanceMethod ({ cls := "TypesAtPrimeModel", name := "lowest", desc := "(II)I" } : Jvm.MethodName)) ∈ lw_all := lw_g (lw_at lw_m11 66 rfl) rfl
theorem q2569 : (Jvm.Cond.code ({ cls := "TypesAtPrimeModel", name := "lowest", desc := "(II)I" } : Jvm.MethodName) prog_18_method_91_code (3 : Nat) (Option.some Jvm.ClassFile.FieldType.int)) ∈ lw_all := lw_g (lw_at lw_m11 67 rfl) rfl
theorem q2571 : (Jvm.Cond.instanceMethod ({ cls := "TypesAtPrimeModel", name := "sheet", desc := "(III)I" } : Jvm.MethodName)) ∈ lw_all := lw_g (lw_at lw_m11 69 rfl) rfl
theorem q2572 : (Jvm.Cond.selects "TypesAtPrimeModel" ({ cls := "TypesAtPrimeModel", name := "sheet", desc := "(III)I" } : Jvm.MethodName) ({ cls := "TypesAtPrimeModel", name := "sheet", desc := "(III)I" } : Jvm.MethodName)) ∈ lw_all := lw_g (lw_at lw_m11 70 rfl) rfl
theorem q2573 : (Jvm.Cond.code ({ cls := "TypesAtPrimeModel", name := "sheet", desc := "(III)I" } : Jvm.MethodName) prog_18_method_93_code (5 : Nat) (Option.some Jvm.ClassFile.FieldType.int)) ∈ lw_all := lw_g (lw_at lw_m11 71 rfl) rfl
theorem q2575 : (Jvm.Cond.instanceMethod ({ cls := "TypesAtPrimeModel", name := "cell", desc := "(III)I" } : Jvm.MethodName)) ∈ lw_all := lw_g (lw_at lw_m11 73 rfl) rfl
theorem q2576 : (Jvm.Cond.selects "TypesAtPrimeModel" ({ cls := "TypesAtPrimeModel", name := "cell", desc := "(III)I" } : Jvm.MethodName) ({ cls := "TypesAtPrimeModel", name := "cell", desc := "(III)I" } : Jvm.MethodName)) ∈ lw_all := lw_g (lw_at lw_m11 74 rfl) rfl
theorem q2577 : (Jvm.Cond.code ({ cls := "TypesAtPrimeModel", name := "cell", desc := "(III)I" } : Jvm.MethodName) prog_18_method_94_code (4 : Nat) (Option.some Jvm.ClassFile.FieldType.int)) ∈ lw_all := lw_g (lw_at lw_m11 75 rfl) rfl
theorem q2579 : (Jvm.Cond.instanceMethod ({ cls := "TypesAtPrimeModel", name := "item", desc := "(II)J" } : Jvm.MethodName)) ∈ lw_all := lw_g (lw_at lw_m11 77 rfl) rfl
theorem q2580 : (Jvm.Cond.selects "TypesAtPrimeModel" ({ cls := "TypesAtPrimeModel", name := "item", desc := "(II)J" } : Jvm.MethodName) ({ cls := "TypesAtPrimeModel", name := "item", desc := "(II)J" } : Jvm.MethodName)) ∈ lw_all := lw_g (lw_at lw_m11 78 rfl) rfl
theorem q2581 : (Jvm.Cond.code ({ cls := "TypesAtPrimeModel", name := "item", desc := "(II)J" } : Jvm.MethodName) prog_18_method_95_code (3 : Nat) (Option.some Jvm.ClassFile.FieldType.long)) ∈ lw_all := lw_g (lw_at lw_m11 79 rfl) rfl
theorem q2583 : (Jvm.Cond.instanceMethod ({ cls := "TypesAtPrimeModel", name := "shift", desc := "(IIIII)I" } : Jvm.MethodName)) ∈ lw_all := lw_g (lw_at lw_m11 81 rfl) rfl
theorem q2584 : (Jvm.Cond.selects "TypesAtPrimeModel" ({ cls := "TypesAtPrimeModel", name := "shift", desc := "(IIIII)I" } : Jvm.MethodName) ({ cls := "TypesAtPrimeModel", name := "shift", desc := "(IIIII)I" } : Jvm.MethodName)) ∈ lw_all := lw_g (lw_at lw_m11 82 rfl) rfl
theorem q2585 : (Jvm.Cond.code ({ cls := "TypesAtPrimeModel", name := "shift", desc := "(IIIII)I" } : Jvm.MethodName) prog_18_method_96_code (9 : Nat) (Option.some Jvm.ClassFile.FieldType.int)) ∈ lw_all := lw_g (lw_at lw_m11 83 rfl) rfl
theorem q2587 : (Jvm.Cond.instanceMethod ({ cls := "TypesAtPrimeModel", name := "count", desc := "(I)I" } : Jvm.MethodName)) ∈ lw_all := lw_g (lw_at lw_m11 85 rfl) rfl
theorem q2588 : (Jvm.Cond.selects "TypesAtPrimeModel" ({ cls := "TypesAtPrimeModel", name := "count", desc := "(I)I" } : Jvm.MethodName) ({ cls := "TypesAtPrimeModel", name := "count", desc := "(I)I" } : Jvm.MethodName)) ∈ lw_all := lw_g (lw_at lw_m11 86 rfl) rfl
theorem q2589 : (Jvm.Cond.code ({ cls := "TypesAtPrimeModel", name := "count", desc := "(I)I" } : Jvm.MethodName) prog_18_method_97_code (4 : Nat) (Option.some Jvm.ClassFile.FieldType.int)) ∈ lw_all := lw_g (lw_at lw_m11 87 rfl) rfl
theorem q2632 : (Jvm.Cond.castable "TypesAtPrimeModel" "java/lang/Object") ∈ lw_tbl := lw_at lw_m11 130 rfl
theorem in_X2 : ∀ w ∈ wsX20, w ∈ lw_all := lw_in wsX20 [2054, 2056, 2058, 2060, 2062, 2064, 2066, 2068, 2070, 2072, 2074, 2076, 2078, 2080, 2082, 2084, 2086, 2088, 2090, 2092, 2094, 2096, 2098, 2100, 2102, 2104, 2106, 2108, 2110, 2112, 2114, 2116, 2118, 2120, 2122, 2124, 2126, 2128, 2130, 2132, 2134, 2136, 2138, 2140, 2142, 2144, 2146, 2148, 2150, 2152, 2154, 2156, 2158, 2160, 2162, 2164, 2166, 2168, 2170, 2172, 2174, 2176, 2178, 2180, 2182, 2184, 2186] (by decide +kernel) (by decide +kernel)

