/-! CheeseValleysModel -/
set_option maxRecDepth 100000
def RX1 : String := "CheeseValleysModel"
def TX1 : u_T := fun k => match k with
  | 0 => ("CheeseValleysModel", "fault", "I", false)
  | 1 => ("CheeseValleysModel", "trace", "I", false)
  | 2 => ("CheeseValleysModel", "sorts", "[I", true)
  | 3 => ("CheeseValleysModel", "sheetLong", "[I", true)
  | 4 => ("CheeseValleysModel", "cells", "[I", true)
  | 5 => ("CheeseValleysModel", "passes", "I", false)
  | 6 => ("CheeseValleysModel", "snowOf", "[I", true)
  | 7 => ("CheeseValleysModel", "gives", "[I", true)
  | 8 => ("CheeseValleysModel", "kind", "[I", true)
  | 9 => ("CheeseValleysModel", "from", "[I", true)
  | 10 => ("CheeseValleysModel", "to", "[I", true)
  | 11 => ("CheeseValleysModel", "length", "[I", true)
  | 12 => ("CheeseValleysModel", "high", "[I", true)
  | 13 => ("CheeseValleysModel", "missing", "I", false)
  | 14 => ("CheeseValleysModel", "at", "I", false)
  | 15 => ("CheeseValleysModel", "readMany", "I", false)
  | 16 => ("CheeseValleysModel", "readSnow", "[I", true)
  | 17 => ("CheeseValleysModel", "readGives", "[I", true)
  | 18 => ("CheeseValleysModel", "read", "[I", true)
  | 19 => ("CheeseValleysModel", "fewest", "[I", true)
  | 20 => ("CheeseValleysModel", "doneOn", "I", false)
  | 21 => ("CheeseValleysModel", "doneHoles", "I", false)
  | 22 => ("CheeseValleysModel", "dayNow", "I", false)
  | 23 => ("CheeseValleysModel", "valleyNow", "I", false)
  | 24 => ("CheeseValleysModel", "stateNow", "I", false)
  | 25 => ("CheeseValleysModel", "holesNow", "I", false)
  | 26 => ("CheeseValleysModel", "readings", "I", false)
  | 27 => ("CheeseValleysModel", "readDay", "[I", true)
  | _ => ("CheeseValleysModel", "readDone", "[I", true)
def tyX1 : Nat → FieldType := fun k => match k with
  | 0 => .int
  | 1 => .int
  | 2 => .array .int
  | 3 => .array .int
  | 4 => .array .int
  | 5 => .int
  | 6 => .array .int
  | 7 => .array .int
  | 8 => .array .int
  | 9 => .array .int
  | 10 => .array .int
  | 11 => .array .int
  | 12 => .array .int
  | 13 => .int
  | 14 => .int
  | 15 => .int
  | 16 => .array .int
  | 17 => .array .int
  | 18 => .array .int
  | 19 => .array .int
  | 20 => .int
  | 21 => .int
  | 22 => .int
  | 23 => .int
  | 24 => .int
  | 25 => .int
  | 26 => .int
  | 27 => .array .int
  | _ => .array .int
abbrev wsX10 : List Cond := u_ws RX1 TX1 29
set_option maxRecDepth 100000 in
theorem nmX1 : ∀ a, a < 29 → ∀ b, b < 29 → a ≠ b → (TX1 a).2.1 ≠ (TX1 b).2.1 := by decide +kernel
set_option maxRecDepth 100000 in
theorem tyX1_ok : ∀ k, k < 29 → parseFieldDescriptor (TX1 k).2.2.1 = some (tyX1 k) := by decide +kernel
abbrev cX1_init : ByteArray := prog_15_method_1_code
def yX1_init : MethodName := ⟨RX1, "<init>", "()V"⟩
def dkwX1_init_6 : List UInt8 := [188, 10, 181, 0, 56, 42, 16, 8, 188, 10, 181, 0, 59, 177]
abbrev dktX1_init_6 : List UInt8 := dkwX1_init_6 ++ []
def dkwX1_init_5 : List UInt8 := [188, 10, 181, 0, 47, 42, 16, 30, 188, 10, 181, 0, 50, 42, 16, 48, 188, 10, 181, 0, 53, 42, 16, 8]
abbrev dktX1_init_5 : List UInt8 := dkwX1_init_5 ++ dktX1_init_6
def dkwX1_init_4 : List UInt8 := [16, 6, 188, 10, 181, 0, 37, 42, 16, 247, 181, 0, 40, 42, 16, 8, 188, 10, 181, 0, 44, 42, 6]
abbrev dktX1_init_4 : List UInt8 := dkwX1_init_4 ++ dktX1_init_5
def dkwX1_init_3 : List UInt8 := [16, 6, 188, 10, 181, 0, 28, 42, 16, 6, 188, 10, 181, 0, 31, 42, 16, 6, 188, 10, 181, 0, 34, 42]
abbrev dktX1_init_3 : List UInt8 := dkwX1_init_3 ++ dktX1_init_4
def dkwX1_init_2 : List UInt8 := [16, 8, 188, 10, 181, 0, 19, 42, 6, 188, 10, 181, 0, 22, 42, 16, 6, 188, 10, 181, 0, 25, 42]
abbrev dktX1_init_2 : List UInt8 := dkwX1_init_2 ++ dktX1_init_3
def dkwX1_init_1 : List UInt8 := [6, 16, 247, 79, 181, 0, 9, 42, 7, 188, 10, 181, 0, 13, 42, 17, 0, 240, 188, 10, 181, 0, 16, 42]
abbrev dktX1_init_1 : List UInt8 := dkwX1_init_1 ++ dktX1_init_2
def dkwX1_init_0 : List UInt8 := [42, 183, 0, 1, 42, 7, 188, 10, 89, 3, 16, 247, 79, 89, 4, 16, 247, 79, 89, 5, 16, 247, 79, 89]
abbrev dktX1_init_0 : List UInt8 := dkwX1_init_0 ++ dktX1_init_1
theorem dksX1_init_0 : cX1_init.data.toList.drop 0 = dktX1_init_0 := by decide +kernel
theorem dksX1_init_1 : cX1_init.data.toList.drop 24 = dktX1_init_1 := dk_seg dksX1_init_0 24 rfl rfl
theorem dksX1_init_2 : cX1_init.data.toList.drop 48 = dktX1_init_2 := dk_seg dksX1_init_1 24 rfl rfl
theorem dksX1_init_3 : cX1_init.data.toList.drop 71 = dktX1_init_3 := dk_seg dksX1_init_2 23 rfl rfl
theorem dksX1_init_4 : cX1_init.data.toList.drop 95 = dktX1_init_4 := dk_seg dksX1_init_3 24 rfl rfl
theorem dksX1_init_5 : cX1_init.data.toList.drop 118 = dktX1_init_5 := dk_seg dksX1_init_4 23 rfl rfl
theorem dksX1_init_6 : cX1_init.data.toList.drop 142 = dktX1_init_6 := dk_seg dksX1_init_5 24 rfl rfl
theorem dX1_init_0 : decode cX1_init 0 = .ok (.aload_n 0, 1) := dk_42 (dk_at dksX1_init_0 0 rfl rfl)
theorem dX1_init_1 : decode cX1_init 1 = .ok (.invokespecial 1, 3) := dk_183 0 1 (dk_at dksX1_init_0 1 rfl rfl)
theorem dX1_init_4 : decode cX1_init 4 = .ok (.aload_n 0, 1) := dk_42 (dk_at dksX1_init_0 4 rfl rfl)
theorem dX1_init_5 : decode cX1_init 5 = .ok (.iconst 4, 1) := dk_7 (dk_at dksX1_init_0 5 rfl rfl)
theorem dX1_init_6 : decode cX1_init 6 = .ok (.newarray .int, 2) := dk_188_10 (dk_at dksX1_init_0 6 rfl rfl)
theorem dX1_init_8 : decode cX1_init 8 = .ok (.dup, 1) := dk_89 (dk_at dksX1_init_0 8 rfl rfl)
theorem dX1_init_9 : decode cX1_init 9 = .ok (.iconst 0, 1) := dk_3 (dk_at dksX1_init_0 9 rfl rfl)
theorem dX1_init_10 : decode cX1_init 10 = .ok (.bipush (-9), 2) := dk_16 247 (dk_at dksX1_init_0 10 rfl rfl)
theorem dX1_init_12 : decode cX1_init 12 = .ok (.iastore, 1) := dk_79 (dk_at dksX1_init_0 12 rfl rfl)
theorem dX1_init_13 : decode cX1_init 13 = .ok (.dup, 1) := dk_89 (dk_at dksX1_init_0 13 rfl rfl)
theorem dX1_init_14 : decode cX1_init 14 = .ok (.iconst 1, 1) := dk_4 (dk_at dksX1_init_0 14 rfl rfl)
theorem dX1_init_15 : decode cX1_init 15 = .ok (.bipush (-9), 2) := dk_16 247 (dk_at dksX1_init_0 15 rfl rfl)
theorem dX1_init_17 : decode cX1_init 17 = .ok (.iastore, 1) := dk_79 (dk_at dksX1_init_0 17 rfl rfl)
theorem dX1_init_18 : decode cX1_init 18 = .ok (.dup, 1) := dk_89 (dk_at dksX1_init_0 18 rfl rfl)
theorem dX1_init_19 : decode cX1_init 19 = .ok (.iconst 2, 1) := dk_5 (dk_at dksX1_init_0 19 rfl rfl)
theorem dX1_init_20 : decode cX1_init 20 = .ok (.bipush (-9), 2) := dk_16 247 (dk_at dksX1_init_0 20 rfl rfl)
theorem dX1_init_22 : decode cX1_init 22 = .ok (.iastore, 1) := dk_79 (dk_at dksX1_init_0 22 rfl rfl)
theorem dX1_init_23 : decode cX1_init 23 = .ok (.dup, 1) := dk_89 (dk_at dksX1_init_0 23 rfl rfl)
theorem dX1_init_24 : decode cX1_init 24 = .ok (.iconst 3, 1) := dk_6 (dk_at dksX1_init_1 0 rfl rfl)
theorem dX1_init_25 : decode cX1_init 25 = .ok (.bipush (-9), 2) := dk_16 247 (dk_at dksX1_init_1 1 rfl rfl)
theorem dX1_init_27 : decode cX1_init 27 = .ok (.iastore, 1) := dk_79 (dk_at dksX1_init_1 3 rfl rfl)
theorem dX1_init_28 : decode cX1_init 28 = .ok (.putfield 9, 3) := dk_181 0 9 (dk_at dksX1_init_1 4 rfl rfl)
theorem dX1_init_31 : decode cX1_init 31 = .ok (.aload_n 0, 1) := dk_42 (dk_at dksX1_init_1 7 rfl rfl)
theorem dX1_init_32 : decode cX1_init 32 = .ok (.iconst 4, 1) := dk_7 (dk_at dksX1_init_1 8 rfl rfl)
theorem dX1_init_33 : decode cX1_init 33 = .ok (.newarray .int, 2) := dk_188_10 (dk_at dksX1_init_1 9 rfl rfl)
theorem dX1_init_35 : decode cX1_init 35 = .ok (.putfield 13, 3) := dk_181 0 13 (dk_at dksX1_init_1 11 rfl rfl)
theorem dX1_init_38 : decode cX1_init 38 = .ok (.aload_n 0, 1) := dk_42 (dk_at dksX1_init_1 14 rfl rfl)
theorem dX1_init_39 : decode cX1_init 39 = .ok (.sipush 240, 3) := dk_17 0 240 (dk_at dksX1_init_1 15 rfl rfl)
theorem dX1_init_42 : decode cX1_init 42 = .ok (.newarray .int, 2) := dk_188_10 (dk_at dksX1_init_1 18 rfl rfl)
theorem dX1_init_44 : decode cX1_init 44 = .ok (.putfield 16, 3) := dk_181 0 16 (dk_at dksX1_init_1 20 rfl rfl)
theorem dX1_init_47 : decode cX1_init 47 = .ok (.aload_n 0, 1) := dk_42 (dk_at dksX1_init_1 23 rfl rfl)
theorem dX1_init_48 : decode cX1_init 48 = .ok (.bipush 8, 2) := dk_16 8 (dk_at dksX1_init_2 0 rfl rfl)
theorem dX1_init_50 : decode cX1_init 50 = .ok (.newarray .int, 2) := dk_188_10 (dk_at dksX1_init_2 2 rfl rfl)
theorem dX1_init_52 : decode cX1_init 52 = .ok (.putfield 19, 3) := dk_181 0 19 (dk_at dksX1_init_2 4 rfl rfl)
theorem dX1_init_55 : decode cX1_init 55 = .ok (.aload_n 0, 1) := dk_42 (dk_at dksX1_init_2 7 rfl rfl)
theorem dX1_init_56 : decode cX1_init 56 = .ok (.iconst 3, 1) := dk_6 (dk_at dksX1_init_2 8 rfl rfl)
theorem dX1_init_57 : decode cX1_init 57 = .ok (.newarray .int, 2) := dk_188_10 (dk_at dksX1_init_2 9 rfl rfl)
theorem dX1_init_59 : decode cX1_init 59 = .ok (.putfield 22, 3) := dk_181 0 22 (dk_at dksX1_init_2 11 rfl rfl)
theorem dX1_init_62 : decode cX1_init 62 = .ok (.aload_n 0, 1) := dk_42 (dk_at dksX1_init_2 14 rfl rfl)
theorem dX1_init_63 : decode cX1_init 63 = .ok (.bipush 6, 2) := dk_16 6 (dk_at dksX1_init_2 15 rfl rfl)
theorem dX1_init_65 : decode cX1_init 65 = .ok (.newarray .int, 2) := dk_188_10 (dk_at dksX1_init_2 17 rfl rfl)
theorem dX1_init_67 : decode cX1_init 67 = .ok (.putfield 25, 3) := dk_181 0 25 (dk_at dksX1_init_2 19 rfl rfl)
theorem dX1_init_70 : decode cX1_init 70 = .ok (.aload_n 0, 1) := dk_42 (dk_at dksX1_init_2 22 rfl rfl)
theorem dX1_init_71 : decode cX1_init 71 = .ok (.bipush 6, 2) := dk_16 6 (dk_at dksX1_init_3 0 rfl rfl)
theorem dX1_init_73 : decode cX1_init 73 = .ok (.newarray .int, 2) := dk_188_10 (dk_at dksX1_init_3 2 rfl rfl)
theorem dX1_init_75 : decode cX1_init 75 = .ok (.putfield 28, 3) := dk_181 0 28 (dk_at dksX1_init_3 4 rfl rfl)
theorem dX1_init_78 : decode cX1_init 78 = .ok (.aload_n 0, 1) := dk_42 (dk_at dksX1_init_3 7 rfl rfl)
theorem dX1_init_79 : decode cX1_init 79 = .ok (.bipush 6, 2) := dk_16 6 (dk_at dksX1_init_3 8 rfl rfl)
theorem dX1_init_81 : decode cX1_init 81 = .ok (.newarray .int, 2) := dk_188_10 (dk_at dksX1_init_3 10 rfl rfl)
theorem dX1_init_83 : decode cX1_init 83 = .ok (.putfield 31, 3) := dk_181 0 31 (dk_at dksX1_init_3 12 rfl rfl)
theorem dX1_init_86 : decode cX1_init 86 = .ok (.aload_n 0, 1) := dk_42 (dk_at dksX1_init_3 15 rfl rfl)
theorem dX1_init_87 : decode cX1_init 87 = .ok (.bipush 6, 2) := dk_16 6 (dk_at dksX1_init_3 16 rfl rfl)
theorem dX1_init_89 : decode cX1_init 89 = .ok (.newarray .int, 2) := dk_188_10 (dk_at dksX1_init_3 18 rfl rfl)
theorem dX1_init_91 : decode cX1_init 91 = .ok (.putfield 34, 3) := dk_181 0 34 (dk_at dksX1_init_3 20 rfl rfl)
theorem dX1_init_94 : decode cX1_init 94 = .ok (.aload_n 0, 1) := dk_42 (dk_at dksX1_init_3 23 rfl rfl)
theorem dX1_init_95 : decode cX1_init 95 = .ok (.bipush 6, 2) := dk_16 6 (dk_at dksX1_init_4 0 rfl rfl)
theorem dX1_init_97 : decode cX1_init 97 = .ok (.newarray .int, 2) := dk_188_10 (dk_at dksX1_init_4 2 rfl rfl)
theorem dX1_init_99 : decode cX1_init 99 = .ok (.putfield 37, 3) := dk_181 0 37 (dk_at dksX1_init_4 4 rfl rfl)
theorem dX1_init_102 : decode cX1_init 102 = .ok (.aload_n 0, 1) := dk_42 (dk_at dksX1_init_4 7 rfl rfl)
theorem dX1_init_103 : decode cX1_init 103 = .ok (.bipush (-9), 2) := dk_16 247 (dk_at dksX1_init_4 8 rfl rfl)
theorem dX1_init_105 : decode cX1_init 105 = .ok (.putfield 40, 3) := dk_181 0 40 (dk_at dksX1_init_4 10 rfl rfl)
theorem dX1_init_108 : decode cX1_init 108 = .ok (.aload_n 0, 1) := dk_42 (dk_at dksX1_init_4 13 rfl rfl)
theorem dX1_init_109 : decode cX1_init 109 = .ok (.bipush 8, 2) := dk_16 8 (dk_at dksX1_init_4 14 rfl rfl)
theorem dX1_init_111 : decode cX1_init 111 = .ok (.newarray .int, 2) := dk_188_10 (dk_at dksX1_init_4 16 rfl rfl)
theorem dX1_init_113 : decode cX1_init 113 = .ok (.putfield 44, 3) := dk_181 0 44 (dk_at dksX1_init_4 18 rfl rfl)
theorem dX1_init_116 : decode cX1_init 116 = .ok (.aload_n 0, 1) := dk_42 (dk_at dksX1_init_4 21 rfl rfl)
theorem dX1_init_117 : decode cX1_init 117 = .ok (.iconst 3, 1) := dk_6 (dk_at dksX1_init_4 22 rfl rfl)
theorem dX1_init_118 : decode cX1_init 118 = .ok (.newarray .int, 2) := dk_188_10 (dk_at dksX1_init_5 0 rfl rfl)
theorem dX1_init_120 : decode cX1_init 120 = .ok (.putfield 47, 3) := dk_181 0 47 (dk_at dksX1_init_5 2 rfl rfl)
theorem dX1_init_123 : decode cX1_init 123 = .ok (.aload_n 0, 1) := dk_42 (dk_at dksX1_init_5 5 rfl rfl)
theorem dX1_init_124 : decode cX1_init 124 = .ok (.bipush 30, 2) := dk_16 30 (dk_at dksX1_init_5 6 rfl rfl)
theorem dX1_init_126 : decode cX1_init 126 = .ok (.newarray .int, 2) := dk_188_10 (dk_at dksX1_init_5 8 rfl rfl)
theorem dX1_init_128 : decode cX1_init 128 = .ok (.putfield 50, 3) := dk_181 0 50 (dk_at dksX1_init_5 10 rfl rfl)
theorem dX1_init_131 : decode cX1_init 131 = .ok (.aload_n 0, 1) := dk_42 (dk_at dksX1_init_5 13 rfl rfl)
theorem dX1_init_132 : decode cX1_init 132 = .ok (.bipush 48, 2) := dk_16 48 (dk_at dksX1_init_5 14 rfl rfl)
theorem dX1_init_134 : decode cX1_init 134 = .ok (.newarray .int, 2) := dk_188_10 (dk_at dksX1_init_5 16 rfl rfl)
theorem dX1_init_136 : decode cX1_init 136 = .ok (.putfield 53, 3) := dk_181 0 53 (dk_at dksX1_init_5 18 rfl rfl)
theorem dX1_init_139 : decode cX1_init 139 = .ok (.aload_n 0, 1) := dk_42 (dk_at dksX1_init_5 21 rfl rfl)
theorem dX1_init_140 : decode cX1_init 140 = .ok (.bipush 8, 2) := dk_16 8 (dk_at dksX1_init_5 22 rfl rfl)
theorem dX1_init_142 : decode cX1_init 142 = .ok (.newarray .int, 2) := dk_188_10 (dk_at dksX1_init_6 0 rfl rfl)
theorem dX1_init_144 : decode cX1_init 144 = .ok (.putfield 56, 3) := dk_181 0 56 (dk_at dksX1_init_6 2 rfl rfl)
theorem dX1_init_147 : decode cX1_init 147 = .ok (.aload_n 0, 1) := dk_42 (dk_at dksX1_init_6 5 rfl rfl)
theorem dX1_init_148 : decode cX1_init 148 = .ok (.bipush 8, 2) := dk_16 8 (dk_at dksX1_init_6 6 rfl rfl)
theorem dX1_init_150 : decode cX1_init 150 = .ok (.newarray .int, 2) := dk_188_10 (dk_at dksX1_init_6 8 rfl rfl)
theorem dX1_init_152 : decode cX1_init 152 = .ok (.putfield 59, 3) := dk_181 0 59 (dk_at dksX1_init_6 10 rfl rfl)
theorem dX1_init_155 : decode cX1_init 155 = .ok (.return_, 1) := dk_177 (dk_at dksX1_init_6 13 rfl rfl)
abbrev cX1_land : ByteArray := prog_15_method_15_code
def yX1_land : MethodName := ⟨RX1, "land", "(IIII)I"⟩
def dkwX1_land_3 : List UInt8 := [154, 0, 14, 16, 156, 42, 180, 0, 74, 21, 6, 100, 100, 172, 42, 182, 0, 99, 42, 180, 0, 71, 172]
abbrev dktX1_land_3 : List UInt8 := dkwX1_land_3 ++ []
def dkwX1_land_2 : List UInt8 := [16, 60, 27, 104, 29, 96, 54, 6, 42, 21, 6, 181, 0, 74, 42, 21, 6, 21, 4, 96, 182, 0, 96]
abbrev dktX1_land_2 : List UInt8 := dkwX1_land_2 ++ dktX1_land_3
def dkwX1_land_1 : List UInt8 := [42, 27, 28, 29, 21, 4, 182, 0, 88, 54, 5, 21, 5, 153, 0, 10, 42, 21, 5, 182, 0, 92, 172]
abbrev dktX1_land_1 : List UInt8 := dkwX1_land_1 ++ dktX1_land_2
def dkwX1_land_0 : List UInt8 := [42, 3, 181, 0, 62, 27, 184, 0, 81, 154, 0, 5, 2, 172, 28, 184, 0, 85, 154, 0, 6, 16, 254, 172]
abbrev dktX1_land_0 : List UInt8 := dkwX1_land_0 ++ dktX1_land_1
theorem dksX1_land_0 : cX1_land.data.toList.drop 0 = dktX1_land_0 := by decide +kernel
theorem dksX1_land_1 : cX1_land.data.toList.drop 24 = dktX1_land_1 := dk_seg dksX1_land_0 24 rfl rfl
theorem dksX1_land_2 : cX1_land.data.toList.drop 47 = dktX1_land_2 := dk_seg dksX1_land_1 23 rfl rfl
theorem dksX1_land_3 : cX1_land.data.toList.drop 70 = dktX1_land_3 := dk_seg dksX1_land_2 23 rfl rfl
theorem dX1_land_0 : decode cX1_land 0 = .ok (.aload_n 0, 1) := dk_42 (dk_at dksX1_land_0 0 rfl rfl)
theorem dX1_land_1 : decode cX1_land 1 = .ok (.iconst 0, 1) := dk_3 (dk_at dksX1_land_0 1 rfl rfl)
theorem dX1_land_2 : decode cX1_land 2 = .ok (.putfield 62, 3) := dk_181 0 62 (dk_at dksX1_land_0 2 rfl rfl)
theorem dX1_land_5 : decode cX1_land 5 = .ok (.iload_n 1, 1) := dk_27 (dk_at dksX1_land_0 5 rfl rfl)
theorem dX1_land_6 : decode cX1_land 6 = .ok (.invokestatic 81, 3) := dk_184 0 81 (dk_at dksX1_land_0 6 rfl rfl)
theorem dX1_land_9 : decode cX1_land 9 = .ok (.ifCond .ne 5, 3) := dk_154 0 5 (dk_at dksX1_land_0 9 rfl rfl)
theorem dX1_land_12 : decode cX1_land 12 = .ok (.iconst (-1), 1) := dk_2 (dk_at dksX1_land_0 12 rfl rfl)
theorem dX1_land_13 : decode cX1_land 13 = .ok (.ireturn, 1) := dk_172 (dk_at dksX1_land_0 13 rfl rfl)
theorem dX1_land_14 : decode cX1_land 14 = .ok (.iload_n 2, 1) := dk_28 (dk_at dksX1_land_0 14 rfl rfl)
theorem dX1_land_15 : decode cX1_land 15 = .ok (.invokestatic 85, 3) := dk_184 0 85 (dk_at dksX1_land_0 15 rfl rfl)
theorem dX1_land_18 : decode cX1_land 18 = .ok (.ifCond .ne 6, 3) := dk_154 0 6 (dk_at dksX1_land_0 18 rfl rfl)
theorem dX1_land_21 : decode cX1_land 21 = .ok (.bipush (-2), 2) := dk_16 254 (dk_at dksX1_land_0 21 rfl rfl)
theorem dX1_land_23 : decode cX1_land 23 = .ok (.ireturn, 1) := dk_172 (dk_at dksX1_land_0 23 rfl rfl)
theorem dX1_land_24 : decode cX1_land 24 = .ok (.aload_n 0, 1) := dk_42 (dk_at dksX1_land_1 0 rfl rfl)
theorem dX1_land_25 : decode cX1_land 25 = .ok (.iload_n 1, 1) := dk_27 (dk_at dksX1_land_1 1 rfl rfl)
theorem dX1_land_26 : decode cX1_land 26 = .ok (.iload_n 2, 1) := dk_28 (dk_at dksX1_land_1 2 rfl rfl)
theorem dX1_land_27 : decode cX1_land 27 = .ok (.iload_n 3, 1) := dk_29 (dk_at dksX1_land_1 3 rfl rfl)
theorem dX1_land_28 : decode cX1_land 28 = .ok (.iload 4, 2) := dk_21 4 (dk_at dksX1_land_1 4 rfl rfl)
theorem dX1_land_30 : decode cX1_land 30 = .ok (.invokevirtual 88, 3) := dk_182 0 88 (dk_at dksX1_land_1 6 rfl rfl)
theorem dX1_land_33 : decode cX1_land 33 = .ok (.istore 5, 2) := dk_54 5 (dk_at dksX1_land_1 9 rfl rfl)
theorem dX1_land_35 : decode cX1_land 35 = .ok (.iload 5, 2) := dk_21 5 (dk_at dksX1_land_1 11 rfl rfl)
theorem dX1_land_37 : decode cX1_land 37 = .ok (.ifCond .eq 10, 3) := dk_153 0 10 (dk_at dksX1_land_1 13 rfl rfl)
theorem dX1_land_40 : decode cX1_land 40 = .ok (.aload_n 0, 1) := dk_42 (dk_at dksX1_land_1 16 rfl rfl)
theorem dX1_land_41 : decode cX1_land 41 = .ok (.iload 5, 2) := dk_21 5 (dk_at dksX1_land_1 17 rfl rfl)
theorem dX1_land_43 : decode cX1_land 43 = .ok (.invokevirtual 92, 3) := dk_182 0 92 (dk_at dksX1_land_1 19 rfl rfl)
theorem dX1_land_46 : decode cX1_land 46 = .ok (.ireturn, 1) := dk_172 (dk_at dksX1_land_1 22 rfl rfl)
theorem dX1_land_47 : decode cX1_land 47 = .ok (.bipush 60, 2) := dk_16 60 (dk_at dksX1_land_2 0 rfl rfl)
theorem dX1_land_49 : decode cX1_land 49 = .ok (.iload_n 1, 1) := dk_27 (dk_at dksX1_land_2 2 rfl rfl)
theorem dX1_land_50 : decode cX1_land 50 = .ok (.imul, 1) := dk_104 (dk_at dksX1_land_2 3 rfl rfl)
theorem dX1_land_51 : decode cX1_land 51 = .ok (.iload_n 3, 1) := dk_29 (dk_at dksX1_land_2 4 rfl rfl)
theorem dX1_land_52 : decode cX1_land 52 = .ok (.iadd, 1) := dk_96 (dk_at dksX1_land_2 5 rfl rfl)
theorem dX1_land_53 : decode cX1_land 53 = .ok (.istore 6, 2) := dk_54 6 (dk_at dksX1_land_2 6 rfl rfl)
theorem dX1_land_55 : decode cX1_land 55 = .ok (.aload_n 0, 1) := dk_42 (dk_at dksX1_land_2 8 rfl rfl)
theorem dX1_land_56 : decode cX1_land 56 = .ok (.iload 6, 2) := dk_21 6 (dk_at dksX1_land_2 9 rfl rfl)
theorem dX1_land_58 : decode cX1_land 58 = .ok (.putfield 74, 3) := dk_181 0 74 (dk_at dksX1_land_2 11 rfl rfl)
theorem dX1_land_61 : decode cX1_land 61 = .ok (.aload_n 0, 1) := dk_42 (dk_at dksX1_land_2 14 rfl rfl)
theorem dX1_land_62 : decode cX1_land 62 = .ok (.iload 6, 2) := dk_21 6 (dk_at dksX1_land_2 15 rfl rfl)
theorem dX1_land_64 : decode cX1_land 64 = .ok (.iload 4, 2) := dk_21 4 (dk_at dksX1_land_2 17 rfl rfl)
theorem dX1_land_66 : decode cX1_land 66 = .ok (.iadd, 1) := dk_96 (dk_at dksX1_land_2 19 rfl rfl)
theorem dX1_land_67 : decode cX1_land 67 = .ok (.invokevirtual 96, 3) := dk_182 0 96 (dk_at dksX1_land_2 20 rfl rfl)
theorem dX1_land_70 : decode cX1_land 70 = .ok (.ifCond .ne 14, 3) := dk_154 0 14 (dk_at dksX1_land_3 0 rfl rfl)
theorem dX1_land_73 : decode cX1_land 73 = .ok (.bipush (-100), 2) := dk_16 156 (dk_at dksX1_land_3 3 rfl rfl)
theorem dX1_land_75 : decode cX1_land 75 = .ok (.aload_n 0, 1) := dk_42 (dk_at dksX1_land_3 5 rfl rfl)
theorem dX1_land_76 : decode cX1_land 76 = .ok (.getfield 74, 3) := dk_180 0 74 (dk_at dksX1_land_3 6 rfl rfl)
theorem dX1_land_79 : decode cX1_land 79 = .ok (.iload 6, 2) := dk_21 6 (dk_at dksX1_land_3 9 rfl rfl)
theorem dX1_land_81 : decode cX1_land 81 = .ok (.isub, 1) := dk_100 (dk_at dksX1_land_3 11 rfl rfl)
theorem dX1_land_82 : decode cX1_land 82 = .ok (.isub, 1) := dk_100 (dk_at dksX1_land_3 12 rfl rfl)
theorem dX1_land_83 : decode cX1_land 83 = .ok (.ireturn, 1) := dk_172 (dk_at dksX1_land_3 13 rfl rfl)
theorem dX1_land_84 : decode cX1_land 84 = .ok (.aload_n 0, 1) := dk_42 (dk_at dksX1_land_3 14 rfl rfl)
theorem dX1_land_85 : decode cX1_land 85 = .ok (.invokevirtual 99, 3) := dk_182 0 99 (dk_at dksX1_land_3 15 rfl rfl)
theorem dX1_land_88 : decode cX1_land 88 = .ok (.aload_n 0, 1) := dk_42 (dk_at dksX1_land_3 18 rfl rfl)
theorem dX1_land_89 : decode cX1_land 89 = .ok (.getfield 71, 3) := dk_180 0 71 (dk_at dksX1_land_3 19 rfl rfl)
theorem dX1_land_92 : decode cX1_land 92 = .ok (.ireturn, 1) := dk_172 (dk_at dksX1_land_3 22 rfl rfl)
abbrev cX1_isSheet : ByteArray := prog_15_method_6_code
def yX1_isSheet : MethodName := ⟨RX1, "isSheet", "(I)Z"⟩
def dkwX1_isSheet_0 : List UInt8 := [26, 3, 6, 184, 0, 67, 172]
abbrev dktX1_isSheet_0 : List UInt8 := dkwX1_isSheet_0 ++ []
theorem dksX1_isSheet_0 : cX1_isSheet.data.toList.drop 0 = dktX1_isSheet_0 := by decide +kernel
theorem dX1_isSheet_0 : decode cX1_isSheet 0 = .ok (.iload_n 0, 1) := dk_26 (dk_at dksX1_isSheet_0 0 rfl rfl)
theorem dX1_isSheet_1 : decode cX1_isSheet 1 = .ok (.iconst 0, 1) := dk_3 (dk_at dksX1_isSheet_0 1 rfl rfl)
theorem dX1_isSheet_2 : decode cX1_isSheet 2 = .ok (.iconst 3, 1) := dk_6 (dk_at dksX1_isSheet_0 2 rfl rfl)
theorem dX1_isSheet_3 : decode cX1_isSheet 3 = .ok (.invokestatic 67, 3) := dk_184 0 67 (dk_at dksX1_isSheet_0 3 rfl rfl)
theorem dX1_isSheet_6 : decode cX1_isSheet 6 = .ok (.ireturn, 1) := dk_172 (dk_at dksX1_isSheet_0 6 rfl rfl)
abbrev cX1_within : ByteArray := prog_15_method_5_code
def yX1_within : MethodName := ⟨RX1, "within", "(III)Z"⟩
def dkwX1_within_0 : List UInt8 := [26, 27, 161, 0, 12, 26, 28, 163, 0, 7, 4, 167, 0, 4, 3, 172]
abbrev dktX1_within_0 : List UInt8 := dkwX1_within_0 ++ []
theorem dksX1_within_0 : cX1_within.data.toList.drop 0 = dktX1_within_0 := by decide +kernel
theorem dX1_within_0 : decode cX1_within 0 = .ok (.iload_n 0, 1) := dk_26 (dk_at dksX1_within_0 0 rfl rfl)
theorem dX1_within_1 : decode cX1_within 1 = .ok (.iload_n 1, 1) := dk_27 (dk_at dksX1_within_0 1 rfl rfl)
theorem dX1_within_2 : decode cX1_within 2 = .ok (.if_icmp .lt 12, 3) := dk_161 0 12 (dk_at dksX1_within_0 2 rfl rfl)
theorem dX1_within_5 : decode cX1_within 5 = .ok (.iload_n 0, 1) := dk_26 (dk_at dksX1_within_0 5 rfl rfl)
theorem dX1_within_6 : decode cX1_within 6 = .ok (.iload_n 2, 1) := dk_28 (dk_at dksX1_within_0 6 rfl rfl)
theorem dX1_within_7 : decode cX1_within 7 = .ok (.if_icmp .gt 7, 3) := dk_163 0 7 (dk_at dksX1_within_0 7 rfl rfl)
theorem dX1_within_10 : decode cX1_within 10 = .ok (.iconst 1, 1) := dk_4 (dk_at dksX1_within_0 10 rfl rfl)
theorem dX1_within_11 : decode cX1_within 11 = .ok (.goto 4, 3) := dk_167 0 4 (dk_at dksX1_within_0 11 rfl rfl)
theorem dX1_within_14 : decode cX1_within 14 = .ok (.iconst 0, 1) := dk_3 (dk_at dksX1_within_0 14 rfl rfl)
theorem dX1_within_15 : decode cX1_within 15 = .ok (.ireturn, 1) := dk_172 (dk_at dksX1_within_0 15 rfl rfl)
abbrev cX1_isSort : ByteArray := prog_15_method_7_code
def yX1_isSort : MethodName := ⟨RX1, "isSort", "(I)Z"⟩
def dkwX1_isSort_0 : List UInt8 := [26, 3, 5, 184, 0, 67, 172]
abbrev dktX1_isSort_0 : List UInt8 := dkwX1_isSort_0 ++ []
theorem dksX1_isSort_0 : cX1_isSort.data.toList.drop 0 = dktX1_isSort_0 := by decide +kernel
theorem dX1_isSort_0 : decode cX1_isSort 0 = .ok (.iload_n 0, 1) := dk_26 (dk_at dksX1_isSort_0 0 rfl rfl)
theorem dX1_isSort_1 : decode cX1_isSort 1 = .ok (.iconst 0, 1) := dk_3 (dk_at dksX1_isSort_0 1 rfl rfl)
theorem dX1_isSort_2 : decode cX1_isSort 2 = .ok (.iconst 2, 1) := dk_5 (dk_at dksX1_isSort_0 2 rfl rfl)
theorem dX1_isSort_3 : decode cX1_isSort 3 = .ok (.invokestatic 67, 3) := dk_184 0 67 (dk_at dksX1_isSort_0 3 rfl rfl)
theorem dX1_isSort_6 : decode cX1_isSort 6 = .ok (.ireturn, 1) := dk_172 (dk_at dksX1_isSort_0 6 rfl rfl)
abbrev cX1_against : ByteArray := prog_15_method_8_code
def yX1_against : MethodName := ⟨RX1, "against", "(IIII)I"⟩
def dkwX1_against_3 : List UInt8 := [167, 0, 4, 3, 172]
abbrev dktX1_against_3 : List UInt8 := dkwX1_against_3 ++ []
def dkwX1_against_2 : List UInt8 := [42, 180, 0, 13, 27, 46, 163, 0, 16, 21, 4, 42, 180, 0, 13, 27, 46, 29, 100, 164, 0, 7, 6]
abbrev dktX1_against_2 : List UInt8 := dkwX1_against_2 ++ dktX1_against_3
def dkwX1_against_1 : List UInt8 := [180, 0, 9, 27, 46, 16, 247, 160, 0, 5, 4, 172, 21, 4, 156, 0, 5, 7, 172, 29, 155, 0, 26, 29]
abbrev dktX1_against_1 : List UInt8 := dkwX1_against_1 ++ dktX1_against_2
def dkwX1_against_0 : List UInt8 := [42, 180, 0, 9, 27, 46, 16, 247, 159, 0, 15, 42, 180, 0, 9, 27, 46, 28, 159, 0, 5, 5, 172, 42]
abbrev dktX1_against_0 : List UInt8 := dkwX1_against_0 ++ dktX1_against_1
theorem dksX1_against_0 : cX1_against.data.toList.drop 0 = dktX1_against_0 := by decide +kernel
theorem dksX1_against_1 : cX1_against.data.toList.drop 24 = dktX1_against_1 := dk_seg dksX1_against_0 24 rfl rfl
theorem dksX1_against_2 : cX1_against.data.toList.drop 48 = dktX1_against_2 := dk_seg dksX1_against_1 24 rfl rfl
theorem dksX1_against_3 : cX1_against.data.toList.drop 71 = dktX1_against_3 := dk_seg dksX1_against_2 23 rfl rfl
theorem dX1_against_0 : decode cX1_against 0 = .ok (.aload_n 0, 1) := dk_42 (dk_at dksX1_against_0 0 rfl rfl)
theorem dX1_against_1 : decode cX1_against 1 = .ok (.getfield 9, 3) := dk_180 0 9 (dk_at dksX1_against_0 1 rfl rfl)
theorem dX1_against_4 : decode cX1_against 4 = .ok (.iload_n 1, 1) := dk_27 (dk_at dksX1_against_0 4 rfl rfl)
theorem dX1_against_5 : decode cX1_against 5 = .ok (.iaload, 1) := dk_46 (dk_at dksX1_against_0 5 rfl rfl)
theorem dX1_against_6 : decode cX1_against 6 = .ok (.bipush (-9), 2) := dk_16 247 (dk_at dksX1_against_0 6 rfl rfl)
theorem dX1_against_8 : decode cX1_against 8 = .ok (.if_icmp .eq 15, 3) := dk_159 0 15 (dk_at dksX1_against_0 8 rfl rfl)
theorem dX1_against_11 : decode cX1_against 11 = .ok (.aload_n 0, 1) := dk_42 (dk_at dksX1_against_0 11 rfl rfl)
theorem dX1_against_12 : decode cX1_against 12 = .ok (.getfield 9, 3) := dk_180 0 9 (dk_at dksX1_against_0 12 rfl rfl)
theorem dX1_against_15 : decode cX1_against 15 = .ok (.iload_n 1, 1) := dk_27 (dk_at dksX1_against_0 15 rfl rfl)
theorem dX1_against_16 : decode cX1_against 16 = .ok (.iaload, 1) := dk_46 (dk_at dksX1_against_0 16 rfl rfl)
theorem dX1_against_17 : decode cX1_against 17 = .ok (.iload_n 2, 1) := dk_28 (dk_at dksX1_against_0 17 rfl rfl)
theorem dX1_against_18 : decode cX1_against 18 = .ok (.if_icmp .eq 5, 3) := dk_159 0 5 (dk_at dksX1_against_0 18 rfl rfl)
theorem dX1_against_21 : decode cX1_against 21 = .ok (.iconst 2, 1) := dk_5 (dk_at dksX1_against_0 21 rfl rfl)
theorem dX1_against_22 : decode cX1_against 22 = .ok (.ireturn, 1) := dk_172 (dk_at dksX1_against_0 22 rfl rfl)
theorem dX1_against_23 : decode cX1_against 23 = .ok (.aload_n 0, 1) := dk_42 (dk_at dksX1_against_0 23 rfl rfl)
theorem dX1_against_24 : decode cX1_against 24 = .ok (.getfield 9, 3) := dk_180 0 9 (dk_at dksX1_against_1 0 rfl rfl)
theorem dX1_against_27 : decode cX1_against 27 = .ok (.iload_n 1, 1) := dk_27 (dk_at dksX1_against_1 3 rfl rfl)
theorem dX1_against_28 : decode cX1_against 28 = .ok (.iaload, 1) := dk_46 (dk_at dksX1_against_1 4 rfl rfl)
theorem dX1_against_29 : decode cX1_against 29 = .ok (.bipush (-9), 2) := dk_16 247 (dk_at dksX1_against_1 5 rfl rfl)
theorem dX1_against_31 : decode cX1_against 31 = .ok (.if_icmp .ne 5, 3) := dk_160 0 5 (dk_at dksX1_against_1 7 rfl rfl)
theorem dX1_against_34 : decode cX1_against 34 = .ok (.iconst 1, 1) := dk_4 (dk_at dksX1_against_1 10 rfl rfl)
theorem dX1_against_35 : decode cX1_against 35 = .ok (.ireturn, 1) := dk_172 (dk_at dksX1_against_1 11 rfl rfl)
theorem dX1_against_36 : decode cX1_against 36 = .ok (.iload 4, 2) := dk_21 4 (dk_at dksX1_against_1 12 rfl rfl)
theorem dX1_against_38 : decode cX1_against 38 = .ok (.ifCond .ge 5, 3) := dk_156 0 5 (dk_at dksX1_against_1 14 rfl rfl)
theorem dX1_against_41 : decode cX1_against 41 = .ok (.iconst 4, 1) := dk_7 (dk_at dksX1_against_1 17 rfl rfl)
theorem dX1_against_42 : decode cX1_against 42 = .ok (.ireturn, 1) := dk_172 (dk_at dksX1_against_1 18 rfl rfl)
theorem dX1_against_43 : decode cX1_against 43 = .ok (.iload_n 3, 1) := dk_29 (dk_at dksX1_against_1 19 rfl rfl)
theorem dX1_against_44 : decode cX1_against 44 = .ok (.ifCond .lt 26, 3) := dk_155 0 26 (dk_at dksX1_against_1 20 rfl rfl)
theorem dX1_against_47 : decode cX1_against 47 = .ok (.iload_n 3, 1) := dk_29 (dk_at dksX1_against_1 23 rfl rfl)
theorem dX1_against_48 : decode cX1_against 48 = .ok (.aload_n 0, 1) := dk_42 (dk_at dksX1_against_2 0 rfl rfl)
theorem dX1_against_49 : decode cX1_against 49 = .ok (.getfield 13, 3) := dk_180 0 13 (dk_at dksX1_against_2 1 rfl rfl)
theorem dX1_against_52 : decode cX1_against 52 = .ok (.iload_n 1, 1) := dk_27 (dk_at dksX1_against_2 4 rfl rfl)
theorem dX1_against_53 : decode cX1_against 53 = .ok (.iaload, 1) := dk_46 (dk_at dksX1_against_2 5 rfl rfl)
theorem dX1_against_54 : decode cX1_against 54 = .ok (.if_icmp .gt 16, 3) := dk_163 0 16 (dk_at dksX1_against_2 6 rfl rfl)
theorem dX1_against_57 : decode cX1_against 57 = .ok (.iload 4, 2) := dk_21 4 (dk_at dksX1_against_2 9 rfl rfl)
theorem dX1_against_59 : decode cX1_against 59 = .ok (.aload_n 0, 1) := dk_42 (dk_at dksX1_against_2 11 rfl rfl)
theorem dX1_against_60 : decode cX1_against 60 = .ok (.getfield 13, 3) := dk_180 0 13 (dk_at dksX1_against_2 12 rfl rfl)
theorem dX1_against_63 : decode cX1_against 63 = .ok (.iload_n 1, 1) := dk_27 (dk_at dksX1_against_2 15 rfl rfl)
theorem dX1_against_64 : decode cX1_against 64 = .ok (.iaload, 1) := dk_46 (dk_at dksX1_against_2 16 rfl rfl)
theorem dX1_against_65 : decode cX1_against 65 = .ok (.iload_n 3, 1) := dk_29 (dk_at dksX1_against_2 17 rfl rfl)
theorem dX1_against_66 : decode cX1_against 66 = .ok (.isub, 1) := dk_100 (dk_at dksX1_against_2 18 rfl rfl)
theorem dX1_against_67 : decode cX1_against 67 = .ok (.if_icmp .le 7, 3) := dk_164 0 7 (dk_at dksX1_against_2 19 rfl rfl)
theorem dX1_against_70 : decode cX1_against 70 = .ok (.iconst 3, 1) := dk_6 (dk_at dksX1_against_2 22 rfl rfl)
theorem dX1_against_71 : decode cX1_against 71 = .ok (.goto 4, 3) := dk_167 0 4 (dk_at dksX1_against_3 0 rfl rfl)
theorem dX1_against_74 : decode cX1_against 74 = .ok (.iconst 0, 1) := dk_3 (dk_at dksX1_against_3 3 rfl rfl)
theorem dX1_against_75 : decode cX1_against 75 = .ok (.ireturn, 1) := dk_172 (dk_at dksX1_against_3 4 rfl rfl)
abbrev cX1_fails : ByteArray := prog_15_method_3_code
def yX1_fails : MethodName := ⟨RX1, "fails", "(I)I"⟩
def dkwX1_fails_0 : List UInt8 := [42, 27, 181, 0, 62, 16, 246, 27, 100, 172]
abbrev dktX1_fails_0 : List UInt8 := dkwX1_fails_0 ++ []
theorem dksX1_fails_0 : cX1_fails.data.toList.drop 0 = dktX1_fails_0 := by decide +kernel
theorem dX1_fails_0 : decode cX1_fails 0 = .ok (.aload_n 0, 1) := dk_42 (dk_at dksX1_fails_0 0 rfl rfl)
theorem dX1_fails_1 : decode cX1_fails 1 = .ok (.iload_n 1, 1) := dk_27 (dk_at dksX1_fails_0 1 rfl rfl)
theorem dX1_fails_2 : decode cX1_fails 2 = .ok (.putfield 62, 3) := dk_181 0 62 (dk_at dksX1_fails_0 2 rfl rfl)
theorem dX1_fails_5 : decode cX1_fails 5 = .ok (.bipush (-10), 2) := dk_16 246 (dk_at dksX1_fails_0 5 rfl rfl)
theorem dX1_fails_7 : decode cX1_fails 7 = .ok (.iload_n 1, 1) := dk_27 (dk_at dksX1_fails_0 7 rfl rfl)
theorem dX1_fails_8 : decode cX1_fails 8 = .ok (.isub, 1) := dk_100 (dk_at dksX1_fails_0 8 rfl rfl)
theorem dX1_fails_9 : decode cX1_fails 9 = .ok (.ireturn, 1) := dk_172 (dk_at dksX1_fails_0 9 rfl rfl)
abbrev cX1_readLand : ByteArray := prog_15_method_17_code
def yX1_readLand : MethodName := ⟨RX1, "readLand", "(I)Z"⟩
def dkwX1_readLand_7 : List UInt8 := [167, 0, 4, 3, 172]
abbrev dktX1_readLand_7 : List UInt8 := dkwX1_readLand_7 ++ []
def dkwX1_readLand_6 : List UInt8 := [153, 0, 11, 42, 27, 182, 0, 115, 154, 255, 217, 3, 172, 42, 180, 0, 74, 27, 160, 0, 7, 4]
abbrev dktX1_readLand_6 : List UInt8 := dkwX1_readLand_6 ++ dktX1_readLand_7
def dkwX1_readLand_5 : List UInt8 := [180, 0, 102, 16, 6, 162, 0, 31, 42, 180, 0, 74, 27, 162, 0, 23, 42, 27, 16, 44, 182, 0, 108]
abbrev dktX1_readLand_5 : List UInt8 := dkwX1_readLand_5 ++ dktX1_readLand_6
def dkwX1_readLand_4 : List UInt8 := [46, 16, 247, 160, 0, 5, 3, 172, 132, 2, 1, 167, 255, 212, 42, 180, 0, 102, 153, 0, 20, 42]
abbrev dktX1_readLand_4 : List UInt8 := dkwX1_readLand_4 ++ dktX1_readLand_5
def dkwX1_readLand_3 : List UInt8 := [182, 0, 108, 154, 0, 5, 3, 172, 42, 180, 0, 47, 28, 42, 27, 182, 0, 112, 79, 42, 180, 0, 47, 28]
abbrev dktX1_readLand_3 : List UInt8 := dkwX1_readLand_3 ++ dktX1_readLand_4
def dkwX1_readLand_2 : List UInt8 := [16, 247, 160, 0, 5, 3, 172, 132, 2, 1, 167, 255, 220, 3, 61, 28, 6, 162, 0, 45, 42, 27, 16, 59]
abbrev dktX1_readLand_2 : List UInt8 := dkwX1_readLand_2 ++ dktX1_readLand_3
def dkwX1_readLand_1 : List UInt8 := [162, 0, 36, 42, 180, 0, 44, 28, 42, 27, 3, 16, 9, 182, 0, 77, 79, 42, 180, 0, 44, 28, 46]
abbrev dktX1_readLand_1 : List UInt8 := dkwX1_readLand_1 ++ dktX1_readLand_2
def dkwX1_readLand_0 : List UInt8 := [42, 3, 181, 0, 102, 42, 27, 16, 118, 182, 0, 108, 154, 0, 5, 3, 172, 3, 61, 28, 16, 8]
abbrev dktX1_readLand_0 : List UInt8 := dkwX1_readLand_0 ++ dktX1_readLand_1
theorem dksX1_readLand_0 : cX1_readLand.data.toList.drop 0 = dktX1_readLand_0 := by decide +kernel
theorem dksX1_readLand_1 : cX1_readLand.data.toList.drop 22 = dktX1_readLand_1 := dk_seg dksX1_readLand_0 22 rfl rfl
theorem dksX1_readLand_2 : cX1_readLand.data.toList.drop 45 = dktX1_readLand_2 := dk_seg dksX1_readLand_1 23 rfl rfl
theorem dksX1_readLand_3 : cX1_readLand.data.toList.drop 69 = dktX1_readLand_3 := dk_seg dksX1_readLand_2 24 rfl rfl
theorem dksX1_readLand_4 : cX1_readLand.data.toList.drop 93 = dktX1_readLand_4 := dk_seg dksX1_readLand_3 24 rfl rfl
theorem dksX1_readLand_5 : cX1_readLand.data.toList.drop 115 = dktX1_readLand_5 := dk_seg dksX1_readLand_4 22 rfl rfl
theorem dksX1_readLand_6 : cX1_readLand.data.toList.drop 138 = dktX1_readLand_6 := dk_seg dksX1_readLand_5 23 rfl rfl
theorem dksX1_readLand_7 : cX1_readLand.data.toList.drop 160 = dktX1_readLand_7 := dk_seg dksX1_readLand_6 22 rfl rfl
theorem dX1_readLand_0 : decode cX1_readLand 0 = .ok (.aload_n 0, 1) := dk_42 (dk_at dksX1_readLand_0 0 rfl rfl)
theorem dX1_readLand_1 : decode cX1_readLand 1 = .ok (.iconst 0, 1) := dk_3 (dk_at dksX1_readLand_0 1 rfl rfl)
theorem dX1_readLand_2 : decode cX1_readLand 2 = .ok (.putfield 102, 3) := dk_181 0 102 (dk_at dksX1_readLand_0 2 rfl rfl)
theorem dX1_readLand_5 : decode cX1_readLand 5 = .ok (.aload_n 0, 1) := dk_42 (dk_at dksX1_readLand_0 5 rfl rfl)
theorem dX1_readLand_6 : decode cX1_readLand 6 = .ok (.iload_n 1, 1) := dk_27 (dk_at dksX1_readLand_0 6 rfl rfl)
theorem dX1_readLand_7 : decode cX1_readLand 7 = .ok (.bipush 118, 2) := dk_16 118 (dk_at dksX1_readLand_0 7 rfl rfl)
theorem dX1_readLand_9 : decode cX1_readLand 9 = .ok (.invokevirtual 108, 3) := dk_182 0 108 (dk_at dksX1_readLand_0 9 rfl rfl)
theorem dX1_readLand_12 : decode cX1_readLand 12 = .ok (.ifCond .ne 5, 3) := dk_154 0 5 (dk_at dksX1_readLand_0 12 rfl rfl)
theorem dX1_readLand_15 : decode cX1_readLand 15 = .ok (.iconst 0, 1) := dk_3 (dk_at dksX1_readLand_0 15 rfl rfl)
theorem dX1_readLand_16 : decode cX1_readLand 16 = .ok (.ireturn, 1) := dk_172 (dk_at dksX1_readLand_0 16 rfl rfl)
theorem dX1_readLand_17 : decode cX1_readLand 17 = .ok (.iconst 0, 1) := dk_3 (dk_at dksX1_readLand_0 17 rfl rfl)
theorem dX1_readLand_18 : decode cX1_readLand 18 = .ok (.istore_n 2, 1) := dk_61 (dk_at dksX1_readLand_0 18 rfl rfl)
theorem dX1_readLand_19 : decode cX1_readLand 19 = .ok (.iload_n 2, 1) := dk_28 (dk_at dksX1_readLand_0 19 rfl rfl)
theorem dX1_readLand_20 : decode cX1_readLand 20 = .ok (.bipush 8, 2) := dk_16 8 (dk_at dksX1_readLand_0 20 rfl rfl)
theorem dX1_readLand_22 : decode cX1_readLand 22 = .ok (.if_icmp .ge 36, 3) := dk_162 0 36 (dk_at dksX1_readLand_1 0 rfl rfl)
theorem dX1_readLand_25 : decode cX1_readLand 25 = .ok (.aload_n 0, 1) := dk_42 (dk_at dksX1_readLand_1 3 rfl rfl)
theorem dX1_readLand_26 : decode cX1_readLand 26 = .ok (.getfield 44, 3) := dk_180 0 44 (dk_at dksX1_readLand_1 4 rfl rfl)
theorem dX1_readLand_29 : decode cX1_readLand 29 = .ok (.iload_n 2, 1) := dk_28 (dk_at dksX1_readLand_1 7 rfl rfl)
theorem dX1_readLand_30 : decode cX1_readLand 30 = .ok (.aload_n 0, 1) := dk_42 (dk_at dksX1_readLand_1 8 rfl rfl)
theorem dX1_readLand_31 : decode cX1_readLand 31 = .ok (.iload_n 1, 1) := dk_27 (dk_at dksX1_readLand_1 9 rfl rfl)
theorem dX1_readLand_32 : decode cX1_readLand 32 = .ok (.iconst 0, 1) := dk_3 (dk_at dksX1_readLand_1 10 rfl rfl)
theorem dX1_readLand_33 : decode cX1_readLand 33 = .ok (.bipush 9, 2) := dk_16 9 (dk_at dksX1_readLand_1 11 rfl rfl)
theorem dX1_readLand_35 : decode cX1_readLand 35 = .ok (.invokevirtual 77, 3) := dk_182 0 77 (dk_at dksX1_readLand_1 13 rfl rfl)
theorem dX1_readLand_38 : decode cX1_readLand 38 = .ok (.iastore, 1) := dk_79 (dk_at dksX1_readLand_1 16 rfl rfl)
theorem dX1_readLand_39 : decode cX1_readLand 39 = .ok (.aload_n 0, 1) := dk_42 (dk_at dksX1_readLand_1 17 rfl rfl)
theorem dX1_readLand_40 : decode cX1_readLand 40 = .ok (.getfield 44, 3) := dk_180 0 44 (dk_at dksX1_readLand_1 18 rfl rfl)
theorem dX1_readLand_43 : decode cX1_readLand 43 = .ok (.iload_n 2, 1) := dk_28 (dk_at dksX1_readLand_1 21 rfl rfl)
theorem dX1_readLand_44 : decode cX1_readLand 44 = .ok (.iaload, 1) := dk_46 (dk_at dksX1_readLand_1 22 rfl rfl)
theorem dX1_readLand_45 : decode cX1_readLand 45 = .ok (.bipush (-9), 2) := dk_16 247 (dk_at dksX1_readLand_2 0 rfl rfl)
theorem dX1_readLand_47 : decode cX1_readLand 47 = .ok (.if_icmp .ne 5, 3) := dk_160 0 5 (dk_at dksX1_readLand_2 2 rfl rfl)
theorem dX1_readLand_50 : decode cX1_readLand 50 = .ok (.iconst 0, 1) := dk_3 (dk_at dksX1_readLand_2 5 rfl rfl)
theorem dX1_readLand_51 : decode cX1_readLand 51 = .ok (.ireturn, 1) := dk_172 (dk_at dksX1_readLand_2 6 rfl rfl)
theorem dX1_readLand_52 : decode cX1_readLand 52 = .ok (.iinc 2 1, 3) := dk_132 2 1 (dk_at dksX1_readLand_2 7 rfl rfl)
theorem dX1_readLand_55 : decode cX1_readLand 55 = .ok (.goto (-36), 3) := dk_167 255 220 (dk_at dksX1_readLand_2 10 rfl rfl)
theorem dX1_readLand_58 : decode cX1_readLand 58 = .ok (.iconst 0, 1) := dk_3 (dk_at dksX1_readLand_2 13 rfl rfl)
theorem dX1_readLand_59 : decode cX1_readLand 59 = .ok (.istore_n 2, 1) := dk_61 (dk_at dksX1_readLand_2 14 rfl rfl)
theorem dX1_readLand_60 : decode cX1_readLand 60 = .ok (.iload_n 2, 1) := dk_28 (dk_at dksX1_readLand_2 15 rfl rfl)
theorem dX1_readLand_61 : decode cX1_readLand 61 = .ok (.iconst 3, 1) := dk_6 (dk_at dksX1_readLand_2 16 rfl rfl)
theorem dX1_readLand_62 : decode cX1_readLand 62 = .ok (.if_icmp .ge 45, 3) := dk_162 0 45 (dk_at dksX1_readLand_2 17 rfl rfl)
theorem dX1_readLand_65 : decode cX1_readLand 65 = .ok (.aload_n 0, 1) := dk_42 (dk_at dksX1_readLand_2 20 rfl rfl)
theorem dX1_readLand_66 : decode cX1_readLand 66 = .ok (.iload_n 1, 1) := dk_27 (dk_at dksX1_readLand_2 21 rfl rfl)
theorem dX1_readLand_67 : decode cX1_readLand 67 = .ok (.bipush 59, 2) := dk_16 59 (dk_at dksX1_readLand_2 22 rfl rfl)
theorem dX1_readLand_69 : decode cX1_readLand 69 = .ok (.invokevirtual 108, 3) := dk_182 0 108 (dk_at dksX1_readLand_3 0 rfl rfl)
theorem dX1_readLand_72 : decode cX1_readLand 72 = .ok (.ifCond .ne 5, 3) := dk_154 0 5 (dk_at dksX1_readLand_3 3 rfl rfl)
theorem dX1_readLand_75 : decode cX1_readLand 75 = .ok (.iconst 0, 1) := dk_3 (dk_at dksX1_readLand_3 6 rfl rfl)
theorem dX1_readLand_76 : decode cX1_readLand 76 = .ok (.ireturn, 1) := dk_172 (dk_at dksX1_readLand_3 7 rfl rfl)
theorem dX1_readLand_77 : decode cX1_readLand 77 = .ok (.aload_n 0, 1) := dk_42 (dk_at dksX1_readLand_3 8 rfl rfl)
theorem dX1_readLand_78 : decode cX1_readLand 78 = .ok (.getfield 47, 3) := dk_180 0 47 (dk_at dksX1_readLand_3 9 rfl rfl)
theorem dX1_readLand_81 : decode cX1_readLand 81 = .ok (.iload_n 2, 1) := dk_28 (dk_at dksX1_readLand_3 12 rfl rfl)
theorem dX1_readLand_82 : decode cX1_readLand 82 = .ok (.aload_n 0, 1) := dk_42 (dk_at dksX1_readLand_3 13 rfl rfl)
theorem dX1_readLand_83 : decode cX1_readLand 83 = .ok (.iload_n 1, 1) := dk_27 (dk_at dksX1_readLand_3 14 rfl rfl)
theorem dX1_readLand_84 : decode cX1_readLand 84 = .ok (.invokevirtual 112, 3) := dk_182 0 112 (dk_at dksX1_readLand_3 15 rfl rfl)
theorem dX1_readLand_87 : decode cX1_readLand 87 = .ok (.iastore, 1) := dk_79 (dk_at dksX1_readLand_3 18 rfl rfl)
theorem dX1_readLand_88 : decode cX1_readLand 88 = .ok (.aload_n 0, 1) := dk_42 (dk_at dksX1_readLand_3 19 rfl rfl)
theorem dX1_readLand_89 : decode cX1_readLand 89 = .ok (.getfield 47, 3) := dk_180 0 47 (dk_at dksX1_readLand_3 20 rfl rfl)
theorem dX1_readLand_92 : decode cX1_readLand 92 = .ok (.iload_n 2, 1) := dk_28 (dk_at dksX1_readLand_3 23 rfl rfl)
theorem dX1_readLand_93 : decode cX1_readLand 93 = .ok (.iaload, 1) := dk_46 (dk_at dksX1_readLand_4 0 rfl rfl)
theorem dX1_readLand_94 : decode cX1_readLand 94 = .ok (.bipush (-9), 2) := dk_16 247 (dk_at dksX1_readLand_4 1 rfl rfl)
theorem dX1_readLand_96 : decode cX1_readLand 96 = .ok (.if_icmp .ne 5, 3) := dk_160 0 5 (dk_at dksX1_readLand_4 3 rfl rfl)
theorem dX1_readLand_99 : decode cX1_readLand 99 = .ok (.iconst 0, 1) := dk_3 (dk_at dksX1_readLand_4 6 rfl rfl)
theorem dX1_readLand_100 : decode cX1_readLand 100 = .ok (.ireturn, 1) := dk_172 (dk_at dksX1_readLand_4 7 rfl rfl)
theorem dX1_readLand_101 : decode cX1_readLand 101 = .ok (.iinc 2 1, 3) := dk_132 2 1 (dk_at dksX1_readLand_4 8 rfl rfl)
theorem dX1_readLand_104 : decode cX1_readLand 104 = .ok (.goto (-44), 3) := dk_167 255 212 (dk_at dksX1_readLand_4 11 rfl rfl)
theorem dX1_readLand_107 : decode cX1_readLand 107 = .ok (.aload_n 0, 1) := dk_42 (dk_at dksX1_readLand_4 14 rfl rfl)
theorem dX1_readLand_108 : decode cX1_readLand 108 = .ok (.getfield 102, 3) := dk_180 0 102 (dk_at dksX1_readLand_4 15 rfl rfl)
theorem dX1_readLand_111 : decode cX1_readLand 111 = .ok (.ifCond .eq 20, 3) := dk_153 0 20 (dk_at dksX1_readLand_4 18 rfl rfl)
theorem dX1_readLand_114 : decode cX1_readLand 114 = .ok (.aload_n 0, 1) := dk_42 (dk_at dksX1_readLand_4 21 rfl rfl)
theorem dX1_readLand_115 : decode cX1_readLand 115 = .ok (.getfield 102, 3) := dk_180 0 102 (dk_at dksX1_readLand_5 0 rfl rfl)
theorem dX1_readLand_118 : decode cX1_readLand 118 = .ok (.bipush 6, 2) := dk_16 6 (dk_at dksX1_readLand_5 3 rfl rfl)
theorem dX1_readLand_120 : decode cX1_readLand 120 = .ok (.if_icmp .ge 31, 3) := dk_162 0 31 (dk_at dksX1_readLand_5 5 rfl rfl)
theorem dX1_readLand_123 : decode cX1_readLand 123 = .ok (.aload_n 0, 1) := dk_42 (dk_at dksX1_readLand_5 8 rfl rfl)
theorem dX1_readLand_124 : decode cX1_readLand 124 = .ok (.getfield 74, 3) := dk_180 0 74 (dk_at dksX1_readLand_5 9 rfl rfl)
theorem dX1_readLand_127 : decode cX1_readLand 127 = .ok (.iload_n 1, 1) := dk_27 (dk_at dksX1_readLand_5 12 rfl rfl)
theorem dX1_readLand_128 : decode cX1_readLand 128 = .ok (.if_icmp .ge 23, 3) := dk_162 0 23 (dk_at dksX1_readLand_5 13 rfl rfl)
theorem dX1_readLand_131 : decode cX1_readLand 131 = .ok (.aload_n 0, 1) := dk_42 (dk_at dksX1_readLand_5 16 rfl rfl)
theorem dX1_readLand_132 : decode cX1_readLand 132 = .ok (.iload_n 1, 1) := dk_27 (dk_at dksX1_readLand_5 17 rfl rfl)
theorem dX1_readLand_133 : decode cX1_readLand 133 = .ok (.bipush 44, 2) := dk_16 44 (dk_at dksX1_readLand_5 18 rfl rfl)
theorem dX1_readLand_135 : decode cX1_readLand 135 = .ok (.invokevirtual 108, 3) := dk_182 0 108 (dk_at dksX1_readLand_5 20 rfl rfl)
theorem dX1_readLand_138 : decode cX1_readLand 138 = .ok (.ifCond .eq 11, 3) := dk_153 0 11 (dk_at dksX1_readLand_6 0 rfl rfl)
theorem dX1_readLand_141 : decode cX1_readLand 141 = .ok (.aload_n 0, 1) := dk_42 (dk_at dksX1_readLand_6 3 rfl rfl)
theorem dX1_readLand_142 : decode cX1_readLand 142 = .ok (.iload_n 1, 1) := dk_27 (dk_at dksX1_readLand_6 4 rfl rfl)
theorem dX1_readLand_143 : decode cX1_readLand 143 = .ok (.invokevirtual 115, 3) := dk_182 0 115 (dk_at dksX1_readLand_6 5 rfl rfl)
theorem dX1_readLand_146 : decode cX1_readLand 146 = .ok (.ifCond .ne (-39), 3) := dk_154 255 217 (dk_at dksX1_readLand_6 8 rfl rfl)
theorem dX1_readLand_149 : decode cX1_readLand 149 = .ok (.iconst 0, 1) := dk_3 (dk_at dksX1_readLand_6 11 rfl rfl)
theorem dX1_readLand_150 : decode cX1_readLand 150 = .ok (.ireturn, 1) := dk_172 (dk_at dksX1_readLand_6 12 rfl rfl)
theorem dX1_readLand_151 : decode cX1_readLand 151 = .ok (.aload_n 0, 1) := dk_42 (dk_at dksX1_readLand_6 13 rfl rfl)
theorem dX1_readLand_152 : decode cX1_readLand 152 = .ok (.getfield 74, 3) := dk_180 0 74 (dk_at dksX1_readLand_6 14 rfl rfl)
theorem dX1_readLand_155 : decode cX1_readLand 155 = .ok (.iload_n 1, 1) := dk_27 (dk_at dksX1_readLand_6 17 rfl rfl)
theorem dX1_readLand_156 : decode cX1_readLand 156 = .ok (.if_icmp .ne 7, 3) := dk_160 0 7 (dk_at dksX1_readLand_6 18 rfl rfl)
theorem dX1_readLand_159 : decode cX1_readLand 159 = .ok (.iconst 1, 1) := dk_4 (dk_at dksX1_readLand_6 21 rfl rfl)
theorem dX1_readLand_160 : decode cX1_readLand 160 = .ok (.goto 4, 3) := dk_167 0 4 (dk_at dksX1_readLand_7 0 rfl rfl)
theorem dX1_readLand_163 : decode cX1_readLand 163 = .ok (.iconst 0, 1) := dk_3 (dk_at dksX1_readLand_7 3 rfl rfl)
theorem dX1_readLand_164 : decode cX1_readLand 164 = .ok (.ireturn, 1) := dk_172 (dk_at dksX1_readLand_7 4 rfl rfl)
abbrev cX1_isSign : ByteArray := prog_15_method_13_code
def yX1_isSign : MethodName := ⟨RX1, "isSign", "(II)Z"⟩
def dkwX1_isSign_1 : List UInt8 := [89, 180, 0, 74, 4, 96, 181, 0, 74, 4, 172]
abbrev dktX1_isSign_1 : List UInt8 := dkwX1_isSign_1 ++ []
def dkwX1_isSign_0 : List UInt8 := [42, 180, 0, 74, 27, 162, 0, 16, 42, 180, 0, 16, 42, 180, 0, 74, 46, 28, 159, 0, 5, 3, 172, 42]
abbrev dktX1_isSign_0 : List UInt8 := dkwX1_isSign_0 ++ dktX1_isSign_1
theorem dksX1_isSign_0 : cX1_isSign.data.toList.drop 0 = dktX1_isSign_0 := by decide +kernel
theorem dksX1_isSign_1 : cX1_isSign.data.toList.drop 24 = dktX1_isSign_1 := dk_seg dksX1_isSign_0 24 rfl rfl
theorem dX1_isSign_0 : decode cX1_isSign 0 = .ok (.aload_n 0, 1) := dk_42 (dk_at dksX1_isSign_0 0 rfl rfl)
theorem dX1_isSign_1 : decode cX1_isSign 1 = .ok (.getfield 74, 3) := dk_180 0 74 (dk_at dksX1_isSign_0 1 rfl rfl)
theorem dX1_isSign_4 : decode cX1_isSign 4 = .ok (.iload_n 1, 1) := dk_27 (dk_at dksX1_isSign_0 4 rfl rfl)
theorem dX1_isSign_5 : decode cX1_isSign 5 = .ok (.if_icmp .ge 16, 3) := dk_162 0 16 (dk_at dksX1_isSign_0 5 rfl rfl)
theorem dX1_isSign_8 : decode cX1_isSign 8 = .ok (.aload_n 0, 1) := dk_42 (dk_at dksX1_isSign_0 8 rfl rfl)
theorem dX1_isSign_9 : decode cX1_isSign 9 = .ok (.getfield 16, 3) := dk_180 0 16 (dk_at dksX1_isSign_0 9 rfl rfl)
theorem dX1_isSign_12 : decode cX1_isSign 12 = .ok (.aload_n 0, 1) := dk_42 (dk_at dksX1_isSign_0 12 rfl rfl)
theorem dX1_isSign_13 : decode cX1_isSign 13 = .ok (.getfield 74, 3) := dk_180 0 74 (dk_at dksX1_isSign_0 13 rfl rfl)
theorem dX1_isSign_16 : decode cX1_isSign 16 = .ok (.iaload, 1) := dk_46 (dk_at dksX1_isSign_0 16 rfl rfl)
theorem dX1_isSign_17 : decode cX1_isSign 17 = .ok (.iload_n 2, 1) := dk_28 (dk_at dksX1_isSign_0 17 rfl rfl)
theorem dX1_isSign_18 : decode cX1_isSign 18 = .ok (.if_icmp .eq 5, 3) := dk_159 0 5 (dk_at dksX1_isSign_0 18 rfl rfl)
theorem dX1_isSign_21 : decode cX1_isSign 21 = .ok (.iconst 0, 1) := dk_3 (dk_at dksX1_isSign_0 21 rfl rfl)
theorem dX1_isSign_22 : decode cX1_isSign 22 = .ok (.ireturn, 1) := dk_172 (dk_at dksX1_isSign_0 22 rfl rfl)
theorem dX1_isSign_23 : decode cX1_isSign 23 = .ok (.aload_n 0, 1) := dk_42 (dk_at dksX1_isSign_0 23 rfl rfl)
theorem dX1_isSign_24 : decode cX1_isSign 24 = .ok (.dup, 1) := dk_89 (dk_at dksX1_isSign_1 0 rfl rfl)
theorem dX1_isSign_25 : decode cX1_isSign 25 = .ok (.getfield 74, 3) := dk_180 0 74 (dk_at dksX1_isSign_1 1 rfl rfl)
theorem dX1_isSign_28 : decode cX1_isSign 28 = .ok (.iconst 1, 1) := dk_4 (dk_at dksX1_isSign_1 4 rfl rfl)
theorem dX1_isSign_29 : decode cX1_isSign 29 = .ok (.iadd, 1) := dk_96 (dk_at dksX1_isSign_1 5 rfl rfl)
theorem dX1_isSign_30 : decode cX1_isSign 30 = .ok (.putfield 74, 3) := dk_181 0 74 (dk_at dksX1_isSign_1 6 rfl rfl)
theorem dX1_isSign_33 : decode cX1_isSign 33 = .ok (.iconst 1, 1) := dk_4 (dk_at dksX1_isSign_1 9 rfl rfl)
theorem dX1_isSign_34 : decode cX1_isSign 34 = .ok (.ireturn, 1) := dk_172 (dk_at dksX1_isSign_1 10 rfl rfl)
abbrev cX1_digit : ByteArray := prog_15_method_12_code
def yX1_digit : MethodName := ⟨RX1, "digit", "(III)I"⟩
def dkwX1_digit_2 : List UInt8 := [42, 180, 0, 74, 4, 100, 46, 16, 48, 100, 172]
abbrev dktX1_digit_2 : List UInt8 := dkwX1_digit_2 ++ []
def dkwX1_digit_1 : List UInt8 := [96, 184, 0, 67, 154, 0, 6, 16, 247, 172, 42, 89, 180, 0, 74, 4, 96, 181, 0, 74, 42, 180, 0, 16]
abbrev dktX1_digit_1 : List UInt8 := dkwX1_digit_1 ++ dktX1_digit_2
def dkwX1_digit_0 : List UInt8 := [42, 180, 0, 74, 27, 162, 0, 26, 42, 180, 0, 16, 42, 180, 0, 74, 46, 16, 48, 28, 96, 16, 48, 29]
abbrev dktX1_digit_0 : List UInt8 := dkwX1_digit_0 ++ dktX1_digit_1
theorem dksX1_digit_0 : cX1_digit.data.toList.drop 0 = dktX1_digit_0 := by decide +kernel
theorem dksX1_digit_1 : cX1_digit.data.toList.drop 24 = dktX1_digit_1 := dk_seg dksX1_digit_0 24 rfl rfl
theorem dksX1_digit_2 : cX1_digit.data.toList.drop 48 = dktX1_digit_2 := dk_seg dksX1_digit_1 24 rfl rfl
theorem dX1_digit_0 : decode cX1_digit 0 = .ok (.aload_n 0, 1) := dk_42 (dk_at dksX1_digit_0 0 rfl rfl)
theorem dX1_digit_1 : decode cX1_digit 1 = .ok (.getfield 74, 3) := dk_180 0 74 (dk_at dksX1_digit_0 1 rfl rfl)
theorem dX1_digit_4 : decode cX1_digit 4 = .ok (.iload_n 1, 1) := dk_27 (dk_at dksX1_digit_0 4 rfl rfl)
theorem dX1_digit_5 : decode cX1_digit 5 = .ok (.if_icmp .ge 26, 3) := dk_162 0 26 (dk_at dksX1_digit_0 5 rfl rfl)
theorem dX1_digit_8 : decode cX1_digit 8 = .ok (.aload_n 0, 1) := dk_42 (dk_at dksX1_digit_0 8 rfl rfl)
theorem dX1_digit_9 : decode cX1_digit 9 = .ok (.getfield 16, 3) := dk_180 0 16 (dk_at dksX1_digit_0 9 rfl rfl)
theorem dX1_digit_12 : decode cX1_digit 12 = .ok (.aload_n 0, 1) := dk_42 (dk_at dksX1_digit_0 12 rfl rfl)
theorem dX1_digit_13 : decode cX1_digit 13 = .ok (.getfield 74, 3) := dk_180 0 74 (dk_at dksX1_digit_0 13 rfl rfl)
theorem dX1_digit_16 : decode cX1_digit 16 = .ok (.iaload, 1) := dk_46 (dk_at dksX1_digit_0 16 rfl rfl)
theorem dX1_digit_17 : decode cX1_digit 17 = .ok (.bipush 48, 2) := dk_16 48 (dk_at dksX1_digit_0 17 rfl rfl)
theorem dX1_digit_19 : decode cX1_digit 19 = .ok (.iload_n 2, 1) := dk_28 (dk_at dksX1_digit_0 19 rfl rfl)
theorem dX1_digit_20 : decode cX1_digit 20 = .ok (.iadd, 1) := dk_96 (dk_at dksX1_digit_0 20 rfl rfl)
theorem dX1_digit_21 : decode cX1_digit 21 = .ok (.bipush 48, 2) := dk_16 48 (dk_at dksX1_digit_0 21 rfl rfl)
theorem dX1_digit_23 : decode cX1_digit 23 = .ok (.iload_n 3, 1) := dk_29 (dk_at dksX1_digit_0 23 rfl rfl)
theorem dX1_digit_24 : decode cX1_digit 24 = .ok (.iadd, 1) := dk_96 (dk_at dksX1_digit_1 0 rfl rfl)
theorem dX1_digit_25 : decode cX1_digit 25 = .ok (.invokestatic 67, 3) := dk_184 0 67 (dk_at dksX1_digit_1 1 rfl rfl)
theorem dX1_digit_28 : decode cX1_digit 28 = .ok (.ifCond .ne 6, 3) := dk_154 0 6 (dk_at dksX1_digit_1 4 rfl rfl)
theorem dX1_digit_31 : decode cX1_digit 31 = .ok (.bipush (-9), 2) := dk_16 247 (dk_at dksX1_digit_1 7 rfl rfl)
theorem dX1_digit_33 : decode cX1_digit 33 = .ok (.ireturn, 1) := dk_172 (dk_at dksX1_digit_1 9 rfl rfl)
theorem dX1_digit_34 : decode cX1_digit 34 = .ok (.aload_n 0, 1) := dk_42 (dk_at dksX1_digit_1 10 rfl rfl)
theorem dX1_digit_35 : decode cX1_digit 35 = .ok (.dup, 1) := dk_89 (dk_at dksX1_digit_1 11 rfl rfl)
theorem dX1_digit_36 : decode cX1_digit 36 = .ok (.getfield 74, 3) := dk_180 0 74 (dk_at dksX1_digit_1 12 rfl rfl)
theorem dX1_digit_39 : decode cX1_digit 39 = .ok (.iconst 1, 1) := dk_4 (dk_at dksX1_digit_1 15 rfl rfl)
theorem dX1_digit_40 : decode cX1_digit 40 = .ok (.iadd, 1) := dk_96 (dk_at dksX1_digit_1 16 rfl rfl)
theorem dX1_digit_41 : decode cX1_digit 41 = .ok (.putfield 74, 3) := dk_181 0 74 (dk_at dksX1_digit_1 17 rfl rfl)
theorem dX1_digit_44 : decode cX1_digit 44 = .ok (.aload_n 0, 1) := dk_42 (dk_at dksX1_digit_1 20 rfl rfl)
theorem dX1_digit_45 : decode cX1_digit 45 = .ok (.getfield 16, 3) := dk_180 0 16 (dk_at dksX1_digit_1 21 rfl rfl)
theorem dX1_digit_48 : decode cX1_digit 48 = .ok (.aload_n 0, 1) := dk_42 (dk_at dksX1_digit_2 0 rfl rfl)
theorem dX1_digit_49 : decode cX1_digit 49 = .ok (.getfield 74, 3) := dk_180 0 74 (dk_at dksX1_digit_2 1 rfl rfl)
theorem dX1_digit_52 : decode cX1_digit 52 = .ok (.iconst 1, 1) := dk_4 (dk_at dksX1_digit_2 4 rfl rfl)
theorem dX1_digit_53 : decode cX1_digit 53 = .ok (.isub, 1) := dk_100 (dk_at dksX1_digit_2 5 rfl rfl)
theorem dX1_digit_54 : decode cX1_digit 54 = .ok (.iaload, 1) := dk_46 (dk_at dksX1_digit_2 6 rfl rfl)
theorem dX1_digit_55 : decode cX1_digit 55 = .ok (.bipush 48, 2) := dk_16 48 (dk_at dksX1_digit_2 7 rfl rfl)
theorem dX1_digit_57 : decode cX1_digit 57 = .ok (.isub, 1) := dk_100 (dk_at dksX1_digit_2 9 rfl rfl)
theorem dX1_digit_58 : decode cX1_digit 58 = .ok (.ireturn, 1) := dk_172 (dk_at dksX1_digit_2 10 rfl rfl)
abbrev cX1_readSet : ByteArray := prog_15_method_14_code
def yX1_readSet : MethodName := ⟨RX1, "readSet", "(I)I"⟩
def dkwX1_readSet_3 : List UInt8 := [16, 247, 160, 0, 8, 16, 247, 167, 0, 15, 16, 100, 28, 104, 16, 10, 29, 104, 96, 21, 4, 96, 172]
abbrev dktX1_readSet_3 : List UInt8 := dkwX1_readSet_3 ++ []
def dkwX1_readSet_2 : List UInt8 := [3, 28, 5, 160, 0, 12, 29, 8, 160, 0, 7, 8, 167, 0, 5, 16, 9, 182, 0, 77, 54, 4, 21, 4]
abbrev dktX1_readSet_2 : List UInt8 := dkwX1_readSet_2 ++ dktX1_readSet_3
def dkwX1_readSet_1 : List UInt8 := [160, 0, 7, 8, 167, 0, 5, 16, 9, 182, 0, 77, 62, 29, 16, 247, 160, 0, 6, 16, 247, 172, 42, 27]
abbrev dktX1_readSet_1 : List UInt8 := dkwX1_readSet_1 ++ dktX1_readSet_2
def dkwX1_readSet_0 : List UInt8 := [42, 27, 3, 5, 182, 0, 77, 61, 28, 16, 247, 160, 0, 6, 16, 247, 172, 42, 27, 3, 28, 5]
abbrev dktX1_readSet_0 : List UInt8 := dkwX1_readSet_0 ++ dktX1_readSet_1
theorem dksX1_readSet_0 : cX1_readSet.data.toList.drop 0 = dktX1_readSet_0 := by decide +kernel
theorem dksX1_readSet_1 : cX1_readSet.data.toList.drop 22 = dktX1_readSet_1 := dk_seg dksX1_readSet_0 22 rfl rfl
theorem dksX1_readSet_2 : cX1_readSet.data.toList.drop 46 = dktX1_readSet_2 := dk_seg dksX1_readSet_1 24 rfl rfl
theorem dksX1_readSet_3 : cX1_readSet.data.toList.drop 70 = dktX1_readSet_3 := dk_seg dksX1_readSet_2 24 rfl rfl
theorem dX1_readSet_0 : decode cX1_readSet 0 = .ok (.aload_n 0, 1) := dk_42 (dk_at dksX1_readSet_0 0 rfl rfl)
theorem dX1_readSet_1 : decode cX1_readSet 1 = .ok (.iload_n 1, 1) := dk_27 (dk_at dksX1_readSet_0 1 rfl rfl)
theorem dX1_readSet_2 : decode cX1_readSet 2 = .ok (.iconst 0, 1) := dk_3 (dk_at dksX1_readSet_0 2 rfl rfl)
theorem dX1_readSet_3 : decode cX1_readSet 3 = .ok (.iconst 2, 1) := dk_5 (dk_at dksX1_readSet_0 3 rfl rfl)
theorem dX1_readSet_4 : decode cX1_readSet 4 = .ok (.invokevirtual 77, 3) := dk_182 0 77 (dk_at dksX1_readSet_0 4 rfl rfl)
theorem dX1_readSet_7 : decode cX1_readSet 7 = .ok (.istore_n 2, 1) := dk_61 (dk_at dksX1_readSet_0 7 rfl rfl)
theorem dX1_readSet_8 : decode cX1_readSet 8 = .ok (.iload_n 2, 1) := dk_28 (dk_at dksX1_readSet_0 8 rfl rfl)
theorem dX1_readSet_9 : decode cX1_readSet 9 = .ok (.bipush (-9), 2) := dk_16 247 (dk_at dksX1_readSet_0 9 rfl rfl)
theorem dX1_readSet_11 : decode cX1_readSet 11 = .ok (.if_icmp .ne 6, 3) := dk_160 0 6 (dk_at dksX1_readSet_0 11 rfl rfl)
theorem dX1_readSet_14 : decode cX1_readSet 14 = .ok (.bipush (-9), 2) := dk_16 247 (dk_at dksX1_readSet_0 14 rfl rfl)
theorem dX1_readSet_16 : decode cX1_readSet 16 = .ok (.ireturn, 1) := dk_172 (dk_at dksX1_readSet_0 16 rfl rfl)
theorem dX1_readSet_17 : decode cX1_readSet 17 = .ok (.aload_n 0, 1) := dk_42 (dk_at dksX1_readSet_0 17 rfl rfl)
theorem dX1_readSet_18 : decode cX1_readSet 18 = .ok (.iload_n 1, 1) := dk_27 (dk_at dksX1_readSet_0 18 rfl rfl)
theorem dX1_readSet_19 : decode cX1_readSet 19 = .ok (.iconst 0, 1) := dk_3 (dk_at dksX1_readSet_0 19 rfl rfl)
theorem dX1_readSet_20 : decode cX1_readSet 20 = .ok (.iload_n 2, 1) := dk_28 (dk_at dksX1_readSet_0 20 rfl rfl)
theorem dX1_readSet_21 : decode cX1_readSet 21 = .ok (.iconst 2, 1) := dk_5 (dk_at dksX1_readSet_0 21 rfl rfl)
theorem dX1_readSet_22 : decode cX1_readSet 22 = .ok (.if_icmp .ne 7, 3) := dk_160 0 7 (dk_at dksX1_readSet_1 0 rfl rfl)
theorem dX1_readSet_25 : decode cX1_readSet 25 = .ok (.iconst 5, 1) := dk_8 (dk_at dksX1_readSet_1 3 rfl rfl)
theorem dX1_readSet_26 : decode cX1_readSet 26 = .ok (.goto 5, 3) := dk_167 0 5 (dk_at dksX1_readSet_1 4 rfl rfl)
theorem dX1_readSet_29 : decode cX1_readSet 29 = .ok (.bipush 9, 2) := dk_16 9 (dk_at dksX1_readSet_1 7 rfl rfl)
theorem dX1_readSet_31 : decode cX1_readSet 31 = .ok (.invokevirtual 77, 3) := dk_182 0 77 (dk_at dksX1_readSet_1 9 rfl rfl)
theorem dX1_readSet_34 : decode cX1_readSet 34 = .ok (.istore_n 3, 1) := dk_62 (dk_at dksX1_readSet_1 12 rfl rfl)
theorem dX1_readSet_35 : decode cX1_readSet 35 = .ok (.iload_n 3, 1) := dk_29 (dk_at dksX1_readSet_1 13 rfl rfl)
theorem dX1_readSet_36 : decode cX1_readSet 36 = .ok (.bipush (-9), 2) := dk_16 247 (dk_at dksX1_readSet_1 14 rfl rfl)
theorem dX1_readSet_38 : decode cX1_readSet 38 = .ok (.if_icmp .ne 6, 3) := dk_160 0 6 (dk_at dksX1_readSet_1 16 rfl rfl)
theorem dX1_readSet_41 : decode cX1_readSet 41 = .ok (.bipush (-9), 2) := dk_16 247 (dk_at dksX1_readSet_1 19 rfl rfl)
theorem dX1_readSet_43 : decode cX1_readSet 43 = .ok (.ireturn, 1) := dk_172 (dk_at dksX1_readSet_1 21 rfl rfl)
theorem dX1_readSet_44 : decode cX1_readSet 44 = .ok (.aload_n 0, 1) := dk_42 (dk_at dksX1_readSet_1 22 rfl rfl)
theorem dX1_readSet_45 : decode cX1_readSet 45 = .ok (.iload_n 1, 1) := dk_27 (dk_at dksX1_readSet_1 23 rfl rfl)
theorem dX1_readSet_46 : decode cX1_readSet 46 = .ok (.iconst 0, 1) := dk_3 (dk_at dksX1_readSet_2 0 rfl rfl)
theorem dX1_readSet_47 : decode cX1_readSet 47 = .ok (.iload_n 2, 1) := dk_28 (dk_at dksX1_readSet_2 1 rfl rfl)
theorem dX1_readSet_48 : decode cX1_readSet 48 = .ok (.iconst 2, 1) := dk_5 (dk_at dksX1_readSet_2 2 rfl rfl)
theorem dX1_readSet_49 : decode cX1_readSet 49 = .ok (.if_icmp .ne 12, 3) := dk_160 0 12 (dk_at dksX1_readSet_2 3 rfl rfl)
theorem dX1_readSet_52 : decode cX1_readSet 52 = .ok (.iload_n 3, 1) := dk_29 (dk_at dksX1_readSet_2 6 rfl rfl)
theorem dX1_readSet_53 : decode cX1_readSet 53 = .ok (.iconst 5, 1) := dk_8 (dk_at dksX1_readSet_2 7 rfl rfl)
theorem dX1_readSet_54 : decode cX1_readSet 54 = .ok (.if_icmp .ne 7, 3) := dk_160 0 7 (dk_at dksX1_readSet_2 8 rfl rfl)
theorem dX1_readSet_57 : decode cX1_readSet 57 = .ok (.iconst 5, 1) := dk_8 (dk_at dksX1_readSet_2 11 rfl rfl)
theorem dX1_readSet_58 : decode cX1_readSet 58 = .ok (.goto 5, 3) := dk_167 0 5 (dk_at dksX1_readSet_2 12 rfl rfl)
theorem dX1_readSet_61 : decode cX1_readSet 61 = .ok (.bipush 9, 2) := dk_16 9 (dk_at dksX1_readSet_2 15 rfl rfl)
theorem dX1_readSet_63 : decode cX1_readSet 63 = .ok (.invokevirtual 77, 3) := dk_182 0 77 (dk_at dksX1_readSet_2 17 rfl rfl)
theorem dX1_readSet_66 : decode cX1_readSet 66 = .ok (.istore 4, 2) := dk_54 4 (dk_at dksX1_readSet_2 20 rfl rfl)
theorem dX1_readSet_68 : decode cX1_readSet 68 = .ok (.iload 4, 2) := dk_21 4 (dk_at dksX1_readSet_2 22 rfl rfl)
theorem dX1_readSet_70 : decode cX1_readSet 70 = .ok (.bipush (-9), 2) := dk_16 247 (dk_at dksX1_readSet_3 0 rfl rfl)
theorem dX1_readSet_72 : decode cX1_readSet 72 = .ok (.if_icmp .ne 8, 3) := dk_160 0 8 (dk_at dksX1_readSet_3 2 rfl rfl)
theorem dX1_readSet_75 : decode cX1_readSet 75 = .ok (.bipush (-9), 2) := dk_16 247 (dk_at dksX1_readSet_3 5 rfl rfl)
theorem dX1_readSet_77 : decode cX1_readSet 77 = .ok (.goto 15, 3) := dk_167 0 15 (dk_at dksX1_readSet_3 7 rfl rfl)
theorem dX1_readSet_80 : decode cX1_readSet 80 = .ok (.bipush 100, 2) := dk_16 100 (dk_at dksX1_readSet_3 10 rfl rfl)
theorem dX1_readSet_82 : decode cX1_readSet 82 = .ok (.iload_n 2, 1) := dk_28 (dk_at dksX1_readSet_3 12 rfl rfl)
theorem dX1_readSet_83 : decode cX1_readSet 83 = .ok (.imul, 1) := dk_104 (dk_at dksX1_readSet_3 13 rfl rfl)
theorem dX1_readSet_84 : decode cX1_readSet 84 = .ok (.bipush 10, 2) := dk_16 10 (dk_at dksX1_readSet_3 14 rfl rfl)
theorem dX1_readSet_86 : decode cX1_readSet 86 = .ok (.iload_n 3, 1) := dk_29 (dk_at dksX1_readSet_3 16 rfl rfl)
theorem dX1_readSet_87 : decode cX1_readSet 87 = .ok (.imul, 1) := dk_104 (dk_at dksX1_readSet_3 17 rfl rfl)
theorem dX1_readSet_88 : decode cX1_readSet 88 = .ok (.iadd, 1) := dk_96 (dk_at dksX1_readSet_3 18 rfl rfl)
theorem dX1_readSet_89 : decode cX1_readSet 89 = .ok (.iload 4, 2) := dk_21 4 (dk_at dksX1_readSet_3 19 rfl rfl)
theorem dX1_readSet_91 : decode cX1_readSet 91 = .ok (.iadd, 1) := dk_96 (dk_at dksX1_readSet_3 21 rfl rfl)
theorem dX1_readSet_92 : decode cX1_readSet 92 = .ok (.ireturn, 1) := dk_172 (dk_at dksX1_readSet_3 22 rfl rfl)
abbrev cX1_readPass : ByteArray := prog_15_method_18_code
def yX1_readPass : MethodName := ⟨RX1, "readPass", "(I)Z"⟩
def dkwX1_readPass_10 : List UInt8 := [180, 0, 50, 28, 7, 96, 46, 16, 247, 159, 0, 7, 4, 167, 0, 4, 3, 172]
abbrev dktX1_readPass_10 : List UInt8 := dkwX1_readPass_10 ++ []
def dkwX1_readPass_9 : List UInt8 := [28, 7, 96, 42, 27, 3, 16, 9, 182, 0, 77, 79, 42, 89, 180, 0, 102, 4, 96, 181, 0, 102, 42]
abbrev dktX1_readPass_9 : List UInt8 := dkwX1_readPass_9 ++ dktX1_readPass_10
def dkwX1_readPass_8 : List UInt8 := [6, 182, 0, 77, 79, 42, 180, 0, 50, 28, 6, 96, 46, 16, 247, 160, 0, 5, 3, 172, 42, 180, 0, 50]
abbrev dktX1_readPass_8 : List UInt8 := dkwX1_readPass_8 ++ dktX1_readPass_9
def dkwX1_readPass_7 : List UInt8 := [180, 0, 50, 28, 5, 96, 46, 16, 247, 160, 0, 5, 3, 172, 42, 180, 0, 50, 28, 6, 96, 42, 27, 4]
abbrev dktX1_readPass_7 : List UInt8 := dkwX1_readPass_7 ++ dktX1_readPass_8
def dkwX1_readPass_6 : List UInt8 := [4, 96, 46, 160, 0, 5, 3, 172, 42, 180, 0, 50, 28, 5, 96, 42, 27, 3, 5, 182, 0, 77, 79, 42]
abbrev dktX1_readPass_6 : List UInt8 := dkwX1_readPass_6 ++ dktX1_readPass_7
def dkwX1_readPass_5 : List UInt8 := [180, 0, 74, 27, 162, 0, 28, 42, 180, 0, 16, 42, 180, 0, 74, 46, 16, 48, 100, 42, 180, 0, 50, 28]
abbrev dktX1_readPass_5 : List UInt8 := dkwX1_readPass_5 ++ dktX1_readPass_6
def dkwX1_readPass_4 : List UInt8 := [4, 96, 42, 27, 3, 5, 182, 0, 77, 79, 42, 180, 0, 50, 28, 4, 96, 46, 16, 247, 159, 0, 34, 42]
abbrev dktX1_readPass_4 : List UInt8 := dkwX1_readPass_4 ++ dktX1_readPass_5
def dkwX1_readPass_3 : List UInt8 := [28, 46, 16, 247, 160, 0, 5, 3, 172, 42, 89, 180, 0, 74, 4, 96, 181, 0, 74, 42, 180, 0, 50, 28]
abbrev dktX1_readPass_3 : List UInt8 := dkwX1_readPass_3 ++ dktX1_readPass_4
def dkwX1_readPass_2 : List UInt8 := [160, 0, 7, 4, 167, 0, 15, 29, 16, 116, 160, 0, 7, 5, 167, 0, 5, 16, 247, 79, 42, 180, 0, 50]
abbrev dktX1_readPass_2 : List UInt8 := dkwX1_readPass_2 ++ dktX1_readPass_3
def dkwX1_readPass_1 : List UInt8 := [167, 0, 4, 3, 62, 42, 180, 0, 50, 28, 29, 16, 112, 160, 0, 7, 3, 167, 0, 25, 29, 16, 115]
abbrev dktX1_readPass_1 : List UInt8 := dkwX1_readPass_1 ++ dktX1_readPass_2
def dkwX1_readPass_0 : List UInt8 := [8, 42, 180, 0, 102, 104, 61, 42, 180, 0, 74, 27, 162, 0, 15, 42, 180, 0, 16, 42, 180, 0, 74, 46]
abbrev dktX1_readPass_0 : List UInt8 := dkwX1_readPass_0 ++ dktX1_readPass_1
theorem dksX1_readPass_0 : cX1_readPass.data.toList.drop 0 = dktX1_readPass_0 := by decide +kernel
theorem dksX1_readPass_1 : cX1_readPass.data.toList.drop 24 = dktX1_readPass_1 := dk_seg dksX1_readPass_0 24 rfl rfl
theorem dksX1_readPass_2 : cX1_readPass.data.toList.drop 47 = dktX1_readPass_2 := dk_seg dksX1_readPass_1 23 rfl rfl
theorem dksX1_readPass_3 : cX1_readPass.data.toList.drop 71 = dktX1_readPass_3 := dk_seg dksX1_readPass_2 24 rfl rfl
theorem dksX1_readPass_4 : cX1_readPass.data.toList.drop 95 = dktX1_readPass_4 := dk_seg dksX1_readPass_3 24 rfl rfl
theorem dksX1_readPass_5 : cX1_readPass.data.toList.drop 119 = dktX1_readPass_5 := dk_seg dksX1_readPass_4 24 rfl rfl
theorem dksX1_readPass_6 : cX1_readPass.data.toList.drop 143 = dktX1_readPass_6 := dk_seg dksX1_readPass_5 24 rfl rfl
theorem dksX1_readPass_7 : cX1_readPass.data.toList.drop 167 = dktX1_readPass_7 := dk_seg dksX1_readPass_6 24 rfl rfl
theorem dksX1_readPass_8 : cX1_readPass.data.toList.drop 191 = dktX1_readPass_8 := dk_seg dksX1_readPass_7 24 rfl rfl
theorem dksX1_readPass_9 : cX1_readPass.data.toList.drop 215 = dktX1_readPass_9 := dk_seg dksX1_readPass_8 24 rfl rfl
theorem dksX1_readPass_10 : cX1_readPass.data.toList.drop 238 = dktX1_readPass_10 := dk_seg dksX1_readPass_9 23 rfl rfl
theorem dX1_readPass_0 : decode cX1_readPass 0 = .ok (.iconst 5, 1) := dk_8 (dk_at dksX1_readPass_0 0 rfl rfl)
theorem dX1_readPass_1 : decode cX1_readPass 1 = .ok (.aload_n 0, 1) := dk_42 (dk_at dksX1_readPass_0 1 rfl rfl)
theorem dX1_readPass_2 : decode cX1_readPass 2 = .ok (.getfield 102, 3) := dk_180 0 102 (dk_at dksX1_readPass_0 2 rfl rfl)
theorem dX1_readPass_5 : decode cX1_readPass 5 = .ok (.imul, 1) := dk_104 (dk_at dksX1_readPass_0 5 rfl rfl)
theorem dX1_readPass_6 : decode cX1_readPass 6 = .ok (.istore_n 2, 1) := dk_61 (dk_at dksX1_readPass_0 6 rfl rfl)
theorem dX1_readPass_7 : decode cX1_readPass 7 = .ok (.aload_n 0, 1) := dk_42 (dk_at dksX1_readPass_0 7 rfl rfl)
theorem dX1_readPass_8 : decode cX1_readPass 8 = .ok (.getfield 74, 3) := dk_180 0 74 (dk_at dksX1_readPass_0 8 rfl rfl)
theorem dX1_readPass_11 : decode cX1_readPass 11 = .ok (.iload_n 1, 1) := dk_27 (dk_at dksX1_readPass_0 11 rfl rfl)
theorem dX1_readPass_12 : decode cX1_readPass 12 = .ok (.if_icmp .ge 15, 3) := dk_162 0 15 (dk_at dksX1_readPass_0 12 rfl rfl)
theorem dX1_readPass_15 : decode cX1_readPass 15 = .ok (.aload_n 0, 1) := dk_42 (dk_at dksX1_readPass_0 15 rfl rfl)
theorem dX1_readPass_16 : decode cX1_readPass 16 = .ok (.getfield 16, 3) := dk_180 0 16 (dk_at dksX1_readPass_0 16 rfl rfl)
theorem dX1_readPass_19 : decode cX1_readPass 19 = .ok (.aload_n 0, 1) := dk_42 (dk_at dksX1_readPass_0 19 rfl rfl)
theorem dX1_readPass_20 : decode cX1_readPass 20 = .ok (.getfield 74, 3) := dk_180 0 74 (dk_at dksX1_readPass_0 20 rfl rfl)
theorem dX1_readPass_23 : decode cX1_readPass 23 = .ok (.iaload, 1) := dk_46 (dk_at dksX1_readPass_0 23 rfl rfl)
theorem dX1_readPass_24 : decode cX1_readPass 24 = .ok (.goto 4, 3) := dk_167 0 4 (dk_at dksX1_readPass_1 0 rfl rfl)
theorem dX1_readPass_27 : decode cX1_readPass 27 = .ok (.iconst 0, 1) := dk_3 (dk_at dksX1_readPass_1 3 rfl rfl)
theorem dX1_readPass_28 : decode cX1_readPass 28 = .ok (.istore_n 3, 1) := dk_62 (dk_at dksX1_readPass_1 4 rfl rfl)
theorem dX1_readPass_29 : decode cX1_readPass 29 = .ok (.aload_n 0, 1) := dk_42 (dk_at dksX1_readPass_1 5 rfl rfl)
theorem dX1_readPass_30 : decode cX1_readPass 30 = .ok (.getfield 50, 3) := dk_180 0 50 (dk_at dksX1_readPass_1 6 rfl rfl)
theorem dX1_readPass_33 : decode cX1_readPass 33 = .ok (.iload_n 2, 1) := dk_28 (dk_at dksX1_readPass_1 9 rfl rfl)
theorem dX1_readPass_34 : decode cX1_readPass 34 = .ok (.iload_n 3, 1) := dk_29 (dk_at dksX1_readPass_1 10 rfl rfl)
theorem dX1_readPass_35 : decode cX1_readPass 35 = .ok (.bipush 112, 2) := dk_16 112 (dk_at dksX1_readPass_1 11 rfl rfl)
theorem dX1_readPass_37 : decode cX1_readPass 37 = .ok (.if_icmp .ne 7, 3) := dk_160 0 7 (dk_at dksX1_readPass_1 13 rfl rfl)
theorem dX1_readPass_40 : decode cX1_readPass 40 = .ok (.iconst 0, 1) := dk_3 (dk_at dksX1_readPass_1 16 rfl rfl)
theorem dX1_readPass_41 : decode cX1_readPass 41 = .ok (.goto 25, 3) := dk_167 0 25 (dk_at dksX1_readPass_1 17 rfl rfl)
theorem dX1_readPass_44 : decode cX1_readPass 44 = .ok (.iload_n 3, 1) := dk_29 (dk_at dksX1_readPass_1 20 rfl rfl)
theorem dX1_readPass_45 : decode cX1_readPass 45 = .ok (.bipush 115, 2) := dk_16 115 (dk_at dksX1_readPass_1 21 rfl rfl)
theorem dX1_readPass_47 : decode cX1_readPass 47 = .ok (.if_icmp .ne 7, 3) := dk_160 0 7 (dk_at dksX1_readPass_2 0 rfl rfl)
theorem dX1_readPass_50 : decode cX1_readPass 50 = .ok (.iconst 1, 1) := dk_4 (dk_at dksX1_readPass_2 3 rfl rfl)
theorem dX1_readPass_51 : decode cX1_readPass 51 = .ok (.goto 15, 3) := dk_167 0 15 (dk_at dksX1_readPass_2 4 rfl rfl)
theorem dX1_readPass_54 : decode cX1_readPass 54 = .ok (.iload_n 3, 1) := dk_29 (dk_at dksX1_readPass_2 7 rfl rfl)
theorem dX1_readPass_55 : decode cX1_readPass 55 = .ok (.bipush 116, 2) := dk_16 116 (dk_at dksX1_readPass_2 8 rfl rfl)
theorem dX1_readPass_57 : decode cX1_readPass 57 = .ok (.if_icmp .ne 7, 3) := dk_160 0 7 (dk_at dksX1_readPass_2 10 rfl rfl)
theorem dX1_readPass_60 : decode cX1_readPass 60 = .ok (.iconst 2, 1) := dk_5 (dk_at dksX1_readPass_2 13 rfl rfl)
theorem dX1_readPass_61 : decode cX1_readPass 61 = .ok (.goto 5, 3) := dk_167 0 5 (dk_at dksX1_readPass_2 14 rfl rfl)
theorem dX1_readPass_64 : decode cX1_readPass 64 = .ok (.bipush (-9), 2) := dk_16 247 (dk_at dksX1_readPass_2 17 rfl rfl)
theorem dX1_readPass_66 : decode cX1_readPass 66 = .ok (.iastore, 1) := dk_79 (dk_at dksX1_readPass_2 19 rfl rfl)
theorem dX1_readPass_67 : decode cX1_readPass 67 = .ok (.aload_n 0, 1) := dk_42 (dk_at dksX1_readPass_2 20 rfl rfl)
theorem dX1_readPass_68 : decode cX1_readPass 68 = .ok (.getfield 50, 3) := dk_180 0 50 (dk_at dksX1_readPass_2 21 rfl rfl)
theorem dX1_readPass_71 : decode cX1_readPass 71 = .ok (.iload_n 2, 1) := dk_28 (dk_at dksX1_readPass_3 0 rfl rfl)
theorem dX1_readPass_72 : decode cX1_readPass 72 = .ok (.iaload, 1) := dk_46 (dk_at dksX1_readPass_3 1 rfl rfl)
theorem dX1_readPass_73 : decode cX1_readPass 73 = .ok (.bipush (-9), 2) := dk_16 247 (dk_at dksX1_readPass_3 2 rfl rfl)
theorem dX1_readPass_75 : decode cX1_readPass 75 = .ok (.if_icmp .ne 5, 3) := dk_160 0 5 (dk_at dksX1_readPass_3 4 rfl rfl)
theorem dX1_readPass_78 : decode cX1_readPass 78 = .ok (.iconst 0, 1) := dk_3 (dk_at dksX1_readPass_3 7 rfl rfl)
theorem dX1_readPass_79 : decode cX1_readPass 79 = .ok (.ireturn, 1) := dk_172 (dk_at dksX1_readPass_3 8 rfl rfl)
theorem dX1_readPass_80 : decode cX1_readPass 80 = .ok (.aload_n 0, 1) := dk_42 (dk_at dksX1_readPass_3 9 rfl rfl)
theorem dX1_readPass_81 : decode cX1_readPass 81 = .ok (.dup, 1) := dk_89 (dk_at dksX1_readPass_3 10 rfl rfl)
theorem dX1_readPass_82 : decode cX1_readPass 82 = .ok (.getfield 74, 3) := dk_180 0 74 (dk_at dksX1_readPass_3 11 rfl rfl)
theorem dX1_readPass_85 : decode cX1_readPass 85 = .ok (.iconst 1, 1) := dk_4 (dk_at dksX1_readPass_3 14 rfl rfl)
theorem dX1_readPass_86 : decode cX1_readPass 86 = .ok (.iadd, 1) := dk_96 (dk_at dksX1_readPass_3 15 rfl rfl)
theorem dX1_readPass_87 : decode cX1_readPass 87 = .ok (.putfield 74, 3) := dk_181 0 74 (dk_at dksX1_readPass_3 16 rfl rfl)
theorem dX1_readPass_90 : decode cX1_readPass 90 = .ok (.aload_n 0, 1) := dk_42 (dk_at dksX1_readPass_3 19 rfl rfl)
theorem dX1_readPass_91 : decode cX1_readPass 91 = .ok (.getfield 50, 3) := dk_180 0 50 (dk_at dksX1_readPass_3 20 rfl rfl)
theorem dX1_readPass_94 : decode cX1_readPass 94 = .ok (.iload_n 2, 1) := dk_28 (dk_at dksX1_readPass_3 23 rfl rfl)
theorem dX1_readPass_95 : decode cX1_readPass 95 = .ok (.iconst 1, 1) := dk_4 (dk_at dksX1_readPass_4 0 rfl rfl)
theorem dX1_readPass_96 : decode cX1_readPass 96 = .ok (.iadd, 1) := dk_96 (dk_at dksX1_readPass_4 1 rfl rfl)
theorem dX1_readPass_97 : decode cX1_readPass 97 = .ok (.aload_n 0, 1) := dk_42 (dk_at dksX1_readPass_4 2 rfl rfl)
theorem dX1_readPass_98 : decode cX1_readPass 98 = .ok (.iload_n 1, 1) := dk_27 (dk_at dksX1_readPass_4 3 rfl rfl)
theorem dX1_readPass_99 : decode cX1_readPass 99 = .ok (.iconst 0, 1) := dk_3 (dk_at dksX1_readPass_4 4 rfl rfl)
theorem dX1_readPass_100 : decode cX1_readPass 100 = .ok (.iconst 2, 1) := dk_5 (dk_at dksX1_readPass_4 5 rfl rfl)
theorem dX1_readPass_101 : decode cX1_readPass 101 = .ok (.invokevirtual 77, 3) := dk_182 0 77 (dk_at dksX1_readPass_4 6 rfl rfl)
theorem dX1_readPass_104 : decode cX1_readPass 104 = .ok (.iastore, 1) := dk_79 (dk_at dksX1_readPass_4 9 rfl rfl)
theorem dX1_readPass_105 : decode cX1_readPass 105 = .ok (.aload_n 0, 1) := dk_42 (dk_at dksX1_readPass_4 10 rfl rfl)
theorem dX1_readPass_106 : decode cX1_readPass 106 = .ok (.getfield 50, 3) := dk_180 0 50 (dk_at dksX1_readPass_4 11 rfl rfl)
theorem dX1_readPass_109 : decode cX1_readPass 109 = .ok (.iload_n 2, 1) := dk_28 (dk_at dksX1_readPass_4 14 rfl rfl)
theorem dX1_readPass_110 : decode cX1_readPass 110 = .ok (.iconst 1, 1) := dk_4 (dk_at dksX1_readPass_4 15 rfl rfl)
theorem dX1_readPass_111 : decode cX1_readPass 111 = .ok (.iadd, 1) := dk_96 (dk_at dksX1_readPass_4 16 rfl rfl)
theorem dX1_readPass_112 : decode cX1_readPass 112 = .ok (.iaload, 1) := dk_46 (dk_at dksX1_readPass_4 17 rfl rfl)
theorem dX1_readPass_113 : decode cX1_readPass 113 = .ok (.bipush (-9), 2) := dk_16 247 (dk_at dksX1_readPass_4 18 rfl rfl)
theorem dX1_readPass_115 : decode cX1_readPass 115 = .ok (.if_icmp .eq 34, 3) := dk_159 0 34 (dk_at dksX1_readPass_4 20 rfl rfl)
theorem dX1_readPass_118 : decode cX1_readPass 118 = .ok (.aload_n 0, 1) := dk_42 (dk_at dksX1_readPass_4 23 rfl rfl)
theorem dX1_readPass_119 : decode cX1_readPass 119 = .ok (.getfield 74, 3) := dk_180 0 74 (dk_at dksX1_readPass_5 0 rfl rfl)
theorem dX1_readPass_122 : decode cX1_readPass 122 = .ok (.iload_n 1, 1) := dk_27 (dk_at dksX1_readPass_5 3 rfl rfl)
theorem dX1_readPass_123 : decode cX1_readPass 123 = .ok (.if_icmp .ge 28, 3) := dk_162 0 28 (dk_at dksX1_readPass_5 4 rfl rfl)
theorem dX1_readPass_126 : decode cX1_readPass 126 = .ok (.aload_n 0, 1) := dk_42 (dk_at dksX1_readPass_5 7 rfl rfl)
theorem dX1_readPass_127 : decode cX1_readPass 127 = .ok (.getfield 16, 3) := dk_180 0 16 (dk_at dksX1_readPass_5 8 rfl rfl)
theorem dX1_readPass_130 : decode cX1_readPass 130 = .ok (.aload_n 0, 1) := dk_42 (dk_at dksX1_readPass_5 11 rfl rfl)
theorem dX1_readPass_131 : decode cX1_readPass 131 = .ok (.getfield 74, 3) := dk_180 0 74 (dk_at dksX1_readPass_5 12 rfl rfl)
theorem dX1_readPass_134 : decode cX1_readPass 134 = .ok (.iaload, 1) := dk_46 (dk_at dksX1_readPass_5 15 rfl rfl)
theorem dX1_readPass_135 : decode cX1_readPass 135 = .ok (.bipush 48, 2) := dk_16 48 (dk_at dksX1_readPass_5 16 rfl rfl)
theorem dX1_readPass_137 : decode cX1_readPass 137 = .ok (.isub, 1) := dk_100 (dk_at dksX1_readPass_5 18 rfl rfl)
theorem dX1_readPass_138 : decode cX1_readPass 138 = .ok (.aload_n 0, 1) := dk_42 (dk_at dksX1_readPass_5 19 rfl rfl)
theorem dX1_readPass_139 : decode cX1_readPass 139 = .ok (.getfield 50, 3) := dk_180 0 50 (dk_at dksX1_readPass_5 20 rfl rfl)
theorem dX1_readPass_142 : decode cX1_readPass 142 = .ok (.iload_n 2, 1) := dk_28 (dk_at dksX1_readPass_5 23 rfl rfl)
theorem dX1_readPass_143 : decode cX1_readPass 143 = .ok (.iconst 1, 1) := dk_4 (dk_at dksX1_readPass_6 0 rfl rfl)
theorem dX1_readPass_144 : decode cX1_readPass 144 = .ok (.iadd, 1) := dk_96 (dk_at dksX1_readPass_6 1 rfl rfl)
theorem dX1_readPass_145 : decode cX1_readPass 145 = .ok (.iaload, 1) := dk_46 (dk_at dksX1_readPass_6 2 rfl rfl)
theorem dX1_readPass_146 : decode cX1_readPass 146 = .ok (.if_icmp .ne 5, 3) := dk_160 0 5 (dk_at dksX1_readPass_6 3 rfl rfl)
theorem dX1_readPass_149 : decode cX1_readPass 149 = .ok (.iconst 0, 1) := dk_3 (dk_at dksX1_readPass_6 6 rfl rfl)
theorem dX1_readPass_150 : decode cX1_readPass 150 = .ok (.ireturn, 1) := dk_172 (dk_at dksX1_readPass_6 7 rfl rfl)
theorem dX1_readPass_151 : decode cX1_readPass 151 = .ok (.aload_n 0, 1) := dk_42 (dk_at dksX1_readPass_6 8 rfl rfl)
theorem dX1_readPass_152 : decode cX1_readPass 152 = .ok (.getfield 50, 3) := dk_180 0 50 (dk_at dksX1_readPass_6 9 rfl rfl)
theorem dX1_readPass_155 : decode cX1_readPass 155 = .ok (.iload_n 2, 1) := dk_28 (dk_at dksX1_readPass_6 12 rfl rfl)
theorem dX1_readPass_156 : decode cX1_readPass 156 = .ok (.iconst 2, 1) := dk_5 (dk_at dksX1_readPass_6 13 rfl rfl)
theorem dX1_readPass_157 : decode cX1_readPass 157 = .ok (.iadd, 1) := dk_96 (dk_at dksX1_readPass_6 14 rfl rfl)
theorem dX1_readPass_158 : decode cX1_readPass 158 = .ok (.aload_n 0, 1) := dk_42 (dk_at dksX1_readPass_6 15 rfl rfl)
theorem dX1_readPass_159 : decode cX1_readPass 159 = .ok (.iload_n 1, 1) := dk_27 (dk_at dksX1_readPass_6 16 rfl rfl)
theorem dX1_readPass_160 : decode cX1_readPass 160 = .ok (.iconst 0, 1) := dk_3 (dk_at dksX1_readPass_6 17 rfl rfl)
theorem dX1_readPass_161 : decode cX1_readPass 161 = .ok (.iconst 2, 1) := dk_5 (dk_at dksX1_readPass_6 18 rfl rfl)
theorem dX1_readPass_162 : decode cX1_readPass 162 = .ok (.invokevirtual 77, 3) := dk_182 0 77 (dk_at dksX1_readPass_6 19 rfl rfl)
theorem dX1_readPass_165 : decode cX1_readPass 165 = .ok (.iastore, 1) := dk_79 (dk_at dksX1_readPass_6 22 rfl rfl)
theorem dX1_readPass_166 : decode cX1_readPass 166 = .ok (.aload_n 0, 1) := dk_42 (dk_at dksX1_readPass_6 23 rfl rfl)
theorem dX1_readPass_167 : decode cX1_readPass 167 = .ok (.getfield 50, 3) := dk_180 0 50 (dk_at dksX1_readPass_7 0 rfl rfl)
theorem dX1_readPass_170 : decode cX1_readPass 170 = .ok (.iload_n 2, 1) := dk_28 (dk_at dksX1_readPass_7 3 rfl rfl)
theorem dX1_readPass_171 : decode cX1_readPass 171 = .ok (.iconst 2, 1) := dk_5 (dk_at dksX1_readPass_7 4 rfl rfl)
theorem dX1_readPass_172 : decode cX1_readPass 172 = .ok (.iadd, 1) := dk_96 (dk_at dksX1_readPass_7 5 rfl rfl)
theorem dX1_readPass_173 : decode cX1_readPass 173 = .ok (.iaload, 1) := dk_46 (dk_at dksX1_readPass_7 6 rfl rfl)
theorem dX1_readPass_174 : decode cX1_readPass 174 = .ok (.bipush (-9), 2) := dk_16 247 (dk_at dksX1_readPass_7 7 rfl rfl)
theorem dX1_readPass_176 : decode cX1_readPass 176 = .ok (.if_icmp .ne 5, 3) := dk_160 0 5 (dk_at dksX1_readPass_7 9 rfl rfl)
theorem dX1_readPass_179 : decode cX1_readPass 179 = .ok (.iconst 0, 1) := dk_3 (dk_at dksX1_readPass_7 12 rfl rfl)
theorem dX1_readPass_180 : decode cX1_readPass 180 = .ok (.ireturn, 1) := dk_172 (dk_at dksX1_readPass_7 13 rfl rfl)
theorem dX1_readPass_181 : decode cX1_readPass 181 = .ok (.aload_n 0, 1) := dk_42 (dk_at dksX1_readPass_7 14 rfl rfl)
theorem dX1_readPass_182 : decode cX1_readPass 182 = .ok (.getfield 50, 3) := dk_180 0 50 (dk_at dksX1_readPass_7 15 rfl rfl)
theorem dX1_readPass_185 : decode cX1_readPass 185 = .ok (.iload_n 2, 1) := dk_28 (dk_at dksX1_readPass_7 18 rfl rfl)
theorem dX1_readPass_186 : decode cX1_readPass 186 = .ok (.iconst 3, 1) := dk_6 (dk_at dksX1_readPass_7 19 rfl rfl)
theorem dX1_readPass_187 : decode cX1_readPass 187 = .ok (.iadd, 1) := dk_96 (dk_at dksX1_readPass_7 20 rfl rfl)
theorem dX1_readPass_188 : decode cX1_readPass 188 = .ok (.aload_n 0, 1) := dk_42 (dk_at dksX1_readPass_7 21 rfl rfl)
theorem dX1_readPass_189 : decode cX1_readPass 189 = .ok (.iload_n 1, 1) := dk_27 (dk_at dksX1_readPass_7 22 rfl rfl)
theorem dX1_readPass_190 : decode cX1_readPass 190 = .ok (.iconst 1, 1) := dk_4 (dk_at dksX1_readPass_7 23 rfl rfl)
theorem dX1_readPass_191 : decode cX1_readPass 191 = .ok (.iconst 3, 1) := dk_6 (dk_at dksX1_readPass_8 0 rfl rfl)
theorem dX1_readPass_192 : decode cX1_readPass 192 = .ok (.invokevirtual 77, 3) := dk_182 0 77 (dk_at dksX1_readPass_8 1 rfl rfl)
theorem dX1_readPass_195 : decode cX1_readPass 195 = .ok (.iastore, 1) := dk_79 (dk_at dksX1_readPass_8 4 rfl rfl)
theorem dX1_readPass_196 : decode cX1_readPass 196 = .ok (.aload_n 0, 1) := dk_42 (dk_at dksX1_readPass_8 5 rfl rfl)
theorem dX1_readPass_197 : decode cX1_readPass 197 = .ok (.getfield 50, 3) := dk_180 0 50 (dk_at dksX1_readPass_8 6 rfl rfl)
theorem dX1_readPass_200 : decode cX1_readPass 200 = .ok (.iload_n 2, 1) := dk_28 (dk_at dksX1_readPass_8 9 rfl rfl)
theorem dX1_readPass_201 : decode cX1_readPass 201 = .ok (.iconst 3, 1) := dk_6 (dk_at dksX1_readPass_8 10 rfl rfl)
theorem dX1_readPass_202 : decode cX1_readPass 202 = .ok (.iadd, 1) := dk_96 (dk_at dksX1_readPass_8 11 rfl rfl)
theorem dX1_readPass_203 : decode cX1_readPass 203 = .ok (.iaload, 1) := dk_46 (dk_at dksX1_readPass_8 12 rfl rfl)
theorem dX1_readPass_204 : decode cX1_readPass 204 = .ok (.bipush (-9), 2) := dk_16 247 (dk_at dksX1_readPass_8 13 rfl rfl)
theorem dX1_readPass_206 : decode cX1_readPass 206 = .ok (.if_icmp .ne 5, 3) := dk_160 0 5 (dk_at dksX1_readPass_8 15 rfl rfl)
theorem dX1_readPass_209 : decode cX1_readPass 209 = .ok (.iconst 0, 1) := dk_3 (dk_at dksX1_readPass_8 18 rfl rfl)
theorem dX1_readPass_210 : decode cX1_readPass 210 = .ok (.ireturn, 1) := dk_172 (dk_at dksX1_readPass_8 19 rfl rfl)
theorem dX1_readPass_211 : decode cX1_readPass 211 = .ok (.aload_n 0, 1) := dk_42 (dk_at dksX1_readPass_8 20 rfl rfl)
theorem dX1_readPass_212 : decode cX1_readPass 212 = .ok (.getfield 50, 3) := dk_180 0 50 (dk_at dksX1_readPass_8 21 rfl rfl)
theorem dX1_readPass_215 : decode cX1_readPass 215 = .ok (.iload_n 2, 1) := dk_28 (dk_at dksX1_readPass_9 0 rfl rfl)
theorem dX1_readPass_216 : decode cX1_readPass 216 = .ok (.iconst 4, 1) := dk_7 (dk_at dksX1_readPass_9 1 rfl rfl)
theorem dX1_readPass_217 : decode cX1_readPass 217 = .ok (.iadd, 1) := dk_96 (dk_at dksX1_readPass_9 2 rfl rfl)
theorem dX1_readPass_218 : decode cX1_readPass 218 = .ok (.aload_n 0, 1) := dk_42 (dk_at dksX1_readPass_9 3 rfl rfl)
theorem dX1_readPass_219 : decode cX1_readPass 219 = .ok (.iload_n 1, 1) := dk_27 (dk_at dksX1_readPass_9 4 rfl rfl)
theorem dX1_readPass_220 : decode cX1_readPass 220 = .ok (.iconst 0, 1) := dk_3 (dk_at dksX1_readPass_9 5 rfl rfl)
theorem dX1_readPass_221 : decode cX1_readPass 221 = .ok (.bipush 9, 2) := dk_16 9 (dk_at dksX1_readPass_9 6 rfl rfl)
theorem dX1_readPass_223 : decode cX1_readPass 223 = .ok (.invokevirtual 77, 3) := dk_182 0 77 (dk_at dksX1_readPass_9 8 rfl rfl)
theorem dX1_readPass_226 : decode cX1_readPass 226 = .ok (.iastore, 1) := dk_79 (dk_at dksX1_readPass_9 11 rfl rfl)
theorem dX1_readPass_227 : decode cX1_readPass 227 = .ok (.aload_n 0, 1) := dk_42 (dk_at dksX1_readPass_9 12 rfl rfl)
theorem dX1_readPass_228 : decode cX1_readPass 228 = .ok (.dup, 1) := dk_89 (dk_at dksX1_readPass_9 13 rfl rfl)
theorem dX1_readPass_229 : decode cX1_readPass 229 = .ok (.getfield 102, 3) := dk_180 0 102 (dk_at dksX1_readPass_9 14 rfl rfl)
theorem dX1_readPass_232 : decode cX1_readPass 232 = .ok (.iconst 1, 1) := dk_4 (dk_at dksX1_readPass_9 17 rfl rfl)
theorem dX1_readPass_233 : decode cX1_readPass 233 = .ok (.iadd, 1) := dk_96 (dk_at dksX1_readPass_9 18 rfl rfl)
theorem dX1_readPass_234 : decode cX1_readPass 234 = .ok (.putfield 102, 3) := dk_181 0 102 (dk_at dksX1_readPass_9 19 rfl rfl)
theorem dX1_readPass_237 : decode cX1_readPass 237 = .ok (.aload_n 0, 1) := dk_42 (dk_at dksX1_readPass_9 22 rfl rfl)
theorem dX1_readPass_238 : decode cX1_readPass 238 = .ok (.getfield 50, 3) := dk_180 0 50 (dk_at dksX1_readPass_10 0 rfl rfl)
theorem dX1_readPass_241 : decode cX1_readPass 241 = .ok (.iload_n 2, 1) := dk_28 (dk_at dksX1_readPass_10 3 rfl rfl)
theorem dX1_readPass_242 : decode cX1_readPass 242 = .ok (.iconst 4, 1) := dk_7 (dk_at dksX1_readPass_10 4 rfl rfl)
theorem dX1_readPass_243 : decode cX1_readPass 243 = .ok (.iadd, 1) := dk_96 (dk_at dksX1_readPass_10 5 rfl rfl)
theorem dX1_readPass_244 : decode cX1_readPass 244 = .ok (.iaload, 1) := dk_46 (dk_at dksX1_readPass_10 6 rfl rfl)
theorem dX1_readPass_245 : decode cX1_readPass 245 = .ok (.bipush (-9), 2) := dk_16 247 (dk_at dksX1_readPass_10 7 rfl rfl)
theorem dX1_readPass_247 : decode cX1_readPass 247 = .ok (.if_icmp .eq 7, 3) := dk_159 0 7 (dk_at dksX1_readPass_10 9 rfl rfl)
theorem dX1_readPass_250 : decode cX1_readPass 250 = .ok (.iconst 1, 1) := dk_4 (dk_at dksX1_readPass_10 12 rfl rfl)
theorem dX1_readPass_251 : decode cX1_readPass 251 = .ok (.goto 4, 3) := dk_167 0 4 (dk_at dksX1_readPass_10 13 rfl rfl)
theorem dX1_readPass_254 : decode cX1_readPass 254 = .ok (.iconst 0, 1) := dk_3 (dk_at dksX1_readPass_10 16 rfl rfl)
theorem dX1_readPass_255 : decode cX1_readPass 255 = .ok (.ireturn, 1) := dk_172 (dk_at dksX1_readPass_10 17 rfl rfl)
abbrev cX1_takeLand : ByteArray := prog_15_method_16_code
def yX1_takeLand : MethodName := ⟨RX1, "takeLand", "()V"⟩
def dkwX1_takeLand_6 : List UInt8 := [8, 27, 104, 7, 96, 46, 79, 132, 1, 1, 167, 255, 167, 42, 3, 181, 0, 105, 177]
abbrev dktX1_takeLand_6 : List UInt8 := dkwX1_takeLand_6 ++ []
def dkwX1_takeLand_5 : List UInt8 := [180, 0, 34, 27, 42, 180, 0, 50, 8, 27, 104, 6, 96, 46, 79, 42, 180, 0, 37, 27, 42, 180, 0, 50]
abbrev dktX1_takeLand_5 : List UInt8 := dkwX1_takeLand_5 ++ dktX1_takeLand_6
def dkwX1_takeLand_4 : List UInt8 := [27, 104, 4, 96, 46, 79, 42, 180, 0, 31, 27, 42, 180, 0, 50, 8, 27, 104, 5, 96, 46, 79, 42]
abbrev dktX1_takeLand_4 : List UInt8 := dkwX1_takeLand_4 ++ dktX1_takeLand_5
def dkwX1_takeLand_3 : List UInt8 := [42, 180, 0, 25, 27, 42, 180, 0, 50, 8, 27, 104, 46, 79, 42, 180, 0, 28, 27, 42, 180, 0, 50, 8]
abbrev dktX1_takeLand_3 : List UInt8 := dkwX1_takeLand_3 ++ dktX1_takeLand_4
def dkwX1_takeLand_2 : List UInt8 := [132, 1, 1, 167, 255, 236, 42, 42, 180, 0, 102, 181, 0, 71, 3, 60, 27, 42, 180, 0, 71, 162, 0, 87]
abbrev dktX1_takeLand_2 : List UInt8 := dkwX1_takeLand_2 ++ dktX1_takeLand_3
def dkwX1_takeLand_1 : List UInt8 := [167, 255, 235, 3, 60, 27, 6, 162, 0, 21, 42, 180, 0, 22, 27, 42, 180, 0, 47, 27, 46, 79]
abbrev dktX1_takeLand_1 : List UInt8 := dkwX1_takeLand_1 ++ dktX1_takeLand_2
def dkwX1_takeLand_0 : List UInt8 := [3, 60, 27, 16, 8, 162, 0, 21, 42, 180, 0, 19, 27, 42, 180, 0, 44, 27, 46, 79, 132, 1, 1]
abbrev dktX1_takeLand_0 : List UInt8 := dkwX1_takeLand_0 ++ dktX1_takeLand_1
theorem dksX1_takeLand_0 : cX1_takeLand.data.toList.drop 0 = dktX1_takeLand_0 := by decide +kernel
theorem dksX1_takeLand_1 : cX1_takeLand.data.toList.drop 23 = dktX1_takeLand_1 := dk_seg dksX1_takeLand_0 23 rfl rfl
theorem dksX1_takeLand_2 : cX1_takeLand.data.toList.drop 45 = dktX1_takeLand_2 := dk_seg dksX1_takeLand_1 22 rfl rfl
theorem dksX1_takeLand_3 : cX1_takeLand.data.toList.drop 69 = dktX1_takeLand_3 := dk_seg dksX1_takeLand_2 24 rfl rfl
theorem dksX1_takeLand_4 : cX1_takeLand.data.toList.drop 93 = dktX1_takeLand_4 := dk_seg dksX1_takeLand_3 24 rfl rfl
theorem dksX1_takeLand_5 : cX1_takeLand.data.toList.drop 116 = dktX1_takeLand_5 := dk_seg dksX1_takeLand_4 23 rfl rfl
theorem dksX1_takeLand_6 : cX1_takeLand.data.toList.drop 140 = dktX1_takeLand_6 := dk_seg dksX1_takeLand_5 24 rfl rfl
theorem dX1_takeLand_0 : decode cX1_takeLand 0 = .ok (.iconst 0, 1) := dk_3 (dk_at dksX1_takeLand_0 0 rfl rfl)
theorem dX1_takeLand_1 : decode cX1_takeLand 1 = .ok (.istore_n 1, 1) := dk_60 (dk_at dksX1_takeLand_0 1 rfl rfl)
theorem dX1_takeLand_2 : decode cX1_takeLand 2 = .ok (.iload_n 1, 1) := dk_27 (dk_at dksX1_takeLand_0 2 rfl rfl)
theorem dX1_takeLand_3 : decode cX1_takeLand 3 = .ok (.bipush 8, 2) := dk_16 8 (dk_at dksX1_takeLand_0 3 rfl rfl)
theorem dX1_takeLand_5 : decode cX1_takeLand 5 = .ok (.if_icmp .ge 21, 3) := dk_162 0 21 (dk_at dksX1_takeLand_0 5 rfl rfl)
theorem dX1_takeLand_8 : decode cX1_takeLand 8 = .ok (.aload_n 0, 1) := dk_42 (dk_at dksX1_takeLand_0 8 rfl rfl)
theorem dX1_takeLand_9 : decode cX1_takeLand 9 = .ok (.getfield 19, 3) := dk_180 0 19 (dk_at dksX1_takeLand_0 9 rfl rfl)
theorem dX1_takeLand_12 : decode cX1_takeLand 12 = .ok (.iload_n 1, 1) := dk_27 (dk_at dksX1_takeLand_0 12 rfl rfl)
theorem dX1_takeLand_13 : decode cX1_takeLand 13 = .ok (.aload_n 0, 1) := dk_42 (dk_at dksX1_takeLand_0 13 rfl rfl)
theorem dX1_takeLand_14 : decode cX1_takeLand 14 = .ok (.getfield 44, 3) := dk_180 0 44 (dk_at dksX1_takeLand_0 14 rfl rfl)
theorem dX1_takeLand_17 : decode cX1_takeLand 17 = .ok (.iload_n 1, 1) := dk_27 (dk_at dksX1_takeLand_0 17 rfl rfl)
theorem dX1_takeLand_18 : decode cX1_takeLand 18 = .ok (.iaload, 1) := dk_46 (dk_at dksX1_takeLand_0 18 rfl rfl)
theorem dX1_takeLand_19 : decode cX1_takeLand 19 = .ok (.iastore, 1) := dk_79 (dk_at dksX1_takeLand_0 19 rfl rfl)
theorem dX1_takeLand_20 : decode cX1_takeLand 20 = .ok (.iinc 1 1, 3) := dk_132 1 1 (dk_at dksX1_takeLand_0 20 rfl rfl)
theorem dX1_takeLand_23 : decode cX1_takeLand 23 = .ok (.goto (-21), 3) := dk_167 255 235 (dk_at dksX1_takeLand_1 0 rfl rfl)
theorem dX1_takeLand_26 : decode cX1_takeLand 26 = .ok (.iconst 0, 1) := dk_3 (dk_at dksX1_takeLand_1 3 rfl rfl)
theorem dX1_takeLand_27 : decode cX1_takeLand 27 = .ok (.istore_n 1, 1) := dk_60 (dk_at dksX1_takeLand_1 4 rfl rfl)
theorem dX1_takeLand_28 : decode cX1_takeLand 28 = .ok (.iload_n 1, 1) := dk_27 (dk_at dksX1_takeLand_1 5 rfl rfl)
theorem dX1_takeLand_29 : decode cX1_takeLand 29 = .ok (.iconst 3, 1) := dk_6 (dk_at dksX1_takeLand_1 6 rfl rfl)
theorem dX1_takeLand_30 : decode cX1_takeLand 30 = .ok (.if_icmp .ge 21, 3) := dk_162 0 21 (dk_at dksX1_takeLand_1 7 rfl rfl)
theorem dX1_takeLand_33 : decode cX1_takeLand 33 = .ok (.aload_n 0, 1) := dk_42 (dk_at dksX1_takeLand_1 10 rfl rfl)
theorem dX1_takeLand_34 : decode cX1_takeLand 34 = .ok (.getfield 22, 3) := dk_180 0 22 (dk_at dksX1_takeLand_1 11 rfl rfl)
theorem dX1_takeLand_37 : decode cX1_takeLand 37 = .ok (.iload_n 1, 1) := dk_27 (dk_at dksX1_takeLand_1 14 rfl rfl)
theorem dX1_takeLand_38 : decode cX1_takeLand 38 = .ok (.aload_n 0, 1) := dk_42 (dk_at dksX1_takeLand_1 15 rfl rfl)
theorem dX1_takeLand_39 : decode cX1_takeLand 39 = .ok (.getfield 47, 3) := dk_180 0 47 (dk_at dksX1_takeLand_1 16 rfl rfl)
theorem dX1_takeLand_42 : decode cX1_takeLand 42 = .ok (.iload_n 1, 1) := dk_27 (dk_at dksX1_takeLand_1 19 rfl rfl)
theorem dX1_takeLand_43 : decode cX1_takeLand 43 = .ok (.iaload, 1) := dk_46 (dk_at dksX1_takeLand_1 20 rfl rfl)
theorem dX1_takeLand_44 : decode cX1_takeLand 44 = .ok (.iastore, 1) := dk_79 (dk_at dksX1_takeLand_1 21 rfl rfl)
theorem dX1_takeLand_45 : decode cX1_takeLand 45 = .ok (.iinc 1 1, 3) := dk_132 1 1 (dk_at dksX1_takeLand_2 0 rfl rfl)
theorem dX1_takeLand_48 : decode cX1_takeLand 48 = .ok (.goto (-20), 3) := dk_167 255 236 (dk_at dksX1_takeLand_2 3 rfl rfl)
theorem dX1_takeLand_51 : decode cX1_takeLand 51 = .ok (.aload_n 0, 1) := dk_42 (dk_at dksX1_takeLand_2 6 rfl rfl)
theorem dX1_takeLand_52 : decode cX1_takeLand 52 = .ok (.aload_n 0, 1) := dk_42 (dk_at dksX1_takeLand_2 7 rfl rfl)
theorem dX1_takeLand_53 : decode cX1_takeLand 53 = .ok (.getfield 102, 3) := dk_180 0 102 (dk_at dksX1_takeLand_2 8 rfl rfl)
theorem dX1_takeLand_56 : decode cX1_takeLand 56 = .ok (.putfield 71, 3) := dk_181 0 71 (dk_at dksX1_takeLand_2 11 rfl rfl)
theorem dX1_takeLand_59 : decode cX1_takeLand 59 = .ok (.iconst 0, 1) := dk_3 (dk_at dksX1_takeLand_2 14 rfl rfl)
theorem dX1_takeLand_60 : decode cX1_takeLand 60 = .ok (.istore_n 1, 1) := dk_60 (dk_at dksX1_takeLand_2 15 rfl rfl)
theorem dX1_takeLand_61 : decode cX1_takeLand 61 = .ok (.iload_n 1, 1) := dk_27 (dk_at dksX1_takeLand_2 16 rfl rfl)
theorem dX1_takeLand_62 : decode cX1_takeLand 62 = .ok (.aload_n 0, 1) := dk_42 (dk_at dksX1_takeLand_2 17 rfl rfl)
theorem dX1_takeLand_63 : decode cX1_takeLand 63 = .ok (.getfield 71, 3) := dk_180 0 71 (dk_at dksX1_takeLand_2 18 rfl rfl)
theorem dX1_takeLand_66 : decode cX1_takeLand 66 = .ok (.if_icmp .ge 87, 3) := dk_162 0 87 (dk_at dksX1_takeLand_2 21 rfl rfl)
theorem dX1_takeLand_69 : decode cX1_takeLand 69 = .ok (.aload_n 0, 1) := dk_42 (dk_at dksX1_takeLand_3 0 rfl rfl)
theorem dX1_takeLand_70 : decode cX1_takeLand 70 = .ok (.getfield 25, 3) := dk_180 0 25 (dk_at dksX1_takeLand_3 1 rfl rfl)
theorem dX1_takeLand_73 : decode cX1_takeLand 73 = .ok (.iload_n 1, 1) := dk_27 (dk_at dksX1_takeLand_3 4 rfl rfl)
theorem dX1_takeLand_74 : decode cX1_takeLand 74 = .ok (.aload_n 0, 1) := dk_42 (dk_at dksX1_takeLand_3 5 rfl rfl)
theorem dX1_takeLand_75 : decode cX1_takeLand 75 = .ok (.getfield 50, 3) := dk_180 0 50 (dk_at dksX1_takeLand_3 6 rfl rfl)
theorem dX1_takeLand_78 : decode cX1_takeLand 78 = .ok (.iconst 5, 1) := dk_8 (dk_at dksX1_takeLand_3 9 rfl rfl)
theorem dX1_takeLand_79 : decode cX1_takeLand 79 = .ok (.iload_n 1, 1) := dk_27 (dk_at dksX1_takeLand_3 10 rfl rfl)
theorem dX1_takeLand_80 : decode cX1_takeLand 80 = .ok (.imul, 1) := dk_104 (dk_at dksX1_takeLand_3 11 rfl rfl)
theorem dX1_takeLand_81 : decode cX1_takeLand 81 = .ok (.iaload, 1) := dk_46 (dk_at dksX1_takeLand_3 12 rfl rfl)
theorem dX1_takeLand_82 : decode cX1_takeLand 82 = .ok (.iastore, 1) := dk_79 (dk_at dksX1_takeLand_3 13 rfl rfl)
theorem dX1_takeLand_83 : decode cX1_takeLand 83 = .ok (.aload_n 0, 1) := dk_42 (dk_at dksX1_takeLand_3 14 rfl rfl)
theorem dX1_takeLand_84 : decode cX1_takeLand 84 = .ok (.getfield 28, 3) := dk_180 0 28 (dk_at dksX1_takeLand_3 15 rfl rfl)
theorem dX1_takeLand_87 : decode cX1_takeLand 87 = .ok (.iload_n 1, 1) := dk_27 (dk_at dksX1_takeLand_3 18 rfl rfl)
theorem dX1_takeLand_88 : decode cX1_takeLand 88 = .ok (.aload_n 0, 1) := dk_42 (dk_at dksX1_takeLand_3 19 rfl rfl)
theorem dX1_takeLand_89 : decode cX1_takeLand 89 = .ok (.getfield 50, 3) := dk_180 0 50 (dk_at dksX1_takeLand_3 20 rfl rfl)
theorem dX1_takeLand_92 : decode cX1_takeLand 92 = .ok (.iconst 5, 1) := dk_8 (dk_at dksX1_takeLand_3 23 rfl rfl)
theorem dX1_takeLand_93 : decode cX1_takeLand 93 = .ok (.iload_n 1, 1) := dk_27 (dk_at dksX1_takeLand_4 0 rfl rfl)
theorem dX1_takeLand_94 : decode cX1_takeLand 94 = .ok (.imul, 1) := dk_104 (dk_at dksX1_takeLand_4 1 rfl rfl)
theorem dX1_takeLand_95 : decode cX1_takeLand 95 = .ok (.iconst 1, 1) := dk_4 (dk_at dksX1_takeLand_4 2 rfl rfl)
theorem dX1_takeLand_96 : decode cX1_takeLand 96 = .ok (.iadd, 1) := dk_96 (dk_at dksX1_takeLand_4 3 rfl rfl)
theorem dX1_takeLand_97 : decode cX1_takeLand 97 = .ok (.iaload, 1) := dk_46 (dk_at dksX1_takeLand_4 4 rfl rfl)
theorem dX1_takeLand_98 : decode cX1_takeLand 98 = .ok (.iastore, 1) := dk_79 (dk_at dksX1_takeLand_4 5 rfl rfl)
theorem dX1_takeLand_99 : decode cX1_takeLand 99 = .ok (.aload_n 0, 1) := dk_42 (dk_at dksX1_takeLand_4 6 rfl rfl)
theorem dX1_takeLand_100 : decode cX1_takeLand 100 = .ok (.getfield 31, 3) := dk_180 0 31 (dk_at dksX1_takeLand_4 7 rfl rfl)
theorem dX1_takeLand_103 : decode cX1_takeLand 103 = .ok (.iload_n 1, 1) := dk_27 (dk_at dksX1_takeLand_4 10 rfl rfl)
theorem dX1_takeLand_104 : decode cX1_takeLand 104 = .ok (.aload_n 0, 1) := dk_42 (dk_at dksX1_takeLand_4 11 rfl rfl)
theorem dX1_takeLand_105 : decode cX1_takeLand 105 = .ok (.getfield 50, 3) := dk_180 0 50 (dk_at dksX1_takeLand_4 12 rfl rfl)
theorem dX1_takeLand_108 : decode cX1_takeLand 108 = .ok (.iconst 5, 1) := dk_8 (dk_at dksX1_takeLand_4 15 rfl rfl)
theorem dX1_takeLand_109 : decode cX1_takeLand 109 = .ok (.iload_n 1, 1) := dk_27 (dk_at dksX1_takeLand_4 16 rfl rfl)
theorem dX1_takeLand_110 : decode cX1_takeLand 110 = .ok (.imul, 1) := dk_104 (dk_at dksX1_takeLand_4 17 rfl rfl)
theorem dX1_takeLand_111 : decode cX1_takeLand 111 = .ok (.iconst 2, 1) := dk_5 (dk_at dksX1_takeLand_4 18 rfl rfl)
theorem dX1_takeLand_112 : decode cX1_takeLand 112 = .ok (.iadd, 1) := dk_96 (dk_at dksX1_takeLand_4 19 rfl rfl)
theorem dX1_takeLand_113 : decode cX1_takeLand 113 = .ok (.iaload, 1) := dk_46 (dk_at dksX1_takeLand_4 20 rfl rfl)
theorem dX1_takeLand_114 : decode cX1_takeLand 114 = .ok (.iastore, 1) := dk_79 (dk_at dksX1_takeLand_4 21 rfl rfl)
theorem dX1_takeLand_115 : decode cX1_takeLand 115 = .ok (.aload_n 0, 1) := dk_42 (dk_at dksX1_takeLand_4 22 rfl rfl)
theorem dX1_takeLand_116 : decode cX1_takeLand 116 = .ok (.getfield 34, 3) := dk_180 0 34 (dk_at dksX1_takeLand_5 0 rfl rfl)
theorem dX1_takeLand_119 : decode cX1_takeLand 119 = .ok (.iload_n 1, 1) := dk_27 (dk_at dksX1_takeLand_5 3 rfl rfl)
theorem dX1_takeLand_120 : decode cX1_takeLand 120 = .ok (.aload_n 0, 1) := dk_42 (dk_at dksX1_takeLand_5 4 rfl rfl)
theorem dX1_takeLand_121 : decode cX1_takeLand 121 = .ok (.getfield 50, 3) := dk_180 0 50 (dk_at dksX1_takeLand_5 5 rfl rfl)
theorem dX1_takeLand_124 : decode cX1_takeLand 124 = .ok (.iconst 5, 1) := dk_8 (dk_at dksX1_takeLand_5 8 rfl rfl)
theorem dX1_takeLand_125 : decode cX1_takeLand 125 = .ok (.iload_n 1, 1) := dk_27 (dk_at dksX1_takeLand_5 9 rfl rfl)
theorem dX1_takeLand_126 : decode cX1_takeLand 126 = .ok (.imul, 1) := dk_104 (dk_at dksX1_takeLand_5 10 rfl rfl)
theorem dX1_takeLand_127 : decode cX1_takeLand 127 = .ok (.iconst 3, 1) := dk_6 (dk_at dksX1_takeLand_5 11 rfl rfl)
theorem dX1_takeLand_128 : decode cX1_takeLand 128 = .ok (.iadd, 1) := dk_96 (dk_at dksX1_takeLand_5 12 rfl rfl)
theorem dX1_takeLand_129 : decode cX1_takeLand 129 = .ok (.iaload, 1) := dk_46 (dk_at dksX1_takeLand_5 13 rfl rfl)
theorem dX1_takeLand_130 : decode cX1_takeLand 130 = .ok (.iastore, 1) := dk_79 (dk_at dksX1_takeLand_5 14 rfl rfl)
theorem dX1_takeLand_131 : decode cX1_takeLand 131 = .ok (.aload_n 0, 1) := dk_42 (dk_at dksX1_takeLand_5 15 rfl rfl)
theorem dX1_takeLand_132 : decode cX1_takeLand 132 = .ok (.getfield 37, 3) := dk_180 0 37 (dk_at dksX1_takeLand_5 16 rfl rfl)
theorem dX1_takeLand_135 : decode cX1_takeLand 135 = .ok (.iload_n 1, 1) := dk_27 (dk_at dksX1_takeLand_5 19 rfl rfl)
theorem dX1_takeLand_136 : decode cX1_takeLand 136 = .ok (.aload_n 0, 1) := dk_42 (dk_at dksX1_takeLand_5 20 rfl rfl)
theorem dX1_takeLand_137 : decode cX1_takeLand 137 = .ok (.getfield 50, 3) := dk_180 0 50 (dk_at dksX1_takeLand_5 21 rfl rfl)
theorem dX1_takeLand_140 : decode cX1_takeLand 140 = .ok (.iconst 5, 1) := dk_8 (dk_at dksX1_takeLand_6 0 rfl rfl)
theorem dX1_takeLand_141 : decode cX1_takeLand 141 = .ok (.iload_n 1, 1) := dk_27 (dk_at dksX1_takeLand_6 1 rfl rfl)
theorem dX1_takeLand_142 : decode cX1_takeLand 142 = .ok (.imul, 1) := dk_104 (dk_at dksX1_takeLand_6 2 rfl rfl)
theorem dX1_takeLand_143 : decode cX1_takeLand 143 = .ok (.iconst 4, 1) := dk_7 (dk_at dksX1_takeLand_6 3 rfl rfl)
theorem dX1_takeLand_144 : decode cX1_takeLand 144 = .ok (.iadd, 1) := dk_96 (dk_at dksX1_takeLand_6 4 rfl rfl)
theorem dX1_takeLand_145 : decode cX1_takeLand 145 = .ok (.iaload, 1) := dk_46 (dk_at dksX1_takeLand_6 5 rfl rfl)
theorem dX1_takeLand_146 : decode cX1_takeLand 146 = .ok (.iastore, 1) := dk_79 (dk_at dksX1_takeLand_6 6 rfl rfl)
theorem dX1_takeLand_147 : decode cX1_takeLand 147 = .ok (.iinc 1 1, 3) := dk_132 1 1 (dk_at dksX1_takeLand_6 7 rfl rfl)
theorem dX1_takeLand_150 : decode cX1_takeLand 150 = .ok (.goto (-89), 3) := dk_167 255 167 (dk_at dksX1_takeLand_6 10 rfl rfl)
theorem dX1_takeLand_153 : decode cX1_takeLand 153 = .ok (.aload_n 0, 1) := dk_42 (dk_at dksX1_takeLand_6 13 rfl rfl)
theorem dX1_takeLand_154 : decode cX1_takeLand 154 = .ok (.iconst 0, 1) := dk_3 (dk_at dksX1_takeLand_6 14 rfl rfl)
theorem dX1_takeLand_155 : decode cX1_takeLand 155 = .ok (.putfield 105, 3) := dk_181 0 105 (dk_at dksX1_takeLand_6 15 rfl rfl)
theorem dX1_takeLand_158 : decode cX1_takeLand 158 = .ok (.return_, 1) := dk_177 (dk_at dksX1_takeLand_6 18 rfl rfl)
abbrev cX1_ofPass : ByteArray := prog_15_method_20_code
def yX1_ofPass : MethodName := ⟨RX1, "ofPass", "(II)I"⟩
def dkwX1_ofPass_3 : List UInt8 := [180, 0, 34, 27, 46, 172, 42, 180, 0, 37, 27, 46, 172, 42, 27, 182, 0, 121, 172, 16, 254, 172]
abbrev dktX1_ofPass_3 : List UInt8 := dkwX1_ofPass_3 ++ []
def dkwX1_ofPass_2 : List UInt8 := [42, 180, 0, 25, 27, 46, 172, 42, 180, 0, 28, 27, 46, 172, 42, 180, 0, 31, 27, 46, 172, 42]
abbrev dktX1_ofPass_2 : List UInt8 := dkwX1_ofPass_2 ++ dktX1_ofPass_3
def dkwX1_ofPass_1 : List UInt8 := [170, 0, 0, 0, 78, 0, 0, 0, 0, 0, 0, 0, 5, 0, 0, 0, 37, 0, 0, 0, 44, 0, 0, 0, 51, 0, 0, 0, 58, 0, 0, 0, 65, 0, 0, 0, 72]
abbrev dktX1_ofPass_1 : List UInt8 := dkwX1_ofPass_1 ++ dktX1_ofPass_2
def dkwX1_ofPass_0 : List UInt8 := [42, 27, 182, 0, 118, 154, 0, 5, 2, 172, 28]
abbrev dktX1_ofPass_0 : List UInt8 := dkwX1_ofPass_0 ++ dktX1_ofPass_1
theorem dksX1_ofPass_0 : cX1_ofPass.data.toList.drop 0 = dktX1_ofPass_0 := by decide +kernel
theorem dksX1_ofPass_1 : cX1_ofPass.data.toList.drop 11 = dktX1_ofPass_1 := dk_seg dksX1_ofPass_0 11 rfl rfl
theorem dksX1_ofPass_2 : cX1_ofPass.data.toList.drop 48 = dktX1_ofPass_2 := dk_seg dksX1_ofPass_1 37 rfl rfl
theorem dksX1_ofPass_3 : cX1_ofPass.data.toList.drop 70 = dktX1_ofPass_3 := dk_seg dksX1_ofPass_2 22 rfl rfl
theorem dX1_ofPass_0 : decode cX1_ofPass 0 = .ok (.aload_n 0, 1) := dk_42 (dk_at dksX1_ofPass_0 0 rfl rfl)
theorem dX1_ofPass_1 : decode cX1_ofPass 1 = .ok (.iload_n 1, 1) := dk_27 (dk_at dksX1_ofPass_0 1 rfl rfl)
theorem dX1_ofPass_2 : decode cX1_ofPass 2 = .ok (.invokevirtual 118, 3) := dk_182 0 118 (dk_at dksX1_ofPass_0 2 rfl rfl)
theorem dX1_ofPass_5 : decode cX1_ofPass 5 = .ok (.ifCond .ne 5, 3) := dk_154 0 5 (dk_at dksX1_ofPass_0 5 rfl rfl)
theorem dX1_ofPass_8 : decode cX1_ofPass 8 = .ok (.iconst (-1), 1) := dk_2 (dk_at dksX1_ofPass_0 8 rfl rfl)
theorem dX1_ofPass_9 : decode cX1_ofPass 9 = .ok (.ireturn, 1) := dk_172 (dk_at dksX1_ofPass_0 9 rfl rfl)
theorem dX1_ofPass_10 : decode cX1_ofPass 10 = .ok (.iload_n 2, 1) := dk_28 (dk_at dksX1_ofPass_0 10 rfl rfl)
theorem dX1_ofPass_11 : decode cX1_ofPass 11 = .ok (.tableswitch 78 0 5 #[37, 44, 51, 58, 65, 72], 37) := by decide +kernel
theorem dX1_ofPass_48 : decode cX1_ofPass 48 = .ok (.aload_n 0, 1) := dk_42 (dk_at dksX1_ofPass_2 0 rfl rfl)
theorem dX1_ofPass_49 : decode cX1_ofPass 49 = .ok (.getfield 25, 3) := dk_180 0 25 (dk_at dksX1_ofPass_2 1 rfl rfl)
theorem dX1_ofPass_52 : decode cX1_ofPass 52 = .ok (.iload_n 1, 1) := dk_27 (dk_at dksX1_ofPass_2 4 rfl rfl)
theorem dX1_ofPass_53 : decode cX1_ofPass 53 = .ok (.iaload, 1) := dk_46 (dk_at dksX1_ofPass_2 5 rfl rfl)
theorem dX1_ofPass_54 : decode cX1_ofPass 54 = .ok (.ireturn, 1) := dk_172 (dk_at dksX1_ofPass_2 6 rfl rfl)
theorem dX1_ofPass_55 : decode cX1_ofPass 55 = .ok (.aload_n 0, 1) := dk_42 (dk_at dksX1_ofPass_2 7 rfl rfl)
theorem dX1_ofPass_56 : decode cX1_ofPass 56 = .ok (.getfield 28, 3) := dk_180 0 28 (dk_at dksX1_ofPass_2 8 rfl rfl)
theorem dX1_ofPass_59 : decode cX1_ofPass 59 = .ok (.iload_n 1, 1) := dk_27 (dk_at dksX1_ofPass_2 11 rfl rfl)
theorem dX1_ofPass_60 : decode cX1_ofPass 60 = .ok (.iaload, 1) := dk_46 (dk_at dksX1_ofPass_2 12 rfl rfl)
theorem dX1_ofPass_61 : decode cX1_ofPass 61 = .ok (.ireturn, 1) := dk_172 (dk_at dksX1_ofPass_2 13 rfl rfl)
theorem dX1_ofPass_62 : decode cX1_ofPass 62 = .ok (.aload_n 0, 1) := dk_42 (dk_at dksX1_ofPass_2 14 rfl rfl)
theorem dX1_ofPass_63 : decode cX1_ofPass 63 = .ok (.getfield 31, 3) := dk_180 0 31 (dk_at dksX1_ofPass_2 15 rfl rfl)
theorem dX1_ofPass_66 : decode cX1_ofPass 66 = .ok (.iload_n 1, 1) := dk_27 (dk_at dksX1_ofPass_2 18 rfl rfl)
theorem dX1_ofPass_67 : decode cX1_ofPass 67 = .ok (.iaload, 1) := dk_46 (dk_at dksX1_ofPass_2 19 rfl rfl)
theorem dX1_ofPass_68 : decode cX1_ofPass 68 = .ok (.ireturn, 1) := dk_172 (dk_at dksX1_ofPass_2 20 rfl rfl)
theorem dX1_ofPass_69 : decode cX1_ofPass 69 = .ok (.aload_n 0, 1) := dk_42 (dk_at dksX1_ofPass_2 21 rfl rfl)
theorem dX1_ofPass_70 : decode cX1_ofPass 70 = .ok (.getfield 34, 3) := dk_180 0 34 (dk_at dksX1_ofPass_3 0 rfl rfl)
theorem dX1_ofPass_73 : decode cX1_ofPass 73 = .ok (.iload_n 1, 1) := dk_27 (dk_at dksX1_ofPass_3 3 rfl rfl)
theorem dX1_ofPass_74 : decode cX1_ofPass 74 = .ok (.iaload, 1) := dk_46 (dk_at dksX1_ofPass_3 4 rfl rfl)
theorem dX1_ofPass_75 : decode cX1_ofPass 75 = .ok (.ireturn, 1) := dk_172 (dk_at dksX1_ofPass_3 5 rfl rfl)
theorem dX1_ofPass_76 : decode cX1_ofPass 76 = .ok (.aload_n 0, 1) := dk_42 (dk_at dksX1_ofPass_3 6 rfl rfl)
theorem dX1_ofPass_77 : decode cX1_ofPass 77 = .ok (.getfield 37, 3) := dk_180 0 37 (dk_at dksX1_ofPass_3 7 rfl rfl)
theorem dX1_ofPass_80 : decode cX1_ofPass 80 = .ok (.iload_n 1, 1) := dk_27 (dk_at dksX1_ofPass_3 10 rfl rfl)
theorem dX1_ofPass_81 : decode cX1_ofPass 81 = .ok (.iaload, 1) := dk_46 (dk_at dksX1_ofPass_3 11 rfl rfl)
theorem dX1_ofPass_82 : decode cX1_ofPass 82 = .ok (.ireturn, 1) := dk_172 (dk_at dksX1_ofPass_3 12 rfl rfl)
theorem dX1_ofPass_83 : decode cX1_ofPass 83 = .ok (.aload_n 0, 1) := dk_42 (dk_at dksX1_ofPass_3 13 rfl rfl)
theorem dX1_ofPass_84 : decode cX1_ofPass 84 = .ok (.iload_n 1, 1) := dk_27 (dk_at dksX1_ofPass_3 14 rfl rfl)
theorem dX1_ofPass_85 : decode cX1_ofPass 85 = .ok (.invokevirtual 121, 3) := dk_182 0 121 (dk_at dksX1_ofPass_3 15 rfl rfl)
theorem dX1_ofPass_88 : decode cX1_ofPass 88 = .ok (.ireturn, 1) := dk_172 (dk_at dksX1_ofPass_3 18 rfl rfl)
theorem dX1_ofPass_89 : decode cX1_ofPass 89 = .ok (.bipush (-2), 2) := dk_16 254 (dk_at dksX1_ofPass_3 19 rfl rfl)
theorem dX1_ofPass_91 : decode cX1_ofPass 91 = .ok (.ireturn, 1) := dk_172 (dk_at dksX1_ofPass_3 21 rfl rfl)
abbrev cX1_isPass : ByteArray := prog_15_method_9_code
def yX1_isPass : MethodName := ⟨RX1, "isPass", "(I)Z"⟩
def dkwX1_isPass_0 : List UInt8 := [27, 155, 0, 15, 27, 42, 180, 0, 71, 162, 0, 7, 4, 167, 0, 4, 3, 172]
abbrev dktX1_isPass_0 : List UInt8 := dkwX1_isPass_0 ++ []
theorem dksX1_isPass_0 : cX1_isPass.data.toList.drop 0 = dktX1_isPass_0 := by decide +kernel
theorem dX1_isPass_0 : decode cX1_isPass 0 = .ok (.iload_n 1, 1) := dk_27 (dk_at dksX1_isPass_0 0 rfl rfl)
theorem dX1_isPass_1 : decode cX1_isPass 1 = .ok (.ifCond .lt 15, 3) := dk_155 0 15 (dk_at dksX1_isPass_0 1 rfl rfl)
theorem dX1_isPass_4 : decode cX1_isPass 4 = .ok (.iload_n 1, 1) := dk_27 (dk_at dksX1_isPass_0 4 rfl rfl)
theorem dX1_isPass_5 : decode cX1_isPass 5 = .ok (.aload_n 0, 1) := dk_42 (dk_at dksX1_isPass_0 5 rfl rfl)
theorem dX1_isPass_6 : decode cX1_isPass 6 = .ok (.getfield 71, 3) := dk_180 0 71 (dk_at dksX1_isPass_0 6 rfl rfl)
theorem dX1_isPass_9 : decode cX1_isPass 9 = .ok (.if_icmp .ge 7, 3) := dk_162 0 7 (dk_at dksX1_isPass_0 9 rfl rfl)
theorem dX1_isPass_12 : decode cX1_isPass 12 = .ok (.iconst 1, 1) := dk_4 (dk_at dksX1_isPass_0 12 rfl rfl)
theorem dX1_isPass_13 : decode cX1_isPass 13 = .ok (.goto 4, 3) := dk_167 0 4 (dk_at dksX1_isPass_0 13 rfl rfl)
theorem dX1_isPass_16 : decode cX1_isPass 16 = .ok (.iconst 0, 1) := dk_3 (dk_at dksX1_isPass_0 16 rfl rfl)
theorem dX1_isPass_17 : decode cX1_isPass 17 = .ok (.ireturn, 1) := dk_172 (dk_at dksX1_isPass_0 17 rfl rfl)
abbrev cX1_takes : ByteArray := prog_15_method_19_code
def yX1_takes : MethodName := ⟨RX1, "takes", "(I)I"⟩
def dkwX1_takes_2 : List UInt8 := [108, 172]
abbrev dktX1_takes_2 : List UInt8 := dkwX1_takes_2 ++ []
def dkwX1_takes_1 : List UInt8 := [4, 160, 0, 14, 42, 180, 0, 34, 27, 46, 4, 96, 167, 0, 13, 42, 180, 0, 34, 27, 46, 4, 96, 5]
abbrev dktX1_takes_1 : List UInt8 := dkwX1_takes_1 ++ dktX1_takes_2
def dkwX1_takes_0 : List UInt8 := [42, 180, 0, 25, 27, 46, 154, 0, 12, 42, 180, 0, 34, 27, 46, 167, 0, 34, 42, 180, 0, 25, 27, 46]
abbrev dktX1_takes_0 : List UInt8 := dkwX1_takes_0 ++ dktX1_takes_1
theorem dksX1_takes_0 : cX1_takes.data.toList.drop 0 = dktX1_takes_0 := by decide +kernel
theorem dksX1_takes_1 : cX1_takes.data.toList.drop 24 = dktX1_takes_1 := dk_seg dksX1_takes_0 24 rfl rfl
theorem dksX1_takes_2 : cX1_takes.data.toList.drop 48 = dktX1_takes_2 := dk_seg dksX1_takes_1 24 rfl rfl
theorem dX1_takes_0 : decode cX1_takes 0 = .ok (.aload_n 0, 1) := dk_42 (dk_at dksX1_takes_0 0 rfl rfl)
theorem dX1_takes_1 : decode cX1_takes 1 = .ok (.getfield 25, 3) := dk_180 0 25 (dk_at dksX1_takes_0 1 rfl rfl)
theorem dX1_takes_4 : decode cX1_takes 4 = .ok (.iload_n 1, 1) := dk_27 (dk_at dksX1_takes_0 4 rfl rfl)
theorem dX1_takes_5 : decode cX1_takes 5 = .ok (.iaload, 1) := dk_46 (dk_at dksX1_takes_0 5 rfl rfl)
theorem dX1_takes_6 : decode cX1_takes 6 = .ok (.ifCond .ne 12, 3) := dk_154 0 12 (dk_at dksX1_takes_0 6 rfl rfl)
theorem dX1_takes_9 : decode cX1_takes 9 = .ok (.aload_n 0, 1) := dk_42 (dk_at dksX1_takes_0 9 rfl rfl)
theorem dX1_takes_10 : decode cX1_takes 10 = .ok (.getfield 34, 3) := dk_180 0 34 (dk_at dksX1_takes_0 10 rfl rfl)
theorem dX1_takes_13 : decode cX1_takes 13 = .ok (.iload_n 1, 1) := dk_27 (dk_at dksX1_takes_0 13 rfl rfl)
theorem dX1_takes_14 : decode cX1_takes 14 = .ok (.iaload, 1) := dk_46 (dk_at dksX1_takes_0 14 rfl rfl)
theorem dX1_takes_15 : decode cX1_takes 15 = .ok (.goto 34, 3) := dk_167 0 34 (dk_at dksX1_takes_0 15 rfl rfl)
theorem dX1_takes_18 : decode cX1_takes 18 = .ok (.aload_n 0, 1) := dk_42 (dk_at dksX1_takes_0 18 rfl rfl)
theorem dX1_takes_19 : decode cX1_takes 19 = .ok (.getfield 25, 3) := dk_180 0 25 (dk_at dksX1_takes_0 19 rfl rfl)
theorem dX1_takes_22 : decode cX1_takes 22 = .ok (.iload_n 1, 1) := dk_27 (dk_at dksX1_takes_0 22 rfl rfl)
theorem dX1_takes_23 : decode cX1_takes 23 = .ok (.iaload, 1) := dk_46 (dk_at dksX1_takes_0 23 rfl rfl)
theorem dX1_takes_24 : decode cX1_takes 24 = .ok (.iconst 1, 1) := dk_4 (dk_at dksX1_takes_1 0 rfl rfl)
theorem dX1_takes_25 : decode cX1_takes 25 = .ok (.if_icmp .ne 14, 3) := dk_160 0 14 (dk_at dksX1_takes_1 1 rfl rfl)
theorem dX1_takes_28 : decode cX1_takes 28 = .ok (.aload_n 0, 1) := dk_42 (dk_at dksX1_takes_1 4 rfl rfl)
theorem dX1_takes_29 : decode cX1_takes 29 = .ok (.getfield 34, 3) := dk_180 0 34 (dk_at dksX1_takes_1 5 rfl rfl)
theorem dX1_takes_32 : decode cX1_takes 32 = .ok (.iload_n 1, 1) := dk_27 (dk_at dksX1_takes_1 8 rfl rfl)
theorem dX1_takes_33 : decode cX1_takes 33 = .ok (.iaload, 1) := dk_46 (dk_at dksX1_takes_1 9 rfl rfl)
theorem dX1_takes_34 : decode cX1_takes 34 = .ok (.iconst 1, 1) := dk_4 (dk_at dksX1_takes_1 10 rfl rfl)
theorem dX1_takes_35 : decode cX1_takes 35 = .ok (.iadd, 1) := dk_96 (dk_at dksX1_takes_1 11 rfl rfl)
theorem dX1_takes_36 : decode cX1_takes 36 = .ok (.goto 13, 3) := dk_167 0 13 (dk_at dksX1_takes_1 12 rfl rfl)
theorem dX1_takes_39 : decode cX1_takes 39 = .ok (.aload_n 0, 1) := dk_42 (dk_at dksX1_takes_1 15 rfl rfl)
theorem dX1_takes_40 : decode cX1_takes 40 = .ok (.getfield 34, 3) := dk_180 0 34 (dk_at dksX1_takes_1 16 rfl rfl)
theorem dX1_takes_43 : decode cX1_takes 43 = .ok (.iload_n 1, 1) := dk_27 (dk_at dksX1_takes_1 19 rfl rfl)
theorem dX1_takes_44 : decode cX1_takes 44 = .ok (.iaload, 1) := dk_46 (dk_at dksX1_takes_1 20 rfl rfl)
theorem dX1_takes_45 : decode cX1_takes 45 = .ok (.iconst 1, 1) := dk_4 (dk_at dksX1_takes_1 21 rfl rfl)
theorem dX1_takes_46 : decode cX1_takes 46 = .ok (.iadd, 1) := dk_96 (dk_at dksX1_takes_1 22 rfl rfl)
theorem dX1_takes_47 : decode cX1_takes 47 = .ok (.iconst 2, 1) := dk_5 (dk_at dksX1_takes_1 23 rfl rfl)
theorem dX1_takes_48 : decode cX1_takes 48 = .ok (.idiv, 1) := dk_108 (dk_at dksX1_takes_2 0 rfl rfl)
theorem dX1_takes_49 : decode cX1_takes 49 = .ok (.ireturn, 1) := dk_172 (dk_at dksX1_takes_2 1 rfl rfl)
abbrev cX1_snow : ByteArray := prog_15_method_21_code
def yX1_snow : MethodName := ⟨RX1, "snow", "(II)I"⟩
def dkwX1_snow_1 : List UInt8 := [154, 0, 6, 16, 253, 172, 42, 180, 0, 19, 27, 46, 62, 42, 180, 0, 19, 27, 28, 79, 29, 172]
abbrev dktX1_snow_1 : List UInt8 := dkwX1_snow_1 ++ []
def dkwX1_snow_0 : List UInt8 := [27, 184, 0, 124, 153, 0, 13, 28, 3, 16, 9, 184, 0, 67, 154, 0, 6, 16, 254, 172, 42, 180, 0, 71]
abbrev dktX1_snow_0 : List UInt8 := dkwX1_snow_0 ++ dktX1_snow_1
theorem dksX1_snow_0 : cX1_snow.data.toList.drop 0 = dktX1_snow_0 := by decide +kernel
theorem dksX1_snow_1 : cX1_snow.data.toList.drop 24 = dktX1_snow_1 := dk_seg dksX1_snow_0 24 rfl rfl
theorem dX1_snow_0 : decode cX1_snow 0 = .ok (.iload_n 1, 1) := dk_27 (dk_at dksX1_snow_0 0 rfl rfl)
theorem dX1_snow_1 : decode cX1_snow 1 = .ok (.invokestatic 124, 3) := dk_184 0 124 (dk_at dksX1_snow_0 1 rfl rfl)
theorem dX1_snow_4 : decode cX1_snow 4 = .ok (.ifCond .eq 13, 3) := dk_153 0 13 (dk_at dksX1_snow_0 4 rfl rfl)
theorem dX1_snow_7 : decode cX1_snow 7 = .ok (.iload_n 2, 1) := dk_28 (dk_at dksX1_snow_0 7 rfl rfl)
theorem dX1_snow_8 : decode cX1_snow 8 = .ok (.iconst 0, 1) := dk_3 (dk_at dksX1_snow_0 8 rfl rfl)
theorem dX1_snow_9 : decode cX1_snow 9 = .ok (.bipush 9, 2) := dk_16 9 (dk_at dksX1_snow_0 9 rfl rfl)
theorem dX1_snow_11 : decode cX1_snow 11 = .ok (.invokestatic 67, 3) := dk_184 0 67 (dk_at dksX1_snow_0 11 rfl rfl)
theorem dX1_snow_14 : decode cX1_snow 14 = .ok (.ifCond .ne 6, 3) := dk_154 0 6 (dk_at dksX1_snow_0 14 rfl rfl)
theorem dX1_snow_17 : decode cX1_snow 17 = .ok (.bipush (-2), 2) := dk_16 254 (dk_at dksX1_snow_0 17 rfl rfl)
theorem dX1_snow_19 : decode cX1_snow 19 = .ok (.ireturn, 1) := dk_172 (dk_at dksX1_snow_0 19 rfl rfl)
theorem dX1_snow_20 : decode cX1_snow 20 = .ok (.aload_n 0, 1) := dk_42 (dk_at dksX1_snow_0 20 rfl rfl)
theorem dX1_snow_21 : decode cX1_snow 21 = .ok (.getfield 71, 3) := dk_180 0 71 (dk_at dksX1_snow_0 21 rfl rfl)
theorem dX1_snow_24 : decode cX1_snow 24 = .ok (.ifCond .ne 6, 3) := dk_154 0 6 (dk_at dksX1_snow_1 0 rfl rfl)
theorem dX1_snow_27 : decode cX1_snow 27 = .ok (.bipush (-3), 2) := dk_16 253 (dk_at dksX1_snow_1 3 rfl rfl)
theorem dX1_snow_29 : decode cX1_snow 29 = .ok (.ireturn, 1) := dk_172 (dk_at dksX1_snow_1 5 rfl rfl)
theorem dX1_snow_30 : decode cX1_snow 30 = .ok (.aload_n 0, 1) := dk_42 (dk_at dksX1_snow_1 6 rfl rfl)
theorem dX1_snow_31 : decode cX1_snow 31 = .ok (.getfield 19, 3) := dk_180 0 19 (dk_at dksX1_snow_1 7 rfl rfl)
theorem dX1_snow_34 : decode cX1_snow 34 = .ok (.iload_n 1, 1) := dk_27 (dk_at dksX1_snow_1 10 rfl rfl)
theorem dX1_snow_35 : decode cX1_snow 35 = .ok (.iaload, 1) := dk_46 (dk_at dksX1_snow_1 11 rfl rfl)
theorem dX1_snow_36 : decode cX1_snow 36 = .ok (.istore_n 3, 1) := dk_62 (dk_at dksX1_snow_1 12 rfl rfl)
theorem dX1_snow_37 : decode cX1_snow 37 = .ok (.aload_n 0, 1) := dk_42 (dk_at dksX1_snow_1 13 rfl rfl)
theorem dX1_snow_38 : decode cX1_snow 38 = .ok (.getfield 19, 3) := dk_180 0 19 (dk_at dksX1_snow_1 14 rfl rfl)
theorem dX1_snow_41 : decode cX1_snow 41 = .ok (.iload_n 1, 1) := dk_27 (dk_at dksX1_snow_1 17 rfl rfl)
theorem dX1_snow_42 : decode cX1_snow 42 = .ok (.iload_n 2, 1) := dk_28 (dk_at dksX1_snow_1 18 rfl rfl)
theorem dX1_snow_43 : decode cX1_snow 43 = .ok (.iastore, 1) := dk_79 (dk_at dksX1_snow_1 19 rfl rfl)
theorem dX1_snow_44 : decode cX1_snow 44 = .ok (.iload_n 3, 1) := dk_29 (dk_at dksX1_snow_1 20 rfl rfl)
theorem dX1_snow_45 : decode cX1_snow 45 = .ok (.ireturn, 1) := dk_172 (dk_at dksX1_snow_1 21 rfl rfl)
abbrev cX1_isDay : ByteArray := prog_15_method_10_code
def yX1_isDay : MethodName := ⟨RX1, "isDay", "(I)Z"⟩
def dkwX1_isDay_0 : List UInt8 := [26, 3, 16, 7, 184, 0, 67, 172]
abbrev dktX1_isDay_0 : List UInt8 := dkwX1_isDay_0 ++ []
theorem dksX1_isDay_0 : cX1_isDay.data.toList.drop 0 = dktX1_isDay_0 := by decide +kernel
theorem dX1_isDay_0 : decode cX1_isDay 0 = .ok (.iload_n 0, 1) := dk_26 (dk_at dksX1_isDay_0 0 rfl rfl)
theorem dX1_isDay_1 : decode cX1_isDay 1 = .ok (.iconst 0, 1) := dk_3 (dk_at dksX1_isDay_0 1 rfl rfl)
theorem dX1_isDay_2 : decode cX1_isDay 2 = .ok (.bipush 7, 2) := dk_16 7 (dk_at dksX1_isDay_0 2 rfl rfl)
theorem dX1_isDay_4 : decode cX1_isDay 4 = .ok (.invokestatic 67, 3) := dk_184 0 67 (dk_at dksX1_isDay_0 4 rfl rfl)
theorem dX1_isDay_7 : decode cX1_isDay 7 = .ok (.ireturn, 1) := dk_172 (dk_at dksX1_isDay_0 7 rfl rfl)
abbrev cX1_give : ByteArray := prog_15_method_22_code
def yX1_give : MethodName := ⟨RX1, "give", "(II)I"⟩
def dkwX1_give_2 : List UInt8 := [172]
abbrev dktX1_give_2 : List UInt8 := dkwX1_give_2 ++ []
def dkwX1_give_1 : List UInt8 := [180, 0, 71, 154, 0, 6, 16, 253, 172, 42, 180, 0, 22, 27, 46, 62, 42, 180, 0, 22, 27, 28, 79, 29]
abbrev dktX1_give_1 : List UInt8 := dkwX1_give_1 ++ dktX1_give_2
def dkwX1_give_0 : List UInt8 := [27, 184, 0, 127, 154, 0, 5, 2, 172, 28, 3, 17, 0, 255, 184, 0, 67, 154, 0, 6, 16, 254, 172, 42]
abbrev dktX1_give_0 : List UInt8 := dkwX1_give_0 ++ dktX1_give_1
theorem dksX1_give_0 : cX1_give.data.toList.drop 0 = dktX1_give_0 := by decide +kernel
theorem dksX1_give_1 : cX1_give.data.toList.drop 24 = dktX1_give_1 := dk_seg dksX1_give_0 24 rfl rfl
theorem dksX1_give_2 : cX1_give.data.toList.drop 48 = dktX1_give_2 := dk_seg dksX1_give_1 24 rfl rfl
theorem dX1_give_0 : decode cX1_give 0 = .ok (.iload_n 1, 1) := dk_27 (dk_at dksX1_give_0 0 rfl rfl)
theorem dX1_give_1 : decode cX1_give 1 = .ok (.invokestatic 127, 3) := dk_184 0 127 (dk_at dksX1_give_0 1 rfl rfl)
theorem dX1_give_4 : decode cX1_give 4 = .ok (.ifCond .ne 5, 3) := dk_154 0 5 (dk_at dksX1_give_0 4 rfl rfl)
theorem dX1_give_7 : decode cX1_give 7 = .ok (.iconst (-1), 1) := dk_2 (dk_at dksX1_give_0 7 rfl rfl)
theorem dX1_give_8 : decode cX1_give 8 = .ok (.ireturn, 1) := dk_172 (dk_at dksX1_give_0 8 rfl rfl)
theorem dX1_give_9 : decode cX1_give 9 = .ok (.iload_n 2, 1) := dk_28 (dk_at dksX1_give_0 9 rfl rfl)
theorem dX1_give_10 : decode cX1_give 10 = .ok (.iconst 0, 1) := dk_3 (dk_at dksX1_give_0 10 rfl rfl)
theorem dX1_give_11 : decode cX1_give 11 = .ok (.sipush 255, 3) := dk_17 0 255 (dk_at dksX1_give_0 11 rfl rfl)
theorem dX1_give_14 : decode cX1_give 14 = .ok (.invokestatic 67, 3) := dk_184 0 67 (dk_at dksX1_give_0 14 rfl rfl)
theorem dX1_give_17 : decode cX1_give 17 = .ok (.ifCond .ne 6, 3) := dk_154 0 6 (dk_at dksX1_give_0 17 rfl rfl)
theorem dX1_give_20 : decode cX1_give 20 = .ok (.bipush (-2), 2) := dk_16 254 (dk_at dksX1_give_0 20 rfl rfl)
theorem dX1_give_22 : decode cX1_give 22 = .ok (.ireturn, 1) := dk_172 (dk_at dksX1_give_0 22 rfl rfl)
theorem dX1_give_23 : decode cX1_give 23 = .ok (.aload_n 0, 1) := dk_42 (dk_at dksX1_give_0 23 rfl rfl)
theorem dX1_give_24 : decode cX1_give 24 = .ok (.getfield 71, 3) := dk_180 0 71 (dk_at dksX1_give_1 0 rfl rfl)
theorem dX1_give_27 : decode cX1_give 27 = .ok (.ifCond .ne 6, 3) := dk_154 0 6 (dk_at dksX1_give_1 3 rfl rfl)
theorem dX1_give_30 : decode cX1_give 30 = .ok (.bipush (-3), 2) := dk_16 253 (dk_at dksX1_give_1 6 rfl rfl)
theorem dX1_give_32 : decode cX1_give 32 = .ok (.ireturn, 1) := dk_172 (dk_at dksX1_give_1 8 rfl rfl)
theorem dX1_give_33 : decode cX1_give 33 = .ok (.aload_n 0, 1) := dk_42 (dk_at dksX1_give_1 9 rfl rfl)
theorem dX1_give_34 : decode cX1_give 34 = .ok (.getfield 22, 3) := dk_180 0 22 (dk_at dksX1_give_1 10 rfl rfl)
theorem dX1_give_37 : decode cX1_give 37 = .ok (.iload_n 1, 1) := dk_27 (dk_at dksX1_give_1 13 rfl rfl)
theorem dX1_give_38 : decode cX1_give 38 = .ok (.iaload, 1) := dk_46 (dk_at dksX1_give_1 14 rfl rfl)
theorem dX1_give_39 : decode cX1_give 39 = .ok (.istore_n 3, 1) := dk_62 (dk_at dksX1_give_1 15 rfl rfl)
theorem dX1_give_40 : decode cX1_give 40 = .ok (.aload_n 0, 1) := dk_42 (dk_at dksX1_give_1 16 rfl rfl)
theorem dX1_give_41 : decode cX1_give 41 = .ok (.getfield 22, 3) := dk_180 0 22 (dk_at dksX1_give_1 17 rfl rfl)
theorem dX1_give_44 : decode cX1_give 44 = .ok (.iload_n 1, 1) := dk_27 (dk_at dksX1_give_1 20 rfl rfl)
theorem dX1_give_45 : decode cX1_give 45 = .ok (.iload_n 2, 1) := dk_28 (dk_at dksX1_give_1 21 rfl rfl)
theorem dX1_give_46 : decode cX1_give 46 = .ok (.iastore, 1) := dk_79 (dk_at dksX1_give_1 22 rfl rfl)
theorem dX1_give_47 : decode cX1_give 47 = .ok (.iload_n 3, 1) := dk_29 (dk_at dksX1_give_1 23 rfl rfl)
theorem dX1_give_48 : decode cX1_give 48 = .ok (.ireturn, 1) := dk_172 (dk_at dksX1_give_2 0 rfl rfl)
abbrev cX1_isValley : ByteArray := prog_15_method_11_code
def yX1_isValley : MethodName := ⟨RX1, "isValley", "(I)Z"⟩
def dkwX1_isValley_0 : List UInt8 := [26, 3, 5, 184, 0, 67, 172]
abbrev dktX1_isValley_0 : List UInt8 := dkwX1_isValley_0 ++ []
theorem dksX1_isValley_0 : cX1_isValley.data.toList.drop 0 = dktX1_isValley_0 := by decide +kernel
theorem dX1_isValley_0 : decode cX1_isValley 0 = .ok (.iload_n 0, 1) := dk_26 (dk_at dksX1_isValley_0 0 rfl rfl)
theorem dX1_isValley_1 : decode cX1_isValley 1 = .ok (.iconst 0, 1) := dk_3 (dk_at dksX1_isValley_0 1 rfl rfl)
theorem dX1_isValley_2 : decode cX1_isValley 2 = .ok (.iconst 2, 1) := dk_5 (dk_at dksX1_isValley_0 2 rfl rfl)
theorem dX1_isValley_3 : decode cX1_isValley 3 = .ok (.invokestatic 67, 3) := dk_184 0 67 (dk_at dksX1_isValley_0 3 rfl rfl)
theorem dX1_isValley_6 : decode cX1_isValley 6 = .ok (.ireturn, 1) := dk_172 (dk_at dksX1_isValley_0 6 rfl rfl)
abbrev cX1_open : ByteArray := prog_15_method_24_code
def yX1_open : MethodName := ⟨RX1, "open", "(I)I"⟩
def dkwX1_open_2 : List UInt8 := [3, 128, 61, 132, 3, 1, 167, 255, 226, 28, 172]
abbrev dktX1_open_2 : List UInt8 := dkwX1_open_2 ++ []
def dkwX1_open_1 : List UInt8 := [29, 42, 180, 0, 71, 162, 0, 28, 28, 42, 29, 27, 182, 0, 130, 153, 0, 9, 4, 29, 120, 167, 0, 4]
abbrev dktX1_open_1 : List UInt8 := dkwX1_open_1 ++ dktX1_open_2
def dkwX1_open_0 : List UInt8 := [27, 184, 0, 124, 154, 0, 6, 16, 254, 172, 42, 180, 0, 71, 154, 0, 6, 16, 253, 172, 3, 61, 3, 62]
abbrev dktX1_open_0 : List UInt8 := dkwX1_open_0 ++ dktX1_open_1
theorem dksX1_open_0 : cX1_open.data.toList.drop 0 = dktX1_open_0 := by decide +kernel
theorem dksX1_open_1 : cX1_open.data.toList.drop 24 = dktX1_open_1 := dk_seg dksX1_open_0 24 rfl rfl
theorem dksX1_open_2 : cX1_open.data.toList.drop 48 = dktX1_open_2 := dk_seg dksX1_open_1 24 rfl rfl
theorem dX1_open_0 : decode cX1_open 0 = .ok (.iload_n 1, 1) := dk_27 (dk_at dksX1_open_0 0 rfl rfl)
theorem dX1_open_1 : decode cX1_open 1 = .ok (.invokestatic 124, 3) := dk_184 0 124 (dk_at dksX1_open_0 1 rfl rfl)
theorem dX1_open_4 : decode cX1_open 4 = .ok (.ifCond .ne 6, 3) := dk_154 0 6 (dk_at dksX1_open_0 4 rfl rfl)
theorem dX1_open_7 : decode cX1_open 7 = .ok (.bipush (-2), 2) := dk_16 254 (dk_at dksX1_open_0 7 rfl rfl)
theorem dX1_open_9 : decode cX1_open 9 = .ok (.ireturn, 1) := dk_172 (dk_at dksX1_open_0 9 rfl rfl)
theorem dX1_open_10 : decode cX1_open 10 = .ok (.aload_n 0, 1) := dk_42 (dk_at dksX1_open_0 10 rfl rfl)
theorem dX1_open_11 : decode cX1_open 11 = .ok (.getfield 71, 3) := dk_180 0 71 (dk_at dksX1_open_0 11 rfl rfl)
theorem dX1_open_14 : decode cX1_open 14 = .ok (.ifCond .ne 6, 3) := dk_154 0 6 (dk_at dksX1_open_0 14 rfl rfl)
theorem dX1_open_17 : decode cX1_open 17 = .ok (.bipush (-3), 2) := dk_16 253 (dk_at dksX1_open_0 17 rfl rfl)
theorem dX1_open_19 : decode cX1_open 19 = .ok (.ireturn, 1) := dk_172 (dk_at dksX1_open_0 19 rfl rfl)
theorem dX1_open_20 : decode cX1_open 20 = .ok (.iconst 0, 1) := dk_3 (dk_at dksX1_open_0 20 rfl rfl)
theorem dX1_open_21 : decode cX1_open 21 = .ok (.istore_n 2, 1) := dk_61 (dk_at dksX1_open_0 21 rfl rfl)
theorem dX1_open_22 : decode cX1_open 22 = .ok (.iconst 0, 1) := dk_3 (dk_at dksX1_open_0 22 rfl rfl)
theorem dX1_open_23 : decode cX1_open 23 = .ok (.istore_n 3, 1) := dk_62 (dk_at dksX1_open_0 23 rfl rfl)
theorem dX1_open_24 : decode cX1_open 24 = .ok (.iload_n 3, 1) := dk_29 (dk_at dksX1_open_1 0 rfl rfl)
theorem dX1_open_25 : decode cX1_open 25 = .ok (.aload_n 0, 1) := dk_42 (dk_at dksX1_open_1 1 rfl rfl)
theorem dX1_open_26 : decode cX1_open 26 = .ok (.getfield 71, 3) := dk_180 0 71 (dk_at dksX1_open_1 2 rfl rfl)
theorem dX1_open_29 : decode cX1_open 29 = .ok (.if_icmp .ge 28, 3) := dk_162 0 28 (dk_at dksX1_open_1 5 rfl rfl)
theorem dX1_open_32 : decode cX1_open 32 = .ok (.iload_n 2, 1) := dk_28 (dk_at dksX1_open_1 8 rfl rfl)
theorem dX1_open_33 : decode cX1_open 33 = .ok (.aload_n 0, 1) := dk_42 (dk_at dksX1_open_1 9 rfl rfl)
theorem dX1_open_34 : decode cX1_open 34 = .ok (.iload_n 3, 1) := dk_29 (dk_at dksX1_open_1 10 rfl rfl)
theorem dX1_open_35 : decode cX1_open 35 = .ok (.iload_n 1, 1) := dk_27 (dk_at dksX1_open_1 11 rfl rfl)
theorem dX1_open_36 : decode cX1_open 36 = .ok (.invokevirtual 130, 3) := dk_182 0 130 (dk_at dksX1_open_1 12 rfl rfl)
theorem dX1_open_39 : decode cX1_open 39 = .ok (.ifCond .eq 9, 3) := dk_153 0 9 (dk_at dksX1_open_1 15 rfl rfl)
theorem dX1_open_42 : decode cX1_open 42 = .ok (.iconst 1, 1) := dk_4 (dk_at dksX1_open_1 18 rfl rfl)
theorem dX1_open_43 : decode cX1_open 43 = .ok (.iload_n 3, 1) := dk_29 (dk_at dksX1_open_1 19 rfl rfl)
theorem dX1_open_44 : decode cX1_open 44 = .ok (.ishl, 1) := dk_120 (dk_at dksX1_open_1 20 rfl rfl)
theorem dX1_open_45 : decode cX1_open 45 = .ok (.goto 4, 3) := dk_167 0 4 (dk_at dksX1_open_1 21 rfl rfl)
theorem dX1_open_48 : decode cX1_open 48 = .ok (.iconst 0, 1) := dk_3 (dk_at dksX1_open_2 0 rfl rfl)
theorem dX1_open_49 : decode cX1_open 49 = .ok (.ior, 1) := dk_128 (dk_at dksX1_open_2 1 rfl rfl)
theorem dX1_open_50 : decode cX1_open 50 = .ok (.istore_n 2, 1) := dk_61 (dk_at dksX1_open_2 2 rfl rfl)
theorem dX1_open_51 : decode cX1_open 51 = .ok (.iinc 3 1, 3) := dk_132 3 1 (dk_at dksX1_open_2 3 rfl rfl)
theorem dX1_open_54 : decode cX1_open 54 = .ok (.goto (-30), 3) := dk_167 255 226 (dk_at dksX1_open_2 6 rfl rfl)
theorem dX1_open_57 : decode cX1_open 57 = .ok (.iload_n 2, 1) := dk_28 (dk_at dksX1_open_2 9 rfl rfl)
theorem dX1_open_58 : decode cX1_open 58 = .ok (.ireturn, 1) := dk_172 (dk_at dksX1_open_2 10 rfl rfl)
abbrev cX1_isOpen : ByteArray := prog_15_method_23_code
def yX1_isOpen : MethodName := ⟨RX1, "isOpen", "(II)Z"⟩
def dkwX1_isOpen_1 : List UInt8 := [42, 180, 0, 19, 28, 46, 164, 0, 7, 4, 167, 0, 4, 3, 172]
abbrev dktX1_isOpen_1 : List UInt8 := dkwX1_isOpen_1 ++ []
def dkwX1_isOpen_0 : List UInt8 := [27, 42, 180, 0, 40, 159, 0, 32, 42, 180, 0, 25, 27, 46, 5, 159, 0, 18, 42, 180, 0, 37, 27, 46]
abbrev dktX1_isOpen_0 : List UInt8 := dkwX1_isOpen_0 ++ dktX1_isOpen_1
theorem dksX1_isOpen_0 : cX1_isOpen.data.toList.drop 0 = dktX1_isOpen_0 := by decide +kernel
theorem dksX1_isOpen_1 : cX1_isOpen.data.toList.drop 24 = dktX1_isOpen_1 := dk_seg dksX1_isOpen_0 24 rfl rfl
theorem dX1_isOpen_0 : decode cX1_isOpen 0 = .ok (.iload_n 1, 1) := dk_27 (dk_at dksX1_isOpen_0 0 rfl rfl)
theorem dX1_isOpen_1 : decode cX1_isOpen 1 = .ok (.aload_n 0, 1) := dk_42 (dk_at dksX1_isOpen_0 1 rfl rfl)
theorem dX1_isOpen_2 : decode cX1_isOpen 2 = .ok (.getfield 40, 3) := dk_180 0 40 (dk_at dksX1_isOpen_0 2 rfl rfl)
theorem dX1_isOpen_5 : decode cX1_isOpen 5 = .ok (.if_icmp .eq 32, 3) := dk_159 0 32 (dk_at dksX1_isOpen_0 5 rfl rfl)
theorem dX1_isOpen_8 : decode cX1_isOpen 8 = .ok (.aload_n 0, 1) := dk_42 (dk_at dksX1_isOpen_0 8 rfl rfl)
theorem dX1_isOpen_9 : decode cX1_isOpen 9 = .ok (.getfield 25, 3) := dk_180 0 25 (dk_at dksX1_isOpen_0 9 rfl rfl)
theorem dX1_isOpen_12 : decode cX1_isOpen 12 = .ok (.iload_n 1, 1) := dk_27 (dk_at dksX1_isOpen_0 12 rfl rfl)
theorem dX1_isOpen_13 : decode cX1_isOpen 13 = .ok (.iaload, 1) := dk_46 (dk_at dksX1_isOpen_0 13 rfl rfl)
theorem dX1_isOpen_14 : decode cX1_isOpen 14 = .ok (.iconst 2, 1) := dk_5 (dk_at dksX1_isOpen_0 14 rfl rfl)
theorem dX1_isOpen_15 : decode cX1_isOpen 15 = .ok (.if_icmp .eq 18, 3) := dk_159 0 18 (dk_at dksX1_isOpen_0 15 rfl rfl)
theorem dX1_isOpen_18 : decode cX1_isOpen 18 = .ok (.aload_n 0, 1) := dk_42 (dk_at dksX1_isOpen_0 18 rfl rfl)
theorem dX1_isOpen_19 : decode cX1_isOpen 19 = .ok (.getfield 37, 3) := dk_180 0 37 (dk_at dksX1_isOpen_0 19 rfl rfl)
theorem dX1_isOpen_22 : decode cX1_isOpen 22 = .ok (.iload_n 1, 1) := dk_27 (dk_at dksX1_isOpen_0 22 rfl rfl)
theorem dX1_isOpen_23 : decode cX1_isOpen 23 = .ok (.iaload, 1) := dk_46 (dk_at dksX1_isOpen_0 23 rfl rfl)
theorem dX1_isOpen_24 : decode cX1_isOpen 24 = .ok (.aload_n 0, 1) := dk_42 (dk_at dksX1_isOpen_1 0 rfl rfl)
theorem dX1_isOpen_25 : decode cX1_isOpen 25 = .ok (.getfield 19, 3) := dk_180 0 19 (dk_at dksX1_isOpen_1 1 rfl rfl)
theorem dX1_isOpen_28 : decode cX1_isOpen 28 = .ok (.iload_n 2, 1) := dk_28 (dk_at dksX1_isOpen_1 4 rfl rfl)
theorem dX1_isOpen_29 : decode cX1_isOpen 29 = .ok (.iaload, 1) := dk_46 (dk_at dksX1_isOpen_1 5 rfl rfl)
theorem dX1_isOpen_30 : decode cX1_isOpen 30 = .ok (.if_icmp .le 7, 3) := dk_164 0 7 (dk_at dksX1_isOpen_1 6 rfl rfl)
theorem dX1_isOpen_33 : decode cX1_isOpen 33 = .ok (.iconst 1, 1) := dk_4 (dk_at dksX1_isOpen_1 9 rfl rfl)
theorem dX1_isOpen_34 : decode cX1_isOpen 34 = .ok (.goto 4, 3) := dk_167 0 4 (dk_at dksX1_isOpen_1 10 rfl rfl)
theorem dX1_isOpen_37 : decode cX1_isOpen 37 = .ok (.iconst 0, 1) := dk_3 (dk_at dksX1_isOpen_1 13 rfl rfl)
theorem dX1_isOpen_38 : decode cX1_isOpen 38 = .ok (.ireturn, 1) := dk_172 (dk_at dksX1_isOpen_1 14 rfl rfl)
abbrev cX1_soonest : ByteArray := prog_15_method_32_code
def yX1_soonest : MethodName := ⟨RX1, "soonest", "(I)I"⟩
def dkwX1_soonest_1 : List UInt8 := [182, 0, 161, 172]
abbrev dktX1_soonest_1 : List UInt8 := dkwX1_soonest_1 ++ []
def dkwX1_soonest_0 : List UInt8 := [27, 184, 0, 124, 154, 0, 6, 16, 254, 172, 42, 180, 0, 71, 154, 0, 8, 16, 253, 167, 0, 8, 42, 27]
abbrev dktX1_soonest_0 : List UInt8 := dkwX1_soonest_0 ++ dktX1_soonest_1
theorem dksX1_soonest_0 : cX1_soonest.data.toList.drop 0 = dktX1_soonest_0 := by decide +kernel
theorem dksX1_soonest_1 : cX1_soonest.data.toList.drop 24 = dktX1_soonest_1 := dk_seg dksX1_soonest_0 24 rfl rfl
theorem dX1_soonest_0 : decode cX1_soonest 0 = .ok (.iload_n 1, 1) := dk_27 (dk_at dksX1_soonest_0 0 rfl rfl)
theorem dX1_soonest_1 : decode cX1_soonest 1 = .ok (.invokestatic 124, 3) := dk_184 0 124 (dk_at dksX1_soonest_0 1 rfl rfl)
theorem dX1_soonest_4 : decode cX1_soonest 4 = .ok (.ifCond .ne 6, 3) := dk_154 0 6 (dk_at dksX1_soonest_0 4 rfl rfl)
theorem dX1_soonest_7 : decode cX1_soonest 7 = .ok (.bipush (-2), 2) := dk_16 254 (dk_at dksX1_soonest_0 7 rfl rfl)
theorem dX1_soonest_9 : decode cX1_soonest 9 = .ok (.ireturn, 1) := dk_172 (dk_at dksX1_soonest_0 9 rfl rfl)
theorem dX1_soonest_10 : decode cX1_soonest 10 = .ok (.aload_n 0, 1) := dk_42 (dk_at dksX1_soonest_0 10 rfl rfl)
theorem dX1_soonest_11 : decode cX1_soonest 11 = .ok (.getfield 71, 3) := dk_180 0 71 (dk_at dksX1_soonest_0 11 rfl rfl)
theorem dX1_soonest_14 : decode cX1_soonest 14 = .ok (.ifCond .ne 8, 3) := dk_154 0 8 (dk_at dksX1_soonest_0 14 rfl rfl)
theorem dX1_soonest_17 : decode cX1_soonest 17 = .ok (.bipush (-3), 2) := dk_16 253 (dk_at dksX1_soonest_0 17 rfl rfl)
theorem dX1_soonest_19 : decode cX1_soonest 19 = .ok (.goto 8, 3) := dk_167 0 8 (dk_at dksX1_soonest_0 19 rfl rfl)
theorem dX1_soonest_22 : decode cX1_soonest 22 = .ok (.aload_n 0, 1) := dk_42 (dk_at dksX1_soonest_0 22 rfl rfl)
theorem dX1_soonest_23 : decode cX1_soonest 23 = .ok (.iload_n 1, 1) := dk_27 (dk_at dksX1_soonest_0 23 rfl rfl)
theorem dX1_soonest_24 : decode cX1_soonest 24 = .ok (.invokevirtual 161, 3) := dk_182 0 161 (dk_at dksX1_soonest_1 0 rfl rfl)
theorem dX1_soonest_27 : decode cX1_soonest 27 = .ok (.ireturn, 1) := dk_172 (dk_at dksX1_soonest_1 3 rfl rfl)
abbrev cX1_soonestOf : ByteArray := prog_15_method_31_code
def yX1_soonestOf : MethodName := ⟨RX1, "soonestOf", "(I)I"⟩
def dkwX1_soonestOf_0 : List UInt8 := [42, 27, 182, 0, 157, 42, 180, 0, 139, 172]
abbrev dktX1_soonestOf_0 : List UInt8 := dkwX1_soonestOf_0 ++ []
theorem dksX1_soonestOf_0 : cX1_soonestOf.data.toList.drop 0 = dktX1_soonestOf_0 := by decide +kernel
theorem dX1_soonestOf_0 : decode cX1_soonestOf 0 = .ok (.aload_n 0, 1) := dk_42 (dk_at dksX1_soonestOf_0 0 rfl rfl)
theorem dX1_soonestOf_1 : decode cX1_soonestOf 1 = .ok (.iload_n 1, 1) := dk_27 (dk_at dksX1_soonestOf_0 1 rfl rfl)
theorem dX1_soonestOf_2 : decode cX1_soonestOf 2 = .ok (.invokevirtual 157, 3) := dk_182 0 157 (dk_at dksX1_soonestOf_0 2 rfl rfl)
theorem dX1_soonestOf_5 : decode cX1_soonestOf 5 = .ok (.aload_n 0, 1) := dk_42 (dk_at dksX1_soonestOf_0 5 rfl rfl)
theorem dX1_soonestOf_6 : decode cX1_soonestOf 6 = .ok (.getfield 139, 3) := dk_180 0 139 (dk_at dksX1_soonestOf_0 6 rfl rfl)
theorem dX1_soonestOf_9 : decode cX1_soonestOf 9 = .ok (.ireturn, 1) := dk_172 (dk_at dksX1_soonestOf_0 9 rfl rfl)
abbrev cX1_makeWheel : ByteArray := prog_15_method_30_code
def yX1_makeWheel : MethodName := ⟨RX1, "makeWheel", "(I)V"⟩
def dkwX1_makeWheel_5 : List UInt8 := [132, 4, 1, 167, 255, 233, 132, 2, 1, 167, 255, 183, 177]
abbrev dktX1_makeWheel_5 : List UInt8 := dkwX1_makeWheel_5 ++ []
def dkwX1_makeWheel_4 : List UInt8 := [54, 4, 21, 4, 16, 6, 162, 0, 22, 42, 28, 21, 4, 5, 108, 21, 4, 5, 112, 182, 0, 153]
abbrev dktX1_makeWheel_4 : List UInt8 := dkwX1_makeWheel_4 ++ dktX1_makeWheel_5
def dkwX1_makeWheel_3 : List UInt8 := [29, 16, 247, 159, 0, 20, 42, 4, 28, 182, 0, 136, 153, 0, 11, 42, 28, 4, 4, 29, 182, 0, 145, 3]
abbrev dktX1_makeWheel_3 : List UInt8 := dkwX1_makeWheel_3 ++ dktX1_makeWheel_4
def dkwX1_makeWheel_2 : List UInt8 := [3, 182, 0, 145, 27, 61, 28, 16, 8, 162, 0, 73, 42, 180, 0, 53, 28, 4, 3, 184, 0, 133, 46, 62]
abbrev dktX1_makeWheel_2 : List UInt8 := dkwX1_makeWheel_2 ++ dktX1_makeWheel_3
def dkwX1_makeWheel_1 : List UInt8 := [16, 247, 181, 0, 139, 42, 16, 247, 181, 0, 142, 42, 3, 27, 182, 0, 136, 153, 0, 11, 42, 27, 3, 3]
abbrev dktX1_makeWheel_1 : List UInt8 := dkwX1_makeWheel_1 ++ dktX1_makeWheel_2
def dkwX1_makeWheel_0 : List UInt8 := [3, 61, 28, 16, 48, 162, 0, 17, 42, 180, 0, 53, 28, 16, 247, 79, 132, 2, 1, 167, 255, 239, 42]
abbrev dktX1_makeWheel_0 : List UInt8 := dkwX1_makeWheel_0 ++ dktX1_makeWheel_1
theorem dksX1_makeWheel_0 : cX1_makeWheel.data.toList.drop 0 = dktX1_makeWheel_0 := by decide +kernel
theorem dksX1_makeWheel_1 : cX1_makeWheel.data.toList.drop 23 = dktX1_makeWheel_1 := dk_seg dksX1_makeWheel_0 23 rfl rfl
theorem dksX1_makeWheel_2 : cX1_makeWheel.data.toList.drop 47 = dktX1_makeWheel_2 := dk_seg dksX1_makeWheel_1 24 rfl rfl
theorem dksX1_makeWheel_3 : cX1_makeWheel.data.toList.drop 71 = dktX1_makeWheel_3 := dk_seg dksX1_makeWheel_2 24 rfl rfl
theorem dksX1_makeWheel_4 : cX1_makeWheel.data.toList.drop 95 = dktX1_makeWheel_4 := dk_seg dksX1_makeWheel_3 24 rfl rfl
theorem dksX1_makeWheel_5 : cX1_makeWheel.data.toList.drop 117 = dktX1_makeWheel_5 := dk_seg dksX1_makeWheel_4 22 rfl rfl
theorem dX1_makeWheel_0 : decode cX1_makeWheel 0 = .ok (.iconst 0, 1) := dk_3 (dk_at dksX1_makeWheel_0 0 rfl rfl)
theorem dX1_makeWheel_1 : decode cX1_makeWheel 1 = .ok (.istore_n 2, 1) := dk_61 (dk_at dksX1_makeWheel_0 1 rfl rfl)
theorem dX1_makeWheel_2 : decode cX1_makeWheel 2 = .ok (.iload_n 2, 1) := dk_28 (dk_at dksX1_makeWheel_0 2 rfl rfl)
theorem dX1_makeWheel_3 : decode cX1_makeWheel 3 = .ok (.bipush 48, 2) := dk_16 48 (dk_at dksX1_makeWheel_0 3 rfl rfl)
theorem dX1_makeWheel_5 : decode cX1_makeWheel 5 = .ok (.if_icmp .ge 17, 3) := dk_162 0 17 (dk_at dksX1_makeWheel_0 5 rfl rfl)
theorem dX1_makeWheel_8 : decode cX1_makeWheel 8 = .ok (.aload_n 0, 1) := dk_42 (dk_at dksX1_makeWheel_0 8 rfl rfl)
theorem dX1_makeWheel_9 : decode cX1_makeWheel 9 = .ok (.getfield 53, 3) := dk_180 0 53 (dk_at dksX1_makeWheel_0 9 rfl rfl)
theorem dX1_makeWheel_12 : decode cX1_makeWheel 12 = .ok (.iload_n 2, 1) := dk_28 (dk_at dksX1_makeWheel_0 12 rfl rfl)
theorem dX1_makeWheel_13 : decode cX1_makeWheel 13 = .ok (.bipush (-9), 2) := dk_16 247 (dk_at dksX1_makeWheel_0 13 rfl rfl)
theorem dX1_makeWheel_15 : decode cX1_makeWheel 15 = .ok (.iastore, 1) := dk_79 (dk_at dksX1_makeWheel_0 15 rfl rfl)
theorem dX1_makeWheel_16 : decode cX1_makeWheel 16 = .ok (.iinc 2 1, 3) := dk_132 2 1 (dk_at dksX1_makeWheel_0 16 rfl rfl)
theorem dX1_makeWheel_19 : decode cX1_makeWheel 19 = .ok (.goto (-17), 3) := dk_167 255 239 (dk_at dksX1_makeWheel_0 19 rfl rfl)
theorem dX1_makeWheel_22 : decode cX1_makeWheel 22 = .ok (.aload_n 0, 1) := dk_42 (dk_at dksX1_makeWheel_0 22 rfl rfl)
theorem dX1_makeWheel_23 : decode cX1_makeWheel 23 = .ok (.bipush (-9), 2) := dk_16 247 (dk_at dksX1_makeWheel_1 0 rfl rfl)
theorem dX1_makeWheel_25 : decode cX1_makeWheel 25 = .ok (.putfield 139, 3) := dk_181 0 139 (dk_at dksX1_makeWheel_1 2 rfl rfl)
theorem dX1_makeWheel_28 : decode cX1_makeWheel 28 = .ok (.aload_n 0, 1) := dk_42 (dk_at dksX1_makeWheel_1 5 rfl rfl)
theorem dX1_makeWheel_29 : decode cX1_makeWheel 29 = .ok (.bipush (-9), 2) := dk_16 247 (dk_at dksX1_makeWheel_1 6 rfl rfl)
theorem dX1_makeWheel_31 : decode cX1_makeWheel 31 = .ok (.putfield 142, 3) := dk_181 0 142 (dk_at dksX1_makeWheel_1 8 rfl rfl)
theorem dX1_makeWheel_34 : decode cX1_makeWheel 34 = .ok (.aload_n 0, 1) := dk_42 (dk_at dksX1_makeWheel_1 11 rfl rfl)
theorem dX1_makeWheel_35 : decode cX1_makeWheel 35 = .ok (.iconst 0, 1) := dk_3 (dk_at dksX1_makeWheel_1 12 rfl rfl)
theorem dX1_makeWheel_36 : decode cX1_makeWheel 36 = .ok (.iload_n 1, 1) := dk_27 (dk_at dksX1_makeWheel_1 13 rfl rfl)
theorem dX1_makeWheel_37 : decode cX1_makeWheel 37 = .ok (.invokevirtual 136, 3) := dk_182 0 136 (dk_at dksX1_makeWheel_1 14 rfl rfl)
theorem dX1_makeWheel_40 : decode cX1_makeWheel 40 = .ok (.ifCond .eq 11, 3) := dk_153 0 11 (dk_at dksX1_makeWheel_1 17 rfl rfl)
theorem dX1_makeWheel_43 : decode cX1_makeWheel 43 = .ok (.aload_n 0, 1) := dk_42 (dk_at dksX1_makeWheel_1 20 rfl rfl)
theorem dX1_makeWheel_44 : decode cX1_makeWheel 44 = .ok (.iload_n 1, 1) := dk_27 (dk_at dksX1_makeWheel_1 21 rfl rfl)
theorem dX1_makeWheel_45 : decode cX1_makeWheel 45 = .ok (.iconst 0, 1) := dk_3 (dk_at dksX1_makeWheel_1 22 rfl rfl)
theorem dX1_makeWheel_46 : decode cX1_makeWheel 46 = .ok (.iconst 0, 1) := dk_3 (dk_at dksX1_makeWheel_1 23 rfl rfl)
theorem dX1_makeWheel_47 : decode cX1_makeWheel 47 = .ok (.iconst 0, 1) := dk_3 (dk_at dksX1_makeWheel_2 0 rfl rfl)
theorem dX1_makeWheel_48 : decode cX1_makeWheel 48 = .ok (.invokevirtual 145, 3) := dk_182 0 145 (dk_at dksX1_makeWheel_2 1 rfl rfl)
theorem dX1_makeWheel_51 : decode cX1_makeWheel 51 = .ok (.iload_n 1, 1) := dk_27 (dk_at dksX1_makeWheel_2 4 rfl rfl)
theorem dX1_makeWheel_52 : decode cX1_makeWheel 52 = .ok (.istore_n 2, 1) := dk_61 (dk_at dksX1_makeWheel_2 5 rfl rfl)
theorem dX1_makeWheel_53 : decode cX1_makeWheel 53 = .ok (.iload_n 2, 1) := dk_28 (dk_at dksX1_makeWheel_2 6 rfl rfl)
theorem dX1_makeWheel_54 : decode cX1_makeWheel 54 = .ok (.bipush 8, 2) := dk_16 8 (dk_at dksX1_makeWheel_2 7 rfl rfl)
theorem dX1_makeWheel_56 : decode cX1_makeWheel 56 = .ok (.if_icmp .ge 73, 3) := dk_162 0 73 (dk_at dksX1_makeWheel_2 9 rfl rfl)
theorem dX1_makeWheel_59 : decode cX1_makeWheel 59 = .ok (.aload_n 0, 1) := dk_42 (dk_at dksX1_makeWheel_2 12 rfl rfl)
theorem dX1_makeWheel_60 : decode cX1_makeWheel 60 = .ok (.getfield 53, 3) := dk_180 0 53 (dk_at dksX1_makeWheel_2 13 rfl rfl)
theorem dX1_makeWheel_63 : decode cX1_makeWheel 63 = .ok (.iload_n 2, 1) := dk_28 (dk_at dksX1_makeWheel_2 16 rfl rfl)
theorem dX1_makeWheel_64 : decode cX1_makeWheel 64 = .ok (.iconst 1, 1) := dk_4 (dk_at dksX1_makeWheel_2 17 rfl rfl)
theorem dX1_makeWheel_65 : decode cX1_makeWheel 65 = .ok (.iconst 0, 1) := dk_3 (dk_at dksX1_makeWheel_2 18 rfl rfl)
theorem dX1_makeWheel_66 : decode cX1_makeWheel 66 = .ok (.invokestatic 133, 3) := dk_184 0 133 (dk_at dksX1_makeWheel_2 19 rfl rfl)
theorem dX1_makeWheel_69 : decode cX1_makeWheel 69 = .ok (.iaload, 1) := dk_46 (dk_at dksX1_makeWheel_2 22 rfl rfl)
theorem dX1_makeWheel_70 : decode cX1_makeWheel 70 = .ok (.istore_n 3, 1) := dk_62 (dk_at dksX1_makeWheel_2 23 rfl rfl)
theorem dX1_makeWheel_71 : decode cX1_makeWheel 71 = .ok (.iload_n 3, 1) := dk_29 (dk_at dksX1_makeWheel_3 0 rfl rfl)
theorem dX1_makeWheel_72 : decode cX1_makeWheel 72 = .ok (.bipush (-9), 2) := dk_16 247 (dk_at dksX1_makeWheel_3 1 rfl rfl)
theorem dX1_makeWheel_74 : decode cX1_makeWheel 74 = .ok (.if_icmp .eq 20, 3) := dk_159 0 20 (dk_at dksX1_makeWheel_3 3 rfl rfl)
theorem dX1_makeWheel_77 : decode cX1_makeWheel 77 = .ok (.aload_n 0, 1) := dk_42 (dk_at dksX1_makeWheel_3 6 rfl rfl)
theorem dX1_makeWheel_78 : decode cX1_makeWheel 78 = .ok (.iconst 1, 1) := dk_4 (dk_at dksX1_makeWheel_3 7 rfl rfl)
theorem dX1_makeWheel_79 : decode cX1_makeWheel 79 = .ok (.iload_n 2, 1) := dk_28 (dk_at dksX1_makeWheel_3 8 rfl rfl)
theorem dX1_makeWheel_80 : decode cX1_makeWheel 80 = .ok (.invokevirtual 136, 3) := dk_182 0 136 (dk_at dksX1_makeWheel_3 9 rfl rfl)
theorem dX1_makeWheel_83 : decode cX1_makeWheel 83 = .ok (.ifCond .eq 11, 3) := dk_153 0 11 (dk_at dksX1_makeWheel_3 12 rfl rfl)
theorem dX1_makeWheel_86 : decode cX1_makeWheel 86 = .ok (.aload_n 0, 1) := dk_42 (dk_at dksX1_makeWheel_3 15 rfl rfl)
theorem dX1_makeWheel_87 : decode cX1_makeWheel 87 = .ok (.iload_n 2, 1) := dk_28 (dk_at dksX1_makeWheel_3 16 rfl rfl)
theorem dX1_makeWheel_88 : decode cX1_makeWheel 88 = .ok (.iconst 1, 1) := dk_4 (dk_at dksX1_makeWheel_3 17 rfl rfl)
theorem dX1_makeWheel_89 : decode cX1_makeWheel 89 = .ok (.iconst 1, 1) := dk_4 (dk_at dksX1_makeWheel_3 18 rfl rfl)
theorem dX1_makeWheel_90 : decode cX1_makeWheel 90 = .ok (.iload_n 3, 1) := dk_29 (dk_at dksX1_makeWheel_3 19 rfl rfl)
theorem dX1_makeWheel_91 : decode cX1_makeWheel 91 = .ok (.invokevirtual 145, 3) := dk_182 0 145 (dk_at dksX1_makeWheel_3 20 rfl rfl)
theorem dX1_makeWheel_94 : decode cX1_makeWheel 94 = .ok (.iconst 0, 1) := dk_3 (dk_at dksX1_makeWheel_3 23 rfl rfl)
theorem dX1_makeWheel_95 : decode cX1_makeWheel 95 = .ok (.istore 4, 2) := dk_54 4 (dk_at dksX1_makeWheel_4 0 rfl rfl)
theorem dX1_makeWheel_97 : decode cX1_makeWheel 97 = .ok (.iload 4, 2) := dk_21 4 (dk_at dksX1_makeWheel_4 2 rfl rfl)
theorem dX1_makeWheel_99 : decode cX1_makeWheel 99 = .ok (.bipush 6, 2) := dk_16 6 (dk_at dksX1_makeWheel_4 4 rfl rfl)
theorem dX1_makeWheel_101 : decode cX1_makeWheel 101 = .ok (.if_icmp .ge 22, 3) := dk_162 0 22 (dk_at dksX1_makeWheel_4 6 rfl rfl)
theorem dX1_makeWheel_104 : decode cX1_makeWheel 104 = .ok (.aload_n 0, 1) := dk_42 (dk_at dksX1_makeWheel_4 9 rfl rfl)
theorem dX1_makeWheel_105 : decode cX1_makeWheel 105 = .ok (.iload_n 2, 1) := dk_28 (dk_at dksX1_makeWheel_4 10 rfl rfl)
theorem dX1_makeWheel_106 : decode cX1_makeWheel 106 = .ok (.iload 4, 2) := dk_21 4 (dk_at dksX1_makeWheel_4 11 rfl rfl)
theorem dX1_makeWheel_108 : decode cX1_makeWheel 108 = .ok (.iconst 2, 1) := dk_5 (dk_at dksX1_makeWheel_4 13 rfl rfl)
theorem dX1_makeWheel_109 : decode cX1_makeWheel 109 = .ok (.idiv, 1) := dk_108 (dk_at dksX1_makeWheel_4 14 rfl rfl)
theorem dX1_makeWheel_110 : decode cX1_makeWheel 110 = .ok (.iload 4, 2) := dk_21 4 (dk_at dksX1_makeWheel_4 15 rfl rfl)
theorem dX1_makeWheel_112 : decode cX1_makeWheel 112 = .ok (.iconst 2, 1) := dk_5 (dk_at dksX1_makeWheel_4 17 rfl rfl)
theorem dX1_makeWheel_113 : decode cX1_makeWheel 113 = .ok (.irem, 1) := dk_112 (dk_at dksX1_makeWheel_4 18 rfl rfl)
theorem dX1_makeWheel_114 : decode cX1_makeWheel 114 = .ok (.invokevirtual 153, 3) := dk_182 0 153 (dk_at dksX1_makeWheel_4 19 rfl rfl)
theorem dX1_makeWheel_117 : decode cX1_makeWheel 117 = .ok (.iinc 4 1, 3) := dk_132 4 1 (dk_at dksX1_makeWheel_5 0 rfl rfl)
theorem dX1_makeWheel_120 : decode cX1_makeWheel 120 = .ok (.goto (-23), 3) := dk_167 255 233 (dk_at dksX1_makeWheel_5 3 rfl rfl)
theorem dX1_makeWheel_123 : decode cX1_makeWheel 123 = .ok (.iinc 2 1, 3) := dk_132 2 1 (dk_at dksX1_makeWheel_5 6 rfl rfl)
theorem dX1_makeWheel_126 : decode cX1_makeWheel 126 = .ok (.goto (-73), 3) := dk_167 255 183 (dk_at dksX1_makeWheel_5 9 rfl rfl)
theorem dX1_makeWheel_129 : decode cX1_makeWheel 129 = .ok (.return_, 1) := dk_177 (dk_at dksX1_makeWheel_5 12 rfl rfl)
abbrev cX1_doesGive : ByteArray := prog_15_method_25_code
def yX1_doesGive : MethodName := ⟨RX1, "doesGive", "(II)Z"⟩
def dkwX1_doesGive_0 : List UInt8 := [42, 180, 0, 22, 27, 46, 28, 122, 4, 126, 4, 160, 0, 7, 4, 167, 0, 4, 3, 172]
abbrev dktX1_doesGive_0 : List UInt8 := dkwX1_doesGive_0 ++ []
theorem dksX1_doesGive_0 : cX1_doesGive.data.toList.drop 0 = dktX1_doesGive_0 := by decide +kernel
theorem dX1_doesGive_0 : decode cX1_doesGive 0 = .ok (.aload_n 0, 1) := dk_42 (dk_at dksX1_doesGive_0 0 rfl rfl)
theorem dX1_doesGive_1 : decode cX1_doesGive 1 = .ok (.getfield 22, 3) := dk_180 0 22 (dk_at dksX1_doesGive_0 1 rfl rfl)
theorem dX1_doesGive_4 : decode cX1_doesGive 4 = .ok (.iload_n 1, 1) := dk_27 (dk_at dksX1_doesGive_0 4 rfl rfl)
theorem dX1_doesGive_5 : decode cX1_doesGive 5 = .ok (.iaload, 1) := dk_46 (dk_at dksX1_doesGive_0 5 rfl rfl)
theorem dX1_doesGive_6 : decode cX1_doesGive 6 = .ok (.iload_n 2, 1) := dk_28 (dk_at dksX1_doesGive_0 6 rfl rfl)
theorem dX1_doesGive_7 : decode cX1_doesGive 7 = .ok (.ishr, 1) := dk_122 (dk_at dksX1_doesGive_0 7 rfl rfl)
theorem dX1_doesGive_8 : decode cX1_doesGive 8 = .ok (.iconst 1, 1) := dk_4 (dk_at dksX1_doesGive_0 8 rfl rfl)
theorem dX1_doesGive_9 : decode cX1_doesGive 9 = .ok (.iand, 1) := dk_126 (dk_at dksX1_doesGive_0 9 rfl rfl)
theorem dX1_doesGive_10 : decode cX1_doesGive 10 = .ok (.iconst 1, 1) := dk_4 (dk_at dksX1_doesGive_0 10 rfl rfl)
theorem dX1_doesGive_11 : decode cX1_doesGive 11 = .ok (.if_icmp .ne 7, 3) := dk_160 0 7 (dk_at dksX1_doesGive_0 11 rfl rfl)
theorem dX1_doesGive_14 : decode cX1_doesGive 14 = .ok (.iconst 1, 1) := dk_4 (dk_at dksX1_doesGive_0 14 rfl rfl)
theorem dX1_doesGive_15 : decode cX1_doesGive 15 = .ok (.goto 4, 3) := dk_167 0 4 (dk_at dksX1_doesGive_0 15 rfl rfl)
theorem dX1_doesGive_18 : decode cX1_doesGive 18 = .ok (.iconst 0, 1) := dk_3 (dk_at dksX1_doesGive_0 18 rfl rfl)
theorem dX1_doesGive_19 : decode cX1_doesGive 19 = .ok (.ireturn, 1) := dk_172 (dk_at dksX1_doesGive_0 19 rfl rfl)
abbrev cX1_comes : ByteArray := prog_15_method_28_code
def yX1_comes : MethodName := ⟨RX1, "comes", "(IIII)V"⟩
def dkwX1_comes_2 : List UInt8 := [167, 0, 10, 42, 180, 0, 53, 21, 5, 46, 79, 177]
abbrev dktX1_comes_2 : List UInt8 := dkwX1_comes_2 ++ []
def dkwX1_comes_1 : List UInt8 := [21, 5, 46, 16, 247, 159, 0, 15, 21, 4, 42, 180, 0, 53, 21, 5, 46, 162, 0, 8, 21, 4]
abbrev dktX1_comes_1 : List UInt8 := dkwX1_comes_1 ++ dktX1_comes_2
def dkwX1_comes_0 : List UInt8 := [27, 16, 8, 162, 0, 54, 27, 28, 29, 184, 0, 133, 54, 5, 42, 180, 0, 53, 21, 5, 42, 180, 0, 53]
abbrev dktX1_comes_0 : List UInt8 := dkwX1_comes_0 ++ dktX1_comes_1
theorem dksX1_comes_0 : cX1_comes.data.toList.drop 0 = dktX1_comes_0 := by decide +kernel
theorem dksX1_comes_1 : cX1_comes.data.toList.drop 24 = dktX1_comes_1 := dk_seg dksX1_comes_0 24 rfl rfl
theorem dksX1_comes_2 : cX1_comes.data.toList.drop 46 = dktX1_comes_2 := dk_seg dksX1_comes_1 22 rfl rfl
theorem dX1_comes_0 : decode cX1_comes 0 = .ok (.iload_n 1, 1) := dk_27 (dk_at dksX1_comes_0 0 rfl rfl)
theorem dX1_comes_1 : decode cX1_comes 1 = .ok (.bipush 8, 2) := dk_16 8 (dk_at dksX1_comes_0 1 rfl rfl)
theorem dX1_comes_3 : decode cX1_comes 3 = .ok (.if_icmp .ge 54, 3) := dk_162 0 54 (dk_at dksX1_comes_0 3 rfl rfl)
theorem dX1_comes_6 : decode cX1_comes 6 = .ok (.iload_n 1, 1) := dk_27 (dk_at dksX1_comes_0 6 rfl rfl)
theorem dX1_comes_7 : decode cX1_comes 7 = .ok (.iload_n 2, 1) := dk_28 (dk_at dksX1_comes_0 7 rfl rfl)
theorem dX1_comes_8 : decode cX1_comes 8 = .ok (.iload_n 3, 1) := dk_29 (dk_at dksX1_comes_0 8 rfl rfl)
theorem dX1_comes_9 : decode cX1_comes 9 = .ok (.invokestatic 133, 3) := dk_184 0 133 (dk_at dksX1_comes_0 9 rfl rfl)
theorem dX1_comes_12 : decode cX1_comes 12 = .ok (.istore 5, 2) := dk_54 5 (dk_at dksX1_comes_0 12 rfl rfl)
theorem dX1_comes_14 : decode cX1_comes 14 = .ok (.aload_n 0, 1) := dk_42 (dk_at dksX1_comes_0 14 rfl rfl)
theorem dX1_comes_15 : decode cX1_comes 15 = .ok (.getfield 53, 3) := dk_180 0 53 (dk_at dksX1_comes_0 15 rfl rfl)
theorem dX1_comes_18 : decode cX1_comes 18 = .ok (.iload 5, 2) := dk_21 5 (dk_at dksX1_comes_0 18 rfl rfl)
theorem dX1_comes_20 : decode cX1_comes 20 = .ok (.aload_n 0, 1) := dk_42 (dk_at dksX1_comes_0 20 rfl rfl)
theorem dX1_comes_21 : decode cX1_comes 21 = .ok (.getfield 53, 3) := dk_180 0 53 (dk_at dksX1_comes_0 21 rfl rfl)
theorem dX1_comes_24 : decode cX1_comes 24 = .ok (.iload 5, 2) := dk_21 5 (dk_at dksX1_comes_1 0 rfl rfl)
theorem dX1_comes_26 : decode cX1_comes 26 = .ok (.iaload, 1) := dk_46 (dk_at dksX1_comes_1 2 rfl rfl)
theorem dX1_comes_27 : decode cX1_comes 27 = .ok (.bipush (-9), 2) := dk_16 247 (dk_at dksX1_comes_1 3 rfl rfl)
theorem dX1_comes_29 : decode cX1_comes 29 = .ok (.if_icmp .eq 15, 3) := dk_159 0 15 (dk_at dksX1_comes_1 5 rfl rfl)
theorem dX1_comes_32 : decode cX1_comes 32 = .ok (.iload 4, 2) := dk_21 4 (dk_at dksX1_comes_1 8 rfl rfl)
theorem dX1_comes_34 : decode cX1_comes 34 = .ok (.aload_n 0, 1) := dk_42 (dk_at dksX1_comes_1 10 rfl rfl)
theorem dX1_comes_35 : decode cX1_comes 35 = .ok (.getfield 53, 3) := dk_180 0 53 (dk_at dksX1_comes_1 11 rfl rfl)
theorem dX1_comes_38 : decode cX1_comes 38 = .ok (.iload 5, 2) := dk_21 5 (dk_at dksX1_comes_1 14 rfl rfl)
theorem dX1_comes_40 : decode cX1_comes 40 = .ok (.iaload, 1) := dk_46 (dk_at dksX1_comes_1 16 rfl rfl)
theorem dX1_comes_41 : decode cX1_comes 41 = .ok (.if_icmp .ge 8, 3) := dk_162 0 8 (dk_at dksX1_comes_1 17 rfl rfl)
theorem dX1_comes_44 : decode cX1_comes 44 = .ok (.iload 4, 2) := dk_21 4 (dk_at dksX1_comes_1 20 rfl rfl)
theorem dX1_comes_46 : decode cX1_comes 46 = .ok (.goto 10, 3) := dk_167 0 10 (dk_at dksX1_comes_2 0 rfl rfl)
theorem dX1_comes_49 : decode cX1_comes 49 = .ok (.aload_n 0, 1) := dk_42 (dk_at dksX1_comes_2 3 rfl rfl)
theorem dX1_comes_50 : decode cX1_comes 50 = .ok (.getfield 53, 3) := dk_180 0 53 (dk_at dksX1_comes_2 4 rfl rfl)
theorem dX1_comes_53 : decode cX1_comes 53 = .ok (.iload 5, 2) := dk_21 5 (dk_at dksX1_comes_2 7 rfl rfl)
theorem dX1_comes_55 : decode cX1_comes 55 = .ok (.iaload, 1) := dk_46 (dk_at dksX1_comes_2 9 rfl rfl)
theorem dX1_comes_56 : decode cX1_comes 56 = .ok (.iastore, 1) := dk_79 (dk_at dksX1_comes_2 10 rfl rfl)
theorem dX1_comes_57 : decode cX1_comes 57 = .ok (.return_, 1) := dk_177 (dk_at dksX1_comes_2 11 rfl rfl)
abbrev cX1_spot : ByteArray := prog_15_method_27_code
def yX1_spot : MethodName := ⟨RX1, "spot", "(III)I"⟩
def dkwX1_spot_0 : List UInt8 := [6, 26, 104, 27, 96, 5, 104, 28, 96, 172]
abbrev dktX1_spot_0 : List UInt8 := dkwX1_spot_0 ++ []
theorem dksX1_spot_0 : cX1_spot.data.toList.drop 0 = dktX1_spot_0 := by decide +kernel
theorem dX1_spot_0 : decode cX1_spot 0 = .ok (.iconst 3, 1) := dk_6 (dk_at dksX1_spot_0 0 rfl rfl)
theorem dX1_spot_1 : decode cX1_spot 1 = .ok (.iload_n 0, 1) := dk_26 (dk_at dksX1_spot_0 1 rfl rfl)
theorem dX1_spot_2 : decode cX1_spot 2 = .ok (.imul, 1) := dk_104 (dk_at dksX1_spot_0 2 rfl rfl)
theorem dX1_spot_3 : decode cX1_spot 3 = .ok (.iload_n 1, 1) := dk_27 (dk_at dksX1_spot_0 3 rfl rfl)
theorem dX1_spot_4 : decode cX1_spot 4 = .ok (.iadd, 1) := dk_96 (dk_at dksX1_spot_0 4 rfl rfl)
theorem dX1_spot_5 : decode cX1_spot 5 = .ok (.iconst 2, 1) := dk_5 (dk_at dksX1_spot_0 5 rfl rfl)
theorem dX1_spot_6 : decode cX1_spot 6 = .ok (.imul, 1) := dk_104 (dk_at dksX1_spot_0 6 rfl rfl)
theorem dX1_spot_7 : decode cX1_spot 7 = .ok (.iload_n 2, 1) := dk_28 (dk_at dksX1_spot_0 7 rfl rfl)
theorem dX1_spot_8 : decode cX1_spot 8 = .ok (.iadd, 1) := dk_96 (dk_at dksX1_spot_0 8 rfl rfl)
theorem dX1_spot_9 : decode cX1_spot 9 = .ok (.ireturn, 1) := dk_172 (dk_at dksX1_spot_0 9 rfl rfl)
abbrev cX1_goOn : ByteArray := prog_15_method_29_code
def yX1_goOn : MethodName := ⟨RX1, "goOn", "(III)V"⟩
def dkwX1_goOn_7 : List UInt8 := [167, 255, 200, 177]
abbrev dktX1_goOn_7 : List UInt8 := dkwX1_goOn_7 ++ []
def dkwX1_goOn_6 : List UInt8 := [21, 5, 182, 0, 121, 96, 42, 21, 5, 28, 182, 0, 149, 29, 21, 4, 182, 0, 145, 132, 5, 1]
abbrev dktX1_goOn_6 : List UInt8 := dkwX1_goOn_6 ++ dktX1_goOn_7
def dkwX1_goOn_5 : List UInt8 := [21, 5, 27, 182, 0, 130, 153, 0, 37, 42, 21, 5, 28, 182, 0, 149, 16, 247, 159, 0, 25, 42, 27, 42]
abbrev dktX1_goOn_5 : List UInt8 := dkwX1_goOn_5 ++ dktX1_goOn_6
def dkwX1_goOn_4 : List UInt8 := [96, 28, 29, 21, 4, 4, 96, 182, 0, 145, 3, 54, 5, 21, 5, 42, 180, 0, 71, 162, 0, 53, 42]
abbrev dktX1_goOn_4 : List UInt8 := dkwX1_goOn_4 ++ dktX1_goOn_5
def dkwX1_goOn_3 : List UInt8 := [21, 4, 42, 180, 0, 142, 162, 0, 8, 21, 4, 167, 0, 7, 42, 180, 0, 142, 181, 0, 142, 42, 27, 4]
abbrev dktX1_goOn_3 : List UInt8 := dkwX1_goOn_3 ++ dktX1_goOn_4
def dkwX1_goOn_2 : List UInt8 := [160, 0, 7, 27, 167, 0, 7, 42, 180, 0, 139, 181, 0, 139, 42, 42, 180, 0, 142, 16, 247, 159, 0, 12]
abbrev dktX1_goOn_2 : List UInt8 := dkwX1_goOn_2 ++ dktX1_goOn_3
def dkwX1_goOn_1 : List UInt8 := [160, 0, 69, 28, 5, 160, 0, 64, 42, 5, 27, 182, 0, 136, 153, 0, 55, 42, 42, 180, 0, 139, 16, 247]
abbrev dktX1_goOn_1 : List UInt8 := dkwX1_goOn_1 ++ dktX1_goOn_2
def dkwX1_goOn_0 : List UInt8 := [42, 180, 0, 53, 27, 28, 29, 184, 0, 133, 46, 54, 4, 21, 4, 16, 247, 160, 0, 4, 177, 29, 4]
abbrev dktX1_goOn_0 : List UInt8 := dkwX1_goOn_0 ++ dktX1_goOn_1
theorem dksX1_goOn_0 : cX1_goOn.data.toList.drop 0 = dktX1_goOn_0 := by decide +kernel
theorem dksX1_goOn_1 : cX1_goOn.data.toList.drop 23 = dktX1_goOn_1 := dk_seg dksX1_goOn_0 23 rfl rfl
theorem dksX1_goOn_2 : cX1_goOn.data.toList.drop 47 = dktX1_goOn_2 := dk_seg dksX1_goOn_1 24 rfl rfl
theorem dksX1_goOn_3 : cX1_goOn.data.toList.drop 71 = dktX1_goOn_3 := dk_seg dksX1_goOn_2 24 rfl rfl
theorem dksX1_goOn_4 : cX1_goOn.data.toList.drop 95 = dktX1_goOn_4 := dk_seg dksX1_goOn_3 24 rfl rfl
theorem dksX1_goOn_5 : cX1_goOn.data.toList.drop 118 = dktX1_goOn_5 := dk_seg dksX1_goOn_4 23 rfl rfl
theorem dksX1_goOn_6 : cX1_goOn.data.toList.drop 142 = dktX1_goOn_6 := dk_seg dksX1_goOn_5 24 rfl rfl
theorem dksX1_goOn_7 : cX1_goOn.data.toList.drop 164 = dktX1_goOn_7 := dk_seg dksX1_goOn_6 22 rfl rfl
theorem dX1_goOn_0 : decode cX1_goOn 0 = .ok (.aload_n 0, 1) := dk_42 (dk_at dksX1_goOn_0 0 rfl rfl)
theorem dX1_goOn_1 : decode cX1_goOn 1 = .ok (.getfield 53, 3) := dk_180 0 53 (dk_at dksX1_goOn_0 1 rfl rfl)
theorem dX1_goOn_4 : decode cX1_goOn 4 = .ok (.iload_n 1, 1) := dk_27 (dk_at dksX1_goOn_0 4 rfl rfl)
theorem dX1_goOn_5 : decode cX1_goOn 5 = .ok (.iload_n 2, 1) := dk_28 (dk_at dksX1_goOn_0 5 rfl rfl)
theorem dX1_goOn_6 : decode cX1_goOn 6 = .ok (.iload_n 3, 1) := dk_29 (dk_at dksX1_goOn_0 6 rfl rfl)
theorem dX1_goOn_7 : decode cX1_goOn 7 = .ok (.invokestatic 133, 3) := dk_184 0 133 (dk_at dksX1_goOn_0 7 rfl rfl)
theorem dX1_goOn_10 : decode cX1_goOn 10 = .ok (.iaload, 1) := dk_46 (dk_at dksX1_goOn_0 10 rfl rfl)
theorem dX1_goOn_11 : decode cX1_goOn 11 = .ok (.istore 4, 2) := dk_54 4 (dk_at dksX1_goOn_0 11 rfl rfl)
theorem dX1_goOn_13 : decode cX1_goOn 13 = .ok (.iload 4, 2) := dk_21 4 (dk_at dksX1_goOn_0 13 rfl rfl)
theorem dX1_goOn_15 : decode cX1_goOn 15 = .ok (.bipush (-9), 2) := dk_16 247 (dk_at dksX1_goOn_0 15 rfl rfl)
theorem dX1_goOn_17 : decode cX1_goOn 17 = .ok (.if_icmp .ne 4, 3) := dk_160 0 4 (dk_at dksX1_goOn_0 17 rfl rfl)
theorem dX1_goOn_20 : decode cX1_goOn 20 = .ok (.return_, 1) := dk_177 (dk_at dksX1_goOn_0 20 rfl rfl)
theorem dX1_goOn_21 : decode cX1_goOn 21 = .ok (.iload_n 3, 1) := dk_29 (dk_at dksX1_goOn_0 21 rfl rfl)
theorem dX1_goOn_22 : decode cX1_goOn 22 = .ok (.iconst 1, 1) := dk_4 (dk_at dksX1_goOn_0 22 rfl rfl)
theorem dX1_goOn_23 : decode cX1_goOn 23 = .ok (.if_icmp .ne 69, 3) := dk_160 0 69 (dk_at dksX1_goOn_1 0 rfl rfl)
theorem dX1_goOn_26 : decode cX1_goOn 26 = .ok (.iload_n 2, 1) := dk_28 (dk_at dksX1_goOn_1 3 rfl rfl)
theorem dX1_goOn_27 : decode cX1_goOn 27 = .ok (.iconst 2, 1) := dk_5 (dk_at dksX1_goOn_1 4 rfl rfl)
theorem dX1_goOn_28 : decode cX1_goOn 28 = .ok (.if_icmp .ne 64, 3) := dk_160 0 64 (dk_at dksX1_goOn_1 5 rfl rfl)
theorem dX1_goOn_31 : decode cX1_goOn 31 = .ok (.aload_n 0, 1) := dk_42 (dk_at dksX1_goOn_1 8 rfl rfl)
theorem dX1_goOn_32 : decode cX1_goOn 32 = .ok (.iconst 2, 1) := dk_5 (dk_at dksX1_goOn_1 9 rfl rfl)
theorem dX1_goOn_33 : decode cX1_goOn 33 = .ok (.iload_n 1, 1) := dk_27 (dk_at dksX1_goOn_1 10 rfl rfl)
theorem dX1_goOn_34 : decode cX1_goOn 34 = .ok (.invokevirtual 136, 3) := dk_182 0 136 (dk_at dksX1_goOn_1 11 rfl rfl)
theorem dX1_goOn_37 : decode cX1_goOn 37 = .ok (.ifCond .eq 55, 3) := dk_153 0 55 (dk_at dksX1_goOn_1 14 rfl rfl)
theorem dX1_goOn_40 : decode cX1_goOn 40 = .ok (.aload_n 0, 1) := dk_42 (dk_at dksX1_goOn_1 17 rfl rfl)
theorem dX1_goOn_41 : decode cX1_goOn 41 = .ok (.aload_n 0, 1) := dk_42 (dk_at dksX1_goOn_1 18 rfl rfl)
theorem dX1_goOn_42 : decode cX1_goOn 42 = .ok (.getfield 139, 3) := dk_180 0 139 (dk_at dksX1_goOn_1 19 rfl rfl)
theorem dX1_goOn_45 : decode cX1_goOn 45 = .ok (.bipush (-9), 2) := dk_16 247 (dk_at dksX1_goOn_1 22 rfl rfl)
theorem dX1_goOn_47 : decode cX1_goOn 47 = .ok (.if_icmp .ne 7, 3) := dk_160 0 7 (dk_at dksX1_goOn_2 0 rfl rfl)
theorem dX1_goOn_50 : decode cX1_goOn 50 = .ok (.iload_n 1, 1) := dk_27 (dk_at dksX1_goOn_2 3 rfl rfl)
theorem dX1_goOn_51 : decode cX1_goOn 51 = .ok (.goto 7, 3) := dk_167 0 7 (dk_at dksX1_goOn_2 4 rfl rfl)
theorem dX1_goOn_54 : decode cX1_goOn 54 = .ok (.aload_n 0, 1) := dk_42 (dk_at dksX1_goOn_2 7 rfl rfl)
theorem dX1_goOn_55 : decode cX1_goOn 55 = .ok (.getfield 139, 3) := dk_180 0 139 (dk_at dksX1_goOn_2 8 rfl rfl)
theorem dX1_goOn_58 : decode cX1_goOn 58 = .ok (.putfield 139, 3) := dk_181 0 139 (dk_at dksX1_goOn_2 11 rfl rfl)
theorem dX1_goOn_61 : decode cX1_goOn 61 = .ok (.aload_n 0, 1) := dk_42 (dk_at dksX1_goOn_2 14 rfl rfl)
theorem dX1_goOn_62 : decode cX1_goOn 62 = .ok (.aload_n 0, 1) := dk_42 (dk_at dksX1_goOn_2 15 rfl rfl)
theorem dX1_goOn_63 : decode cX1_goOn 63 = .ok (.getfield 142, 3) := dk_180 0 142 (dk_at dksX1_goOn_2 16 rfl rfl)
theorem dX1_goOn_66 : decode cX1_goOn 66 = .ok (.bipush (-9), 2) := dk_16 247 (dk_at dksX1_goOn_2 19 rfl rfl)
theorem dX1_goOn_68 : decode cX1_goOn 68 = .ok (.if_icmp .eq 12, 3) := dk_159 0 12 (dk_at dksX1_goOn_2 21 rfl rfl)
theorem dX1_goOn_71 : decode cX1_goOn 71 = .ok (.iload 4, 2) := dk_21 4 (dk_at dksX1_goOn_3 0 rfl rfl)
theorem dX1_goOn_73 : decode cX1_goOn 73 = .ok (.aload_n 0, 1) := dk_42 (dk_at dksX1_goOn_3 2 rfl rfl)
theorem dX1_goOn_74 : decode cX1_goOn 74 = .ok (.getfield 142, 3) := dk_180 0 142 (dk_at dksX1_goOn_3 3 rfl rfl)
theorem dX1_goOn_77 : decode cX1_goOn 77 = .ok (.if_icmp .ge 8, 3) := dk_162 0 8 (dk_at dksX1_goOn_3 6 rfl rfl)
theorem dX1_goOn_80 : decode cX1_goOn 80 = .ok (.iload 4, 2) := dk_21 4 (dk_at dksX1_goOn_3 9 rfl rfl)
theorem dX1_goOn_82 : decode cX1_goOn 82 = .ok (.goto 7, 3) := dk_167 0 7 (dk_at dksX1_goOn_3 11 rfl rfl)
theorem dX1_goOn_85 : decode cX1_goOn 85 = .ok (.aload_n 0, 1) := dk_42 (dk_at dksX1_goOn_3 14 rfl rfl)
theorem dX1_goOn_86 : decode cX1_goOn 86 = .ok (.getfield 142, 3) := dk_180 0 142 (dk_at dksX1_goOn_3 15 rfl rfl)
theorem dX1_goOn_89 : decode cX1_goOn 89 = .ok (.putfield 142, 3) := dk_181 0 142 (dk_at dksX1_goOn_3 18 rfl rfl)
theorem dX1_goOn_92 : decode cX1_goOn 92 = .ok (.aload_n 0, 1) := dk_42 (dk_at dksX1_goOn_3 21 rfl rfl)
theorem dX1_goOn_93 : decode cX1_goOn 93 = .ok (.iload_n 1, 1) := dk_27 (dk_at dksX1_goOn_3 22 rfl rfl)
theorem dX1_goOn_94 : decode cX1_goOn 94 = .ok (.iconst 1, 1) := dk_4 (dk_at dksX1_goOn_3 23 rfl rfl)
theorem dX1_goOn_95 : decode cX1_goOn 95 = .ok (.iadd, 1) := dk_96 (dk_at dksX1_goOn_4 0 rfl rfl)
theorem dX1_goOn_96 : decode cX1_goOn 96 = .ok (.iload_n 2, 1) := dk_28 (dk_at dksX1_goOn_4 1 rfl rfl)
theorem dX1_goOn_97 : decode cX1_goOn 97 = .ok (.iload_n 3, 1) := dk_29 (dk_at dksX1_goOn_4 2 rfl rfl)
theorem dX1_goOn_98 : decode cX1_goOn 98 = .ok (.iload 4, 2) := dk_21 4 (dk_at dksX1_goOn_4 3 rfl rfl)
theorem dX1_goOn_100 : decode cX1_goOn 100 = .ok (.iconst 1, 1) := dk_4 (dk_at dksX1_goOn_4 5 rfl rfl)
theorem dX1_goOn_101 : decode cX1_goOn 101 = .ok (.iadd, 1) := dk_96 (dk_at dksX1_goOn_4 6 rfl rfl)
theorem dX1_goOn_102 : decode cX1_goOn 102 = .ok (.invokevirtual 145, 3) := dk_182 0 145 (dk_at dksX1_goOn_4 7 rfl rfl)
theorem dX1_goOn_105 : decode cX1_goOn 105 = .ok (.iconst 0, 1) := dk_3 (dk_at dksX1_goOn_4 10 rfl rfl)
theorem dX1_goOn_106 : decode cX1_goOn 106 = .ok (.istore 5, 2) := dk_54 5 (dk_at dksX1_goOn_4 11 rfl rfl)
theorem dX1_goOn_108 : decode cX1_goOn 108 = .ok (.iload 5, 2) := dk_21 5 (dk_at dksX1_goOn_4 13 rfl rfl)
theorem dX1_goOn_110 : decode cX1_goOn 110 = .ok (.aload_n 0, 1) := dk_42 (dk_at dksX1_goOn_4 15 rfl rfl)
theorem dX1_goOn_111 : decode cX1_goOn 111 = .ok (.getfield 71, 3) := dk_180 0 71 (dk_at dksX1_goOn_4 16 rfl rfl)
theorem dX1_goOn_114 : decode cX1_goOn 114 = .ok (.if_icmp .ge 53, 3) := dk_162 0 53 (dk_at dksX1_goOn_4 19 rfl rfl)
theorem dX1_goOn_117 : decode cX1_goOn 117 = .ok (.aload_n 0, 1) := dk_42 (dk_at dksX1_goOn_4 22 rfl rfl)
theorem dX1_goOn_118 : decode cX1_goOn 118 = .ok (.iload 5, 2) := dk_21 5 (dk_at dksX1_goOn_5 0 rfl rfl)
theorem dX1_goOn_120 : decode cX1_goOn 120 = .ok (.iload_n 1, 1) := dk_27 (dk_at dksX1_goOn_5 2 rfl rfl)
theorem dX1_goOn_121 : decode cX1_goOn 121 = .ok (.invokevirtual 130, 3) := dk_182 0 130 (dk_at dksX1_goOn_5 3 rfl rfl)
theorem dX1_goOn_124 : decode cX1_goOn 124 = .ok (.ifCond .eq 37, 3) := dk_153 0 37 (dk_at dksX1_goOn_5 6 rfl rfl)
theorem dX1_goOn_127 : decode cX1_goOn 127 = .ok (.aload_n 0, 1) := dk_42 (dk_at dksX1_goOn_5 9 rfl rfl)
theorem dX1_goOn_128 : decode cX1_goOn 128 = .ok (.iload 5, 2) := dk_21 5 (dk_at dksX1_goOn_5 10 rfl rfl)
theorem dX1_goOn_130 : decode cX1_goOn 130 = .ok (.iload_n 2, 1) := dk_28 (dk_at dksX1_goOn_5 12 rfl rfl)
theorem dX1_goOn_131 : decode cX1_goOn 131 = .ok (.invokevirtual 149, 3) := dk_182 0 149 (dk_at dksX1_goOn_5 13 rfl rfl)
theorem dX1_goOn_134 : decode cX1_goOn 134 = .ok (.bipush (-9), 2) := dk_16 247 (dk_at dksX1_goOn_5 16 rfl rfl)
theorem dX1_goOn_136 : decode cX1_goOn 136 = .ok (.if_icmp .eq 25, 3) := dk_159 0 25 (dk_at dksX1_goOn_5 18 rfl rfl)
theorem dX1_goOn_139 : decode cX1_goOn 139 = .ok (.aload_n 0, 1) := dk_42 (dk_at dksX1_goOn_5 21 rfl rfl)
theorem dX1_goOn_140 : decode cX1_goOn 140 = .ok (.iload_n 1, 1) := dk_27 (dk_at dksX1_goOn_5 22 rfl rfl)
theorem dX1_goOn_141 : decode cX1_goOn 141 = .ok (.aload_n 0, 1) := dk_42 (dk_at dksX1_goOn_5 23 rfl rfl)
theorem dX1_goOn_142 : decode cX1_goOn 142 = .ok (.iload 5, 2) := dk_21 5 (dk_at dksX1_goOn_6 0 rfl rfl)
theorem dX1_goOn_144 : decode cX1_goOn 144 = .ok (.invokevirtual 121, 3) := dk_182 0 121 (dk_at dksX1_goOn_6 2 rfl rfl)
theorem dX1_goOn_147 : decode cX1_goOn 147 = .ok (.iadd, 1) := dk_96 (dk_at dksX1_goOn_6 5 rfl rfl)
theorem dX1_goOn_148 : decode cX1_goOn 148 = .ok (.aload_n 0, 1) := dk_42 (dk_at dksX1_goOn_6 6 rfl rfl)
theorem dX1_goOn_149 : decode cX1_goOn 149 = .ok (.iload 5, 2) := dk_21 5 (dk_at dksX1_goOn_6 7 rfl rfl)
theorem dX1_goOn_151 : decode cX1_goOn 151 = .ok (.iload_n 2, 1) := dk_28 (dk_at dksX1_goOn_6 9 rfl rfl)
theorem dX1_goOn_152 : decode cX1_goOn 152 = .ok (.invokevirtual 149, 3) := dk_182 0 149 (dk_at dksX1_goOn_6 10 rfl rfl)
theorem dX1_goOn_155 : decode cX1_goOn 155 = .ok (.iload_n 3, 1) := dk_29 (dk_at dksX1_goOn_6 13 rfl rfl)
theorem dX1_goOn_156 : decode cX1_goOn 156 = .ok (.iload 4, 2) := dk_21 4 (dk_at dksX1_goOn_6 14 rfl rfl)
theorem dX1_goOn_158 : decode cX1_goOn 158 = .ok (.invokevirtual 145, 3) := dk_182 0 145 (dk_at dksX1_goOn_6 16 rfl rfl)
theorem dX1_goOn_161 : decode cX1_goOn 161 = .ok (.iinc 5 1, 3) := dk_132 5 1 (dk_at dksX1_goOn_6 19 rfl rfl)
theorem dX1_goOn_164 : decode cX1_goOn 164 = .ok (.goto (-56), 3) := dk_167 255 200 (dk_at dksX1_goOn_7 0 rfl rfl)
theorem dX1_goOn_167 : decode cX1_goOn 167 = .ok (.return_, 1) := dk_177 (dk_at dksX1_goOn_7 3 rfl rfl)
abbrev cX1_over : ByteArray := prog_15_method_26_code
def yX1_over : MethodName := ⟨RX1, "over", "(II)I"⟩
def dkwX1_over_1 : List UInt8 := [46, 28, 160, 0, 12, 42, 180, 0, 28, 27, 46, 167, 0, 5, 16, 247, 172]
abbrev dktX1_over_1 : List UInt8 := dkwX1_over_1 ++ []
def dkwX1_over_0 : List UInt8 := [42, 180, 0, 28, 27, 46, 28, 160, 0, 12, 42, 180, 0, 31, 27, 46, 167, 0, 24, 42, 180, 0, 31, 27]
abbrev dktX1_over_0 : List UInt8 := dkwX1_over_0 ++ dktX1_over_1
theorem dksX1_over_0 : cX1_over.data.toList.drop 0 = dktX1_over_0 := by decide +kernel
theorem dksX1_over_1 : cX1_over.data.toList.drop 24 = dktX1_over_1 := dk_seg dksX1_over_0 24 rfl rfl
theorem dX1_over_0 : decode cX1_over 0 = .ok (.aload_n 0, 1) := dk_42 (dk_at dksX1_over_0 0 rfl rfl)
theorem dX1_over_1 : decode cX1_over 1 = .ok (.getfield 28, 3) := dk_180 0 28 (dk_at dksX1_over_0 1 rfl rfl)
theorem dX1_over_4 : decode cX1_over 4 = .ok (.iload_n 1, 1) := dk_27 (dk_at dksX1_over_0 4 rfl rfl)
theorem dX1_over_5 : decode cX1_over 5 = .ok (.iaload, 1) := dk_46 (dk_at dksX1_over_0 5 rfl rfl)
theorem dX1_over_6 : decode cX1_over 6 = .ok (.iload_n 2, 1) := dk_28 (dk_at dksX1_over_0 6 rfl rfl)
theorem dX1_over_7 : decode cX1_over 7 = .ok (.if_icmp .ne 12, 3) := dk_160 0 12 (dk_at dksX1_over_0 7 rfl rfl)
theorem dX1_over_10 : decode cX1_over 10 = .ok (.aload_n 0, 1) := dk_42 (dk_at dksX1_over_0 10 rfl rfl)
theorem dX1_over_11 : decode cX1_over 11 = .ok (.getfield 31, 3) := dk_180 0 31 (dk_at dksX1_over_0 11 rfl rfl)
theorem dX1_over_14 : decode cX1_over 14 = .ok (.iload_n 1, 1) := dk_27 (dk_at dksX1_over_0 14 rfl rfl)
theorem dX1_over_15 : decode cX1_over 15 = .ok (.iaload, 1) := dk_46 (dk_at dksX1_over_0 15 rfl rfl)
theorem dX1_over_16 : decode cX1_over 16 = .ok (.goto 24, 3) := dk_167 0 24 (dk_at dksX1_over_0 16 rfl rfl)
theorem dX1_over_19 : decode cX1_over 19 = .ok (.aload_n 0, 1) := dk_42 (dk_at dksX1_over_0 19 rfl rfl)
theorem dX1_over_20 : decode cX1_over 20 = .ok (.getfield 31, 3) := dk_180 0 31 (dk_at dksX1_over_0 20 rfl rfl)
theorem dX1_over_23 : decode cX1_over 23 = .ok (.iload_n 1, 1) := dk_27 (dk_at dksX1_over_0 23 rfl rfl)
theorem dX1_over_24 : decode cX1_over 24 = .ok (.iaload, 1) := dk_46 (dk_at dksX1_over_1 0 rfl rfl)
theorem dX1_over_25 : decode cX1_over 25 = .ok (.iload_n 2, 1) := dk_28 (dk_at dksX1_over_1 1 rfl rfl)
theorem dX1_over_26 : decode cX1_over 26 = .ok (.if_icmp .ne 12, 3) := dk_160 0 12 (dk_at dksX1_over_1 2 rfl rfl)
theorem dX1_over_29 : decode cX1_over 29 = .ok (.aload_n 0, 1) := dk_42 (dk_at dksX1_over_1 5 rfl rfl)
theorem dX1_over_30 : decode cX1_over 30 = .ok (.getfield 28, 3) := dk_180 0 28 (dk_at dksX1_over_1 6 rfl rfl)
theorem dX1_over_33 : decode cX1_over 33 = .ok (.iload_n 1, 1) := dk_27 (dk_at dksX1_over_1 9 rfl rfl)
theorem dX1_over_34 : decode cX1_over 34 = .ok (.iaload, 1) := dk_46 (dk_at dksX1_over_1 10 rfl rfl)
theorem dX1_over_35 : decode cX1_over 35 = .ok (.goto 5, 3) := dk_167 0 5 (dk_at dksX1_over_1 11 rfl rfl)
theorem dX1_over_38 : decode cX1_over 38 = .ok (.bipush (-9), 2) := dk_16 247 (dk_at dksX1_over_1 14 rfl rfl)
theorem dX1_over_40 : decode cX1_over 40 = .ok (.ireturn, 1) := dk_172 (dk_at dksX1_over_1 16 rfl rfl)
abbrev cX1_holes : ByteArray := prog_15_method_33_code
def yX1_holes : MethodName := ⟨RX1, "holes", "(I)I"⟩
def dkwX1_holes_1 : List UInt8 := [182, 0, 157, 42, 180, 0, 142, 172]
abbrev dktX1_holes_1 : List UInt8 := dkwX1_holes_1 ++ []
def dkwX1_holes_0 : List UInt8 := [27, 184, 0, 124, 154, 0, 6, 16, 254, 172, 42, 180, 0, 71, 154, 0, 6, 16, 253, 172, 42, 27]
abbrev dktX1_holes_0 : List UInt8 := dkwX1_holes_0 ++ dktX1_holes_1
theorem dksX1_holes_0 : cX1_holes.data.toList.drop 0 = dktX1_holes_0 := by decide +kernel
theorem dksX1_holes_1 : cX1_holes.data.toList.drop 22 = dktX1_holes_1 := dk_seg dksX1_holes_0 22 rfl rfl
theorem dX1_holes_0 : decode cX1_holes 0 = .ok (.iload_n 1, 1) := dk_27 (dk_at dksX1_holes_0 0 rfl rfl)
theorem dX1_holes_1 : decode cX1_holes 1 = .ok (.invokestatic 124, 3) := dk_184 0 124 (dk_at dksX1_holes_0 1 rfl rfl)
theorem dX1_holes_4 : decode cX1_holes 4 = .ok (.ifCond .ne 6, 3) := dk_154 0 6 (dk_at dksX1_holes_0 4 rfl rfl)
theorem dX1_holes_7 : decode cX1_holes 7 = .ok (.bipush (-2), 2) := dk_16 254 (dk_at dksX1_holes_0 7 rfl rfl)
theorem dX1_holes_9 : decode cX1_holes 9 = .ok (.ireturn, 1) := dk_172 (dk_at dksX1_holes_0 9 rfl rfl)
theorem dX1_holes_10 : decode cX1_holes 10 = .ok (.aload_n 0, 1) := dk_42 (dk_at dksX1_holes_0 10 rfl rfl)
theorem dX1_holes_11 : decode cX1_holes 11 = .ok (.getfield 71, 3) := dk_180 0 71 (dk_at dksX1_holes_0 11 rfl rfl)
theorem dX1_holes_14 : decode cX1_holes 14 = .ok (.ifCond .ne 6, 3) := dk_154 0 6 (dk_at dksX1_holes_0 14 rfl rfl)
theorem dX1_holes_17 : decode cX1_holes 17 = .ok (.bipush (-3), 2) := dk_16 253 (dk_at dksX1_holes_0 17 rfl rfl)
theorem dX1_holes_19 : decode cX1_holes 19 = .ok (.ireturn, 1) := dk_172 (dk_at dksX1_holes_0 19 rfl rfl)
theorem dX1_holes_20 : decode cX1_holes 20 = .ok (.aload_n 0, 1) := dk_42 (dk_at dksX1_holes_0 20 rfl rfl)
theorem dX1_holes_21 : decode cX1_holes 21 = .ok (.iload_n 1, 1) := dk_27 (dk_at dksX1_holes_0 21 rfl rfl)
theorem dX1_holes_22 : decode cX1_holes 22 = .ok (.invokevirtual 157, 3) := dk_182 0 157 (dk_at dksX1_holes_1 0 rfl rfl)
theorem dX1_holes_25 : decode cX1_holes 25 = .ok (.aload_n 0, 1) := dk_42 (dk_at dksX1_holes_1 3 rfl rfl)
theorem dX1_holes_26 : decode cX1_holes 26 = .ok (.getfield 142, 3) := dk_180 0 142 (dk_at dksX1_holes_1 4 rfl rfl)
theorem dX1_holes_29 : decode cX1_holes 29 = .ok (.ireturn, 1) := dk_172 (dk_at dksX1_holes_1 7 rfl rfl)
abbrev cX1_way : ByteArray := prog_15_method_35_code
def yX1_way : MethodName := ⟨RX1, "way", "(IIIIII)I"⟩
def dkwX1_way_7 : List UInt8 := [132, 9, 1, 167, 255, 190, 42, 27, 21, 8, 21, 5, 21, 6, 182, 0, 176, 172]
abbrev dktX1_way_7 : List UInt8 := dkwX1_way_7 ++ []
def dkwX1_way_6 : List UInt8 := [16, 6, 162, 0, 22, 42, 42, 180, 0, 16, 21, 8, 21, 9, 96, 46, 182, 0, 118, 154, 0, 5, 2, 172]
abbrev dktX1_way_6 : List UInt8 := dkwX1_way_6 ++ dktX1_way_7
def dkwX1_way_5 : List UInt8 := [46, 3, 16, 8, 184, 0, 67, 154, 0, 6, 16, 254, 172, 42, 180, 0, 16, 21, 8, 21, 9, 96, 46]
abbrev dktX1_way_5 : List UInt8 := dkwX1_way_5 ++ dktX1_way_6
def dkwX1_way_4 : List UInt8 := [21, 4, 96, 54, 8, 3, 54, 9, 21, 9, 21, 5, 162, 0, 65, 42, 180, 0, 16, 21, 8, 21, 9, 96]
abbrev dktX1_way_4 : List UInt8 := dkwX1_way_4 ++ dktX1_way_5
def dkwX1_way_3 : List UInt8 := [153, 0, 10, 42, 21, 7, 182, 0, 92, 172, 42, 180, 0, 71, 154, 0, 6, 16, 253, 172, 16, 60, 28, 104]
abbrev dktX1_way_3 : List UInt8 := dkwX1_way_3 ++ dktX1_way_4
def dkwX1_way_2 : List UInt8 := [184, 0, 67, 154, 0, 6, 16, 254, 172, 42, 28, 29, 21, 4, 21, 5, 182, 0, 88, 54, 7, 21, 7]
abbrev dktX1_way_2 : List UInt8 := dkwX1_way_2 ++ dktX1_way_3
def dkwX1_way_1 : List UInt8 := [29, 184, 0, 85, 153, 0, 24, 21, 5, 3, 16, 20, 184, 0, 67, 153, 0, 13, 21, 6, 3, 7]
abbrev dktX1_way_1 : List UInt8 := dkwX1_way_1 ++ dktX1_way_2
def dkwX1_way_0 : List UInt8 := [42, 3, 181, 0, 62, 27, 184, 0, 124, 154, 0, 6, 16, 254, 172, 28, 184, 0, 81, 154, 0, 5, 2, 172]
abbrev dktX1_way_0 : List UInt8 := dkwX1_way_0 ++ dktX1_way_1
theorem dksX1_way_0 : cX1_way.data.toList.drop 0 = dktX1_way_0 := by decide +kernel
theorem dksX1_way_1 : cX1_way.data.toList.drop 24 = dktX1_way_1 := dk_seg dksX1_way_0 24 rfl rfl
theorem dksX1_way_2 : cX1_way.data.toList.drop 46 = dktX1_way_2 := dk_seg dksX1_way_1 22 rfl rfl
theorem dksX1_way_3 : cX1_way.data.toList.drop 69 = dktX1_way_3 := dk_seg dksX1_way_2 23 rfl rfl
theorem dksX1_way_4 : cX1_way.data.toList.drop 93 = dktX1_way_4 := dk_seg dksX1_way_3 24 rfl rfl
theorem dksX1_way_5 : cX1_way.data.toList.drop 117 = dktX1_way_5 := dk_seg dksX1_way_4 24 rfl rfl
theorem dksX1_way_6 : cX1_way.data.toList.drop 140 = dktX1_way_6 := dk_seg dksX1_way_5 23 rfl rfl
theorem dksX1_way_7 : cX1_way.data.toList.drop 164 = dktX1_way_7 := dk_seg dksX1_way_6 24 rfl rfl
theorem dX1_way_0 : decode cX1_way 0 = .ok (.aload_n 0, 1) := dk_42 (dk_at dksX1_way_0 0 rfl rfl)
theorem dX1_way_1 : decode cX1_way 1 = .ok (.iconst 0, 1) := dk_3 (dk_at dksX1_way_0 1 rfl rfl)
theorem dX1_way_2 : decode cX1_way 2 = .ok (.putfield 62, 3) := dk_181 0 62 (dk_at dksX1_way_0 2 rfl rfl)
theorem dX1_way_5 : decode cX1_way 5 = .ok (.iload_n 1, 1) := dk_27 (dk_at dksX1_way_0 5 rfl rfl)
theorem dX1_way_6 : decode cX1_way 6 = .ok (.invokestatic 124, 3) := dk_184 0 124 (dk_at dksX1_way_0 6 rfl rfl)
theorem dX1_way_9 : decode cX1_way 9 = .ok (.ifCond .ne 6, 3) := dk_154 0 6 (dk_at dksX1_way_0 9 rfl rfl)
theorem dX1_way_12 : decode cX1_way 12 = .ok (.bipush (-2), 2) := dk_16 254 (dk_at dksX1_way_0 12 rfl rfl)
theorem dX1_way_14 : decode cX1_way 14 = .ok (.ireturn, 1) := dk_172 (dk_at dksX1_way_0 14 rfl rfl)
theorem dX1_way_15 : decode cX1_way 15 = .ok (.iload_n 2, 1) := dk_28 (dk_at dksX1_way_0 15 rfl rfl)
theorem dX1_way_16 : decode cX1_way 16 = .ok (.invokestatic 81, 3) := dk_184 0 81 (dk_at dksX1_way_0 16 rfl rfl)
theorem dX1_way_19 : decode cX1_way 19 = .ok (.ifCond .ne 5, 3) := dk_154 0 5 (dk_at dksX1_way_0 19 rfl rfl)
theorem dX1_way_22 : decode cX1_way 22 = .ok (.iconst (-1), 1) := dk_2 (dk_at dksX1_way_0 22 rfl rfl)
theorem dX1_way_23 : decode cX1_way 23 = .ok (.ireturn, 1) := dk_172 (dk_at dksX1_way_0 23 rfl rfl)
theorem dX1_way_24 : decode cX1_way 24 = .ok (.iload_n 3, 1) := dk_29 (dk_at dksX1_way_1 0 rfl rfl)
theorem dX1_way_25 : decode cX1_way 25 = .ok (.invokestatic 85, 3) := dk_184 0 85 (dk_at dksX1_way_1 1 rfl rfl)
theorem dX1_way_28 : decode cX1_way 28 = .ok (.ifCond .eq 24, 3) := dk_153 0 24 (dk_at dksX1_way_1 4 rfl rfl)
theorem dX1_way_31 : decode cX1_way 31 = .ok (.iload 5, 2) := dk_21 5 (dk_at dksX1_way_1 7 rfl rfl)
theorem dX1_way_33 : decode cX1_way 33 = .ok (.iconst 0, 1) := dk_3 (dk_at dksX1_way_1 9 rfl rfl)
theorem dX1_way_34 : decode cX1_way 34 = .ok (.bipush 20, 2) := dk_16 20 (dk_at dksX1_way_1 10 rfl rfl)
theorem dX1_way_36 : decode cX1_way 36 = .ok (.invokestatic 67, 3) := dk_184 0 67 (dk_at dksX1_way_1 12 rfl rfl)
theorem dX1_way_39 : decode cX1_way 39 = .ok (.ifCond .eq 13, 3) := dk_153 0 13 (dk_at dksX1_way_1 15 rfl rfl)
theorem dX1_way_42 : decode cX1_way 42 = .ok (.iload 6, 2) := dk_21 6 (dk_at dksX1_way_1 18 rfl rfl)
theorem dX1_way_44 : decode cX1_way 44 = .ok (.iconst 0, 1) := dk_3 (dk_at dksX1_way_1 20 rfl rfl)
theorem dX1_way_45 : decode cX1_way 45 = .ok (.iconst 4, 1) := dk_7 (dk_at dksX1_way_1 21 rfl rfl)
theorem dX1_way_46 : decode cX1_way 46 = .ok (.invokestatic 67, 3) := dk_184 0 67 (dk_at dksX1_way_2 0 rfl rfl)
theorem dX1_way_49 : decode cX1_way 49 = .ok (.ifCond .ne 6, 3) := dk_154 0 6 (dk_at dksX1_way_2 3 rfl rfl)
theorem dX1_way_52 : decode cX1_way 52 = .ok (.bipush (-2), 2) := dk_16 254 (dk_at dksX1_way_2 6 rfl rfl)
theorem dX1_way_54 : decode cX1_way 54 = .ok (.ireturn, 1) := dk_172 (dk_at dksX1_way_2 8 rfl rfl)
theorem dX1_way_55 : decode cX1_way 55 = .ok (.aload_n 0, 1) := dk_42 (dk_at dksX1_way_2 9 rfl rfl)
theorem dX1_way_56 : decode cX1_way 56 = .ok (.iload_n 2, 1) := dk_28 (dk_at dksX1_way_2 10 rfl rfl)
theorem dX1_way_57 : decode cX1_way 57 = .ok (.iload_n 3, 1) := dk_29 (dk_at dksX1_way_2 11 rfl rfl)
theorem dX1_way_58 : decode cX1_way 58 = .ok (.iload 4, 2) := dk_21 4 (dk_at dksX1_way_2 12 rfl rfl)
theorem dX1_way_60 : decode cX1_way 60 = .ok (.iload 5, 2) := dk_21 5 (dk_at dksX1_way_2 14 rfl rfl)
theorem dX1_way_62 : decode cX1_way 62 = .ok (.invokevirtual 88, 3) := dk_182 0 88 (dk_at dksX1_way_2 16 rfl rfl)
theorem dX1_way_65 : decode cX1_way 65 = .ok (.istore 7, 2) := dk_54 7 (dk_at dksX1_way_2 19 rfl rfl)
theorem dX1_way_67 : decode cX1_way 67 = .ok (.iload 7, 2) := dk_21 7 (dk_at dksX1_way_2 21 rfl rfl)
theorem dX1_way_69 : decode cX1_way 69 = .ok (.ifCond .eq 10, 3) := dk_153 0 10 (dk_at dksX1_way_3 0 rfl rfl)
theorem dX1_way_72 : decode cX1_way 72 = .ok (.aload_n 0, 1) := dk_42 (dk_at dksX1_way_3 3 rfl rfl)
theorem dX1_way_73 : decode cX1_way 73 = .ok (.iload 7, 2) := dk_21 7 (dk_at dksX1_way_3 4 rfl rfl)
theorem dX1_way_75 : decode cX1_way 75 = .ok (.invokevirtual 92, 3) := dk_182 0 92 (dk_at dksX1_way_3 6 rfl rfl)
theorem dX1_way_78 : decode cX1_way 78 = .ok (.ireturn, 1) := dk_172 (dk_at dksX1_way_3 9 rfl rfl)
theorem dX1_way_79 : decode cX1_way 79 = .ok (.aload_n 0, 1) := dk_42 (dk_at dksX1_way_3 10 rfl rfl)
theorem dX1_way_80 : decode cX1_way 80 = .ok (.getfield 71, 3) := dk_180 0 71 (dk_at dksX1_way_3 11 rfl rfl)
theorem dX1_way_83 : decode cX1_way 83 = .ok (.ifCond .ne 6, 3) := dk_154 0 6 (dk_at dksX1_way_3 14 rfl rfl)
theorem dX1_way_86 : decode cX1_way 86 = .ok (.bipush (-3), 2) := dk_16 253 (dk_at dksX1_way_3 17 rfl rfl)
theorem dX1_way_88 : decode cX1_way 88 = .ok (.ireturn, 1) := dk_172 (dk_at dksX1_way_3 19 rfl rfl)
theorem dX1_way_89 : decode cX1_way 89 = .ok (.bipush 60, 2) := dk_16 60 (dk_at dksX1_way_3 20 rfl rfl)
theorem dX1_way_91 : decode cX1_way 91 = .ok (.iload_n 2, 1) := dk_28 (dk_at dksX1_way_3 22 rfl rfl)
theorem dX1_way_92 : decode cX1_way 92 = .ok (.imul, 1) := dk_104 (dk_at dksX1_way_3 23 rfl rfl)
theorem dX1_way_93 : decode cX1_way 93 = .ok (.iload 4, 2) := dk_21 4 (dk_at dksX1_way_4 0 rfl rfl)
theorem dX1_way_95 : decode cX1_way 95 = .ok (.iadd, 1) := dk_96 (dk_at dksX1_way_4 2 rfl rfl)
theorem dX1_way_96 : decode cX1_way 96 = .ok (.istore 8, 2) := dk_54 8 (dk_at dksX1_way_4 3 rfl rfl)
theorem dX1_way_98 : decode cX1_way 98 = .ok (.iconst 0, 1) := dk_3 (dk_at dksX1_way_4 5 rfl rfl)
theorem dX1_way_99 : decode cX1_way 99 = .ok (.istore 9, 2) := dk_54 9 (dk_at dksX1_way_4 6 rfl rfl)
theorem dX1_way_101 : decode cX1_way 101 = .ok (.iload 9, 2) := dk_21 9 (dk_at dksX1_way_4 8 rfl rfl)
theorem dX1_way_103 : decode cX1_way 103 = .ok (.iload 5, 2) := dk_21 5 (dk_at dksX1_way_4 10 rfl rfl)
theorem dX1_way_105 : decode cX1_way 105 = .ok (.if_icmp .ge 65, 3) := dk_162 0 65 (dk_at dksX1_way_4 12 rfl rfl)
theorem dX1_way_108 : decode cX1_way 108 = .ok (.aload_n 0, 1) := dk_42 (dk_at dksX1_way_4 15 rfl rfl)
theorem dX1_way_109 : decode cX1_way 109 = .ok (.getfield 16, 3) := dk_180 0 16 (dk_at dksX1_way_4 16 rfl rfl)
theorem dX1_way_112 : decode cX1_way 112 = .ok (.iload 8, 2) := dk_21 8 (dk_at dksX1_way_4 19 rfl rfl)
theorem dX1_way_114 : decode cX1_way 114 = .ok (.iload 9, 2) := dk_21 9 (dk_at dksX1_way_4 21 rfl rfl)
theorem dX1_way_116 : decode cX1_way 116 = .ok (.iadd, 1) := dk_96 (dk_at dksX1_way_4 23 rfl rfl)
theorem dX1_way_117 : decode cX1_way 117 = .ok (.iaload, 1) := dk_46 (dk_at dksX1_way_5 0 rfl rfl)
theorem dX1_way_118 : decode cX1_way 118 = .ok (.iconst 0, 1) := dk_3 (dk_at dksX1_way_5 1 rfl rfl)
theorem dX1_way_119 : decode cX1_way 119 = .ok (.bipush 8, 2) := dk_16 8 (dk_at dksX1_way_5 2 rfl rfl)
theorem dX1_way_121 : decode cX1_way 121 = .ok (.invokestatic 67, 3) := dk_184 0 67 (dk_at dksX1_way_5 4 rfl rfl)
theorem dX1_way_124 : decode cX1_way 124 = .ok (.ifCond .ne 6, 3) := dk_154 0 6 (dk_at dksX1_way_5 7 rfl rfl)
theorem dX1_way_127 : decode cX1_way 127 = .ok (.bipush (-2), 2) := dk_16 254 (dk_at dksX1_way_5 10 rfl rfl)
theorem dX1_way_129 : decode cX1_way 129 = .ok (.ireturn, 1) := dk_172 (dk_at dksX1_way_5 12 rfl rfl)
theorem dX1_way_130 : decode cX1_way 130 = .ok (.aload_n 0, 1) := dk_42 (dk_at dksX1_way_5 13 rfl rfl)
theorem dX1_way_131 : decode cX1_way 131 = .ok (.getfield 16, 3) := dk_180 0 16 (dk_at dksX1_way_5 14 rfl rfl)
theorem dX1_way_134 : decode cX1_way 134 = .ok (.iload 8, 2) := dk_21 8 (dk_at dksX1_way_5 17 rfl rfl)
theorem dX1_way_136 : decode cX1_way 136 = .ok (.iload 9, 2) := dk_21 9 (dk_at dksX1_way_5 19 rfl rfl)
theorem dX1_way_138 : decode cX1_way 138 = .ok (.iadd, 1) := dk_96 (dk_at dksX1_way_5 21 rfl rfl)
theorem dX1_way_139 : decode cX1_way 139 = .ok (.iaload, 1) := dk_46 (dk_at dksX1_way_5 22 rfl rfl)
theorem dX1_way_140 : decode cX1_way 140 = .ok (.bipush 6, 2) := dk_16 6 (dk_at dksX1_way_6 0 rfl rfl)
theorem dX1_way_142 : decode cX1_way 142 = .ok (.if_icmp .ge 22, 3) := dk_162 0 22 (dk_at dksX1_way_6 2 rfl rfl)
theorem dX1_way_145 : decode cX1_way 145 = .ok (.aload_n 0, 1) := dk_42 (dk_at dksX1_way_6 5 rfl rfl)
theorem dX1_way_146 : decode cX1_way 146 = .ok (.aload_n 0, 1) := dk_42 (dk_at dksX1_way_6 6 rfl rfl)
theorem dX1_way_147 : decode cX1_way 147 = .ok (.getfield 16, 3) := dk_180 0 16 (dk_at dksX1_way_6 7 rfl rfl)
theorem dX1_way_150 : decode cX1_way 150 = .ok (.iload 8, 2) := dk_21 8 (dk_at dksX1_way_6 10 rfl rfl)
theorem dX1_way_152 : decode cX1_way 152 = .ok (.iload 9, 2) := dk_21 9 (dk_at dksX1_way_6 12 rfl rfl)
theorem dX1_way_154 : decode cX1_way 154 = .ok (.iadd, 1) := dk_96 (dk_at dksX1_way_6 14 rfl rfl)
theorem dX1_way_155 : decode cX1_way 155 = .ok (.iaload, 1) := dk_46 (dk_at dksX1_way_6 15 rfl rfl)
theorem dX1_way_156 : decode cX1_way 156 = .ok (.invokevirtual 118, 3) := dk_182 0 118 (dk_at dksX1_way_6 16 rfl rfl)
theorem dX1_way_159 : decode cX1_way 159 = .ok (.ifCond .ne 5, 3) := dk_154 0 5 (dk_at dksX1_way_6 19 rfl rfl)
theorem dX1_way_162 : decode cX1_way 162 = .ok (.iconst (-1), 1) := dk_2 (dk_at dksX1_way_6 22 rfl rfl)
theorem dX1_way_163 : decode cX1_way 163 = .ok (.ireturn, 1) := dk_172 (dk_at dksX1_way_6 23 rfl rfl)
theorem dX1_way_164 : decode cX1_way 164 = .ok (.iinc 9 1, 3) := dk_132 9 1 (dk_at dksX1_way_7 0 rfl rfl)
theorem dX1_way_167 : decode cX1_way 167 = .ok (.goto (-66), 3) := dk_167 255 190 (dk_at dksX1_way_7 3 rfl rfl)
theorem dX1_way_170 : decode cX1_way 170 = .ok (.aload_n 0, 1) := dk_42 (dk_at dksX1_way_7 6 rfl rfl)
theorem dX1_way_171 : decode cX1_way 171 = .ok (.iload_n 1, 1) := dk_27 (dk_at dksX1_way_7 7 rfl rfl)
theorem dX1_way_172 : decode cX1_way 172 = .ok (.iload 8, 2) := dk_21 8 (dk_at dksX1_way_7 8 rfl rfl)
theorem dX1_way_174 : decode cX1_way 174 = .ok (.iload 5, 2) := dk_21 5 (dk_at dksX1_way_7 10 rfl rfl)
theorem dX1_way_176 : decode cX1_way 176 = .ok (.iload 6, 2) := dk_21 6 (dk_at dksX1_way_7 12 rfl rfl)
theorem dX1_way_178 : decode cX1_way 178 = .ok (.invokevirtual 176, 3) := dk_182 0 176 (dk_at dksX1_way_7 14 rfl rfl)
theorem dX1_way_181 : decode cX1_way 181 = .ok (.ireturn, 1) := dk_172 (dk_at dksX1_way_7 17 rfl rfl)
abbrev cX1_wayOf : ByteArray := prog_15_method_36_code
def yX1_wayOf : MethodName := ⟨RX1, "wayOf", "(IIII)I"⟩
def dkwX1_wayOf_6 : List UInt8 := [167, 0, 20, 21, 4, 6, 160, 0, 10, 42, 180, 0, 173, 167, 0, 7, 42, 180, 0, 164, 172]
abbrev dktX1_wayOf_6 : List UInt8 := dkwX1_wayOf_6 ++ []
def dkwX1_wayOf_5 : List UInt8 := [172, 21, 4, 154, 0, 10, 42, 180, 0, 167, 167, 0, 33, 21, 4, 5, 160, 0, 10, 42, 180, 0, 170]
abbrev dktX1_wayOf_5 : List UInt8 := dkwX1_wayOf_5 ++ dktX1_wayOf_6
def dkwX1_wayOf_4 : List UInt8 := [167, 255, 189, 21, 4, 4, 160, 0, 6, 21, 5, 172, 21, 5, 16, 247, 159, 0, 9, 16, 156, 21, 5, 100]
abbrev dktX1_wayOf_4 : List UInt8 := dkwX1_wayOf_4 ++ dktX1_wayOf_5
def dkwX1_wayOf_3 : List UInt8 := [21, 6, 96, 46, 182, 0, 179, 153, 0, 8, 16, 247, 167, 0, 5, 21, 6, 54, 5, 132, 6, 1]
abbrev dktX1_wayOf_3 : List UInt8 := dkwX1_wayOf_3 ++ dktX1_wayOf_4
def dkwX1_wayOf_2 : List UInt8 := [182, 0, 136, 153, 0, 7, 4, 167, 0, 4, 3, 54, 7, 21, 7, 153, 0, 24, 42, 42, 180, 0, 16, 28]
abbrev dktX1_wayOf_2 : List UInt8 := dkwX1_wayOf_2 ++ dktX1_wayOf_3
def dkwX1_wayOf_1 : List UInt8 := [3, 54, 6, 21, 6, 29, 162, 0, 67, 21, 5, 16, 247, 160, 0, 60, 21, 6, 157, 0, 12, 42, 3, 27]
abbrev dktX1_wayOf_1 : List UInt8 := dkwX1_wayOf_1 ++ dktX1_wayOf_2
def dkwX1_wayOf_0 : List UInt8 := [42, 27, 181, 0, 167, 42, 3, 181, 0, 173, 42, 3, 181, 0, 164, 42, 3, 181, 0, 170, 16, 247, 54, 5]
abbrev dktX1_wayOf_0 : List UInt8 := dkwX1_wayOf_0 ++ dktX1_wayOf_1
theorem dksX1_wayOf_0 : cX1_wayOf.data.toList.drop 0 = dktX1_wayOf_0 := by decide +kernel
theorem dksX1_wayOf_1 : cX1_wayOf.data.toList.drop 24 = dktX1_wayOf_1 := dk_seg dksX1_wayOf_0 24 rfl rfl
theorem dksX1_wayOf_2 : cX1_wayOf.data.toList.drop 48 = dktX1_wayOf_2 := dk_seg dksX1_wayOf_1 24 rfl rfl
theorem dksX1_wayOf_3 : cX1_wayOf.data.toList.drop 72 = dktX1_wayOf_3 := dk_seg dksX1_wayOf_2 24 rfl rfl
theorem dksX1_wayOf_4 : cX1_wayOf.data.toList.drop 94 = dktX1_wayOf_4 := dk_seg dksX1_wayOf_3 22 rfl rfl
theorem dksX1_wayOf_5 : cX1_wayOf.data.toList.drop 118 = dktX1_wayOf_5 := dk_seg dksX1_wayOf_4 24 rfl rfl
theorem dksX1_wayOf_6 : cX1_wayOf.data.toList.drop 141 = dktX1_wayOf_6 := dk_seg dksX1_wayOf_5 23 rfl rfl
theorem dX1_wayOf_0 : decode cX1_wayOf 0 = .ok (.aload_n 0, 1) := dk_42 (dk_at dksX1_wayOf_0 0 rfl rfl)
theorem dX1_wayOf_1 : decode cX1_wayOf 1 = .ok (.iload_n 1, 1) := dk_27 (dk_at dksX1_wayOf_0 1 rfl rfl)
theorem dX1_wayOf_2 : decode cX1_wayOf 2 = .ok (.putfield 167, 3) := dk_181 0 167 (dk_at dksX1_wayOf_0 2 rfl rfl)
theorem dX1_wayOf_5 : decode cX1_wayOf 5 = .ok (.aload_n 0, 1) := dk_42 (dk_at dksX1_wayOf_0 5 rfl rfl)
theorem dX1_wayOf_6 : decode cX1_wayOf 6 = .ok (.iconst 0, 1) := dk_3 (dk_at dksX1_wayOf_0 6 rfl rfl)
theorem dX1_wayOf_7 : decode cX1_wayOf 7 = .ok (.putfield 173, 3) := dk_181 0 173 (dk_at dksX1_wayOf_0 7 rfl rfl)
theorem dX1_wayOf_10 : decode cX1_wayOf 10 = .ok (.aload_n 0, 1) := dk_42 (dk_at dksX1_wayOf_0 10 rfl rfl)
theorem dX1_wayOf_11 : decode cX1_wayOf 11 = .ok (.iconst 0, 1) := dk_3 (dk_at dksX1_wayOf_0 11 rfl rfl)
theorem dX1_wayOf_12 : decode cX1_wayOf 12 = .ok (.putfield 164, 3) := dk_181 0 164 (dk_at dksX1_wayOf_0 12 rfl rfl)
theorem dX1_wayOf_15 : decode cX1_wayOf 15 = .ok (.aload_n 0, 1) := dk_42 (dk_at dksX1_wayOf_0 15 rfl rfl)
theorem dX1_wayOf_16 : decode cX1_wayOf 16 = .ok (.iconst 0, 1) := dk_3 (dk_at dksX1_wayOf_0 16 rfl rfl)
theorem dX1_wayOf_17 : decode cX1_wayOf 17 = .ok (.putfield 170, 3) := dk_181 0 170 (dk_at dksX1_wayOf_0 17 rfl rfl)
theorem dX1_wayOf_20 : decode cX1_wayOf 20 = .ok (.bipush (-9), 2) := dk_16 247 (dk_at dksX1_wayOf_0 20 rfl rfl)
theorem dX1_wayOf_22 : decode cX1_wayOf 22 = .ok (.istore 5, 2) := dk_54 5 (dk_at dksX1_wayOf_0 22 rfl rfl)
theorem dX1_wayOf_24 : decode cX1_wayOf 24 = .ok (.iconst 0, 1) := dk_3 (dk_at dksX1_wayOf_1 0 rfl rfl)
theorem dX1_wayOf_25 : decode cX1_wayOf 25 = .ok (.istore 6, 2) := dk_54 6 (dk_at dksX1_wayOf_1 1 rfl rfl)
theorem dX1_wayOf_27 : decode cX1_wayOf 27 = .ok (.iload 6, 2) := dk_21 6 (dk_at dksX1_wayOf_1 3 rfl rfl)
theorem dX1_wayOf_29 : decode cX1_wayOf 29 = .ok (.iload_n 3, 1) := dk_29 (dk_at dksX1_wayOf_1 5 rfl rfl)
theorem dX1_wayOf_30 : decode cX1_wayOf 30 = .ok (.if_icmp .ge 67, 3) := dk_162 0 67 (dk_at dksX1_wayOf_1 6 rfl rfl)
theorem dX1_wayOf_33 : decode cX1_wayOf 33 = .ok (.iload 5, 2) := dk_21 5 (dk_at dksX1_wayOf_1 9 rfl rfl)
theorem dX1_wayOf_35 : decode cX1_wayOf 35 = .ok (.bipush (-9), 2) := dk_16 247 (dk_at dksX1_wayOf_1 11 rfl rfl)
theorem dX1_wayOf_37 : decode cX1_wayOf 37 = .ok (.if_icmp .ne 60, 3) := dk_160 0 60 (dk_at dksX1_wayOf_1 13 rfl rfl)
theorem dX1_wayOf_40 : decode cX1_wayOf 40 = .ok (.iload 6, 2) := dk_21 6 (dk_at dksX1_wayOf_1 16 rfl rfl)
theorem dX1_wayOf_42 : decode cX1_wayOf 42 = .ok (.ifCond .gt 12, 3) := dk_157 0 12 (dk_at dksX1_wayOf_1 18 rfl rfl)
theorem dX1_wayOf_45 : decode cX1_wayOf 45 = .ok (.aload_n 0, 1) := dk_42 (dk_at dksX1_wayOf_1 21 rfl rfl)
theorem dX1_wayOf_46 : decode cX1_wayOf 46 = .ok (.iconst 0, 1) := dk_3 (dk_at dksX1_wayOf_1 22 rfl rfl)
theorem dX1_wayOf_47 : decode cX1_wayOf 47 = .ok (.iload_n 1, 1) := dk_27 (dk_at dksX1_wayOf_1 23 rfl rfl)
theorem dX1_wayOf_48 : decode cX1_wayOf 48 = .ok (.invokevirtual 136, 3) := dk_182 0 136 (dk_at dksX1_wayOf_2 0 rfl rfl)
theorem dX1_wayOf_51 : decode cX1_wayOf 51 = .ok (.ifCond .eq 7, 3) := dk_153 0 7 (dk_at dksX1_wayOf_2 3 rfl rfl)
theorem dX1_wayOf_54 : decode cX1_wayOf 54 = .ok (.iconst 1, 1) := dk_4 (dk_at dksX1_wayOf_2 6 rfl rfl)
theorem dX1_wayOf_55 : decode cX1_wayOf 55 = .ok (.goto 4, 3) := dk_167 0 4 (dk_at dksX1_wayOf_2 7 rfl rfl)
theorem dX1_wayOf_58 : decode cX1_wayOf 58 = .ok (.iconst 0, 1) := dk_3 (dk_at dksX1_wayOf_2 10 rfl rfl)
theorem dX1_wayOf_59 : decode cX1_wayOf 59 = .ok (.istore 7, 2) := dk_54 7 (dk_at dksX1_wayOf_2 11 rfl rfl)
theorem dX1_wayOf_61 : decode cX1_wayOf 61 = .ok (.iload 7, 2) := dk_21 7 (dk_at dksX1_wayOf_2 13 rfl rfl)
theorem dX1_wayOf_63 : decode cX1_wayOf 63 = .ok (.ifCond .eq 24, 3) := dk_153 0 24 (dk_at dksX1_wayOf_2 15 rfl rfl)
theorem dX1_wayOf_66 : decode cX1_wayOf 66 = .ok (.aload_n 0, 1) := dk_42 (dk_at dksX1_wayOf_2 18 rfl rfl)
theorem dX1_wayOf_67 : decode cX1_wayOf 67 = .ok (.aload_n 0, 1) := dk_42 (dk_at dksX1_wayOf_2 19 rfl rfl)
theorem dX1_wayOf_68 : decode cX1_wayOf 68 = .ok (.getfield 16, 3) := dk_180 0 16 (dk_at dksX1_wayOf_2 20 rfl rfl)
theorem dX1_wayOf_71 : decode cX1_wayOf 71 = .ok (.iload_n 2, 1) := dk_28 (dk_at dksX1_wayOf_2 23 rfl rfl)
theorem dX1_wayOf_72 : decode cX1_wayOf 72 = .ok (.iload 6, 2) := dk_21 6 (dk_at dksX1_wayOf_3 0 rfl rfl)
theorem dX1_wayOf_74 : decode cX1_wayOf 74 = .ok (.iadd, 1) := dk_96 (dk_at dksX1_wayOf_3 2 rfl rfl)
theorem dX1_wayOf_75 : decode cX1_wayOf 75 = .ok (.iaload, 1) := dk_46 (dk_at dksX1_wayOf_3 3 rfl rfl)
theorem dX1_wayOf_76 : decode cX1_wayOf 76 = .ok (.invokevirtual 179, 3) := dk_182 0 179 (dk_at dksX1_wayOf_3 4 rfl rfl)
theorem dX1_wayOf_79 : decode cX1_wayOf 79 = .ok (.ifCond .eq 8, 3) := dk_153 0 8 (dk_at dksX1_wayOf_3 7 rfl rfl)
theorem dX1_wayOf_82 : decode cX1_wayOf 82 = .ok (.bipush (-9), 2) := dk_16 247 (dk_at dksX1_wayOf_3 10 rfl rfl)
theorem dX1_wayOf_84 : decode cX1_wayOf 84 = .ok (.goto 5, 3) := dk_167 0 5 (dk_at dksX1_wayOf_3 12 rfl rfl)
theorem dX1_wayOf_87 : decode cX1_wayOf 87 = .ok (.iload 6, 2) := dk_21 6 (dk_at dksX1_wayOf_3 15 rfl rfl)
theorem dX1_wayOf_89 : decode cX1_wayOf 89 = .ok (.istore 5, 2) := dk_54 5 (dk_at dksX1_wayOf_3 17 rfl rfl)
theorem dX1_wayOf_91 : decode cX1_wayOf 91 = .ok (.iinc 6 1, 3) := dk_132 6 1 (dk_at dksX1_wayOf_3 19 rfl rfl)
theorem dX1_wayOf_94 : decode cX1_wayOf 94 = .ok (.goto (-67), 3) := dk_167 255 189 (dk_at dksX1_wayOf_4 0 rfl rfl)
theorem dX1_wayOf_97 : decode cX1_wayOf 97 = .ok (.iload 4, 2) := dk_21 4 (dk_at dksX1_wayOf_4 3 rfl rfl)
theorem dX1_wayOf_99 : decode cX1_wayOf 99 = .ok (.iconst 1, 1) := dk_4 (dk_at dksX1_wayOf_4 5 rfl rfl)
theorem dX1_wayOf_100 : decode cX1_wayOf 100 = .ok (.if_icmp .ne 6, 3) := dk_160 0 6 (dk_at dksX1_wayOf_4 6 rfl rfl)
theorem dX1_wayOf_103 : decode cX1_wayOf 103 = .ok (.iload 5, 2) := dk_21 5 (dk_at dksX1_wayOf_4 9 rfl rfl)
theorem dX1_wayOf_105 : decode cX1_wayOf 105 = .ok (.ireturn, 1) := dk_172 (dk_at dksX1_wayOf_4 11 rfl rfl)
theorem dX1_wayOf_106 : decode cX1_wayOf 106 = .ok (.iload 5, 2) := dk_21 5 (dk_at dksX1_wayOf_4 12 rfl rfl)
theorem dX1_wayOf_108 : decode cX1_wayOf 108 = .ok (.bipush (-9), 2) := dk_16 247 (dk_at dksX1_wayOf_4 14 rfl rfl)
theorem dX1_wayOf_110 : decode cX1_wayOf 110 = .ok (.if_icmp .eq 9, 3) := dk_159 0 9 (dk_at dksX1_wayOf_4 16 rfl rfl)
theorem dX1_wayOf_113 : decode cX1_wayOf 113 = .ok (.bipush (-100), 2) := dk_16 156 (dk_at dksX1_wayOf_4 19 rfl rfl)
theorem dX1_wayOf_115 : decode cX1_wayOf 115 = .ok (.iload 5, 2) := dk_21 5 (dk_at dksX1_wayOf_4 21 rfl rfl)
theorem dX1_wayOf_117 : decode cX1_wayOf 117 = .ok (.isub, 1) := dk_100 (dk_at dksX1_wayOf_4 23 rfl rfl)
theorem dX1_wayOf_118 : decode cX1_wayOf 118 = .ok (.ireturn, 1) := dk_172 (dk_at dksX1_wayOf_5 0 rfl rfl)
theorem dX1_wayOf_119 : decode cX1_wayOf 119 = .ok (.iload 4, 2) := dk_21 4 (dk_at dksX1_wayOf_5 1 rfl rfl)
theorem dX1_wayOf_121 : decode cX1_wayOf 121 = .ok (.ifCond .ne 10, 3) := dk_154 0 10 (dk_at dksX1_wayOf_5 3 rfl rfl)
theorem dX1_wayOf_124 : decode cX1_wayOf 124 = .ok (.aload_n 0, 1) := dk_42 (dk_at dksX1_wayOf_5 6 rfl rfl)
theorem dX1_wayOf_125 : decode cX1_wayOf 125 = .ok (.getfield 167, 3) := dk_180 0 167 (dk_at dksX1_wayOf_5 7 rfl rfl)
theorem dX1_wayOf_128 : decode cX1_wayOf 128 = .ok (.goto 33, 3) := dk_167 0 33 (dk_at dksX1_wayOf_5 10 rfl rfl)
theorem dX1_wayOf_131 : decode cX1_wayOf 131 = .ok (.iload 4, 2) := dk_21 4 (dk_at dksX1_wayOf_5 13 rfl rfl)
theorem dX1_wayOf_133 : decode cX1_wayOf 133 = .ok (.iconst 2, 1) := dk_5 (dk_at dksX1_wayOf_5 15 rfl rfl)
theorem dX1_wayOf_134 : decode cX1_wayOf 134 = .ok (.if_icmp .ne 10, 3) := dk_160 0 10 (dk_at dksX1_wayOf_5 16 rfl rfl)
theorem dX1_wayOf_137 : decode cX1_wayOf 137 = .ok (.aload_n 0, 1) := dk_42 (dk_at dksX1_wayOf_5 19 rfl rfl)
theorem dX1_wayOf_138 : decode cX1_wayOf 138 = .ok (.getfield 170, 3) := dk_180 0 170 (dk_at dksX1_wayOf_5 20 rfl rfl)
theorem dX1_wayOf_141 : decode cX1_wayOf 141 = .ok (.goto 20, 3) := dk_167 0 20 (dk_at dksX1_wayOf_6 0 rfl rfl)
theorem dX1_wayOf_144 : decode cX1_wayOf 144 = .ok (.iload 4, 2) := dk_21 4 (dk_at dksX1_wayOf_6 3 rfl rfl)
theorem dX1_wayOf_146 : decode cX1_wayOf 146 = .ok (.iconst 3, 1) := dk_6 (dk_at dksX1_wayOf_6 5 rfl rfl)
theorem dX1_wayOf_147 : decode cX1_wayOf 147 = .ok (.if_icmp .ne 10, 3) := dk_160 0 10 (dk_at dksX1_wayOf_6 6 rfl rfl)
theorem dX1_wayOf_150 : decode cX1_wayOf 150 = .ok (.aload_n 0, 1) := dk_42 (dk_at dksX1_wayOf_6 9 rfl rfl)
theorem dX1_wayOf_151 : decode cX1_wayOf 151 = .ok (.getfield 173, 3) := dk_180 0 173 (dk_at dksX1_wayOf_6 10 rfl rfl)
theorem dX1_wayOf_154 : decode cX1_wayOf 154 = .ok (.goto 7, 3) := dk_167 0 7 (dk_at dksX1_wayOf_6 13 rfl rfl)
theorem dX1_wayOf_157 : decode cX1_wayOf 157 = .ok (.aload_n 0, 1) := dk_42 (dk_at dksX1_wayOf_6 16 rfl rfl)
theorem dX1_wayOf_158 : decode cX1_wayOf 158 = .ok (.getfield 164, 3) := dk_180 0 164 (dk_at dksX1_wayOf_6 17 rfl rfl)
theorem dX1_wayOf_161 : decode cX1_wayOf 161 = .ok (.ireturn, 1) := dk_172 (dk_at dksX1_wayOf_6 20 rfl rfl)
abbrev cX1_goStep : ByteArray := prog_15_method_34_code
def yX1_goStep : MethodName := ⟨RX1, "goStep", "(I)Z"⟩
def dkwX1_goStep_9 : List UInt8 := [182, 0, 149, 181, 0, 173, 4, 172]
abbrev dktX1_goStep_9 : List UInt8 := dkwX1_goStep_9 ++ []
def dkwX1_goStep_8 : List UInt8 := [172, 42, 89, 180, 0, 167, 42, 27, 182, 0, 121, 96, 181, 0, 167, 42, 42, 27, 42, 180, 0, 173]
abbrev dktX1_goStep_8 : List UInt8 := dkwX1_goStep_8 ++ dktX1_goStep_9
def dkwX1_goStep_7 : List UInt8 := [182, 0, 149, 16, 247, 159, 0, 18, 42, 180, 0, 167, 42, 27, 182, 0, 121, 96, 16, 8, 161, 0, 5, 3]
abbrev dktX1_goStep_7 : List UInt8 := dkwX1_goStep_7 ++ dktX1_goStep_8
def dkwX1_goStep_6 : List UInt8 := [181, 0, 164, 28, 172, 42, 27, 42, 180, 0, 167, 182, 0, 130, 153, 0, 32, 42, 27, 42, 180, 0, 173]
abbrev dktX1_goStep_6 : List UInt8 := dkwX1_goStep_6 ++ dktX1_goStep_7
def dkwX1_goStep_5 : List UInt8 := [160, 0, 19, 42, 5, 42, 180, 0, 167, 182, 0, 136, 153, 0, 7, 4, 167, 0, 4, 3, 61, 42, 5]
abbrev dktX1_goStep_5 : List UInt8 := dkwX1_goStep_5 ++ dktX1_goStep_6
def dkwX1_goStep_4 : List UInt8 := [181, 0, 164, 28, 172, 27, 16, 8, 160, 0, 44, 42, 180, 0, 173, 5, 160, 0, 27, 42, 180, 0, 164, 4]
abbrev dktX1_goStep_4 : List UInt8 := dkwX1_goStep_4 ++ dktX1_goStep_5
def dkwX1_goStep_3 : List UInt8 := [154, 0, 19, 42, 4, 42, 180, 0, 167, 182, 0, 136, 153, 0, 7, 4, 167, 0, 4, 3, 61, 42, 4]
abbrev dktX1_goStep_3 : List UInt8 := dkwX1_goStep_3 ++ dktX1_goStep_4
def dkwX1_goStep_2 : List UInt8 := [167, 0, 4, 3, 172, 27, 16, 7, 160, 0, 43, 42, 180, 0, 173, 4, 160, 0, 26, 42, 180, 0, 164]
abbrev dktX1_goStep_2 : List UInt8 := dkwX1_goStep_2 ++ dktX1_goStep_3
def dkwX1_goStep_1 : List UInt8 := [181, 0, 167, 42, 89, 180, 0, 170, 4, 96, 181, 0, 170, 42, 180, 0, 167, 16, 8, 162, 0, 7, 4]
abbrev dktX1_goStep_1 : List UInt8 := dkwX1_goStep_1 ++ dktX1_goStep_2
def dkwX1_goStep_0 : List UInt8 := [42, 180, 0, 164, 5, 160, 0, 5, 3, 172, 27, 16, 6, 160, 0, 38, 42, 89, 180, 0, 167, 4, 96]
abbrev dktX1_goStep_0 : List UInt8 := dkwX1_goStep_0 ++ dktX1_goStep_1
theorem dksX1_goStep_0 : cX1_goStep.data.toList.drop 0 = dktX1_goStep_0 := by decide +kernel
theorem dksX1_goStep_1 : cX1_goStep.data.toList.drop 23 = dktX1_goStep_1 := dk_seg dksX1_goStep_0 23 rfl rfl
theorem dksX1_goStep_2 : cX1_goStep.data.toList.drop 46 = dktX1_goStep_2 := dk_seg dksX1_goStep_1 23 rfl rfl
theorem dksX1_goStep_3 : cX1_goStep.data.toList.drop 69 = dktX1_goStep_3 := dk_seg dksX1_goStep_2 23 rfl rfl
theorem dksX1_goStep_4 : cX1_goStep.data.toList.drop 92 = dktX1_goStep_4 := dk_seg dksX1_goStep_3 23 rfl rfl
theorem dksX1_goStep_5 : cX1_goStep.data.toList.drop 116 = dktX1_goStep_5 := dk_seg dksX1_goStep_4 24 rfl rfl
theorem dksX1_goStep_6 : cX1_goStep.data.toList.drop 139 = dktX1_goStep_6 := dk_seg dksX1_goStep_5 23 rfl rfl
theorem dksX1_goStep_7 : cX1_goStep.data.toList.drop 162 = dktX1_goStep_7 := dk_seg dksX1_goStep_6 23 rfl rfl
theorem dksX1_goStep_8 : cX1_goStep.data.toList.drop 186 = dktX1_goStep_8 := dk_seg dksX1_goStep_7 24 rfl rfl
theorem dksX1_goStep_9 : cX1_goStep.data.toList.drop 208 = dktX1_goStep_9 := dk_seg dksX1_goStep_8 22 rfl rfl
theorem dX1_goStep_0 : decode cX1_goStep 0 = .ok (.aload_n 0, 1) := dk_42 (dk_at dksX1_goStep_0 0 rfl rfl)
theorem dX1_goStep_1 : decode cX1_goStep 1 = .ok (.getfield 164, 3) := dk_180 0 164 (dk_at dksX1_goStep_0 1 rfl rfl)
theorem dX1_goStep_4 : decode cX1_goStep 4 = .ok (.iconst 2, 1) := dk_5 (dk_at dksX1_goStep_0 4 rfl rfl)
theorem dX1_goStep_5 : decode cX1_goStep 5 = .ok (.if_icmp .ne 5, 3) := dk_160 0 5 (dk_at dksX1_goStep_0 5 rfl rfl)
theorem dX1_goStep_8 : decode cX1_goStep 8 = .ok (.iconst 0, 1) := dk_3 (dk_at dksX1_goStep_0 8 rfl rfl)
theorem dX1_goStep_9 : decode cX1_goStep 9 = .ok (.ireturn, 1) := dk_172 (dk_at dksX1_goStep_0 9 rfl rfl)
theorem dX1_goStep_10 : decode cX1_goStep 10 = .ok (.iload_n 1, 1) := dk_27 (dk_at dksX1_goStep_0 10 rfl rfl)
theorem dX1_goStep_11 : decode cX1_goStep 11 = .ok (.bipush 6, 2) := dk_16 6 (dk_at dksX1_goStep_0 11 rfl rfl)
theorem dX1_goStep_13 : decode cX1_goStep 13 = .ok (.if_icmp .ne 38, 3) := dk_160 0 38 (dk_at dksX1_goStep_0 13 rfl rfl)
theorem dX1_goStep_16 : decode cX1_goStep 16 = .ok (.aload_n 0, 1) := dk_42 (dk_at dksX1_goStep_0 16 rfl rfl)
theorem dX1_goStep_17 : decode cX1_goStep 17 = .ok (.dup, 1) := dk_89 (dk_at dksX1_goStep_0 17 rfl rfl)
theorem dX1_goStep_18 : decode cX1_goStep 18 = .ok (.getfield 167, 3) := dk_180 0 167 (dk_at dksX1_goStep_0 18 rfl rfl)
theorem dX1_goStep_21 : decode cX1_goStep 21 = .ok (.iconst 1, 1) := dk_4 (dk_at dksX1_goStep_0 21 rfl rfl)
theorem dX1_goStep_22 : decode cX1_goStep 22 = .ok (.iadd, 1) := dk_96 (dk_at dksX1_goStep_0 22 rfl rfl)
theorem dX1_goStep_23 : decode cX1_goStep 23 = .ok (.putfield 167, 3) := dk_181 0 167 (dk_at dksX1_goStep_1 0 rfl rfl)
theorem dX1_goStep_26 : decode cX1_goStep 26 = .ok (.aload_n 0, 1) := dk_42 (dk_at dksX1_goStep_1 3 rfl rfl)
theorem dX1_goStep_27 : decode cX1_goStep 27 = .ok (.dup, 1) := dk_89 (dk_at dksX1_goStep_1 4 rfl rfl)
theorem dX1_goStep_28 : decode cX1_goStep 28 = .ok (.getfield 170, 3) := dk_180 0 170 (dk_at dksX1_goStep_1 5 rfl rfl)
theorem dX1_goStep_31 : decode cX1_goStep 31 = .ok (.iconst 1, 1) := dk_4 (dk_at dksX1_goStep_1 8 rfl rfl)
theorem dX1_goStep_32 : decode cX1_goStep 32 = .ok (.iadd, 1) := dk_96 (dk_at dksX1_goStep_1 9 rfl rfl)
theorem dX1_goStep_33 : decode cX1_goStep 33 = .ok (.putfield 170, 3) := dk_181 0 170 (dk_at dksX1_goStep_1 10 rfl rfl)
theorem dX1_goStep_36 : decode cX1_goStep 36 = .ok (.aload_n 0, 1) := dk_42 (dk_at dksX1_goStep_1 13 rfl rfl)
theorem dX1_goStep_37 : decode cX1_goStep 37 = .ok (.getfield 167, 3) := dk_180 0 167 (dk_at dksX1_goStep_1 14 rfl rfl)
theorem dX1_goStep_40 : decode cX1_goStep 40 = .ok (.bipush 8, 2) := dk_16 8 (dk_at dksX1_goStep_1 17 rfl rfl)
theorem dX1_goStep_42 : decode cX1_goStep 42 = .ok (.if_icmp .ge 7, 3) := dk_162 0 7 (dk_at dksX1_goStep_1 19 rfl rfl)
theorem dX1_goStep_45 : decode cX1_goStep 45 = .ok (.iconst 1, 1) := dk_4 (dk_at dksX1_goStep_1 22 rfl rfl)
theorem dX1_goStep_46 : decode cX1_goStep 46 = .ok (.goto 4, 3) := dk_167 0 4 (dk_at dksX1_goStep_2 0 rfl rfl)
theorem dX1_goStep_49 : decode cX1_goStep 49 = .ok (.iconst 0, 1) := dk_3 (dk_at dksX1_goStep_2 3 rfl rfl)
theorem dX1_goStep_50 : decode cX1_goStep 50 = .ok (.ireturn, 1) := dk_172 (dk_at dksX1_goStep_2 4 rfl rfl)
theorem dX1_goStep_51 : decode cX1_goStep 51 = .ok (.iload_n 1, 1) := dk_27 (dk_at dksX1_goStep_2 5 rfl rfl)
theorem dX1_goStep_52 : decode cX1_goStep 52 = .ok (.bipush 7, 2) := dk_16 7 (dk_at dksX1_goStep_2 6 rfl rfl)
theorem dX1_goStep_54 : decode cX1_goStep 54 = .ok (.if_icmp .ne 43, 3) := dk_160 0 43 (dk_at dksX1_goStep_2 8 rfl rfl)
theorem dX1_goStep_57 : decode cX1_goStep 57 = .ok (.aload_n 0, 1) := dk_42 (dk_at dksX1_goStep_2 11 rfl rfl)
theorem dX1_goStep_58 : decode cX1_goStep 58 = .ok (.getfield 173, 3) := dk_180 0 173 (dk_at dksX1_goStep_2 12 rfl rfl)
theorem dX1_goStep_61 : decode cX1_goStep 61 = .ok (.iconst 1, 1) := dk_4 (dk_at dksX1_goStep_2 15 rfl rfl)
theorem dX1_goStep_62 : decode cX1_goStep 62 = .ok (.if_icmp .ne 26, 3) := dk_160 0 26 (dk_at dksX1_goStep_2 16 rfl rfl)
theorem dX1_goStep_65 : decode cX1_goStep 65 = .ok (.aload_n 0, 1) := dk_42 (dk_at dksX1_goStep_2 19 rfl rfl)
theorem dX1_goStep_66 : decode cX1_goStep 66 = .ok (.getfield 164, 3) := dk_180 0 164 (dk_at dksX1_goStep_2 20 rfl rfl)
theorem dX1_goStep_69 : decode cX1_goStep 69 = .ok (.ifCond .ne 19, 3) := dk_154 0 19 (dk_at dksX1_goStep_3 0 rfl rfl)
theorem dX1_goStep_72 : decode cX1_goStep 72 = .ok (.aload_n 0, 1) := dk_42 (dk_at dksX1_goStep_3 3 rfl rfl)
theorem dX1_goStep_73 : decode cX1_goStep 73 = .ok (.iconst 1, 1) := dk_4 (dk_at dksX1_goStep_3 4 rfl rfl)
theorem dX1_goStep_74 : decode cX1_goStep 74 = .ok (.aload_n 0, 1) := dk_42 (dk_at dksX1_goStep_3 5 rfl rfl)
theorem dX1_goStep_75 : decode cX1_goStep 75 = .ok (.getfield 167, 3) := dk_180 0 167 (dk_at dksX1_goStep_3 6 rfl rfl)
theorem dX1_goStep_78 : decode cX1_goStep 78 = .ok (.invokevirtual 136, 3) := dk_182 0 136 (dk_at dksX1_goStep_3 9 rfl rfl)
theorem dX1_goStep_81 : decode cX1_goStep 81 = .ok (.ifCond .eq 7, 3) := dk_153 0 7 (dk_at dksX1_goStep_3 12 rfl rfl)
theorem dX1_goStep_84 : decode cX1_goStep 84 = .ok (.iconst 1, 1) := dk_4 (dk_at dksX1_goStep_3 15 rfl rfl)
theorem dX1_goStep_85 : decode cX1_goStep 85 = .ok (.goto 4, 3) := dk_167 0 4 (dk_at dksX1_goStep_3 16 rfl rfl)
theorem dX1_goStep_88 : decode cX1_goStep 88 = .ok (.iconst 0, 1) := dk_3 (dk_at dksX1_goStep_3 19 rfl rfl)
theorem dX1_goStep_89 : decode cX1_goStep 89 = .ok (.istore_n 2, 1) := dk_61 (dk_at dksX1_goStep_3 20 rfl rfl)
theorem dX1_goStep_90 : decode cX1_goStep 90 = .ok (.aload_n 0, 1) := dk_42 (dk_at dksX1_goStep_3 21 rfl rfl)
theorem dX1_goStep_91 : decode cX1_goStep 91 = .ok (.iconst 1, 1) := dk_4 (dk_at dksX1_goStep_3 22 rfl rfl)
theorem dX1_goStep_92 : decode cX1_goStep 92 = .ok (.putfield 164, 3) := dk_181 0 164 (dk_at dksX1_goStep_4 0 rfl rfl)
theorem dX1_goStep_95 : decode cX1_goStep 95 = .ok (.iload_n 2, 1) := dk_28 (dk_at dksX1_goStep_4 3 rfl rfl)
theorem dX1_goStep_96 : decode cX1_goStep 96 = .ok (.ireturn, 1) := dk_172 (dk_at dksX1_goStep_4 4 rfl rfl)
theorem dX1_goStep_97 : decode cX1_goStep 97 = .ok (.iload_n 1, 1) := dk_27 (dk_at dksX1_goStep_4 5 rfl rfl)
theorem dX1_goStep_98 : decode cX1_goStep 98 = .ok (.bipush 8, 2) := dk_16 8 (dk_at dksX1_goStep_4 6 rfl rfl)
theorem dX1_goStep_100 : decode cX1_goStep 100 = .ok (.if_icmp .ne 44, 3) := dk_160 0 44 (dk_at dksX1_goStep_4 8 rfl rfl)
theorem dX1_goStep_103 : decode cX1_goStep 103 = .ok (.aload_n 0, 1) := dk_42 (dk_at dksX1_goStep_4 11 rfl rfl)
theorem dX1_goStep_104 : decode cX1_goStep 104 = .ok (.getfield 173, 3) := dk_180 0 173 (dk_at dksX1_goStep_4 12 rfl rfl)
theorem dX1_goStep_107 : decode cX1_goStep 107 = .ok (.iconst 2, 1) := dk_5 (dk_at dksX1_goStep_4 15 rfl rfl)
theorem dX1_goStep_108 : decode cX1_goStep 108 = .ok (.if_icmp .ne 27, 3) := dk_160 0 27 (dk_at dksX1_goStep_4 16 rfl rfl)
theorem dX1_goStep_111 : decode cX1_goStep 111 = .ok (.aload_n 0, 1) := dk_42 (dk_at dksX1_goStep_4 19 rfl rfl)
theorem dX1_goStep_112 : decode cX1_goStep 112 = .ok (.getfield 164, 3) := dk_180 0 164 (dk_at dksX1_goStep_4 20 rfl rfl)
theorem dX1_goStep_115 : decode cX1_goStep 115 = .ok (.iconst 1, 1) := dk_4 (dk_at dksX1_goStep_4 23 rfl rfl)
theorem dX1_goStep_116 : decode cX1_goStep 116 = .ok (.if_icmp .ne 19, 3) := dk_160 0 19 (dk_at dksX1_goStep_5 0 rfl rfl)
theorem dX1_goStep_119 : decode cX1_goStep 119 = .ok (.aload_n 0, 1) := dk_42 (dk_at dksX1_goStep_5 3 rfl rfl)
theorem dX1_goStep_120 : decode cX1_goStep 120 = .ok (.iconst 2, 1) := dk_5 (dk_at dksX1_goStep_5 4 rfl rfl)
theorem dX1_goStep_121 : decode cX1_goStep 121 = .ok (.aload_n 0, 1) := dk_42 (dk_at dksX1_goStep_5 5 rfl rfl)
theorem dX1_goStep_122 : decode cX1_goStep 122 = .ok (.getfield 167, 3) := dk_180 0 167 (dk_at dksX1_goStep_5 6 rfl rfl)
theorem dX1_goStep_125 : decode cX1_goStep 125 = .ok (.invokevirtual 136, 3) := dk_182 0 136 (dk_at dksX1_goStep_5 9 rfl rfl)
theorem dX1_goStep_128 : decode cX1_goStep 128 = .ok (.ifCond .eq 7, 3) := dk_153 0 7 (dk_at dksX1_goStep_5 12 rfl rfl)
theorem dX1_goStep_131 : decode cX1_goStep 131 = .ok (.iconst 1, 1) := dk_4 (dk_at dksX1_goStep_5 15 rfl rfl)
theorem dX1_goStep_132 : decode cX1_goStep 132 = .ok (.goto 4, 3) := dk_167 0 4 (dk_at dksX1_goStep_5 16 rfl rfl)
theorem dX1_goStep_135 : decode cX1_goStep 135 = .ok (.iconst 0, 1) := dk_3 (dk_at dksX1_goStep_5 19 rfl rfl)
theorem dX1_goStep_136 : decode cX1_goStep 136 = .ok (.istore_n 2, 1) := dk_61 (dk_at dksX1_goStep_5 20 rfl rfl)
theorem dX1_goStep_137 : decode cX1_goStep 137 = .ok (.aload_n 0, 1) := dk_42 (dk_at dksX1_goStep_5 21 rfl rfl)
theorem dX1_goStep_138 : decode cX1_goStep 138 = .ok (.iconst 2, 1) := dk_5 (dk_at dksX1_goStep_5 22 rfl rfl)
theorem dX1_goStep_139 : decode cX1_goStep 139 = .ok (.putfield 164, 3) := dk_181 0 164 (dk_at dksX1_goStep_6 0 rfl rfl)
theorem dX1_goStep_142 : decode cX1_goStep 142 = .ok (.iload_n 2, 1) := dk_28 (dk_at dksX1_goStep_6 3 rfl rfl)
theorem dX1_goStep_143 : decode cX1_goStep 143 = .ok (.ireturn, 1) := dk_172 (dk_at dksX1_goStep_6 4 rfl rfl)
theorem dX1_goStep_144 : decode cX1_goStep 144 = .ok (.aload_n 0, 1) := dk_42 (dk_at dksX1_goStep_6 5 rfl rfl)
theorem dX1_goStep_145 : decode cX1_goStep 145 = .ok (.iload_n 1, 1) := dk_27 (dk_at dksX1_goStep_6 6 rfl rfl)
theorem dX1_goStep_146 : decode cX1_goStep 146 = .ok (.aload_n 0, 1) := dk_42 (dk_at dksX1_goStep_6 7 rfl rfl)
theorem dX1_goStep_147 : decode cX1_goStep 147 = .ok (.getfield 167, 3) := dk_180 0 167 (dk_at dksX1_goStep_6 8 rfl rfl)
theorem dX1_goStep_150 : decode cX1_goStep 150 = .ok (.invokevirtual 130, 3) := dk_182 0 130 (dk_at dksX1_goStep_6 11 rfl rfl)
theorem dX1_goStep_153 : decode cX1_goStep 153 = .ok (.ifCond .eq 32, 3) := dk_153 0 32 (dk_at dksX1_goStep_6 14 rfl rfl)
theorem dX1_goStep_156 : decode cX1_goStep 156 = .ok (.aload_n 0, 1) := dk_42 (dk_at dksX1_goStep_6 17 rfl rfl)
theorem dX1_goStep_157 : decode cX1_goStep 157 = .ok (.iload_n 1, 1) := dk_27 (dk_at dksX1_goStep_6 18 rfl rfl)
theorem dX1_goStep_158 : decode cX1_goStep 158 = .ok (.aload_n 0, 1) := dk_42 (dk_at dksX1_goStep_6 19 rfl rfl)
theorem dX1_goStep_159 : decode cX1_goStep 159 = .ok (.getfield 173, 3) := dk_180 0 173 (dk_at dksX1_goStep_6 20 rfl rfl)
theorem dX1_goStep_162 : decode cX1_goStep 162 = .ok (.invokevirtual 149, 3) := dk_182 0 149 (dk_at dksX1_goStep_7 0 rfl rfl)
theorem dX1_goStep_165 : decode cX1_goStep 165 = .ok (.bipush (-9), 2) := dk_16 247 (dk_at dksX1_goStep_7 3 rfl rfl)
theorem dX1_goStep_167 : decode cX1_goStep 167 = .ok (.if_icmp .eq 18, 3) := dk_159 0 18 (dk_at dksX1_goStep_7 5 rfl rfl)
theorem dX1_goStep_170 : decode cX1_goStep 170 = .ok (.aload_n 0, 1) := dk_42 (dk_at dksX1_goStep_7 8 rfl rfl)
theorem dX1_goStep_171 : decode cX1_goStep 171 = .ok (.getfield 167, 3) := dk_180 0 167 (dk_at dksX1_goStep_7 9 rfl rfl)
theorem dX1_goStep_174 : decode cX1_goStep 174 = .ok (.aload_n 0, 1) := dk_42 (dk_at dksX1_goStep_7 12 rfl rfl)
theorem dX1_goStep_175 : decode cX1_goStep 175 = .ok (.iload_n 1, 1) := dk_27 (dk_at dksX1_goStep_7 13 rfl rfl)
theorem dX1_goStep_176 : decode cX1_goStep 176 = .ok (.invokevirtual 121, 3) := dk_182 0 121 (dk_at dksX1_goStep_7 14 rfl rfl)
theorem dX1_goStep_179 : decode cX1_goStep 179 = .ok (.iadd, 1) := dk_96 (dk_at dksX1_goStep_7 17 rfl rfl)
theorem dX1_goStep_180 : decode cX1_goStep 180 = .ok (.bipush 8, 2) := dk_16 8 (dk_at dksX1_goStep_7 18 rfl rfl)
theorem dX1_goStep_182 : decode cX1_goStep 182 = .ok (.if_icmp .lt 5, 3) := dk_161 0 5 (dk_at dksX1_goStep_7 20 rfl rfl)
theorem dX1_goStep_185 : decode cX1_goStep 185 = .ok (.iconst 0, 1) := dk_3 (dk_at dksX1_goStep_7 23 rfl rfl)
theorem dX1_goStep_186 : decode cX1_goStep 186 = .ok (.ireturn, 1) := dk_172 (dk_at dksX1_goStep_8 0 rfl rfl)
theorem dX1_goStep_187 : decode cX1_goStep 187 = .ok (.aload_n 0, 1) := dk_42 (dk_at dksX1_goStep_8 1 rfl rfl)
theorem dX1_goStep_188 : decode cX1_goStep 188 = .ok (.dup, 1) := dk_89 (dk_at dksX1_goStep_8 2 rfl rfl)
theorem dX1_goStep_189 : decode cX1_goStep 189 = .ok (.getfield 167, 3) := dk_180 0 167 (dk_at dksX1_goStep_8 3 rfl rfl)
theorem dX1_goStep_192 : decode cX1_goStep 192 = .ok (.aload_n 0, 1) := dk_42 (dk_at dksX1_goStep_8 6 rfl rfl)
theorem dX1_goStep_193 : decode cX1_goStep 193 = .ok (.iload_n 1, 1) := dk_27 (dk_at dksX1_goStep_8 7 rfl rfl)
theorem dX1_goStep_194 : decode cX1_goStep 194 = .ok (.invokevirtual 121, 3) := dk_182 0 121 (dk_at dksX1_goStep_8 8 rfl rfl)
theorem dX1_goStep_197 : decode cX1_goStep 197 = .ok (.iadd, 1) := dk_96 (dk_at dksX1_goStep_8 11 rfl rfl)
theorem dX1_goStep_198 : decode cX1_goStep 198 = .ok (.putfield 167, 3) := dk_181 0 167 (dk_at dksX1_goStep_8 12 rfl rfl)
theorem dX1_goStep_201 : decode cX1_goStep 201 = .ok (.aload_n 0, 1) := dk_42 (dk_at dksX1_goStep_8 15 rfl rfl)
theorem dX1_goStep_202 : decode cX1_goStep 202 = .ok (.aload_n 0, 1) := dk_42 (dk_at dksX1_goStep_8 16 rfl rfl)
theorem dX1_goStep_203 : decode cX1_goStep 203 = .ok (.iload_n 1, 1) := dk_27 (dk_at dksX1_goStep_8 17 rfl rfl)
theorem dX1_goStep_204 : decode cX1_goStep 204 = .ok (.aload_n 0, 1) := dk_42 (dk_at dksX1_goStep_8 18 rfl rfl)
theorem dX1_goStep_205 : decode cX1_goStep 205 = .ok (.getfield 173, 3) := dk_180 0 173 (dk_at dksX1_goStep_8 19 rfl rfl)
theorem dX1_goStep_208 : decode cX1_goStep 208 = .ok (.invokevirtual 149, 3) := dk_182 0 149 (dk_at dksX1_goStep_9 0 rfl rfl)
theorem dX1_goStep_211 : decode cX1_goStep 211 = .ok (.putfield 173, 3) := dk_181 0 173 (dk_at dksX1_goStep_9 3 rfl rfl)
theorem dX1_goStep_214 : decode cX1_goStep 214 = .ok (.iconst 1, 1) := dk_4 (dk_at dksX1_goStep_9 6 rfl rfl)
theorem dX1_goStep_215 : decode cX1_goStep 215 = .ok (.ireturn, 1) := dk_172 (dk_at dksX1_goStep_9 7 rfl rfl)
abbrev cX1_last : ByteArray := prog_15_method_38_code
def yX1_last : MethodName := ⟨RX1, "last", "(I)I"⟩
def dkwX1_last_2 : List UInt8 := [167, 255, 233, 28, 172]
abbrev dktX1_last_2 : List UInt8 := dkwX1_last_2 ++ []
def dkwX1_last_1 : List UInt8 := [62, 29, 27, 163, 0, 24, 42, 29, 27, 182, 0, 182, 153, 0, 7, 29, 167, 0, 4, 28, 61, 132, 3, 1]
abbrev dktX1_last_1 : List UInt8 := dkwX1_last_1 ++ dktX1_last_2
def dkwX1_last_0 : List UInt8 := [27, 184, 0, 124, 154, 0, 6, 16, 254, 172, 42, 180, 0, 71, 154, 0, 6, 16, 253, 172, 16, 247, 61, 3]
abbrev dktX1_last_0 : List UInt8 := dkwX1_last_0 ++ dktX1_last_1
theorem dksX1_last_0 : cX1_last.data.toList.drop 0 = dktX1_last_0 := by decide +kernel
theorem dksX1_last_1 : cX1_last.data.toList.drop 24 = dktX1_last_1 := dk_seg dksX1_last_0 24 rfl rfl
theorem dksX1_last_2 : cX1_last.data.toList.drop 48 = dktX1_last_2 := dk_seg dksX1_last_1 24 rfl rfl
theorem dX1_last_0 : decode cX1_last 0 = .ok (.iload_n 1, 1) := dk_27 (dk_at dksX1_last_0 0 rfl rfl)
theorem dX1_last_1 : decode cX1_last 1 = .ok (.invokestatic 124, 3) := dk_184 0 124 (dk_at dksX1_last_0 1 rfl rfl)
theorem dX1_last_4 : decode cX1_last 4 = .ok (.ifCond .ne 6, 3) := dk_154 0 6 (dk_at dksX1_last_0 4 rfl rfl)
theorem dX1_last_7 : decode cX1_last 7 = .ok (.bipush (-2), 2) := dk_16 254 (dk_at dksX1_last_0 7 rfl rfl)
theorem dX1_last_9 : decode cX1_last 9 = .ok (.ireturn, 1) := dk_172 (dk_at dksX1_last_0 9 rfl rfl)
theorem dX1_last_10 : decode cX1_last 10 = .ok (.aload_n 0, 1) := dk_42 (dk_at dksX1_last_0 10 rfl rfl)
theorem dX1_last_11 : decode cX1_last 11 = .ok (.getfield 71, 3) := dk_180 0 71 (dk_at dksX1_last_0 11 rfl rfl)
theorem dX1_last_14 : decode cX1_last 14 = .ok (.ifCond .ne 6, 3) := dk_154 0 6 (dk_at dksX1_last_0 14 rfl rfl)
theorem dX1_last_17 : decode cX1_last 17 = .ok (.bipush (-3), 2) := dk_16 253 (dk_at dksX1_last_0 17 rfl rfl)
theorem dX1_last_19 : decode cX1_last 19 = .ok (.ireturn, 1) := dk_172 (dk_at dksX1_last_0 19 rfl rfl)
theorem dX1_last_20 : decode cX1_last 20 = .ok (.bipush (-9), 2) := dk_16 247 (dk_at dksX1_last_0 20 rfl rfl)
theorem dX1_last_22 : decode cX1_last 22 = .ok (.istore_n 2, 1) := dk_61 (dk_at dksX1_last_0 22 rfl rfl)
theorem dX1_last_23 : decode cX1_last 23 = .ok (.iconst 0, 1) := dk_3 (dk_at dksX1_last_0 23 rfl rfl)
theorem dX1_last_24 : decode cX1_last 24 = .ok (.istore_n 3, 1) := dk_62 (dk_at dksX1_last_1 0 rfl rfl)
theorem dX1_last_25 : decode cX1_last 25 = .ok (.iload_n 3, 1) := dk_29 (dk_at dksX1_last_1 1 rfl rfl)
theorem dX1_last_26 : decode cX1_last 26 = .ok (.iload_n 1, 1) := dk_27 (dk_at dksX1_last_1 2 rfl rfl)
theorem dX1_last_27 : decode cX1_last 27 = .ok (.if_icmp .gt 24, 3) := dk_163 0 24 (dk_at dksX1_last_1 3 rfl rfl)
theorem dX1_last_30 : decode cX1_last 30 = .ok (.aload_n 0, 1) := dk_42 (dk_at dksX1_last_1 6 rfl rfl)
theorem dX1_last_31 : decode cX1_last 31 = .ok (.iload_n 3, 1) := dk_29 (dk_at dksX1_last_1 7 rfl rfl)
theorem dX1_last_32 : decode cX1_last 32 = .ok (.iload_n 1, 1) := dk_27 (dk_at dksX1_last_1 8 rfl rfl)
theorem dX1_last_33 : decode cX1_last 33 = .ok (.invokevirtual 182, 3) := dk_182 0 182 (dk_at dksX1_last_1 9 rfl rfl)
theorem dX1_last_36 : decode cX1_last 36 = .ok (.ifCond .eq 7, 3) := dk_153 0 7 (dk_at dksX1_last_1 12 rfl rfl)
theorem dX1_last_39 : decode cX1_last 39 = .ok (.iload_n 3, 1) := dk_29 (dk_at dksX1_last_1 15 rfl rfl)
theorem dX1_last_40 : decode cX1_last 40 = .ok (.goto 4, 3) := dk_167 0 4 (dk_at dksX1_last_1 16 rfl rfl)
theorem dX1_last_43 : decode cX1_last 43 = .ok (.iload_n 2, 1) := dk_28 (dk_at dksX1_last_1 19 rfl rfl)
theorem dX1_last_44 : decode cX1_last 44 = .ok (.istore_n 2, 1) := dk_61 (dk_at dksX1_last_1 20 rfl rfl)
theorem dX1_last_45 : decode cX1_last 45 = .ok (.iinc 3 1, 3) := dk_132 3 1 (dk_at dksX1_last_1 21 rfl rfl)
theorem dX1_last_48 : decode cX1_last 48 = .ok (.goto (-23), 3) := dk_167 255 233 (dk_at dksX1_last_2 0 rfl rfl)
theorem dX1_last_51 : decode cX1_last 51 = .ok (.iload_n 2, 1) := dk_28 (dk_at dksX1_last_2 3 rfl rfl)
theorem dX1_last_52 : decode cX1_last 52 = .ok (.ireturn, 1) := dk_172 (dk_at dksX1_last_2 4 rfl rfl)
abbrev cX1_canBy : ByteArray := prog_15_method_37_code
def yX1_canBy : MethodName := ⟨RX1, "canBy", "(II)Z"⟩
def dkwX1_canBy_0 : List UInt8 := [42, 27, 182, 0, 161, 62, 29, 16, 247, 159, 0, 12, 29, 28, 163, 0, 7, 4, 167, 0, 4, 3, 172]
abbrev dktX1_canBy_0 : List UInt8 := dkwX1_canBy_0 ++ []
theorem dksX1_canBy_0 : cX1_canBy.data.toList.drop 0 = dktX1_canBy_0 := by decide +kernel
theorem dX1_canBy_0 : decode cX1_canBy 0 = .ok (.aload_n 0, 1) := dk_42 (dk_at dksX1_canBy_0 0 rfl rfl)
theorem dX1_canBy_1 : decode cX1_canBy 1 = .ok (.iload_n 1, 1) := dk_27 (dk_at dksX1_canBy_0 1 rfl rfl)
theorem dX1_canBy_2 : decode cX1_canBy 2 = .ok (.invokevirtual 161, 3) := dk_182 0 161 (dk_at dksX1_canBy_0 2 rfl rfl)
theorem dX1_canBy_5 : decode cX1_canBy 5 = .ok (.istore_n 3, 1) := dk_62 (dk_at dksX1_canBy_0 5 rfl rfl)
theorem dX1_canBy_6 : decode cX1_canBy 6 = .ok (.iload_n 3, 1) := dk_29 (dk_at dksX1_canBy_0 6 rfl rfl)
theorem dX1_canBy_7 : decode cX1_canBy 7 = .ok (.bipush (-9), 2) := dk_16 247 (dk_at dksX1_canBy_0 7 rfl rfl)
theorem dX1_canBy_9 : decode cX1_canBy 9 = .ok (.if_icmp .eq 12, 3) := dk_159 0 12 (dk_at dksX1_canBy_0 9 rfl rfl)
theorem dX1_canBy_12 : decode cX1_canBy 12 = .ok (.iload_n 3, 1) := dk_29 (dk_at dksX1_canBy_0 12 rfl rfl)
theorem dX1_canBy_13 : decode cX1_canBy 13 = .ok (.iload_n 2, 1) := dk_28 (dk_at dksX1_canBy_0 13 rfl rfl)
theorem dX1_canBy_14 : decode cX1_canBy 14 = .ok (.if_icmp .gt 7, 3) := dk_163 0 7 (dk_at dksX1_canBy_0 14 rfl rfl)
theorem dX1_canBy_17 : decode cX1_canBy 17 = .ok (.iconst 1, 1) := dk_4 (dk_at dksX1_canBy_0 17 rfl rfl)
theorem dX1_canBy_18 : decode cX1_canBy 18 = .ok (.goto 4, 3) := dk_167 0 4 (dk_at dksX1_canBy_0 18 rfl rfl)
theorem dX1_canBy_21 : decode cX1_canBy 21 = .ok (.iconst 0, 1) := dk_3 (dk_at dksX1_canBy_0 21 rfl rfl)
theorem dX1_canBy_22 : decode cX1_canBy 22 = .ok (.ireturn, 1) := dk_172 (dk_at dksX1_canBy_0 22 rfl rfl)
abbrev cX1_safe : ByteArray := prog_15_method_40_code
def yX1_safe : MethodName := ⟨RX1, "safe", "(I)I"⟩
def dkwX1_safe_2 : List UInt8 := [167, 255, 233, 28, 172]
abbrev dktX1_safe_2 : List UInt8 := dkwX1_safe_2 ++ []
def dkwX1_safe_1 : List UInt8 := [62, 29, 27, 163, 0, 24, 42, 29, 27, 182, 0, 185, 153, 0, 7, 29, 167, 0, 4, 28, 61, 132, 3, 1]
abbrev dktX1_safe_1 : List UInt8 := dkwX1_safe_1 ++ dktX1_safe_2
def dkwX1_safe_0 : List UInt8 := [27, 184, 0, 124, 154, 0, 6, 16, 254, 172, 42, 180, 0, 71, 154, 0, 6, 16, 253, 172, 16, 247, 61, 3]
abbrev dktX1_safe_0 : List UInt8 := dkwX1_safe_0 ++ dktX1_safe_1
theorem dksX1_safe_0 : cX1_safe.data.toList.drop 0 = dktX1_safe_0 := by decide +kernel
theorem dksX1_safe_1 : cX1_safe.data.toList.drop 24 = dktX1_safe_1 := dk_seg dksX1_safe_0 24 rfl rfl
theorem dksX1_safe_2 : cX1_safe.data.toList.drop 48 = dktX1_safe_2 := dk_seg dksX1_safe_1 24 rfl rfl
theorem dX1_safe_0 : decode cX1_safe 0 = .ok (.iload_n 1, 1) := dk_27 (dk_at dksX1_safe_0 0 rfl rfl)
theorem dX1_safe_1 : decode cX1_safe 1 = .ok (.invokestatic 124, 3) := dk_184 0 124 (dk_at dksX1_safe_0 1 rfl rfl)
theorem dX1_safe_4 : decode cX1_safe 4 = .ok (.ifCond .ne 6, 3) := dk_154 0 6 (dk_at dksX1_safe_0 4 rfl rfl)
theorem dX1_safe_7 : decode cX1_safe 7 = .ok (.bipush (-2), 2) := dk_16 254 (dk_at dksX1_safe_0 7 rfl rfl)
theorem dX1_safe_9 : decode cX1_safe 9 = .ok (.ireturn, 1) := dk_172 (dk_at dksX1_safe_0 9 rfl rfl)
theorem dX1_safe_10 : decode cX1_safe 10 = .ok (.aload_n 0, 1) := dk_42 (dk_at dksX1_safe_0 10 rfl rfl)
theorem dX1_safe_11 : decode cX1_safe 11 = .ok (.getfield 71, 3) := dk_180 0 71 (dk_at dksX1_safe_0 11 rfl rfl)
theorem dX1_safe_14 : decode cX1_safe 14 = .ok (.ifCond .ne 6, 3) := dk_154 0 6 (dk_at dksX1_safe_0 14 rfl rfl)
theorem dX1_safe_17 : decode cX1_safe 17 = .ok (.bipush (-3), 2) := dk_16 253 (dk_at dksX1_safe_0 17 rfl rfl)
theorem dX1_safe_19 : decode cX1_safe 19 = .ok (.ireturn, 1) := dk_172 (dk_at dksX1_safe_0 19 rfl rfl)
theorem dX1_safe_20 : decode cX1_safe 20 = .ok (.bipush (-9), 2) := dk_16 247 (dk_at dksX1_safe_0 20 rfl rfl)
theorem dX1_safe_22 : decode cX1_safe 22 = .ok (.istore_n 2, 1) := dk_61 (dk_at dksX1_safe_0 22 rfl rfl)
theorem dX1_safe_23 : decode cX1_safe 23 = .ok (.iconst 0, 1) := dk_3 (dk_at dksX1_safe_0 23 rfl rfl)
theorem dX1_safe_24 : decode cX1_safe 24 = .ok (.istore_n 3, 1) := dk_62 (dk_at dksX1_safe_1 0 rfl rfl)
theorem dX1_safe_25 : decode cX1_safe 25 = .ok (.iload_n 3, 1) := dk_29 (dk_at dksX1_safe_1 1 rfl rfl)
theorem dX1_safe_26 : decode cX1_safe 26 = .ok (.iload_n 1, 1) := dk_27 (dk_at dksX1_safe_1 2 rfl rfl)
theorem dX1_safe_27 : decode cX1_safe 27 = .ok (.if_icmp .gt 24, 3) := dk_163 0 24 (dk_at dksX1_safe_1 3 rfl rfl)
theorem dX1_safe_30 : decode cX1_safe 30 = .ok (.aload_n 0, 1) := dk_42 (dk_at dksX1_safe_1 6 rfl rfl)
theorem dX1_safe_31 : decode cX1_safe 31 = .ok (.iload_n 3, 1) := dk_29 (dk_at dksX1_safe_1 7 rfl rfl)
theorem dX1_safe_32 : decode cX1_safe 32 = .ok (.iload_n 1, 1) := dk_27 (dk_at dksX1_safe_1 8 rfl rfl)
theorem dX1_safe_33 : decode cX1_safe 33 = .ok (.invokevirtual 185, 3) := dk_182 0 185 (dk_at dksX1_safe_1 9 rfl rfl)
theorem dX1_safe_36 : decode cX1_safe 36 = .ok (.ifCond .eq 7, 3) := dk_153 0 7 (dk_at dksX1_safe_1 12 rfl rfl)
theorem dX1_safe_39 : decode cX1_safe 39 = .ok (.iload_n 3, 1) := dk_29 (dk_at dksX1_safe_1 15 rfl rfl)
theorem dX1_safe_40 : decode cX1_safe 40 = .ok (.goto 4, 3) := dk_167 0 4 (dk_at dksX1_safe_1 16 rfl rfl)
theorem dX1_safe_43 : decode cX1_safe 43 = .ok (.iload_n 2, 1) := dk_28 (dk_at dksX1_safe_1 19 rfl rfl)
theorem dX1_safe_44 : decode cX1_safe 44 = .ok (.istore_n 2, 1) := dk_61 (dk_at dksX1_safe_1 20 rfl rfl)
theorem dX1_safe_45 : decode cX1_safe 45 = .ok (.iinc 3 1, 3) := dk_132 3 1 (dk_at dksX1_safe_1 21 rfl rfl)
theorem dX1_safe_48 : decode cX1_safe 48 = .ok (.goto (-23), 3) := dk_167 255 233 (dk_at dksX1_safe_2 0 rfl rfl)
theorem dX1_safe_51 : decode cX1_safe 51 = .ok (.iload_n 2, 1) := dk_28 (dk_at dksX1_safe_2 3 rfl rfl)
theorem dX1_safe_52 : decode cX1_safe 52 = .ok (.ireturn, 1) := dk_172 (dk_at dksX1_safe_2 4 rfl rfl)
abbrev cX1_isSafe : ByteArray := prog_15_method_39_code
def yX1_isSafe : MethodName := ⟨RX1, "isSafe", "(II)Z"⟩
def dkwX1_isSafe_4 : List UInt8 := [21, 4, 79, 21, 5, 172]
abbrev dktX1_isSafe_4 : List UInt8 := dkwX1_isSafe_4 ++ []
def dkwX1_isSafe_3 : List UInt8 := [182, 0, 182, 54, 5, 132, 6, 1, 167, 255, 198, 42, 180, 0, 22, 4, 29, 79, 42, 180, 0, 22, 5]
abbrev dktX1_isSafe_3 : List UInt8 := dkwX1_isSafe_3 ++ dktX1_isSafe_4
def dkwX1_isSafe_2 : List UInt8 := [130, 126, 79, 42, 180, 0, 22, 5, 21, 4, 4, 21, 6, 16, 9, 112, 120, 2, 130, 126, 79, 42, 27, 28]
abbrev dktX1_isSafe_2 : List UInt8 := dkwX1_isSafe_2 ++ dktX1_isSafe_3
def dkwX1_isSafe_1 : List UInt8 := [16, 81, 162, 0, 57, 21, 5, 153, 0, 52, 42, 180, 0, 22, 4, 29, 4, 21, 6, 16, 9, 108, 120, 2]
abbrev dktX1_isSafe_1 : List UInt8 := dkwX1_isSafe_1 ++ dktX1_isSafe_2
def dkwX1_isSafe_0 : List UInt8 := [42, 180, 0, 22, 4, 46, 62, 42, 180, 0, 22, 5, 46, 54, 4, 4, 54, 5, 3, 54, 6, 21, 6]
abbrev dktX1_isSafe_0 : List UInt8 := dkwX1_isSafe_0 ++ dktX1_isSafe_1
theorem dksX1_isSafe_0 : cX1_isSafe.data.toList.drop 0 = dktX1_isSafe_0 := by decide +kernel
theorem dksX1_isSafe_1 : cX1_isSafe.data.toList.drop 23 = dktX1_isSafe_1 := dk_seg dksX1_isSafe_0 23 rfl rfl
theorem dksX1_isSafe_2 : cX1_isSafe.data.toList.drop 47 = dktX1_isSafe_2 := dk_seg dksX1_isSafe_1 24 rfl rfl
theorem dksX1_isSafe_3 : cX1_isSafe.data.toList.drop 71 = dktX1_isSafe_3 := dk_seg dksX1_isSafe_2 24 rfl rfl
theorem dksX1_isSafe_4 : cX1_isSafe.data.toList.drop 94 = dktX1_isSafe_4 := dk_seg dksX1_isSafe_3 23 rfl rfl
theorem dX1_isSafe_0 : decode cX1_isSafe 0 = .ok (.aload_n 0, 1) := dk_42 (dk_at dksX1_isSafe_0 0 rfl rfl)
theorem dX1_isSafe_1 : decode cX1_isSafe 1 = .ok (.getfield 22, 3) := dk_180 0 22 (dk_at dksX1_isSafe_0 1 rfl rfl)
theorem dX1_isSafe_4 : decode cX1_isSafe 4 = .ok (.iconst 1, 1) := dk_4 (dk_at dksX1_isSafe_0 4 rfl rfl)
theorem dX1_isSafe_5 : decode cX1_isSafe 5 = .ok (.iaload, 1) := dk_46 (dk_at dksX1_isSafe_0 5 rfl rfl)
theorem dX1_isSafe_6 : decode cX1_isSafe 6 = .ok (.istore_n 3, 1) := dk_62 (dk_at dksX1_isSafe_0 6 rfl rfl)
theorem dX1_isSafe_7 : decode cX1_isSafe 7 = .ok (.aload_n 0, 1) := dk_42 (dk_at dksX1_isSafe_0 7 rfl rfl)
theorem dX1_isSafe_8 : decode cX1_isSafe 8 = .ok (.getfield 22, 3) := dk_180 0 22 (dk_at dksX1_isSafe_0 8 rfl rfl)
theorem dX1_isSafe_11 : decode cX1_isSafe 11 = .ok (.iconst 2, 1) := dk_5 (dk_at dksX1_isSafe_0 11 rfl rfl)
theorem dX1_isSafe_12 : decode cX1_isSafe 12 = .ok (.iaload, 1) := dk_46 (dk_at dksX1_isSafe_0 12 rfl rfl)
theorem dX1_isSafe_13 : decode cX1_isSafe 13 = .ok (.istore 4, 2) := dk_54 4 (dk_at dksX1_isSafe_0 13 rfl rfl)
theorem dX1_isSafe_15 : decode cX1_isSafe 15 = .ok (.iconst 1, 1) := dk_4 (dk_at dksX1_isSafe_0 15 rfl rfl)
theorem dX1_isSafe_16 : decode cX1_isSafe 16 = .ok (.istore 5, 2) := dk_54 5 (dk_at dksX1_isSafe_0 16 rfl rfl)
theorem dX1_isSafe_18 : decode cX1_isSafe 18 = .ok (.iconst 0, 1) := dk_3 (dk_at dksX1_isSafe_0 18 rfl rfl)
theorem dX1_isSafe_19 : decode cX1_isSafe 19 = .ok (.istore 6, 2) := dk_54 6 (dk_at dksX1_isSafe_0 19 rfl rfl)
theorem dX1_isSafe_21 : decode cX1_isSafe 21 = .ok (.iload 6, 2) := dk_21 6 (dk_at dksX1_isSafe_0 21 rfl rfl)
theorem dX1_isSafe_23 : decode cX1_isSafe 23 = .ok (.bipush 81, 2) := dk_16 81 (dk_at dksX1_isSafe_1 0 rfl rfl)
theorem dX1_isSafe_25 : decode cX1_isSafe 25 = .ok (.if_icmp .ge 57, 3) := dk_162 0 57 (dk_at dksX1_isSafe_1 2 rfl rfl)
theorem dX1_isSafe_28 : decode cX1_isSafe 28 = .ok (.iload 5, 2) := dk_21 5 (dk_at dksX1_isSafe_1 5 rfl rfl)
theorem dX1_isSafe_30 : decode cX1_isSafe 30 = .ok (.ifCond .eq 52, 3) := dk_153 0 52 (dk_at dksX1_isSafe_1 7 rfl rfl)
theorem dX1_isSafe_33 : decode cX1_isSafe 33 = .ok (.aload_n 0, 1) := dk_42 (dk_at dksX1_isSafe_1 10 rfl rfl)
theorem dX1_isSafe_34 : decode cX1_isSafe 34 = .ok (.getfield 22, 3) := dk_180 0 22 (dk_at dksX1_isSafe_1 11 rfl rfl)
theorem dX1_isSafe_37 : decode cX1_isSafe 37 = .ok (.iconst 1, 1) := dk_4 (dk_at dksX1_isSafe_1 14 rfl rfl)
theorem dX1_isSafe_38 : decode cX1_isSafe 38 = .ok (.iload_n 3, 1) := dk_29 (dk_at dksX1_isSafe_1 15 rfl rfl)
theorem dX1_isSafe_39 : decode cX1_isSafe 39 = .ok (.iconst 1, 1) := dk_4 (dk_at dksX1_isSafe_1 16 rfl rfl)
theorem dX1_isSafe_40 : decode cX1_isSafe 40 = .ok (.iload 6, 2) := dk_21 6 (dk_at dksX1_isSafe_1 17 rfl rfl)
theorem dX1_isSafe_42 : decode cX1_isSafe 42 = .ok (.bipush 9, 2) := dk_16 9 (dk_at dksX1_isSafe_1 19 rfl rfl)
theorem dX1_isSafe_44 : decode cX1_isSafe 44 = .ok (.idiv, 1) := dk_108 (dk_at dksX1_isSafe_1 21 rfl rfl)
theorem dX1_isSafe_45 : decode cX1_isSafe 45 = .ok (.ishl, 1) := dk_120 (dk_at dksX1_isSafe_1 22 rfl rfl)
theorem dX1_isSafe_46 : decode cX1_isSafe 46 = .ok (.iconst (-1), 1) := dk_2 (dk_at dksX1_isSafe_1 23 rfl rfl)
theorem dX1_isSafe_47 : decode cX1_isSafe 47 = .ok (.ixor, 1) := dk_130 (dk_at dksX1_isSafe_2 0 rfl rfl)
theorem dX1_isSafe_48 : decode cX1_isSafe 48 = .ok (.iand, 1) := dk_126 (dk_at dksX1_isSafe_2 1 rfl rfl)
theorem dX1_isSafe_49 : decode cX1_isSafe 49 = .ok (.iastore, 1) := dk_79 (dk_at dksX1_isSafe_2 2 rfl rfl)
theorem dX1_isSafe_50 : decode cX1_isSafe 50 = .ok (.aload_n 0, 1) := dk_42 (dk_at dksX1_isSafe_2 3 rfl rfl)
theorem dX1_isSafe_51 : decode cX1_isSafe 51 = .ok (.getfield 22, 3) := dk_180 0 22 (dk_at dksX1_isSafe_2 4 rfl rfl)
theorem dX1_isSafe_54 : decode cX1_isSafe 54 = .ok (.iconst 2, 1) := dk_5 (dk_at dksX1_isSafe_2 7 rfl rfl)
theorem dX1_isSafe_55 : decode cX1_isSafe 55 = .ok (.iload 4, 2) := dk_21 4 (dk_at dksX1_isSafe_2 8 rfl rfl)
theorem dX1_isSafe_57 : decode cX1_isSafe 57 = .ok (.iconst 1, 1) := dk_4 (dk_at dksX1_isSafe_2 10 rfl rfl)
theorem dX1_isSafe_58 : decode cX1_isSafe 58 = .ok (.iload 6, 2) := dk_21 6 (dk_at dksX1_isSafe_2 11 rfl rfl)
theorem dX1_isSafe_60 : decode cX1_isSafe 60 = .ok (.bipush 9, 2) := dk_16 9 (dk_at dksX1_isSafe_2 13 rfl rfl)
theorem dX1_isSafe_62 : decode cX1_isSafe 62 = .ok (.irem, 1) := dk_112 (dk_at dksX1_isSafe_2 15 rfl rfl)
theorem dX1_isSafe_63 : decode cX1_isSafe 63 = .ok (.ishl, 1) := dk_120 (dk_at dksX1_isSafe_2 16 rfl rfl)
theorem dX1_isSafe_64 : decode cX1_isSafe 64 = .ok (.iconst (-1), 1) := dk_2 (dk_at dksX1_isSafe_2 17 rfl rfl)
theorem dX1_isSafe_65 : decode cX1_isSafe 65 = .ok (.ixor, 1) := dk_130 (dk_at dksX1_isSafe_2 18 rfl rfl)
theorem dX1_isSafe_66 : decode cX1_isSafe 66 = .ok (.iand, 1) := dk_126 (dk_at dksX1_isSafe_2 19 rfl rfl)
theorem dX1_isSafe_67 : decode cX1_isSafe 67 = .ok (.iastore, 1) := dk_79 (dk_at dksX1_isSafe_2 20 rfl rfl)
theorem dX1_isSafe_68 : decode cX1_isSafe 68 = .ok (.aload_n 0, 1) := dk_42 (dk_at dksX1_isSafe_2 21 rfl rfl)
theorem dX1_isSafe_69 : decode cX1_isSafe 69 = .ok (.iload_n 1, 1) := dk_27 (dk_at dksX1_isSafe_2 22 rfl rfl)
theorem dX1_isSafe_70 : decode cX1_isSafe 70 = .ok (.iload_n 2, 1) := dk_28 (dk_at dksX1_isSafe_2 23 rfl rfl)
theorem dX1_isSafe_71 : decode cX1_isSafe 71 = .ok (.invokevirtual 182, 3) := dk_182 0 182 (dk_at dksX1_isSafe_3 0 rfl rfl)
theorem dX1_isSafe_74 : decode cX1_isSafe 74 = .ok (.istore 5, 2) := dk_54 5 (dk_at dksX1_isSafe_3 3 rfl rfl)
theorem dX1_isSafe_76 : decode cX1_isSafe 76 = .ok (.iinc 6 1, 3) := dk_132 6 1 (dk_at dksX1_isSafe_3 5 rfl rfl)
theorem dX1_isSafe_79 : decode cX1_isSafe 79 = .ok (.goto (-58), 3) := dk_167 255 198 (dk_at dksX1_isSafe_3 8 rfl rfl)
theorem dX1_isSafe_82 : decode cX1_isSafe 82 = .ok (.aload_n 0, 1) := dk_42 (dk_at dksX1_isSafe_3 11 rfl rfl)
theorem dX1_isSafe_83 : decode cX1_isSafe 83 = .ok (.getfield 22, 3) := dk_180 0 22 (dk_at dksX1_isSafe_3 12 rfl rfl)
theorem dX1_isSafe_86 : decode cX1_isSafe 86 = .ok (.iconst 1, 1) := dk_4 (dk_at dksX1_isSafe_3 15 rfl rfl)
theorem dX1_isSafe_87 : decode cX1_isSafe 87 = .ok (.iload_n 3, 1) := dk_29 (dk_at dksX1_isSafe_3 16 rfl rfl)
theorem dX1_isSafe_88 : decode cX1_isSafe 88 = .ok (.iastore, 1) := dk_79 (dk_at dksX1_isSafe_3 17 rfl rfl)
theorem dX1_isSafe_89 : decode cX1_isSafe 89 = .ok (.aload_n 0, 1) := dk_42 (dk_at dksX1_isSafe_3 18 rfl rfl)
theorem dX1_isSafe_90 : decode cX1_isSafe 90 = .ok (.getfield 22, 3) := dk_180 0 22 (dk_at dksX1_isSafe_3 19 rfl rfl)
theorem dX1_isSafe_93 : decode cX1_isSafe 93 = .ok (.iconst 2, 1) := dk_5 (dk_at dksX1_isSafe_3 22 rfl rfl)
theorem dX1_isSafe_94 : decode cX1_isSafe 94 = .ok (.iload 4, 2) := dk_21 4 (dk_at dksX1_isSafe_4 0 rfl rfl)
theorem dX1_isSafe_96 : decode cX1_isSafe 96 = .ok (.iastore, 1) := dk_79 (dk_at dksX1_isSafe_4 2 rfl rfl)
theorem dX1_isSafe_97 : decode cX1_isSafe 97 = .ok (.iload 5, 2) := dk_21 5 (dk_at dksX1_isSafe_4 3 rfl rfl)
theorem dX1_isSafe_99 : decode cX1_isSafe 99 = .ok (.ireturn, 1) := dk_172 (dk_at dksX1_isSafe_4 5 rfl rfl)
abbrev cX1_hangs : ByteArray := prog_15_method_41_code
def yX1_hangs : MethodName := ⟨RX1, "hangs", "(II)I"⟩
def dkwX1_hangs_3 : List UInt8 := [167, 0, 7, 4, 21, 4, 120, 128, 62, 132, 4, 1, 167, 255, 218, 42, 16, 247, 181, 0, 40, 29, 172]
abbrev dktX1_hangs_3 : List UInt8 := dkwX1_hangs_3 ++ []
def dkwX1_hangs_2 : List UInt8 := [180, 0, 71, 162, 0, 35, 42, 21, 4, 181, 0, 40, 29, 42, 27, 28, 182, 0, 182, 153, 0, 7, 3]
abbrev dktX1_hangs_2 : List UInt8 := dkwX1_hangs_2 ++ dktX1_hangs_3
def dkwX1_hangs_1 : List UInt8 := [16, 253, 172, 42, 27, 28, 182, 0, 182, 154, 0, 5, 3, 172, 3, 62, 3, 54, 4, 21, 4, 42]
abbrev dktX1_hangs_1 : List UInt8 := dkwX1_hangs_1 ++ dktX1_hangs_2
def dkwX1_hangs_0 : List UInt8 := [27, 184, 0, 124, 153, 0, 10, 28, 184, 0, 124, 154, 0, 6, 16, 254, 172, 42, 180, 0, 71, 154, 0, 6]
abbrev dktX1_hangs_0 : List UInt8 := dkwX1_hangs_0 ++ dktX1_hangs_1
theorem dksX1_hangs_0 : cX1_hangs.data.toList.drop 0 = dktX1_hangs_0 := by decide +kernel
theorem dksX1_hangs_1 : cX1_hangs.data.toList.drop 24 = dktX1_hangs_1 := dk_seg dksX1_hangs_0 24 rfl rfl
theorem dksX1_hangs_2 : cX1_hangs.data.toList.drop 46 = dktX1_hangs_2 := dk_seg dksX1_hangs_1 22 rfl rfl
theorem dksX1_hangs_3 : cX1_hangs.data.toList.drop 69 = dktX1_hangs_3 := dk_seg dksX1_hangs_2 23 rfl rfl
theorem dX1_hangs_0 : decode cX1_hangs 0 = .ok (.iload_n 1, 1) := dk_27 (dk_at dksX1_hangs_0 0 rfl rfl)
theorem dX1_hangs_1 : decode cX1_hangs 1 = .ok (.invokestatic 124, 3) := dk_184 0 124 (dk_at dksX1_hangs_0 1 rfl rfl)
theorem dX1_hangs_4 : decode cX1_hangs 4 = .ok (.ifCond .eq 10, 3) := dk_153 0 10 (dk_at dksX1_hangs_0 4 rfl rfl)
theorem dX1_hangs_7 : decode cX1_hangs 7 = .ok (.iload_n 2, 1) := dk_28 (dk_at dksX1_hangs_0 7 rfl rfl)
theorem dX1_hangs_8 : decode cX1_hangs 8 = .ok (.invokestatic 124, 3) := dk_184 0 124 (dk_at dksX1_hangs_0 8 rfl rfl)
theorem dX1_hangs_11 : decode cX1_hangs 11 = .ok (.ifCond .ne 6, 3) := dk_154 0 6 (dk_at dksX1_hangs_0 11 rfl rfl)
theorem dX1_hangs_14 : decode cX1_hangs 14 = .ok (.bipush (-2), 2) := dk_16 254 (dk_at dksX1_hangs_0 14 rfl rfl)
theorem dX1_hangs_16 : decode cX1_hangs 16 = .ok (.ireturn, 1) := dk_172 (dk_at dksX1_hangs_0 16 rfl rfl)
theorem dX1_hangs_17 : decode cX1_hangs 17 = .ok (.aload_n 0, 1) := dk_42 (dk_at dksX1_hangs_0 17 rfl rfl)
theorem dX1_hangs_18 : decode cX1_hangs 18 = .ok (.getfield 71, 3) := dk_180 0 71 (dk_at dksX1_hangs_0 18 rfl rfl)
theorem dX1_hangs_21 : decode cX1_hangs 21 = .ok (.ifCond .ne 6, 3) := dk_154 0 6 (dk_at dksX1_hangs_0 21 rfl rfl)
theorem dX1_hangs_24 : decode cX1_hangs 24 = .ok (.bipush (-3), 2) := dk_16 253 (dk_at dksX1_hangs_1 0 rfl rfl)
theorem dX1_hangs_26 : decode cX1_hangs 26 = .ok (.ireturn, 1) := dk_172 (dk_at dksX1_hangs_1 2 rfl rfl)
theorem dX1_hangs_27 : decode cX1_hangs 27 = .ok (.aload_n 0, 1) := dk_42 (dk_at dksX1_hangs_1 3 rfl rfl)
theorem dX1_hangs_28 : decode cX1_hangs 28 = .ok (.iload_n 1, 1) := dk_27 (dk_at dksX1_hangs_1 4 rfl rfl)
theorem dX1_hangs_29 : decode cX1_hangs 29 = .ok (.iload_n 2, 1) := dk_28 (dk_at dksX1_hangs_1 5 rfl rfl)
theorem dX1_hangs_30 : decode cX1_hangs 30 = .ok (.invokevirtual 182, 3) := dk_182 0 182 (dk_at dksX1_hangs_1 6 rfl rfl)
theorem dX1_hangs_33 : decode cX1_hangs 33 = .ok (.ifCond .ne 5, 3) := dk_154 0 5 (dk_at dksX1_hangs_1 9 rfl rfl)
theorem dX1_hangs_36 : decode cX1_hangs 36 = .ok (.iconst 0, 1) := dk_3 (dk_at dksX1_hangs_1 12 rfl rfl)
theorem dX1_hangs_37 : decode cX1_hangs 37 = .ok (.ireturn, 1) := dk_172 (dk_at dksX1_hangs_1 13 rfl rfl)
theorem dX1_hangs_38 : decode cX1_hangs 38 = .ok (.iconst 0, 1) := dk_3 (dk_at dksX1_hangs_1 14 rfl rfl)
theorem dX1_hangs_39 : decode cX1_hangs 39 = .ok (.istore_n 3, 1) := dk_62 (dk_at dksX1_hangs_1 15 rfl rfl)
theorem dX1_hangs_40 : decode cX1_hangs 40 = .ok (.iconst 0, 1) := dk_3 (dk_at dksX1_hangs_1 16 rfl rfl)
theorem dX1_hangs_41 : decode cX1_hangs 41 = .ok (.istore 4, 2) := dk_54 4 (dk_at dksX1_hangs_1 17 rfl rfl)
theorem dX1_hangs_43 : decode cX1_hangs 43 = .ok (.iload 4, 2) := dk_21 4 (dk_at dksX1_hangs_1 19 rfl rfl)
theorem dX1_hangs_45 : decode cX1_hangs 45 = .ok (.aload_n 0, 1) := dk_42 (dk_at dksX1_hangs_1 21 rfl rfl)
theorem dX1_hangs_46 : decode cX1_hangs 46 = .ok (.getfield 71, 3) := dk_180 0 71 (dk_at dksX1_hangs_2 0 rfl rfl)
theorem dX1_hangs_49 : decode cX1_hangs 49 = .ok (.if_icmp .ge 35, 3) := dk_162 0 35 (dk_at dksX1_hangs_2 3 rfl rfl)
theorem dX1_hangs_52 : decode cX1_hangs 52 = .ok (.aload_n 0, 1) := dk_42 (dk_at dksX1_hangs_2 6 rfl rfl)
theorem dX1_hangs_53 : decode cX1_hangs 53 = .ok (.iload 4, 2) := dk_21 4 (dk_at dksX1_hangs_2 7 rfl rfl)
theorem dX1_hangs_55 : decode cX1_hangs 55 = .ok (.putfield 40, 3) := dk_181 0 40 (dk_at dksX1_hangs_2 9 rfl rfl)
theorem dX1_hangs_58 : decode cX1_hangs 58 = .ok (.iload_n 3, 1) := dk_29 (dk_at dksX1_hangs_2 12 rfl rfl)
theorem dX1_hangs_59 : decode cX1_hangs 59 = .ok (.aload_n 0, 1) := dk_42 (dk_at dksX1_hangs_2 13 rfl rfl)
theorem dX1_hangs_60 : decode cX1_hangs 60 = .ok (.iload_n 1, 1) := dk_27 (dk_at dksX1_hangs_2 14 rfl rfl)
theorem dX1_hangs_61 : decode cX1_hangs 61 = .ok (.iload_n 2, 1) := dk_28 (dk_at dksX1_hangs_2 15 rfl rfl)
theorem dX1_hangs_62 : decode cX1_hangs 62 = .ok (.invokevirtual 182, 3) := dk_182 0 182 (dk_at dksX1_hangs_2 16 rfl rfl)
theorem dX1_hangs_65 : decode cX1_hangs 65 = .ok (.ifCond .eq 7, 3) := dk_153 0 7 (dk_at dksX1_hangs_2 19 rfl rfl)
theorem dX1_hangs_68 : decode cX1_hangs 68 = .ok (.iconst 0, 1) := dk_3 (dk_at dksX1_hangs_2 22 rfl rfl)
theorem dX1_hangs_69 : decode cX1_hangs 69 = .ok (.goto 7, 3) := dk_167 0 7 (dk_at dksX1_hangs_3 0 rfl rfl)
theorem dX1_hangs_72 : decode cX1_hangs 72 = .ok (.iconst 1, 1) := dk_4 (dk_at dksX1_hangs_3 3 rfl rfl)
theorem dX1_hangs_73 : decode cX1_hangs 73 = .ok (.iload 4, 2) := dk_21 4 (dk_at dksX1_hangs_3 4 rfl rfl)
theorem dX1_hangs_75 : decode cX1_hangs 75 = .ok (.ishl, 1) := dk_120 (dk_at dksX1_hangs_3 6 rfl rfl)
theorem dX1_hangs_76 : decode cX1_hangs 76 = .ok (.ior, 1) := dk_128 (dk_at dksX1_hangs_3 7 rfl rfl)
theorem dX1_hangs_77 : decode cX1_hangs 77 = .ok (.istore_n 3, 1) := dk_62 (dk_at dksX1_hangs_3 8 rfl rfl)
theorem dX1_hangs_78 : decode cX1_hangs 78 = .ok (.iinc 4 1, 3) := dk_132 4 1 (dk_at dksX1_hangs_3 9 rfl rfl)
theorem dX1_hangs_81 : decode cX1_hangs 81 = .ok (.goto (-38), 3) := dk_167 255 218 (dk_at dksX1_hangs_3 12 rfl rfl)
theorem dX1_hangs_84 : decode cX1_hangs 84 = .ok (.aload_n 0, 1) := dk_42 (dk_at dksX1_hangs_3 15 rfl rfl)
theorem dX1_hangs_85 : decode cX1_hangs 85 = .ok (.bipush (-9), 2) := dk_16 247 (dk_at dksX1_hangs_3 16 rfl rfl)
theorem dX1_hangs_87 : decode cX1_hangs 87 = .ok (.putfield 40, 3) := dk_181 0 40 (dk_at dksX1_hangs_3 18 rfl rfl)
theorem dX1_hangs_90 : decode cX1_hangs 90 = .ok (.iload_n 3, 1) := dk_29 (dk_at dksX1_hangs_3 21 rfl rfl)
theorem dX1_hangs_91 : decode cX1_hangs 91 = .ok (.ireturn, 1) := dk_172 (dk_at dksX1_hangs_3 22 rfl rfl)
abbrev cX1_peace : ByteArray := prog_15_method_42_code
def yX1_peace : MethodName := ⟨RX1, "peace", "(II)I"⟩
def dkwX1_peace_6 : List UInt8 := [42, 180, 0, 22, 4, 29, 79, 42, 180, 0, 22, 5, 21, 4, 79, 21, 5, 172]
abbrev dktX1_peace_6 : List UInt8 := dkwX1_peace_6 ++ []
def dkwX1_peace_5 : List UInt8 := [21, 5, 162, 0, 16, 42, 27, 28, 182, 0, 182, 153, 0, 7, 21, 7, 54, 5, 132, 6, 1, 167, 255, 166]
abbrev dktX1_peace_5 : List UInt8 := dkwX1_peace_5 ++ dktX1_peace_6
def dkwX1_peace_4 : List UInt8 := [108, 4, 160, 0, 9, 17, 0, 255, 167, 0, 5, 21, 4, 79, 21, 5, 16, 247, 159, 0, 10, 21, 7]
abbrev dktX1_peace_4 : List UInt8 := dkwX1_peace_4 ++ dktX1_peace_5
def dkwX1_peace_3 : List UInt8 := [21, 6, 5, 112, 4, 160, 0, 9, 17, 0, 255, 167, 0, 4, 29, 79, 42, 180, 0, 22, 5, 21, 6, 5]
abbrev dktX1_peace_3 : List UInt8 := dkwX1_peace_3 ++ dktX1_peace_4
def dkwX1_peace_2 : List UInt8 := [54, 6, 21, 6, 7, 162, 0, 90, 21, 6, 5, 112, 21, 6, 5, 108, 96, 54, 7, 42, 180, 0, 22, 4]
abbrev dktX1_peace_2 : List UInt8 := dkwX1_peace_2 ++ dktX1_peace_3
def dkwX1_peace_1 : List UInt8 := [16, 253, 172, 42, 180, 0, 22, 4, 46, 62, 42, 180, 0, 22, 5, 46, 54, 4, 16, 247, 54, 5, 3]
abbrev dktX1_peace_1 : List UInt8 := dkwX1_peace_1 ++ dktX1_peace_2
def dkwX1_peace_0 : List UInt8 := [27, 184, 0, 124, 153, 0, 10, 28, 184, 0, 124, 154, 0, 6, 16, 254, 172, 42, 180, 0, 71, 154, 0, 6]
abbrev dktX1_peace_0 : List UInt8 := dkwX1_peace_0 ++ dktX1_peace_1
theorem dksX1_peace_0 : cX1_peace.data.toList.drop 0 = dktX1_peace_0 := by decide +kernel
theorem dksX1_peace_1 : cX1_peace.data.toList.drop 24 = dktX1_peace_1 := dk_seg dksX1_peace_0 24 rfl rfl
theorem dksX1_peace_2 : cX1_peace.data.toList.drop 47 = dktX1_peace_2 := dk_seg dksX1_peace_1 23 rfl rfl
theorem dksX1_peace_3 : cX1_peace.data.toList.drop 71 = dktX1_peace_3 := dk_seg dksX1_peace_2 24 rfl rfl
theorem dksX1_peace_4 : cX1_peace.data.toList.drop 95 = dktX1_peace_4 := dk_seg dksX1_peace_3 24 rfl rfl
theorem dksX1_peace_5 : cX1_peace.data.toList.drop 118 = dktX1_peace_5 := dk_seg dksX1_peace_4 23 rfl rfl
theorem dksX1_peace_6 : cX1_peace.data.toList.drop 142 = dktX1_peace_6 := dk_seg dksX1_peace_5 24 rfl rfl
theorem dX1_peace_0 : decode cX1_peace 0 = .ok (.iload_n 1, 1) := dk_27 (dk_at dksX1_peace_0 0 rfl rfl)
theorem dX1_peace_1 : decode cX1_peace 1 = .ok (.invokestatic 124, 3) := dk_184 0 124 (dk_at dksX1_peace_0 1 rfl rfl)
theorem dX1_peace_4 : decode cX1_peace 4 = .ok (.ifCond .eq 10, 3) := dk_153 0 10 (dk_at dksX1_peace_0 4 rfl rfl)
theorem dX1_peace_7 : decode cX1_peace 7 = .ok (.iload_n 2, 1) := dk_28 (dk_at dksX1_peace_0 7 rfl rfl)
theorem dX1_peace_8 : decode cX1_peace 8 = .ok (.invokestatic 124, 3) := dk_184 0 124 (dk_at dksX1_peace_0 8 rfl rfl)
theorem dX1_peace_11 : decode cX1_peace 11 = .ok (.ifCond .ne 6, 3) := dk_154 0 6 (dk_at dksX1_peace_0 11 rfl rfl)
theorem dX1_peace_14 : decode cX1_peace 14 = .ok (.bipush (-2), 2) := dk_16 254 (dk_at dksX1_peace_0 14 rfl rfl)
theorem dX1_peace_16 : decode cX1_peace 16 = .ok (.ireturn, 1) := dk_172 (dk_at dksX1_peace_0 16 rfl rfl)
theorem dX1_peace_17 : decode cX1_peace 17 = .ok (.aload_n 0, 1) := dk_42 (dk_at dksX1_peace_0 17 rfl rfl)
theorem dX1_peace_18 : decode cX1_peace 18 = .ok (.getfield 71, 3) := dk_180 0 71 (dk_at dksX1_peace_0 18 rfl rfl)
theorem dX1_peace_21 : decode cX1_peace 21 = .ok (.ifCond .ne 6, 3) := dk_154 0 6 (dk_at dksX1_peace_0 21 rfl rfl)
theorem dX1_peace_24 : decode cX1_peace 24 = .ok (.bipush (-3), 2) := dk_16 253 (dk_at dksX1_peace_1 0 rfl rfl)
theorem dX1_peace_26 : decode cX1_peace 26 = .ok (.ireturn, 1) := dk_172 (dk_at dksX1_peace_1 2 rfl rfl)
theorem dX1_peace_27 : decode cX1_peace 27 = .ok (.aload_n 0, 1) := dk_42 (dk_at dksX1_peace_1 3 rfl rfl)
theorem dX1_peace_28 : decode cX1_peace 28 = .ok (.getfield 22, 3) := dk_180 0 22 (dk_at dksX1_peace_1 4 rfl rfl)
theorem dX1_peace_31 : decode cX1_peace 31 = .ok (.iconst 1, 1) := dk_4 (dk_at dksX1_peace_1 7 rfl rfl)
theorem dX1_peace_32 : decode cX1_peace 32 = .ok (.iaload, 1) := dk_46 (dk_at dksX1_peace_1 8 rfl rfl)
theorem dX1_peace_33 : decode cX1_peace 33 = .ok (.istore_n 3, 1) := dk_62 (dk_at dksX1_peace_1 9 rfl rfl)
theorem dX1_peace_34 : decode cX1_peace 34 = .ok (.aload_n 0, 1) := dk_42 (dk_at dksX1_peace_1 10 rfl rfl)
theorem dX1_peace_35 : decode cX1_peace 35 = .ok (.getfield 22, 3) := dk_180 0 22 (dk_at dksX1_peace_1 11 rfl rfl)
theorem dX1_peace_38 : decode cX1_peace 38 = .ok (.iconst 2, 1) := dk_5 (dk_at dksX1_peace_1 14 rfl rfl)
theorem dX1_peace_39 : decode cX1_peace 39 = .ok (.iaload, 1) := dk_46 (dk_at dksX1_peace_1 15 rfl rfl)
theorem dX1_peace_40 : decode cX1_peace 40 = .ok (.istore 4, 2) := dk_54 4 (dk_at dksX1_peace_1 16 rfl rfl)
theorem dX1_peace_42 : decode cX1_peace 42 = .ok (.bipush (-9), 2) := dk_16 247 (dk_at dksX1_peace_1 18 rfl rfl)
theorem dX1_peace_44 : decode cX1_peace 44 = .ok (.istore 5, 2) := dk_54 5 (dk_at dksX1_peace_1 20 rfl rfl)
theorem dX1_peace_46 : decode cX1_peace 46 = .ok (.iconst 0, 1) := dk_3 (dk_at dksX1_peace_1 22 rfl rfl)
theorem dX1_peace_47 : decode cX1_peace 47 = .ok (.istore 6, 2) := dk_54 6 (dk_at dksX1_peace_2 0 rfl rfl)
theorem dX1_peace_49 : decode cX1_peace 49 = .ok (.iload 6, 2) := dk_21 6 (dk_at dksX1_peace_2 2 rfl rfl)
theorem dX1_peace_51 : decode cX1_peace 51 = .ok (.iconst 4, 1) := dk_7 (dk_at dksX1_peace_2 4 rfl rfl)
theorem dX1_peace_52 : decode cX1_peace 52 = .ok (.if_icmp .ge 90, 3) := dk_162 0 90 (dk_at dksX1_peace_2 5 rfl rfl)
theorem dX1_peace_55 : decode cX1_peace 55 = .ok (.iload 6, 2) := dk_21 6 (dk_at dksX1_peace_2 8 rfl rfl)
theorem dX1_peace_57 : decode cX1_peace 57 = .ok (.iconst 2, 1) := dk_5 (dk_at dksX1_peace_2 10 rfl rfl)
theorem dX1_peace_58 : decode cX1_peace 58 = .ok (.irem, 1) := dk_112 (dk_at dksX1_peace_2 11 rfl rfl)
theorem dX1_peace_59 : decode cX1_peace 59 = .ok (.iload 6, 2) := dk_21 6 (dk_at dksX1_peace_2 12 rfl rfl)
theorem dX1_peace_61 : decode cX1_peace 61 = .ok (.iconst 2, 1) := dk_5 (dk_at dksX1_peace_2 14 rfl rfl)
theorem dX1_peace_62 : decode cX1_peace 62 = .ok (.idiv, 1) := dk_108 (dk_at dksX1_peace_2 15 rfl rfl)
theorem dX1_peace_63 : decode cX1_peace 63 = .ok (.iadd, 1) := dk_96 (dk_at dksX1_peace_2 16 rfl rfl)
theorem dX1_peace_64 : decode cX1_peace 64 = .ok (.istore 7, 2) := dk_54 7 (dk_at dksX1_peace_2 17 rfl rfl)
theorem dX1_peace_66 : decode cX1_peace 66 = .ok (.aload_n 0, 1) := dk_42 (dk_at dksX1_peace_2 19 rfl rfl)
theorem dX1_peace_67 : decode cX1_peace 67 = .ok (.getfield 22, 3) := dk_180 0 22 (dk_at dksX1_peace_2 20 rfl rfl)
theorem dX1_peace_70 : decode cX1_peace 70 = .ok (.iconst 1, 1) := dk_4 (dk_at dksX1_peace_2 23 rfl rfl)
theorem dX1_peace_71 : decode cX1_peace 71 = .ok (.iload 6, 2) := dk_21 6 (dk_at dksX1_peace_3 0 rfl rfl)
theorem dX1_peace_73 : decode cX1_peace 73 = .ok (.iconst 2, 1) := dk_5 (dk_at dksX1_peace_3 2 rfl rfl)
theorem dX1_peace_74 : decode cX1_peace 74 = .ok (.irem, 1) := dk_112 (dk_at dksX1_peace_3 3 rfl rfl)
theorem dX1_peace_75 : decode cX1_peace 75 = .ok (.iconst 1, 1) := dk_4 (dk_at dksX1_peace_3 4 rfl rfl)
theorem dX1_peace_76 : decode cX1_peace 76 = .ok (.if_icmp .ne 9, 3) := dk_160 0 9 (dk_at dksX1_peace_3 5 rfl rfl)
theorem dX1_peace_79 : decode cX1_peace 79 = .ok (.sipush 255, 3) := dk_17 0 255 (dk_at dksX1_peace_3 8 rfl rfl)
theorem dX1_peace_82 : decode cX1_peace 82 = .ok (.goto 4, 3) := dk_167 0 4 (dk_at dksX1_peace_3 11 rfl rfl)
theorem dX1_peace_85 : decode cX1_peace 85 = .ok (.iload_n 3, 1) := dk_29 (dk_at dksX1_peace_3 14 rfl rfl)
theorem dX1_peace_86 : decode cX1_peace 86 = .ok (.iastore, 1) := dk_79 (dk_at dksX1_peace_3 15 rfl rfl)
theorem dX1_peace_87 : decode cX1_peace 87 = .ok (.aload_n 0, 1) := dk_42 (dk_at dksX1_peace_3 16 rfl rfl)
theorem dX1_peace_88 : decode cX1_peace 88 = .ok (.getfield 22, 3) := dk_180 0 22 (dk_at dksX1_peace_3 17 rfl rfl)
theorem dX1_peace_91 : decode cX1_peace 91 = .ok (.iconst 2, 1) := dk_5 (dk_at dksX1_peace_3 20 rfl rfl)
theorem dX1_peace_92 : decode cX1_peace 92 = .ok (.iload 6, 2) := dk_21 6 (dk_at dksX1_peace_3 21 rfl rfl)
theorem dX1_peace_94 : decode cX1_peace 94 = .ok (.iconst 2, 1) := dk_5 (dk_at dksX1_peace_3 23 rfl rfl)
theorem dX1_peace_95 : decode cX1_peace 95 = .ok (.idiv, 1) := dk_108 (dk_at dksX1_peace_4 0 rfl rfl)
theorem dX1_peace_96 : decode cX1_peace 96 = .ok (.iconst 1, 1) := dk_4 (dk_at dksX1_peace_4 1 rfl rfl)
theorem dX1_peace_97 : decode cX1_peace 97 = .ok (.if_icmp .ne 9, 3) := dk_160 0 9 (dk_at dksX1_peace_4 2 rfl rfl)
theorem dX1_peace_100 : decode cX1_peace 100 = .ok (.sipush 255, 3) := dk_17 0 255 (dk_at dksX1_peace_4 5 rfl rfl)
theorem dX1_peace_103 : decode cX1_peace 103 = .ok (.goto 5, 3) := dk_167 0 5 (dk_at dksX1_peace_4 8 rfl rfl)
theorem dX1_peace_106 : decode cX1_peace 106 = .ok (.iload 4, 2) := dk_21 4 (dk_at dksX1_peace_4 11 rfl rfl)
theorem dX1_peace_108 : decode cX1_peace 108 = .ok (.iastore, 1) := dk_79 (dk_at dksX1_peace_4 13 rfl rfl)
theorem dX1_peace_109 : decode cX1_peace 109 = .ok (.iload 5, 2) := dk_21 5 (dk_at dksX1_peace_4 14 rfl rfl)
theorem dX1_peace_111 : decode cX1_peace 111 = .ok (.bipush (-9), 2) := dk_16 247 (dk_at dksX1_peace_4 16 rfl rfl)
theorem dX1_peace_113 : decode cX1_peace 113 = .ok (.if_icmp .eq 10, 3) := dk_159 0 10 (dk_at dksX1_peace_4 18 rfl rfl)
theorem dX1_peace_116 : decode cX1_peace 116 = .ok (.iload 7, 2) := dk_21 7 (dk_at dksX1_peace_4 21 rfl rfl)
theorem dX1_peace_118 : decode cX1_peace 118 = .ok (.iload 5, 2) := dk_21 5 (dk_at dksX1_peace_5 0 rfl rfl)
theorem dX1_peace_120 : decode cX1_peace 120 = .ok (.if_icmp .ge 16, 3) := dk_162 0 16 (dk_at dksX1_peace_5 2 rfl rfl)
theorem dX1_peace_123 : decode cX1_peace 123 = .ok (.aload_n 0, 1) := dk_42 (dk_at dksX1_peace_5 5 rfl rfl)
theorem dX1_peace_124 : decode cX1_peace 124 = .ok (.iload_n 1, 1) := dk_27 (dk_at dksX1_peace_5 6 rfl rfl)
theorem dX1_peace_125 : decode cX1_peace 125 = .ok (.iload_n 2, 1) := dk_28 (dk_at dksX1_peace_5 7 rfl rfl)
theorem dX1_peace_126 : decode cX1_peace 126 = .ok (.invokevirtual 182, 3) := dk_182 0 182 (dk_at dksX1_peace_5 8 rfl rfl)
theorem dX1_peace_129 : decode cX1_peace 129 = .ok (.ifCond .eq 7, 3) := dk_153 0 7 (dk_at dksX1_peace_5 11 rfl rfl)
theorem dX1_peace_132 : decode cX1_peace 132 = .ok (.iload 7, 2) := dk_21 7 (dk_at dksX1_peace_5 14 rfl rfl)
theorem dX1_peace_134 : decode cX1_peace 134 = .ok (.istore 5, 2) := dk_54 5 (dk_at dksX1_peace_5 16 rfl rfl)
theorem dX1_peace_136 : decode cX1_peace 136 = .ok (.iinc 6 1, 3) := dk_132 6 1 (dk_at dksX1_peace_5 18 rfl rfl)
theorem dX1_peace_139 : decode cX1_peace 139 = .ok (.goto (-90), 3) := dk_167 255 166 (dk_at dksX1_peace_5 21 rfl rfl)
theorem dX1_peace_142 : decode cX1_peace 142 = .ok (.aload_n 0, 1) := dk_42 (dk_at dksX1_peace_6 0 rfl rfl)
theorem dX1_peace_143 : decode cX1_peace 143 = .ok (.getfield 22, 3) := dk_180 0 22 (dk_at dksX1_peace_6 1 rfl rfl)
theorem dX1_peace_146 : decode cX1_peace 146 = .ok (.iconst 1, 1) := dk_4 (dk_at dksX1_peace_6 4 rfl rfl)
theorem dX1_peace_147 : decode cX1_peace 147 = .ok (.iload_n 3, 1) := dk_29 (dk_at dksX1_peace_6 5 rfl rfl)
theorem dX1_peace_148 : decode cX1_peace 148 = .ok (.iastore, 1) := dk_79 (dk_at dksX1_peace_6 6 rfl rfl)
theorem dX1_peace_149 : decode cX1_peace 149 = .ok (.aload_n 0, 1) := dk_42 (dk_at dksX1_peace_6 7 rfl rfl)
theorem dX1_peace_150 : decode cX1_peace 150 = .ok (.getfield 22, 3) := dk_180 0 22 (dk_at dksX1_peace_6 8 rfl rfl)
theorem dX1_peace_153 : decode cX1_peace 153 = .ok (.iconst 2, 1) := dk_5 (dk_at dksX1_peace_6 11 rfl rfl)
theorem dX1_peace_154 : decode cX1_peace 154 = .ok (.iload 4, 2) := dk_21 4 (dk_at dksX1_peace_6 12 rfl rfl)
theorem dX1_peace_156 : decode cX1_peace 156 = .ok (.iastore, 1) := dk_79 (dk_at dksX1_peace_6 14 rfl rfl)
theorem dX1_peace_157 : decode cX1_peace 157 = .ok (.iload 5, 2) := dk_21 5 (dk_at dksX1_peace_6 15 rfl rfl)
theorem dX1_peace_159 : decode cX1_peace 159 = .ok (.ireturn, 1) := dk_172 (dk_at dksX1_peace_6 17 rfl rfl)
abbrev cX1_reading : ByteArray := prog_15_method_43_code
def yX1_reading : MethodName := ⟨RX1, "reading", "(II)I"⟩
def dkwX1_reading_3 : List UInt8 := [4, 96, 181, 0, 105, 42, 180, 0, 105, 4, 100, 172]
abbrev dktX1_reading_3 : List UInt8 := dkwX1_reading_3 ++ []
def dkwX1_reading_2 : List UInt8 := [180, 0, 56, 42, 180, 0, 105, 27, 79, 42, 180, 0, 59, 42, 180, 0, 105, 28, 79, 42, 89, 180, 0, 105]
abbrev dktX1_reading_2 : List UInt8 := dkwX1_reading_2 ++ dktX1_reading_3
def dkwX1_reading_1 : List UInt8 := [180, 0, 71, 154, 0, 6, 16, 253, 172, 42, 180, 0, 105, 16, 8, 160, 0, 6, 16, 252, 172, 42]
abbrev dktX1_reading_1 : List UInt8 := dkwX1_reading_1 ++ dktX1_reading_2
def dkwX1_reading_0 : List UInt8 := [27, 184, 0, 124, 153, 0, 16, 28, 16, 247, 159, 0, 13, 28, 184, 0, 124, 154, 0, 6, 16, 254, 172, 42]
abbrev dktX1_reading_0 : List UInt8 := dkwX1_reading_0 ++ dktX1_reading_1
theorem dksX1_reading_0 : cX1_reading.data.toList.drop 0 = dktX1_reading_0 := by decide +kernel
theorem dksX1_reading_1 : cX1_reading.data.toList.drop 24 = dktX1_reading_1 := dk_seg dksX1_reading_0 24 rfl rfl
theorem dksX1_reading_2 : cX1_reading.data.toList.drop 46 = dktX1_reading_2 := dk_seg dksX1_reading_1 22 rfl rfl
theorem dksX1_reading_3 : cX1_reading.data.toList.drop 70 = dktX1_reading_3 := dk_seg dksX1_reading_2 24 rfl rfl
theorem dX1_reading_0 : decode cX1_reading 0 = .ok (.iload_n 1, 1) := dk_27 (dk_at dksX1_reading_0 0 rfl rfl)
theorem dX1_reading_1 : decode cX1_reading 1 = .ok (.invokestatic 124, 3) := dk_184 0 124 (dk_at dksX1_reading_0 1 rfl rfl)
theorem dX1_reading_4 : decode cX1_reading 4 = .ok (.ifCond .eq 16, 3) := dk_153 0 16 (dk_at dksX1_reading_0 4 rfl rfl)
theorem dX1_reading_7 : decode cX1_reading 7 = .ok (.iload_n 2, 1) := dk_28 (dk_at dksX1_reading_0 7 rfl rfl)
theorem dX1_reading_8 : decode cX1_reading 8 = .ok (.bipush (-9), 2) := dk_16 247 (dk_at dksX1_reading_0 8 rfl rfl)
theorem dX1_reading_10 : decode cX1_reading 10 = .ok (.if_icmp .eq 13, 3) := dk_159 0 13 (dk_at dksX1_reading_0 10 rfl rfl)
theorem dX1_reading_13 : decode cX1_reading 13 = .ok (.iload_n 2, 1) := dk_28 (dk_at dksX1_reading_0 13 rfl rfl)
theorem dX1_reading_14 : decode cX1_reading 14 = .ok (.invokestatic 124, 3) := dk_184 0 124 (dk_at dksX1_reading_0 14 rfl rfl)
theorem dX1_reading_17 : decode cX1_reading 17 = .ok (.ifCond .ne 6, 3) := dk_154 0 6 (dk_at dksX1_reading_0 17 rfl rfl)
theorem dX1_reading_20 : decode cX1_reading 20 = .ok (.bipush (-2), 2) := dk_16 254 (dk_at dksX1_reading_0 20 rfl rfl)
theorem dX1_reading_22 : decode cX1_reading 22 = .ok (.ireturn, 1) := dk_172 (dk_at dksX1_reading_0 22 rfl rfl)
theorem dX1_reading_23 : decode cX1_reading 23 = .ok (.aload_n 0, 1) := dk_42 (dk_at dksX1_reading_0 23 rfl rfl)
theorem dX1_reading_24 : decode cX1_reading 24 = .ok (.getfield 71, 3) := dk_180 0 71 (dk_at dksX1_reading_1 0 rfl rfl)
theorem dX1_reading_27 : decode cX1_reading 27 = .ok (.ifCond .ne 6, 3) := dk_154 0 6 (dk_at dksX1_reading_1 3 rfl rfl)
theorem dX1_reading_30 : decode cX1_reading 30 = .ok (.bipush (-3), 2) := dk_16 253 (dk_at dksX1_reading_1 6 rfl rfl)
theorem dX1_reading_32 : decode cX1_reading 32 = .ok (.ireturn, 1) := dk_172 (dk_at dksX1_reading_1 8 rfl rfl)
theorem dX1_reading_33 : decode cX1_reading 33 = .ok (.aload_n 0, 1) := dk_42 (dk_at dksX1_reading_1 9 rfl rfl)
theorem dX1_reading_34 : decode cX1_reading 34 = .ok (.getfield 105, 3) := dk_180 0 105 (dk_at dksX1_reading_1 10 rfl rfl)
theorem dX1_reading_37 : decode cX1_reading 37 = .ok (.bipush 8, 2) := dk_16 8 (dk_at dksX1_reading_1 13 rfl rfl)
theorem dX1_reading_39 : decode cX1_reading 39 = .ok (.if_icmp .ne 6, 3) := dk_160 0 6 (dk_at dksX1_reading_1 15 rfl rfl)
theorem dX1_reading_42 : decode cX1_reading 42 = .ok (.bipush (-4), 2) := dk_16 252 (dk_at dksX1_reading_1 18 rfl rfl)
theorem dX1_reading_44 : decode cX1_reading 44 = .ok (.ireturn, 1) := dk_172 (dk_at dksX1_reading_1 20 rfl rfl)
theorem dX1_reading_45 : decode cX1_reading 45 = .ok (.aload_n 0, 1) := dk_42 (dk_at dksX1_reading_1 21 rfl rfl)
theorem dX1_reading_46 : decode cX1_reading 46 = .ok (.getfield 56, 3) := dk_180 0 56 (dk_at dksX1_reading_2 0 rfl rfl)
theorem dX1_reading_49 : decode cX1_reading 49 = .ok (.aload_n 0, 1) := dk_42 (dk_at dksX1_reading_2 3 rfl rfl)
theorem dX1_reading_50 : decode cX1_reading 50 = .ok (.getfield 105, 3) := dk_180 0 105 (dk_at dksX1_reading_2 4 rfl rfl)
theorem dX1_reading_53 : decode cX1_reading 53 = .ok (.iload_n 1, 1) := dk_27 (dk_at dksX1_reading_2 7 rfl rfl)
theorem dX1_reading_54 : decode cX1_reading 54 = .ok (.iastore, 1) := dk_79 (dk_at dksX1_reading_2 8 rfl rfl)
theorem dX1_reading_55 : decode cX1_reading 55 = .ok (.aload_n 0, 1) := dk_42 (dk_at dksX1_reading_2 9 rfl rfl)
theorem dX1_reading_56 : decode cX1_reading 56 = .ok (.getfield 59, 3) := dk_180 0 59 (dk_at dksX1_reading_2 10 rfl rfl)
theorem dX1_reading_59 : decode cX1_reading 59 = .ok (.aload_n 0, 1) := dk_42 (dk_at dksX1_reading_2 13 rfl rfl)
theorem dX1_reading_60 : decode cX1_reading 60 = .ok (.getfield 105, 3) := dk_180 0 105 (dk_at dksX1_reading_2 14 rfl rfl)
theorem dX1_reading_63 : decode cX1_reading 63 = .ok (.iload_n 2, 1) := dk_28 (dk_at dksX1_reading_2 17 rfl rfl)
theorem dX1_reading_64 : decode cX1_reading 64 = .ok (.iastore, 1) := dk_79 (dk_at dksX1_reading_2 18 rfl rfl)
theorem dX1_reading_65 : decode cX1_reading 65 = .ok (.aload_n 0, 1) := dk_42 (dk_at dksX1_reading_2 19 rfl rfl)
theorem dX1_reading_66 : decode cX1_reading 66 = .ok (.dup, 1) := dk_89 (dk_at dksX1_reading_2 20 rfl rfl)
theorem dX1_reading_67 : decode cX1_reading 67 = .ok (.getfield 105, 3) := dk_180 0 105 (dk_at dksX1_reading_2 21 rfl rfl)
theorem dX1_reading_70 : decode cX1_reading 70 = .ok (.iconst 1, 1) := dk_4 (dk_at dksX1_reading_3 0 rfl rfl)
theorem dX1_reading_71 : decode cX1_reading 71 = .ok (.iadd, 1) := dk_96 (dk_at dksX1_reading_3 1 rfl rfl)
theorem dX1_reading_72 : decode cX1_reading 72 = .ok (.putfield 105, 3) := dk_181 0 105 (dk_at dksX1_reading_3 2 rfl rfl)
theorem dX1_reading_75 : decode cX1_reading 75 = .ok (.aload_n 0, 1) := dk_42 (dk_at dksX1_reading_3 5 rfl rfl)
theorem dX1_reading_76 : decode cX1_reading 76 = .ok (.getfield 105, 3) := dk_180 0 105 (dk_at dksX1_reading_3 6 rfl rfl)
theorem dX1_reading_79 : decode cX1_reading 79 = .ok (.iconst 1, 1) := dk_4 (dk_at dksX1_reading_3 9 rfl rfl)
theorem dX1_reading_80 : decode cX1_reading 80 = .ok (.isub, 1) := dk_100 (dk_at dksX1_reading_3 10 rfl rfl)
theorem dX1_reading_81 : decode cX1_reading 81 = .ok (.ireturn, 1) := dk_172 (dk_at dksX1_reading_3 11 rfl rfl)
abbrev cX1_back : ByteArray := prog_15_method_44_code
def yX1_back : MethodName := ⟨RX1, "back", "(I)I"⟩
def dkwX1_back_1 : List UInt8 := [181, 0, 105, 42, 180, 0, 105, 172]
abbrev dktX1_back_1 : List UInt8 := dkwX1_back_1 ++ []
def dkwX1_back_0 : List UInt8 := [27, 3, 42, 180, 0, 105, 184, 0, 67, 154, 0, 6, 16, 254, 172, 42, 89, 180, 0, 105, 27, 100]
abbrev dktX1_back_0 : List UInt8 := dkwX1_back_0 ++ dktX1_back_1
theorem dksX1_back_0 : cX1_back.data.toList.drop 0 = dktX1_back_0 := by decide +kernel
theorem dksX1_back_1 : cX1_back.data.toList.drop 22 = dktX1_back_1 := dk_seg dksX1_back_0 22 rfl rfl
theorem dX1_back_0 : decode cX1_back 0 = .ok (.iload_n 1, 1) := dk_27 (dk_at dksX1_back_0 0 rfl rfl)
theorem dX1_back_1 : decode cX1_back 1 = .ok (.iconst 0, 1) := dk_3 (dk_at dksX1_back_0 1 rfl rfl)
theorem dX1_back_2 : decode cX1_back 2 = .ok (.aload_n 0, 1) := dk_42 (dk_at dksX1_back_0 2 rfl rfl)
theorem dX1_back_3 : decode cX1_back 3 = .ok (.getfield 105, 3) := dk_180 0 105 (dk_at dksX1_back_0 3 rfl rfl)
theorem dX1_back_6 : decode cX1_back 6 = .ok (.invokestatic 67, 3) := dk_184 0 67 (dk_at dksX1_back_0 6 rfl rfl)
theorem dX1_back_9 : decode cX1_back 9 = .ok (.ifCond .ne 6, 3) := dk_154 0 6 (dk_at dksX1_back_0 9 rfl rfl)
theorem dX1_back_12 : decode cX1_back 12 = .ok (.bipush (-2), 2) := dk_16 254 (dk_at dksX1_back_0 12 rfl rfl)
theorem dX1_back_14 : decode cX1_back 14 = .ok (.ireturn, 1) := dk_172 (dk_at dksX1_back_0 14 rfl rfl)
theorem dX1_back_15 : decode cX1_back 15 = .ok (.aload_n 0, 1) := dk_42 (dk_at dksX1_back_0 15 rfl rfl)
theorem dX1_back_16 : decode cX1_back 16 = .ok (.dup, 1) := dk_89 (dk_at dksX1_back_0 16 rfl rfl)
theorem dX1_back_17 : decode cX1_back 17 = .ok (.getfield 105, 3) := dk_180 0 105 (dk_at dksX1_back_0 17 rfl rfl)
theorem dX1_back_20 : decode cX1_back 20 = .ok (.iload_n 1, 1) := dk_27 (dk_at dksX1_back_0 20 rfl rfl)
theorem dX1_back_21 : decode cX1_back 21 = .ok (.isub, 1) := dk_100 (dk_at dksX1_back_0 21 rfl rfl)
theorem dX1_back_22 : decode cX1_back 22 = .ok (.putfield 105, 3) := dk_181 0 105 (dk_at dksX1_back_1 0 rfl rfl)
theorem dX1_back_25 : decode cX1_back 25 = .ok (.aload_n 0, 1) := dk_42 (dk_at dksX1_back_1 3 rfl rfl)
theorem dX1_back_26 : decode cX1_back 26 = .ok (.getfield 105, 3) := dk_180 0 105 (dk_at dksX1_back_1 4 rfl rfl)
theorem dX1_back_29 : decode cX1_back 29 = .ok (.ireturn, 1) := dk_172 (dk_at dksX1_back_1 7 rfl rfl)
abbrev cX1_snows : ByteArray := prog_15_method_46_code
def yX1_snows : MethodName := ⟨RX1, "snows", "(I)I"⟩
def dkwX1_snows_3 : List UInt8 := [180, 0, 19, 27, 28, 79, 29, 172]
abbrev dktX1_snows_3 : List UInt8 := dkwX1_snows_3 ++ []
def dkwX1_snows_2 : List UInt8 := [42, 182, 0, 188, 153, 0, 10, 4, 21, 4, 120, 167, 0, 4, 3, 128, 62, 132, 4, 1, 167, 255, 220, 42]
abbrev dktX1_snows_2 : List UInt8 := dkwX1_snows_2 ++ dktX1_snows_3
def dkwX1_snows_1 : List UInt8 := [27, 46, 61, 3, 62, 3, 54, 4, 21, 4, 16, 9, 163, 0, 35, 42, 180, 0, 19, 27, 21, 4, 79, 29]
abbrev dktX1_snows_1 : List UInt8 := dkwX1_snows_1 ++ dktX1_snows_2
def dkwX1_snows_0 : List UInt8 := [27, 184, 0, 124, 154, 0, 6, 16, 254, 172, 42, 180, 0, 71, 154, 0, 6, 16, 253, 172, 42, 180, 0, 19]
abbrev dktX1_snows_0 : List UInt8 := dkwX1_snows_0 ++ dktX1_snows_1
theorem dksX1_snows_0 : cX1_snows.data.toList.drop 0 = dktX1_snows_0 := by decide +kernel
theorem dksX1_snows_1 : cX1_snows.data.toList.drop 24 = dktX1_snows_1 := dk_seg dksX1_snows_0 24 rfl rfl
theorem dksX1_snows_2 : cX1_snows.data.toList.drop 48 = dktX1_snows_2 := dk_seg dksX1_snows_1 24 rfl rfl
theorem dksX1_snows_3 : cX1_snows.data.toList.drop 72 = dktX1_snows_3 := dk_seg dksX1_snows_2 24 rfl rfl
theorem dX1_snows_0 : decode cX1_snows 0 = .ok (.iload_n 1, 1) := dk_27 (dk_at dksX1_snows_0 0 rfl rfl)
theorem dX1_snows_1 : decode cX1_snows 1 = .ok (.invokestatic 124, 3) := dk_184 0 124 (dk_at dksX1_snows_0 1 rfl rfl)
theorem dX1_snows_4 : decode cX1_snows 4 = .ok (.ifCond .ne 6, 3) := dk_154 0 6 (dk_at dksX1_snows_0 4 rfl rfl)
theorem dX1_snows_7 : decode cX1_snows 7 = .ok (.bipush (-2), 2) := dk_16 254 (dk_at dksX1_snows_0 7 rfl rfl)
theorem dX1_snows_9 : decode cX1_snows 9 = .ok (.ireturn, 1) := dk_172 (dk_at dksX1_snows_0 9 rfl rfl)
theorem dX1_snows_10 : decode cX1_snows 10 = .ok (.aload_n 0, 1) := dk_42 (dk_at dksX1_snows_0 10 rfl rfl)
theorem dX1_snows_11 : decode cX1_snows 11 = .ok (.getfield 71, 3) := dk_180 0 71 (dk_at dksX1_snows_0 11 rfl rfl)
theorem dX1_snows_14 : decode cX1_snows 14 = .ok (.ifCond .ne 6, 3) := dk_154 0 6 (dk_at dksX1_snows_0 14 rfl rfl)
theorem dX1_snows_17 : decode cX1_snows 17 = .ok (.bipush (-3), 2) := dk_16 253 (dk_at dksX1_snows_0 17 rfl rfl)
theorem dX1_snows_19 : decode cX1_snows 19 = .ok (.ireturn, 1) := dk_172 (dk_at dksX1_snows_0 19 rfl rfl)
theorem dX1_snows_20 : decode cX1_snows 20 = .ok (.aload_n 0, 1) := dk_42 (dk_at dksX1_snows_0 20 rfl rfl)
theorem dX1_snows_21 : decode cX1_snows 21 = .ok (.getfield 19, 3) := dk_180 0 19 (dk_at dksX1_snows_0 21 rfl rfl)
theorem dX1_snows_24 : decode cX1_snows 24 = .ok (.iload_n 1, 1) := dk_27 (dk_at dksX1_snows_1 0 rfl rfl)
theorem dX1_snows_25 : decode cX1_snows 25 = .ok (.iaload, 1) := dk_46 (dk_at dksX1_snows_1 1 rfl rfl)
theorem dX1_snows_26 : decode cX1_snows 26 = .ok (.istore_n 2, 1) := dk_61 (dk_at dksX1_snows_1 2 rfl rfl)
theorem dX1_snows_27 : decode cX1_snows 27 = .ok (.iconst 0, 1) := dk_3 (dk_at dksX1_snows_1 3 rfl rfl)
theorem dX1_snows_28 : decode cX1_snows 28 = .ok (.istore_n 3, 1) := dk_62 (dk_at dksX1_snows_1 4 rfl rfl)
theorem dX1_snows_29 : decode cX1_snows 29 = .ok (.iconst 0, 1) := dk_3 (dk_at dksX1_snows_1 5 rfl rfl)
theorem dX1_snows_30 : decode cX1_snows 30 = .ok (.istore 4, 2) := dk_54 4 (dk_at dksX1_snows_1 6 rfl rfl)
theorem dX1_snows_32 : decode cX1_snows 32 = .ok (.iload 4, 2) := dk_21 4 (dk_at dksX1_snows_1 8 rfl rfl)
theorem dX1_snows_34 : decode cX1_snows 34 = .ok (.bipush 9, 2) := dk_16 9 (dk_at dksX1_snows_1 10 rfl rfl)
theorem dX1_snows_36 : decode cX1_snows 36 = .ok (.if_icmp .gt 35, 3) := dk_163 0 35 (dk_at dksX1_snows_1 12 rfl rfl)
theorem dX1_snows_39 : decode cX1_snows 39 = .ok (.aload_n 0, 1) := dk_42 (dk_at dksX1_snows_1 15 rfl rfl)
theorem dX1_snows_40 : decode cX1_snows 40 = .ok (.getfield 19, 3) := dk_180 0 19 (dk_at dksX1_snows_1 16 rfl rfl)
theorem dX1_snows_43 : decode cX1_snows 43 = .ok (.iload_n 1, 1) := dk_27 (dk_at dksX1_snows_1 19 rfl rfl)
theorem dX1_snows_44 : decode cX1_snows 44 = .ok (.iload 4, 2) := dk_21 4 (dk_at dksX1_snows_1 20 rfl rfl)
theorem dX1_snows_46 : decode cX1_snows 46 = .ok (.iastore, 1) := dk_79 (dk_at dksX1_snows_1 22 rfl rfl)
theorem dX1_snows_47 : decode cX1_snows 47 = .ok (.iload_n 3, 1) := dk_29 (dk_at dksX1_snows_1 23 rfl rfl)
theorem dX1_snows_48 : decode cX1_snows 48 = .ok (.aload_n 0, 1) := dk_42 (dk_at dksX1_snows_2 0 rfl rfl)
theorem dX1_snows_49 : decode cX1_snows 49 = .ok (.invokevirtual 188, 3) := dk_182 0 188 (dk_at dksX1_snows_2 1 rfl rfl)
theorem dX1_snows_52 : decode cX1_snows 52 = .ok (.ifCond .eq 10, 3) := dk_153 0 10 (dk_at dksX1_snows_2 4 rfl rfl)
theorem dX1_snows_55 : decode cX1_snows 55 = .ok (.iconst 1, 1) := dk_4 (dk_at dksX1_snows_2 7 rfl rfl)
theorem dX1_snows_56 : decode cX1_snows 56 = .ok (.iload 4, 2) := dk_21 4 (dk_at dksX1_snows_2 8 rfl rfl)
theorem dX1_snows_58 : decode cX1_snows 58 = .ok (.ishl, 1) := dk_120 (dk_at dksX1_snows_2 10 rfl rfl)
theorem dX1_snows_59 : decode cX1_snows 59 = .ok (.goto 4, 3) := dk_167 0 4 (dk_at dksX1_snows_2 11 rfl rfl)
theorem dX1_snows_62 : decode cX1_snows 62 = .ok (.iconst 0, 1) := dk_3 (dk_at dksX1_snows_2 14 rfl rfl)
theorem dX1_snows_63 : decode cX1_snows 63 = .ok (.ior, 1) := dk_128 (dk_at dksX1_snows_2 15 rfl rfl)
theorem dX1_snows_64 : decode cX1_snows 64 = .ok (.istore_n 3, 1) := dk_62 (dk_at dksX1_snows_2 16 rfl rfl)
theorem dX1_snows_65 : decode cX1_snows 65 = .ok (.iinc 4 1, 3) := dk_132 4 1 (dk_at dksX1_snows_2 17 rfl rfl)
theorem dX1_snows_68 : decode cX1_snows 68 = .ok (.goto (-36), 3) := dk_167 255 220 (dk_at dksX1_snows_2 20 rfl rfl)
theorem dX1_snows_71 : decode cX1_snows 71 = .ok (.aload_n 0, 1) := dk_42 (dk_at dksX1_snows_2 23 rfl rfl)
theorem dX1_snows_72 : decode cX1_snows 72 = .ok (.getfield 19, 3) := dk_180 0 19 (dk_at dksX1_snows_3 0 rfl rfl)
theorem dX1_snows_75 : decode cX1_snows 75 = .ok (.iload_n 1, 1) := dk_27 (dk_at dksX1_snows_3 3 rfl rfl)
theorem dX1_snows_76 : decode cX1_snows 76 = .ok (.iload_n 2, 1) := dk_28 (dk_at dksX1_snows_3 4 rfl rfl)
theorem dX1_snows_77 : decode cX1_snows 77 = .ok (.iastore, 1) := dk_79 (dk_at dksX1_snows_3 5 rfl rfl)
theorem dX1_snows_78 : decode cX1_snows 78 = .ok (.iload_n 3, 1) := dk_29 (dk_at dksX1_snows_3 6 rfl rfl)
theorem dX1_snows_79 : decode cX1_snows 79 = .ok (.ireturn, 1) := dk_172 (dk_at dksX1_snows_3 7 rfl rfl)
abbrev cX1_areSo : ByteArray := prog_15_method_45_code
def yX1_areSo : MethodName := ⟨RX1, "areSo", "()Z"⟩
def dkwX1_areSo_1 : List UInt8 := [27, 46, 159, 0, 5, 3, 172, 132, 1, 1, 167, 255, 224, 4, 172]
abbrev dktX1_areSo_1 : List UInt8 := dkwX1_areSo_1 ++ []
def dkwX1_areSo_0 : List UInt8 := [3, 60, 27, 42, 180, 0, 105, 162, 0, 30, 42, 42, 180, 0, 56, 27, 46, 182, 0, 161, 42, 180, 0, 59]
abbrev dktX1_areSo_0 : List UInt8 := dkwX1_areSo_0 ++ dktX1_areSo_1
theorem dksX1_areSo_0 : cX1_areSo.data.toList.drop 0 = dktX1_areSo_0 := by decide +kernel
theorem dksX1_areSo_1 : cX1_areSo.data.toList.drop 24 = dktX1_areSo_1 := dk_seg dksX1_areSo_0 24 rfl rfl
theorem dX1_areSo_0 : decode cX1_areSo 0 = .ok (.iconst 0, 1) := dk_3 (dk_at dksX1_areSo_0 0 rfl rfl)
theorem dX1_areSo_1 : decode cX1_areSo 1 = .ok (.istore_n 1, 1) := dk_60 (dk_at dksX1_areSo_0 1 rfl rfl)
theorem dX1_areSo_2 : decode cX1_areSo 2 = .ok (.iload_n 1, 1) := dk_27 (dk_at dksX1_areSo_0 2 rfl rfl)
theorem dX1_areSo_3 : decode cX1_areSo 3 = .ok (.aload_n 0, 1) := dk_42 (dk_at dksX1_areSo_0 3 rfl rfl)
theorem dX1_areSo_4 : decode cX1_areSo 4 = .ok (.getfield 105, 3) := dk_180 0 105 (dk_at dksX1_areSo_0 4 rfl rfl)
theorem dX1_areSo_7 : decode cX1_areSo 7 = .ok (.if_icmp .ge 30, 3) := dk_162 0 30 (dk_at dksX1_areSo_0 7 rfl rfl)
theorem dX1_areSo_10 : decode cX1_areSo 10 = .ok (.aload_n 0, 1) := dk_42 (dk_at dksX1_areSo_0 10 rfl rfl)
theorem dX1_areSo_11 : decode cX1_areSo 11 = .ok (.aload_n 0, 1) := dk_42 (dk_at dksX1_areSo_0 11 rfl rfl)
theorem dX1_areSo_12 : decode cX1_areSo 12 = .ok (.getfield 56, 3) := dk_180 0 56 (dk_at dksX1_areSo_0 12 rfl rfl)
theorem dX1_areSo_15 : decode cX1_areSo 15 = .ok (.iload_n 1, 1) := dk_27 (dk_at dksX1_areSo_0 15 rfl rfl)
theorem dX1_areSo_16 : decode cX1_areSo 16 = .ok (.iaload, 1) := dk_46 (dk_at dksX1_areSo_0 16 rfl rfl)
theorem dX1_areSo_17 : decode cX1_areSo 17 = .ok (.invokevirtual 161, 3) := dk_182 0 161 (dk_at dksX1_areSo_0 17 rfl rfl)
theorem dX1_areSo_20 : decode cX1_areSo 20 = .ok (.aload_n 0, 1) := dk_42 (dk_at dksX1_areSo_0 20 rfl rfl)
theorem dX1_areSo_21 : decode cX1_areSo 21 = .ok (.getfield 59, 3) := dk_180 0 59 (dk_at dksX1_areSo_0 21 rfl rfl)
theorem dX1_areSo_24 : decode cX1_areSo 24 = .ok (.iload_n 1, 1) := dk_27 (dk_at dksX1_areSo_1 0 rfl rfl)
theorem dX1_areSo_25 : decode cX1_areSo 25 = .ok (.iaload, 1) := dk_46 (dk_at dksX1_areSo_1 1 rfl rfl)
theorem dX1_areSo_26 : decode cX1_areSo 26 = .ok (.if_icmp .eq 5, 3) := dk_159 0 5 (dk_at dksX1_areSo_1 2 rfl rfl)
theorem dX1_areSo_29 : decode cX1_areSo 29 = .ok (.iconst 0, 1) := dk_3 (dk_at dksX1_areSo_1 5 rfl rfl)
theorem dX1_areSo_30 : decode cX1_areSo 30 = .ok (.ireturn, 1) := dk_172 (dk_at dksX1_areSo_1 6 rfl rfl)
theorem dX1_areSo_31 : decode cX1_areSo 31 = .ok (.iinc 1 1, 3) := dk_132 1 1 (dk_at dksX1_areSo_1 7 rfl rfl)
theorem dX1_areSo_34 : decode cX1_areSo 34 = .ok (.goto (-32), 3) := dk_167 255 224 (dk_at dksX1_areSo_1 10 rfl rfl)
theorem dX1_areSo_37 : decode cX1_areSo 37 = .ok (.iconst 1, 1) := dk_4 (dk_at dksX1_areSo_1 13 rfl rfl)
theorem dX1_areSo_38 : decode cX1_areSo 38 = .ok (.ireturn, 1) := dk_172 (dk_at dksX1_areSo_1 14 rfl rfl)
abbrev cX1_heights : ByteArray := prog_15_method_47_code
def yX1_heights : MethodName := ⟨RX1, "heights", "(I)I"⟩
def dkwX1_heights_2 : List UInt8 := [120, 167, 0, 4, 3, 128, 62, 132, 4, 1, 167, 255, 220, 42, 180, 0, 37, 27, 28, 79, 29, 172]
abbrev dktX1_heights_2 : List UInt8 := dkwX1_heights_2 ++ []
def dkwX1_heights_1 : List UInt8 := [16, 9, 163, 0, 35, 42, 180, 0, 37, 27, 21, 4, 79, 29, 42, 182, 0, 188, 153, 0, 10, 4, 21, 4]
abbrev dktX1_heights_1 : List UInt8 := dkwX1_heights_1 ++ dktX1_heights_2
def dkwX1_heights_0 : List UInt8 := [42, 27, 182, 0, 118, 154, 0, 5, 2, 172, 42, 180, 0, 37, 27, 46, 61, 3, 62, 3, 54, 4, 21, 4]
abbrev dktX1_heights_0 : List UInt8 := dkwX1_heights_0 ++ dktX1_heights_1
theorem dksX1_heights_0 : cX1_heights.data.toList.drop 0 = dktX1_heights_0 := by decide +kernel
theorem dksX1_heights_1 : cX1_heights.data.toList.drop 24 = dktX1_heights_1 := dk_seg dksX1_heights_0 24 rfl rfl
theorem dksX1_heights_2 : cX1_heights.data.toList.drop 48 = dktX1_heights_2 := dk_seg dksX1_heights_1 24 rfl rfl
theorem dX1_heights_0 : decode cX1_heights 0 = .ok (.aload_n 0, 1) := dk_42 (dk_at dksX1_heights_0 0 rfl rfl)
theorem dX1_heights_1 : decode cX1_heights 1 = .ok (.iload_n 1, 1) := dk_27 (dk_at dksX1_heights_0 1 rfl rfl)
theorem dX1_heights_2 : decode cX1_heights 2 = .ok (.invokevirtual 118, 3) := dk_182 0 118 (dk_at dksX1_heights_0 2 rfl rfl)
theorem dX1_heights_5 : decode cX1_heights 5 = .ok (.ifCond .ne 5, 3) := dk_154 0 5 (dk_at dksX1_heights_0 5 rfl rfl)
theorem dX1_heights_8 : decode cX1_heights 8 = .ok (.iconst (-1), 1) := dk_2 (dk_at dksX1_heights_0 8 rfl rfl)
theorem dX1_heights_9 : decode cX1_heights 9 = .ok (.ireturn, 1) := dk_172 (dk_at dksX1_heights_0 9 rfl rfl)
theorem dX1_heights_10 : decode cX1_heights 10 = .ok (.aload_n 0, 1) := dk_42 (dk_at dksX1_heights_0 10 rfl rfl)
theorem dX1_heights_11 : decode cX1_heights 11 = .ok (.getfield 37, 3) := dk_180 0 37 (dk_at dksX1_heights_0 11 rfl rfl)
theorem dX1_heights_14 : decode cX1_heights 14 = .ok (.iload_n 1, 1) := dk_27 (dk_at dksX1_heights_0 14 rfl rfl)
theorem dX1_heights_15 : decode cX1_heights 15 = .ok (.iaload, 1) := dk_46 (dk_at dksX1_heights_0 15 rfl rfl)
theorem dX1_heights_16 : decode cX1_heights 16 = .ok (.istore_n 2, 1) := dk_61 (dk_at dksX1_heights_0 16 rfl rfl)
theorem dX1_heights_17 : decode cX1_heights 17 = .ok (.iconst 0, 1) := dk_3 (dk_at dksX1_heights_0 17 rfl rfl)
theorem dX1_heights_18 : decode cX1_heights 18 = .ok (.istore_n 3, 1) := dk_62 (dk_at dksX1_heights_0 18 rfl rfl)
theorem dX1_heights_19 : decode cX1_heights 19 = .ok (.iconst 0, 1) := dk_3 (dk_at dksX1_heights_0 19 rfl rfl)
theorem dX1_heights_20 : decode cX1_heights 20 = .ok (.istore 4, 2) := dk_54 4 (dk_at dksX1_heights_0 20 rfl rfl)
theorem dX1_heights_22 : decode cX1_heights 22 = .ok (.iload 4, 2) := dk_21 4 (dk_at dksX1_heights_0 22 rfl rfl)
theorem dX1_heights_24 : decode cX1_heights 24 = .ok (.bipush 9, 2) := dk_16 9 (dk_at dksX1_heights_1 0 rfl rfl)
theorem dX1_heights_26 : decode cX1_heights 26 = .ok (.if_icmp .gt 35, 3) := dk_163 0 35 (dk_at dksX1_heights_1 2 rfl rfl)
theorem dX1_heights_29 : decode cX1_heights 29 = .ok (.aload_n 0, 1) := dk_42 (dk_at dksX1_heights_1 5 rfl rfl)
theorem dX1_heights_30 : decode cX1_heights 30 = .ok (.getfield 37, 3) := dk_180 0 37 (dk_at dksX1_heights_1 6 rfl rfl)
theorem dX1_heights_33 : decode cX1_heights 33 = .ok (.iload_n 1, 1) := dk_27 (dk_at dksX1_heights_1 9 rfl rfl)
theorem dX1_heights_34 : decode cX1_heights 34 = .ok (.iload 4, 2) := dk_21 4 (dk_at dksX1_heights_1 10 rfl rfl)
theorem dX1_heights_36 : decode cX1_heights 36 = .ok (.iastore, 1) := dk_79 (dk_at dksX1_heights_1 12 rfl rfl)
theorem dX1_heights_37 : decode cX1_heights 37 = .ok (.iload_n 3, 1) := dk_29 (dk_at dksX1_heights_1 13 rfl rfl)
theorem dX1_heights_38 : decode cX1_heights 38 = .ok (.aload_n 0, 1) := dk_42 (dk_at dksX1_heights_1 14 rfl rfl)
theorem dX1_heights_39 : decode cX1_heights 39 = .ok (.invokevirtual 188, 3) := dk_182 0 188 (dk_at dksX1_heights_1 15 rfl rfl)
theorem dX1_heights_42 : decode cX1_heights 42 = .ok (.ifCond .eq 10, 3) := dk_153 0 10 (dk_at dksX1_heights_1 18 rfl rfl)
theorem dX1_heights_45 : decode cX1_heights 45 = .ok (.iconst 1, 1) := dk_4 (dk_at dksX1_heights_1 21 rfl rfl)
theorem dX1_heights_46 : decode cX1_heights 46 = .ok (.iload 4, 2) := dk_21 4 (dk_at dksX1_heights_1 22 rfl rfl)
theorem dX1_heights_48 : decode cX1_heights 48 = .ok (.ishl, 1) := dk_120 (dk_at dksX1_heights_2 0 rfl rfl)
theorem dX1_heights_49 : decode cX1_heights 49 = .ok (.goto 4, 3) := dk_167 0 4 (dk_at dksX1_heights_2 1 rfl rfl)
theorem dX1_heights_52 : decode cX1_heights 52 = .ok (.iconst 0, 1) := dk_3 (dk_at dksX1_heights_2 4 rfl rfl)
theorem dX1_heights_53 : decode cX1_heights 53 = .ok (.ior, 1) := dk_128 (dk_at dksX1_heights_2 5 rfl rfl)
theorem dX1_heights_54 : decode cX1_heights 54 = .ok (.istore_n 3, 1) := dk_62 (dk_at dksX1_heights_2 6 rfl rfl)
theorem dX1_heights_55 : decode cX1_heights 55 = .ok (.iinc 4 1, 3) := dk_132 4 1 (dk_at dksX1_heights_2 7 rfl rfl)
theorem dX1_heights_58 : decode cX1_heights 58 = .ok (.goto (-36), 3) := dk_167 255 220 (dk_at dksX1_heights_2 10 rfl rfl)
theorem dX1_heights_61 : decode cX1_heights 61 = .ok (.aload_n 0, 1) := dk_42 (dk_at dksX1_heights_2 13 rfl rfl)
theorem dX1_heights_62 : decode cX1_heights 62 = .ok (.getfield 37, 3) := dk_180 0 37 (dk_at dksX1_heights_2 14 rfl rfl)
theorem dX1_heights_65 : decode cX1_heights 65 = .ok (.iload_n 1, 1) := dk_27 (dk_at dksX1_heights_2 17 rfl rfl)
theorem dX1_heights_66 : decode cX1_heights 66 = .ok (.iload_n 2, 1) := dk_28 (dk_at dksX1_heights_2 18 rfl rfl)
theorem dX1_heights_67 : decode cX1_heights 67 = .ok (.iastore, 1) := dk_79 (dk_at dksX1_heights_2 19 rfl rfl)
theorem dX1_heights_68 : decode cX1_heights 68 = .ok (.iload_n 3, 1) := dk_29 (dk_at dksX1_heights_2 20 rfl rfl)
theorem dX1_heights_69 : decode cX1_heights 69 = .ok (.ireturn, 1) := dk_172 (dk_at dksX1_heights_2 21 rfl rfl)
abbrev cX1_kinds : ByteArray := prog_15_method_48_code
def yX1_kinds : MethodName := ⟨RX1, "kinds", "(I)I"⟩
def dkwX1_kinds_2 : List UInt8 := [167, 0, 4, 3, 128, 62, 132, 4, 1, 167, 255, 221, 42, 180, 0, 25, 27, 28, 79, 29, 172]
abbrev dktX1_kinds_2 : List UInt8 := dkwX1_kinds_2 ++ []
def dkwX1_kinds_1 : List UInt8 := [6, 162, 0, 35, 42, 180, 0, 25, 27, 21, 4, 79, 29, 42, 182, 0, 188, 153, 0, 10, 4, 21, 4, 120]
abbrev dktX1_kinds_1 : List UInt8 := dkwX1_kinds_1 ++ dktX1_kinds_2
def dkwX1_kinds_0 : List UInt8 := [42, 27, 182, 0, 118, 154, 0, 5, 2, 172, 42, 180, 0, 25, 27, 46, 61, 3, 62, 3, 54, 4, 21, 4]
abbrev dktX1_kinds_0 : List UInt8 := dkwX1_kinds_0 ++ dktX1_kinds_1
theorem dksX1_kinds_0 : cX1_kinds.data.toList.drop 0 = dktX1_kinds_0 := by decide +kernel
theorem dksX1_kinds_1 : cX1_kinds.data.toList.drop 24 = dktX1_kinds_1 := dk_seg dksX1_kinds_0 24 rfl rfl
theorem dksX1_kinds_2 : cX1_kinds.data.toList.drop 48 = dktX1_kinds_2 := dk_seg dksX1_kinds_1 24 rfl rfl
theorem dX1_kinds_0 : decode cX1_kinds 0 = .ok (.aload_n 0, 1) := dk_42 (dk_at dksX1_kinds_0 0 rfl rfl)
theorem dX1_kinds_1 : decode cX1_kinds 1 = .ok (.iload_n 1, 1) := dk_27 (dk_at dksX1_kinds_0 1 rfl rfl)
theorem dX1_kinds_2 : decode cX1_kinds 2 = .ok (.invokevirtual 118, 3) := dk_182 0 118 (dk_at dksX1_kinds_0 2 rfl rfl)
theorem dX1_kinds_5 : decode cX1_kinds 5 = .ok (.ifCond .ne 5, 3) := dk_154 0 5 (dk_at dksX1_kinds_0 5 rfl rfl)
theorem dX1_kinds_8 : decode cX1_kinds 8 = .ok (.iconst (-1), 1) := dk_2 (dk_at dksX1_kinds_0 8 rfl rfl)
theorem dX1_kinds_9 : decode cX1_kinds 9 = .ok (.ireturn, 1) := dk_172 (dk_at dksX1_kinds_0 9 rfl rfl)
theorem dX1_kinds_10 : decode cX1_kinds 10 = .ok (.aload_n 0, 1) := dk_42 (dk_at dksX1_kinds_0 10 rfl rfl)
theorem dX1_kinds_11 : decode cX1_kinds 11 = .ok (.getfield 25, 3) := dk_180 0 25 (dk_at dksX1_kinds_0 11 rfl rfl)
theorem dX1_kinds_14 : decode cX1_kinds 14 = .ok (.iload_n 1, 1) := dk_27 (dk_at dksX1_kinds_0 14 rfl rfl)
theorem dX1_kinds_15 : decode cX1_kinds 15 = .ok (.iaload, 1) := dk_46 (dk_at dksX1_kinds_0 15 rfl rfl)
theorem dX1_kinds_16 : decode cX1_kinds 16 = .ok (.istore_n 2, 1) := dk_61 (dk_at dksX1_kinds_0 16 rfl rfl)
theorem dX1_kinds_17 : decode cX1_kinds 17 = .ok (.iconst 0, 1) := dk_3 (dk_at dksX1_kinds_0 17 rfl rfl)
theorem dX1_kinds_18 : decode cX1_kinds 18 = .ok (.istore_n 3, 1) := dk_62 (dk_at dksX1_kinds_0 18 rfl rfl)
theorem dX1_kinds_19 : decode cX1_kinds 19 = .ok (.iconst 0, 1) := dk_3 (dk_at dksX1_kinds_0 19 rfl rfl)
theorem dX1_kinds_20 : decode cX1_kinds 20 = .ok (.istore 4, 2) := dk_54 4 (dk_at dksX1_kinds_0 20 rfl rfl)
theorem dX1_kinds_22 : decode cX1_kinds 22 = .ok (.iload 4, 2) := dk_21 4 (dk_at dksX1_kinds_0 22 rfl rfl)
theorem dX1_kinds_24 : decode cX1_kinds 24 = .ok (.iconst 3, 1) := dk_6 (dk_at dksX1_kinds_1 0 rfl rfl)
theorem dX1_kinds_25 : decode cX1_kinds 25 = .ok (.if_icmp .ge 35, 3) := dk_162 0 35 (dk_at dksX1_kinds_1 1 rfl rfl)
theorem dX1_kinds_28 : decode cX1_kinds 28 = .ok (.aload_n 0, 1) := dk_42 (dk_at dksX1_kinds_1 4 rfl rfl)
theorem dX1_kinds_29 : decode cX1_kinds 29 = .ok (.getfield 25, 3) := dk_180 0 25 (dk_at dksX1_kinds_1 5 rfl rfl)
theorem dX1_kinds_32 : decode cX1_kinds 32 = .ok (.iload_n 1, 1) := dk_27 (dk_at dksX1_kinds_1 8 rfl rfl)
theorem dX1_kinds_33 : decode cX1_kinds 33 = .ok (.iload 4, 2) := dk_21 4 (dk_at dksX1_kinds_1 9 rfl rfl)
theorem dX1_kinds_35 : decode cX1_kinds 35 = .ok (.iastore, 1) := dk_79 (dk_at dksX1_kinds_1 11 rfl rfl)
theorem dX1_kinds_36 : decode cX1_kinds 36 = .ok (.iload_n 3, 1) := dk_29 (dk_at dksX1_kinds_1 12 rfl rfl)
theorem dX1_kinds_37 : decode cX1_kinds 37 = .ok (.aload_n 0, 1) := dk_42 (dk_at dksX1_kinds_1 13 rfl rfl)
theorem dX1_kinds_38 : decode cX1_kinds 38 = .ok (.invokevirtual 188, 3) := dk_182 0 188 (dk_at dksX1_kinds_1 14 rfl rfl)
theorem dX1_kinds_41 : decode cX1_kinds 41 = .ok (.ifCond .eq 10, 3) := dk_153 0 10 (dk_at dksX1_kinds_1 17 rfl rfl)
theorem dX1_kinds_44 : decode cX1_kinds 44 = .ok (.iconst 1, 1) := dk_4 (dk_at dksX1_kinds_1 20 rfl rfl)
theorem dX1_kinds_45 : decode cX1_kinds 45 = .ok (.iload 4, 2) := dk_21 4 (dk_at dksX1_kinds_1 21 rfl rfl)
theorem dX1_kinds_47 : decode cX1_kinds 47 = .ok (.ishl, 1) := dk_120 (dk_at dksX1_kinds_1 23 rfl rfl)
theorem dX1_kinds_48 : decode cX1_kinds 48 = .ok (.goto 4, 3) := dk_167 0 4 (dk_at dksX1_kinds_2 0 rfl rfl)
theorem dX1_kinds_51 : decode cX1_kinds 51 = .ok (.iconst 0, 1) := dk_3 (dk_at dksX1_kinds_2 3 rfl rfl)
theorem dX1_kinds_52 : decode cX1_kinds 52 = .ok (.ior, 1) := dk_128 (dk_at dksX1_kinds_2 4 rfl rfl)
theorem dX1_kinds_53 : decode cX1_kinds 53 = .ok (.istore_n 3, 1) := dk_62 (dk_at dksX1_kinds_2 5 rfl rfl)
theorem dX1_kinds_54 : decode cX1_kinds 54 = .ok (.iinc 4 1, 3) := dk_132 4 1 (dk_at dksX1_kinds_2 6 rfl rfl)
theorem dX1_kinds_57 : decode cX1_kinds 57 = .ok (.goto (-35), 3) := dk_167 255 221 (dk_at dksX1_kinds_2 9 rfl rfl)
theorem dX1_kinds_60 : decode cX1_kinds 60 = .ok (.aload_n 0, 1) := dk_42 (dk_at dksX1_kinds_2 12 rfl rfl)
theorem dX1_kinds_61 : decode cX1_kinds 61 = .ok (.getfield 25, 3) := dk_180 0 25 (dk_at dksX1_kinds_2 13 rfl rfl)
theorem dX1_kinds_64 : decode cX1_kinds 64 = .ok (.iload_n 1, 1) := dk_27 (dk_at dksX1_kinds_2 16 rfl rfl)
theorem dX1_kinds_65 : decode cX1_kinds 65 = .ok (.iload_n 2, 1) := dk_28 (dk_at dksX1_kinds_2 17 rfl rfl)
theorem dX1_kinds_66 : decode cX1_kinds 66 = .ok (.iastore, 1) := dk_79 (dk_at dksX1_kinds_2 18 rfl rfl)
theorem dX1_kinds_67 : decode cX1_kinds 67 = .ok (.iload_n 3, 1) := dk_29 (dk_at dksX1_kinds_2 19 rfl rfl)
theorem dX1_kinds_68 : decode cX1_kinds 68 = .ok (.ireturn, 1) := dk_172 (dk_at dksX1_kinds_2 20 rfl rfl)
abbrev cX1_gave : ByteArray := prog_15_method_49_code
def yX1_gave : MethodName := ⟨RX1, "gave", "(II)I"⟩
def dkwX1_gave_4 : List UInt8 := [167, 255, 213, 42, 180, 0, 22, 27, 29, 79, 28, 154, 0, 8, 21, 4, 167, 0, 5, 21, 5, 172]
abbrev dktX1_gave_4 : List UInt8 := dkwX1_gave_4 ++ []
def dkwX1_gave_3 : List UInt8 := [153, 0, 20, 21, 4, 154, 0, 8, 21, 6, 167, 0, 5, 21, 5, 54, 5, 132, 4, 1, 132, 6, 1]
abbrev dktX1_gave_3 : List UInt8 := dkwX1_gave_3 ++ dktX1_gave_4
def dkwX1_gave_2 : List UInt8 := [54, 6, 21, 6, 17, 0, 255, 163, 0, 41, 42, 180, 0, 22, 27, 21, 6, 79, 42, 182, 0, 188]
abbrev dktX1_gave_2 : List UInt8 := dkwX1_gave_2 ++ dktX1_gave_3
def dkwX1_gave_1 : List UInt8 := [180, 0, 71, 154, 0, 6, 16, 253, 172, 42, 180, 0, 22, 27, 46, 62, 3, 54, 4, 16, 247, 54, 5, 3]
abbrev dktX1_gave_1 : List UInt8 := dkwX1_gave_1 ++ dktX1_gave_2
def dkwX1_gave_0 : List UInt8 := [27, 184, 0, 127, 154, 0, 5, 2, 172, 28, 3, 4, 184, 0, 67, 154, 0, 6, 16, 254, 172, 42]
abbrev dktX1_gave_0 : List UInt8 := dkwX1_gave_0 ++ dktX1_gave_1
theorem dksX1_gave_0 : cX1_gave.data.toList.drop 0 = dktX1_gave_0 := by decide +kernel
theorem dksX1_gave_1 : cX1_gave.data.toList.drop 22 = dktX1_gave_1 := dk_seg dksX1_gave_0 22 rfl rfl
theorem dksX1_gave_2 : cX1_gave.data.toList.drop 46 = dktX1_gave_2 := dk_seg dksX1_gave_1 24 rfl rfl
theorem dksX1_gave_3 : cX1_gave.data.toList.drop 68 = dktX1_gave_3 := dk_seg dksX1_gave_2 22 rfl rfl
theorem dksX1_gave_4 : cX1_gave.data.toList.drop 91 = dktX1_gave_4 := dk_seg dksX1_gave_3 23 rfl rfl
theorem dX1_gave_0 : decode cX1_gave 0 = .ok (.iload_n 1, 1) := dk_27 (dk_at dksX1_gave_0 0 rfl rfl)
theorem dX1_gave_1 : decode cX1_gave 1 = .ok (.invokestatic 127, 3) := dk_184 0 127 (dk_at dksX1_gave_0 1 rfl rfl)
theorem dX1_gave_4 : decode cX1_gave 4 = .ok (.ifCond .ne 5, 3) := dk_154 0 5 (dk_at dksX1_gave_0 4 rfl rfl)
theorem dX1_gave_7 : decode cX1_gave 7 = .ok (.iconst (-1), 1) := dk_2 (dk_at dksX1_gave_0 7 rfl rfl)
theorem dX1_gave_8 : decode cX1_gave 8 = .ok (.ireturn, 1) := dk_172 (dk_at dksX1_gave_0 8 rfl rfl)
theorem dX1_gave_9 : decode cX1_gave 9 = .ok (.iload_n 2, 1) := dk_28 (dk_at dksX1_gave_0 9 rfl rfl)
theorem dX1_gave_10 : decode cX1_gave 10 = .ok (.iconst 0, 1) := dk_3 (dk_at dksX1_gave_0 10 rfl rfl)
theorem dX1_gave_11 : decode cX1_gave 11 = .ok (.iconst 1, 1) := dk_4 (dk_at dksX1_gave_0 11 rfl rfl)
theorem dX1_gave_12 : decode cX1_gave 12 = .ok (.invokestatic 67, 3) := dk_184 0 67 (dk_at dksX1_gave_0 12 rfl rfl)
theorem dX1_gave_15 : decode cX1_gave 15 = .ok (.ifCond .ne 6, 3) := dk_154 0 6 (dk_at dksX1_gave_0 15 rfl rfl)
theorem dX1_gave_18 : decode cX1_gave 18 = .ok (.bipush (-2), 2) := dk_16 254 (dk_at dksX1_gave_0 18 rfl rfl)
theorem dX1_gave_20 : decode cX1_gave 20 = .ok (.ireturn, 1) := dk_172 (dk_at dksX1_gave_0 20 rfl rfl)
theorem dX1_gave_21 : decode cX1_gave 21 = .ok (.aload_n 0, 1) := dk_42 (dk_at dksX1_gave_0 21 rfl rfl)
theorem dX1_gave_22 : decode cX1_gave 22 = .ok (.getfield 71, 3) := dk_180 0 71 (dk_at dksX1_gave_1 0 rfl rfl)
theorem dX1_gave_25 : decode cX1_gave 25 = .ok (.ifCond .ne 6, 3) := dk_154 0 6 (dk_at dksX1_gave_1 3 rfl rfl)
theorem dX1_gave_28 : decode cX1_gave 28 = .ok (.bipush (-3), 2) := dk_16 253 (dk_at dksX1_gave_1 6 rfl rfl)
theorem dX1_gave_30 : decode cX1_gave 30 = .ok (.ireturn, 1) := dk_172 (dk_at dksX1_gave_1 8 rfl rfl)
theorem dX1_gave_31 : decode cX1_gave 31 = .ok (.aload_n 0, 1) := dk_42 (dk_at dksX1_gave_1 9 rfl rfl)
theorem dX1_gave_32 : decode cX1_gave 32 = .ok (.getfield 22, 3) := dk_180 0 22 (dk_at dksX1_gave_1 10 rfl rfl)
theorem dX1_gave_35 : decode cX1_gave 35 = .ok (.iload_n 1, 1) := dk_27 (dk_at dksX1_gave_1 13 rfl rfl)
theorem dX1_gave_36 : decode cX1_gave 36 = .ok (.iaload, 1) := dk_46 (dk_at dksX1_gave_1 14 rfl rfl)
theorem dX1_gave_37 : decode cX1_gave 37 = .ok (.istore_n 3, 1) := dk_62 (dk_at dksX1_gave_1 15 rfl rfl)
theorem dX1_gave_38 : decode cX1_gave 38 = .ok (.iconst 0, 1) := dk_3 (dk_at dksX1_gave_1 16 rfl rfl)
theorem dX1_gave_39 : decode cX1_gave 39 = .ok (.istore 4, 2) := dk_54 4 (dk_at dksX1_gave_1 17 rfl rfl)
theorem dX1_gave_41 : decode cX1_gave 41 = .ok (.bipush (-9), 2) := dk_16 247 (dk_at dksX1_gave_1 19 rfl rfl)
theorem dX1_gave_43 : decode cX1_gave 43 = .ok (.istore 5, 2) := dk_54 5 (dk_at dksX1_gave_1 21 rfl rfl)
theorem dX1_gave_45 : decode cX1_gave 45 = .ok (.iconst 0, 1) := dk_3 (dk_at dksX1_gave_1 23 rfl rfl)
theorem dX1_gave_46 : decode cX1_gave 46 = .ok (.istore 6, 2) := dk_54 6 (dk_at dksX1_gave_2 0 rfl rfl)
theorem dX1_gave_48 : decode cX1_gave 48 = .ok (.iload 6, 2) := dk_21 6 (dk_at dksX1_gave_2 2 rfl rfl)
theorem dX1_gave_50 : decode cX1_gave 50 = .ok (.sipush 255, 3) := dk_17 0 255 (dk_at dksX1_gave_2 4 rfl rfl)
theorem dX1_gave_53 : decode cX1_gave 53 = .ok (.if_icmp .gt 41, 3) := dk_163 0 41 (dk_at dksX1_gave_2 7 rfl rfl)
theorem dX1_gave_56 : decode cX1_gave 56 = .ok (.aload_n 0, 1) := dk_42 (dk_at dksX1_gave_2 10 rfl rfl)
theorem dX1_gave_57 : decode cX1_gave 57 = .ok (.getfield 22, 3) := dk_180 0 22 (dk_at dksX1_gave_2 11 rfl rfl)
theorem dX1_gave_60 : decode cX1_gave 60 = .ok (.iload_n 1, 1) := dk_27 (dk_at dksX1_gave_2 14 rfl rfl)
theorem dX1_gave_61 : decode cX1_gave 61 = .ok (.iload 6, 2) := dk_21 6 (dk_at dksX1_gave_2 15 rfl rfl)
theorem dX1_gave_63 : decode cX1_gave 63 = .ok (.iastore, 1) := dk_79 (dk_at dksX1_gave_2 17 rfl rfl)
theorem dX1_gave_64 : decode cX1_gave 64 = .ok (.aload_n 0, 1) := dk_42 (dk_at dksX1_gave_2 18 rfl rfl)
theorem dX1_gave_65 : decode cX1_gave 65 = .ok (.invokevirtual 188, 3) := dk_182 0 188 (dk_at dksX1_gave_2 19 rfl rfl)
theorem dX1_gave_68 : decode cX1_gave 68 = .ok (.ifCond .eq 20, 3) := dk_153 0 20 (dk_at dksX1_gave_3 0 rfl rfl)
theorem dX1_gave_71 : decode cX1_gave 71 = .ok (.iload 4, 2) := dk_21 4 (dk_at dksX1_gave_3 3 rfl rfl)
theorem dX1_gave_73 : decode cX1_gave 73 = .ok (.ifCond .ne 8, 3) := dk_154 0 8 (dk_at dksX1_gave_3 5 rfl rfl)
theorem dX1_gave_76 : decode cX1_gave 76 = .ok (.iload 6, 2) := dk_21 6 (dk_at dksX1_gave_3 8 rfl rfl)
theorem dX1_gave_78 : decode cX1_gave 78 = .ok (.goto 5, 3) := dk_167 0 5 (dk_at dksX1_gave_3 10 rfl rfl)
theorem dX1_gave_81 : decode cX1_gave 81 = .ok (.iload 5, 2) := dk_21 5 (dk_at dksX1_gave_3 13 rfl rfl)
theorem dX1_gave_83 : decode cX1_gave 83 = .ok (.istore 5, 2) := dk_54 5 (dk_at dksX1_gave_3 15 rfl rfl)
theorem dX1_gave_85 : decode cX1_gave 85 = .ok (.iinc 4 1, 3) := dk_132 4 1 (dk_at dksX1_gave_3 17 rfl rfl)
theorem dX1_gave_88 : decode cX1_gave 88 = .ok (.iinc 6 1, 3) := dk_132 6 1 (dk_at dksX1_gave_3 20 rfl rfl)
theorem dX1_gave_91 : decode cX1_gave 91 = .ok (.goto (-43), 3) := dk_167 255 213 (dk_at dksX1_gave_4 0 rfl rfl)
theorem dX1_gave_94 : decode cX1_gave 94 = .ok (.aload_n 0, 1) := dk_42 (dk_at dksX1_gave_4 3 rfl rfl)
theorem dX1_gave_95 : decode cX1_gave 95 = .ok (.getfield 22, 3) := dk_180 0 22 (dk_at dksX1_gave_4 4 rfl rfl)
theorem dX1_gave_98 : decode cX1_gave 98 = .ok (.iload_n 1, 1) := dk_27 (dk_at dksX1_gave_4 7 rfl rfl)
theorem dX1_gave_99 : decode cX1_gave 99 = .ok (.iload_n 3, 1) := dk_29 (dk_at dksX1_gave_4 8 rfl rfl)
theorem dX1_gave_100 : decode cX1_gave 100 = .ok (.iastore, 1) := dk_79 (dk_at dksX1_gave_4 9 rfl rfl)
theorem dX1_gave_101 : decode cX1_gave 101 = .ok (.iload_n 2, 1) := dk_28 (dk_at dksX1_gave_4 10 rfl rfl)
theorem dX1_gave_102 : decode cX1_gave 102 = .ok (.ifCond .ne 8, 3) := dk_154 0 8 (dk_at dksX1_gave_4 11 rfl rfl)
theorem dX1_gave_105 : decode cX1_gave 105 = .ok (.iload 4, 2) := dk_21 4 (dk_at dksX1_gave_4 14 rfl rfl)
theorem dX1_gave_107 : decode cX1_gave 107 = .ok (.goto 5, 3) := dk_167 0 5 (dk_at dksX1_gave_4 16 rfl rfl)
theorem dX1_gave_110 : decode cX1_gave 110 = .ok (.iload 5, 2) := dk_21 5 (dk_at dksX1_gave_4 19 rfl rfl)
theorem dX1_gave_112 : decode cX1_gave 112 = .ok (.ireturn, 1) := dk_172 (dk_at dksX1_gave_4 21 rfl rfl)
abbrev cX1_odds : ByteArray := prog_15_method_51_code
def yX1_odds : MethodName := ⟨RX1, "odds", "(IIII)J"⟩
def dkwX1_odds_5 : List UInt8 := [180, 0, 22, 27, 21, 5, 79, 21, 6, 133, 21, 7, 133, 21, 4, 184, 0, 192, 173]
abbrev dktX1_odds_5 : List UInt8 := dkwX1_odds_5 ++ []
def dkwX1_odds_4 : List UInt8 := [182, 0, 182, 153, 0, 7, 4, 167, 0, 4, 3, 96, 54, 6, 132, 7, 1, 132, 8, 1, 167, 255, 205, 42]
abbrev dktX1_odds_4 : List UInt8 := dkwX1_odds_4 ++ dktX1_odds_5
def dkwX1_odds_3 : List UInt8 := [21, 8, 21, 5, 2, 130, 126, 154, 0, 33, 42, 180, 0, 22, 27, 21, 8, 79, 21, 6, 42, 28, 29]
abbrev dktX1_odds_3 : List UInt8 := dkwX1_odds_3 ++ dktX1_odds_4
def dkwX1_odds_2 : List UInt8 := [180, 0, 22, 27, 46, 54, 5, 3, 54, 6, 3, 54, 7, 3, 54, 8, 21, 8, 17, 0, 255, 163, 0, 49]
abbrev dktX1_odds_2 : List UInt8 := dkwX1_odds_2 ++ dktX1_odds_3
def dkwX1_odds_1 : List UInt8 := [21, 4, 3, 4, 184, 0, 67, 153, 0, 10, 42, 180, 0, 71, 154, 0, 7, 20, 0, 65, 173, 42]
abbrev dktX1_odds_1 : List UInt8 := dkwX1_odds_1 ++ dktX1_odds_2
def dkwX1_odds_0 : List UInt8 := [27, 4, 5, 184, 0, 67, 153, 0, 34, 28, 184, 0, 124, 153, 0, 27, 29, 184, 0, 124, 153, 0, 20]
abbrev dktX1_odds_0 : List UInt8 := dkwX1_odds_0 ++ dktX1_odds_1
theorem dksX1_odds_0 : cX1_odds.data.toList.drop 0 = dktX1_odds_0 := by decide +kernel
theorem dksX1_odds_1 : cX1_odds.data.toList.drop 23 = dktX1_odds_1 := dk_seg dksX1_odds_0 23 rfl rfl
theorem dksX1_odds_2 : cX1_odds.data.toList.drop 45 = dktX1_odds_2 := dk_seg dksX1_odds_1 22 rfl rfl
theorem dksX1_odds_3 : cX1_odds.data.toList.drop 69 = dktX1_odds_3 := dk_seg dksX1_odds_2 24 rfl rfl
theorem dksX1_odds_4 : cX1_odds.data.toList.drop 92 = dktX1_odds_4 := dk_seg dksX1_odds_3 23 rfl rfl
theorem dksX1_odds_5 : cX1_odds.data.toList.drop 116 = dktX1_odds_5 := dk_seg dksX1_odds_4 24 rfl rfl
theorem dX1_odds_0 : decode cX1_odds 0 = .ok (.iload_n 1, 1) := dk_27 (dk_at dksX1_odds_0 0 rfl rfl)
theorem dX1_odds_1 : decode cX1_odds 1 = .ok (.iconst 1, 1) := dk_4 (dk_at dksX1_odds_0 1 rfl rfl)
theorem dX1_odds_2 : decode cX1_odds 2 = .ok (.iconst 2, 1) := dk_5 (dk_at dksX1_odds_0 2 rfl rfl)
theorem dX1_odds_3 : decode cX1_odds 3 = .ok (.invokestatic 67, 3) := dk_184 0 67 (dk_at dksX1_odds_0 3 rfl rfl)
theorem dX1_odds_6 : decode cX1_odds 6 = .ok (.ifCond .eq 34, 3) := dk_153 0 34 (dk_at dksX1_odds_0 6 rfl rfl)
theorem dX1_odds_9 : decode cX1_odds 9 = .ok (.iload_n 2, 1) := dk_28 (dk_at dksX1_odds_0 9 rfl rfl)
theorem dX1_odds_10 : decode cX1_odds 10 = .ok (.invokestatic 124, 3) := dk_184 0 124 (dk_at dksX1_odds_0 10 rfl rfl)
theorem dX1_odds_13 : decode cX1_odds 13 = .ok (.ifCond .eq 27, 3) := dk_153 0 27 (dk_at dksX1_odds_0 13 rfl rfl)
theorem dX1_odds_16 : decode cX1_odds 16 = .ok (.iload_n 3, 1) := dk_29 (dk_at dksX1_odds_0 16 rfl rfl)
theorem dX1_odds_17 : decode cX1_odds 17 = .ok (.invokestatic 124, 3) := dk_184 0 124 (dk_at dksX1_odds_0 17 rfl rfl)
theorem dX1_odds_20 : decode cX1_odds 20 = .ok (.ifCond .eq 20, 3) := dk_153 0 20 (dk_at dksX1_odds_0 20 rfl rfl)
theorem dX1_odds_23 : decode cX1_odds 23 = .ok (.iload 4, 2) := dk_21 4 (dk_at dksX1_odds_1 0 rfl rfl)
theorem dX1_odds_25 : decode cX1_odds 25 = .ok (.iconst 0, 1) := dk_3 (dk_at dksX1_odds_1 2 rfl rfl)
theorem dX1_odds_26 : decode cX1_odds 26 = .ok (.iconst 1, 1) := dk_4 (dk_at dksX1_odds_1 3 rfl rfl)
theorem dX1_odds_27 : decode cX1_odds 27 = .ok (.invokestatic 67, 3) := dk_184 0 67 (dk_at dksX1_odds_1 4 rfl rfl)
theorem dX1_odds_30 : decode cX1_odds 30 = .ok (.ifCond .eq 10, 3) := dk_153 0 10 (dk_at dksX1_odds_1 7 rfl rfl)
theorem dX1_odds_33 : decode cX1_odds 33 = .ok (.aload_n 0, 1) := dk_42 (dk_at dksX1_odds_1 10 rfl rfl)
theorem dX1_odds_34 : decode cX1_odds 34 = .ok (.getfield 71, 3) := dk_180 0 71 (dk_at dksX1_odds_1 11 rfl rfl)
theorem dX1_odds_37 : decode cX1_odds 37 = .ok (.ifCond .ne 7, 3) := dk_154 0 7 (dk_at dksX1_odds_1 14 rfl rfl)
theorem dX1_odds_40 : decode cX1_odds 40 = .ok (.ldc2_w 65, 3) := dk_20 0 65 (dk_at dksX1_odds_1 17 rfl rfl)
theorem dX1_odds_43 : decode cX1_odds 43 = .ok (.lreturn, 1) := dk_173 (dk_at dksX1_odds_1 20 rfl rfl)
theorem dX1_odds_44 : decode cX1_odds 44 = .ok (.aload_n 0, 1) := dk_42 (dk_at dksX1_odds_1 21 rfl rfl)
theorem dX1_odds_45 : decode cX1_odds 45 = .ok (.getfield 22, 3) := dk_180 0 22 (dk_at dksX1_odds_2 0 rfl rfl)
theorem dX1_odds_48 : decode cX1_odds 48 = .ok (.iload_n 1, 1) := dk_27 (dk_at dksX1_odds_2 3 rfl rfl)
theorem dX1_odds_49 : decode cX1_odds 49 = .ok (.iaload, 1) := dk_46 (dk_at dksX1_odds_2 4 rfl rfl)
theorem dX1_odds_50 : decode cX1_odds 50 = .ok (.istore 5, 2) := dk_54 5 (dk_at dksX1_odds_2 5 rfl rfl)
theorem dX1_odds_52 : decode cX1_odds 52 = .ok (.iconst 0, 1) := dk_3 (dk_at dksX1_odds_2 7 rfl rfl)
theorem dX1_odds_53 : decode cX1_odds 53 = .ok (.istore 6, 2) := dk_54 6 (dk_at dksX1_odds_2 8 rfl rfl)
theorem dX1_odds_55 : decode cX1_odds 55 = .ok (.iconst 0, 1) := dk_3 (dk_at dksX1_odds_2 10 rfl rfl)
theorem dX1_odds_56 : decode cX1_odds 56 = .ok (.istore 7, 2) := dk_54 7 (dk_at dksX1_odds_2 11 rfl rfl)
theorem dX1_odds_58 : decode cX1_odds 58 = .ok (.iconst 0, 1) := dk_3 (dk_at dksX1_odds_2 13 rfl rfl)
theorem dX1_odds_59 : decode cX1_odds 59 = .ok (.istore 8, 2) := dk_54 8 (dk_at dksX1_odds_2 14 rfl rfl)
theorem dX1_odds_61 : decode cX1_odds 61 = .ok (.iload 8, 2) := dk_21 8 (dk_at dksX1_odds_2 16 rfl rfl)
theorem dX1_odds_63 : decode cX1_odds 63 = .ok (.sipush 255, 3) := dk_17 0 255 (dk_at dksX1_odds_2 18 rfl rfl)
theorem dX1_odds_66 : decode cX1_odds 66 = .ok (.if_icmp .gt 49, 3) := dk_163 0 49 (dk_at dksX1_odds_2 21 rfl rfl)
theorem dX1_odds_69 : decode cX1_odds 69 = .ok (.iload 8, 2) := dk_21 8 (dk_at dksX1_odds_3 0 rfl rfl)
theorem dX1_odds_71 : decode cX1_odds 71 = .ok (.iload 5, 2) := dk_21 5 (dk_at dksX1_odds_3 2 rfl rfl)
theorem dX1_odds_73 : decode cX1_odds 73 = .ok (.iconst (-1), 1) := dk_2 (dk_at dksX1_odds_3 4 rfl rfl)
theorem dX1_odds_74 : decode cX1_odds 74 = .ok (.ixor, 1) := dk_130 (dk_at dksX1_odds_3 5 rfl rfl)
theorem dX1_odds_75 : decode cX1_odds 75 = .ok (.iand, 1) := dk_126 (dk_at dksX1_odds_3 6 rfl rfl)
theorem dX1_odds_76 : decode cX1_odds 76 = .ok (.ifCond .ne 33, 3) := dk_154 0 33 (dk_at dksX1_odds_3 7 rfl rfl)
theorem dX1_odds_79 : decode cX1_odds 79 = .ok (.aload_n 0, 1) := dk_42 (dk_at dksX1_odds_3 10 rfl rfl)
theorem dX1_odds_80 : decode cX1_odds 80 = .ok (.getfield 22, 3) := dk_180 0 22 (dk_at dksX1_odds_3 11 rfl rfl)
theorem dX1_odds_83 : decode cX1_odds 83 = .ok (.iload_n 1, 1) := dk_27 (dk_at dksX1_odds_3 14 rfl rfl)
theorem dX1_odds_84 : decode cX1_odds 84 = .ok (.iload 8, 2) := dk_21 8 (dk_at dksX1_odds_3 15 rfl rfl)
theorem dX1_odds_86 : decode cX1_odds 86 = .ok (.iastore, 1) := dk_79 (dk_at dksX1_odds_3 17 rfl rfl)
theorem dX1_odds_87 : decode cX1_odds 87 = .ok (.iload 6, 2) := dk_21 6 (dk_at dksX1_odds_3 18 rfl rfl)
theorem dX1_odds_89 : decode cX1_odds 89 = .ok (.aload_n 0, 1) := dk_42 (dk_at dksX1_odds_3 20 rfl rfl)
theorem dX1_odds_90 : decode cX1_odds 90 = .ok (.iload_n 2, 1) := dk_28 (dk_at dksX1_odds_3 21 rfl rfl)
theorem dX1_odds_91 : decode cX1_odds 91 = .ok (.iload_n 3, 1) := dk_29 (dk_at dksX1_odds_3 22 rfl rfl)
theorem dX1_odds_92 : decode cX1_odds 92 = .ok (.invokevirtual 182, 3) := dk_182 0 182 (dk_at dksX1_odds_4 0 rfl rfl)
theorem dX1_odds_95 : decode cX1_odds 95 = .ok (.ifCond .eq 7, 3) := dk_153 0 7 (dk_at dksX1_odds_4 3 rfl rfl)
theorem dX1_odds_98 : decode cX1_odds 98 = .ok (.iconst 1, 1) := dk_4 (dk_at dksX1_odds_4 6 rfl rfl)
theorem dX1_odds_99 : decode cX1_odds 99 = .ok (.goto 4, 3) := dk_167 0 4 (dk_at dksX1_odds_4 7 rfl rfl)
theorem dX1_odds_102 : decode cX1_odds 102 = .ok (.iconst 0, 1) := dk_3 (dk_at dksX1_odds_4 10 rfl rfl)
theorem dX1_odds_103 : decode cX1_odds 103 = .ok (.iadd, 1) := dk_96 (dk_at dksX1_odds_4 11 rfl rfl)
theorem dX1_odds_104 : decode cX1_odds 104 = .ok (.istore 6, 2) := dk_54 6 (dk_at dksX1_odds_4 12 rfl rfl)
theorem dX1_odds_106 : decode cX1_odds 106 = .ok (.iinc 7 1, 3) := dk_132 7 1 (dk_at dksX1_odds_4 14 rfl rfl)
theorem dX1_odds_109 : decode cX1_odds 109 = .ok (.iinc 8 1, 3) := dk_132 8 1 (dk_at dksX1_odds_4 17 rfl rfl)
theorem dX1_odds_112 : decode cX1_odds 112 = .ok (.goto (-51), 3) := dk_167 255 205 (dk_at dksX1_odds_4 20 rfl rfl)
theorem dX1_odds_115 : decode cX1_odds 115 = .ok (.aload_n 0, 1) := dk_42 (dk_at dksX1_odds_4 23 rfl rfl)
theorem dX1_odds_116 : decode cX1_odds 116 = .ok (.getfield 22, 3) := dk_180 0 22 (dk_at dksX1_odds_5 0 rfl rfl)
theorem dX1_odds_119 : decode cX1_odds 119 = .ok (.iload_n 1, 1) := dk_27 (dk_at dksX1_odds_5 3 rfl rfl)
theorem dX1_odds_120 : decode cX1_odds 120 = .ok (.iload 5, 2) := dk_21 5 (dk_at dksX1_odds_5 4 rfl rfl)
theorem dX1_odds_122 : decode cX1_odds 122 = .ok (.iastore, 1) := dk_79 (dk_at dksX1_odds_5 6 rfl rfl)
theorem dX1_odds_123 : decode cX1_odds 123 = .ok (.iload 6, 2) := dk_21 6 (dk_at dksX1_odds_5 7 rfl rfl)
theorem dX1_odds_125 : decode cX1_odds 125 = .ok (.i2l, 1) := dk_133 (dk_at dksX1_odds_5 9 rfl rfl)
theorem dX1_odds_126 : decode cX1_odds 126 = .ok (.iload 7, 2) := dk_21 7 (dk_at dksX1_odds_5 10 rfl rfl)
theorem dX1_odds_128 : decode cX1_odds 128 = .ok (.i2l, 1) := dk_133 (dk_at dksX1_odds_5 12 rfl rfl)
theorem dX1_odds_129 : decode cX1_odds 129 = .ok (.iload 4, 2) := dk_21 4 (dk_at dksX1_odds_5 13 rfl rfl)
theorem dX1_odds_131 : decode cX1_odds 131 = .ok (.invokestatic 192, 3) := dk_184 0 192 (dk_at dksX1_odds_5 15 rfl rfl)
theorem dX1_odds_134 : decode cX1_odds 134 = .ok (.lreturn, 1) := dk_173 (dk_at dksX1_odds_5 18 rfl rfl)
abbrev cX1_inLeastTerms : ByteArray := prog_15_method_50_code
def yX1_inLeastTerms : MethodName := ⟨RX1, "inLeastTerms", "(JJI)J"⟩
def dkwX1_inLeastTerms_1 : List UInt8 := [22, 9, 55, 7, 167, 255, 234, 21, 4, 154, 0, 10, 30, 22, 5, 109, 167, 0, 7, 32, 22, 5, 109, 173]
abbrev dktX1_inLeastTerms_1 : List UInt8 := dkwX1_inLeastTerms_1 ++ []
def dkwX1_inLeastTerms_0 : List UInt8 := [30, 55, 5, 32, 55, 7, 22, 7, 9, 148, 153, 0, 21, 22, 5, 22, 7, 113, 55, 9, 22, 7, 55, 5]
abbrev dktX1_inLeastTerms_0 : List UInt8 := dkwX1_inLeastTerms_0 ++ dktX1_inLeastTerms_1
theorem dksX1_inLeastTerms_0 : cX1_inLeastTerms.data.toList.drop 0 = dktX1_inLeastTerms_0 := by decide +kernel
theorem dksX1_inLeastTerms_1 : cX1_inLeastTerms.data.toList.drop 24 = dktX1_inLeastTerms_1 := dk_seg dksX1_inLeastTerms_0 24 rfl rfl
theorem dX1_inLeastTerms_0 : decode cX1_inLeastTerms 0 = .ok (.lload_n 0, 1) := dk_30 (dk_at dksX1_inLeastTerms_0 0 rfl rfl)
theorem dX1_inLeastTerms_1 : decode cX1_inLeastTerms 1 = .ok (.lstore 5, 2) := dk_55 5 (dk_at dksX1_inLeastTerms_0 1 rfl rfl)
theorem dX1_inLeastTerms_3 : decode cX1_inLeastTerms 3 = .ok (.lload_n 2, 1) := dk_32 (dk_at dksX1_inLeastTerms_0 3 rfl rfl)
theorem dX1_inLeastTerms_4 : decode cX1_inLeastTerms 4 = .ok (.lstore 7, 2) := dk_55 7 (dk_at dksX1_inLeastTerms_0 4 rfl rfl)
theorem dX1_inLeastTerms_6 : decode cX1_inLeastTerms 6 = .ok (.lload 7, 2) := dk_22 7 (dk_at dksX1_inLeastTerms_0 6 rfl rfl)
theorem dX1_inLeastTerms_8 : decode cX1_inLeastTerms 8 = .ok (.lconst 0, 1) := dk_9 (dk_at dksX1_inLeastTerms_0 8 rfl rfl)
theorem dX1_inLeastTerms_9 : decode cX1_inLeastTerms 9 = .ok (.lcmp, 1) := dk_148 (dk_at dksX1_inLeastTerms_0 9 rfl rfl)
theorem dX1_inLeastTerms_10 : decode cX1_inLeastTerms 10 = .ok (.ifCond .eq 21, 3) := dk_153 0 21 (dk_at dksX1_inLeastTerms_0 10 rfl rfl)
theorem dX1_inLeastTerms_13 : decode cX1_inLeastTerms 13 = .ok (.lload 5, 2) := dk_22 5 (dk_at dksX1_inLeastTerms_0 13 rfl rfl)
theorem dX1_inLeastTerms_15 : decode cX1_inLeastTerms 15 = .ok (.lload 7, 2) := dk_22 7 (dk_at dksX1_inLeastTerms_0 15 rfl rfl)
theorem dX1_inLeastTerms_17 : decode cX1_inLeastTerms 17 = .ok (.lrem, 1) := dk_113 (dk_at dksX1_inLeastTerms_0 17 rfl rfl)
theorem dX1_inLeastTerms_18 : decode cX1_inLeastTerms 18 = .ok (.lstore 9, 2) := dk_55 9 (dk_at dksX1_inLeastTerms_0 18 rfl rfl)
theorem dX1_inLeastTerms_20 : decode cX1_inLeastTerms 20 = .ok (.lload 7, 2) := dk_22 7 (dk_at dksX1_inLeastTerms_0 20 rfl rfl)
theorem dX1_inLeastTerms_22 : decode cX1_inLeastTerms 22 = .ok (.lstore 5, 2) := dk_55 5 (dk_at dksX1_inLeastTerms_0 22 rfl rfl)
theorem dX1_inLeastTerms_24 : decode cX1_inLeastTerms 24 = .ok (.lload 9, 2) := dk_22 9 (dk_at dksX1_inLeastTerms_1 0 rfl rfl)
theorem dX1_inLeastTerms_26 : decode cX1_inLeastTerms 26 = .ok (.lstore 7, 2) := dk_55 7 (dk_at dksX1_inLeastTerms_1 2 rfl rfl)
theorem dX1_inLeastTerms_28 : decode cX1_inLeastTerms 28 = .ok (.goto (-22), 3) := dk_167 255 234 (dk_at dksX1_inLeastTerms_1 4 rfl rfl)
theorem dX1_inLeastTerms_31 : decode cX1_inLeastTerms 31 = .ok (.iload 4, 2) := dk_21 4 (dk_at dksX1_inLeastTerms_1 7 rfl rfl)
theorem dX1_inLeastTerms_33 : decode cX1_inLeastTerms 33 = .ok (.ifCond .ne 10, 3) := dk_154 0 10 (dk_at dksX1_inLeastTerms_1 9 rfl rfl)
theorem dX1_inLeastTerms_36 : decode cX1_inLeastTerms 36 = .ok (.lload_n 0, 1) := dk_30 (dk_at dksX1_inLeastTerms_1 12 rfl rfl)
theorem dX1_inLeastTerms_37 : decode cX1_inLeastTerms 37 = .ok (.lload 5, 2) := dk_22 5 (dk_at dksX1_inLeastTerms_1 13 rfl rfl)
theorem dX1_inLeastTerms_39 : decode cX1_inLeastTerms 39 = .ok (.ldiv, 1) := dk_109 (dk_at dksX1_inLeastTerms_1 15 rfl rfl)
theorem dX1_inLeastTerms_40 : decode cX1_inLeastTerms 40 = .ok (.goto 7, 3) := dk_167 0 7 (dk_at dksX1_inLeastTerms_1 16 rfl rfl)
theorem dX1_inLeastTerms_43 : decode cX1_inLeastTerms 43 = .ok (.lload_n 2, 1) := dk_32 (dk_at dksX1_inLeastTerms_1 19 rfl rfl)
theorem dX1_inLeastTerms_44 : decode cX1_inLeastTerms 44 = .ok (.lload 5, 2) := dk_22 5 (dk_at dksX1_inLeastTerms_1 20 rfl rfl)
theorem dX1_inLeastTerms_46 : decode cX1_inLeastTerms 46 = .ok (.ldiv, 1) := dk_109 (dk_at dksX1_inLeastTerms_1 22 rfl rfl)
theorem dX1_inLeastTerms_47 : decode cX1_inLeastTerms 47 = .ok (.lreturn, 1) := dk_173 (dk_at dksX1_inLeastTerms_1 23 rfl rfl)
abbrev cX1_sheet : ByteArray := prog_15_method_52_code
def yX1_sheet : MethodName := ⟨RX1, "sheet", "(III)I"⟩
def dkwX1_sheet_3 : List UInt8 := [21, 4, 96, 3, 79, 132, 4, 1, 167, 255, 233, 4, 172]
abbrev dktX1_sheet_3 : List UInt8 := dkwX1_sheet_3 ++ []
def dkwX1_sheet_2 : List UInt8 := [180, 0, 13, 27, 29, 79, 3, 54, 4, 21, 4, 16, 60, 162, 0, 22, 42, 180, 0, 16, 16, 60, 27, 104]
abbrev dktX1_sheet_2 : List UInt8 := dkwX1_sheet_2 ++ dktX1_sheet_3
def dkwX1_sheet_1 : List UInt8 := [164, 0, 6, 16, 254, 172, 29, 156, 0, 9, 42, 7, 182, 0, 92, 172, 42, 180, 0, 9, 27, 28, 79, 42]
abbrev dktX1_sheet_1 : List UInt8 := dkwX1_sheet_1 ++ dktX1_sheet_2
def dkwX1_sheet_0 : List UInt8 := [42, 3, 181, 0, 62, 27, 184, 0, 81, 154, 0, 5, 2, 172, 28, 184, 0, 85, 153, 0, 9, 29, 16, 60]
abbrev dktX1_sheet_0 : List UInt8 := dkwX1_sheet_0 ++ dktX1_sheet_1
theorem dksX1_sheet_0 : cX1_sheet.data.toList.drop 0 = dktX1_sheet_0 := by decide +kernel
theorem dksX1_sheet_1 : cX1_sheet.data.toList.drop 24 = dktX1_sheet_1 := dk_seg dksX1_sheet_0 24 rfl rfl
theorem dksX1_sheet_2 : cX1_sheet.data.toList.drop 48 = dktX1_sheet_2 := dk_seg dksX1_sheet_1 24 rfl rfl
theorem dksX1_sheet_3 : cX1_sheet.data.toList.drop 72 = dktX1_sheet_3 := dk_seg dksX1_sheet_2 24 rfl rfl
theorem dX1_sheet_0 : decode cX1_sheet 0 = .ok (.aload_n 0, 1) := dk_42 (dk_at dksX1_sheet_0 0 rfl rfl)
theorem dX1_sheet_1 : decode cX1_sheet 1 = .ok (.iconst 0, 1) := dk_3 (dk_at dksX1_sheet_0 1 rfl rfl)
theorem dX1_sheet_2 : decode cX1_sheet 2 = .ok (.putfield 62, 3) := dk_181 0 62 (dk_at dksX1_sheet_0 2 rfl rfl)
theorem dX1_sheet_5 : decode cX1_sheet 5 = .ok (.iload_n 1, 1) := dk_27 (dk_at dksX1_sheet_0 5 rfl rfl)
theorem dX1_sheet_6 : decode cX1_sheet 6 = .ok (.invokestatic 81, 3) := dk_184 0 81 (dk_at dksX1_sheet_0 6 rfl rfl)
theorem dX1_sheet_9 : decode cX1_sheet 9 = .ok (.ifCond .ne 5, 3) := dk_154 0 5 (dk_at dksX1_sheet_0 9 rfl rfl)
theorem dX1_sheet_12 : decode cX1_sheet 12 = .ok (.iconst (-1), 1) := dk_2 (dk_at dksX1_sheet_0 12 rfl rfl)
theorem dX1_sheet_13 : decode cX1_sheet 13 = .ok (.ireturn, 1) := dk_172 (dk_at dksX1_sheet_0 13 rfl rfl)
theorem dX1_sheet_14 : decode cX1_sheet 14 = .ok (.iload_n 2, 1) := dk_28 (dk_at dksX1_sheet_0 14 rfl rfl)
theorem dX1_sheet_15 : decode cX1_sheet 15 = .ok (.invokestatic 85, 3) := dk_184 0 85 (dk_at dksX1_sheet_0 15 rfl rfl)
theorem dX1_sheet_18 : decode cX1_sheet 18 = .ok (.ifCond .eq 9, 3) := dk_153 0 9 (dk_at dksX1_sheet_0 18 rfl rfl)
theorem dX1_sheet_21 : decode cX1_sheet 21 = .ok (.iload_n 3, 1) := dk_29 (dk_at dksX1_sheet_0 21 rfl rfl)
theorem dX1_sheet_22 : decode cX1_sheet 22 = .ok (.bipush 60, 2) := dk_16 60 (dk_at dksX1_sheet_0 22 rfl rfl)
theorem dX1_sheet_24 : decode cX1_sheet 24 = .ok (.if_icmp .le 6, 3) := dk_164 0 6 (dk_at dksX1_sheet_1 0 rfl rfl)
theorem dX1_sheet_27 : decode cX1_sheet 27 = .ok (.bipush (-2), 2) := dk_16 254 (dk_at dksX1_sheet_1 3 rfl rfl)
theorem dX1_sheet_29 : decode cX1_sheet 29 = .ok (.ireturn, 1) := dk_172 (dk_at dksX1_sheet_1 5 rfl rfl)
theorem dX1_sheet_30 : decode cX1_sheet 30 = .ok (.iload_n 3, 1) := dk_29 (dk_at dksX1_sheet_1 6 rfl rfl)
theorem dX1_sheet_31 : decode cX1_sheet 31 = .ok (.ifCond .ge 9, 3) := dk_156 0 9 (dk_at dksX1_sheet_1 7 rfl rfl)
theorem dX1_sheet_34 : decode cX1_sheet 34 = .ok (.aload_n 0, 1) := dk_42 (dk_at dksX1_sheet_1 10 rfl rfl)
theorem dX1_sheet_35 : decode cX1_sheet 35 = .ok (.iconst 4, 1) := dk_7 (dk_at dksX1_sheet_1 11 rfl rfl)
theorem dX1_sheet_36 : decode cX1_sheet 36 = .ok (.invokevirtual 92, 3) := dk_182 0 92 (dk_at dksX1_sheet_1 12 rfl rfl)
theorem dX1_sheet_39 : decode cX1_sheet 39 = .ok (.ireturn, 1) := dk_172 (dk_at dksX1_sheet_1 15 rfl rfl)
theorem dX1_sheet_40 : decode cX1_sheet 40 = .ok (.aload_n 0, 1) := dk_42 (dk_at dksX1_sheet_1 16 rfl rfl)
theorem dX1_sheet_41 : decode cX1_sheet 41 = .ok (.getfield 9, 3) := dk_180 0 9 (dk_at dksX1_sheet_1 17 rfl rfl)
theorem dX1_sheet_44 : decode cX1_sheet 44 = .ok (.iload_n 1, 1) := dk_27 (dk_at dksX1_sheet_1 20 rfl rfl)
theorem dX1_sheet_45 : decode cX1_sheet 45 = .ok (.iload_n 2, 1) := dk_28 (dk_at dksX1_sheet_1 21 rfl rfl)
theorem dX1_sheet_46 : decode cX1_sheet 46 = .ok (.iastore, 1) := dk_79 (dk_at dksX1_sheet_1 22 rfl rfl)
theorem dX1_sheet_47 : decode cX1_sheet 47 = .ok (.aload_n 0, 1) := dk_42 (dk_at dksX1_sheet_1 23 rfl rfl)
theorem dX1_sheet_48 : decode cX1_sheet 48 = .ok (.getfield 13, 3) := dk_180 0 13 (dk_at dksX1_sheet_2 0 rfl rfl)
theorem dX1_sheet_51 : decode cX1_sheet 51 = .ok (.iload_n 1, 1) := dk_27 (dk_at dksX1_sheet_2 3 rfl rfl)
theorem dX1_sheet_52 : decode cX1_sheet 52 = .ok (.iload_n 3, 1) := dk_29 (dk_at dksX1_sheet_2 4 rfl rfl)
theorem dX1_sheet_53 : decode cX1_sheet 53 = .ok (.iastore, 1) := dk_79 (dk_at dksX1_sheet_2 5 rfl rfl)
theorem dX1_sheet_54 : decode cX1_sheet 54 = .ok (.iconst 0, 1) := dk_3 (dk_at dksX1_sheet_2 6 rfl rfl)
theorem dX1_sheet_55 : decode cX1_sheet 55 = .ok (.istore 4, 2) := dk_54 4 (dk_at dksX1_sheet_2 7 rfl rfl)
theorem dX1_sheet_57 : decode cX1_sheet 57 = .ok (.iload 4, 2) := dk_21 4 (dk_at dksX1_sheet_2 9 rfl rfl)
theorem dX1_sheet_59 : decode cX1_sheet 59 = .ok (.bipush 60, 2) := dk_16 60 (dk_at dksX1_sheet_2 11 rfl rfl)
theorem dX1_sheet_61 : decode cX1_sheet 61 = .ok (.if_icmp .ge 22, 3) := dk_162 0 22 (dk_at dksX1_sheet_2 13 rfl rfl)
theorem dX1_sheet_64 : decode cX1_sheet 64 = .ok (.aload_n 0, 1) := dk_42 (dk_at dksX1_sheet_2 16 rfl rfl)
theorem dX1_sheet_65 : decode cX1_sheet 65 = .ok (.getfield 16, 3) := dk_180 0 16 (dk_at dksX1_sheet_2 17 rfl rfl)
theorem dX1_sheet_68 : decode cX1_sheet 68 = .ok (.bipush 60, 2) := dk_16 60 (dk_at dksX1_sheet_2 20 rfl rfl)
theorem dX1_sheet_70 : decode cX1_sheet 70 = .ok (.iload_n 1, 1) := dk_27 (dk_at dksX1_sheet_2 22 rfl rfl)
theorem dX1_sheet_71 : decode cX1_sheet 71 = .ok (.imul, 1) := dk_104 (dk_at dksX1_sheet_2 23 rfl rfl)
theorem dX1_sheet_72 : decode cX1_sheet 72 = .ok (.iload 4, 2) := dk_21 4 (dk_at dksX1_sheet_3 0 rfl rfl)
theorem dX1_sheet_74 : decode cX1_sheet 74 = .ok (.iadd, 1) := dk_96 (dk_at dksX1_sheet_3 2 rfl rfl)
theorem dX1_sheet_75 : decode cX1_sheet 75 = .ok (.iconst 0, 1) := dk_3 (dk_at dksX1_sheet_3 3 rfl rfl)
theorem dX1_sheet_76 : decode cX1_sheet 76 = .ok (.iastore, 1) := dk_79 (dk_at dksX1_sheet_3 4 rfl rfl)
theorem dX1_sheet_77 : decode cX1_sheet 77 = .ok (.iinc 4 1, 3) := dk_132 4 1 (dk_at dksX1_sheet_3 5 rfl rfl)
theorem dX1_sheet_80 : decode cX1_sheet 80 = .ok (.goto (-23), 3) := dk_167 255 233 (dk_at dksX1_sheet_3 8 rfl rfl)
theorem dX1_sheet_83 : decode cX1_sheet 83 = .ok (.iconst 1, 1) := dk_4 (dk_at dksX1_sheet_3 11 rfl rfl)
theorem dX1_sheet_84 : decode cX1_sheet 84 = .ok (.ireturn, 1) := dk_172 (dk_at dksX1_sheet_3 12 rfl rfl)
abbrev cX1_lose : ByteArray := prog_15_method_53_code
def yX1_lose : MethodName := ⟨RX1, "lose", "(I)I"⟩
def dkwX1_lose_1 : List UInt8 := [4, 61, 42, 180, 0, 9, 27, 16, 247, 79, 28, 172]
abbrev dktX1_lose_1 : List UInt8 := dkwX1_lose_1 ++ []
def dkwX1_lose_0 : List UInt8 := [27, 184, 0, 81, 154, 0, 5, 2, 172, 42, 180, 0, 9, 27, 46, 16, 247, 160, 0, 7, 3, 167, 0, 4]
abbrev dktX1_lose_0 : List UInt8 := dkwX1_lose_0 ++ dktX1_lose_1
theorem dksX1_lose_0 : cX1_lose.data.toList.drop 0 = dktX1_lose_0 := by decide +kernel
theorem dksX1_lose_1 : cX1_lose.data.toList.drop 24 = dktX1_lose_1 := dk_seg dksX1_lose_0 24 rfl rfl
theorem dX1_lose_0 : decode cX1_lose 0 = .ok (.iload_n 1, 1) := dk_27 (dk_at dksX1_lose_0 0 rfl rfl)
theorem dX1_lose_1 : decode cX1_lose 1 = .ok (.invokestatic 81, 3) := dk_184 0 81 (dk_at dksX1_lose_0 1 rfl rfl)
theorem dX1_lose_4 : decode cX1_lose 4 = .ok (.ifCond .ne 5, 3) := dk_154 0 5 (dk_at dksX1_lose_0 4 rfl rfl)
theorem dX1_lose_7 : decode cX1_lose 7 = .ok (.iconst (-1), 1) := dk_2 (dk_at dksX1_lose_0 7 rfl rfl)
theorem dX1_lose_8 : decode cX1_lose 8 = .ok (.ireturn, 1) := dk_172 (dk_at dksX1_lose_0 8 rfl rfl)
theorem dX1_lose_9 : decode cX1_lose 9 = .ok (.aload_n 0, 1) := dk_42 (dk_at dksX1_lose_0 9 rfl rfl)
theorem dX1_lose_10 : decode cX1_lose 10 = .ok (.getfield 9, 3) := dk_180 0 9 (dk_at dksX1_lose_0 10 rfl rfl)
theorem dX1_lose_13 : decode cX1_lose 13 = .ok (.iload_n 1, 1) := dk_27 (dk_at dksX1_lose_0 13 rfl rfl)
theorem dX1_lose_14 : decode cX1_lose 14 = .ok (.iaload, 1) := dk_46 (dk_at dksX1_lose_0 14 rfl rfl)
theorem dX1_lose_15 : decode cX1_lose 15 = .ok (.bipush (-9), 2) := dk_16 247 (dk_at dksX1_lose_0 15 rfl rfl)
theorem dX1_lose_17 : decode cX1_lose 17 = .ok (.if_icmp .ne 7, 3) := dk_160 0 7 (dk_at dksX1_lose_0 17 rfl rfl)
theorem dX1_lose_20 : decode cX1_lose 20 = .ok (.iconst 0, 1) := dk_3 (dk_at dksX1_lose_0 20 rfl rfl)
theorem dX1_lose_21 : decode cX1_lose 21 = .ok (.goto 4, 3) := dk_167 0 4 (dk_at dksX1_lose_0 21 rfl rfl)
theorem dX1_lose_24 : decode cX1_lose 24 = .ok (.iconst 1, 1) := dk_4 (dk_at dksX1_lose_1 0 rfl rfl)
theorem dX1_lose_25 : decode cX1_lose 25 = .ok (.istore_n 2, 1) := dk_61 (dk_at dksX1_lose_1 1 rfl rfl)
theorem dX1_lose_26 : decode cX1_lose 26 = .ok (.aload_n 0, 1) := dk_42 (dk_at dksX1_lose_1 2 rfl rfl)
theorem dX1_lose_27 : decode cX1_lose 27 = .ok (.getfield 9, 3) := dk_180 0 9 (dk_at dksX1_lose_1 3 rfl rfl)
theorem dX1_lose_30 : decode cX1_lose 30 = .ok (.iload_n 1, 1) := dk_27 (dk_at dksX1_lose_1 6 rfl rfl)
theorem dX1_lose_31 : decode cX1_lose 31 = .ok (.bipush (-9), 2) := dk_16 247 (dk_at dksX1_lose_1 7 rfl rfl)
theorem dX1_lose_33 : decode cX1_lose 33 = .ok (.iastore, 1) := dk_79 (dk_at dksX1_lose_1 9 rfl rfl)
theorem dX1_lose_34 : decode cX1_lose 34 = .ok (.iload_n 2, 1) := dk_28 (dk_at dksX1_lose_1 10 rfl rfl)
theorem dX1_lose_35 : decode cX1_lose 35 = .ok (.ireturn, 1) := dk_172 (dk_at dksX1_lose_1 11 rfl rfl)
abbrev cX1_put : ByteArray := prog_15_method_54_code
def yX1_put : MethodName := ⟨RX1, "put", "(III)I"⟩
def dkwX1_put_4 : List UInt8 := [29, 79, 4, 172]
abbrev dktX1_put_4 : List UInt8 := dkwX1_put_4 ++ []
def dkwX1_put_3 : List UInt8 := [46, 154, 0, 8, 29, 145, 167, 0, 19, 42, 180, 0, 9, 27, 46, 4, 160, 0, 8, 29, 147, 167, 0, 4]
abbrev dktX1_put_3 : List UInt8 := dkwX1_put_3 ++ dktX1_put_4
def dkwX1_put_2 : List UInt8 := [154, 0, 9, 42, 6, 182, 0, 92, 172, 42, 180, 0, 16, 16, 60, 27, 104, 28, 96, 42, 180, 0, 9, 27]
abbrev dktX1_put_2 : List UInt8 := dkwX1_put_2 ++ dktX1_put_3
def dkwX1_put_1 : List UInt8 := [160, 0, 9, 42, 4, 182, 0, 92, 172, 28, 3, 42, 180, 0, 13, 27, 46, 4, 100, 184, 0, 67]
abbrev dktX1_put_1 : List UInt8 := dkwX1_put_1 ++ dktX1_put_2
def dkwX1_put_0 : List UInt8 := [42, 3, 181, 0, 62, 27, 184, 0, 81, 154, 0, 5, 2, 172, 42, 180, 0, 9, 27, 46, 16, 247]
abbrev dktX1_put_0 : List UInt8 := dkwX1_put_0 ++ dktX1_put_1
theorem dksX1_put_0 : cX1_put.data.toList.drop 0 = dktX1_put_0 := by decide +kernel
theorem dksX1_put_1 : cX1_put.data.toList.drop 22 = dktX1_put_1 := dk_seg dksX1_put_0 22 rfl rfl
theorem dksX1_put_2 : cX1_put.data.toList.drop 44 = dktX1_put_2 := dk_seg dksX1_put_1 22 rfl rfl
theorem dksX1_put_3 : cX1_put.data.toList.drop 68 = dktX1_put_3 := dk_seg dksX1_put_2 24 rfl rfl
theorem dksX1_put_4 : cX1_put.data.toList.drop 92 = dktX1_put_4 := dk_seg dksX1_put_3 24 rfl rfl
theorem dX1_put_0 : decode cX1_put 0 = .ok (.aload_n 0, 1) := dk_42 (dk_at dksX1_put_0 0 rfl rfl)
theorem dX1_put_1 : decode cX1_put 1 = .ok (.iconst 0, 1) := dk_3 (dk_at dksX1_put_0 1 rfl rfl)
theorem dX1_put_2 : decode cX1_put 2 = .ok (.putfield 62, 3) := dk_181 0 62 (dk_at dksX1_put_0 2 rfl rfl)
theorem dX1_put_5 : decode cX1_put 5 = .ok (.iload_n 1, 1) := dk_27 (dk_at dksX1_put_0 5 rfl rfl)
theorem dX1_put_6 : decode cX1_put 6 = .ok (.invokestatic 81, 3) := dk_184 0 81 (dk_at dksX1_put_0 6 rfl rfl)
theorem dX1_put_9 : decode cX1_put 9 = .ok (.ifCond .ne 5, 3) := dk_154 0 5 (dk_at dksX1_put_0 9 rfl rfl)
theorem dX1_put_12 : decode cX1_put 12 = .ok (.iconst (-1), 1) := dk_2 (dk_at dksX1_put_0 12 rfl rfl)
theorem dX1_put_13 : decode cX1_put 13 = .ok (.ireturn, 1) := dk_172 (dk_at dksX1_put_0 13 rfl rfl)
theorem dX1_put_14 : decode cX1_put 14 = .ok (.aload_n 0, 1) := dk_42 (dk_at dksX1_put_0 14 rfl rfl)
theorem dX1_put_15 : decode cX1_put 15 = .ok (.getfield 9, 3) := dk_180 0 9 (dk_at dksX1_put_0 15 rfl rfl)
theorem dX1_put_18 : decode cX1_put 18 = .ok (.iload_n 1, 1) := dk_27 (dk_at dksX1_put_0 18 rfl rfl)
theorem dX1_put_19 : decode cX1_put 19 = .ok (.iaload, 1) := dk_46 (dk_at dksX1_put_0 19 rfl rfl)
theorem dX1_put_20 : decode cX1_put 20 = .ok (.bipush (-9), 2) := dk_16 247 (dk_at dksX1_put_0 20 rfl rfl)
theorem dX1_put_22 : decode cX1_put 22 = .ok (.if_icmp .ne 9, 3) := dk_160 0 9 (dk_at dksX1_put_1 0 rfl rfl)
theorem dX1_put_25 : decode cX1_put 25 = .ok (.aload_n 0, 1) := dk_42 (dk_at dksX1_put_1 3 rfl rfl)
theorem dX1_put_26 : decode cX1_put 26 = .ok (.iconst 1, 1) := dk_4 (dk_at dksX1_put_1 4 rfl rfl)
theorem dX1_put_27 : decode cX1_put 27 = .ok (.invokevirtual 92, 3) := dk_182 0 92 (dk_at dksX1_put_1 5 rfl rfl)
theorem dX1_put_30 : decode cX1_put 30 = .ok (.ireturn, 1) := dk_172 (dk_at dksX1_put_1 8 rfl rfl)
theorem dX1_put_31 : decode cX1_put 31 = .ok (.iload_n 2, 1) := dk_28 (dk_at dksX1_put_1 9 rfl rfl)
theorem dX1_put_32 : decode cX1_put 32 = .ok (.iconst 0, 1) := dk_3 (dk_at dksX1_put_1 10 rfl rfl)
theorem dX1_put_33 : decode cX1_put 33 = .ok (.aload_n 0, 1) := dk_42 (dk_at dksX1_put_1 11 rfl rfl)
theorem dX1_put_34 : decode cX1_put 34 = .ok (.getfield 13, 3) := dk_180 0 13 (dk_at dksX1_put_1 12 rfl rfl)
theorem dX1_put_37 : decode cX1_put 37 = .ok (.iload_n 1, 1) := dk_27 (dk_at dksX1_put_1 15 rfl rfl)
theorem dX1_put_38 : decode cX1_put 38 = .ok (.iaload, 1) := dk_46 (dk_at dksX1_put_1 16 rfl rfl)
theorem dX1_put_39 : decode cX1_put 39 = .ok (.iconst 1, 1) := dk_4 (dk_at dksX1_put_1 17 rfl rfl)
theorem dX1_put_40 : decode cX1_put 40 = .ok (.isub, 1) := dk_100 (dk_at dksX1_put_1 18 rfl rfl)
theorem dX1_put_41 : decode cX1_put 41 = .ok (.invokestatic 67, 3) := dk_184 0 67 (dk_at dksX1_put_1 19 rfl rfl)
theorem dX1_put_44 : decode cX1_put 44 = .ok (.ifCond .ne 9, 3) := dk_154 0 9 (dk_at dksX1_put_2 0 rfl rfl)
theorem dX1_put_47 : decode cX1_put 47 = .ok (.aload_n 0, 1) := dk_42 (dk_at dksX1_put_2 3 rfl rfl)
theorem dX1_put_48 : decode cX1_put 48 = .ok (.iconst 3, 1) := dk_6 (dk_at dksX1_put_2 4 rfl rfl)
theorem dX1_put_49 : decode cX1_put 49 = .ok (.invokevirtual 92, 3) := dk_182 0 92 (dk_at dksX1_put_2 5 rfl rfl)
theorem dX1_put_52 : decode cX1_put 52 = .ok (.ireturn, 1) := dk_172 (dk_at dksX1_put_2 8 rfl rfl)
theorem dX1_put_53 : decode cX1_put 53 = .ok (.aload_n 0, 1) := dk_42 (dk_at dksX1_put_2 9 rfl rfl)
theorem dX1_put_54 : decode cX1_put 54 = .ok (.getfield 16, 3) := dk_180 0 16 (dk_at dksX1_put_2 10 rfl rfl)
theorem dX1_put_57 : decode cX1_put 57 = .ok (.bipush 60, 2) := dk_16 60 (dk_at dksX1_put_2 13 rfl rfl)
theorem dX1_put_59 : decode cX1_put 59 = .ok (.iload_n 1, 1) := dk_27 (dk_at dksX1_put_2 15 rfl rfl)
theorem dX1_put_60 : decode cX1_put 60 = .ok (.imul, 1) := dk_104 (dk_at dksX1_put_2 16 rfl rfl)
theorem dX1_put_61 : decode cX1_put 61 = .ok (.iload_n 2, 1) := dk_28 (dk_at dksX1_put_2 17 rfl rfl)
theorem dX1_put_62 : decode cX1_put 62 = .ok (.iadd, 1) := dk_96 (dk_at dksX1_put_2 18 rfl rfl)
theorem dX1_put_63 : decode cX1_put 63 = .ok (.aload_n 0, 1) := dk_42 (dk_at dksX1_put_2 19 rfl rfl)
theorem dX1_put_64 : decode cX1_put 64 = .ok (.getfield 9, 3) := dk_180 0 9 (dk_at dksX1_put_2 20 rfl rfl)
theorem dX1_put_67 : decode cX1_put 67 = .ok (.iload_n 1, 1) := dk_27 (dk_at dksX1_put_2 23 rfl rfl)
theorem dX1_put_68 : decode cX1_put 68 = .ok (.iaload, 1) := dk_46 (dk_at dksX1_put_3 0 rfl rfl)
theorem dX1_put_69 : decode cX1_put 69 = .ok (.ifCond .ne 8, 3) := dk_154 0 8 (dk_at dksX1_put_3 1 rfl rfl)
theorem dX1_put_72 : decode cX1_put 72 = .ok (.iload_n 3, 1) := dk_29 (dk_at dksX1_put_3 4 rfl rfl)
theorem dX1_put_73 : decode cX1_put 73 = .ok (.i2b, 1) := dk_145 (dk_at dksX1_put_3 5 rfl rfl)
theorem dX1_put_74 : decode cX1_put 74 = .ok (.goto 19, 3) := dk_167 0 19 (dk_at dksX1_put_3 6 rfl rfl)
theorem dX1_put_77 : decode cX1_put 77 = .ok (.aload_n 0, 1) := dk_42 (dk_at dksX1_put_3 9 rfl rfl)
theorem dX1_put_78 : decode cX1_put 78 = .ok (.getfield 9, 3) := dk_180 0 9 (dk_at dksX1_put_3 10 rfl rfl)
theorem dX1_put_81 : decode cX1_put 81 = .ok (.iload_n 1, 1) := dk_27 (dk_at dksX1_put_3 13 rfl rfl)
theorem dX1_put_82 : decode cX1_put 82 = .ok (.iaload, 1) := dk_46 (dk_at dksX1_put_3 14 rfl rfl)
theorem dX1_put_83 : decode cX1_put 83 = .ok (.iconst 1, 1) := dk_4 (dk_at dksX1_put_3 15 rfl rfl)
theorem dX1_put_84 : decode cX1_put 84 = .ok (.if_icmp .ne 8, 3) := dk_160 0 8 (dk_at dksX1_put_3 16 rfl rfl)
theorem dX1_put_87 : decode cX1_put 87 = .ok (.iload_n 3, 1) := dk_29 (dk_at dksX1_put_3 19 rfl rfl)
theorem dX1_put_88 : decode cX1_put 88 = .ok (.i2s, 1) := dk_147 (dk_at dksX1_put_3 20 rfl rfl)
theorem dX1_put_89 : decode cX1_put 89 = .ok (.goto 4, 3) := dk_167 0 4 (dk_at dksX1_put_3 21 rfl rfl)
theorem dX1_put_92 : decode cX1_put 92 = .ok (.iload_n 3, 1) := dk_29 (dk_at dksX1_put_4 0 rfl rfl)
theorem dX1_put_93 : decode cX1_put 93 = .ok (.iastore, 1) := dk_79 (dk_at dksX1_put_4 1 rfl rfl)
theorem dX1_put_94 : decode cX1_put 94 = .ok (.iconst 1, 1) := dk_4 (dk_at dksX1_put_4 2 rfl rfl)
theorem dX1_put_95 : decode cX1_put 95 = .ok (.ireturn, 1) := dk_172 (dk_at dksX1_put_4 3 rfl rfl)
abbrev cX1_cell : ByteArray := prog_15_method_55_code
def yX1_cell : MethodName := ⟨RX1, "cell", "(III)J"⟩
def dkwX1_cell_4 : List UInt8 := [16, 60, 27, 104, 28, 96, 46, 133, 173]
abbrev dktX1_cell_4 : List UInt8 := dkwX1_cell_4 ++ []
def dkwX1_cell_3 : List UInt8 := [180, 0, 13, 27, 46, 4, 100, 184, 0, 67, 154, 0, 9, 42, 6, 182, 0, 196, 173, 42, 180, 0, 16]
abbrev dktX1_cell_3 : List UInt8 := dkwX1_cell_3 ++ dktX1_cell_4
def dkwX1_cell_2 : List UInt8 := [182, 0, 196, 173, 42, 180, 0, 9, 27, 46, 16, 247, 160, 0, 9, 42, 4, 182, 0, 196, 173, 28, 3, 42]
abbrev dktX1_cell_2 : List UInt8 := dkwX1_cell_2 ++ dktX1_cell_3
def dkwX1_cell_1 : List UInt8 := [180, 0, 9, 27, 46, 16, 247, 159, 0, 19, 42, 180, 0, 9, 27, 46, 29, 159, 0, 9, 42, 5]
abbrev dktX1_cell_1 : List UInt8 := dkwX1_cell_1 ++ dktX1_cell_2
def dkwX1_cell_0 : List UInt8 := [42, 3, 181, 0, 62, 27, 184, 0, 81, 153, 0, 10, 29, 184, 0, 85, 154, 0, 7, 20, 0, 65, 173, 42]
abbrev dktX1_cell_0 : List UInt8 := dkwX1_cell_0 ++ dktX1_cell_1
theorem dksX1_cell_0 : cX1_cell.data.toList.drop 0 = dktX1_cell_0 := by decide +kernel
theorem dksX1_cell_1 : cX1_cell.data.toList.drop 24 = dktX1_cell_1 := dk_seg dksX1_cell_0 24 rfl rfl
theorem dksX1_cell_2 : cX1_cell.data.toList.drop 46 = dktX1_cell_2 := dk_seg dksX1_cell_1 22 rfl rfl
theorem dksX1_cell_3 : cX1_cell.data.toList.drop 70 = dktX1_cell_3 := dk_seg dksX1_cell_2 24 rfl rfl
theorem dksX1_cell_4 : cX1_cell.data.toList.drop 93 = dktX1_cell_4 := dk_seg dksX1_cell_3 23 rfl rfl
theorem dX1_cell_0 : decode cX1_cell 0 = .ok (.aload_n 0, 1) := dk_42 (dk_at dksX1_cell_0 0 rfl rfl)
theorem dX1_cell_1 : decode cX1_cell 1 = .ok (.iconst 0, 1) := dk_3 (dk_at dksX1_cell_0 1 rfl rfl)
theorem dX1_cell_2 : decode cX1_cell 2 = .ok (.putfield 62, 3) := dk_181 0 62 (dk_at dksX1_cell_0 2 rfl rfl)
theorem dX1_cell_5 : decode cX1_cell 5 = .ok (.iload_n 1, 1) := dk_27 (dk_at dksX1_cell_0 5 rfl rfl)
theorem dX1_cell_6 : decode cX1_cell 6 = .ok (.invokestatic 81, 3) := dk_184 0 81 (dk_at dksX1_cell_0 6 rfl rfl)
theorem dX1_cell_9 : decode cX1_cell 9 = .ok (.ifCond .eq 10, 3) := dk_153 0 10 (dk_at dksX1_cell_0 9 rfl rfl)
theorem dX1_cell_12 : decode cX1_cell 12 = .ok (.iload_n 3, 1) := dk_29 (dk_at dksX1_cell_0 12 rfl rfl)
theorem dX1_cell_13 : decode cX1_cell 13 = .ok (.invokestatic 85, 3) := dk_184 0 85 (dk_at dksX1_cell_0 13 rfl rfl)
theorem dX1_cell_16 : decode cX1_cell 16 = .ok (.ifCond .ne 7, 3) := dk_154 0 7 (dk_at dksX1_cell_0 16 rfl rfl)
theorem dX1_cell_19 : decode cX1_cell 19 = .ok (.ldc2_w 65, 3) := dk_20 0 65 (dk_at dksX1_cell_0 19 rfl rfl)
theorem dX1_cell_22 : decode cX1_cell 22 = .ok (.lreturn, 1) := dk_173 (dk_at dksX1_cell_0 22 rfl rfl)
theorem dX1_cell_23 : decode cX1_cell 23 = .ok (.aload_n 0, 1) := dk_42 (dk_at dksX1_cell_0 23 rfl rfl)
theorem dX1_cell_24 : decode cX1_cell 24 = .ok (.getfield 9, 3) := dk_180 0 9 (dk_at dksX1_cell_1 0 rfl rfl)
theorem dX1_cell_27 : decode cX1_cell 27 = .ok (.iload_n 1, 1) := dk_27 (dk_at dksX1_cell_1 3 rfl rfl)
theorem dX1_cell_28 : decode cX1_cell 28 = .ok (.iaload, 1) := dk_46 (dk_at dksX1_cell_1 4 rfl rfl)
theorem dX1_cell_29 : decode cX1_cell 29 = .ok (.bipush (-9), 2) := dk_16 247 (dk_at dksX1_cell_1 5 rfl rfl)
theorem dX1_cell_31 : decode cX1_cell 31 = .ok (.if_icmp .eq 19, 3) := dk_159 0 19 (dk_at dksX1_cell_1 7 rfl rfl)
theorem dX1_cell_34 : decode cX1_cell 34 = .ok (.aload_n 0, 1) := dk_42 (dk_at dksX1_cell_1 10 rfl rfl)
theorem dX1_cell_35 : decode cX1_cell 35 = .ok (.getfield 9, 3) := dk_180 0 9 (dk_at dksX1_cell_1 11 rfl rfl)
theorem dX1_cell_38 : decode cX1_cell 38 = .ok (.iload_n 1, 1) := dk_27 (dk_at dksX1_cell_1 14 rfl rfl)
theorem dX1_cell_39 : decode cX1_cell 39 = .ok (.iaload, 1) := dk_46 (dk_at dksX1_cell_1 15 rfl rfl)
theorem dX1_cell_40 : decode cX1_cell 40 = .ok (.iload_n 3, 1) := dk_29 (dk_at dksX1_cell_1 16 rfl rfl)
theorem dX1_cell_41 : decode cX1_cell 41 = .ok (.if_icmp .eq 9, 3) := dk_159 0 9 (dk_at dksX1_cell_1 17 rfl rfl)
theorem dX1_cell_44 : decode cX1_cell 44 = .ok (.aload_n 0, 1) := dk_42 (dk_at dksX1_cell_1 20 rfl rfl)
theorem dX1_cell_45 : decode cX1_cell 45 = .ok (.iconst 2, 1) := dk_5 (dk_at dksX1_cell_1 21 rfl rfl)
theorem dX1_cell_46 : decode cX1_cell 46 = .ok (.invokevirtual 196, 3) := dk_182 0 196 (dk_at dksX1_cell_2 0 rfl rfl)
theorem dX1_cell_49 : decode cX1_cell 49 = .ok (.lreturn, 1) := dk_173 (dk_at dksX1_cell_2 3 rfl rfl)
theorem dX1_cell_50 : decode cX1_cell 50 = .ok (.aload_n 0, 1) := dk_42 (dk_at dksX1_cell_2 4 rfl rfl)
theorem dX1_cell_51 : decode cX1_cell 51 = .ok (.getfield 9, 3) := dk_180 0 9 (dk_at dksX1_cell_2 5 rfl rfl)
theorem dX1_cell_54 : decode cX1_cell 54 = .ok (.iload_n 1, 1) := dk_27 (dk_at dksX1_cell_2 8 rfl rfl)
theorem dX1_cell_55 : decode cX1_cell 55 = .ok (.iaload, 1) := dk_46 (dk_at dksX1_cell_2 9 rfl rfl)
theorem dX1_cell_56 : decode cX1_cell 56 = .ok (.bipush (-9), 2) := dk_16 247 (dk_at dksX1_cell_2 10 rfl rfl)
theorem dX1_cell_58 : decode cX1_cell 58 = .ok (.if_icmp .ne 9, 3) := dk_160 0 9 (dk_at dksX1_cell_2 12 rfl rfl)
theorem dX1_cell_61 : decode cX1_cell 61 = .ok (.aload_n 0, 1) := dk_42 (dk_at dksX1_cell_2 15 rfl rfl)
theorem dX1_cell_62 : decode cX1_cell 62 = .ok (.iconst 1, 1) := dk_4 (dk_at dksX1_cell_2 16 rfl rfl)
theorem dX1_cell_63 : decode cX1_cell 63 = .ok (.invokevirtual 196, 3) := dk_182 0 196 (dk_at dksX1_cell_2 17 rfl rfl)
theorem dX1_cell_66 : decode cX1_cell 66 = .ok (.lreturn, 1) := dk_173 (dk_at dksX1_cell_2 20 rfl rfl)
theorem dX1_cell_67 : decode cX1_cell 67 = .ok (.iload_n 2, 1) := dk_28 (dk_at dksX1_cell_2 21 rfl rfl)
theorem dX1_cell_68 : decode cX1_cell 68 = .ok (.iconst 0, 1) := dk_3 (dk_at dksX1_cell_2 22 rfl rfl)
theorem dX1_cell_69 : decode cX1_cell 69 = .ok (.aload_n 0, 1) := dk_42 (dk_at dksX1_cell_2 23 rfl rfl)
theorem dX1_cell_70 : decode cX1_cell 70 = .ok (.getfield 13, 3) := dk_180 0 13 (dk_at dksX1_cell_3 0 rfl rfl)
theorem dX1_cell_73 : decode cX1_cell 73 = .ok (.iload_n 1, 1) := dk_27 (dk_at dksX1_cell_3 3 rfl rfl)
theorem dX1_cell_74 : decode cX1_cell 74 = .ok (.iaload, 1) := dk_46 (dk_at dksX1_cell_3 4 rfl rfl)
theorem dX1_cell_75 : decode cX1_cell 75 = .ok (.iconst 1, 1) := dk_4 (dk_at dksX1_cell_3 5 rfl rfl)
theorem dX1_cell_76 : decode cX1_cell 76 = .ok (.isub, 1) := dk_100 (dk_at dksX1_cell_3 6 rfl rfl)
theorem dX1_cell_77 : decode cX1_cell 77 = .ok (.invokestatic 67, 3) := dk_184 0 67 (dk_at dksX1_cell_3 7 rfl rfl)
theorem dX1_cell_80 : decode cX1_cell 80 = .ok (.ifCond .ne 9, 3) := dk_154 0 9 (dk_at dksX1_cell_3 10 rfl rfl)
theorem dX1_cell_83 : decode cX1_cell 83 = .ok (.aload_n 0, 1) := dk_42 (dk_at dksX1_cell_3 13 rfl rfl)
theorem dX1_cell_84 : decode cX1_cell 84 = .ok (.iconst 3, 1) := dk_6 (dk_at dksX1_cell_3 14 rfl rfl)
theorem dX1_cell_85 : decode cX1_cell 85 = .ok (.invokevirtual 196, 3) := dk_182 0 196 (dk_at dksX1_cell_3 15 rfl rfl)
theorem dX1_cell_88 : decode cX1_cell 88 = .ok (.lreturn, 1) := dk_173 (dk_at dksX1_cell_3 18 rfl rfl)
theorem dX1_cell_89 : decode cX1_cell 89 = .ok (.aload_n 0, 1) := dk_42 (dk_at dksX1_cell_3 19 rfl rfl)
theorem dX1_cell_90 : decode cX1_cell 90 = .ok (.getfield 16, 3) := dk_180 0 16 (dk_at dksX1_cell_3 20 rfl rfl)
theorem dX1_cell_93 : decode cX1_cell 93 = .ok (.bipush 60, 2) := dk_16 60 (dk_at dksX1_cell_4 0 rfl rfl)
theorem dX1_cell_95 : decode cX1_cell 95 = .ok (.iload_n 1, 1) := dk_27 (dk_at dksX1_cell_4 2 rfl rfl)
theorem dX1_cell_96 : decode cX1_cell 96 = .ok (.imul, 1) := dk_104 (dk_at dksX1_cell_4 3 rfl rfl)
theorem dX1_cell_97 : decode cX1_cell 97 = .ok (.iload_n 2, 1) := dk_28 (dk_at dksX1_cell_4 4 rfl rfl)
theorem dX1_cell_98 : decode cX1_cell 98 = .ok (.iadd, 1) := dk_96 (dk_at dksX1_cell_4 5 rfl rfl)
theorem dX1_cell_99 : decode cX1_cell 99 = .ok (.iaload, 1) := dk_46 (dk_at dksX1_cell_4 6 rfl rfl)
theorem dX1_cell_100 : decode cX1_cell 100 = .ok (.i2l, 1) := dk_133 (dk_at dksX1_cell_4 7 rfl rfl)
theorem dX1_cell_101 : decode cX1_cell 101 = .ok (.lreturn, 1) := dk_173 (dk_at dksX1_cell_4 8 rfl rfl)
abbrev cX1_lost : ByteArray := prog_15_method_4_code
def yX1_lost : MethodName := ⟨RX1, "lost", "(I)J"⟩
def dkwX1_lost_0 : List UInt8 := [42, 27, 181, 0, 62, 20, 0, 65, 173]
abbrev dktX1_lost_0 : List UInt8 := dkwX1_lost_0 ++ []
theorem dksX1_lost_0 : cX1_lost.data.toList.drop 0 = dktX1_lost_0 := by decide +kernel
theorem dX1_lost_0 : decode cX1_lost 0 = .ok (.aload_n 0, 1) := dk_42 (dk_at dksX1_lost_0 0 rfl rfl)
theorem dX1_lost_1 : decode cX1_lost 1 = .ok (.iload_n 1, 1) := dk_27 (dk_at dksX1_lost_0 1 rfl rfl)
theorem dX1_lost_2 : decode cX1_lost 2 = .ok (.putfield 62, 3) := dk_181 0 62 (dk_at dksX1_lost_0 2 rfl rfl)
theorem dX1_lost_5 : decode cX1_lost 5 = .ok (.ldc2_w 65, 3) := dk_20 0 65 (dk_at dksX1_lost_0 5 rfl rfl)
theorem dX1_lost_8 : decode cX1_lost 8 = .ok (.lreturn, 1) := dk_173 (dk_at dksX1_lost_0 8 rfl rfl)
abbrev cX1_copy : ByteArray := prog_15_method_56_code
def yX1_copy : MethodName := ⟨RX1, "copy", "(IIIII)I"⟩
def dkwX1_copy_9 : List UInt8 := [180, 0, 16, 16, 60, 27, 104, 28, 96, 21, 9, 96, 46, 79, 132, 8, 1, 167, 255, 198, 21, 5, 172]
abbrev dktX1_copy_9 : List UInt8 := dkwX1_copy_9 ++ []
def dkwX1_copy_8 : List UInt8 := [167, 0, 5, 21, 8, 54, 9, 42, 180, 0, 16, 16, 60, 29, 104, 21, 4, 96, 21, 9, 96, 42]
abbrev dktX1_copy_8 : List UInt8 := dkwX1_copy_8 ++ dktX1_copy_9
def dkwX1_copy_7 : List UInt8 := [54, 7, 3, 54, 8, 21, 8, 21, 5, 162, 0, 57, 21, 7, 153, 0, 13, 21, 5, 4, 100, 21, 8, 100]
abbrev dktX1_copy_7 : List UInt8 := dkwX1_copy_7 ++ dktX1_copy_8
def dkwX1_copy_6 : List UInt8 := [21, 4, 100, 164, 0, 9, 42, 6, 182, 0, 92, 172, 28, 21, 4, 162, 0, 7, 4, 167, 0, 4, 3]
abbrev dktX1_copy_6 : List UInt8 := dkwX1_copy_6 ++ dktX1_copy_7
def dkwX1_copy_5 : List UInt8 := [153, 0, 30, 21, 5, 42, 180, 0, 13, 27, 46, 28, 100, 163, 0, 17, 21, 5, 42, 180, 0, 13, 29, 46]
abbrev dktX1_copy_5 : List UInt8 := dkwX1_copy_5 ++ dktX1_copy_6
def dkwX1_copy_4 : List UInt8 := [163, 0, 18, 21, 4, 42, 180, 0, 13, 29, 46, 163, 0, 7, 4, 167, 0, 4, 3, 54, 6, 21, 6]
abbrev dktX1_copy_4 : List UInt8 := dkwX1_copy_4 ++ dktX1_copy_5
def dkwX1_copy_3 : List UInt8 := [172, 28, 155, 0, 38, 21, 4, 155, 0, 33, 21, 5, 155, 0, 28, 28, 42, 180, 0, 13, 27, 46]
abbrev dktX1_copy_3 : List UInt8 := dkwX1_copy_3 ++ dktX1_copy_4
def dkwX1_copy_2 : List UInt8 := [182, 0, 92, 172, 42, 180, 0, 9, 27, 46, 42, 180, 0, 9, 29, 46, 159, 0, 9, 42, 5, 182, 0, 92]
abbrev dktX1_copy_2 : List UInt8 := dkwX1_copy_2 ++ dktX1_copy_3
def dkwX1_copy_1 : List UInt8 := [180, 0, 9, 27, 46, 16, 247, 159, 0, 14, 42, 180, 0, 9, 29, 46, 16, 247, 160, 0, 9, 42, 4]
abbrev dktX1_copy_1 : List UInt8 := dkwX1_copy_1 ++ dktX1_copy_2
def dkwX1_copy_0 : List UInt8 := [42, 3, 181, 0, 62, 27, 184, 0, 81, 153, 0, 10, 29, 184, 0, 81, 154, 0, 5, 2, 172, 42]
abbrev dktX1_copy_0 : List UInt8 := dkwX1_copy_0 ++ dktX1_copy_1
theorem dksX1_copy_0 : cX1_copy.data.toList.drop 0 = dktX1_copy_0 := by decide +kernel
theorem dksX1_copy_1 : cX1_copy.data.toList.drop 22 = dktX1_copy_1 := dk_seg dksX1_copy_0 22 rfl rfl
theorem dksX1_copy_2 : cX1_copy.data.toList.drop 45 = dktX1_copy_2 := dk_seg dksX1_copy_1 23 rfl rfl
theorem dksX1_copy_3 : cX1_copy.data.toList.drop 69 = dktX1_copy_3 := dk_seg dksX1_copy_2 24 rfl rfl
theorem dksX1_copy_4 : cX1_copy.data.toList.drop 91 = dktX1_copy_4 := dk_seg dksX1_copy_3 22 rfl rfl
theorem dksX1_copy_5 : cX1_copy.data.toList.drop 114 = dktX1_copy_5 := dk_seg dksX1_copy_4 23 rfl rfl
theorem dksX1_copy_6 : cX1_copy.data.toList.drop 138 = dktX1_copy_6 := dk_seg dksX1_copy_5 24 rfl rfl
theorem dksX1_copy_7 : cX1_copy.data.toList.drop 161 = dktX1_copy_7 := dk_seg dksX1_copy_6 23 rfl rfl
theorem dksX1_copy_8 : cX1_copy.data.toList.drop 185 = dktX1_copy_8 := dk_seg dksX1_copy_7 24 rfl rfl
theorem dksX1_copy_9 : cX1_copy.data.toList.drop 207 = dktX1_copy_9 := dk_seg dksX1_copy_8 22 rfl rfl
theorem dX1_copy_0 : decode cX1_copy 0 = .ok (.aload_n 0, 1) := dk_42 (dk_at dksX1_copy_0 0 rfl rfl)
theorem dX1_copy_1 : decode cX1_copy 1 = .ok (.iconst 0, 1) := dk_3 (dk_at dksX1_copy_0 1 rfl rfl)
theorem dX1_copy_2 : decode cX1_copy 2 = .ok (.putfield 62, 3) := dk_181 0 62 (dk_at dksX1_copy_0 2 rfl rfl)
theorem dX1_copy_5 : decode cX1_copy 5 = .ok (.iload_n 1, 1) := dk_27 (dk_at dksX1_copy_0 5 rfl rfl)
theorem dX1_copy_6 : decode cX1_copy 6 = .ok (.invokestatic 81, 3) := dk_184 0 81 (dk_at dksX1_copy_0 6 rfl rfl)
theorem dX1_copy_9 : decode cX1_copy 9 = .ok (.ifCond .eq 10, 3) := dk_153 0 10 (dk_at dksX1_copy_0 9 rfl rfl)
theorem dX1_copy_12 : decode cX1_copy 12 = .ok (.iload_n 3, 1) := dk_29 (dk_at dksX1_copy_0 12 rfl rfl)
theorem dX1_copy_13 : decode cX1_copy 13 = .ok (.invokestatic 81, 3) := dk_184 0 81 (dk_at dksX1_copy_0 13 rfl rfl)
theorem dX1_copy_16 : decode cX1_copy 16 = .ok (.ifCond .ne 5, 3) := dk_154 0 5 (dk_at dksX1_copy_0 16 rfl rfl)
theorem dX1_copy_19 : decode cX1_copy 19 = .ok (.iconst (-1), 1) := dk_2 (dk_at dksX1_copy_0 19 rfl rfl)
theorem dX1_copy_20 : decode cX1_copy 20 = .ok (.ireturn, 1) := dk_172 (dk_at dksX1_copy_0 20 rfl rfl)
theorem dX1_copy_21 : decode cX1_copy 21 = .ok (.aload_n 0, 1) := dk_42 (dk_at dksX1_copy_0 21 rfl rfl)
theorem dX1_copy_22 : decode cX1_copy 22 = .ok (.getfield 9, 3) := dk_180 0 9 (dk_at dksX1_copy_1 0 rfl rfl)
theorem dX1_copy_25 : decode cX1_copy 25 = .ok (.iload_n 1, 1) := dk_27 (dk_at dksX1_copy_1 3 rfl rfl)
theorem dX1_copy_26 : decode cX1_copy 26 = .ok (.iaload, 1) := dk_46 (dk_at dksX1_copy_1 4 rfl rfl)
theorem dX1_copy_27 : decode cX1_copy 27 = .ok (.bipush (-9), 2) := dk_16 247 (dk_at dksX1_copy_1 5 rfl rfl)
theorem dX1_copy_29 : decode cX1_copy 29 = .ok (.if_icmp .eq 14, 3) := dk_159 0 14 (dk_at dksX1_copy_1 7 rfl rfl)
theorem dX1_copy_32 : decode cX1_copy 32 = .ok (.aload_n 0, 1) := dk_42 (dk_at dksX1_copy_1 10 rfl rfl)
theorem dX1_copy_33 : decode cX1_copy 33 = .ok (.getfield 9, 3) := dk_180 0 9 (dk_at dksX1_copy_1 11 rfl rfl)
theorem dX1_copy_36 : decode cX1_copy 36 = .ok (.iload_n 3, 1) := dk_29 (dk_at dksX1_copy_1 14 rfl rfl)
theorem dX1_copy_37 : decode cX1_copy 37 = .ok (.iaload, 1) := dk_46 (dk_at dksX1_copy_1 15 rfl rfl)
theorem dX1_copy_38 : decode cX1_copy 38 = .ok (.bipush (-9), 2) := dk_16 247 (dk_at dksX1_copy_1 16 rfl rfl)
theorem dX1_copy_40 : decode cX1_copy 40 = .ok (.if_icmp .ne 9, 3) := dk_160 0 9 (dk_at dksX1_copy_1 18 rfl rfl)
theorem dX1_copy_43 : decode cX1_copy 43 = .ok (.aload_n 0, 1) := dk_42 (dk_at dksX1_copy_1 21 rfl rfl)
theorem dX1_copy_44 : decode cX1_copy 44 = .ok (.iconst 1, 1) := dk_4 (dk_at dksX1_copy_1 22 rfl rfl)
theorem dX1_copy_45 : decode cX1_copy 45 = .ok (.invokevirtual 92, 3) := dk_182 0 92 (dk_at dksX1_copy_2 0 rfl rfl)
theorem dX1_copy_48 : decode cX1_copy 48 = .ok (.ireturn, 1) := dk_172 (dk_at dksX1_copy_2 3 rfl rfl)
theorem dX1_copy_49 : decode cX1_copy 49 = .ok (.aload_n 0, 1) := dk_42 (dk_at dksX1_copy_2 4 rfl rfl)
theorem dX1_copy_50 : decode cX1_copy 50 = .ok (.getfield 9, 3) := dk_180 0 9 (dk_at dksX1_copy_2 5 rfl rfl)
theorem dX1_copy_53 : decode cX1_copy 53 = .ok (.iload_n 1, 1) := dk_27 (dk_at dksX1_copy_2 8 rfl rfl)
theorem dX1_copy_54 : decode cX1_copy 54 = .ok (.iaload, 1) := dk_46 (dk_at dksX1_copy_2 9 rfl rfl)
theorem dX1_copy_55 : decode cX1_copy 55 = .ok (.aload_n 0, 1) := dk_42 (dk_at dksX1_copy_2 10 rfl rfl)
theorem dX1_copy_56 : decode cX1_copy 56 = .ok (.getfield 9, 3) := dk_180 0 9 (dk_at dksX1_copy_2 11 rfl rfl)
theorem dX1_copy_59 : decode cX1_copy 59 = .ok (.iload_n 3, 1) := dk_29 (dk_at dksX1_copy_2 14 rfl rfl)
theorem dX1_copy_60 : decode cX1_copy 60 = .ok (.iaload, 1) := dk_46 (dk_at dksX1_copy_2 15 rfl rfl)
theorem dX1_copy_61 : decode cX1_copy 61 = .ok (.if_icmp .eq 9, 3) := dk_159 0 9 (dk_at dksX1_copy_2 16 rfl rfl)
theorem dX1_copy_64 : decode cX1_copy 64 = .ok (.aload_n 0, 1) := dk_42 (dk_at dksX1_copy_2 19 rfl rfl)
theorem dX1_copy_65 : decode cX1_copy 65 = .ok (.iconst 2, 1) := dk_5 (dk_at dksX1_copy_2 20 rfl rfl)
theorem dX1_copy_66 : decode cX1_copy 66 = .ok (.invokevirtual 92, 3) := dk_182 0 92 (dk_at dksX1_copy_2 21 rfl rfl)
theorem dX1_copy_69 : decode cX1_copy 69 = .ok (.ireturn, 1) := dk_172 (dk_at dksX1_copy_3 0 rfl rfl)
theorem dX1_copy_70 : decode cX1_copy 70 = .ok (.iload_n 2, 1) := dk_28 (dk_at dksX1_copy_3 1 rfl rfl)
theorem dX1_copy_71 : decode cX1_copy 71 = .ok (.ifCond .lt 38, 3) := dk_155 0 38 (dk_at dksX1_copy_3 2 rfl rfl)
theorem dX1_copy_74 : decode cX1_copy 74 = .ok (.iload 4, 2) := dk_21 4 (dk_at dksX1_copy_3 5 rfl rfl)
theorem dX1_copy_76 : decode cX1_copy 76 = .ok (.ifCond .lt 33, 3) := dk_155 0 33 (dk_at dksX1_copy_3 7 rfl rfl)
theorem dX1_copy_79 : decode cX1_copy 79 = .ok (.iload 5, 2) := dk_21 5 (dk_at dksX1_copy_3 10 rfl rfl)
theorem dX1_copy_81 : decode cX1_copy 81 = .ok (.ifCond .lt 28, 3) := dk_155 0 28 (dk_at dksX1_copy_3 12 rfl rfl)
theorem dX1_copy_84 : decode cX1_copy 84 = .ok (.iload_n 2, 1) := dk_28 (dk_at dksX1_copy_3 15 rfl rfl)
theorem dX1_copy_85 : decode cX1_copy 85 = .ok (.aload_n 0, 1) := dk_42 (dk_at dksX1_copy_3 16 rfl rfl)
theorem dX1_copy_86 : decode cX1_copy 86 = .ok (.getfield 13, 3) := dk_180 0 13 (dk_at dksX1_copy_3 17 rfl rfl)
theorem dX1_copy_89 : decode cX1_copy 89 = .ok (.iload_n 1, 1) := dk_27 (dk_at dksX1_copy_3 20 rfl rfl)
theorem dX1_copy_90 : decode cX1_copy 90 = .ok (.iaload, 1) := dk_46 (dk_at dksX1_copy_3 21 rfl rfl)
theorem dX1_copy_91 : decode cX1_copy 91 = .ok (.if_icmp .gt 18, 3) := dk_163 0 18 (dk_at dksX1_copy_4 0 rfl rfl)
theorem dX1_copy_94 : decode cX1_copy 94 = .ok (.iload 4, 2) := dk_21 4 (dk_at dksX1_copy_4 3 rfl rfl)
theorem dX1_copy_96 : decode cX1_copy 96 = .ok (.aload_n 0, 1) := dk_42 (dk_at dksX1_copy_4 5 rfl rfl)
theorem dX1_copy_97 : decode cX1_copy 97 = .ok (.getfield 13, 3) := dk_180 0 13 (dk_at dksX1_copy_4 6 rfl rfl)
theorem dX1_copy_100 : decode cX1_copy 100 = .ok (.iload_n 3, 1) := dk_29 (dk_at dksX1_copy_4 9 rfl rfl)
theorem dX1_copy_101 : decode cX1_copy 101 = .ok (.iaload, 1) := dk_46 (dk_at dksX1_copy_4 10 rfl rfl)
theorem dX1_copy_102 : decode cX1_copy 102 = .ok (.if_icmp .gt 7, 3) := dk_163 0 7 (dk_at dksX1_copy_4 11 rfl rfl)
theorem dX1_copy_105 : decode cX1_copy 105 = .ok (.iconst 1, 1) := dk_4 (dk_at dksX1_copy_4 14 rfl rfl)
theorem dX1_copy_106 : decode cX1_copy 106 = .ok (.goto 4, 3) := dk_167 0 4 (dk_at dksX1_copy_4 15 rfl rfl)
theorem dX1_copy_109 : decode cX1_copy 109 = .ok (.iconst 0, 1) := dk_3 (dk_at dksX1_copy_4 18 rfl rfl)
theorem dX1_copy_110 : decode cX1_copy 110 = .ok (.istore 6, 2) := dk_54 6 (dk_at dksX1_copy_4 19 rfl rfl)
theorem dX1_copy_112 : decode cX1_copy 112 = .ok (.iload 6, 2) := dk_21 6 (dk_at dksX1_copy_4 21 rfl rfl)
theorem dX1_copy_114 : decode cX1_copy 114 = .ok (.ifCond .eq 30, 3) := dk_153 0 30 (dk_at dksX1_copy_5 0 rfl rfl)
theorem dX1_copy_117 : decode cX1_copy 117 = .ok (.iload 5, 2) := dk_21 5 (dk_at dksX1_copy_5 3 rfl rfl)
theorem dX1_copy_119 : decode cX1_copy 119 = .ok (.aload_n 0, 1) := dk_42 (dk_at dksX1_copy_5 5 rfl rfl)
theorem dX1_copy_120 : decode cX1_copy 120 = .ok (.getfield 13, 3) := dk_180 0 13 (dk_at dksX1_copy_5 6 rfl rfl)
theorem dX1_copy_123 : decode cX1_copy 123 = .ok (.iload_n 1, 1) := dk_27 (dk_at dksX1_copy_5 9 rfl rfl)
theorem dX1_copy_124 : decode cX1_copy 124 = .ok (.iaload, 1) := dk_46 (dk_at dksX1_copy_5 10 rfl rfl)
theorem dX1_copy_125 : decode cX1_copy 125 = .ok (.iload_n 2, 1) := dk_28 (dk_at dksX1_copy_5 11 rfl rfl)
theorem dX1_copy_126 : decode cX1_copy 126 = .ok (.isub, 1) := dk_100 (dk_at dksX1_copy_5 12 rfl rfl)
theorem dX1_copy_127 : decode cX1_copy 127 = .ok (.if_icmp .gt 17, 3) := dk_163 0 17 (dk_at dksX1_copy_5 13 rfl rfl)
theorem dX1_copy_130 : decode cX1_copy 130 = .ok (.iload 5, 2) := dk_21 5 (dk_at dksX1_copy_5 16 rfl rfl)
theorem dX1_copy_132 : decode cX1_copy 132 = .ok (.aload_n 0, 1) := dk_42 (dk_at dksX1_copy_5 18 rfl rfl)
theorem dX1_copy_133 : decode cX1_copy 133 = .ok (.getfield 13, 3) := dk_180 0 13 (dk_at dksX1_copy_5 19 rfl rfl)
theorem dX1_copy_136 : decode cX1_copy 136 = .ok (.iload_n 3, 1) := dk_29 (dk_at dksX1_copy_5 22 rfl rfl)
theorem dX1_copy_137 : decode cX1_copy 137 = .ok (.iaload, 1) := dk_46 (dk_at dksX1_copy_5 23 rfl rfl)
theorem dX1_copy_138 : decode cX1_copy 138 = .ok (.iload 4, 2) := dk_21 4 (dk_at dksX1_copy_6 0 rfl rfl)
theorem dX1_copy_140 : decode cX1_copy 140 = .ok (.isub, 1) := dk_100 (dk_at dksX1_copy_6 2 rfl rfl)
theorem dX1_copy_141 : decode cX1_copy 141 = .ok (.if_icmp .le 9, 3) := dk_164 0 9 (dk_at dksX1_copy_6 3 rfl rfl)
theorem dX1_copy_144 : decode cX1_copy 144 = .ok (.aload_n 0, 1) := dk_42 (dk_at dksX1_copy_6 6 rfl rfl)
theorem dX1_copy_145 : decode cX1_copy 145 = .ok (.iconst 3, 1) := dk_6 (dk_at dksX1_copy_6 7 rfl rfl)
theorem dX1_copy_146 : decode cX1_copy 146 = .ok (.invokevirtual 92, 3) := dk_182 0 92 (dk_at dksX1_copy_6 8 rfl rfl)
theorem dX1_copy_149 : decode cX1_copy 149 = .ok (.ireturn, 1) := dk_172 (dk_at dksX1_copy_6 11 rfl rfl)
theorem dX1_copy_150 : decode cX1_copy 150 = .ok (.iload_n 2, 1) := dk_28 (dk_at dksX1_copy_6 12 rfl rfl)
theorem dX1_copy_151 : decode cX1_copy 151 = .ok (.iload 4, 2) := dk_21 4 (dk_at dksX1_copy_6 13 rfl rfl)
theorem dX1_copy_153 : decode cX1_copy 153 = .ok (.if_icmp .ge 7, 3) := dk_162 0 7 (dk_at dksX1_copy_6 15 rfl rfl)
theorem dX1_copy_156 : decode cX1_copy 156 = .ok (.iconst 1, 1) := dk_4 (dk_at dksX1_copy_6 18 rfl rfl)
theorem dX1_copy_157 : decode cX1_copy 157 = .ok (.goto 4, 3) := dk_167 0 4 (dk_at dksX1_copy_6 19 rfl rfl)
theorem dX1_copy_160 : decode cX1_copy 160 = .ok (.iconst 0, 1) := dk_3 (dk_at dksX1_copy_6 22 rfl rfl)
theorem dX1_copy_161 : decode cX1_copy 161 = .ok (.istore 7, 2) := dk_54 7 (dk_at dksX1_copy_7 0 rfl rfl)
theorem dX1_copy_163 : decode cX1_copy 163 = .ok (.iconst 0, 1) := dk_3 (dk_at dksX1_copy_7 2 rfl rfl)
theorem dX1_copy_164 : decode cX1_copy 164 = .ok (.istore 8, 2) := dk_54 8 (dk_at dksX1_copy_7 3 rfl rfl)
theorem dX1_copy_166 : decode cX1_copy 166 = .ok (.iload 8, 2) := dk_21 8 (dk_at dksX1_copy_7 5 rfl rfl)
theorem dX1_copy_168 : decode cX1_copy 168 = .ok (.iload 5, 2) := dk_21 5 (dk_at dksX1_copy_7 7 rfl rfl)
theorem dX1_copy_170 : decode cX1_copy 170 = .ok (.if_icmp .ge 57, 3) := dk_162 0 57 (dk_at dksX1_copy_7 9 rfl rfl)
theorem dX1_copy_173 : decode cX1_copy 173 = .ok (.iload 7, 2) := dk_21 7 (dk_at dksX1_copy_7 12 rfl rfl)
theorem dX1_copy_175 : decode cX1_copy 175 = .ok (.ifCond .eq 13, 3) := dk_153 0 13 (dk_at dksX1_copy_7 14 rfl rfl)
theorem dX1_copy_178 : decode cX1_copy 178 = .ok (.iload 5, 2) := dk_21 5 (dk_at dksX1_copy_7 17 rfl rfl)
theorem dX1_copy_180 : decode cX1_copy 180 = .ok (.iconst 1, 1) := dk_4 (dk_at dksX1_copy_7 19 rfl rfl)
theorem dX1_copy_181 : decode cX1_copy 181 = .ok (.isub, 1) := dk_100 (dk_at dksX1_copy_7 20 rfl rfl)
theorem dX1_copy_182 : decode cX1_copy 182 = .ok (.iload 8, 2) := dk_21 8 (dk_at dksX1_copy_7 21 rfl rfl)
theorem dX1_copy_184 : decode cX1_copy 184 = .ok (.isub, 1) := dk_100 (dk_at dksX1_copy_7 23 rfl rfl)
theorem dX1_copy_185 : decode cX1_copy 185 = .ok (.goto 5, 3) := dk_167 0 5 (dk_at dksX1_copy_8 0 rfl rfl)
theorem dX1_copy_188 : decode cX1_copy 188 = .ok (.iload 8, 2) := dk_21 8 (dk_at dksX1_copy_8 3 rfl rfl)
theorem dX1_copy_190 : decode cX1_copy 190 = .ok (.istore 9, 2) := dk_54 9 (dk_at dksX1_copy_8 5 rfl rfl)
theorem dX1_copy_192 : decode cX1_copy 192 = .ok (.aload_n 0, 1) := dk_42 (dk_at dksX1_copy_8 7 rfl rfl)
theorem dX1_copy_193 : decode cX1_copy 193 = .ok (.getfield 16, 3) := dk_180 0 16 (dk_at dksX1_copy_8 8 rfl rfl)
theorem dX1_copy_196 : decode cX1_copy 196 = .ok (.bipush 60, 2) := dk_16 60 (dk_at dksX1_copy_8 11 rfl rfl)
theorem dX1_copy_198 : decode cX1_copy 198 = .ok (.iload_n 3, 1) := dk_29 (dk_at dksX1_copy_8 13 rfl rfl)
theorem dX1_copy_199 : decode cX1_copy 199 = .ok (.imul, 1) := dk_104 (dk_at dksX1_copy_8 14 rfl rfl)
theorem dX1_copy_200 : decode cX1_copy 200 = .ok (.iload 4, 2) := dk_21 4 (dk_at dksX1_copy_8 15 rfl rfl)
theorem dX1_copy_202 : decode cX1_copy 202 = .ok (.iadd, 1) := dk_96 (dk_at dksX1_copy_8 17 rfl rfl)
theorem dX1_copy_203 : decode cX1_copy 203 = .ok (.iload 9, 2) := dk_21 9 (dk_at dksX1_copy_8 18 rfl rfl)
theorem dX1_copy_205 : decode cX1_copy 205 = .ok (.iadd, 1) := dk_96 (dk_at dksX1_copy_8 20 rfl rfl)
theorem dX1_copy_206 : decode cX1_copy 206 = .ok (.aload_n 0, 1) := dk_42 (dk_at dksX1_copy_8 21 rfl rfl)
theorem dX1_copy_207 : decode cX1_copy 207 = .ok (.getfield 16, 3) := dk_180 0 16 (dk_at dksX1_copy_9 0 rfl rfl)
theorem dX1_copy_210 : decode cX1_copy 210 = .ok (.bipush 60, 2) := dk_16 60 (dk_at dksX1_copy_9 3 rfl rfl)
theorem dX1_copy_212 : decode cX1_copy 212 = .ok (.iload_n 1, 1) := dk_27 (dk_at dksX1_copy_9 5 rfl rfl)
theorem dX1_copy_213 : decode cX1_copy 213 = .ok (.imul, 1) := dk_104 (dk_at dksX1_copy_9 6 rfl rfl)
theorem dX1_copy_214 : decode cX1_copy 214 = .ok (.iload_n 2, 1) := dk_28 (dk_at dksX1_copy_9 7 rfl rfl)
theorem dX1_copy_215 : decode cX1_copy 215 = .ok (.iadd, 1) := dk_96 (dk_at dksX1_copy_9 8 rfl rfl)
theorem dX1_copy_216 : decode cX1_copy 216 = .ok (.iload 9, 2) := dk_21 9 (dk_at dksX1_copy_9 9 rfl rfl)
theorem dX1_copy_218 : decode cX1_copy 218 = .ok (.iadd, 1) := dk_96 (dk_at dksX1_copy_9 11 rfl rfl)
theorem dX1_copy_219 : decode cX1_copy 219 = .ok (.iaload, 1) := dk_46 (dk_at dksX1_copy_9 12 rfl rfl)
theorem dX1_copy_220 : decode cX1_copy 220 = .ok (.iastore, 1) := dk_79 (dk_at dksX1_copy_9 13 rfl rfl)
theorem dX1_copy_221 : decode cX1_copy 221 = .ok (.iinc 8 1, 3) := dk_132 8 1 (dk_at dksX1_copy_9 14 rfl rfl)
theorem dX1_copy_224 : decode cX1_copy 224 = .ok (.goto (-58), 3) := dk_167 255 198 (dk_at dksX1_copy_9 17 rfl rfl)
theorem dX1_copy_227 : decode cX1_copy 227 = .ok (.iload 5, 2) := dk_21 5 (dk_at dksX1_copy_9 20 rfl rfl)
theorem dX1_copy_229 : decode cX1_copy 229 = .ok (.ireturn, 1) := dk_172 (dk_at dksX1_copy_9 22 rfl rfl)
abbrev cX1_tell : ByteArray := prog_15_method_58_code
def yX1_tell : MethodName := ⟨RX1, "tell", "(I)I"⟩
def dkwX1_tell_4 : List UInt8 := [182, 0, 203, 28, 172]
abbrev dktX1_tell_4 : List UInt8 := dkwX1_tell_4 ++ []
def dkwX1_tell_3 : List UInt8 := [182, 0, 203, 42, 4, 182, 0, 203, 42, 4, 182, 0, 203, 5, 28, 104, 16, 100, 96, 172, 42, 4]
abbrev dktX1_tell_3 : List UInt8 := dkwX1_tell_3 ++ dktX1_tell_4
def dkwX1_tell_2 : List UInt8 := [42, 5, 182, 0, 203, 42, 4, 182, 0, 203, 28, 16, 100, 96, 172, 42, 6, 182, 0, 203, 42, 5]
abbrev dktX1_tell_2 : List UInt8 := dkwX1_tell_2 ++ dktX1_tell_3
def dkwX1_tell_1 : List UInt8 := [171, 0, 0, 0, 67, 0, 0, 0, 2, 0, 0, 0, 1, 0, 0, 0, 25, 0, 0, 0, 2, 0, 0, 0, 40]
abbrev dktX1_tell_1 : List UInt8 := dkwX1_tell_1 ++ dktX1_tell_2
def dkwX1_tell_0 : List UInt8 := [42, 27, 182, 0, 118, 154, 0, 5, 2, 172, 42, 180, 0, 37, 27, 46, 61, 42, 180, 0, 25, 27, 46]
abbrev dktX1_tell_0 : List UInt8 := dkwX1_tell_0 ++ dktX1_tell_1
theorem dksX1_tell_0 : cX1_tell.data.toList.drop 0 = dktX1_tell_0 := by decide +kernel
theorem dksX1_tell_1 : cX1_tell.data.toList.drop 23 = dktX1_tell_1 := dk_seg dksX1_tell_0 23 rfl rfl
theorem dksX1_tell_2 : cX1_tell.data.toList.drop 48 = dktX1_tell_2 := dk_seg dksX1_tell_1 25 rfl rfl
theorem dksX1_tell_3 : cX1_tell.data.toList.drop 70 = dktX1_tell_3 := dk_seg dksX1_tell_2 22 rfl rfl
theorem dksX1_tell_4 : cX1_tell.data.toList.drop 92 = dktX1_tell_4 := dk_seg dksX1_tell_3 22 rfl rfl
theorem dX1_tell_0 : decode cX1_tell 0 = .ok (.aload_n 0, 1) := dk_42 (dk_at dksX1_tell_0 0 rfl rfl)
theorem dX1_tell_1 : decode cX1_tell 1 = .ok (.iload_n 1, 1) := dk_27 (dk_at dksX1_tell_0 1 rfl rfl)
theorem dX1_tell_2 : decode cX1_tell 2 = .ok (.invokevirtual 118, 3) := dk_182 0 118 (dk_at dksX1_tell_0 2 rfl rfl)
theorem dX1_tell_5 : decode cX1_tell 5 = .ok (.ifCond .ne 5, 3) := dk_154 0 5 (dk_at dksX1_tell_0 5 rfl rfl)
theorem dX1_tell_8 : decode cX1_tell 8 = .ok (.iconst (-1), 1) := dk_2 (dk_at dksX1_tell_0 8 rfl rfl)
theorem dX1_tell_9 : decode cX1_tell 9 = .ok (.ireturn, 1) := dk_172 (dk_at dksX1_tell_0 9 rfl rfl)
theorem dX1_tell_10 : decode cX1_tell 10 = .ok (.aload_n 0, 1) := dk_42 (dk_at dksX1_tell_0 10 rfl rfl)
theorem dX1_tell_11 : decode cX1_tell 11 = .ok (.getfield 37, 3) := dk_180 0 37 (dk_at dksX1_tell_0 11 rfl rfl)
theorem dX1_tell_14 : decode cX1_tell 14 = .ok (.iload_n 1, 1) := dk_27 (dk_at dksX1_tell_0 14 rfl rfl)
theorem dX1_tell_15 : decode cX1_tell 15 = .ok (.iaload, 1) := dk_46 (dk_at dksX1_tell_0 15 rfl rfl)
theorem dX1_tell_16 : decode cX1_tell 16 = .ok (.istore_n 2, 1) := dk_61 (dk_at dksX1_tell_0 16 rfl rfl)
theorem dX1_tell_17 : decode cX1_tell 17 = .ok (.aload_n 0, 1) := dk_42 (dk_at dksX1_tell_0 17 rfl rfl)
theorem dX1_tell_18 : decode cX1_tell 18 = .ok (.getfield 25, 3) := dk_180 0 25 (dk_at dksX1_tell_0 18 rfl rfl)
theorem dX1_tell_21 : decode cX1_tell 21 = .ok (.iload_n 1, 1) := dk_27 (dk_at dksX1_tell_0 21 rfl rfl)
theorem dX1_tell_22 : decode cX1_tell 22 = .ok (.iaload, 1) := dk_46 (dk_at dksX1_tell_0 22 rfl rfl)
theorem dX1_tell_23 : decode cX1_tell 23 = .ok (.lookupswitch 67 #[(1, 25), (2, 40)], 25) := by decide +kernel
theorem dX1_tell_48 : decode cX1_tell 48 = .ok (.aload_n 0, 1) := dk_42 (dk_at dksX1_tell_2 0 rfl rfl)
theorem dX1_tell_49 : decode cX1_tell 49 = .ok (.iconst 2, 1) := dk_5 (dk_at dksX1_tell_2 1 rfl rfl)
theorem dX1_tell_50 : decode cX1_tell 50 = .ok (.invokevirtual 203, 3) := dk_182 0 203 (dk_at dksX1_tell_2 2 rfl rfl)
theorem dX1_tell_53 : decode cX1_tell 53 = .ok (.aload_n 0, 1) := dk_42 (dk_at dksX1_tell_2 5 rfl rfl)
theorem dX1_tell_54 : decode cX1_tell 54 = .ok (.iconst 1, 1) := dk_4 (dk_at dksX1_tell_2 6 rfl rfl)
theorem dX1_tell_55 : decode cX1_tell 55 = .ok (.invokevirtual 203, 3) := dk_182 0 203 (dk_at dksX1_tell_2 7 rfl rfl)
theorem dX1_tell_58 : decode cX1_tell 58 = .ok (.iload_n 2, 1) := dk_28 (dk_at dksX1_tell_2 10 rfl rfl)
theorem dX1_tell_59 : decode cX1_tell 59 = .ok (.bipush 100, 2) := dk_16 100 (dk_at dksX1_tell_2 11 rfl rfl)
theorem dX1_tell_61 : decode cX1_tell 61 = .ok (.iadd, 1) := dk_96 (dk_at dksX1_tell_2 13 rfl rfl)
theorem dX1_tell_62 : decode cX1_tell 62 = .ok (.ireturn, 1) := dk_172 (dk_at dksX1_tell_2 14 rfl rfl)
theorem dX1_tell_63 : decode cX1_tell 63 = .ok (.aload_n 0, 1) := dk_42 (dk_at dksX1_tell_2 15 rfl rfl)
theorem dX1_tell_64 : decode cX1_tell 64 = .ok (.iconst 3, 1) := dk_6 (dk_at dksX1_tell_2 16 rfl rfl)
theorem dX1_tell_65 : decode cX1_tell 65 = .ok (.invokevirtual 203, 3) := dk_182 0 203 (dk_at dksX1_tell_2 17 rfl rfl)
theorem dX1_tell_68 : decode cX1_tell 68 = .ok (.aload_n 0, 1) := dk_42 (dk_at dksX1_tell_2 20 rfl rfl)
theorem dX1_tell_69 : decode cX1_tell 69 = .ok (.iconst 2, 1) := dk_5 (dk_at dksX1_tell_2 21 rfl rfl)
theorem dX1_tell_70 : decode cX1_tell 70 = .ok (.invokevirtual 203, 3) := dk_182 0 203 (dk_at dksX1_tell_3 0 rfl rfl)
theorem dX1_tell_73 : decode cX1_tell 73 = .ok (.aload_n 0, 1) := dk_42 (dk_at dksX1_tell_3 3 rfl rfl)
theorem dX1_tell_74 : decode cX1_tell 74 = .ok (.iconst 1, 1) := dk_4 (dk_at dksX1_tell_3 4 rfl rfl)
theorem dX1_tell_75 : decode cX1_tell 75 = .ok (.invokevirtual 203, 3) := dk_182 0 203 (dk_at dksX1_tell_3 5 rfl rfl)
theorem dX1_tell_78 : decode cX1_tell 78 = .ok (.aload_n 0, 1) := dk_42 (dk_at dksX1_tell_3 8 rfl rfl)
theorem dX1_tell_79 : decode cX1_tell 79 = .ok (.iconst 1, 1) := dk_4 (dk_at dksX1_tell_3 9 rfl rfl)
theorem dX1_tell_80 : decode cX1_tell 80 = .ok (.invokevirtual 203, 3) := dk_182 0 203 (dk_at dksX1_tell_3 10 rfl rfl)
theorem dX1_tell_83 : decode cX1_tell 83 = .ok (.iconst 2, 1) := dk_5 (dk_at dksX1_tell_3 13 rfl rfl)
theorem dX1_tell_84 : decode cX1_tell 84 = .ok (.iload_n 2, 1) := dk_28 (dk_at dksX1_tell_3 14 rfl rfl)
theorem dX1_tell_85 : decode cX1_tell 85 = .ok (.imul, 1) := dk_104 (dk_at dksX1_tell_3 15 rfl rfl)
theorem dX1_tell_86 : decode cX1_tell 86 = .ok (.bipush 100, 2) := dk_16 100 (dk_at dksX1_tell_3 16 rfl rfl)
theorem dX1_tell_88 : decode cX1_tell 88 = .ok (.iadd, 1) := dk_96 (dk_at dksX1_tell_3 18 rfl rfl)
theorem dX1_tell_89 : decode cX1_tell 89 = .ok (.ireturn, 1) := dk_172 (dk_at dksX1_tell_3 19 rfl rfl)
theorem dX1_tell_90 : decode cX1_tell 90 = .ok (.aload_n 0, 1) := dk_42 (dk_at dksX1_tell_3 20 rfl rfl)
theorem dX1_tell_91 : decode cX1_tell 91 = .ok (.iconst 1, 1) := dk_4 (dk_at dksX1_tell_3 21 rfl rfl)
theorem dX1_tell_92 : decode cX1_tell 92 = .ok (.invokevirtual 203, 3) := dk_182 0 203 (dk_at dksX1_tell_4 0 rfl rfl)
theorem dX1_tell_95 : decode cX1_tell 95 = .ok (.iload_n 2, 1) := dk_28 (dk_at dksX1_tell_4 3 rfl rfl)
theorem dX1_tell_96 : decode cX1_tell 96 = .ok (.ireturn, 1) := dk_172 (dk_at dksX1_tell_4 4 rfl rfl)
abbrev cX1_begins : ByteArray := prog_15_method_57_code
def yX1_begins : MethodName := ⟨RX1, "begins", "(I)V"⟩
def dkwX1_begins_0 : List UInt8 := [42, 16, 31, 42, 180, 0, 200, 104, 27, 96, 181, 0, 200, 177]
abbrev dktX1_begins_0 : List UInt8 := dkwX1_begins_0 ++ []
theorem dksX1_begins_0 : cX1_begins.data.toList.drop 0 = dktX1_begins_0 := by decide +kernel
theorem dX1_begins_0 : decode cX1_begins 0 = .ok (.aload_n 0, 1) := dk_42 (dk_at dksX1_begins_0 0 rfl rfl)
theorem dX1_begins_1 : decode cX1_begins 1 = .ok (.bipush 31, 2) := dk_16 31 (dk_at dksX1_begins_0 1 rfl rfl)
theorem dX1_begins_3 : decode cX1_begins 3 = .ok (.aload_n 0, 1) := dk_42 (dk_at dksX1_begins_0 3 rfl rfl)
theorem dX1_begins_4 : decode cX1_begins 4 = .ok (.getfield 200, 3) := dk_180 0 200 (dk_at dksX1_begins_0 4 rfl rfl)
theorem dX1_begins_7 : decode cX1_begins 7 = .ok (.imul, 1) := dk_104 (dk_at dksX1_begins_0 7 rfl rfl)
theorem dX1_begins_8 : decode cX1_begins 8 = .ok (.iload_n 1, 1) := dk_27 (dk_at dksX1_begins_0 8 rfl rfl)
theorem dX1_begins_9 : decode cX1_begins 9 = .ok (.iadd, 1) := dk_96 (dk_at dksX1_begins_0 9 rfl rfl)
theorem dX1_begins_10 : decode cX1_begins 10 = .ok (.putfield 200, 3) := dk_181 0 200 (dk_at dksX1_begins_0 10 rfl rfl)
theorem dX1_begins_13 : decode cX1_begins 13 = .ok (.return_, 1) := dk_177 (dk_at dksX1_begins_0 13 rfl rfl)
abbrev cX1_mark : ByteArray := prog_15_method_59_code
def yX1_mark : MethodName := ⟨RX1, "mark", "(I)I"⟩
def dkwX1_mark_1 : List UInt8 := [167, 0, 4, 7, 182, 0, 203, 42, 180, 0, 25, 27, 46, 5, 160, 0, 8, 16, 80, 167, 0, 4, 27, 172]
abbrev dktX1_mark_1 : List UInt8 := dkwX1_mark_1 ++ []
def dkwX1_mark_0 : List UInt8 := [42, 27, 182, 0, 118, 154, 0, 5, 2, 172, 42, 42, 180, 0, 25, 27, 46, 5, 160, 0, 7, 8]
abbrev dktX1_mark_0 : List UInt8 := dkwX1_mark_0 ++ dktX1_mark_1
theorem dksX1_mark_0 : cX1_mark.data.toList.drop 0 = dktX1_mark_0 := by decide +kernel
theorem dksX1_mark_1 : cX1_mark.data.toList.drop 22 = dktX1_mark_1 := dk_seg dksX1_mark_0 22 rfl rfl
theorem dX1_mark_0 : decode cX1_mark 0 = .ok (.aload_n 0, 1) := dk_42 (dk_at dksX1_mark_0 0 rfl rfl)
theorem dX1_mark_1 : decode cX1_mark 1 = .ok (.iload_n 1, 1) := dk_27 (dk_at dksX1_mark_0 1 rfl rfl)
theorem dX1_mark_2 : decode cX1_mark 2 = .ok (.invokevirtual 118, 3) := dk_182 0 118 (dk_at dksX1_mark_0 2 rfl rfl)
theorem dX1_mark_5 : decode cX1_mark 5 = .ok (.ifCond .ne 5, 3) := dk_154 0 5 (dk_at dksX1_mark_0 5 rfl rfl)
theorem dX1_mark_8 : decode cX1_mark 8 = .ok (.iconst (-1), 1) := dk_2 (dk_at dksX1_mark_0 8 rfl rfl)
theorem dX1_mark_9 : decode cX1_mark 9 = .ok (.ireturn, 1) := dk_172 (dk_at dksX1_mark_0 9 rfl rfl)
theorem dX1_mark_10 : decode cX1_mark 10 = .ok (.aload_n 0, 1) := dk_42 (dk_at dksX1_mark_0 10 rfl rfl)
theorem dX1_mark_11 : decode cX1_mark 11 = .ok (.aload_n 0, 1) := dk_42 (dk_at dksX1_mark_0 11 rfl rfl)
theorem dX1_mark_12 : decode cX1_mark 12 = .ok (.getfield 25, 3) := dk_180 0 25 (dk_at dksX1_mark_0 12 rfl rfl)
theorem dX1_mark_15 : decode cX1_mark 15 = .ok (.iload_n 1, 1) := dk_27 (dk_at dksX1_mark_0 15 rfl rfl)
theorem dX1_mark_16 : decode cX1_mark 16 = .ok (.iaload, 1) := dk_46 (dk_at dksX1_mark_0 16 rfl rfl)
theorem dX1_mark_17 : decode cX1_mark 17 = .ok (.iconst 2, 1) := dk_5 (dk_at dksX1_mark_0 17 rfl rfl)
theorem dX1_mark_18 : decode cX1_mark 18 = .ok (.if_icmp .ne 7, 3) := dk_160 0 7 (dk_at dksX1_mark_0 18 rfl rfl)
theorem dX1_mark_21 : decode cX1_mark 21 = .ok (.iconst 5, 1) := dk_8 (dk_at dksX1_mark_0 21 rfl rfl)
theorem dX1_mark_22 : decode cX1_mark 22 = .ok (.goto 4, 3) := dk_167 0 4 (dk_at dksX1_mark_1 0 rfl rfl)
theorem dX1_mark_25 : decode cX1_mark 25 = .ok (.iconst 4, 1) := dk_7 (dk_at dksX1_mark_1 3 rfl rfl)
theorem dX1_mark_26 : decode cX1_mark 26 = .ok (.invokevirtual 203, 3) := dk_182 0 203 (dk_at dksX1_mark_1 4 rfl rfl)
theorem dX1_mark_29 : decode cX1_mark 29 = .ok (.aload_n 0, 1) := dk_42 (dk_at dksX1_mark_1 7 rfl rfl)
theorem dX1_mark_30 : decode cX1_mark 30 = .ok (.getfield 25, 3) := dk_180 0 25 (dk_at dksX1_mark_1 8 rfl rfl)
theorem dX1_mark_33 : decode cX1_mark 33 = .ok (.iload_n 1, 1) := dk_27 (dk_at dksX1_mark_1 11 rfl rfl)
theorem dX1_mark_34 : decode cX1_mark 34 = .ok (.iaload, 1) := dk_46 (dk_at dksX1_mark_1 12 rfl rfl)
theorem dX1_mark_35 : decode cX1_mark 35 = .ok (.iconst 2, 1) := dk_5 (dk_at dksX1_mark_1 13 rfl rfl)
theorem dX1_mark_36 : decode cX1_mark 36 = .ok (.if_icmp .ne 8, 3) := dk_160 0 8 (dk_at dksX1_mark_1 14 rfl rfl)
theorem dX1_mark_39 : decode cX1_mark 39 = .ok (.bipush 80, 2) := dk_16 80 (dk_at dksX1_mark_1 17 rfl rfl)
theorem dX1_mark_41 : decode cX1_mark 41 = .ok (.goto 4, 3) := dk_167 0 4 (dk_at dksX1_mark_1 19 rfl rfl)
theorem dX1_mark_44 : decode cX1_mark 44 = .ok (.iload_n 1, 1) := dk_27 (dk_at dksX1_mark_1 22 rfl rfl)
theorem dX1_mark_45 : decode cX1_mark 45 = .ok (.ireturn, 1) := dk_172 (dk_at dksX1_mark_1 23 rfl rfl)
abbrev cX1_as : ByteArray := prog_15_method_60_code
def yX1_as : MethodName := ⟨RX1, "as", "(II)I"⟩
def dkwX1_as_1 : List UInt8 := [16, 254, 172, 42, 180, 0, 25, 27, 46, 28, 161, 0, 7, 4, 167, 0, 8, 42, 5, 182, 0, 92, 172]
abbrev dktX1_as_1 : List UInt8 := dkwX1_as_1 ++ []
def dkwX1_as_0 : List UInt8 := [42, 3, 181, 0, 62, 42, 27, 182, 0, 118, 154, 0, 5, 2, 172, 28, 3, 5, 184, 0, 67, 154, 0, 6]
abbrev dktX1_as_0 : List UInt8 := dkwX1_as_0 ++ dktX1_as_1
theorem dksX1_as_0 : cX1_as.data.toList.drop 0 = dktX1_as_0 := by decide +kernel
theorem dksX1_as_1 : cX1_as.data.toList.drop 24 = dktX1_as_1 := dk_seg dksX1_as_0 24 rfl rfl
theorem dX1_as_0 : decode cX1_as 0 = .ok (.aload_n 0, 1) := dk_42 (dk_at dksX1_as_0 0 rfl rfl)
theorem dX1_as_1 : decode cX1_as 1 = .ok (.iconst 0, 1) := dk_3 (dk_at dksX1_as_0 1 rfl rfl)
theorem dX1_as_2 : decode cX1_as 2 = .ok (.putfield 62, 3) := dk_181 0 62 (dk_at dksX1_as_0 2 rfl rfl)
theorem dX1_as_5 : decode cX1_as 5 = .ok (.aload_n 0, 1) := dk_42 (dk_at dksX1_as_0 5 rfl rfl)
theorem dX1_as_6 : decode cX1_as 6 = .ok (.iload_n 1, 1) := dk_27 (dk_at dksX1_as_0 6 rfl rfl)
theorem dX1_as_7 : decode cX1_as 7 = .ok (.invokevirtual 118, 3) := dk_182 0 118 (dk_at dksX1_as_0 7 rfl rfl)
theorem dX1_as_10 : decode cX1_as 10 = .ok (.ifCond .ne 5, 3) := dk_154 0 5 (dk_at dksX1_as_0 10 rfl rfl)
theorem dX1_as_13 : decode cX1_as 13 = .ok (.iconst (-1), 1) := dk_2 (dk_at dksX1_as_0 13 rfl rfl)
theorem dX1_as_14 : decode cX1_as 14 = .ok (.ireturn, 1) := dk_172 (dk_at dksX1_as_0 14 rfl rfl)
theorem dX1_as_15 : decode cX1_as 15 = .ok (.iload_n 2, 1) := dk_28 (dk_at dksX1_as_0 15 rfl rfl)
theorem dX1_as_16 : decode cX1_as 16 = .ok (.iconst 0, 1) := dk_3 (dk_at dksX1_as_0 16 rfl rfl)
theorem dX1_as_17 : decode cX1_as 17 = .ok (.iconst 2, 1) := dk_5 (dk_at dksX1_as_0 17 rfl rfl)
theorem dX1_as_18 : decode cX1_as 18 = .ok (.invokestatic 67, 3) := dk_184 0 67 (dk_at dksX1_as_0 18 rfl rfl)
theorem dX1_as_21 : decode cX1_as 21 = .ok (.ifCond .ne 6, 3) := dk_154 0 6 (dk_at dksX1_as_0 21 rfl rfl)
theorem dX1_as_24 : decode cX1_as 24 = .ok (.bipush (-2), 2) := dk_16 254 (dk_at dksX1_as_1 0 rfl rfl)
theorem dX1_as_26 : decode cX1_as 26 = .ok (.ireturn, 1) := dk_172 (dk_at dksX1_as_1 2 rfl rfl)
theorem dX1_as_27 : decode cX1_as 27 = .ok (.aload_n 0, 1) := dk_42 (dk_at dksX1_as_1 3 rfl rfl)
theorem dX1_as_28 : decode cX1_as 28 = .ok (.getfield 25, 3) := dk_180 0 25 (dk_at dksX1_as_1 4 rfl rfl)
theorem dX1_as_31 : decode cX1_as 31 = .ok (.iload_n 1, 1) := dk_27 (dk_at dksX1_as_1 7 rfl rfl)
theorem dX1_as_32 : decode cX1_as 32 = .ok (.iaload, 1) := dk_46 (dk_at dksX1_as_1 8 rfl rfl)
theorem dX1_as_33 : decode cX1_as 33 = .ok (.iload_n 2, 1) := dk_28 (dk_at dksX1_as_1 9 rfl rfl)
theorem dX1_as_34 : decode cX1_as 34 = .ok (.if_icmp .lt 7, 3) := dk_161 0 7 (dk_at dksX1_as_1 10 rfl rfl)
theorem dX1_as_37 : decode cX1_as 37 = .ok (.iconst 1, 1) := dk_4 (dk_at dksX1_as_1 13 rfl rfl)
theorem dX1_as_38 : decode cX1_as 38 = .ok (.goto 8, 3) := dk_167 0 8 (dk_at dksX1_as_1 14 rfl rfl)
theorem dX1_as_41 : decode cX1_as 41 = .ok (.aload_n 0, 1) := dk_42 (dk_at dksX1_as_1 17 rfl rfl)
theorem dX1_as_42 : decode cX1_as 42 = .ok (.iconst 2, 1) := dk_5 (dk_at dksX1_as_1 18 rfl rfl)
theorem dX1_as_43 : decode cX1_as 43 = .ok (.invokevirtual 92, 3) := dk_182 0 92 (dk_at dksX1_as_1 19 rfl rfl)
theorem dX1_as_46 : decode cX1_as 46 = .ok (.ireturn, 1) := dk_172 (dk_at dksX1_as_1 22 rfl rfl)
abbrev cX1_trace : ByteArray := prog_15_method_61_code
def yX1_trace : MethodName := ⟨RX1, "trace", "()I"⟩
theorem dX1_trace_0 : decode cX1_trace 0 = .ok (.aload_n 0, 1) := by decide +kernel
theorem dX1_trace_1 : decode cX1_trace 1 = .ok (.getfield 200, 3) := by decide +kernel
theorem dX1_trace_4 : decode cX1_trace 4 = .ok (.ireturn, 1) := by decide +kernel
abbrev cX1_fault : ByteArray := prog_15_method_62_code
def yX1_fault : MethodName := ⟨RX1, "fault", "()I"⟩
theorem dX1_fault_0 : decode cX1_fault 0 = .ok (.aload_n 0, 1) := by decide +kernel
theorem dX1_fault_1 : decode cX1_fault 1 = .ok (.getfield 62, 3) := by decide +kernel
theorem dX1_fault_4 : decode cX1_fault 4 = .ok (.ireturn, 1) := by decide +kernel
abbrev cX1_many : ByteArray := prog_15_method_64_code
def yX1_many : MethodName := ⟨RX1, "many", "(I)I"⟩
def dkwX1_many_1 : List UInt8 := [5, 160, 0, 10, 42, 180, 0, 105, 167, 0, 5, 16, 254, 172]
abbrev dktX1_many_1 : List UInt8 := dkwX1_many_1 ++ []
def dkwX1_many_0 : List UInt8 := [27, 154, 0, 10, 42, 180, 0, 71, 167, 0, 29, 27, 4, 160, 0, 10, 42, 182, 0, 206, 167, 0, 17, 27]
abbrev dktX1_many_0 : List UInt8 := dkwX1_many_0 ++ dktX1_many_1
theorem dksX1_many_0 : cX1_many.data.toList.drop 0 = dktX1_many_0 := by decide +kernel
theorem dksX1_many_1 : cX1_many.data.toList.drop 24 = dktX1_many_1 := dk_seg dksX1_many_0 24 rfl rfl
theorem dX1_many_0 : decode cX1_many 0 = .ok (.iload_n 1, 1) := dk_27 (dk_at dksX1_many_0 0 rfl rfl)
theorem dX1_many_1 : decode cX1_many 1 = .ok (.ifCond .ne 10, 3) := dk_154 0 10 (dk_at dksX1_many_0 1 rfl rfl)
theorem dX1_many_4 : decode cX1_many 4 = .ok (.aload_n 0, 1) := dk_42 (dk_at dksX1_many_0 4 rfl rfl)
theorem dX1_many_5 : decode cX1_many 5 = .ok (.getfield 71, 3) := dk_180 0 71 (dk_at dksX1_many_0 5 rfl rfl)
theorem dX1_many_8 : decode cX1_many 8 = .ok (.goto 29, 3) := dk_167 0 29 (dk_at dksX1_many_0 8 rfl rfl)
theorem dX1_many_11 : decode cX1_many 11 = .ok (.iload_n 1, 1) := dk_27 (dk_at dksX1_many_0 11 rfl rfl)
theorem dX1_many_12 : decode cX1_many 12 = .ok (.iconst 1, 1) := dk_4 (dk_at dksX1_many_0 12 rfl rfl)
theorem dX1_many_13 : decode cX1_many 13 = .ok (.if_icmp .ne 10, 3) := dk_160 0 10 (dk_at dksX1_many_0 13 rfl rfl)
theorem dX1_many_16 : decode cX1_many 16 = .ok (.aload_n 0, 1) := dk_42 (dk_at dksX1_many_0 16 rfl rfl)
theorem dX1_many_17 : decode cX1_many 17 = .ok (.invokevirtual 206, 3) := dk_182 0 206 (dk_at dksX1_many_0 17 rfl rfl)
theorem dX1_many_20 : decode cX1_many 20 = .ok (.goto 17, 3) := dk_167 0 17 (dk_at dksX1_many_0 20 rfl rfl)
theorem dX1_many_23 : decode cX1_many 23 = .ok (.iload_n 1, 1) := dk_27 (dk_at dksX1_many_0 23 rfl rfl)
theorem dX1_many_24 : decode cX1_many 24 = .ok (.iconst 2, 1) := dk_5 (dk_at dksX1_many_1 0 rfl rfl)
theorem dX1_many_25 : decode cX1_many 25 = .ok (.if_icmp .ne 10, 3) := dk_160 0 10 (dk_at dksX1_many_1 1 rfl rfl)
theorem dX1_many_28 : decode cX1_many 28 = .ok (.aload_n 0, 1) := dk_42 (dk_at dksX1_many_1 4 rfl rfl)
theorem dX1_many_29 : decode cX1_many 29 = .ok (.getfield 105, 3) := dk_180 0 105 (dk_at dksX1_many_1 5 rfl rfl)
theorem dX1_many_32 : decode cX1_many 32 = .ok (.goto 5, 3) := dk_167 0 5 (dk_at dksX1_many_1 8 rfl rfl)
theorem dX1_many_35 : decode cX1_many 35 = .ok (.bipush (-2), 2) := dk_16 254 (dk_at dksX1_many_1 11 rfl rfl)
theorem dX1_many_37 : decode cX1_many 37 = .ok (.ireturn, 1) := dk_172 (dk_at dksX1_many_1 13 rfl rfl)
abbrev cX1_allGive : ByteArray := prog_15_method_63_code
def yX1_allGive : MethodName := ⟨RX1, "allGive", "()I"⟩
def dkwX1_allGive_2 : List UInt8 := [132, 2, 1, 167, 255, 212, 27, 172]
abbrev dktX1_allGive_2 : List UInt8 := dkwX1_allGive_2 ++ []
def dkwX1_allGive_1 : List UInt8 := [182, 0, 136, 153, 0, 16, 42, 5, 28, 182, 0, 136, 153, 0, 7, 4, 167, 0, 4, 3, 96, 60]
abbrev dktX1_allGive_1 : List UInt8 := dkwX1_allGive_1 ++ dktX1_allGive_2
def dkwX1_allGive_0 : List UInt8 := [3, 60, 3, 61, 28, 16, 8, 162, 0, 44, 27, 42, 3, 28, 182, 0, 136, 153, 0, 25, 42, 4, 28]
abbrev dktX1_allGive_0 : List UInt8 := dkwX1_allGive_0 ++ dktX1_allGive_1
theorem dksX1_allGive_0 : cX1_allGive.data.toList.drop 0 = dktX1_allGive_0 := by decide +kernel
theorem dksX1_allGive_1 : cX1_allGive.data.toList.drop 23 = dktX1_allGive_1 := dk_seg dksX1_allGive_0 23 rfl rfl
theorem dksX1_allGive_2 : cX1_allGive.data.toList.drop 45 = dktX1_allGive_2 := dk_seg dksX1_allGive_1 22 rfl rfl
theorem dX1_allGive_0 : decode cX1_allGive 0 = .ok (.iconst 0, 1) := dk_3 (dk_at dksX1_allGive_0 0 rfl rfl)
theorem dX1_allGive_1 : decode cX1_allGive 1 = .ok (.istore_n 1, 1) := dk_60 (dk_at dksX1_allGive_0 1 rfl rfl)
theorem dX1_allGive_2 : decode cX1_allGive 2 = .ok (.iconst 0, 1) := dk_3 (dk_at dksX1_allGive_0 2 rfl rfl)
theorem dX1_allGive_3 : decode cX1_allGive 3 = .ok (.istore_n 2, 1) := dk_61 (dk_at dksX1_allGive_0 3 rfl rfl)
theorem dX1_allGive_4 : decode cX1_allGive 4 = .ok (.iload_n 2, 1) := dk_28 (dk_at dksX1_allGive_0 4 rfl rfl)
theorem dX1_allGive_5 : decode cX1_allGive 5 = .ok (.bipush 8, 2) := dk_16 8 (dk_at dksX1_allGive_0 5 rfl rfl)
theorem dX1_allGive_7 : decode cX1_allGive 7 = .ok (.if_icmp .ge 44, 3) := dk_162 0 44 (dk_at dksX1_allGive_0 7 rfl rfl)
theorem dX1_allGive_10 : decode cX1_allGive 10 = .ok (.iload_n 1, 1) := dk_27 (dk_at dksX1_allGive_0 10 rfl rfl)
theorem dX1_allGive_11 : decode cX1_allGive 11 = .ok (.aload_n 0, 1) := dk_42 (dk_at dksX1_allGive_0 11 rfl rfl)
theorem dX1_allGive_12 : decode cX1_allGive 12 = .ok (.iconst 0, 1) := dk_3 (dk_at dksX1_allGive_0 12 rfl rfl)
theorem dX1_allGive_13 : decode cX1_allGive 13 = .ok (.iload_n 2, 1) := dk_28 (dk_at dksX1_allGive_0 13 rfl rfl)
theorem dX1_allGive_14 : decode cX1_allGive 14 = .ok (.invokevirtual 136, 3) := dk_182 0 136 (dk_at dksX1_allGive_0 14 rfl rfl)
theorem dX1_allGive_17 : decode cX1_allGive 17 = .ok (.ifCond .eq 25, 3) := dk_153 0 25 (dk_at dksX1_allGive_0 17 rfl rfl)
theorem dX1_allGive_20 : decode cX1_allGive 20 = .ok (.aload_n 0, 1) := dk_42 (dk_at dksX1_allGive_0 20 rfl rfl)
theorem dX1_allGive_21 : decode cX1_allGive 21 = .ok (.iconst 1, 1) := dk_4 (dk_at dksX1_allGive_0 21 rfl rfl)
theorem dX1_allGive_22 : decode cX1_allGive 22 = .ok (.iload_n 2, 1) := dk_28 (dk_at dksX1_allGive_0 22 rfl rfl)
theorem dX1_allGive_23 : decode cX1_allGive 23 = .ok (.invokevirtual 136, 3) := dk_182 0 136 (dk_at dksX1_allGive_1 0 rfl rfl)
theorem dX1_allGive_26 : decode cX1_allGive 26 = .ok (.ifCond .eq 16, 3) := dk_153 0 16 (dk_at dksX1_allGive_1 3 rfl rfl)
theorem dX1_allGive_29 : decode cX1_allGive 29 = .ok (.aload_n 0, 1) := dk_42 (dk_at dksX1_allGive_1 6 rfl rfl)
theorem dX1_allGive_30 : decode cX1_allGive 30 = .ok (.iconst 2, 1) := dk_5 (dk_at dksX1_allGive_1 7 rfl rfl)
theorem dX1_allGive_31 : decode cX1_allGive 31 = .ok (.iload_n 2, 1) := dk_28 (dk_at dksX1_allGive_1 8 rfl rfl)
theorem dX1_allGive_32 : decode cX1_allGive 32 = .ok (.invokevirtual 136, 3) := dk_182 0 136 (dk_at dksX1_allGive_1 9 rfl rfl)
theorem dX1_allGive_35 : decode cX1_allGive 35 = .ok (.ifCond .eq 7, 3) := dk_153 0 7 (dk_at dksX1_allGive_1 12 rfl rfl)
theorem dX1_allGive_38 : decode cX1_allGive 38 = .ok (.iconst 1, 1) := dk_4 (dk_at dksX1_allGive_1 15 rfl rfl)
theorem dX1_allGive_39 : decode cX1_allGive 39 = .ok (.goto 4, 3) := dk_167 0 4 (dk_at dksX1_allGive_1 16 rfl rfl)
theorem dX1_allGive_42 : decode cX1_allGive 42 = .ok (.iconst 0, 1) := dk_3 (dk_at dksX1_allGive_1 19 rfl rfl)
theorem dX1_allGive_43 : decode cX1_allGive 43 = .ok (.iadd, 1) := dk_96 (dk_at dksX1_allGive_1 20 rfl rfl)
theorem dX1_allGive_44 : decode cX1_allGive 44 = .ok (.istore_n 1, 1) := dk_60 (dk_at dksX1_allGive_1 21 rfl rfl)
theorem dX1_allGive_45 : decode cX1_allGive 45 = .ok (.iinc 2 1, 3) := dk_132 2 1 (dk_at dksX1_allGive_2 0 rfl rfl)
theorem dX1_allGive_48 : decode cX1_allGive 48 = .ok (.goto (-44), 3) := dk_167 255 212 (dk_at dksX1_allGive_2 3 rfl rfl)
theorem dX1_allGive_51 : decode cX1_allGive 51 = .ok (.iload_n 1, 1) := dk_27 (dk_at dksX1_allGive_2 6 rfl rfl)
theorem dX1_allGive_52 : decode cX1_allGive 52 = .ok (.ireturn, 1) := dk_172 (dk_at dksX1_allGive_2 7 rfl rfl)
theorem q56 : (Jvm.Cond.initialized "CheeseValleysModel") ∈ lw_all := lw_g (lw_at lw_m1 5 rfl) rfl
theorem q428 : (Jvm.Cond.selects "CheeseValleysModel" ({ cls := "java/lang/Object", name := "getClass", desc := "()Ljava/lang/Class;" } : Jvm.MethodName) ({ cls := "java/lang/Object", name := "getClass", desc := "()Ljava/lang/Class;" } : Jvm.MethodName)) ∈ lw_all := lw_g (lw_at lw_m2 137 rfl) rfl
theorem q1150 : (Jvm.Cond.instantiable "CheeseValleysModel" (29 : Nat)) ∈ lw_all := lw_g (lw_at lw_m5 139 rfl) rfl
theorem q1152 : (Jvm.Cond.instanceMethod ({ cls := "CheeseValleysModel", name := "<init>", desc := "()V" } : Jvm.MethodName)) ∈ lw_all := lw_g (lw_at lw_m5 141 rfl) rfl
theorem q1153 : (Jvm.Cond.code ({ cls := "CheeseValleysModel", name := "<init>", desc := "()V" } : Jvm.MethodName) prog_15_method_1_code (1 : Nat) (Option.none : Option Jvm.ClassFile.FieldType)) ∈ lw_all := lw_g (lw_at lw_m5 142 rfl) rfl
theorem q1154 : (Jvm.Cond.methodLink "CheeseValleysModel" (1 : Nat) ({ cls := "java/lang/Object", name := "<init>", desc := "()V" } : Jvm.MethodName)) ∈ lw_all := lw_g (lw_at lw_m5 143 rfl) rfl
theorem q1155 : (Jvm.Cond.fieldLink "CheeseValleysModel" (62 : Nat) "CheeseValleysModel" "fault" "I") ∈ lw_all := lw_g (lw_at lw_m5 144 rfl) rfl
theorem q1156 : (Jvm.Cond.fieldLink "CheeseValleysModel" (200 : Nat) "CheeseValleysModel" "trace" "I") ∈ lw_all := lw_g (lw_at lw_m5 145 rfl) rfl
theorem q1157 : (Jvm.Cond.fieldLink "CheeseValleysModel" (9 : Nat) "CheeseValleysModel" "sorts" "[I") ∈ lw_all := lw_g (lw_at lw_m5 146 rfl) rfl
theorem q1158 : (Jvm.Cond.fieldLink "CheeseValleysModel" (13 : Nat) "CheeseValleysModel" "sheetLong" "[I") ∈ lw_all := lw_g (lw_at lw_m5 147 rfl) rfl
theorem q1159 : (Jvm.Cond.fieldLink "CheeseValleysModel" (16 : Nat) "CheeseValleysModel" "cells" "[I") ∈ lw_all := lw_g (lw_at lw_m5 148 rfl) rfl
theorem q1160 : (Jvm.Cond.fieldLink "CheeseValleysModel" (71 : Nat) "CheeseValleysModel" "passes" "I") ∈ lw_all := lw_g (lw_at lw_m5 149 rfl) rfl
theorem q1161 : (Jvm.Cond.fieldLink "CheeseValleysModel" (19 : Nat) "CheeseValleysModel" "snowOf" "[I") ∈ lw_all := lw_g (lw_at lw_m5 150 rfl) rfl
theorem q1162 : (Jvm.Cond.fieldLink "CheeseValleysModel" (22 : Nat) "CheeseValleysModel" "gives" "[I") ∈ lw_all := lw_g (lw_at lw_m5 151 rfl) rfl
theorem q1163 : (Jvm.Cond.fieldLink "CheeseValleysModel" (25 : Nat) "CheeseValleysModel" "kind" "[I") ∈ lw_all := lw_g (lw_at lw_m5 152 rfl) rfl
theorem q1164 : (Jvm.Cond.fieldLink "CheeseValleysModel" (28 : Nat) "CheeseValleysModel" "from" "[I") ∈ lw_all := lw_g (lw_at lw_m5 153 rfl) rfl
theorem q1165 : (Jvm.Cond.fieldLink "CheeseValleysModel" (31 : Nat) "CheeseValleysModel" "to" "[I") ∈ lw_all := lw_g (lw_at lw_m5 154 rfl) rfl
theorem q1166 : (Jvm.Cond.fieldLink "CheeseValleysModel" (34 : Nat) "CheeseValleysModel" "length" "[I") ∈ lw_all := lw_g (lw_at lw_m5 155 rfl) rfl
theorem q1167 : (Jvm.Cond.fieldLink "CheeseValleysModel" (37 : Nat) "CheeseValleysModel" "high" "[I") ∈ lw_all := lw_g (lw_at lw_m5 156 rfl) rfl
theorem q1168 : (Jvm.Cond.fieldLink "CheeseValleysModel" (40 : Nat) "CheeseValleysModel" "missing" "I") ∈ lw_all := lw_g (lw_at lw_m5 157 rfl) rfl
theorem q1169 : (Jvm.Cond.fieldLink "CheeseValleysModel" (74 : Nat) "CheeseValleysModel" "at" "I") ∈ lw_all := lw_g (lw_at lw_m5 158 rfl) rfl
theorem q1170 : (Jvm.Cond.fieldLink "CheeseValleysModel" (102 : Nat) "CheeseValleysModel" "readMany" "I") ∈ lw_all := lw_g (lw_at lw_m5 159 rfl) rfl
theorem q1171 : (Jvm.Cond.fieldLink "CheeseValleysModel" (44 : Nat) "CheeseValleysModel" "readSnow" "[I") ∈ lw_all := lw_g (lw_at lw_m5 160 rfl) rfl
theorem q1172 : (Jvm.Cond.fieldLink "CheeseValleysModel" (47 : Nat) "CheeseValleysModel" "readGives" "[I") ∈ lw_all := lw_g (lw_at lw_m5 161 rfl) rfl
theorem q1173 : (Jvm.Cond.fieldLink "CheeseValleysModel" (50 : Nat) "CheeseValleysModel" "read" "[I") ∈ lw_all := lw_g (lw_at lw_m5 162 rfl) rfl
theorem q1174 : (Jvm.Cond.fieldLink "CheeseValleysModel" (53 : Nat) "CheeseValleysModel" "fewest" "[I") ∈ lw_all := lw_g (lw_at lw_m5 163 rfl) rfl
theorem q1175 : (Jvm.Cond.fieldLink "CheeseValleysModel" (139 : Nat) "CheeseValleysModel" "doneOn" "I") ∈ lw_all := lw_g (lw_at lw_m5 164 rfl) rfl
theorem q1176 : (Jvm.Cond.fieldLink "CheeseValleysModel" (142 : Nat) "CheeseValleysModel" "doneHoles" "I") ∈ lw_all := lw_g (lw_at lw_m5 165 rfl) rfl
theorem q1177 : (Jvm.Cond.fieldLink "CheeseValleysModel" (167 : Nat) "CheeseValleysModel" "dayNow" "I") ∈ lw_all := lw_g (lw_at lw_m5 166 rfl) rfl
theorem q1178 : (Jvm.Cond.fieldLink "CheeseValleysModel" (173 : Nat) "CheeseValleysModel" "valleyNow" "I") ∈ lw_all := lw_g (lw_at lw_m5 167 rfl) rfl
theorem q1179 : (Jvm.Cond.fieldLink "CheeseValleysModel" (164 : Nat) "CheeseValleysModel" "stateNow" "I") ∈ lw_all := lw_g (lw_at lw_m5 168 rfl) rfl
theorem q1180 : (Jvm.Cond.fieldLink "CheeseValleysModel" (170 : Nat) "CheeseValleysModel" "holesNow" "I") ∈ lw_all := lw_g (lw_at lw_m5 169 rfl) rfl
theorem q1181 : (Jvm.Cond.fieldLink "CheeseValleysModel" (105 : Nat) "CheeseValleysModel" "readings" "I") ∈ lw_all := lw_g (lw_at lw_m5 170 rfl) rfl
theorem q1182 : (Jvm.Cond.fieldLink "CheeseValleysModel" (56 : Nat) "CheeseValleysModel" "readDay" "[I") ∈ lw_all := lw_g (lw_at lw_m5 171 rfl) rfl
theorem q1183 : (Jvm.Cond.fieldLink "CheeseValleysModel" (59 : Nat) "CheeseValleysModel" "readDone" "[I") ∈ lw_all := lw_g (lw_at lw_m5 172 rfl) rfl
theorem q1184 : (Jvm.Cond.lays "CheeseValleysModel" "CheeseValleysModel" "fault" "I") ∈ lw_all := lw_g (lw_at lw_m5 173 rfl) rfl
theorem q1185 : (Jvm.Cond.soleField "CheeseValleysModel" "fault") ∈ lw_all := lw_g (lw_at lw_m5 174 rfl) rfl
theorem q1186 : (Jvm.Cond.lays "CheeseValleysModel" "CheeseValleysModel" "trace" "I") ∈ lw_all := lw_g (lw_at lw_m5 175 rfl) rfl
theorem q1187 : (Jvm.Cond.soleField "CheeseValleysModel" "trace") ∈ lw_all := lw_g (lw_at lw_m5 176 rfl) rfl
theorem q1188 : (Jvm.Cond.laysFinal "CheeseValleysModel" "CheeseValleysModel" "sorts" "[I") ∈ lw_all := lw_g (lw_at lw_m5 177 rfl) rfl
theorem q1189 : (Jvm.Cond.soleField "CheeseValleysModel" "sorts") ∈ lw_all := lw_g (lw_at lw_m5 178 rfl) rfl
theorem q1190 : (Jvm.Cond.laysFinal "CheeseValleysModel" "CheeseValleysModel" "sheetLong" "[I") ∈ lw_all := lw_g (lw_at lw_m5 179 rfl) rfl
theorem q1191 : (Jvm.Cond.soleField "CheeseValleysModel" "sheetLong") ∈ lw_all := lw_g (lw_at lw_m5 180 rfl) rfl
theorem q1192 : (Jvm.Cond.laysFinal "CheeseValleysModel" "CheeseValleysModel" "cells" "[I") ∈ lw_all := lw_g (lw_at lw_m5 181 rfl) rfl
theorem q1193 : (Jvm.Cond.soleField "CheeseValleysModel" "cells") ∈ lw_all := lw_g (lw_at lw_m5 182 rfl) rfl
theorem q1194 : (Jvm.Cond.lays "CheeseValleysModel" "CheeseValleysModel" "passes" "I") ∈ lw_all := lw_g (lw_at lw_m5 183 rfl) rfl
theorem q1195 : (Jvm.Cond.soleField "CheeseValleysModel" "passes") ∈ lw_all := lw_g (lw_at lw_m5 184 rfl) rfl
theorem q1196 : (Jvm.Cond.laysFinal "CheeseValleysModel" "CheeseValleysModel" "snowOf" "[I") ∈ lw_all := lw_g (lw_at lw_m5 185 rfl) rfl
theorem q1197 : (Jvm.Cond.soleField "CheeseValleysModel" "snowOf") ∈ lw_all := lw_g (lw_at lw_m5 186 rfl) rfl
theorem q1198 : (Jvm.Cond.laysFinal "CheeseValleysModel" "CheeseValleysModel" "gives" "[I") ∈ lw_all := lw_g (lw_at lw_m5 187 rfl) rfl
theorem q1199 : (Jvm.Cond.soleField "CheeseValleysModel" "gives") ∈ lw_all := lw_g (lw_at lw_m5 188 rfl) rfl
theorem q1200 : (Jvm.Cond.laysFinal "CheeseValleysModel" "CheeseValleysModel" "kind" "[I") ∈ lw_all := lw_g (lw_at lw_m5 189 rfl) rfl
theorem q1201 : (Jvm.Cond.soleField "CheeseValleysModel" "kind") ∈ lw_all := lw_g (lw_at lw_m5 190 rfl) rfl
theorem q1202 : (Jvm.Cond.laysFinal "CheeseValleysModel" "CheeseValleysModel" "from" "[I") ∈ lw_all := lw_g (lw_at lw_m5 191 rfl) rfl
theorem q1203 : (Jvm.Cond.soleField "CheeseValleysModel" "from") ∈ lw_all := lw_g (lw_at lw_m5 192 rfl) rfl
theorem q1204 : (Jvm.Cond.laysFinal "CheeseValleysModel" "CheeseValleysModel" "to" "[I") ∈ lw_all := lw_g (lw_at lw_m5 193 rfl) rfl
theorem q1205 : (Jvm.Cond.soleField "CheeseValleysModel" "to") ∈ lw_all := lw_g (lw_at lw_m5 194 rfl) rfl
theorem q1206 : (Jvm.Cond.laysFinal "CheeseValleysModel" "CheeseValleysModel" "length" "[I") ∈ lw_all := lw_g (lw_at lw_m5 195 rfl) rfl
theorem q1207 : (Jvm.Cond.soleField "CheeseValleysModel" "length") ∈ lw_all := lw_g (lw_at lw_m5 196 rfl) rfl
theorem q1208 : (Jvm.Cond.laysFinal "CheeseValleysModel" "CheeseValleysModel" "high" "[I") ∈ lw_all := lw_g (lw_at lw_m5 197 rfl) rfl
theorem q1209 : (Jvm.Cond.soleField "CheeseValleysModel" "high") ∈ lw_all := lw_g (lw_at lw_m5 198 rfl) rfl
theorem q1210 : (Jvm.Cond.lays "CheeseValleysModel" "CheeseValleysModel" "missing" "I") ∈ lw_all := lw_g (lw_at lw_m5 199 rfl) rfl
theorem q1211 : (Jvm.Cond.soleField "CheeseValleysModel" "missing") ∈ lw_all := lw_g (lw_at lw_m5 200 rfl) rfl
theorem q1212 : (Jvm.Cond.lays "CheeseValleysModel" "CheeseValleysModel" "at" "I") ∈ lw_all := lw_g (lw_at lw_m5 201 rfl) rfl
theorem q1213 : (Jvm.Cond.soleField "CheeseValleysModel" "at") ∈ lw_all := lw_g (lw_at lw_m5 202 rfl) rfl
theorem q1214 : (Jvm.Cond.lays "CheeseValleysModel" "CheeseValleysModel" "readMany" "I") ∈ lw_all := lw_g (lw_at lw_m5 203 rfl) rfl
theorem q1215 : (Jvm.Cond.soleField "CheeseValleysModel" "readMany") ∈ lw_all := lw_g (lw_at lw_m5 204 rfl) rfl
theorem q1216 : (Jvm.Cond.laysFinal "CheeseValleysModel" "CheeseValleysModel" "readSnow" "[I") ∈ lw_all := lw_g (lw_at lw_m5 205 rfl) rfl
theorem q1217 : (Jvm.Cond.soleField "CheeseValleysModel" "readSnow") ∈ lw_all := lw_g (lw_at lw_m5 206 rfl) rfl
theorem q1218 : (Jvm.Cond.laysFinal "CheeseValleysModel" "CheeseValleysModel" "readGives" "[I") ∈ lw_all := lw_g (lw_at lw_m5 207 rfl) rfl
theorem q1219 : (Jvm.Cond.soleField "CheeseValleysModel" "readGives") ∈ lw_all := lw_g (lw_at lw_m5 208 rfl) rfl
theorem q1220 : (Jvm.Cond.laysFinal "CheeseValleysModel" "CheeseValleysModel" "read" "[I") ∈ lw_all := lw_g (lw_at lw_m5 209 rfl) rfl
theorem q1221 : (Jvm.Cond.soleField "CheeseValleysModel" "read") ∈ lw_all := lw_g (lw_at lw_m5 210 rfl) rfl
theorem q1222 : (Jvm.Cond.laysFinal "CheeseValleysModel" "CheeseValleysModel" "fewest" "[I") ∈ lw_all := lw_g (lw_at lw_m5 211 rfl) rfl
theorem q1223 : (Jvm.Cond.soleField "CheeseValleysModel" "fewest") ∈ lw_all := lw_g (lw_at lw_m5 212 rfl) rfl
theorem q1224 : (Jvm.Cond.lays "CheeseValleysModel" "CheeseValleysModel" "doneOn" "I") ∈ lw_all := lw_g (lw_at lw_m5 213 rfl) rfl
theorem q1225 : (Jvm.Cond.soleField "CheeseValleysModel" "doneOn") ∈ lw_all := lw_g (lw_at lw_m5 214 rfl) rfl
theorem q1226 : (Jvm.Cond.lays "CheeseValleysModel" "CheeseValleysModel" "doneHoles" "I") ∈ lw_all := lw_g (lw_at lw_m5 215 rfl) rfl
theorem q1227 : (Jvm.Cond.soleField "CheeseValleysModel" "doneHoles") ∈ lw_all := lw_g (lw_at lw_m5 216 rfl) rfl
theorem q1228 : (Jvm.Cond.lays "CheeseValleysModel" "CheeseValleysModel" "dayNow" "I") ∈ lw_all := lw_g (lw_at lw_m5 217 rfl) rfl
theorem q1229 : (Jvm.Cond.soleField "CheeseValleysModel" "dayNow") ∈ lw_all := lw_g (lw_at lw_m5 218 rfl) rfl
theorem q1230 : (Jvm.Cond.lays "CheeseValleysModel" "CheeseValleysModel" "valleyNow" "I") ∈ lw_all := lw_g (lw_at lw_m5 219 rfl) rfl
theorem q1231 : (Jvm.Cond.soleField "CheeseValleysModel" "valleyNow") ∈ lw_all := lw_g (lw_at lw_m5 220 rfl) rfl
theorem q1232 : (Jvm.Cond.lays "CheeseValleysModel" "CheeseValleysModel" "stateNow" "I") ∈ lw_all := lw_g (lw_at lw_m5 221 rfl) rfl
theorem q1233 : (Jvm.Cond.soleField "CheeseValleysModel" "stateNow") ∈ lw_all := lw_g (lw_at lw_m5 222 rfl) rfl
theorem q1234 : (Jvm.Cond.lays "CheeseValleysModel" "CheeseValleysModel" "holesNow" "I") ∈ lw_all := lw_g (lw_at lw_m5 223 rfl) rfl
theorem q1235 : (Jvm.Cond.soleField "CheeseValleysModel" "holesNow") ∈ lw_all := lw_g (lw_at lw_m5 224 rfl) rfl
theorem q1236 : (Jvm.Cond.lays "CheeseValleysModel" "CheeseValleysModel" "readings" "I") ∈ lw_all := lw_g (lw_at lw_m5 225 rfl) rfl
theorem q1237 : (Jvm.Cond.soleField "CheeseValleysModel" "readings") ∈ lw_all := lw_g (lw_at lw_m5 226 rfl) rfl
theorem q1238 : (Jvm.Cond.laysFinal "CheeseValleysModel" "CheeseValleysModel" "readDay" "[I") ∈ lw_all := lw_g (lw_at lw_m5 227 rfl) rfl
theorem q1239 : (Jvm.Cond.soleField "CheeseValleysModel" "readDay") ∈ lw_all := lw_g (lw_at lw_m5 228 rfl) rfl
theorem q1240 : (Jvm.Cond.laysFinal "CheeseValleysModel" "CheeseValleysModel" "readDone" "[I") ∈ lw_all := lw_g (lw_at lw_m5 229 rfl) rfl
theorem q1241 : (Jvm.Cond.soleField "CheeseValleysModel" "readDone") ∈ lw_all := lw_g (lw_at lw_m5 230 rfl) rfl
theorem q1242 : (Jvm.Cond.superclass "CheeseValleysModel" "java/lang/Object") ∈ lw_all := lw_g (lw_at lw_m5 231 rfl) rfl
theorem q1244 : (Jvm.Cond.instanceMethod ({ cls := "CheeseValleysModel", name := "land", desc := "(IIII)I" } : Jvm.MethodName)) ∈ lw_all := lw_g (lw_at lw_m5 233 rfl) rfl
theorem q1245 : (Jvm.Cond.selects "CheeseValleysModel" ({ cls := "CheeseValleysModel", name := "land", desc := "(IIII)I" } : Jvm.MethodName) ({ cls := "CheeseValleysModel", name := "land", desc := "(IIII)I" } : Jvm.MethodName)) ∈ lw_all := lw_g (lw_at lw_m5 234 rfl) rfl
theorem q1246 : (Jvm.Cond.code ({ cls := "CheeseValleysModel", name := "land", desc := "(IIII)I" } : Jvm.MethodName) prog_15_method_15_code (7 : Nat) (Option.some Jvm.ClassFile.FieldType.int)) ∈ lw_all := lw_g (lw_at lw_m5 235 rfl) rfl
theorem q1247 : (Jvm.Cond.methodLink "CheeseValleysModel" (81 : Nat) ({ cls := "CheeseValleysModel", name := "isSheet", desc := "(I)Z" } : Jvm.MethodName)) ∈ lw_all := lw_g (lw_at lw_m5 236 rfl) rfl
theorem q1248 : (Jvm.Cond.static ({ cls := "CheeseValleysModel", name := "isSheet", desc := "(I)Z" } : Jvm.MethodName)) ∈ lw_all := lw_g (lw_at lw_m5 237 rfl) rfl
theorem q1249 : (Jvm.Cond.code ({ cls := "CheeseValleysModel", name := "isSheet", desc := "(I)Z" } : Jvm.MethodName) prog_15_method_6_code (1 : Nat) (Option.some Jvm.ClassFile.FieldType.boolean)) ∈ lw_all := lw_g (lw_at lw_m5 238 rfl) rfl
theorem q1250 : (Jvm.Cond.methodLink "CheeseValleysModel" (67 : Nat) ({ cls := "CheeseValleysModel", name := "within", desc := "(III)Z" } : Jvm.MethodName)) ∈ lw_all := lw_g (lw_at lw_m5 239 rfl) rfl
theorem q1251 : (Jvm.Cond.static ({ cls := "CheeseValleysModel", name := "within", desc := "(III)Z" } : Jvm.MethodName)) ∈ lw_all := lw_g (lw_at lw_m6 0 rfl) rfl
theorem q1252 : (Jvm.Cond.code ({ cls := "CheeseValleysModel", name := "within", desc := "(III)Z" } : Jvm.MethodName) prog_15_method_5_code (3 : Nat) (Option.some Jvm.ClassFile.FieldType.boolean)) ∈ lw_all := lw_g (lw_at lw_m6 1 rfl) rfl
theorem q1253 : (Jvm.Cond.methodLink "CheeseValleysModel" (85 : Nat) ({ cls := "CheeseValleysModel", name := "isSort", desc := "(I)Z" } : Jvm.MethodName)) ∈ lw_all := lw_g (lw_at lw_m6 2 rfl) rfl
theorem q1254 : (Jvm.Cond.static ({ cls := "CheeseValleysModel", name := "isSort", desc := "(I)Z" } : Jvm.MethodName)) ∈ lw_all := lw_g (lw_at lw_m6 3 rfl) rfl
theorem q1255 : (Jvm.Cond.code ({ cls := "CheeseValleysModel", name := "isSort", desc := "(I)Z" } : Jvm.MethodName) prog_15_method_7_code (1 : Nat) (Option.some Jvm.ClassFile.FieldType.boolean)) ∈ lw_all := lw_g (lw_at lw_m6 4 rfl) rfl
theorem q1256 : (Jvm.Cond.methodLink "CheeseValleysModel" (88 : Nat) ({ cls := "CheeseValleysModel", name := "against", desc := "(IIII)I" } : Jvm.MethodName)) ∈ lw_all := lw_g (lw_at lw_m6 5 rfl) rfl
theorem q1257 : (Jvm.Cond.privateMethod ({ cls := "CheeseValleysModel", name := "against", desc := "(IIII)I" } : Jvm.MethodName)) ∈ lw_tbl := lw_at lw_m6 6 rfl
theorem q1258 : (Jvm.Cond.instanceMethod ({ cls := "CheeseValleysModel", name := "against", desc := "(IIII)I" } : Jvm.MethodName)) ∈ lw_all := lw_g (lw_at lw_m6 7 rfl) rfl
theorem q1259 : (Jvm.Cond.code ({ cls := "CheeseValleysModel", name := "against", desc := "(IIII)I" } : Jvm.MethodName) prog_15_method_8_code (5 : Nat) (Option.some Jvm.ClassFile.FieldType.int)) ∈ lw_all := lw_g (lw_at lw_m6 8 rfl) rfl
theorem q1260 : (Jvm.Cond.methodLink "CheeseValleysModel" (92 : Nat) ({ cls := "CheeseValleysModel", name := "fails", desc := "(I)I" } : Jvm.MethodName)) ∈ lw_all := lw_g (lw_at lw_m6 9 rfl) rfl
theorem q1261 : (Jvm.Cond.privateMethod ({ cls := "CheeseValleysModel", name := "fails", desc := "(I)I" } : Jvm.MethodName)) ∈ lw_tbl := lw_at lw_m6 10 rfl
theorem q1262 : (Jvm.Cond.instanceMethod ({ cls := "CheeseValleysModel", name := "fails", desc := "(I)I" } : Jvm.MethodName)) ∈ lw_all := lw_g (lw_at lw_m6 11 rfl) rfl
theorem q1263 : (Jvm.Cond.code ({ cls := "CheeseValleysModel", name := "fails", desc := "(I)I" } : Jvm.MethodName) prog_15_method_3_code (2 : Nat) (Option.some Jvm.ClassFile.FieldType.int)) ∈ lw_all := lw_g (lw_at lw_m6 12 rfl) rfl
theorem q1264 : (Jvm.Cond.methodLink "CheeseValleysModel" (96 : Nat) ({ cls := "CheeseValleysModel", name := "readLand", desc := "(I)Z" } : Jvm.MethodName)) ∈ lw_all := lw_g (lw_at lw_m6 13 rfl) rfl
theorem q1265 : (Jvm.Cond.privateMethod ({ cls := "CheeseValleysModel", name := "readLand", desc := "(I)Z" } : Jvm.MethodName)) ∈ lw_tbl := lw_at lw_m6 14 rfl
theorem q1266 : (Jvm.Cond.instanceMethod ({ cls := "CheeseValleysModel", name := "readLand", desc := "(I)Z" } : Jvm.MethodName)) ∈ lw_all := lw_g (lw_at lw_m6 15 rfl) rfl
theorem q1267 : (Jvm.Cond.code ({ cls := "CheeseValleysModel", name := "readLand", desc := "(I)Z" } : Jvm.MethodName) prog_15_method_17_code (3 : Nat) (Option.some Jvm.ClassFile.FieldType.boolean)) ∈ lw_all := lw_g (lw_at lw_m6 16 rfl) rfl
theorem q1268 : (Jvm.Cond.methodLink "CheeseValleysModel" (108 : Nat) ({ cls := "CheeseValleysModel", name := "isSign", desc := "(II)Z" } : Jvm.MethodName)) ∈ lw_all := lw_g (lw_at lw_m6 17 rfl) rfl
theorem q1269 : (Jvm.Cond.privateMethod ({ cls := "CheeseValleysModel", name := "isSign", desc := "(II)Z" } : Jvm.MethodName)) ∈ lw_tbl := lw_at lw_m6 18 rfl
theorem q1270 : (Jvm.Cond.instanceMethod ({ cls := "CheeseValleysModel", name := "isSign", desc := "(II)Z" } : Jvm.MethodName)) ∈ lw_all := lw_g (lw_at lw_m6 19 rfl) rfl
theorem q1271 : (Jvm.Cond.code ({ cls := "CheeseValleysModel", name := "isSign", desc := "(II)Z" } : Jvm.MethodName) prog_15_method_13_code (3 : Nat) (Option.some Jvm.ClassFile.FieldType.boolean)) ∈ lw_all := lw_g (lw_at lw_m6 20 rfl) rfl
theorem q1272 : (Jvm.Cond.methodLink "CheeseValleysModel" (77 : Nat) ({ cls := "CheeseValleysModel", name := "digit", desc := "(III)I" } : Jvm.MethodName)) ∈ lw_all := lw_g (lw_at lw_m6 21 rfl) rfl
theorem q1273 : (Jvm.Cond.privateMethod ({ cls := "CheeseValleysModel", name := "digit", desc := "(III)I" } : Jvm.MethodName)) ∈ lw_tbl := lw_at lw_m6 22 rfl
theorem q1274 : (Jvm.Cond.instanceMethod ({ cls := "CheeseValleysModel", name := "digit", desc := "(III)I" } : Jvm.MethodName)) ∈ lw_all := lw_g (lw_at lw_m6 23 rfl) rfl
theorem q1275 : (Jvm.Cond.code ({ cls := "CheeseValleysModel", name := "digit", desc := "(III)I" } : Jvm.MethodName) prog_15_method_12_code (4 : Nat) (Option.some Jvm.ClassFile.FieldType.int)) ∈ lw_all := lw_g (lw_at lw_m6 24 rfl) rfl
theorem q1276 : (Jvm.Cond.methodLink "CheeseValleysModel" (112 : Nat) ({ cls := "CheeseValleysModel", name := "readSet", desc := "(I)I" } : Jvm.MethodName)) ∈ lw_all := lw_g (lw_at lw_m6 25 rfl) rfl
theorem q1277 : (Jvm.Cond.privateMethod ({ cls := "CheeseValleysModel", name := "readSet", desc := "(I)I" } : Jvm.MethodName)) ∈ lw_tbl := lw_at lw_m6 26 rfl
theorem q1278 : (Jvm.Cond.instanceMethod ({ cls := "CheeseValleysModel", name := "readSet", desc := "(I)I" } : Jvm.MethodName)) ∈ lw_all := lw_g (lw_at lw_m6 27 rfl) rfl
theorem q1279 : (Jvm.Cond.code ({ cls := "CheeseValleysModel", name := "readSet", desc := "(I)I" } : Jvm.MethodName) prog_15_method_14_code (5 : Nat) (Option.some Jvm.ClassFile.FieldType.int)) ∈ lw_all := lw_g (lw_at lw_m6 28 rfl) rfl
theorem q1280 : (Jvm.Cond.methodLink "CheeseValleysModel" (115 : Nat) ({ cls := "CheeseValleysModel", name := "readPass", desc := "(I)Z" } : Jvm.MethodName)) ∈ lw_all := lw_g (lw_at lw_m6 29 rfl) rfl
theorem q1281 : (Jvm.Cond.privateMethod ({ cls := "CheeseValleysModel", name := "readPass", desc := "(I)Z" } : Jvm.MethodName)) ∈ lw_tbl := lw_at lw_m6 30 rfl
theorem q1282 : (Jvm.Cond.instanceMethod ({ cls := "CheeseValleysModel", name := "readPass", desc := "(I)Z" } : Jvm.MethodName)) ∈ lw_all := lw_g (lw_at lw_m6 31 rfl) rfl
theorem q1283 : (Jvm.Cond.code ({ cls := "CheeseValleysModel", name := "readPass", desc := "(I)Z" } : Jvm.MethodName) prog_15_method_18_code (4 : Nat) (Option.some Jvm.ClassFile.FieldType.boolean)) ∈ lw_all := lw_g (lw_at lw_m6 32 rfl) rfl
theorem q1284 : (Jvm.Cond.methodLink "CheeseValleysModel" (99 : Nat) ({ cls := "CheeseValleysModel", name := "takeLand", desc := "()V" } : Jvm.MethodName)) ∈ lw_all := lw_g (lw_at lw_m6 33 rfl) rfl
theorem q1285 : (Jvm.Cond.privateMethod ({ cls := "CheeseValleysModel", name := "takeLand", desc := "()V" } : Jvm.MethodName)) ∈ lw_tbl := lw_at lw_m6 34 rfl
theorem q1286 : (Jvm.Cond.instanceMethod ({ cls := "CheeseValleysModel", name := "takeLand", desc := "()V" } : Jvm.MethodName)) ∈ lw_all := lw_g (lw_at lw_m6 35 rfl) rfl
theorem q1287 : (Jvm.Cond.code ({ cls := "CheeseValleysModel", name := "takeLand", desc := "()V" } : Jvm.MethodName) prog_15_method_16_code (2 : Nat) (Option.none : Option Jvm.ClassFile.FieldType)) ∈ lw_all := lw_g (lw_at lw_m6 36 rfl) rfl
theorem q1289 : (Jvm.Cond.instanceMethod ({ cls := "CheeseValleysModel", name := "ofPass", desc := "(II)I" } : Jvm.MethodName)) ∈ lw_all := lw_g (lw_at lw_m6 38 rfl) rfl
theorem q1290 : (Jvm.Cond.selects "CheeseValleysModel" ({ cls := "CheeseValleysModel", name := "ofPass", desc := "(II)I" } : Jvm.MethodName) ({ cls := "CheeseValleysModel", name := "ofPass", desc := "(II)I" } : Jvm.MethodName)) ∈ lw_all := lw_g (lw_at lw_m6 39 rfl) rfl
theorem q1291 : (Jvm.Cond.code ({ cls := "CheeseValleysModel", name := "ofPass", desc := "(II)I" } : Jvm.MethodName) prog_15_method_20_code (3 : Nat) (Option.some Jvm.ClassFile.FieldType.int)) ∈ lw_all := lw_g (lw_at lw_m6 40 rfl) rfl
theorem q1292 : (Jvm.Cond.methodLink "CheeseValleysModel" (118 : Nat) ({ cls := "CheeseValleysModel", name := "isPass", desc := "(I)Z" } : Jvm.MethodName)) ∈ lw_all := lw_g (lw_at lw_m6 41 rfl) rfl
theorem q1293 : (Jvm.Cond.privateMethod ({ cls := "CheeseValleysModel", name := "isPass", desc := "(I)Z" } : Jvm.MethodName)) ∈ lw_tbl := lw_at lw_m6 42 rfl
theorem q1294 : (Jvm.Cond.instanceMethod ({ cls := "CheeseValleysModel", name := "isPass", desc := "(I)Z" } : Jvm.MethodName)) ∈ lw_all := lw_g (lw_at lw_m6 43 rfl) rfl
theorem q1295 : (Jvm.Cond.code ({ cls := "CheeseValleysModel", name := "isPass", desc := "(I)Z" } : Jvm.MethodName) prog_15_method_9_code (2 : Nat) (Option.some Jvm.ClassFile.FieldType.boolean)) ∈ lw_all := lw_g (lw_at lw_m6 44 rfl) rfl
theorem q1296 : (Jvm.Cond.methodLink "CheeseValleysModel" (121 : Nat) ({ cls := "CheeseValleysModel", name := "takes", desc := "(I)I" } : Jvm.MethodName)) ∈ lw_all := lw_g (lw_at lw_m6 45 rfl) rfl
theorem q1297 : (Jvm.Cond.privateMethod ({ cls := "CheeseValleysModel", name := "takes", desc := "(I)I" } : Jvm.MethodName)) ∈ lw_tbl := lw_at lw_m6 46 rfl
theorem q1298 : (Jvm.Cond.instanceMethod ({ cls := "CheeseValleysModel", name := "takes", desc := "(I)I" } : Jvm.MethodName)) ∈ lw_all := lw_g (lw_at lw_m6 47 rfl) rfl
theorem q1299 : (Jvm.Cond.code ({ cls := "CheeseValleysModel", name := "takes", desc := "(I)I" } : Jvm.MethodName) prog_15_method_19_code (2 : Nat) (Option.some Jvm.ClassFile.FieldType.int)) ∈ lw_all := lw_g (lw_at lw_m6 48 rfl) rfl
theorem q1301 : (Jvm.Cond.instanceMethod ({ cls := "CheeseValleysModel", name := "snow", desc := "(II)I" } : Jvm.MethodName)) ∈ lw_all := lw_g (lw_at lw_m6 50 rfl) rfl
theorem q1302 : (Jvm.Cond.selects "CheeseValleysModel" ({ cls := "CheeseValleysModel", name := "snow", desc := "(II)I" } : Jvm.MethodName) ({ cls := "CheeseValleysModel", name := "snow", desc := "(II)I" } : Jvm.MethodName)) ∈ lw_all := lw_g (lw_at lw_m6 51 rfl) rfl
theorem q1303 : (Jvm.Cond.code ({ cls := "CheeseValleysModel", name := "snow", desc := "(II)I" } : Jvm.MethodName) prog_15_method_21_code (4 : Nat) (Option.some Jvm.ClassFile.FieldType.int)) ∈ lw_all := lw_g (lw_at lw_m6 52 rfl) rfl
theorem q1304 : (Jvm.Cond.methodLink "CheeseValleysModel" (124 : Nat) ({ cls := "CheeseValleysModel", name := "isDay", desc := "(I)Z" } : Jvm.MethodName)) ∈ lw_all := lw_g (lw_at lw_m6 53 rfl) rfl
theorem q1305 : (Jvm.Cond.static ({ cls := "CheeseValleysModel", name := "isDay", desc := "(I)Z" } : Jvm.MethodName)) ∈ lw_all := lw_g (lw_at lw_m6 54 rfl) rfl
theorem q1306 : (Jvm.Cond.code ({ cls := "CheeseValleysModel", name := "isDay", desc := "(I)Z" } : Jvm.MethodName) prog_15_method_10_code (1 : Nat) (Option.some Jvm.ClassFile.FieldType.boolean)) ∈ lw_all := lw_g (lw_at lw_m6 55 rfl) rfl
theorem q1308 : (Jvm.Cond.instanceMethod ({ cls := "CheeseValleysModel", name := "give", desc := "(II)I" } : Jvm.MethodName)) ∈ lw_all := lw_g (lw_at lw_m6 57 rfl) rfl
theorem q1309 : (Jvm.Cond.selects "CheeseValleysModel" ({ cls := "CheeseValleysModel", name := "give", desc := "(II)I" } : Jvm.MethodName) ({ cls := "CheeseValleysModel", name := "give", desc := "(II)I" } : Jvm.MethodName)) ∈ lw_all := lw_g (lw_at lw_m6 58 rfl) rfl
theorem q1310 : (Jvm.Cond.code ({ cls := "CheeseValleysModel", name := "give", desc := "(II)I" } : Jvm.MethodName) prog_15_method_22_code (4 : Nat) (Option.some Jvm.ClassFile.FieldType.int)) ∈ lw_all := lw_g (lw_at lw_m6 59 rfl) rfl
theorem q1311 : (Jvm.Cond.methodLink "CheeseValleysModel" (127 : Nat) ({ cls := "CheeseValleysModel", name := "isValley", desc := "(I)Z" } : Jvm.MethodName)) ∈ lw_all := lw_g (lw_at lw_m6 60 rfl) rfl
theorem q1312 : (Jvm.Cond.static ({ cls := "CheeseValleysModel", name := "isValley", desc := "(I)Z" } : Jvm.MethodName)) ∈ lw_all := lw_g (lw_at lw_m6 61 rfl) rfl
theorem q1313 : (Jvm.Cond.code ({ cls := "CheeseValleysModel", name := "isValley", desc := "(I)Z" } : Jvm.MethodName) prog_15_method_11_code (1 : Nat) (Option.some Jvm.ClassFile.FieldType.boolean)) ∈ lw_all := lw_g (lw_at lw_m6 62 rfl) rfl
theorem q1315 : (Jvm.Cond.instanceMethod ({ cls := "CheeseValleysModel", name := "open", desc := "(I)I" } : Jvm.MethodName)) ∈ lw_all := lw_g (lw_at lw_m6 64 rfl) rfl
theorem q1316 : (Jvm.Cond.selects "CheeseValleysModel" ({ cls := "CheeseValleysModel", name := "open", desc := "(I)I" } : Jvm.MethodName) ({ cls := "CheeseValleysModel", name := "open", desc := "(I)I" } : Jvm.MethodName)) ∈ lw_all := lw_g (lw_at lw_m6 65 rfl) rfl
theorem q1317 : (Jvm.Cond.code ({ cls := "CheeseValleysModel", name := "open", desc := "(I)I" } : Jvm.MethodName) prog_15_method_24_code (4 : Nat) (Option.some Jvm.ClassFile.FieldType.int)) ∈ lw_all := lw_g (lw_at lw_m6 66 rfl) rfl
theorem q1318 : (Jvm.Cond.methodLink "CheeseValleysModel" (130 : Nat) ({ cls := "CheeseValleysModel", name := "isOpen", desc := "(II)Z" } : Jvm.MethodName)) ∈ lw_all := lw_g (lw_at lw_m6 67 rfl) rfl
theorem q1319 : (Jvm.Cond.privateMethod ({ cls := "CheeseValleysModel", name := "isOpen", desc := "(II)Z" } : Jvm.MethodName)) ∈ lw_tbl := lw_at lw_m6 68 rfl
theorem q1320 : (Jvm.Cond.instanceMethod ({ cls := "CheeseValleysModel", name := "isOpen", desc := "(II)Z" } : Jvm.MethodName)) ∈ lw_all := lw_g (lw_at lw_m6 69 rfl) rfl
theorem q1321 : (Jvm.Cond.code ({ cls := "CheeseValleysModel", name := "isOpen", desc := "(II)Z" } : Jvm.MethodName) prog_15_method_23_code (3 : Nat) (Option.some Jvm.ClassFile.FieldType.boolean)) ∈ lw_all := lw_g (lw_at lw_m6 70 rfl) rfl
theorem q1323 : (Jvm.Cond.instanceMethod ({ cls := "CheeseValleysModel", name := "soonest", desc := "(I)I" } : Jvm.MethodName)) ∈ lw_all := lw_g (lw_at lw_m6 72 rfl) rfl
theorem q1324 : (Jvm.Cond.selects "CheeseValleysModel" ({ cls := "CheeseValleysModel", name := "soonest", desc := "(I)I" } : Jvm.MethodName) ({ cls := "CheeseValleysModel", name := "soonest", desc := "(I)I" } : Jvm.MethodName)) ∈ lw_all := lw_g (lw_at lw_m6 73 rfl) rfl
theorem q1325 : (Jvm.Cond.code ({ cls := "CheeseValleysModel", name := "soonest", desc := "(I)I" } : Jvm.MethodName) prog_15_method_32_code (2 : Nat) (Option.some Jvm.ClassFile.FieldType.int)) ∈ lw_all := lw_g (lw_at lw_m6 74 rfl) rfl
theorem q1326 : (Jvm.Cond.methodLink "CheeseValleysModel" (161 : Nat) ({ cls := "CheeseValleysModel", name := "soonestOf", desc := "(I)I" } : Jvm.MethodName)) ∈ lw_all := lw_g (lw_at lw_m6 75 rfl) rfl
theorem q1327 : (Jvm.Cond.privateMethod ({ cls := "CheeseValleysModel", name := "soonestOf", desc := "(I)I" } : Jvm.MethodName)) ∈ lw_tbl := lw_at lw_m6 76 rfl
theorem q1328 : (Jvm.Cond.instanceMethod ({ cls := "CheeseValleysModel", name := "soonestOf", desc := "(I)I" } : Jvm.MethodName)) ∈ lw_all := lw_g (lw_at lw_m6 77 rfl) rfl
theorem q1329 : (Jvm.Cond.code ({ cls := "CheeseValleysModel", name := "soonestOf", desc := "(I)I" } : Jvm.MethodName) prog_15_method_31_code (2 : Nat) (Option.some Jvm.ClassFile.FieldType.int)) ∈ lw_all := lw_g (lw_at lw_m6 78 rfl) rfl
theorem q1330 : (Jvm.Cond.methodLink "CheeseValleysModel" (157 : Nat) ({ cls := "CheeseValleysModel", name := "makeWheel", desc := "(I)V" } : Jvm.MethodName)) ∈ lw_all := lw_g (lw_at lw_m6 79 rfl) rfl
theorem q1331 : (Jvm.Cond.privateMethod ({ cls := "CheeseValleysModel", name := "makeWheel", desc := "(I)V" } : Jvm.MethodName)) ∈ lw_tbl := lw_at lw_m6 80 rfl
theorem q1332 : (Jvm.Cond.instanceMethod ({ cls := "CheeseValleysModel", name := "makeWheel", desc := "(I)V" } : Jvm.MethodName)) ∈ lw_all := lw_g (lw_at lw_m6 81 rfl) rfl
theorem q1333 : (Jvm.Cond.code ({ cls := "CheeseValleysModel", name := "makeWheel", desc := "(I)V" } : Jvm.MethodName) prog_15_method_30_code (5 : Nat) (Option.none : Option Jvm.ClassFile.FieldType)) ∈ lw_all := lw_g (lw_at lw_m6 82 rfl) rfl
theorem q1334 : (Jvm.Cond.methodLink "CheeseValleysModel" (136 : Nat) ({ cls := "CheeseValleysModel", name := "doesGive", desc := "(II)Z" } : Jvm.MethodName)) ∈ lw_all := lw_g (lw_at lw_m6 83 rfl) rfl
theorem q1335 : (Jvm.Cond.privateMethod ({ cls := "CheeseValleysModel", name := "doesGive", desc := "(II)Z" } : Jvm.MethodName)) ∈ lw_tbl := lw_at lw_m6 84 rfl
theorem q1336 : (Jvm.Cond.instanceMethod ({ cls := "CheeseValleysModel", name := "doesGive", desc := "(II)Z" } : Jvm.MethodName)) ∈ lw_all := lw_g (lw_at lw_m6 85 rfl) rfl
theorem q1337 : (Jvm.Cond.code ({ cls := "CheeseValleysModel", name := "doesGive", desc := "(II)Z" } : Jvm.MethodName) prog_15_method_25_code (3 : Nat) (Option.some Jvm.ClassFile.FieldType.boolean)) ∈ lw_all := lw_g (lw_at lw_m6 86 rfl) rfl
theorem q1338 : (Jvm.Cond.methodLink "CheeseValleysModel" (145 : Nat) ({ cls := "CheeseValleysModel", name := "comes", desc := "(IIII)V" } : Jvm.MethodName)) ∈ lw_all := lw_g (lw_at lw_m6 87 rfl) rfl
theorem q1339 : (Jvm.Cond.privateMethod ({ cls := "CheeseValleysModel", name := "comes", desc := "(IIII)V" } : Jvm.MethodName)) ∈ lw_tbl := lw_at lw_m6 88 rfl
theorem q1340 : (Jvm.Cond.instanceMethod ({ cls := "CheeseValleysModel", name := "comes", desc := "(IIII)V" } : Jvm.MethodName)) ∈ lw_all := lw_g (lw_at lw_m6 89 rfl) rfl
theorem q1341 : (Jvm.Cond.code ({ cls := "CheeseValleysModel", name := "comes", desc := "(IIII)V" } : Jvm.MethodName) prog_15_method_28_code (6 : Nat) (Option.none : Option Jvm.ClassFile.FieldType)) ∈ lw_all := lw_g (lw_at lw_m6 90 rfl) rfl
theorem q1342 : (Jvm.Cond.methodLink "CheeseValleysModel" (133 : Nat) ({ cls := "CheeseValleysModel", name := "spot", desc := "(III)I" } : Jvm.MethodName)) ∈ lw_all := lw_g (lw_at lw_m6 91 rfl) rfl
theorem q1343 : (Jvm.Cond.static ({ cls := "CheeseValleysModel", name := "spot", desc := "(III)I" } : Jvm.MethodName)) ∈ lw_all := lw_g (lw_at lw_m6 92 rfl) rfl
theorem q1344 : (Jvm.Cond.code ({ cls := "CheeseValleysModel", name := "spot", desc := "(III)I" } : Jvm.MethodName) prog_15_method_27_code (3 : Nat) (Option.some Jvm.ClassFile.FieldType.int)) ∈ lw_all := lw_g (lw_at lw_m6 93 rfl) rfl
theorem q1345 : (Jvm.Cond.methodLink "CheeseValleysModel" (153 : Nat) ({ cls := "CheeseValleysModel", name := "goOn", desc := "(III)V" } : Jvm.MethodName)) ∈ lw_all := lw_g (lw_at lw_m6 94 rfl) rfl
theorem q1346 : (Jvm.Cond.privateMethod ({ cls := "CheeseValleysModel", name := "goOn", desc := "(III)V" } : Jvm.MethodName)) ∈ lw_tbl := lw_at lw_m6 95 rfl
theorem q1347 : (Jvm.Cond.instanceMethod ({ cls := "CheeseValleysModel", name := "goOn", desc := "(III)V" } : Jvm.MethodName)) ∈ lw_all := lw_g (lw_at lw_m6 96 rfl) rfl
theorem q1348 : (Jvm.Cond.code ({ cls := "CheeseValleysModel", name := "goOn", desc := "(III)V" } : Jvm.MethodName) prog_15_method_29_code (6 : Nat) (Option.none : Option Jvm.ClassFile.FieldType)) ∈ lw_all := lw_g (lw_at lw_m6 97 rfl) rfl
theorem q1349 : (Jvm.Cond.methodLink "CheeseValleysModel" (149 : Nat) ({ cls := "CheeseValleysModel", name := "over", desc := "(II)I" } : Jvm.MethodName)) ∈ lw_all := lw_g (lw_at lw_m6 98 rfl) rfl
theorem q1350 : (Jvm.Cond.privateMethod ({ cls := "CheeseValleysModel", name := "over", desc := "(II)I" } : Jvm.MethodName)) ∈ lw_tbl := lw_at lw_m6 99 rfl
theorem q1351 : (Jvm.Cond.instanceMethod ({ cls := "CheeseValleysModel", name := "over", desc := "(II)I" } : Jvm.MethodName)) ∈ lw_all := lw_g (lw_at lw_m6 100 rfl) rfl
theorem q1352 : (Jvm.Cond.code ({ cls := "CheeseValleysModel", name := "over", desc := "(II)I" } : Jvm.MethodName) prog_15_method_26_code (3 : Nat) (Option.some Jvm.ClassFile.FieldType.int)) ∈ lw_all := lw_g (lw_at lw_m6 101 rfl) rfl
theorem q1354 : (Jvm.Cond.instanceMethod ({ cls := "CheeseValleysModel", name := "holes", desc := "(I)I" } : Jvm.MethodName)) ∈ lw_all := lw_g (lw_at lw_m6 103 rfl) rfl
theorem q1355 : (Jvm.Cond.selects "CheeseValleysModel" ({ cls := "CheeseValleysModel", name := "holes", desc := "(I)I" } : Jvm.MethodName) ({ cls := "CheeseValleysModel", name := "holes", desc := "(I)I" } : Jvm.MethodName)) ∈ lw_all := lw_g (lw_at lw_m6 104 rfl) rfl
theorem q1356 : (Jvm.Cond.code ({ cls := "CheeseValleysModel", name := "holes", desc := "(I)I" } : Jvm.MethodName) prog_15_method_33_code (2 : Nat) (Option.some Jvm.ClassFile.FieldType.int)) ∈ lw_all := lw_g (lw_at lw_m6 105 rfl) rfl
theorem q1358 : (Jvm.Cond.instanceMethod ({ cls := "CheeseValleysModel", name := "way", desc := "(IIIIII)I" } : Jvm.MethodName)) ∈ lw_all := lw_g (lw_at lw_m6 107 rfl) rfl
theorem q1359 : (Jvm.Cond.selects "CheeseValleysModel" ({ cls := "CheeseValleysModel", name := "way", desc := "(IIIIII)I" } : Jvm.MethodName) ({ cls := "CheeseValleysModel", name := "way", desc := "(IIIIII)I" } : Jvm.MethodName)) ∈ lw_all := lw_g (lw_at lw_m6 108 rfl) rfl
theorem q1360 : (Jvm.Cond.code ({ cls := "CheeseValleysModel", name := "way", desc := "(IIIIII)I" } : Jvm.MethodName) prog_15_method_35_code (10 : Nat) (Option.some Jvm.ClassFile.FieldType.int)) ∈ lw_all := lw_g (lw_at lw_m6 109 rfl) rfl
theorem q1361 : (Jvm.Cond.methodLink "CheeseValleysModel" (176 : Nat) ({ cls := "CheeseValleysModel", name := "wayOf", desc := "(IIII)I" } : Jvm.MethodName)) ∈ lw_all := lw_g (lw_at lw_m6 110 rfl) rfl
theorem q1362 : (Jvm.Cond.privateMethod ({ cls := "CheeseValleysModel", name := "wayOf", desc := "(IIII)I" } : Jvm.MethodName)) ∈ lw_tbl := lw_at lw_m6 111 rfl
theorem q1363 : (Jvm.Cond.instanceMethod ({ cls := "CheeseValleysModel", name := "wayOf", desc := "(IIII)I" } : Jvm.MethodName)) ∈ lw_all := lw_g (lw_at lw_m6 112 rfl) rfl
theorem q1364 : (Jvm.Cond.code ({ cls := "CheeseValleysModel", name := "wayOf", desc := "(IIII)I" } : Jvm.MethodName) prog_15_method_36_code (8 : Nat) (Option.some Jvm.ClassFile.FieldType.int)) ∈ lw_all := lw_g (lw_at lw_m6 113 rfl) rfl
theorem q1365 : (Jvm.Cond.methodLink "CheeseValleysModel" (179 : Nat) ({ cls := "CheeseValleysModel", name := "goStep", desc := "(I)Z" } : Jvm.MethodName)) ∈ lw_all := lw_g (lw_at lw_m6 114 rfl) rfl
theorem q1366 : (Jvm.Cond.privateMethod ({ cls := "CheeseValleysModel", name := "goStep", desc := "(I)Z" } : Jvm.MethodName)) ∈ lw_tbl := lw_at lw_m6 115 rfl
theorem q1367 : (Jvm.Cond.instanceMethod ({ cls := "CheeseValleysModel", name := "goStep", desc := "(I)Z" } : Jvm.MethodName)) ∈ lw_all := lw_g (lw_at lw_m6 116 rfl) rfl
theorem q1368 : (Jvm.Cond.code ({ cls := "CheeseValleysModel", name := "goStep", desc := "(I)Z" } : Jvm.MethodName) prog_15_method_34_code (3 : Nat) (Option.some Jvm.ClassFile.FieldType.boolean)) ∈ lw_all := lw_g (lw_at lw_m6 117 rfl) rfl
theorem q1370 : (Jvm.Cond.instanceMethod ({ cls := "CheeseValleysModel", name := "last", desc := "(I)I" } : Jvm.MethodName)) ∈ lw_all := lw_g (lw_at lw_m6 119 rfl) rfl
theorem q1371 : (Jvm.Cond.selects "CheeseValleysModel" ({ cls := "CheeseValleysModel", name := "last", desc := "(I)I" } : Jvm.MethodName) ({ cls := "CheeseValleysModel", name := "last", desc := "(I)I" } : Jvm.MethodName)) ∈ lw_all := lw_g (lw_at lw_m6 120 rfl) rfl
theorem q1372 : (Jvm.Cond.code ({ cls := "CheeseValleysModel", name := "last", desc := "(I)I" } : Jvm.MethodName) prog_15_method_38_code (4 : Nat) (Option.some Jvm.ClassFile.FieldType.int)) ∈ lw_all := lw_g (lw_at lw_m6 121 rfl) rfl
theorem q1373 : (Jvm.Cond.methodLink "CheeseValleysModel" (182 : Nat) ({ cls := "CheeseValleysModel", name := "canBy", desc := "(II)Z" } : Jvm.MethodName)) ∈ lw_all := lw_g (lw_at lw_m6 122 rfl) rfl
theorem q1374 : (Jvm.Cond.privateMethod ({ cls := "CheeseValleysModel", name := "canBy", desc := "(II)Z" } : Jvm.MethodName)) ∈ lw_tbl := lw_at lw_m6 123 rfl
theorem q1375 : (Jvm.Cond.instanceMethod ({ cls := "CheeseValleysModel", name := "canBy", desc := "(II)Z" } : Jvm.MethodName)) ∈ lw_all := lw_g (lw_at lw_m6 124 rfl) rfl
theorem q1376 : (Jvm.Cond.code ({ cls := "CheeseValleysModel", name := "canBy", desc := "(II)Z" } : Jvm.MethodName) prog_15_method_37_code (4 : Nat) (Option.some Jvm.ClassFile.FieldType.boolean)) ∈ lw_all := lw_g (lw_at lw_m6 125 rfl) rfl
theorem q1378 : (Jvm.Cond.instanceMethod ({ cls := "CheeseValleysModel", name := "safe", desc := "(I)I" } : Jvm.MethodName)) ∈ lw_all := lw_g (lw_at lw_m6 127 rfl) rfl
theorem q1379 : (Jvm.Cond.selects "CheeseValleysModel" ({ cls := "CheeseValleysModel", name := "safe", desc := "(I)I" } : Jvm.MethodName) ({ cls := "CheeseValleysModel", name := "safe", desc := "(I)I" } : Jvm.MethodName)) ∈ lw_all := lw_g (lw_at lw_m6 128 rfl) rfl
theorem q1380 : (Jvm.Cond.code ({ cls := "CheeseValleysModel", name := "safe", desc := "(I)I" } : Jvm.MethodName) prog_15_method_40_code (4 : Nat) (Option.some Jvm.ClassFile.FieldType.int)) ∈ lw_all := lw_g (lw_at lw_m6 129 rfl) rfl
theorem q1381 : (Jvm.Cond.methodLink "CheeseValleysModel" (185 : Nat) ({ cls := "CheeseValleysModel", name := "isSafe", desc := "(II)Z" } : Jvm.MethodName)) ∈ lw_all := lw_g (lw_at lw_m6 130 rfl) rfl
theorem q1382 : (Jvm.Cond.privateMethod ({ cls := "CheeseValleysModel", name := "isSafe", desc := "(II)Z" } : Jvm.MethodName)) ∈ lw_tbl := lw_at lw_m6 131 rfl
theorem q1383 : (Jvm.Cond.instanceMethod ({ cls := "CheeseValleysModel", name := "isSafe", desc := "(II)Z" } : Jvm.MethodName)) ∈ lw_all := lw_g (lw_at lw_m6 132 rfl) rfl
theorem q1384 : (Jvm.Cond.code ({ cls := "CheeseValleysModel", name := "isSafe", desc := "(II)Z" } : Jvm.MethodName) prog_15_method_39_code (7 : Nat) (Option.some Jvm.ClassFile.FieldType.boolean)) ∈ lw_all := lw_g (lw_at lw_m6 133 rfl) rfl
theorem q1386 : (Jvm.Cond.instanceMethod ({ cls := "CheeseValleysModel", name := "hangs", desc := "(II)I" } : Jvm.MethodName)) ∈ lw_all := lw_g (lw_at lw_m6 135 rfl) rfl
theorem q1387 : (Jvm.Cond.selects "CheeseValleysModel" ({ cls := "CheeseValleysModel", name := "hangs", desc := "(II)I" } : Jvm.MethodName) ({ cls := "CheeseValleysModel", name := "hangs", desc := "(II)I" } : Jvm.MethodName)) ∈ lw_all := lw_g (lw_at lw_m6 136 rfl) rfl
theorem q1388 : (Jvm.Cond.code ({ cls := "CheeseValleysModel", name := "hangs", desc := "(II)I" } : Jvm.MethodName) prog_15_method_41_code (5 : Nat) (Option.some Jvm.ClassFile.FieldType.int)) ∈ lw_all := lw_g (lw_at lw_m6 137 rfl) rfl
theorem q1390 : (Jvm.Cond.instanceMethod ({ cls := "CheeseValleysModel", name := "peace", desc := "(II)I" } : Jvm.MethodName)) ∈ lw_all := lw_g (lw_at lw_m6 139 rfl) rfl
theorem q1391 : (Jvm.Cond.selects "CheeseValleysModel" ({ cls := "CheeseValleysModel", name := "peace", desc := "(II)I" } : Jvm.MethodName) ({ cls := "CheeseValleysModel", name := "peace", desc := "(II)I" } : Jvm.MethodName)) ∈ lw_all := lw_g (lw_at lw_m6 140 rfl) rfl
theorem q1392 : (Jvm.Cond.code ({ cls := "CheeseValleysModel", name := "peace", desc := "(II)I" } : Jvm.MethodName) prog_15_method_42_code (8 : Nat) (Option.some Jvm.ClassFile.FieldType.int)) ∈ lw_all := lw_g (lw_at lw_m6 141 rfl) rfl
theorem q1394 : (Jvm.Cond.instanceMethod ({ cls := "CheeseValleysModel", name := "reading", desc := "(II)I" } : Jvm.MethodName)) ∈ lw_all := lw_g (lw_at lw_m6 143 rfl) rfl
theorem q1395 : (Jvm.Cond.selects "CheeseValleysModel" ({ cls := "CheeseValleysModel", name := "reading", desc := "(II)I" } : Jvm.MethodName) ({ cls := "CheeseValleysModel", name := "reading", desc := "(II)I" } : Jvm.MethodName)) ∈ lw_all := lw_g (lw_at lw_m6 144 rfl) rfl
theorem q1396 : (Jvm.Cond.code ({ cls := "CheeseValleysModel", name := "reading", desc := "(II)I" } : Jvm.MethodName) prog_15_method_43_code (3 : Nat) (Option.some Jvm.ClassFile.FieldType.int)) ∈ lw_all := lw_g (lw_at lw_m6 145 rfl) rfl
theorem q1398 : (Jvm.Cond.instanceMethod ({ cls := "CheeseValleysModel", name := "back", desc := "(I)I" } : Jvm.MethodName)) ∈ lw_all := lw_g (lw_at lw_m6 147 rfl) rfl
theorem q1399 : (Jvm.Cond.selects "CheeseValleysModel" ({ cls := "CheeseValleysModel", name := "back", desc := "(I)I" } : Jvm.MethodName) ({ cls := "CheeseValleysModel", name := "back", desc := "(I)I" } : Jvm.MethodName)) ∈ lw_all := lw_g (lw_at lw_m6 148 rfl) rfl
theorem q1400 : (Jvm.Cond.code ({ cls := "CheeseValleysModel", name := "back", desc := "(I)I" } : Jvm.MethodName) prog_15_method_44_code (2 : Nat) (Option.some Jvm.ClassFile.FieldType.int)) ∈ lw_all := lw_g (lw_at lw_m6 149 rfl) rfl
theorem q1402 : (Jvm.Cond.instanceMethod ({ cls := "CheeseValleysModel", name := "snows", desc := "(I)I" } : Jvm.MethodName)) ∈ lw_all := lw_g (lw_at lw_m6 151 rfl) rfl
theorem q1403 : (Jvm.Cond.selects "CheeseValleysModel" ({ cls := "CheeseValleysModel", name := "snows", desc := "(I)I" } : Jvm.MethodName) ({ cls := "CheeseValleysModel", name := "snows", desc := "(I)I" } : Jvm.MethodName)) ∈ lw_all := lw_g (lw_at lw_m6 152 rfl) rfl
theorem q1404 : (Jvm.Cond.code ({ cls := "CheeseValleysModel", name := "snows", desc := "(I)I" } : Jvm.MethodName) prog_15_method_46_code (5 : Nat) (Option.some Jvm.ClassFile.FieldType.int)) ∈ lw_all := lw_g (lw_at lw_m6 153 rfl) rfl
theorem q1405 : (Jvm.Cond.methodLink "CheeseValleysModel" (188 : Nat) ({ cls := "CheeseValleysModel", name := "areSo", desc := "()Z" } : Jvm.MethodName)) ∈ lw_all := lw_g (lw_at lw_m6 154 rfl) rfl
theorem q1406 : (Jvm.Cond.privateMethod ({ cls := "CheeseValleysModel", name := "areSo", desc := "()Z" } : Jvm.MethodName)) ∈ lw_tbl := lw_at lw_m6 155 rfl
theorem q1407 : (Jvm.Cond.instanceMethod ({ cls := "CheeseValleysModel", name := "areSo", desc := "()Z" } : Jvm.MethodName)) ∈ lw_all := lw_g (lw_at lw_m6 156 rfl) rfl
theorem q1408 : (Jvm.Cond.code ({ cls := "CheeseValleysModel", name := "areSo", desc := "()Z" } : Jvm.MethodName) prog_15_method_45_code (2 : Nat) (Option.some Jvm.ClassFile.FieldType.boolean)) ∈ lw_all := lw_g (lw_at lw_m6 157 rfl) rfl
theorem q1410 : (Jvm.Cond.instanceMethod ({ cls := "CheeseValleysModel", name := "heights", desc := "(I)I" } : Jvm.MethodName)) ∈ lw_all := lw_g (lw_at lw_m6 159 rfl) rfl
theorem q1411 : (Jvm.Cond.selects "CheeseValleysModel" ({ cls := "CheeseValleysModel", name := "heights", desc := "(I)I" } : Jvm.MethodName) ({ cls := "CheeseValleysModel", name := "heights", desc := "(I)I" } : Jvm.MethodName)) ∈ lw_all := lw_g (lw_at lw_m6 160 rfl) rfl
theorem q1412 : (Jvm.Cond.code ({ cls := "CheeseValleysModel", name := "heights", desc := "(I)I" } : Jvm.MethodName) prog_15_method_47_code (5 : Nat) (Option.some Jvm.ClassFile.FieldType.int)) ∈ lw_all := lw_g (lw_at lw_m6 161 rfl) rfl
theorem q1414 : (Jvm.Cond.instanceMethod ({ cls := "CheeseValleysModel", name := "kinds", desc := "(I)I" } : Jvm.MethodName)) ∈ lw_all := lw_g (lw_at lw_m6 163 rfl) rfl
theorem q1415 : (Jvm.Cond.selects "CheeseValleysModel" ({ cls := "CheeseValleysModel", name := "kinds", desc := "(I)I" } : Jvm.MethodName) ({ cls := "CheeseValleysModel", name := "kinds", desc := "(I)I" } : Jvm.MethodName)) ∈ lw_all := lw_g (lw_at lw_m6 164 rfl) rfl
theorem q1416 : (Jvm.Cond.code ({ cls := "CheeseValleysModel", name := "kinds", desc := "(I)I" } : Jvm.MethodName) prog_15_method_48_code (5 : Nat) (Option.some Jvm.ClassFile.FieldType.int)) ∈ lw_all := lw_g (lw_at lw_m6 165 rfl) rfl
theorem q1418 : (Jvm.Cond.instanceMethod ({ cls := "CheeseValleysModel", name := "gave", desc := "(II)I" } : Jvm.MethodName)) ∈ lw_all := lw_g (lw_at lw_m6 167 rfl) rfl
theorem q1419 : (Jvm.Cond.selects "CheeseValleysModel" ({ cls := "CheeseValleysModel", name := "gave", desc := "(II)I" } : Jvm.MethodName) ({ cls := "CheeseValleysModel", name := "gave", desc := "(II)I" } : Jvm.MethodName)) ∈ lw_all := lw_g (lw_at lw_m6 168 rfl) rfl
theorem q1420 : (Jvm.Cond.code ({ cls := "CheeseValleysModel", name := "gave", desc := "(II)I" } : Jvm.MethodName) prog_15_method_49_code (7 : Nat) (Option.some Jvm.ClassFile.FieldType.int)) ∈ lw_all := lw_g (lw_at lw_m6 169 rfl) rfl
theorem q1422 : (Jvm.Cond.instanceMethod ({ cls := "CheeseValleysModel", name := "odds", desc := "(IIII)J" } : Jvm.MethodName)) ∈ lw_all := lw_g (lw_at lw_m6 171 rfl) rfl
theorem q1423 : (Jvm.Cond.selects "CheeseValleysModel" ({ cls := "CheeseValleysModel", name := "odds", desc := "(IIII)J" } : Jvm.MethodName) ({ cls := "CheeseValleysModel", name := "odds", desc := "(IIII)J" } : Jvm.MethodName)) ∈ lw_all := lw_g (lw_at lw_m6 172 rfl) rfl
theorem q1424 : (Jvm.Cond.code ({ cls := "CheeseValleysModel", name := "odds", desc := "(IIII)J" } : Jvm.MethodName) prog_15_method_51_code (9 : Nat) (Option.some Jvm.ClassFile.FieldType.long)) ∈ lw_all := lw_g (lw_at lw_m6 173 rfl) rfl
theorem q1425 : (Jvm.Cond.constantLong "CheeseValleysModel" (65 : Nat) (-9223372036854775808 : Int64)) ∈ lw_all := lw_g (lw_at lw_m6 174 rfl) rfl
theorem q1426 : (Jvm.Cond.methodLink "CheeseValleysModel" (192 : Nat) ({ cls := "CheeseValleysModel", name := "inLeastTerms", desc := "(JJI)J" } : Jvm.MethodName)) ∈ lw_all := lw_g (lw_at lw_m6 175 rfl) rfl
theorem q1427 : (Jvm.Cond.static ({ cls := "CheeseValleysModel", name := "inLeastTerms", desc := "(JJI)J" } : Jvm.MethodName)) ∈ lw_all := lw_g (lw_at lw_m6 176 rfl) rfl
theorem q1428 : (Jvm.Cond.code ({ cls := "CheeseValleysModel", name := "inLeastTerms", desc := "(JJI)J" } : Jvm.MethodName) prog_15_method_50_code (11 : Nat) (Option.some Jvm.ClassFile.FieldType.long)) ∈ lw_all := lw_g (lw_at lw_m6 177 rfl) rfl
theorem q1430 : (Jvm.Cond.instanceMethod ({ cls := "CheeseValleysModel", name := "sheet", desc := "(III)I" } : Jvm.MethodName)) ∈ lw_all := lw_g (lw_at lw_m6 179 rfl) rfl
theorem q1431 : (Jvm.Cond.selects "CheeseValleysModel" ({ cls := "CheeseValleysModel", name := "sheet", desc := "(III)I" } : Jvm.MethodName) ({ cls := "CheeseValleysModel", name := "sheet", desc := "(III)I" } : Jvm.MethodName)) ∈ lw_all := lw_g (lw_at lw_m6 180 rfl) rfl
theorem q1432 : (Jvm.Cond.code ({ cls := "CheeseValleysModel", name := "sheet", desc := "(III)I" } : Jvm.MethodName) prog_15_method_52_code (5 : Nat) (Option.some Jvm.ClassFile.FieldType.int)) ∈ lw_all := lw_g (lw_at lw_m6 181 rfl) rfl
theorem q1434 : (Jvm.Cond.instanceMethod ({ cls := "CheeseValleysModel", name := "lose", desc := "(I)I" } : Jvm.MethodName)) ∈ lw_all := lw_g (lw_at lw_m6 183 rfl) rfl
theorem q1435 : (Jvm.Cond.selects "CheeseValleysModel" ({ cls := "CheeseValleysModel", name := "lose", desc := "(I)I" } : Jvm.MethodName) ({ cls := "CheeseValleysModel", name := "lose", desc := "(I)I" } : Jvm.MethodName)) ∈ lw_all := lw_g (lw_at lw_m6 184 rfl) rfl
theorem q1436 : (Jvm.Cond.code ({ cls := "CheeseValleysModel", name := "lose", desc := "(I)I" } : Jvm.MethodName) prog_15_method_53_code (3 : Nat) (Option.some Jvm.ClassFile.FieldType.int)) ∈ lw_all := lw_g (lw_at lw_m6 185 rfl) rfl
theorem q1438 : (Jvm.Cond.instanceMethod ({ cls := "CheeseValleysModel", name := "put", desc := "(III)I" } : Jvm.MethodName)) ∈ lw_all := lw_g (lw_at lw_m6 187 rfl) rfl
theorem q1439 : (Jvm.Cond.selects "CheeseValleysModel" ({ cls := "CheeseValleysModel", name := "put", desc := "(III)I" } : Jvm.MethodName) ({ cls := "CheeseValleysModel", name := "put", desc := "(III)I" } : Jvm.MethodName)) ∈ lw_all := lw_g (lw_at lw_m6 188 rfl) rfl
theorem q1440 : (Jvm.Cond.code ({ cls := "CheeseValleysModel", name := "put", desc := "(III)I" } : Jvm.MethodName) prog_15_method_54_code (4 : Nat) (Option.some Jvm.ClassFile.FieldType.int)) ∈ lw_all := lw_g (lw_at lw_m6 189 rfl) rfl
theorem q1442 : (Jvm.Cond.instanceMethod ({ cls := "CheeseValleysModel", name := "cell", desc := "(III)J" } : Jvm.MethodName)) ∈ lw_all := lw_g (lw_at lw_m6 191 rfl) rfl
theorem q1443 : (Jvm.Cond.selects "CheeseValleysModel" ({ cls := "CheeseValleysModel", name := "cell", desc := "(III)J" } : Jvm.MethodName) ({ cls := "CheeseValleysModel", name := "cell", desc := "(III)J" } : Jvm.MethodName)) ∈ lw_all := lw_g (lw_at lw_m6 192 rfl) rfl
theorem q1444 : (Jvm.Cond.code ({ cls := "CheeseValleysModel", name := "cell", desc := "(III)J" } : Jvm.MethodName) prog_15_method_55_code (4 : Nat) (Option.some Jvm.ClassFile.FieldType.long)) ∈ lw_all := lw_g (lw_at lw_m6 193 rfl) rfl
theorem q1445 : (Jvm.Cond.methodLink "CheeseValleysModel" (196 : Nat) ({ cls := "CheeseValleysModel", name := "lost", desc := "(I)J" } : Jvm.MethodName)) ∈ lw_all := lw_g (lw_at lw_m6 194 rfl) rfl
theorem q1446 : (Jvm.Cond.privateMethod ({ cls := "CheeseValleysModel", name := "lost", desc := "(I)J" } : Jvm.MethodName)) ∈ lw_tbl := lw_at lw_m6 195 rfl
theorem q1447 : (Jvm.Cond.instanceMethod ({ cls := "CheeseValleysModel", name := "lost", desc := "(I)J" } : Jvm.MethodName)) ∈ lw_all := lw_g (lw_at lw_m6 196 rfl) rfl
theorem q1448 : (Jvm.Cond.code ({ cls := "CheeseValleysModel", name := "lost", desc := "(I)J" } : Jvm.MethodName) prog_15_method_4_code (2 : Nat) (Option.some Jvm.ClassFile.FieldType.long)) ∈ lw_all := lw_g (lw_at lw_m6 197 rfl) rfl
theorem q1450 : (Jvm.Cond.instanceMethod ({ cls := "CheeseValleysModel", name := "copy", desc := "(IIIII)I" } : Jvm.MethodName)) ∈ lw_all := lw_g (lw_at lw_m6 199 rfl) rfl
theorem q1451 : (Jvm.Cond.selects "CheeseValleysModel" ({ cls := "CheeseValleysModel", name := "copy", desc := "(IIIII)I" } : Jvm.MethodName) ({ cls := "CheeseValleysModel", name := "copy", desc := "(IIIII)I" } : Jvm.MethodName)) ∈ lw_all := lw_g (lw_at lw_m6 200 rfl) rfl
theorem q1452 : (Jvm.Cond.code ({ cls := "CheeseValleysModel", name := "copy", desc := "(IIIII)I" } : Jvm.MethodName) prog_15_method_56_code (10 : Nat) (Option.some Jvm.ClassFile.FieldType.int)) ∈ lw_all := lw_g (lw_at lw_m6 201 rfl) rfl
theorem q1454 : (Jvm.Cond.instanceMethod ({ cls := "CheeseValleysModel", name := "tell", desc := "(I)I" } : Jvm.MethodName)) ∈ lw_all := lw_g (lw_at lw_m6 203 rfl) rfl
theorem q1455 : (Jvm.Cond.selects "CheeseValleysModel" ({ cls := "CheeseValleysModel", name := "tell", desc := "(I)I" } : Jvm.MethodName) ({ cls := "CheeseValleysModel", name := "tell", desc := "(I)I" } : Jvm.MethodName)) ∈ lw_all := lw_g (lw_at lw_m6 204 rfl) rfl
theorem q1456 : (Jvm.Cond.code ({ cls := "CheeseValleysModel", name := "tell", desc := "(I)I" } : Jvm.MethodName) prog_15_method_58_code (3 : Nat) (Option.some Jvm.ClassFile.FieldType.int)) ∈ lw_all := lw_g (lw_at lw_m6 205 rfl) rfl
theorem q1457 : (Jvm.Cond.methodLink "CheeseValleysModel" (203 : Nat) ({ cls := "CheeseValleysModel", name := "begins", desc := "(I)V" } : Jvm.MethodName)) ∈ lw_all := lw_g (lw_at lw_m6 206 rfl) rfl
theorem q1458 : (Jvm.Cond.privateMethod ({ cls := "CheeseValleysModel", name := "begins", desc := "(I)V" } : Jvm.MethodName)) ∈ lw_tbl := lw_at lw_m6 207 rfl
theorem q1459 : (Jvm.Cond.instanceMethod ({ cls := "CheeseValleysModel", name := "begins", desc := "(I)V" } : Jvm.MethodName)) ∈ lw_all := lw_g (lw_at lw_m6 208 rfl) rfl
theorem q1460 : (Jvm.Cond.code ({ cls := "CheeseValleysModel", name := "begins", desc := "(I)V" } : Jvm.MethodName) prog_15_method_57_code (2 : Nat) (Option.none : Option Jvm.ClassFile.FieldType)) ∈ lw_all := lw_g (lw_at lw_m6 209 rfl) rfl
theorem q1462 : (Jvm.Cond.instanceMethod ({ cls := "CheeseValleysModel", name := "mark", desc := "(I)I" } : Jvm.MethodName)) ∈ lw_all := lw_g (lw_at lw_m6 211 rfl) rfl
theorem q1463 : (Jvm.Cond.selects "CheeseValleysModel" ({ cls := "CheeseValleysModel", name := "mark", desc := "(I)I" } : Jvm.MethodName) ({ cls := "CheeseValleysModel", name := "mark", desc := "(I)I" } : Jvm.MethodName)) ∈ lw_all := lw_g (lw_at lw_m6 212 rfl) rfl
theorem q1464 : (Jvm.Cond.code ({ cls := "CheeseValleysModel", name := "mark", desc := "(I)I" } : Jvm.MethodName) prog_15_method_59_code (2 : Nat) (Option.some Jvm.ClassFile.FieldType.int)) ∈ lw_all := lw_g (lw_at lw_m6 213 rfl) rfl
theorem q1466 : (Jvm.Cond.instanceMethod ({ cls := "CheeseValleysModel", name := "as", desc := "(II)I" } : Jvm.MethodName)) ∈ lw_all := lw_g (lw_at lw_m6 215 rfl) rfl
theorem q1467 : (Jvm.Cond.selects "CheeseValleysModel" ({ cls := "CheeseValleysModel", name := "as", desc := "(II)I" } : Jvm.MethodName) ({ cls := "CheeseValleysModel", name := "as", desc := "(II)I" } : Jvm.MethodName)) ∈ lw_all := lw_g (lw_at lw_m6 216 rfl) rfl
theorem q1468 : (Jvm.Cond.code ({ cls := "CheeseValleysModel", name := "as", desc := "(II)I" } : Jvm.MethodName) prog_15_method_60_code (3 : Nat) (Option.some Jvm.ClassFile.FieldType.int)) ∈ lw_all := lw_g (lw_at lw_m6 217 rfl) rfl
theorem q1470 : (Jvm.Cond.instanceMethod ({ cls := "CheeseValleysModel", name := "trace", desc := "()I" } : Jvm.MethodName)) ∈ lw_all := lw_g (lw_at lw_m6 219 rfl) rfl
theorem q1471 : (Jvm.Cond.selects "CheeseValleysModel" ({ cls := "CheeseValleysModel", name := "trace", desc := "()I" } : Jvm.MethodName) ({ cls := "CheeseValleysModel", name := "trace", desc := "()I" } : Jvm.MethodName)) ∈ lw_all := lw_g (lw_at lw_m6 220 rfl) rfl
theorem q1472 : (Jvm.Cond.code ({ cls := "CheeseValleysModel", name := "trace", desc := "()I" } : Jvm.MethodName) prog_15_method_61_code (1 : Nat) (Option.some Jvm.ClassFile.FieldType.int)) ∈ lw_all := lw_g (lw_at lw_m6 221 rfl) rfl
theorem q1474 : (Jvm.Cond.instanceMethod ({ cls := "CheeseValleysModel", name := "fault", desc := "()I" } : Jvm.MethodName)) ∈ lw_all := lw_g (lw_at lw_m6 223 rfl) rfl
theorem q1475 : (Jvm.Cond.selects "CheeseValleysModel" ({ cls := "CheeseValleysModel", name := "fault", desc := "()I" } : Jvm.MethodName) ({ cls := "CheeseValleysModel", name := "fault", desc := "()I" } : Jvm.MethodName)) ∈ lw_all := lw_g (lw_at lw_m6 224 rfl) rfl
theorem q1476 : (Jvm.Cond.code ({ cls := "CheeseValleysModel", name := "fault", desc := "()I" } : Jvm.MethodName) prog_15_method_62_code (1 : Nat) (Option.some Jvm.ClassFile.FieldType.int)) ∈ lw_all := lw_g (lw_at lw_m6 225 rfl) rfl
theorem q1478 : (Jvm.Cond.instanceMethod ({ cls := "CheeseValleysModel", name := "many", desc := "(I)I" } : Jvm.MethodName)) ∈ lw_all := lw_g (lw_at lw_m6 227 rfl) rfl
theorem q1479 : (Jvm.Cond.selects "CheeseValleysModel" ({ cls := "CheeseValleysModel", name := "many", desc := "(I)I" } : Jvm.MethodName) ({ cls := "CheeseValleysModel", name := "many", desc := "(I)I" } : Jvm.MethodName)) ∈ lw_all := lw_g (lw_at lw_m6 228 rfl) rfl
theorem q1480 : (Jvm.Cond.code ({ cls := "CheeseValleysModel", name := "many", desc := "(I)I" } : Jvm.MethodName) prog_15_method_64_code (2 : Nat) (Option.some Jvm.ClassFile.FieldType.int)) ∈ lw_all := lw_g (lw_at lw_m6 229 rfl) rfl
theorem q1481 : (Jvm.Cond.methodLink "CheeseValleysModel" (206 : Nat) ({ cls := "CheeseValleysModel", name := "allGive", desc := "()I" } : Jvm.MethodName)) ∈ lw_all := lw_g (lw_at lw_m6 230 rfl) rfl
theorem q1482 : (Jvm.Cond.privateMethod ({ cls := "CheeseValleysModel", name := "allGive", desc := "()I" } : Jvm.MethodName)) ∈ lw_tbl := lw_at lw_m6 231 rfl
theorem q1483 : (Jvm.Cond.instanceMethod ({ cls := "CheeseValleysModel", name := "allGive", desc := "()I" } : Jvm.MethodName)) ∈ lw_all := lw_g (lw_at lw_m6 232 rfl) rfl
theorem q1484 : (Jvm.Cond.code ({ cls := "CheeseValleysModel", name := "allGive", desc := "()I" } : Jvm.MethodName) prog_15_method_63_code (3 : Nat) (Option.some Jvm.ClassFile.FieldType.int)) ∈ lw_all := lw_g (lw_at lw_m6 233 rfl) rfl
theorem q1498 : (Jvm.Cond.castable "CheeseValleysModel" "java/lang/Object") ∈ lw_tbl := lw_at lw_m7 7 rfl
theorem in_X1 : ∀ w ∈ wsX10, w ∈ lw_all := lw_in wsX10 [1184, 1186, 1188, 1190, 1192, 1194, 1196, 1198, 1200, 1202, 1204, 1206, 1208, 1210, 1212, 1214, 1216, 1218, 1220, 1222, 1224, 1226, 1228, 1230, 1232, 1234, 1236, 1238, 1240] (by decide +kernel) (by decide +kernel)
