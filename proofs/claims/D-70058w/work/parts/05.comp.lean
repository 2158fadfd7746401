/-! CheeseValleys -/
set_option maxRecDepth 100000
def RX0 : String := "CheeseValleys"
def TX0 : u_T := fun k => match k with
  | 0 => ("CheeseValleys", "trace", "I", false)
  | 1 => ("CheeseValleys", "snowOn", "[I", true)
  | 2 => ("CheeseValleys", "givesOf", "[I", true)
  | 3 => ("CheeseValleys", "passes", "Ljava/util/List;", true)
  | 4 => ("CheeseValleys", "waitedAt", "[I", true)
  | 5 => ("CheeseValleys", "soonestNow", "I", false)
  | 6 => ("CheeseValleys", "fewestNow", "I", false)
  | 7 => ("CheeseValleys", "dayNow", "I", false)
  | 8 => ("CheeseValleys", "valleyNow", "I", false)
  | 9 => ("CheeseValleys", "stageNow", "I", false)
  | 10 => ("CheeseValleys", "waitedNow", "I", false)
  | 11 => ("CheeseValleys", "readings", "Ljava/util/List;", true)
  | 12 => ("CheeseValleys", "fault", "I", false)
  | _ => ("CheeseValleys", "sheets", "[LCheeseValleys$Sheet;", true)
def tyX0 : Nat → FieldType := fun k => match k with
  | 0 => .int
  | 1 => .array .int
  | 2 => .array .int
  | 3 => .object "java/util/List"
  | 4 => .array .int
  | 5 => .int
  | 6 => .int
  | 7 => .int
  | 8 => .int
  | 9 => .int
  | 10 => .int
  | 11 => .object "java/util/List"
  | 12 => .int
  | _ => .array (.object "CheeseValleys$Sheet")
abbrev wsX00 : List Cond := u_ws RX0 TX0 14
set_option maxRecDepth 100000 in
theorem nmX0 : ∀ a, a < 14 → ∀ b, b < 14 → a ≠ b → (TX0 a).2.1 ≠ (TX0 b).2.1 := by decide +kernel
set_option maxRecDepth 100000 in
theorem tyX0_ok : ∀ k, k < 14 → parseFieldDescriptor (TX0 k).2.2.1 = some (tyX0 k) := by decide +kernel
abbrev cX0_init : ByteArray := prog_1_method_3_code
def yX0_init : MethodName := ⟨RX0, "<init>", "()V"⟩
def dkwX0_init_2 : List UInt8 := [181, 0, 28, 42, 7, 189, 0, 31, 181, 0, 33, 177]
abbrev dktX0_init_2 : List UInt8 := dkwX0_init_2 ++ []
def dkwX0_init_1 : List UInt8 := [183, 0, 20, 181, 0, 21, 42, 16, 48, 188, 10, 181, 0, 25, 42, 187, 0, 18, 89, 183, 0, 20]
abbrev dktX0_init_1 : List UInt8 := dkwX0_init_1 ++ dktX0_init_2
def dkwX0_init_0 : List UInt8 := [42, 183, 0, 3, 42, 16, 8, 188, 10, 181, 0, 11, 42, 6, 188, 10, 181, 0, 15, 42, 187, 0, 18, 89]
abbrev dktX0_init_0 : List UInt8 := dkwX0_init_0 ++ dktX0_init_1
theorem dksX0_init_0 : cX0_init.data.toList.drop 0 = dktX0_init_0 := by decide +kernel
theorem dksX0_init_1 : cX0_init.data.toList.drop 24 = dktX0_init_1 := dk_seg dksX0_init_0 24 rfl rfl
theorem dksX0_init_2 : cX0_init.data.toList.drop 46 = dktX0_init_2 := dk_seg dksX0_init_1 22 rfl rfl
theorem dX0_init_0 : decode cX0_init 0 = .ok (.aload_n 0, 1) := dk_42 (dk_at dksX0_init_0 0 rfl rfl)
theorem dX0_init_1 : decode cX0_init 1 = .ok (.invokespecial 3, 3) := dk_183 0 3 (dk_at dksX0_init_0 1 rfl rfl)
theorem dX0_init_4 : decode cX0_init 4 = .ok (.aload_n 0, 1) := dk_42 (dk_at dksX0_init_0 4 rfl rfl)
theorem dX0_init_5 : decode cX0_init 5 = .ok (.bipush 8, 2) := dk_16 8 (dk_at dksX0_init_0 5 rfl rfl)
theorem dX0_init_7 : decode cX0_init 7 = .ok (.newarray .int, 2) := dk_188_10 (dk_at dksX0_init_0 7 rfl rfl)
theorem dX0_init_9 : decode cX0_init 9 = .ok (.putfield 11, 3) := dk_181 0 11 (dk_at dksX0_init_0 9 rfl rfl)
theorem dX0_init_12 : decode cX0_init 12 = .ok (.aload_n 0, 1) := dk_42 (dk_at dksX0_init_0 12 rfl rfl)
theorem dX0_init_13 : decode cX0_init 13 = .ok (.iconst 3, 1) := dk_6 (dk_at dksX0_init_0 13 rfl rfl)
theorem dX0_init_14 : decode cX0_init 14 = .ok (.newarray .int, 2) := dk_188_10 (dk_at dksX0_init_0 14 rfl rfl)
theorem dX0_init_16 : decode cX0_init 16 = .ok (.putfield 15, 3) := dk_181 0 15 (dk_at dksX0_init_0 16 rfl rfl)
theorem dX0_init_19 : decode cX0_init 19 = .ok (.aload_n 0, 1) := dk_42 (dk_at dksX0_init_0 19 rfl rfl)
theorem dX0_init_20 : decode cX0_init 20 = .ok (.new 18, 3) := dk_187 0 18 (dk_at dksX0_init_0 20 rfl rfl)
theorem dX0_init_23 : decode cX0_init 23 = .ok (.dup, 1) := dk_89 (dk_at dksX0_init_0 23 rfl rfl)
theorem dX0_init_24 : decode cX0_init 24 = .ok (.invokespecial 20, 3) := dk_183 0 20 (dk_at dksX0_init_1 0 rfl rfl)
theorem dX0_init_27 : decode cX0_init 27 = .ok (.putfield 21, 3) := dk_181 0 21 (dk_at dksX0_init_1 3 rfl rfl)
theorem dX0_init_30 : decode cX0_init 30 = .ok (.aload_n 0, 1) := dk_42 (dk_at dksX0_init_1 6 rfl rfl)
theorem dX0_init_31 : decode cX0_init 31 = .ok (.bipush 48, 2) := dk_16 48 (dk_at dksX0_init_1 7 rfl rfl)
theorem dX0_init_33 : decode cX0_init 33 = .ok (.newarray .int, 2) := dk_188_10 (dk_at dksX0_init_1 9 rfl rfl)
theorem dX0_init_35 : decode cX0_init 35 = .ok (.putfield 25, 3) := dk_181 0 25 (dk_at dksX0_init_1 11 rfl rfl)
theorem dX0_init_38 : decode cX0_init 38 = .ok (.aload_n 0, 1) := dk_42 (dk_at dksX0_init_1 14 rfl rfl)
theorem dX0_init_39 : decode cX0_init 39 = .ok (.new 18, 3) := dk_187 0 18 (dk_at dksX0_init_1 15 rfl rfl)
theorem dX0_init_42 : decode cX0_init 42 = .ok (.dup, 1) := dk_89 (dk_at dksX0_init_1 18 rfl rfl)
theorem dX0_init_43 : decode cX0_init 43 = .ok (.invokespecial 20, 3) := dk_183 0 20 (dk_at dksX0_init_1 19 rfl rfl)
theorem dX0_init_46 : decode cX0_init 46 = .ok (.putfield 28, 3) := dk_181 0 28 (dk_at dksX0_init_2 0 rfl rfl)
theorem dX0_init_49 : decode cX0_init 49 = .ok (.aload_n 0, 1) := dk_42 (dk_at dksX0_init_2 3 rfl rfl)
theorem dX0_init_50 : decode cX0_init 50 = .ok (.iconst 4, 1) := dk_7 (dk_at dksX0_init_2 4 rfl rfl)
theorem dX0_init_51 : decode cX0_init 51 = .ok (.anewarray 31, 3) := dk_189 0 31 (dk_at dksX0_init_2 5 rfl rfl)
theorem dX0_init_54 : decode cX0_init 54 = .ok (.putfield 33, 3) := dk_181 0 33 (dk_at dksX0_init_2 8 rfl rfl)
theorem dX0_init_57 : decode cX0_init 57 = .ok (.return_, 1) := dk_177 (dk_at dksX0_init_2 11 rfl rfl)
abbrev cX0_ofPass : ByteArray := prog_1_method_15_code
def yX0_ofPass : MethodName := ⟨RX0, "ofPass", "(II)I"⟩
def dkwX0_ofPass_4 : List UInt8 := [172, 45, 182, 0, 125, 172, 16, 254, 172]
abbrev dktX0_ofPass_4 : List UInt8 := dkwX0_ofPass_4 ++ []
def dkwX0_ofPass_3 : List UInt8 := [45, 182, 0, 109, 172, 45, 180, 0, 112, 172, 45, 180, 0, 116, 172, 45, 180, 0, 119, 172, 45, 180, 0, 122]
abbrev dktX0_ofPass_3 : List UInt8 := dkwX0_ofPass_3 ++ dktX0_ofPass_4
def dkwX0_ofPass_2 : List UInt8 := [170, 0, 0, 0, 0, 0, 69, 0, 0, 0, 0, 0, 0, 0, 5, 0, 0, 0, 39, 0, 0, 0, 44, 0, 0, 0, 49, 0, 0, 0, 54, 0, 0, 0, 59, 0, 0, 0, 64]
abbrev dktX0_ofPass_2 : List UInt8 := dkwX0_ofPass_2 ++ dktX0_ofPass_3
def dkwX0_ofPass_1 : List UInt8 := [28]
abbrev dktX0_ofPass_1 : List UInt8 := dkwX0_ofPass_1 ++ dktX0_ofPass_2
def dkwX0_ofPass_0 : List UInt8 := [42, 27, 182, 0, 101, 153, 0, 5, 2, 172, 42, 180, 0, 21, 27, 185, 0, 105, 2, 0, 192, 0, 37, 78]
abbrev dktX0_ofPass_0 : List UInt8 := dkwX0_ofPass_0 ++ dktX0_ofPass_1
theorem dksX0_ofPass_0 : cX0_ofPass.data.toList.drop 0 = dktX0_ofPass_0 := by decide +kernel
theorem dksX0_ofPass_1 : cX0_ofPass.data.toList.drop 24 = dktX0_ofPass_1 := dk_seg dksX0_ofPass_0 24 rfl rfl
theorem dksX0_ofPass_2 : cX0_ofPass.data.toList.drop 25 = dktX0_ofPass_2 := dk_seg dksX0_ofPass_1 1 rfl rfl
theorem dksX0_ofPass_3 : cX0_ofPass.data.toList.drop 64 = dktX0_ofPass_3 := dk_seg dksX0_ofPass_2 39 rfl rfl
theorem dksX0_ofPass_4 : cX0_ofPass.data.toList.drop 88 = dktX0_ofPass_4 := dk_seg dksX0_ofPass_3 24 rfl rfl
theorem dX0_ofPass_0 : decode cX0_ofPass 0 = .ok (.aload_n 0, 1) := dk_42 (dk_at dksX0_ofPass_0 0 rfl rfl)
theorem dX0_ofPass_1 : decode cX0_ofPass 1 = .ok (.iload_n 1, 1) := dk_27 (dk_at dksX0_ofPass_0 1 rfl rfl)
theorem dX0_ofPass_2 : decode cX0_ofPass 2 = .ok (.invokevirtual 101, 3) := dk_182 0 101 (dk_at dksX0_ofPass_0 2 rfl rfl)
theorem dX0_ofPass_5 : decode cX0_ofPass 5 = .ok (.ifCond .eq 5, 3) := dk_153 0 5 (dk_at dksX0_ofPass_0 5 rfl rfl)
theorem dX0_ofPass_8 : decode cX0_ofPass 8 = .ok (.iconst (-1), 1) := dk_2 (dk_at dksX0_ofPass_0 8 rfl rfl)
theorem dX0_ofPass_9 : decode cX0_ofPass 9 = .ok (.ireturn, 1) := dk_172 (dk_at dksX0_ofPass_0 9 rfl rfl)
theorem dX0_ofPass_10 : decode cX0_ofPass 10 = .ok (.aload_n 0, 1) := dk_42 (dk_at dksX0_ofPass_0 10 rfl rfl)
theorem dX0_ofPass_11 : decode cX0_ofPass 11 = .ok (.getfield 21, 3) := dk_180 0 21 (dk_at dksX0_ofPass_0 11 rfl rfl)
theorem dX0_ofPass_14 : decode cX0_ofPass 14 = .ok (.iload_n 1, 1) := dk_27 (dk_at dksX0_ofPass_0 14 rfl rfl)
theorem dX0_ofPass_15 : decode cX0_ofPass 15 = .ok (.invokeinterface 105 2, 5) := by decide +kernel
theorem dX0_ofPass_20 : decode cX0_ofPass 20 = .ok (.checkcast 37, 3) := dk_192 0 37 (dk_at dksX0_ofPass_0 20 rfl rfl)
theorem dX0_ofPass_23 : decode cX0_ofPass 23 = .ok (.astore_n 3, 1) := dk_78 (dk_at dksX0_ofPass_0 23 rfl rfl)
theorem dX0_ofPass_24 : decode cX0_ofPass 24 = .ok (.iload_n 2, 1) := dk_28 (dk_at dksX0_ofPass_1 0 rfl rfl)
theorem dX0_ofPass_25 : decode cX0_ofPass 25 = .ok (.tableswitch 69 0 5 #[39, 44, 49, 54, 59, 64], 39) := by decide +kernel
theorem dX0_ofPass_64 : decode cX0_ofPass 64 = .ok (.aload_n 3, 1) := dk_45 (dk_at dksX0_ofPass_3 0 rfl rfl)
theorem dX0_ofPass_65 : decode cX0_ofPass 65 = .ok (.invokevirtual 109, 3) := dk_182 0 109 (dk_at dksX0_ofPass_3 1 rfl rfl)
theorem dX0_ofPass_68 : decode cX0_ofPass 68 = .ok (.ireturn, 1) := dk_172 (dk_at dksX0_ofPass_3 4 rfl rfl)
theorem dX0_ofPass_69 : decode cX0_ofPass 69 = .ok (.aload_n 3, 1) := dk_45 (dk_at dksX0_ofPass_3 5 rfl rfl)
theorem dX0_ofPass_70 : decode cX0_ofPass 70 = .ok (.getfield 112, 3) := dk_180 0 112 (dk_at dksX0_ofPass_3 6 rfl rfl)
theorem dX0_ofPass_73 : decode cX0_ofPass 73 = .ok (.ireturn, 1) := dk_172 (dk_at dksX0_ofPass_3 9 rfl rfl)
theorem dX0_ofPass_74 : decode cX0_ofPass 74 = .ok (.aload_n 3, 1) := dk_45 (dk_at dksX0_ofPass_3 10 rfl rfl)
theorem dX0_ofPass_75 : decode cX0_ofPass 75 = .ok (.getfield 116, 3) := dk_180 0 116 (dk_at dksX0_ofPass_3 11 rfl rfl)
theorem dX0_ofPass_78 : decode cX0_ofPass 78 = .ok (.ireturn, 1) := dk_172 (dk_at dksX0_ofPass_3 14 rfl rfl)
theorem dX0_ofPass_79 : decode cX0_ofPass 79 = .ok (.aload_n 3, 1) := dk_45 (dk_at dksX0_ofPass_3 15 rfl rfl)
theorem dX0_ofPass_80 : decode cX0_ofPass 80 = .ok (.getfield 119, 3) := dk_180 0 119 (dk_at dksX0_ofPass_3 16 rfl rfl)
theorem dX0_ofPass_83 : decode cX0_ofPass 83 = .ok (.ireturn, 1) := dk_172 (dk_at dksX0_ofPass_3 19 rfl rfl)
theorem dX0_ofPass_84 : decode cX0_ofPass 84 = .ok (.aload_n 3, 1) := dk_45 (dk_at dksX0_ofPass_3 20 rfl rfl)
theorem dX0_ofPass_85 : decode cX0_ofPass 85 = .ok (.getfield 122, 3) := dk_180 0 122 (dk_at dksX0_ofPass_3 21 rfl rfl)
theorem dX0_ofPass_88 : decode cX0_ofPass 88 = .ok (.ireturn, 1) := dk_172 (dk_at dksX0_ofPass_4 0 rfl rfl)
theorem dX0_ofPass_89 : decode cX0_ofPass 89 = .ok (.aload_n 3, 1) := dk_45 (dk_at dksX0_ofPass_4 1 rfl rfl)
theorem dX0_ofPass_90 : decode cX0_ofPass 90 = .ok (.invokevirtual 125, 3) := dk_182 0 125 (dk_at dksX0_ofPass_4 2 rfl rfl)
theorem dX0_ofPass_93 : decode cX0_ofPass 93 = .ok (.ireturn, 1) := dk_172 (dk_at dksX0_ofPass_4 5 rfl rfl)
theorem dX0_ofPass_94 : decode cX0_ofPass 94 = .ok (.bipush (-2), 2) := dk_16 254 (dk_at dksX0_ofPass_4 6 rfl rfl)
theorem dX0_ofPass_96 : decode cX0_ofPass 96 = .ok (.ireturn, 1) := dk_172 (dk_at dksX0_ofPass_4 8 rfl rfl)
abbrev cX0_noPass : ByteArray := prog_1_method_6_code
def yX0_noPass : MethodName := ⟨RX0, "noPass", "(I)Z"⟩
def dkwX0_noPass_1 : List UInt8 := [167, 0, 4, 3, 172]
abbrev dktX0_noPass_1 : List UInt8 := dkwX0_noPass_1 ++ []
def dkwX0_noPass_0 : List UInt8 := [27, 133, 9, 42, 180, 0, 21, 185, 0, 54, 1, 0, 4, 100, 133, 184, 0, 58, 154, 0, 7, 4]
abbrev dktX0_noPass_0 : List UInt8 := dkwX0_noPass_0 ++ dktX0_noPass_1
theorem dksX0_noPass_0 : cX0_noPass.data.toList.drop 0 = dktX0_noPass_0 := by decide +kernel
theorem dksX0_noPass_1 : cX0_noPass.data.toList.drop 22 = dktX0_noPass_1 := dk_seg dksX0_noPass_0 22 rfl rfl
theorem dX0_noPass_0 : decode cX0_noPass 0 = .ok (.iload_n 1, 1) := dk_27 (dk_at dksX0_noPass_0 0 rfl rfl)
theorem dX0_noPass_1 : decode cX0_noPass 1 = .ok (.i2l, 1) := dk_133 (dk_at dksX0_noPass_0 1 rfl rfl)
theorem dX0_noPass_2 : decode cX0_noPass 2 = .ok (.lconst 0, 1) := dk_9 (dk_at dksX0_noPass_0 2 rfl rfl)
theorem dX0_noPass_3 : decode cX0_noPass 3 = .ok (.aload_n 0, 1) := dk_42 (dk_at dksX0_noPass_0 3 rfl rfl)
theorem dX0_noPass_4 : decode cX0_noPass 4 = .ok (.getfield 21, 3) := dk_180 0 21 (dk_at dksX0_noPass_0 4 rfl rfl)
theorem dX0_noPass_7 : decode cX0_noPass 7 = .ok (.invokeinterface 54 1, 5) := by decide +kernel
theorem dX0_noPass_12 : decode cX0_noPass 12 = .ok (.iconst 1, 1) := dk_4 (dk_at dksX0_noPass_0 12 rfl rfl)
theorem dX0_noPass_13 : decode cX0_noPass 13 = .ok (.isub, 1) := dk_100 (dk_at dksX0_noPass_0 13 rfl rfl)
theorem dX0_noPass_14 : decode cX0_noPass 14 = .ok (.i2l, 1) := dk_133 (dk_at dksX0_noPass_0 14 rfl rfl)
theorem dX0_noPass_15 : decode cX0_noPass 15 = .ok (.invokestatic 58, 3) := dk_184 0 58 (dk_at dksX0_noPass_0 15 rfl rfl)
theorem dX0_noPass_18 : decode cX0_noPass 18 = .ok (.ifCond .ne 7, 3) := dk_154 0 7 (dk_at dksX0_noPass_0 18 rfl rfl)
theorem dX0_noPass_21 : decode cX0_noPass 21 = .ok (.iconst 1, 1) := dk_4 (dk_at dksX0_noPass_0 21 rfl rfl)
theorem dX0_noPass_22 : decode cX0_noPass 22 = .ok (.goto 4, 3) := dk_167 0 4 (dk_at dksX0_noPass_1 0 rfl rfl)
theorem dX0_noPass_25 : decode cX0_noPass 25 = .ok (.iconst 0, 1) := dk_3 (dk_at dksX0_noPass_1 3 rfl rfl)
theorem dX0_noPass_26 : decode cX0_noPass 26 = .ok (.ireturn, 1) := dk_172 (dk_at dksX0_noPass_1 4 rfl rfl)
abbrev cX0_in : ByteArray := prog_1_method_1_code
def yX0_in : MethodName := ⟨RX0, "in", "(JJJ)Z"⟩
def dkwX0_in_0 : List UInt8 := [30, 32, 148, 155, 0, 14, 30, 22, 4, 148, 157, 0, 7, 4, 167, 0, 4, 3, 172]
abbrev dktX0_in_0 : List UInt8 := dkwX0_in_0 ++ []
theorem dksX0_in_0 : cX0_in.data.toList.drop 0 = dktX0_in_0 := by decide +kernel
theorem dX0_in_0 : decode cX0_in 0 = .ok (.lload_n 0, 1) := dk_30 (dk_at dksX0_in_0 0 rfl rfl)
theorem dX0_in_1 : decode cX0_in 1 = .ok (.lload_n 2, 1) := dk_32 (dk_at dksX0_in_0 1 rfl rfl)
theorem dX0_in_2 : decode cX0_in 2 = .ok (.lcmp, 1) := dk_148 (dk_at dksX0_in_0 2 rfl rfl)
theorem dX0_in_3 : decode cX0_in 3 = .ok (.ifCond .lt 14, 3) := dk_155 0 14 (dk_at dksX0_in_0 3 rfl rfl)
theorem dX0_in_6 : decode cX0_in 6 = .ok (.lload_n 0, 1) := dk_30 (dk_at dksX0_in_0 6 rfl rfl)
theorem dX0_in_7 : decode cX0_in 7 = .ok (.lload 4, 2) := dk_22 4 (dk_at dksX0_in_0 7 rfl rfl)
theorem dX0_in_9 : decode cX0_in 9 = .ok (.lcmp, 1) := dk_148 (dk_at dksX0_in_0 9 rfl rfl)
theorem dX0_in_10 : decode cX0_in 10 = .ok (.ifCond .gt 7, 3) := dk_157 0 7 (dk_at dksX0_in_0 10 rfl rfl)
theorem dX0_in_13 : decode cX0_in 13 = .ok (.iconst 1, 1) := dk_4 (dk_at dksX0_in_0 13 rfl rfl)
theorem dX0_in_14 : decode cX0_in 14 = .ok (.goto 4, 3) := dk_167 0 4 (dk_at dksX0_in_0 14 rfl rfl)
theorem dX0_in_17 : decode cX0_in 17 = .ok (.iconst 0, 1) := dk_3 (dk_at dksX0_in_0 17 rfl rfl)
theorem dX0_in_18 : decode cX0_in 18 = .ok (.ireturn, 1) := dk_172 (dk_at dksX0_in_0 18 rfl rfl)
abbrev cX0_snow : ByteArray := prog_1_method_16_code
def yX0_snow : MethodName := ⟨RX0, "snow", "(II)I"⟩
def dkwX0_snow_2 : List UInt8 := [172]
abbrev dktX0_snow_2 : List UInt8 := dkwX0_snow_2 ++ []
def dkwX0_snow_1 : List UInt8 := [182, 0, 133, 153, 0, 6, 16, 253, 172, 42, 180, 0, 11, 27, 46, 62, 42, 180, 0, 11, 27, 28, 79, 29]
abbrev dktX0_snow_1 : List UInt8 := dkwX0_snow_1 ++ dktX0_snow_2
def dkwX0_snow_0 : List UInt8 := [27, 184, 0, 128, 153, 0, 15, 28, 133, 9, 20, 0, 131, 184, 0, 58, 154, 0, 6, 16, 254, 172, 42]
abbrev dktX0_snow_0 : List UInt8 := dkwX0_snow_0 ++ dktX0_snow_1
theorem dksX0_snow_0 : cX0_snow.data.toList.drop 0 = dktX0_snow_0 := by decide +kernel
theorem dksX0_snow_1 : cX0_snow.data.toList.drop 23 = dktX0_snow_1 := dk_seg dksX0_snow_0 23 rfl rfl
theorem dksX0_snow_2 : cX0_snow.data.toList.drop 47 = dktX0_snow_2 := dk_seg dksX0_snow_1 24 rfl rfl
theorem dX0_snow_0 : decode cX0_snow 0 = .ok (.iload_n 1, 1) := dk_27 (dk_at dksX0_snow_0 0 rfl rfl)
theorem dX0_snow_1 : decode cX0_snow 1 = .ok (.invokestatic 128, 3) := dk_184 0 128 (dk_at dksX0_snow_0 1 rfl rfl)
theorem dX0_snow_4 : decode cX0_snow 4 = .ok (.ifCond .eq 15, 3) := dk_153 0 15 (dk_at dksX0_snow_0 4 rfl rfl)
theorem dX0_snow_7 : decode cX0_snow 7 = .ok (.iload_n 2, 1) := dk_28 (dk_at dksX0_snow_0 7 rfl rfl)
theorem dX0_snow_8 : decode cX0_snow 8 = .ok (.i2l, 1) := dk_133 (dk_at dksX0_snow_0 8 rfl rfl)
theorem dX0_snow_9 : decode cX0_snow 9 = .ok (.lconst 0, 1) := dk_9 (dk_at dksX0_snow_0 9 rfl rfl)
theorem dX0_snow_10 : decode cX0_snow 10 = .ok (.ldc2_w 131, 3) := dk_20 0 131 (dk_at dksX0_snow_0 10 rfl rfl)
theorem dX0_snow_13 : decode cX0_snow 13 = .ok (.invokestatic 58, 3) := dk_184 0 58 (dk_at dksX0_snow_0 13 rfl rfl)
theorem dX0_snow_16 : decode cX0_snow 16 = .ok (.ifCond .ne 6, 3) := dk_154 0 6 (dk_at dksX0_snow_0 16 rfl rfl)
theorem dX0_snow_19 : decode cX0_snow 19 = .ok (.bipush (-2), 2) := dk_16 254 (dk_at dksX0_snow_0 19 rfl rfl)
theorem dX0_snow_21 : decode cX0_snow 21 = .ok (.ireturn, 1) := dk_172 (dk_at dksX0_snow_0 21 rfl rfl)
theorem dX0_snow_22 : decode cX0_snow 22 = .ok (.aload_n 0, 1) := dk_42 (dk_at dksX0_snow_0 22 rfl rfl)
theorem dX0_snow_23 : decode cX0_snow 23 = .ok (.invokevirtual 133, 3) := dk_182 0 133 (dk_at dksX0_snow_1 0 rfl rfl)
theorem dX0_snow_26 : decode cX0_snow 26 = .ok (.ifCond .eq 6, 3) := dk_153 0 6 (dk_at dksX0_snow_1 3 rfl rfl)
theorem dX0_snow_29 : decode cX0_snow 29 = .ok (.bipush (-3), 2) := dk_16 253 (dk_at dksX0_snow_1 6 rfl rfl)
theorem dX0_snow_31 : decode cX0_snow 31 = .ok (.ireturn, 1) := dk_172 (dk_at dksX0_snow_1 8 rfl rfl)
theorem dX0_snow_32 : decode cX0_snow 32 = .ok (.aload_n 0, 1) := dk_42 (dk_at dksX0_snow_1 9 rfl rfl)
theorem dX0_snow_33 : decode cX0_snow 33 = .ok (.getfield 11, 3) := dk_180 0 11 (dk_at dksX0_snow_1 10 rfl rfl)
theorem dX0_snow_36 : decode cX0_snow 36 = .ok (.iload_n 1, 1) := dk_27 (dk_at dksX0_snow_1 13 rfl rfl)
theorem dX0_snow_37 : decode cX0_snow 37 = .ok (.iaload, 1) := dk_46 (dk_at dksX0_snow_1 14 rfl rfl)
theorem dX0_snow_38 : decode cX0_snow 38 = .ok (.istore_n 3, 1) := dk_62 (dk_at dksX0_snow_1 15 rfl rfl)
theorem dX0_snow_39 : decode cX0_snow 39 = .ok (.aload_n 0, 1) := dk_42 (dk_at dksX0_snow_1 16 rfl rfl)
theorem dX0_snow_40 : decode cX0_snow 40 = .ok (.getfield 11, 3) := dk_180 0 11 (dk_at dksX0_snow_1 17 rfl rfl)
theorem dX0_snow_43 : decode cX0_snow 43 = .ok (.iload_n 1, 1) := dk_27 (dk_at dksX0_snow_1 20 rfl rfl)
theorem dX0_snow_44 : decode cX0_snow 44 = .ok (.iload_n 2, 1) := dk_28 (dk_at dksX0_snow_1 21 rfl rfl)
theorem dX0_snow_45 : decode cX0_snow 45 = .ok (.iastore, 1) := dk_79 (dk_at dksX0_snow_1 22 rfl rfl)
theorem dX0_snow_46 : decode cX0_snow 46 = .ok (.iload_n 3, 1) := dk_29 (dk_at dksX0_snow_1 23 rfl rfl)
theorem dX0_snow_47 : decode cX0_snow 47 = .ok (.ireturn, 1) := dk_172 (dk_at dksX0_snow_2 0 rfl rfl)
abbrev cX0_isDay : ByteArray := prog_1_method_7_code
def yX0_isDay : MethodName := ⟨RX0, "isDay", "(I)Z"⟩
def dkwX0_isDay_0 : List UInt8 := [26, 133, 9, 20, 0, 62, 184, 0, 58, 172]
abbrev dktX0_isDay_0 : List UInt8 := dkwX0_isDay_0 ++ []
theorem dksX0_isDay_0 : cX0_isDay.data.toList.drop 0 = dktX0_isDay_0 := by decide +kernel
theorem dX0_isDay_0 : decode cX0_isDay 0 = .ok (.iload_n 0, 1) := dk_26 (dk_at dksX0_isDay_0 0 rfl rfl)
theorem dX0_isDay_1 : decode cX0_isDay 1 = .ok (.i2l, 1) := dk_133 (dk_at dksX0_isDay_0 1 rfl rfl)
theorem dX0_isDay_2 : decode cX0_isDay 2 = .ok (.lconst 0, 1) := dk_9 (dk_at dksX0_isDay_0 2 rfl rfl)
theorem dX0_isDay_3 : decode cX0_isDay 3 = .ok (.ldc2_w 62, 3) := dk_20 0 62 (dk_at dksX0_isDay_0 3 rfl rfl)
theorem dX0_isDay_6 : decode cX0_isDay 6 = .ok (.invokestatic 58, 3) := dk_184 0 58 (dk_at dksX0_isDay_0 6 rfl rfl)
theorem dX0_isDay_9 : decode cX0_isDay 9 = .ok (.ireturn, 1) := dk_172 (dk_at dksX0_isDay_0 9 rfl rfl)
abbrev cX0_noLand : ByteArray := prog_1_method_5_code
def yX0_noLand : MethodName := ⟨RX0, "noLand", "()Z"⟩
def dkwX0_noLand_0 : List UInt8 := [42, 180, 0, 21, 185, 0, 48, 1, 0, 172]
abbrev dktX0_noLand_0 : List UInt8 := dkwX0_noLand_0 ++ []
theorem dksX0_noLand_0 : cX0_noLand.data.toList.drop 0 = dktX0_noLand_0 := by decide +kernel
theorem dX0_noLand_0 : decode cX0_noLand 0 = .ok (.aload_n 0, 1) := dk_42 (dk_at dksX0_noLand_0 0 rfl rfl)
theorem dX0_noLand_1 : decode cX0_noLand 1 = .ok (.getfield 21, 3) := dk_180 0 21 (dk_at dksX0_noLand_0 1 rfl rfl)
theorem dX0_noLand_4 : decode cX0_noLand 4 = .ok (.invokeinterface 48 1, 5) := by decide +kernel
theorem dX0_noLand_9 : decode cX0_noLand 9 = .ok (.ireturn, 1) := dk_172 (dk_at dksX0_noLand_0 9 rfl rfl)
abbrev cX0_give : ByteArray := prog_1_method_17_code
def yX0_give : MethodName := ⟨RX0, "give", "(II)I"⟩
def dkwX0_give_2 : List UInt8 := [29, 172]
abbrev dktX0_give_2 : List UInt8 := dkwX0_give_2 ++ []
def dkwX0_give_1 : List UInt8 := [42, 182, 0, 133, 153, 0, 6, 16, 253, 172, 42, 180, 0, 15, 27, 46, 62, 42, 180, 0, 15, 27, 28, 79]
abbrev dktX0_give_1 : List UInt8 := dkwX0_give_1 ++ dktX0_give_2
def dkwX0_give_0 : List UInt8 := [27, 184, 0, 136, 154, 0, 5, 2, 172, 28, 133, 9, 20, 0, 139, 184, 0, 58, 154, 0, 6, 16, 254, 172]
abbrev dktX0_give_0 : List UInt8 := dkwX0_give_0 ++ dktX0_give_1
theorem dksX0_give_0 : cX0_give.data.toList.drop 0 = dktX0_give_0 := by decide +kernel
theorem dksX0_give_1 : cX0_give.data.toList.drop 24 = dktX0_give_1 := dk_seg dksX0_give_0 24 rfl rfl
theorem dksX0_give_2 : cX0_give.data.toList.drop 48 = dktX0_give_2 := dk_seg dksX0_give_1 24 rfl rfl
theorem dX0_give_0 : decode cX0_give 0 = .ok (.iload_n 1, 1) := dk_27 (dk_at dksX0_give_0 0 rfl rfl)
theorem dX0_give_1 : decode cX0_give 1 = .ok (.invokestatic 136, 3) := dk_184 0 136 (dk_at dksX0_give_0 1 rfl rfl)
theorem dX0_give_4 : decode cX0_give 4 = .ok (.ifCond .ne 5, 3) := dk_154 0 5 (dk_at dksX0_give_0 4 rfl rfl)
theorem dX0_give_7 : decode cX0_give 7 = .ok (.iconst (-1), 1) := dk_2 (dk_at dksX0_give_0 7 rfl rfl)
theorem dX0_give_8 : decode cX0_give 8 = .ok (.ireturn, 1) := dk_172 (dk_at dksX0_give_0 8 rfl rfl)
theorem dX0_give_9 : decode cX0_give 9 = .ok (.iload_n 2, 1) := dk_28 (dk_at dksX0_give_0 9 rfl rfl)
theorem dX0_give_10 : decode cX0_give 10 = .ok (.i2l, 1) := dk_133 (dk_at dksX0_give_0 10 rfl rfl)
theorem dX0_give_11 : decode cX0_give 11 = .ok (.lconst 0, 1) := dk_9 (dk_at dksX0_give_0 11 rfl rfl)
theorem dX0_give_12 : decode cX0_give 12 = .ok (.ldc2_w 139, 3) := dk_20 0 139 (dk_at dksX0_give_0 12 rfl rfl)
theorem dX0_give_15 : decode cX0_give 15 = .ok (.invokestatic 58, 3) := dk_184 0 58 (dk_at dksX0_give_0 15 rfl rfl)
theorem dX0_give_18 : decode cX0_give 18 = .ok (.ifCond .ne 6, 3) := dk_154 0 6 (dk_at dksX0_give_0 18 rfl rfl)
theorem dX0_give_21 : decode cX0_give 21 = .ok (.bipush (-2), 2) := dk_16 254 (dk_at dksX0_give_0 21 rfl rfl)
theorem dX0_give_23 : decode cX0_give 23 = .ok (.ireturn, 1) := dk_172 (dk_at dksX0_give_0 23 rfl rfl)
theorem dX0_give_24 : decode cX0_give 24 = .ok (.aload_n 0, 1) := dk_42 (dk_at dksX0_give_1 0 rfl rfl)
theorem dX0_give_25 : decode cX0_give 25 = .ok (.invokevirtual 133, 3) := dk_182 0 133 (dk_at dksX0_give_1 1 rfl rfl)
theorem dX0_give_28 : decode cX0_give 28 = .ok (.ifCond .eq 6, 3) := dk_153 0 6 (dk_at dksX0_give_1 4 rfl rfl)
theorem dX0_give_31 : decode cX0_give 31 = .ok (.bipush (-3), 2) := dk_16 253 (dk_at dksX0_give_1 7 rfl rfl)
theorem dX0_give_33 : decode cX0_give 33 = .ok (.ireturn, 1) := dk_172 (dk_at dksX0_give_1 9 rfl rfl)
theorem dX0_give_34 : decode cX0_give 34 = .ok (.aload_n 0, 1) := dk_42 (dk_at dksX0_give_1 10 rfl rfl)
theorem dX0_give_35 : decode cX0_give 35 = .ok (.getfield 15, 3) := dk_180 0 15 (dk_at dksX0_give_1 11 rfl rfl)
theorem dX0_give_38 : decode cX0_give 38 = .ok (.iload_n 1, 1) := dk_27 (dk_at dksX0_give_1 14 rfl rfl)
theorem dX0_give_39 : decode cX0_give 39 = .ok (.iaload, 1) := dk_46 (dk_at dksX0_give_1 15 rfl rfl)
theorem dX0_give_40 : decode cX0_give 40 = .ok (.istore_n 3, 1) := dk_62 (dk_at dksX0_give_1 16 rfl rfl)
theorem dX0_give_41 : decode cX0_give 41 = .ok (.aload_n 0, 1) := dk_42 (dk_at dksX0_give_1 17 rfl rfl)
theorem dX0_give_42 : decode cX0_give 42 = .ok (.getfield 15, 3) := dk_180 0 15 (dk_at dksX0_give_1 18 rfl rfl)
theorem dX0_give_45 : decode cX0_give 45 = .ok (.iload_n 1, 1) := dk_27 (dk_at dksX0_give_1 21 rfl rfl)
theorem dX0_give_46 : decode cX0_give 46 = .ok (.iload_n 2, 1) := dk_28 (dk_at dksX0_give_1 22 rfl rfl)
theorem dX0_give_47 : decode cX0_give 47 = .ok (.iastore, 1) := dk_79 (dk_at dksX0_give_1 23 rfl rfl)
theorem dX0_give_48 : decode cX0_give 48 = .ok (.iload_n 3, 1) := dk_29 (dk_at dksX0_give_2 0 rfl rfl)
theorem dX0_give_49 : decode cX0_give 49 = .ok (.ireturn, 1) := dk_172 (dk_at dksX0_give_2 1 rfl rfl)
abbrev cX0_isValley : ByteArray := prog_1_method_8_code
def yX0_isValley : MethodName := ⟨RX0, "isValley", "(I)Z"⟩
def dkwX0_isValley_0 : List UInt8 := [26, 133, 9, 20, 0, 64, 184, 0, 58, 172]
abbrev dktX0_isValley_0 : List UInt8 := dkwX0_isValley_0 ++ []
theorem dksX0_isValley_0 : cX0_isValley.data.toList.drop 0 = dktX0_isValley_0 := by decide +kernel
theorem dX0_isValley_0 : decode cX0_isValley 0 = .ok (.iload_n 0, 1) := dk_26 (dk_at dksX0_isValley_0 0 rfl rfl)
theorem dX0_isValley_1 : decode cX0_isValley 1 = .ok (.i2l, 1) := dk_133 (dk_at dksX0_isValley_0 1 rfl rfl)
theorem dX0_isValley_2 : decode cX0_isValley 2 = .ok (.lconst 0, 1) := dk_9 (dk_at dksX0_isValley_0 2 rfl rfl)
theorem dX0_isValley_3 : decode cX0_isValley 3 = .ok (.ldc2_w 64, 3) := dk_20 0 64 (dk_at dksX0_isValley_0 3 rfl rfl)
theorem dX0_isValley_6 : decode cX0_isValley 6 = .ok (.invokestatic 58, 3) := dk_184 0 58 (dk_at dksX0_isValley_0 6 rfl rfl)
theorem dX0_isValley_9 : decode cX0_isValley 9 = .ok (.ireturn, 1) := dk_172 (dk_at dksX0_isValley_0 9 rfl rfl)
abbrev cX0_open : ByteArray := prog_1_method_18_code
def yX0_open : MethodName := ⟨RX0, "open", "(I)I"⟩
def dkwX0_open_3 : List UInt8 := [167, 255, 210, 28, 172]
abbrev dktX0_open_3 : List UInt8 := dkwX0_open_3 ++ []
def dkwX0_open_2 : List UInt8 := [192, 0, 37, 27, 182, 0, 141, 153, 0, 9, 4, 29, 120, 167, 0, 4, 3, 128, 61, 132, 3, 1]
abbrev dktX0_open_2 : List UInt8 := dkwX0_open_2 ++ dktX0_open_3
def dkwX0_open_1 : List UInt8 := [29, 42, 180, 0, 21, 185, 0, 54, 1, 0, 162, 0, 39, 28, 42, 180, 0, 21, 29, 185, 0, 105, 2, 0]
abbrev dktX0_open_1 : List UInt8 := dkwX0_open_1 ++ dktX0_open_2
def dkwX0_open_0 : List UInt8 := [27, 184, 0, 128, 154, 0, 6, 16, 254, 172, 42, 182, 0, 133, 153, 0, 6, 16, 253, 172, 3, 61, 3, 62]
abbrev dktX0_open_0 : List UInt8 := dkwX0_open_0 ++ dktX0_open_1
theorem dksX0_open_0 : cX0_open.data.toList.drop 0 = dktX0_open_0 := by decide +kernel
theorem dksX0_open_1 : cX0_open.data.toList.drop 24 = dktX0_open_1 := dk_seg dksX0_open_0 24 rfl rfl
theorem dksX0_open_2 : cX0_open.data.toList.drop 48 = dktX0_open_2 := dk_seg dksX0_open_1 24 rfl rfl
theorem dksX0_open_3 : cX0_open.data.toList.drop 70 = dktX0_open_3 := dk_seg dksX0_open_2 22 rfl rfl
theorem dX0_open_0 : decode cX0_open 0 = .ok (.iload_n 1, 1) := dk_27 (dk_at dksX0_open_0 0 rfl rfl)
theorem dX0_open_1 : decode cX0_open 1 = .ok (.invokestatic 128, 3) := dk_184 0 128 (dk_at dksX0_open_0 1 rfl rfl)
theorem dX0_open_4 : decode cX0_open 4 = .ok (.ifCond .ne 6, 3) := dk_154 0 6 (dk_at dksX0_open_0 4 rfl rfl)
theorem dX0_open_7 : decode cX0_open 7 = .ok (.bipush (-2), 2) := dk_16 254 (dk_at dksX0_open_0 7 rfl rfl)
theorem dX0_open_9 : decode cX0_open 9 = .ok (.ireturn, 1) := dk_172 (dk_at dksX0_open_0 9 rfl rfl)
theorem dX0_open_10 : decode cX0_open 10 = .ok (.aload_n 0, 1) := dk_42 (dk_at dksX0_open_0 10 rfl rfl)
theorem dX0_open_11 : decode cX0_open 11 = .ok (.invokevirtual 133, 3) := dk_182 0 133 (dk_at dksX0_open_0 11 rfl rfl)
theorem dX0_open_14 : decode cX0_open 14 = .ok (.ifCond .eq 6, 3) := dk_153 0 6 (dk_at dksX0_open_0 14 rfl rfl)
theorem dX0_open_17 : decode cX0_open 17 = .ok (.bipush (-3), 2) := dk_16 253 (dk_at dksX0_open_0 17 rfl rfl)
theorem dX0_open_19 : decode cX0_open 19 = .ok (.ireturn, 1) := dk_172 (dk_at dksX0_open_0 19 rfl rfl)
theorem dX0_open_20 : decode cX0_open 20 = .ok (.iconst 0, 1) := dk_3 (dk_at dksX0_open_0 20 rfl rfl)
theorem dX0_open_21 : decode cX0_open 21 = .ok (.istore_n 2, 1) := dk_61 (dk_at dksX0_open_0 21 rfl rfl)
theorem dX0_open_22 : decode cX0_open 22 = .ok (.iconst 0, 1) := dk_3 (dk_at dksX0_open_0 22 rfl rfl)
theorem dX0_open_23 : decode cX0_open 23 = .ok (.istore_n 3, 1) := dk_62 (dk_at dksX0_open_0 23 rfl rfl)
theorem dX0_open_24 : decode cX0_open 24 = .ok (.iload_n 3, 1) := dk_29 (dk_at dksX0_open_1 0 rfl rfl)
theorem dX0_open_25 : decode cX0_open 25 = .ok (.aload_n 0, 1) := dk_42 (dk_at dksX0_open_1 1 rfl rfl)
theorem dX0_open_26 : decode cX0_open 26 = .ok (.getfield 21, 3) := dk_180 0 21 (dk_at dksX0_open_1 2 rfl rfl)
theorem dX0_open_29 : decode cX0_open 29 = .ok (.invokeinterface 54 1, 5) := by decide +kernel
theorem dX0_open_34 : decode cX0_open 34 = .ok (.if_icmp .ge 39, 3) := dk_162 0 39 (dk_at dksX0_open_1 10 rfl rfl)
theorem dX0_open_37 : decode cX0_open 37 = .ok (.iload_n 2, 1) := dk_28 (dk_at dksX0_open_1 13 rfl rfl)
theorem dX0_open_38 : decode cX0_open 38 = .ok (.aload_n 0, 1) := dk_42 (dk_at dksX0_open_1 14 rfl rfl)
theorem dX0_open_39 : decode cX0_open 39 = .ok (.getfield 21, 3) := dk_180 0 21 (dk_at dksX0_open_1 15 rfl rfl)
theorem dX0_open_42 : decode cX0_open 42 = .ok (.iload_n 3, 1) := dk_29 (dk_at dksX0_open_1 18 rfl rfl)
theorem dX0_open_43 : decode cX0_open 43 = .ok (.invokeinterface 105 2, 5) := by decide +kernel
theorem dX0_open_48 : decode cX0_open 48 = .ok (.checkcast 37, 3) := dk_192 0 37 (dk_at dksX0_open_2 0 rfl rfl)
theorem dX0_open_51 : decode cX0_open 51 = .ok (.iload_n 1, 1) := dk_27 (dk_at dksX0_open_2 3 rfl rfl)
theorem dX0_open_52 : decode cX0_open 52 = .ok (.invokevirtual 141, 3) := dk_182 0 141 (dk_at dksX0_open_2 4 rfl rfl)
theorem dX0_open_55 : decode cX0_open 55 = .ok (.ifCond .eq 9, 3) := dk_153 0 9 (dk_at dksX0_open_2 7 rfl rfl)
theorem dX0_open_58 : decode cX0_open 58 = .ok (.iconst 1, 1) := dk_4 (dk_at dksX0_open_2 10 rfl rfl)
theorem dX0_open_59 : decode cX0_open 59 = .ok (.iload_n 3, 1) := dk_29 (dk_at dksX0_open_2 11 rfl rfl)
theorem dX0_open_60 : decode cX0_open 60 = .ok (.ishl, 1) := dk_120 (dk_at dksX0_open_2 12 rfl rfl)
theorem dX0_open_61 : decode cX0_open 61 = .ok (.goto 4, 3) := dk_167 0 4 (dk_at dksX0_open_2 13 rfl rfl)
theorem dX0_open_64 : decode cX0_open 64 = .ok (.iconst 0, 1) := dk_3 (dk_at dksX0_open_2 16 rfl rfl)
theorem dX0_open_65 : decode cX0_open 65 = .ok (.ior, 1) := dk_128 (dk_at dksX0_open_2 17 rfl rfl)
theorem dX0_open_66 : decode cX0_open 66 = .ok (.istore_n 2, 1) := dk_61 (dk_at dksX0_open_2 18 rfl rfl)
theorem dX0_open_67 : decode cX0_open 67 = .ok (.iinc 3 1, 3) := dk_132 3 1 (dk_at dksX0_open_2 19 rfl rfl)
theorem dX0_open_70 : decode cX0_open 70 = .ok (.goto (-46), 3) := dk_167 255 210 (dk_at dksX0_open_3 0 rfl rfl)
theorem dX0_open_73 : decode cX0_open 73 = .ok (.iload_n 2, 1) := dk_28 (dk_at dksX0_open_3 3 rfl rfl)
theorem dX0_open_74 : decode cX0_open 74 = .ok (.ireturn, 1) := dk_172 (dk_at dksX0_open_3 4 rfl rfl)
abbrev cX0_soonest : ByteArray := prog_1_method_25_code
def yX0_soonest : MethodName := ⟨RX0, "soonest", "(I)I"⟩
def dkwX0_soonest_1 : List UInt8 := [182, 0, 179, 172]
abbrev dktX0_soonest_1 : List UInt8 := dkwX0_soonest_1 ++ []
def dkwX0_soonest_0 : List UInt8 := [27, 184, 0, 128, 154, 0, 6, 16, 254, 172, 42, 182, 0, 133, 153, 0, 8, 16, 253, 167, 0, 8, 42, 27]
abbrev dktX0_soonest_0 : List UInt8 := dkwX0_soonest_0 ++ dktX0_soonest_1
theorem dksX0_soonest_0 : cX0_soonest.data.toList.drop 0 = dktX0_soonest_0 := by decide +kernel
theorem dksX0_soonest_1 : cX0_soonest.data.toList.drop 24 = dktX0_soonest_1 := dk_seg dksX0_soonest_0 24 rfl rfl
theorem dX0_soonest_0 : decode cX0_soonest 0 = .ok (.iload_n 1, 1) := dk_27 (dk_at dksX0_soonest_0 0 rfl rfl)
theorem dX0_soonest_1 : decode cX0_soonest 1 = .ok (.invokestatic 128, 3) := dk_184 0 128 (dk_at dksX0_soonest_0 1 rfl rfl)
theorem dX0_soonest_4 : decode cX0_soonest 4 = .ok (.ifCond .ne 6, 3) := dk_154 0 6 (dk_at dksX0_soonest_0 4 rfl rfl)
theorem dX0_soonest_7 : decode cX0_soonest 7 = .ok (.bipush (-2), 2) := dk_16 254 (dk_at dksX0_soonest_0 7 rfl rfl)
theorem dX0_soonest_9 : decode cX0_soonest 9 = .ok (.ireturn, 1) := dk_172 (dk_at dksX0_soonest_0 9 rfl rfl)
theorem dX0_soonest_10 : decode cX0_soonest 10 = .ok (.aload_n 0, 1) := dk_42 (dk_at dksX0_soonest_0 10 rfl rfl)
theorem dX0_soonest_11 : decode cX0_soonest 11 = .ok (.invokevirtual 133, 3) := dk_182 0 133 (dk_at dksX0_soonest_0 11 rfl rfl)
theorem dX0_soonest_14 : decode cX0_soonest 14 = .ok (.ifCond .eq 8, 3) := dk_153 0 8 (dk_at dksX0_soonest_0 14 rfl rfl)
theorem dX0_soonest_17 : decode cX0_soonest 17 = .ok (.bipush (-3), 2) := dk_16 253 (dk_at dksX0_soonest_0 17 rfl rfl)
theorem dX0_soonest_19 : decode cX0_soonest 19 = .ok (.goto 8, 3) := dk_167 0 8 (dk_at dksX0_soonest_0 19 rfl rfl)
theorem dX0_soonest_22 : decode cX0_soonest 22 = .ok (.aload_n 0, 1) := dk_42 (dk_at dksX0_soonest_0 22 rfl rfl)
theorem dX0_soonest_23 : decode cX0_soonest 23 = .ok (.iload_n 1, 1) := dk_27 (dk_at dksX0_soonest_0 23 rfl rfl)
theorem dX0_soonest_24 : decode cX0_soonest 24 = .ok (.invokevirtual 179, 3) := dk_182 0 179 (dk_at dksX0_soonest_1 0 rfl rfl)
theorem dX0_soonest_27 : decode cX0_soonest 27 = .ok (.ireturn, 1) := dk_172 (dk_at dksX0_soonest_1 3 rfl rfl)
abbrev cX0_soonestOf : ByteArray := prog_1_method_23_code
def yX0_soonestOf : MethodName := ⟨RX0, "soonestOf", "(I)I"⟩
def dkwX0_soonestOf_0 : List UInt8 := [42, 27, 182, 0, 176, 42, 180, 0, 166, 172]
abbrev dktX0_soonestOf_0 : List UInt8 := dkwX0_soonestOf_0 ++ []
theorem dksX0_soonestOf_0 : cX0_soonestOf.data.toList.drop 0 = dktX0_soonestOf_0 := by decide +kernel
theorem dX0_soonestOf_0 : decode cX0_soonestOf 0 = .ok (.aload_n 0, 1) := dk_42 (dk_at dksX0_soonestOf_0 0 rfl rfl)
theorem dX0_soonestOf_1 : decode cX0_soonestOf 1 = .ok (.iload_n 1, 1) := dk_27 (dk_at dksX0_soonestOf_0 1 rfl rfl)
theorem dX0_soonestOf_2 : decode cX0_soonestOf 2 = .ok (.invokevirtual 176, 3) := dk_182 0 176 (dk_at dksX0_soonestOf_0 2 rfl rfl)
theorem dX0_soonestOf_5 : decode cX0_soonestOf 5 = .ok (.aload_n 0, 1) := dk_42 (dk_at dksX0_soonestOf_0 5 rfl rfl)
theorem dX0_soonestOf_6 : decode cX0_soonestOf 6 = .ok (.getfield 166, 3) := dk_180 0 166 (dk_at dksX0_soonestOf_0 6 rfl rfl)
theorem dX0_soonestOf_9 : decode cX0_soonestOf 9 = .ok (.ireturn, 1) := dk_172 (dk_at dksX0_soonestOf_0 9 rfl rfl)
abbrev cX0_goWheel : ByteArray := prog_1_method_22_code
def yX0_goWheel : MethodName := ⟨RX0, "goWheel", "(I)V"⟩
def dkwX0_goWheel_6 : List UInt8 := [28, 29, 5, 108, 29, 5, 112, 182, 0, 172, 132, 3, 1, 167, 255, 218, 132, 2, 1, 167, 255, 159, 177]
abbrev dktX0_goWheel_6 : List UInt8 := dkwX0_goWheel_6 ++ []
def dkwX0_goWheel_5 : List UInt8 := [16, 6, 162, 0, 38, 42, 180, 0, 25, 28, 29, 5, 108, 29, 5, 112, 184, 0, 144, 46, 155, 0, 14, 42]
abbrev dktX0_goWheel_5 : List UInt8 := dkwX0_goWheel_5 ++ dktX0_goWheel_6
def dkwX0_goWheel_4 : List UInt8 := [153, 0, 21, 42, 28, 4, 4, 42, 180, 0, 25, 28, 4, 3, 184, 0, 144, 46, 182, 0, 154, 3, 62, 29]
abbrev dktX0_goWheel_4 : List UInt8 := dkwX0_goWheel_4 ++ dktX0_goWheel_5
def dkwX0_goWheel_3 : List UInt8 := [180, 0, 25, 28, 4, 3, 184, 0, 144, 46, 155, 0, 34, 42, 180, 0, 15, 4, 46, 28, 184, 0, 162]
abbrev dktX0_goWheel_3 : List UInt8 := dkwX0_goWheel_3 ++ dktX0_goWheel_4
def dkwX0_goWheel_2 : List UInt8 := [184, 0, 162, 153, 0, 11, 42, 27, 3, 3, 3, 182, 0, 154, 27, 61, 28, 16, 8, 162, 0, 97, 42]
abbrev dktX0_goWheel_2 : List UInt8 := dkwX0_goWheel_2 ++ dktX0_goWheel_3
def dkwX0_goWheel_1 : List UInt8 := [167, 255, 236, 42, 16, 247, 181, 0, 166, 42, 16, 247, 181, 0, 169, 42, 180, 0, 15, 3, 46, 27]
abbrev dktX0_goWheel_1 : List UInt8 := dkwX0_goWheel_1 ++ dktX0_goWheel_2
def dkwX0_goWheel_0 : List UInt8 := [3, 61, 28, 42, 180, 0, 25, 190, 162, 0, 17, 42, 180, 0, 25, 28, 16, 247, 79, 132, 2, 1]
abbrev dktX0_goWheel_0 : List UInt8 := dkwX0_goWheel_0 ++ dktX0_goWheel_1
theorem dksX0_goWheel_0 : cX0_goWheel.data.toList.drop 0 = dktX0_goWheel_0 := by decide +kernel
theorem dksX0_goWheel_1 : cX0_goWheel.data.toList.drop 22 = dktX0_goWheel_1 := dk_seg dksX0_goWheel_0 22 rfl rfl
theorem dksX0_goWheel_2 : cX0_goWheel.data.toList.drop 44 = dktX0_goWheel_2 := dk_seg dksX0_goWheel_1 22 rfl rfl
theorem dksX0_goWheel_3 : cX0_goWheel.data.toList.drop 67 = dktX0_goWheel_3 := dk_seg dksX0_goWheel_2 23 rfl rfl
theorem dksX0_goWheel_4 : cX0_goWheel.data.toList.drop 90 = dktX0_goWheel_4 := dk_seg dksX0_goWheel_3 23 rfl rfl
theorem dksX0_goWheel_5 : cX0_goWheel.data.toList.drop 114 = dktX0_goWheel_5 := dk_seg dksX0_goWheel_4 24 rfl rfl
theorem dksX0_goWheel_6 : cX0_goWheel.data.toList.drop 138 = dktX0_goWheel_6 := dk_seg dksX0_goWheel_5 24 rfl rfl
theorem dX0_goWheel_0 : decode cX0_goWheel 0 = .ok (.iconst 0, 1) := dk_3 (dk_at dksX0_goWheel_0 0 rfl rfl)
theorem dX0_goWheel_1 : decode cX0_goWheel 1 = .ok (.istore_n 2, 1) := dk_61 (dk_at dksX0_goWheel_0 1 rfl rfl)
theorem dX0_goWheel_2 : decode cX0_goWheel 2 = .ok (.iload_n 2, 1) := dk_28 (dk_at dksX0_goWheel_0 2 rfl rfl)
theorem dX0_goWheel_3 : decode cX0_goWheel 3 = .ok (.aload_n 0, 1) := dk_42 (dk_at dksX0_goWheel_0 3 rfl rfl)
theorem dX0_goWheel_4 : decode cX0_goWheel 4 = .ok (.getfield 25, 3) := dk_180 0 25 (dk_at dksX0_goWheel_0 4 rfl rfl)
theorem dX0_goWheel_7 : decode cX0_goWheel 7 = .ok (.arraylength, 1) := dk_190 (dk_at dksX0_goWheel_0 7 rfl rfl)
theorem dX0_goWheel_8 : decode cX0_goWheel 8 = .ok (.if_icmp .ge 17, 3) := dk_162 0 17 (dk_at dksX0_goWheel_0 8 rfl rfl)
theorem dX0_goWheel_11 : decode cX0_goWheel 11 = .ok (.aload_n 0, 1) := dk_42 (dk_at dksX0_goWheel_0 11 rfl rfl)
theorem dX0_goWheel_12 : decode cX0_goWheel 12 = .ok (.getfield 25, 3) := dk_180 0 25 (dk_at dksX0_goWheel_0 12 rfl rfl)
theorem dX0_goWheel_15 : decode cX0_goWheel 15 = .ok (.iload_n 2, 1) := dk_28 (dk_at dksX0_goWheel_0 15 rfl rfl)
theorem dX0_goWheel_16 : decode cX0_goWheel 16 = .ok (.bipush (-9), 2) := dk_16 247 (dk_at dksX0_goWheel_0 16 rfl rfl)
theorem dX0_goWheel_18 : decode cX0_goWheel 18 = .ok (.iastore, 1) := dk_79 (dk_at dksX0_goWheel_0 18 rfl rfl)
theorem dX0_goWheel_19 : decode cX0_goWheel 19 = .ok (.iinc 2 1, 3) := dk_132 2 1 (dk_at dksX0_goWheel_0 19 rfl rfl)
theorem dX0_goWheel_22 : decode cX0_goWheel 22 = .ok (.goto (-20), 3) := dk_167 255 236 (dk_at dksX0_goWheel_1 0 rfl rfl)
theorem dX0_goWheel_25 : decode cX0_goWheel 25 = .ok (.aload_n 0, 1) := dk_42 (dk_at dksX0_goWheel_1 3 rfl rfl)
theorem dX0_goWheel_26 : decode cX0_goWheel 26 = .ok (.bipush (-9), 2) := dk_16 247 (dk_at dksX0_goWheel_1 4 rfl rfl)
theorem dX0_goWheel_28 : decode cX0_goWheel 28 = .ok (.putfield 166, 3) := dk_181 0 166 (dk_at dksX0_goWheel_1 6 rfl rfl)
theorem dX0_goWheel_31 : decode cX0_goWheel 31 = .ok (.aload_n 0, 1) := dk_42 (dk_at dksX0_goWheel_1 9 rfl rfl)
theorem dX0_goWheel_32 : decode cX0_goWheel 32 = .ok (.bipush (-9), 2) := dk_16 247 (dk_at dksX0_goWheel_1 10 rfl rfl)
theorem dX0_goWheel_34 : decode cX0_goWheel 34 = .ok (.putfield 169, 3) := dk_181 0 169 (dk_at dksX0_goWheel_1 12 rfl rfl)
theorem dX0_goWheel_37 : decode cX0_goWheel 37 = .ok (.aload_n 0, 1) := dk_42 (dk_at dksX0_goWheel_1 15 rfl rfl)
theorem dX0_goWheel_38 : decode cX0_goWheel 38 = .ok (.getfield 15, 3) := dk_180 0 15 (dk_at dksX0_goWheel_1 16 rfl rfl)
theorem dX0_goWheel_41 : decode cX0_goWheel 41 = .ok (.iconst 0, 1) := dk_3 (dk_at dksX0_goWheel_1 19 rfl rfl)
theorem dX0_goWheel_42 : decode cX0_goWheel 42 = .ok (.iaload, 1) := dk_46 (dk_at dksX0_goWheel_1 20 rfl rfl)
theorem dX0_goWheel_43 : decode cX0_goWheel 43 = .ok (.iload_n 1, 1) := dk_27 (dk_at dksX0_goWheel_1 21 rfl rfl)
theorem dX0_goWheel_44 : decode cX0_goWheel 44 = .ok (.invokestatic 162, 3) := dk_184 0 162 (dk_at dksX0_goWheel_2 0 rfl rfl)
theorem dX0_goWheel_47 : decode cX0_goWheel 47 = .ok (.ifCond .eq 11, 3) := dk_153 0 11 (dk_at dksX0_goWheel_2 3 rfl rfl)
theorem dX0_goWheel_50 : decode cX0_goWheel 50 = .ok (.aload_n 0, 1) := dk_42 (dk_at dksX0_goWheel_2 6 rfl rfl)
theorem dX0_goWheel_51 : decode cX0_goWheel 51 = .ok (.iload_n 1, 1) := dk_27 (dk_at dksX0_goWheel_2 7 rfl rfl)
theorem dX0_goWheel_52 : decode cX0_goWheel 52 = .ok (.iconst 0, 1) := dk_3 (dk_at dksX0_goWheel_2 8 rfl rfl)
theorem dX0_goWheel_53 : decode cX0_goWheel 53 = .ok (.iconst 0, 1) := dk_3 (dk_at dksX0_goWheel_2 9 rfl rfl)
theorem dX0_goWheel_54 : decode cX0_goWheel 54 = .ok (.iconst 0, 1) := dk_3 (dk_at dksX0_goWheel_2 10 rfl rfl)
theorem dX0_goWheel_55 : decode cX0_goWheel 55 = .ok (.invokevirtual 154, 3) := dk_182 0 154 (dk_at dksX0_goWheel_2 11 rfl rfl)
theorem dX0_goWheel_58 : decode cX0_goWheel 58 = .ok (.iload_n 1, 1) := dk_27 (dk_at dksX0_goWheel_2 14 rfl rfl)
theorem dX0_goWheel_59 : decode cX0_goWheel 59 = .ok (.istore_n 2, 1) := dk_61 (dk_at dksX0_goWheel_2 15 rfl rfl)
theorem dX0_goWheel_60 : decode cX0_goWheel 60 = .ok (.iload_n 2, 1) := dk_28 (dk_at dksX0_goWheel_2 16 rfl rfl)
theorem dX0_goWheel_61 : decode cX0_goWheel 61 = .ok (.bipush 8, 2) := dk_16 8 (dk_at dksX0_goWheel_2 17 rfl rfl)
theorem dX0_goWheel_63 : decode cX0_goWheel 63 = .ok (.if_icmp .ge 97, 3) := dk_162 0 97 (dk_at dksX0_goWheel_2 19 rfl rfl)
theorem dX0_goWheel_66 : decode cX0_goWheel 66 = .ok (.aload_n 0, 1) := dk_42 (dk_at dksX0_goWheel_2 22 rfl rfl)
theorem dX0_goWheel_67 : decode cX0_goWheel 67 = .ok (.getfield 25, 3) := dk_180 0 25 (dk_at dksX0_goWheel_3 0 rfl rfl)
theorem dX0_goWheel_70 : decode cX0_goWheel 70 = .ok (.iload_n 2, 1) := dk_28 (dk_at dksX0_goWheel_3 3 rfl rfl)
theorem dX0_goWheel_71 : decode cX0_goWheel 71 = .ok (.iconst 1, 1) := dk_4 (dk_at dksX0_goWheel_3 4 rfl rfl)
theorem dX0_goWheel_72 : decode cX0_goWheel 72 = .ok (.iconst 0, 1) := dk_3 (dk_at dksX0_goWheel_3 5 rfl rfl)
theorem dX0_goWheel_73 : decode cX0_goWheel 73 = .ok (.invokestatic 144, 3) := dk_184 0 144 (dk_at dksX0_goWheel_3 6 rfl rfl)
theorem dX0_goWheel_76 : decode cX0_goWheel 76 = .ok (.iaload, 1) := dk_46 (dk_at dksX0_goWheel_3 9 rfl rfl)
theorem dX0_goWheel_77 : decode cX0_goWheel 77 = .ok (.ifCond .lt 34, 3) := dk_155 0 34 (dk_at dksX0_goWheel_3 10 rfl rfl)
theorem dX0_goWheel_80 : decode cX0_goWheel 80 = .ok (.aload_n 0, 1) := dk_42 (dk_at dksX0_goWheel_3 13 rfl rfl)
theorem dX0_goWheel_81 : decode cX0_goWheel 81 = .ok (.getfield 15, 3) := dk_180 0 15 (dk_at dksX0_goWheel_3 14 rfl rfl)
theorem dX0_goWheel_84 : decode cX0_goWheel 84 = .ok (.iconst 1, 1) := dk_4 (dk_at dksX0_goWheel_3 17 rfl rfl)
theorem dX0_goWheel_85 : decode cX0_goWheel 85 = .ok (.iaload, 1) := dk_46 (dk_at dksX0_goWheel_3 18 rfl rfl)
theorem dX0_goWheel_86 : decode cX0_goWheel 86 = .ok (.iload_n 2, 1) := dk_28 (dk_at dksX0_goWheel_3 19 rfl rfl)
theorem dX0_goWheel_87 : decode cX0_goWheel 87 = .ok (.invokestatic 162, 3) := dk_184 0 162 (dk_at dksX0_goWheel_3 20 rfl rfl)
theorem dX0_goWheel_90 : decode cX0_goWheel 90 = .ok (.ifCond .eq 21, 3) := dk_153 0 21 (dk_at dksX0_goWheel_4 0 rfl rfl)
theorem dX0_goWheel_93 : decode cX0_goWheel 93 = .ok (.aload_n 0, 1) := dk_42 (dk_at dksX0_goWheel_4 3 rfl rfl)
theorem dX0_goWheel_94 : decode cX0_goWheel 94 = .ok (.iload_n 2, 1) := dk_28 (dk_at dksX0_goWheel_4 4 rfl rfl)
theorem dX0_goWheel_95 : decode cX0_goWheel 95 = .ok (.iconst 1, 1) := dk_4 (dk_at dksX0_goWheel_4 5 rfl rfl)
theorem dX0_goWheel_96 : decode cX0_goWheel 96 = .ok (.iconst 1, 1) := dk_4 (dk_at dksX0_goWheel_4 6 rfl rfl)
theorem dX0_goWheel_97 : decode cX0_goWheel 97 = .ok (.aload_n 0, 1) := dk_42 (dk_at dksX0_goWheel_4 7 rfl rfl)
theorem dX0_goWheel_98 : decode cX0_goWheel 98 = .ok (.getfield 25, 3) := dk_180 0 25 (dk_at dksX0_goWheel_4 8 rfl rfl)
theorem dX0_goWheel_101 : decode cX0_goWheel 101 = .ok (.iload_n 2, 1) := dk_28 (dk_at dksX0_goWheel_4 11 rfl rfl)
theorem dX0_goWheel_102 : decode cX0_goWheel 102 = .ok (.iconst 1, 1) := dk_4 (dk_at dksX0_goWheel_4 12 rfl rfl)
theorem dX0_goWheel_103 : decode cX0_goWheel 103 = .ok (.iconst 0, 1) := dk_3 (dk_at dksX0_goWheel_4 13 rfl rfl)
theorem dX0_goWheel_104 : decode cX0_goWheel 104 = .ok (.invokestatic 144, 3) := dk_184 0 144 (dk_at dksX0_goWheel_4 14 rfl rfl)
theorem dX0_goWheel_107 : decode cX0_goWheel 107 = .ok (.iaload, 1) := dk_46 (dk_at dksX0_goWheel_4 17 rfl rfl)
theorem dX0_goWheel_108 : decode cX0_goWheel 108 = .ok (.invokevirtual 154, 3) := dk_182 0 154 (dk_at dksX0_goWheel_4 18 rfl rfl)
theorem dX0_goWheel_111 : decode cX0_goWheel 111 = .ok (.iconst 0, 1) := dk_3 (dk_at dksX0_goWheel_4 21 rfl rfl)
theorem dX0_goWheel_112 : decode cX0_goWheel 112 = .ok (.istore_n 3, 1) := dk_62 (dk_at dksX0_goWheel_4 22 rfl rfl)
theorem dX0_goWheel_113 : decode cX0_goWheel 113 = .ok (.iload_n 3, 1) := dk_29 (dk_at dksX0_goWheel_4 23 rfl rfl)
theorem dX0_goWheel_114 : decode cX0_goWheel 114 = .ok (.bipush 6, 2) := dk_16 6 (dk_at dksX0_goWheel_5 0 rfl rfl)
theorem dX0_goWheel_116 : decode cX0_goWheel 116 = .ok (.if_icmp .ge 38, 3) := dk_162 0 38 (dk_at dksX0_goWheel_5 2 rfl rfl)
theorem dX0_goWheel_119 : decode cX0_goWheel 119 = .ok (.aload_n 0, 1) := dk_42 (dk_at dksX0_goWheel_5 5 rfl rfl)
theorem dX0_goWheel_120 : decode cX0_goWheel 120 = .ok (.getfield 25, 3) := dk_180 0 25 (dk_at dksX0_goWheel_5 6 rfl rfl)
theorem dX0_goWheel_123 : decode cX0_goWheel 123 = .ok (.iload_n 2, 1) := dk_28 (dk_at dksX0_goWheel_5 9 rfl rfl)
theorem dX0_goWheel_124 : decode cX0_goWheel 124 = .ok (.iload_n 3, 1) := dk_29 (dk_at dksX0_goWheel_5 10 rfl rfl)
theorem dX0_goWheel_125 : decode cX0_goWheel 125 = .ok (.iconst 2, 1) := dk_5 (dk_at dksX0_goWheel_5 11 rfl rfl)
theorem dX0_goWheel_126 : decode cX0_goWheel 126 = .ok (.idiv, 1) := dk_108 (dk_at dksX0_goWheel_5 12 rfl rfl)
theorem dX0_goWheel_127 : decode cX0_goWheel 127 = .ok (.iload_n 3, 1) := dk_29 (dk_at dksX0_goWheel_5 13 rfl rfl)
theorem dX0_goWheel_128 : decode cX0_goWheel 128 = .ok (.iconst 2, 1) := dk_5 (dk_at dksX0_goWheel_5 14 rfl rfl)
theorem dX0_goWheel_129 : decode cX0_goWheel 129 = .ok (.irem, 1) := dk_112 (dk_at dksX0_goWheel_5 15 rfl rfl)
theorem dX0_goWheel_130 : decode cX0_goWheel 130 = .ok (.invokestatic 144, 3) := dk_184 0 144 (dk_at dksX0_goWheel_5 16 rfl rfl)
theorem dX0_goWheel_133 : decode cX0_goWheel 133 = .ok (.iaload, 1) := dk_46 (dk_at dksX0_goWheel_5 19 rfl rfl)
theorem dX0_goWheel_134 : decode cX0_goWheel 134 = .ok (.ifCond .lt 14, 3) := dk_155 0 14 (dk_at dksX0_goWheel_5 20 rfl rfl)
theorem dX0_goWheel_137 : decode cX0_goWheel 137 = .ok (.aload_n 0, 1) := dk_42 (dk_at dksX0_goWheel_5 23 rfl rfl)
theorem dX0_goWheel_138 : decode cX0_goWheel 138 = .ok (.iload_n 2, 1) := dk_28 (dk_at dksX0_goWheel_6 0 rfl rfl)
theorem dX0_goWheel_139 : decode cX0_goWheel 139 = .ok (.iload_n 3, 1) := dk_29 (dk_at dksX0_goWheel_6 1 rfl rfl)
theorem dX0_goWheel_140 : decode cX0_goWheel 140 = .ok (.iconst 2, 1) := dk_5 (dk_at dksX0_goWheel_6 2 rfl rfl)
theorem dX0_goWheel_141 : decode cX0_goWheel 141 = .ok (.idiv, 1) := dk_108 (dk_at dksX0_goWheel_6 3 rfl rfl)
theorem dX0_goWheel_142 : decode cX0_goWheel 142 = .ok (.iload_n 3, 1) := dk_29 (dk_at dksX0_goWheel_6 4 rfl rfl)
theorem dX0_goWheel_143 : decode cX0_goWheel 143 = .ok (.iconst 2, 1) := dk_5 (dk_at dksX0_goWheel_6 5 rfl rfl)
theorem dX0_goWheel_144 : decode cX0_goWheel 144 = .ok (.irem, 1) := dk_112 (dk_at dksX0_goWheel_6 6 rfl rfl)
theorem dX0_goWheel_145 : decode cX0_goWheel 145 = .ok (.invokevirtual 172, 3) := dk_182 0 172 (dk_at dksX0_goWheel_6 7 rfl rfl)
theorem dX0_goWheel_148 : decode cX0_goWheel 148 = .ok (.iinc 3 1, 3) := dk_132 3 1 (dk_at dksX0_goWheel_6 10 rfl rfl)
theorem dX0_goWheel_151 : decode cX0_goWheel 151 = .ok (.goto (-38), 3) := dk_167 255 218 (dk_at dksX0_goWheel_6 13 rfl rfl)
theorem dX0_goWheel_154 : decode cX0_goWheel 154 = .ok (.iinc 2 1, 3) := dk_132 2 1 (dk_at dksX0_goWheel_6 16 rfl rfl)
theorem dX0_goWheel_157 : decode cX0_goWheel 157 = .ok (.goto (-97), 3) := dk_167 255 159 (dk_at dksX0_goWheel_6 19 rfl rfl)
theorem dX0_goWheel_160 : decode cX0_goWheel 160 = .ok (.return_, 1) := dk_177 (dk_at dksX0_goWheel_6 22 rfl rfl)
abbrev cX0_isIn : ByteArray := prog_1_method_2_code
def yX0_isIn : MethodName := ⟨RX0, "isIn", "(II)Z"⟩
def dkwX0_isIn_0 : List UInt8 := [26, 27, 122, 4, 126, 4, 160, 0, 7, 4, 167, 0, 4, 3, 172]
abbrev dktX0_isIn_0 : List UInt8 := dkwX0_isIn_0 ++ []
theorem dksX0_isIn_0 : cX0_isIn.data.toList.drop 0 = dktX0_isIn_0 := by decide +kernel
theorem dX0_isIn_0 : decode cX0_isIn 0 = .ok (.iload_n 0, 1) := dk_26 (dk_at dksX0_isIn_0 0 rfl rfl)
theorem dX0_isIn_1 : decode cX0_isIn 1 = .ok (.iload_n 1, 1) := dk_27 (dk_at dksX0_isIn_0 1 rfl rfl)
theorem dX0_isIn_2 : decode cX0_isIn 2 = .ok (.ishr, 1) := dk_122 (dk_at dksX0_isIn_0 2 rfl rfl)
theorem dX0_isIn_3 : decode cX0_isIn 3 = .ok (.iconst 1, 1) := dk_4 (dk_at dksX0_isIn_0 3 rfl rfl)
theorem dX0_isIn_4 : decode cX0_isIn 4 = .ok (.iand, 1) := dk_126 (dk_at dksX0_isIn_0 4 rfl rfl)
theorem dX0_isIn_5 : decode cX0_isIn 5 = .ok (.iconst 1, 1) := dk_4 (dk_at dksX0_isIn_0 5 rfl rfl)
theorem dX0_isIn_6 : decode cX0_isIn 6 = .ok (.if_icmp .ne 7, 3) := dk_160 0 7 (dk_at dksX0_isIn_0 6 rfl rfl)
theorem dX0_isIn_9 : decode cX0_isIn 9 = .ok (.iconst 1, 1) := dk_4 (dk_at dksX0_isIn_0 9 rfl rfl)
theorem dX0_isIn_10 : decode cX0_isIn 10 = .ok (.goto 4, 3) := dk_167 0 4 (dk_at dksX0_isIn_0 10 rfl rfl)
theorem dX0_isIn_13 : decode cX0_isIn 13 = .ok (.iconst 0, 1) := dk_3 (dk_at dksX0_isIn_0 13 rfl rfl)
theorem dX0_isIn_14 : decode cX0_isIn 14 = .ok (.ireturn, 1) := dk_172 (dk_at dksX0_isIn_0 14 rfl rfl)
abbrev cX0_comes : ByteArray := prog_1_method_20_code
def yX0_comes : MethodName := ⟨RX0, "comes", "(IIII)V"⟩
def dkwX0_comes_1 : List UInt8 := [21, 4, 167, 0, 15, 42, 180, 0, 25, 21, 5, 46, 21, 4, 184, 0, 148, 79, 177]
abbrev dktX0_comes_1 : List UInt8 := dkwX0_comes_1 ++ []
def dkwX0_comes_0 : List UInt8 := [27, 28, 29, 184, 0, 144, 54, 5, 42, 180, 0, 25, 21, 5, 42, 180, 0, 25, 21, 5, 46, 156, 0, 8]
abbrev dktX0_comes_0 : List UInt8 := dkwX0_comes_0 ++ dktX0_comes_1
theorem dksX0_comes_0 : cX0_comes.data.toList.drop 0 = dktX0_comes_0 := by decide +kernel
theorem dksX0_comes_1 : cX0_comes.data.toList.drop 24 = dktX0_comes_1 := dk_seg dksX0_comes_0 24 rfl rfl
theorem dX0_comes_0 : decode cX0_comes 0 = .ok (.iload_n 1, 1) := dk_27 (dk_at dksX0_comes_0 0 rfl rfl)
theorem dX0_comes_1 : decode cX0_comes 1 = .ok (.iload_n 2, 1) := dk_28 (dk_at dksX0_comes_0 1 rfl rfl)
theorem dX0_comes_2 : decode cX0_comes 2 = .ok (.iload_n 3, 1) := dk_29 (dk_at dksX0_comes_0 2 rfl rfl)
theorem dX0_comes_3 : decode cX0_comes 3 = .ok (.invokestatic 144, 3) := dk_184 0 144 (dk_at dksX0_comes_0 3 rfl rfl)
theorem dX0_comes_6 : decode cX0_comes 6 = .ok (.istore 5, 2) := dk_54 5 (dk_at dksX0_comes_0 6 rfl rfl)
theorem dX0_comes_8 : decode cX0_comes 8 = .ok (.aload_n 0, 1) := dk_42 (dk_at dksX0_comes_0 8 rfl rfl)
theorem dX0_comes_9 : decode cX0_comes 9 = .ok (.getfield 25, 3) := dk_180 0 25 (dk_at dksX0_comes_0 9 rfl rfl)
theorem dX0_comes_12 : decode cX0_comes 12 = .ok (.iload 5, 2) := dk_21 5 (dk_at dksX0_comes_0 12 rfl rfl)
theorem dX0_comes_14 : decode cX0_comes 14 = .ok (.aload_n 0, 1) := dk_42 (dk_at dksX0_comes_0 14 rfl rfl)
theorem dX0_comes_15 : decode cX0_comes 15 = .ok (.getfield 25, 3) := dk_180 0 25 (dk_at dksX0_comes_0 15 rfl rfl)
theorem dX0_comes_18 : decode cX0_comes 18 = .ok (.iload 5, 2) := dk_21 5 (dk_at dksX0_comes_0 18 rfl rfl)
theorem dX0_comes_20 : decode cX0_comes 20 = .ok (.iaload, 1) := dk_46 (dk_at dksX0_comes_0 20 rfl rfl)
theorem dX0_comes_21 : decode cX0_comes 21 = .ok (.ifCond .ge 8, 3) := dk_156 0 8 (dk_at dksX0_comes_0 21 rfl rfl)
theorem dX0_comes_24 : decode cX0_comes 24 = .ok (.iload 4, 2) := dk_21 4 (dk_at dksX0_comes_1 0 rfl rfl)
theorem dX0_comes_26 : decode cX0_comes 26 = .ok (.goto 15, 3) := dk_167 0 15 (dk_at dksX0_comes_1 2 rfl rfl)
theorem dX0_comes_29 : decode cX0_comes 29 = .ok (.aload_n 0, 1) := dk_42 (dk_at dksX0_comes_1 5 rfl rfl)
theorem dX0_comes_30 : decode cX0_comes 30 = .ok (.getfield 25, 3) := dk_180 0 25 (dk_at dksX0_comes_1 6 rfl rfl)
theorem dX0_comes_33 : decode cX0_comes 33 = .ok (.iload 5, 2) := dk_21 5 (dk_at dksX0_comes_1 9 rfl rfl)
theorem dX0_comes_35 : decode cX0_comes 35 = .ok (.iaload, 1) := dk_46 (dk_at dksX0_comes_1 11 rfl rfl)
theorem dX0_comes_36 : decode cX0_comes 36 = .ok (.iload 4, 2) := dk_21 4 (dk_at dksX0_comes_1 12 rfl rfl)
theorem dX0_comes_38 : decode cX0_comes 38 = .ok (.invokestatic 148, 3) := dk_184 0 148 (dk_at dksX0_comes_1 14 rfl rfl)
theorem dX0_comes_41 : decode cX0_comes 41 = .ok (.iastore, 1) := dk_79 (dk_at dksX0_comes_1 17 rfl rfl)
theorem dX0_comes_42 : decode cX0_comes 42 = .ok (.return_, 1) := dk_177 (dk_at dksX0_comes_1 18 rfl rfl)
abbrev cX0_placeOf : ByteArray := prog_1_method_19_code
def yX0_placeOf : MethodName := ⟨RX0, "placeOf", "(III)I"⟩
def dkwX0_placeOf_0 : List UInt8 := [26, 6, 104, 27, 96, 5, 104, 28, 96, 172]
abbrev dktX0_placeOf_0 : List UInt8 := dkwX0_placeOf_0 ++ []
theorem dksX0_placeOf_0 : cX0_placeOf.data.toList.drop 0 = dktX0_placeOf_0 := by decide +kernel
theorem dX0_placeOf_0 : decode cX0_placeOf 0 = .ok (.iload_n 0, 1) := dk_26 (dk_at dksX0_placeOf_0 0 rfl rfl)
theorem dX0_placeOf_1 : decode cX0_placeOf 1 = .ok (.iconst 3, 1) := dk_6 (dk_at dksX0_placeOf_0 1 rfl rfl)
theorem dX0_placeOf_2 : decode cX0_placeOf 2 = .ok (.imul, 1) := dk_104 (dk_at dksX0_placeOf_0 2 rfl rfl)
theorem dX0_placeOf_3 : decode cX0_placeOf 3 = .ok (.iload_n 1, 1) := dk_27 (dk_at dksX0_placeOf_0 3 rfl rfl)
theorem dX0_placeOf_4 : decode cX0_placeOf 4 = .ok (.iadd, 1) := dk_96 (dk_at dksX0_placeOf_0 4 rfl rfl)
theorem dX0_placeOf_5 : decode cX0_placeOf 5 = .ok (.iconst 2, 1) := dk_5 (dk_at dksX0_placeOf_0 5 rfl rfl)
theorem dX0_placeOf_6 : decode cX0_placeOf 6 = .ok (.imul, 1) := dk_104 (dk_at dksX0_placeOf_0 6 rfl rfl)
theorem dX0_placeOf_7 : decode cX0_placeOf 7 = .ok (.iload_n 2, 1) := dk_28 (dk_at dksX0_placeOf_0 7 rfl rfl)
theorem dX0_placeOf_8 : decode cX0_placeOf 8 = .ok (.iadd, 1) := dk_96 (dk_at dksX0_placeOf_0 8 rfl rfl)
theorem dX0_placeOf_9 : decode cX0_placeOf 9 = .ok (.ireturn, 1) := dk_172 (dk_at dksX0_placeOf_0 9 rfl rfl)
abbrev cX0_goFrom : ByteArray := prog_1_method_21_code
def yX0_goFrom : MethodName := ⟨RX0, "goFrom", "(III)V"⟩
def dkwX0_goFrom_9 : List UInt8 := [181, 0, 169, 177]
abbrev dktX0_goFrom_9 : List UInt8 := dkwX0_goFrom_9 ++ []
def dkwX0_goFrom_8 : List UInt8 := [180, 0, 169, 155, 0, 12, 21, 4, 42, 180, 0, 169, 162, 0, 8, 21, 4, 167, 0, 7, 42, 180, 0, 169]
abbrev dktX0_goFrom_8 : List UInt8 := dkwX0_goFrom_8 ++ dktX0_goFrom_9
def dkwX0_goFrom_7 : List UInt8 := [180, 0, 166, 156, 0, 7, 27, 167, 0, 7, 42, 180, 0, 166, 181, 0, 166, 42, 21, 5, 153, 0, 24, 42]
abbrev dktX0_goFrom_7 : List UInt8 := dkwX0_goFrom_7 ++ dktX0_goFrom_8
def dkwX0_goFrom_6 : List UInt8 := [46, 27, 184, 0, 162, 153, 0, 7, 4, 167, 0, 4, 3, 54, 5, 42, 21, 5, 153, 0, 14, 42]
abbrev dktX0_goFrom_6 : List UInt8 := dkwX0_goFrom_6 ++ dktX0_goFrom_7
def dkwX0_goFrom_5 : List UInt8 := [182, 0, 154, 132, 5, 1, 167, 255, 173, 29, 4, 160, 0, 25, 28, 5, 160, 0, 20, 42, 180, 0, 15, 5]
abbrev dktX0_goFrom_5 : List UInt8 := dkwX0_goFrom_5 ++ dktX0_goFrom_6
def dkwX0_goFrom_4 : List UInt8 := [182, 0, 125, 96, 16, 8, 162, 0, 19, 42, 27, 25, 6, 182, 0, 125, 96, 21, 7, 29, 21, 4]
abbrev dktX0_goFrom_4 : List UInt8 := dkwX0_goFrom_4 ++ dktX0_goFrom_5
def dkwX0_goFrom_3 : List UInt8 := [182, 0, 158, 54, 7, 21, 7, 155, 0, 40, 25, 6, 27, 182, 0, 141, 153, 0, 31, 27, 25, 6]
abbrev dktX0_goFrom_3 : List UInt8 := dkwX0_goFrom_3 ++ dktX0_goFrom_4
def dkwX0_goFrom_2 : List UInt8 := [162, 0, 75, 42, 180, 0, 21, 21, 5, 185, 0, 105, 2, 0, 192, 0, 37, 58, 6, 25, 6, 28]
abbrev dktX0_goFrom_2 : List UInt8 := dkwX0_goFrom_2 ++ dktX0_goFrom_3
def dkwX0_goFrom_1 : List UInt8 := [29, 21, 4, 4, 96, 182, 0, 154, 3, 54, 5, 21, 5, 42, 180, 0, 21, 185, 0, 54, 1, 0]
abbrev dktX0_goFrom_1 : List UInt8 := dkwX0_goFrom_1 ++ dktX0_goFrom_2
def dkwX0_goFrom_0 : List UInt8 := [42, 180, 0, 25, 27, 28, 29, 184, 0, 144, 46, 54, 4, 27, 16, 7, 162, 0, 16, 42, 27, 4, 96, 28]
abbrev dktX0_goFrom_0 : List UInt8 := dkwX0_goFrom_0 ++ dktX0_goFrom_1
theorem dksX0_goFrom_0 : cX0_goFrom.data.toList.drop 0 = dktX0_goFrom_0 := by decide +kernel
theorem dksX0_goFrom_1 : cX0_goFrom.data.toList.drop 24 = dktX0_goFrom_1 := dk_seg dksX0_goFrom_0 24 rfl rfl
theorem dksX0_goFrom_2 : cX0_goFrom.data.toList.drop 46 = dktX0_goFrom_2 := dk_seg dksX0_goFrom_1 22 rfl rfl
theorem dksX0_goFrom_3 : cX0_goFrom.data.toList.drop 68 = dktX0_goFrom_3 := dk_seg dksX0_goFrom_2 22 rfl rfl
theorem dksX0_goFrom_4 : cX0_goFrom.data.toList.drop 90 = dktX0_goFrom_4 := dk_seg dksX0_goFrom_3 22 rfl rfl
theorem dksX0_goFrom_5 : cX0_goFrom.data.toList.drop 112 = dktX0_goFrom_5 := dk_seg dksX0_goFrom_4 22 rfl rfl
theorem dksX0_goFrom_6 : cX0_goFrom.data.toList.drop 136 = dktX0_goFrom_6 := dk_seg dksX0_goFrom_5 24 rfl rfl
theorem dksX0_goFrom_7 : cX0_goFrom.data.toList.drop 158 = dktX0_goFrom_7 := dk_seg dksX0_goFrom_6 22 rfl rfl
theorem dksX0_goFrom_8 : cX0_goFrom.data.toList.drop 182 = dktX0_goFrom_8 := dk_seg dksX0_goFrom_7 24 rfl rfl
theorem dksX0_goFrom_9 : cX0_goFrom.data.toList.drop 206 = dktX0_goFrom_9 := dk_seg dksX0_goFrom_8 24 rfl rfl
theorem dX0_goFrom_0 : decode cX0_goFrom 0 = .ok (.aload_n 0, 1) := dk_42 (dk_at dksX0_goFrom_0 0 rfl rfl)
theorem dX0_goFrom_1 : decode cX0_goFrom 1 = .ok (.getfield 25, 3) := dk_180 0 25 (dk_at dksX0_goFrom_0 1 rfl rfl)
theorem dX0_goFrom_4 : decode cX0_goFrom 4 = .ok (.iload_n 1, 1) := dk_27 (dk_at dksX0_goFrom_0 4 rfl rfl)
theorem dX0_goFrom_5 : decode cX0_goFrom 5 = .ok (.iload_n 2, 1) := dk_28 (dk_at dksX0_goFrom_0 5 rfl rfl)
theorem dX0_goFrom_6 : decode cX0_goFrom 6 = .ok (.iload_n 3, 1) := dk_29 (dk_at dksX0_goFrom_0 6 rfl rfl)
theorem dX0_goFrom_7 : decode cX0_goFrom 7 = .ok (.invokestatic 144, 3) := dk_184 0 144 (dk_at dksX0_goFrom_0 7 rfl rfl)
theorem dX0_goFrom_10 : decode cX0_goFrom 10 = .ok (.iaload, 1) := dk_46 (dk_at dksX0_goFrom_0 10 rfl rfl)
theorem dX0_goFrom_11 : decode cX0_goFrom 11 = .ok (.istore 4, 2) := dk_54 4 (dk_at dksX0_goFrom_0 11 rfl rfl)
theorem dX0_goFrom_13 : decode cX0_goFrom 13 = .ok (.iload_n 1, 1) := dk_27 (dk_at dksX0_goFrom_0 13 rfl rfl)
theorem dX0_goFrom_14 : decode cX0_goFrom 14 = .ok (.bipush 7, 2) := dk_16 7 (dk_at dksX0_goFrom_0 14 rfl rfl)
theorem dX0_goFrom_16 : decode cX0_goFrom 16 = .ok (.if_icmp .ge 16, 3) := dk_162 0 16 (dk_at dksX0_goFrom_0 16 rfl rfl)
theorem dX0_goFrom_19 : decode cX0_goFrom 19 = .ok (.aload_n 0, 1) := dk_42 (dk_at dksX0_goFrom_0 19 rfl rfl)
theorem dX0_goFrom_20 : decode cX0_goFrom 20 = .ok (.iload_n 1, 1) := dk_27 (dk_at dksX0_goFrom_0 20 rfl rfl)
theorem dX0_goFrom_21 : decode cX0_goFrom 21 = .ok (.iconst 1, 1) := dk_4 (dk_at dksX0_goFrom_0 21 rfl rfl)
theorem dX0_goFrom_22 : decode cX0_goFrom 22 = .ok (.iadd, 1) := dk_96 (dk_at dksX0_goFrom_0 22 rfl rfl)
theorem dX0_goFrom_23 : decode cX0_goFrom 23 = .ok (.iload_n 2, 1) := dk_28 (dk_at dksX0_goFrom_0 23 rfl rfl)
theorem dX0_goFrom_24 : decode cX0_goFrom 24 = .ok (.iload_n 3, 1) := dk_29 (dk_at dksX0_goFrom_1 0 rfl rfl)
theorem dX0_goFrom_25 : decode cX0_goFrom 25 = .ok (.iload 4, 2) := dk_21 4 (dk_at dksX0_goFrom_1 1 rfl rfl)
theorem dX0_goFrom_27 : decode cX0_goFrom 27 = .ok (.iconst 1, 1) := dk_4 (dk_at dksX0_goFrom_1 3 rfl rfl)
theorem dX0_goFrom_28 : decode cX0_goFrom 28 = .ok (.iadd, 1) := dk_96 (dk_at dksX0_goFrom_1 4 rfl rfl)
theorem dX0_goFrom_29 : decode cX0_goFrom 29 = .ok (.invokevirtual 154, 3) := dk_182 0 154 (dk_at dksX0_goFrom_1 5 rfl rfl)
theorem dX0_goFrom_32 : decode cX0_goFrom 32 = .ok (.iconst 0, 1) := dk_3 (dk_at dksX0_goFrom_1 8 rfl rfl)
theorem dX0_goFrom_33 : decode cX0_goFrom 33 = .ok (.istore 5, 2) := dk_54 5 (dk_at dksX0_goFrom_1 9 rfl rfl)
theorem dX0_goFrom_35 : decode cX0_goFrom 35 = .ok (.iload 5, 2) := dk_21 5 (dk_at dksX0_goFrom_1 11 rfl rfl)
theorem dX0_goFrom_37 : decode cX0_goFrom 37 = .ok (.aload_n 0, 1) := dk_42 (dk_at dksX0_goFrom_1 13 rfl rfl)
theorem dX0_goFrom_38 : decode cX0_goFrom 38 = .ok (.getfield 21, 3) := dk_180 0 21 (dk_at dksX0_goFrom_1 14 rfl rfl)
theorem dX0_goFrom_41 : decode cX0_goFrom 41 = .ok (.invokeinterface 54 1, 5) := by decide +kernel
theorem dX0_goFrom_46 : decode cX0_goFrom 46 = .ok (.if_icmp .ge 75, 3) := dk_162 0 75 (dk_at dksX0_goFrom_2 0 rfl rfl)
theorem dX0_goFrom_49 : decode cX0_goFrom 49 = .ok (.aload_n 0, 1) := dk_42 (dk_at dksX0_goFrom_2 3 rfl rfl)
theorem dX0_goFrom_50 : decode cX0_goFrom 50 = .ok (.getfield 21, 3) := dk_180 0 21 (dk_at dksX0_goFrom_2 4 rfl rfl)
theorem dX0_goFrom_53 : decode cX0_goFrom 53 = .ok (.iload 5, 2) := dk_21 5 (dk_at dksX0_goFrom_2 7 rfl rfl)
theorem dX0_goFrom_55 : decode cX0_goFrom 55 = .ok (.invokeinterface 105 2, 5) := by decide +kernel
theorem dX0_goFrom_60 : decode cX0_goFrom 60 = .ok (.checkcast 37, 3) := dk_192 0 37 (dk_at dksX0_goFrom_2 14 rfl rfl)
theorem dX0_goFrom_63 : decode cX0_goFrom 63 = .ok (.astore 6, 2) := dk_58 6 (dk_at dksX0_goFrom_2 17 rfl rfl)
theorem dX0_goFrom_65 : decode cX0_goFrom 65 = .ok (.aload 6, 2) := dk_25 6 (dk_at dksX0_goFrom_2 19 rfl rfl)
theorem dX0_goFrom_67 : decode cX0_goFrom 67 = .ok (.iload_n 2, 1) := dk_28 (dk_at dksX0_goFrom_2 21 rfl rfl)
theorem dX0_goFrom_68 : decode cX0_goFrom 68 = .ok (.invokevirtual 158, 3) := dk_182 0 158 (dk_at dksX0_goFrom_3 0 rfl rfl)
theorem dX0_goFrom_71 : decode cX0_goFrom 71 = .ok (.istore 7, 2) := dk_54 7 (dk_at dksX0_goFrom_3 3 rfl rfl)
theorem dX0_goFrom_73 : decode cX0_goFrom 73 = .ok (.iload 7, 2) := dk_21 7 (dk_at dksX0_goFrom_3 5 rfl rfl)
theorem dX0_goFrom_75 : decode cX0_goFrom 75 = .ok (.ifCond .lt 40, 3) := dk_155 0 40 (dk_at dksX0_goFrom_3 7 rfl rfl)
theorem dX0_goFrom_78 : decode cX0_goFrom 78 = .ok (.aload 6, 2) := dk_25 6 (dk_at dksX0_goFrom_3 10 rfl rfl)
theorem dX0_goFrom_80 : decode cX0_goFrom 80 = .ok (.iload_n 1, 1) := dk_27 (dk_at dksX0_goFrom_3 12 rfl rfl)
theorem dX0_goFrom_81 : decode cX0_goFrom 81 = .ok (.invokevirtual 141, 3) := dk_182 0 141 (dk_at dksX0_goFrom_3 13 rfl rfl)
theorem dX0_goFrom_84 : decode cX0_goFrom 84 = .ok (.ifCond .eq 31, 3) := dk_153 0 31 (dk_at dksX0_goFrom_3 16 rfl rfl)
theorem dX0_goFrom_87 : decode cX0_goFrom 87 = .ok (.iload_n 1, 1) := dk_27 (dk_at dksX0_goFrom_3 19 rfl rfl)
theorem dX0_goFrom_88 : decode cX0_goFrom 88 = .ok (.aload 6, 2) := dk_25 6 (dk_at dksX0_goFrom_3 20 rfl rfl)
theorem dX0_goFrom_90 : decode cX0_goFrom 90 = .ok (.invokevirtual 125, 3) := dk_182 0 125 (dk_at dksX0_goFrom_4 0 rfl rfl)
theorem dX0_goFrom_93 : decode cX0_goFrom 93 = .ok (.iadd, 1) := dk_96 (dk_at dksX0_goFrom_4 3 rfl rfl)
theorem dX0_goFrom_94 : decode cX0_goFrom 94 = .ok (.bipush 8, 2) := dk_16 8 (dk_at dksX0_goFrom_4 4 rfl rfl)
theorem dX0_goFrom_96 : decode cX0_goFrom 96 = .ok (.if_icmp .ge 19, 3) := dk_162 0 19 (dk_at dksX0_goFrom_4 6 rfl rfl)
theorem dX0_goFrom_99 : decode cX0_goFrom 99 = .ok (.aload_n 0, 1) := dk_42 (dk_at dksX0_goFrom_4 9 rfl rfl)
theorem dX0_goFrom_100 : decode cX0_goFrom 100 = .ok (.iload_n 1, 1) := dk_27 (dk_at dksX0_goFrom_4 10 rfl rfl)
theorem dX0_goFrom_101 : decode cX0_goFrom 101 = .ok (.aload 6, 2) := dk_25 6 (dk_at dksX0_goFrom_4 11 rfl rfl)
theorem dX0_goFrom_103 : decode cX0_goFrom 103 = .ok (.invokevirtual 125, 3) := dk_182 0 125 (dk_at dksX0_goFrom_4 13 rfl rfl)
theorem dX0_goFrom_106 : decode cX0_goFrom 106 = .ok (.iadd, 1) := dk_96 (dk_at dksX0_goFrom_4 16 rfl rfl)
theorem dX0_goFrom_107 : decode cX0_goFrom 107 = .ok (.iload 7, 2) := dk_21 7 (dk_at dksX0_goFrom_4 17 rfl rfl)
theorem dX0_goFrom_109 : decode cX0_goFrom 109 = .ok (.iload_n 3, 1) := dk_29 (dk_at dksX0_goFrom_4 19 rfl rfl)
theorem dX0_goFrom_110 : decode cX0_goFrom 110 = .ok (.iload 4, 2) := dk_21 4 (dk_at dksX0_goFrom_4 20 rfl rfl)
theorem dX0_goFrom_112 : decode cX0_goFrom 112 = .ok (.invokevirtual 154, 3) := dk_182 0 154 (dk_at dksX0_goFrom_5 0 rfl rfl)
theorem dX0_goFrom_115 : decode cX0_goFrom 115 = .ok (.iinc 5 1, 3) := dk_132 5 1 (dk_at dksX0_goFrom_5 3 rfl rfl)
theorem dX0_goFrom_118 : decode cX0_goFrom 118 = .ok (.goto (-83), 3) := dk_167 255 173 (dk_at dksX0_goFrom_5 6 rfl rfl)
theorem dX0_goFrom_121 : decode cX0_goFrom 121 = .ok (.iload_n 3, 1) := dk_29 (dk_at dksX0_goFrom_5 9 rfl rfl)
theorem dX0_goFrom_122 : decode cX0_goFrom 122 = .ok (.iconst 1, 1) := dk_4 (dk_at dksX0_goFrom_5 10 rfl rfl)
theorem dX0_goFrom_123 : decode cX0_goFrom 123 = .ok (.if_icmp .ne 25, 3) := dk_160 0 25 (dk_at dksX0_goFrom_5 11 rfl rfl)
theorem dX0_goFrom_126 : decode cX0_goFrom 126 = .ok (.iload_n 2, 1) := dk_28 (dk_at dksX0_goFrom_5 14 rfl rfl)
theorem dX0_goFrom_127 : decode cX0_goFrom 127 = .ok (.iconst 2, 1) := dk_5 (dk_at dksX0_goFrom_5 15 rfl rfl)
theorem dX0_goFrom_128 : decode cX0_goFrom 128 = .ok (.if_icmp .ne 20, 3) := dk_160 0 20 (dk_at dksX0_goFrom_5 16 rfl rfl)
theorem dX0_goFrom_131 : decode cX0_goFrom 131 = .ok (.aload_n 0, 1) := dk_42 (dk_at dksX0_goFrom_5 19 rfl rfl)
theorem dX0_goFrom_132 : decode cX0_goFrom 132 = .ok (.getfield 15, 3) := dk_180 0 15 (dk_at dksX0_goFrom_5 20 rfl rfl)
theorem dX0_goFrom_135 : decode cX0_goFrom 135 = .ok (.iconst 2, 1) := dk_5 (dk_at dksX0_goFrom_5 23 rfl rfl)
theorem dX0_goFrom_136 : decode cX0_goFrom 136 = .ok (.iaload, 1) := dk_46 (dk_at dksX0_goFrom_6 0 rfl rfl)
theorem dX0_goFrom_137 : decode cX0_goFrom 137 = .ok (.iload_n 1, 1) := dk_27 (dk_at dksX0_goFrom_6 1 rfl rfl)
theorem dX0_goFrom_138 : decode cX0_goFrom 138 = .ok (.invokestatic 162, 3) := dk_184 0 162 (dk_at dksX0_goFrom_6 2 rfl rfl)
theorem dX0_goFrom_141 : decode cX0_goFrom 141 = .ok (.ifCond .eq 7, 3) := dk_153 0 7 (dk_at dksX0_goFrom_6 5 rfl rfl)
theorem dX0_goFrom_144 : decode cX0_goFrom 144 = .ok (.iconst 1, 1) := dk_4 (dk_at dksX0_goFrom_6 8 rfl rfl)
theorem dX0_goFrom_145 : decode cX0_goFrom 145 = .ok (.goto 4, 3) := dk_167 0 4 (dk_at dksX0_goFrom_6 9 rfl rfl)
theorem dX0_goFrom_148 : decode cX0_goFrom 148 = .ok (.iconst 0, 1) := dk_3 (dk_at dksX0_goFrom_6 12 rfl rfl)
theorem dX0_goFrom_149 : decode cX0_goFrom 149 = .ok (.istore 5, 2) := dk_54 5 (dk_at dksX0_goFrom_6 13 rfl rfl)
theorem dX0_goFrom_151 : decode cX0_goFrom 151 = .ok (.aload_n 0, 1) := dk_42 (dk_at dksX0_goFrom_6 15 rfl rfl)
theorem dX0_goFrom_152 : decode cX0_goFrom 152 = .ok (.iload 5, 2) := dk_21 5 (dk_at dksX0_goFrom_6 16 rfl rfl)
theorem dX0_goFrom_154 : decode cX0_goFrom 154 = .ok (.ifCond .eq 14, 3) := dk_153 0 14 (dk_at dksX0_goFrom_6 18 rfl rfl)
theorem dX0_goFrom_157 : decode cX0_goFrom 157 = .ok (.aload_n 0, 1) := dk_42 (dk_at dksX0_goFrom_6 21 rfl rfl)
theorem dX0_goFrom_158 : decode cX0_goFrom 158 = .ok (.getfield 166, 3) := dk_180 0 166 (dk_at dksX0_goFrom_7 0 rfl rfl)
theorem dX0_goFrom_161 : decode cX0_goFrom 161 = .ok (.ifCond .ge 7, 3) := dk_156 0 7 (dk_at dksX0_goFrom_7 3 rfl rfl)
theorem dX0_goFrom_164 : decode cX0_goFrom 164 = .ok (.iload_n 1, 1) := dk_27 (dk_at dksX0_goFrom_7 6 rfl rfl)
theorem dX0_goFrom_165 : decode cX0_goFrom 165 = .ok (.goto 7, 3) := dk_167 0 7 (dk_at dksX0_goFrom_7 7 rfl rfl)
theorem dX0_goFrom_168 : decode cX0_goFrom 168 = .ok (.aload_n 0, 1) := dk_42 (dk_at dksX0_goFrom_7 10 rfl rfl)
theorem dX0_goFrom_169 : decode cX0_goFrom 169 = .ok (.getfield 166, 3) := dk_180 0 166 (dk_at dksX0_goFrom_7 11 rfl rfl)
theorem dX0_goFrom_172 : decode cX0_goFrom 172 = .ok (.putfield 166, 3) := dk_181 0 166 (dk_at dksX0_goFrom_7 14 rfl rfl)
theorem dX0_goFrom_175 : decode cX0_goFrom 175 = .ok (.aload_n 0, 1) := dk_42 (dk_at dksX0_goFrom_7 17 rfl rfl)
theorem dX0_goFrom_176 : decode cX0_goFrom 176 = .ok (.iload 5, 2) := dk_21 5 (dk_at dksX0_goFrom_7 18 rfl rfl)
theorem dX0_goFrom_178 : decode cX0_goFrom 178 = .ok (.ifCond .eq 24, 3) := dk_153 0 24 (dk_at dksX0_goFrom_7 20 rfl rfl)
theorem dX0_goFrom_181 : decode cX0_goFrom 181 = .ok (.aload_n 0, 1) := dk_42 (dk_at dksX0_goFrom_7 23 rfl rfl)
theorem dX0_goFrom_182 : decode cX0_goFrom 182 = .ok (.getfield 169, 3) := dk_180 0 169 (dk_at dksX0_goFrom_8 0 rfl rfl)
theorem dX0_goFrom_185 : decode cX0_goFrom 185 = .ok (.ifCond .lt 12, 3) := dk_155 0 12 (dk_at dksX0_goFrom_8 3 rfl rfl)
theorem dX0_goFrom_188 : decode cX0_goFrom 188 = .ok (.iload 4, 2) := dk_21 4 (dk_at dksX0_goFrom_8 6 rfl rfl)
theorem dX0_goFrom_190 : decode cX0_goFrom 190 = .ok (.aload_n 0, 1) := dk_42 (dk_at dksX0_goFrom_8 8 rfl rfl)
theorem dX0_goFrom_191 : decode cX0_goFrom 191 = .ok (.getfield 169, 3) := dk_180 0 169 (dk_at dksX0_goFrom_8 9 rfl rfl)
theorem dX0_goFrom_194 : decode cX0_goFrom 194 = .ok (.if_icmp .ge 8, 3) := dk_162 0 8 (dk_at dksX0_goFrom_8 12 rfl rfl)
theorem dX0_goFrom_197 : decode cX0_goFrom 197 = .ok (.iload 4, 2) := dk_21 4 (dk_at dksX0_goFrom_8 15 rfl rfl)
theorem dX0_goFrom_199 : decode cX0_goFrom 199 = .ok (.goto 7, 3) := dk_167 0 7 (dk_at dksX0_goFrom_8 17 rfl rfl)
theorem dX0_goFrom_202 : decode cX0_goFrom 202 = .ok (.aload_n 0, 1) := dk_42 (dk_at dksX0_goFrom_8 20 rfl rfl)
theorem dX0_goFrom_203 : decode cX0_goFrom 203 = .ok (.getfield 169, 3) := dk_180 0 169 (dk_at dksX0_goFrom_8 21 rfl rfl)
theorem dX0_goFrom_206 : decode cX0_goFrom 206 = .ok (.putfield 169, 3) := dk_181 0 169 (dk_at dksX0_goFrom_9 0 rfl rfl)
theorem dX0_goFrom_209 : decode cX0_goFrom 209 = .ok (.return_, 1) := dk_177 (dk_at dksX0_goFrom_9 3 rfl rfl)
abbrev cX0_holes : ByteArray := prog_1_method_26_code
def yX0_holes : MethodName := ⟨RX0, "holes", "(I)I"⟩
def dkwX0_holes_1 : List UInt8 := [182, 0, 176, 42, 180, 0, 169, 172]
abbrev dktX0_holes_1 : List UInt8 := dkwX0_holes_1 ++ []
def dkwX0_holes_0 : List UInt8 := [27, 184, 0, 128, 154, 0, 6, 16, 254, 172, 42, 182, 0, 133, 153, 0, 6, 16, 253, 172, 42, 27]
abbrev dktX0_holes_0 : List UInt8 := dkwX0_holes_0 ++ dktX0_holes_1
theorem dksX0_holes_0 : cX0_holes.data.toList.drop 0 = dktX0_holes_0 := by decide +kernel
theorem dksX0_holes_1 : cX0_holes.data.toList.drop 22 = dktX0_holes_1 := dk_seg dksX0_holes_0 22 rfl rfl
theorem dX0_holes_0 : decode cX0_holes 0 = .ok (.iload_n 1, 1) := dk_27 (dk_at dksX0_holes_0 0 rfl rfl)
theorem dX0_holes_1 : decode cX0_holes 1 = .ok (.invokestatic 128, 3) := dk_184 0 128 (dk_at dksX0_holes_0 1 rfl rfl)
theorem dX0_holes_4 : decode cX0_holes 4 = .ok (.ifCond .ne 6, 3) := dk_154 0 6 (dk_at dksX0_holes_0 4 rfl rfl)
theorem dX0_holes_7 : decode cX0_holes 7 = .ok (.bipush (-2), 2) := dk_16 254 (dk_at dksX0_holes_0 7 rfl rfl)
theorem dX0_holes_9 : decode cX0_holes 9 = .ok (.ireturn, 1) := dk_172 (dk_at dksX0_holes_0 9 rfl rfl)
theorem dX0_holes_10 : decode cX0_holes 10 = .ok (.aload_n 0, 1) := dk_42 (dk_at dksX0_holes_0 10 rfl rfl)
theorem dX0_holes_11 : decode cX0_holes 11 = .ok (.invokevirtual 133, 3) := dk_182 0 133 (dk_at dksX0_holes_0 11 rfl rfl)
theorem dX0_holes_14 : decode cX0_holes 14 = .ok (.ifCond .eq 6, 3) := dk_153 0 6 (dk_at dksX0_holes_0 14 rfl rfl)
theorem dX0_holes_17 : decode cX0_holes 17 = .ok (.bipush (-3), 2) := dk_16 253 (dk_at dksX0_holes_0 17 rfl rfl)
theorem dX0_holes_19 : decode cX0_holes 19 = .ok (.ireturn, 1) := dk_172 (dk_at dksX0_holes_0 19 rfl rfl)
theorem dX0_holes_20 : decode cX0_holes 20 = .ok (.aload_n 0, 1) := dk_42 (dk_at dksX0_holes_0 20 rfl rfl)
theorem dX0_holes_21 : decode cX0_holes 21 = .ok (.iload_n 1, 1) := dk_27 (dk_at dksX0_holes_0 21 rfl rfl)
theorem dX0_holes_22 : decode cX0_holes 22 = .ok (.invokevirtual 176, 3) := dk_182 0 176 (dk_at dksX0_holes_1 0 rfl rfl)
theorem dX0_holes_25 : decode cX0_holes 25 = .ok (.aload_n 0, 1) := dk_42 (dk_at dksX0_holes_1 3 rfl rfl)
theorem dX0_holes_26 : decode cX0_holes 26 = .ok (.getfield 169, 3) := dk_180 0 169 (dk_at dksX0_holes_1 4 rfl rfl)
theorem dX0_holes_29 : decode cX0_holes 29 = .ok (.ireturn, 1) := dk_172 (dk_at dksX0_holes_1 7 rfl rfl)
abbrev cX0_last : ByteArray := prog_1_method_30_code
def yX0_last : MethodName := ⟨RX0, "last", "(I)I"⟩
def dkwX0_last_1 : List UInt8 := [155, 0, 20, 42, 28, 27, 182, 0, 199, 153, 0, 5, 28, 172, 132, 2, 255, 167, 255, 238, 16, 247, 172]
abbrev dktX0_last_1 : List UInt8 := dkwX0_last_1 ++ []
def dkwX0_last_0 : List UInt8 := [27, 184, 0, 128, 154, 0, 6, 16, 254, 172, 42, 182, 0, 133, 153, 0, 6, 16, 253, 172, 27, 61, 28]
abbrev dktX0_last_0 : List UInt8 := dkwX0_last_0 ++ dktX0_last_1
theorem dksX0_last_0 : cX0_last.data.toList.drop 0 = dktX0_last_0 := by decide +kernel
theorem dksX0_last_1 : cX0_last.data.toList.drop 23 = dktX0_last_1 := dk_seg dksX0_last_0 23 rfl rfl
theorem dX0_last_0 : decode cX0_last 0 = .ok (.iload_n 1, 1) := dk_27 (dk_at dksX0_last_0 0 rfl rfl)
theorem dX0_last_1 : decode cX0_last 1 = .ok (.invokestatic 128, 3) := dk_184 0 128 (dk_at dksX0_last_0 1 rfl rfl)
theorem dX0_last_4 : decode cX0_last 4 = .ok (.ifCond .ne 6, 3) := dk_154 0 6 (dk_at dksX0_last_0 4 rfl rfl)
theorem dX0_last_7 : decode cX0_last 7 = .ok (.bipush (-2), 2) := dk_16 254 (dk_at dksX0_last_0 7 rfl rfl)
theorem dX0_last_9 : decode cX0_last 9 = .ok (.ireturn, 1) := dk_172 (dk_at dksX0_last_0 9 rfl rfl)
theorem dX0_last_10 : decode cX0_last 10 = .ok (.aload_n 0, 1) := dk_42 (dk_at dksX0_last_0 10 rfl rfl)
theorem dX0_last_11 : decode cX0_last 11 = .ok (.invokevirtual 133, 3) := dk_182 0 133 (dk_at dksX0_last_0 11 rfl rfl)
theorem dX0_last_14 : decode cX0_last 14 = .ok (.ifCond .eq 6, 3) := dk_153 0 6 (dk_at dksX0_last_0 14 rfl rfl)
theorem dX0_last_17 : decode cX0_last 17 = .ok (.bipush (-3), 2) := dk_16 253 (dk_at dksX0_last_0 17 rfl rfl)
theorem dX0_last_19 : decode cX0_last 19 = .ok (.ireturn, 1) := dk_172 (dk_at dksX0_last_0 19 rfl rfl)
theorem dX0_last_20 : decode cX0_last 20 = .ok (.iload_n 1, 1) := dk_27 (dk_at dksX0_last_0 20 rfl rfl)
theorem dX0_last_21 : decode cX0_last 21 = .ok (.istore_n 2, 1) := dk_61 (dk_at dksX0_last_0 21 rfl rfl)
theorem dX0_last_22 : decode cX0_last 22 = .ok (.iload_n 2, 1) := dk_28 (dk_at dksX0_last_0 22 rfl rfl)
theorem dX0_last_23 : decode cX0_last 23 = .ok (.ifCond .lt 20, 3) := dk_155 0 20 (dk_at dksX0_last_1 0 rfl rfl)
theorem dX0_last_26 : decode cX0_last 26 = .ok (.aload_n 0, 1) := dk_42 (dk_at dksX0_last_1 3 rfl rfl)
theorem dX0_last_27 : decode cX0_last 27 = .ok (.iload_n 2, 1) := dk_28 (dk_at dksX0_last_1 4 rfl rfl)
theorem dX0_last_28 : decode cX0_last 28 = .ok (.iload_n 1, 1) := dk_27 (dk_at dksX0_last_1 5 rfl rfl)
theorem dX0_last_29 : decode cX0_last 29 = .ok (.invokevirtual 199, 3) := dk_182 0 199 (dk_at dksX0_last_1 6 rfl rfl)
theorem dX0_last_32 : decode cX0_last 32 = .ok (.ifCond .eq 5, 3) := dk_153 0 5 (dk_at dksX0_last_1 9 rfl rfl)
theorem dX0_last_35 : decode cX0_last 35 = .ok (.iload_n 2, 1) := dk_28 (dk_at dksX0_last_1 12 rfl rfl)
theorem dX0_last_36 : decode cX0_last 36 = .ok (.ireturn, 1) := dk_172 (dk_at dksX0_last_1 13 rfl rfl)
theorem dX0_last_37 : decode cX0_last 37 = .ok (.iinc 2 (-1), 3) := dk_132 2 255 (dk_at dksX0_last_1 14 rfl rfl)
theorem dX0_last_40 : decode cX0_last 40 = .ok (.goto (-18), 3) := dk_167 255 238 (dk_at dksX0_last_1 17 rfl rfl)
theorem dX0_last_43 : decode cX0_last 43 = .ok (.bipush (-9), 2) := dk_16 247 (dk_at dksX0_last_1 20 rfl rfl)
theorem dX0_last_45 : decode cX0_last 45 = .ok (.ireturn, 1) := dk_172 (dk_at dksX0_last_1 22 rfl rfl)
abbrev cX0_isBy : ByteArray := prog_1_method_24_code
def yX0_isBy : MethodName := ⟨RX0, "isBy", "(II)Z"⟩
def dkwX0_isBy_0 : List UInt8 := [42, 27, 182, 0, 179, 133, 9, 28, 133, 184, 0, 58, 172]
abbrev dktX0_isBy_0 : List UInt8 := dkwX0_isBy_0 ++ []
theorem dksX0_isBy_0 : cX0_isBy.data.toList.drop 0 = dktX0_isBy_0 := by decide +kernel
theorem dX0_isBy_0 : decode cX0_isBy 0 = .ok (.aload_n 0, 1) := dk_42 (dk_at dksX0_isBy_0 0 rfl rfl)
theorem dX0_isBy_1 : decode cX0_isBy 1 = .ok (.iload_n 1, 1) := dk_27 (dk_at dksX0_isBy_0 1 rfl rfl)
theorem dX0_isBy_2 : decode cX0_isBy 2 = .ok (.invokevirtual 179, 3) := dk_182 0 179 (dk_at dksX0_isBy_0 2 rfl rfl)
theorem dX0_isBy_5 : decode cX0_isBy 5 = .ok (.i2l, 1) := dk_133 (dk_at dksX0_isBy_0 5 rfl rfl)
theorem dX0_isBy_6 : decode cX0_isBy 6 = .ok (.lconst 0, 1) := dk_9 (dk_at dksX0_isBy_0 6 rfl rfl)
theorem dX0_isBy_7 : decode cX0_isBy 7 = .ok (.iload_n 2, 1) := dk_28 (dk_at dksX0_isBy_0 7 rfl rfl)
theorem dX0_isBy_8 : decode cX0_isBy 8 = .ok (.i2l, 1) := dk_133 (dk_at dksX0_isBy_0 8 rfl rfl)
theorem dX0_isBy_9 : decode cX0_isBy 9 = .ok (.invokestatic 58, 3) := dk_184 0 58 (dk_at dksX0_isBy_0 9 rfl rfl)
theorem dX0_isBy_12 : decode cX0_isBy 12 = .ok (.ireturn, 1) := dk_172 (dk_at dksX0_isBy_0 12 rfl rfl)
abbrev cX0_safe : ByteArray := prog_1_method_32_code
def yX0_safe : MethodName := ⟨RX0, "safe", "(I)I"⟩
def dkwX0_safe_1 : List UInt8 := [155, 0, 20, 42, 28, 27, 182, 0, 202, 153, 0, 5, 28, 172, 132, 2, 255, 167, 255, 238, 16, 247, 172]
abbrev dktX0_safe_1 : List UInt8 := dkwX0_safe_1 ++ []
def dkwX0_safe_0 : List UInt8 := [27, 184, 0, 128, 154, 0, 6, 16, 254, 172, 42, 182, 0, 133, 153, 0, 6, 16, 253, 172, 27, 61, 28]
abbrev dktX0_safe_0 : List UInt8 := dkwX0_safe_0 ++ dktX0_safe_1
theorem dksX0_safe_0 : cX0_safe.data.toList.drop 0 = dktX0_safe_0 := by decide +kernel
theorem dksX0_safe_1 : cX0_safe.data.toList.drop 23 = dktX0_safe_1 := dk_seg dksX0_safe_0 23 rfl rfl
theorem dX0_safe_0 : decode cX0_safe 0 = .ok (.iload_n 1, 1) := dk_27 (dk_at dksX0_safe_0 0 rfl rfl)
theorem dX0_safe_1 : decode cX0_safe 1 = .ok (.invokestatic 128, 3) := dk_184 0 128 (dk_at dksX0_safe_0 1 rfl rfl)
theorem dX0_safe_4 : decode cX0_safe 4 = .ok (.ifCond .ne 6, 3) := dk_154 0 6 (dk_at dksX0_safe_0 4 rfl rfl)
theorem dX0_safe_7 : decode cX0_safe 7 = .ok (.bipush (-2), 2) := dk_16 254 (dk_at dksX0_safe_0 7 rfl rfl)
theorem dX0_safe_9 : decode cX0_safe 9 = .ok (.ireturn, 1) := dk_172 (dk_at dksX0_safe_0 9 rfl rfl)
theorem dX0_safe_10 : decode cX0_safe 10 = .ok (.aload_n 0, 1) := dk_42 (dk_at dksX0_safe_0 10 rfl rfl)
theorem dX0_safe_11 : decode cX0_safe 11 = .ok (.invokevirtual 133, 3) := dk_182 0 133 (dk_at dksX0_safe_0 11 rfl rfl)
theorem dX0_safe_14 : decode cX0_safe 14 = .ok (.ifCond .eq 6, 3) := dk_153 0 6 (dk_at dksX0_safe_0 14 rfl rfl)
theorem dX0_safe_17 : decode cX0_safe 17 = .ok (.bipush (-3), 2) := dk_16 253 (dk_at dksX0_safe_0 17 rfl rfl)
theorem dX0_safe_19 : decode cX0_safe 19 = .ok (.ireturn, 1) := dk_172 (dk_at dksX0_safe_0 19 rfl rfl)
theorem dX0_safe_20 : decode cX0_safe 20 = .ok (.iload_n 1, 1) := dk_27 (dk_at dksX0_safe_0 20 rfl rfl)
theorem dX0_safe_21 : decode cX0_safe 21 = .ok (.istore_n 2, 1) := dk_61 (dk_at dksX0_safe_0 21 rfl rfl)
theorem dX0_safe_22 : decode cX0_safe 22 = .ok (.iload_n 2, 1) := dk_28 (dk_at dksX0_safe_0 22 rfl rfl)
theorem dX0_safe_23 : decode cX0_safe 23 = .ok (.ifCond .lt 20, 3) := dk_155 0 20 (dk_at dksX0_safe_1 0 rfl rfl)
theorem dX0_safe_26 : decode cX0_safe 26 = .ok (.aload_n 0, 1) := dk_42 (dk_at dksX0_safe_1 3 rfl rfl)
theorem dX0_safe_27 : decode cX0_safe 27 = .ok (.iload_n 2, 1) := dk_28 (dk_at dksX0_safe_1 4 rfl rfl)
theorem dX0_safe_28 : decode cX0_safe 28 = .ok (.iload_n 1, 1) := dk_27 (dk_at dksX0_safe_1 5 rfl rfl)
theorem dX0_safe_29 : decode cX0_safe 29 = .ok (.invokevirtual 202, 3) := dk_182 0 202 (dk_at dksX0_safe_1 6 rfl rfl)
theorem dX0_safe_32 : decode cX0_safe 32 = .ok (.ifCond .eq 5, 3) := dk_153 0 5 (dk_at dksX0_safe_1 9 rfl rfl)
theorem dX0_safe_35 : decode cX0_safe 35 = .ok (.iload_n 2, 1) := dk_28 (dk_at dksX0_safe_1 12 rfl rfl)
theorem dX0_safe_36 : decode cX0_safe 36 = .ok (.ireturn, 1) := dk_172 (dk_at dksX0_safe_1 13 rfl rfl)
theorem dX0_safe_37 : decode cX0_safe 37 = .ok (.iinc 2 (-1), 3) := dk_132 2 255 (dk_at dksX0_safe_1 14 rfl rfl)
theorem dX0_safe_40 : decode cX0_safe 40 = .ok (.goto (-18), 3) := dk_167 255 238 (dk_at dksX0_safe_1 17 rfl rfl)
theorem dX0_safe_43 : decode cX0_safe 43 = .ok (.bipush (-9), 2) := dk_16 247 (dk_at dksX0_safe_1 20 rfl rfl)
theorem dX0_safe_45 : decode cX0_safe 45 = .ok (.ireturn, 1) := dk_172 (dk_at dksX0_safe_1 22 rfl rfl)
abbrev cX0_isSafe : ByteArray := prog_1_method_31_code
def yX0_isSafe : MethodName := ⟨RX0, "isSafe", "(II)Z"⟩
def dkwX0_isSafe_4 : List UInt8 := [180, 0, 15, 5, 21, 4, 79, 21, 5, 172]
abbrev dktX0_isSafe_4 : List UInt8 := dkwX0_isSafe_4 ++ []
def dkwX0_isSafe_3 : List UInt8 := [126, 79, 42, 27, 28, 182, 0, 199, 54, 5, 132, 6, 1, 167, 255, 198, 42, 180, 0, 15, 4, 29, 79, 42]
abbrev dktX0_isSafe_3 : List UInt8 := dkwX0_isSafe_3 ++ dktX0_isSafe_4
def dkwX0_isSafe_2 : List UInt8 := [16, 8, 108, 120, 2, 130, 126, 79, 42, 180, 0, 15, 5, 21, 4, 4, 21, 6, 16, 8, 112, 120, 2, 130]
abbrev dktX0_isSafe_2 : List UInt8 := dkwX0_isSafe_2 ++ dktX0_isSafe_3
def dkwX0_isSafe_1 : List UInt8 := [54, 6, 21, 6, 16, 64, 162, 0, 57, 21, 5, 153, 0, 52, 42, 180, 0, 15, 4, 29, 4, 21, 6]
abbrev dktX0_isSafe_1 : List UInt8 := dkwX0_isSafe_1 ++ dktX0_isSafe_2
def dkwX0_isSafe_0 : List UInt8 := [42, 180, 0, 15, 4, 46, 62, 42, 180, 0, 15, 5, 46, 54, 4, 42, 27, 28, 182, 0, 199, 54, 5, 3]
abbrev dktX0_isSafe_0 : List UInt8 := dkwX0_isSafe_0 ++ dktX0_isSafe_1
theorem dksX0_isSafe_0 : cX0_isSafe.data.toList.drop 0 = dktX0_isSafe_0 := by decide +kernel
theorem dksX0_isSafe_1 : cX0_isSafe.data.toList.drop 24 = dktX0_isSafe_1 := dk_seg dksX0_isSafe_0 24 rfl rfl
theorem dksX0_isSafe_2 : cX0_isSafe.data.toList.drop 47 = dktX0_isSafe_2 := dk_seg dksX0_isSafe_1 23 rfl rfl
theorem dksX0_isSafe_3 : cX0_isSafe.data.toList.drop 71 = dktX0_isSafe_3 := dk_seg dksX0_isSafe_2 24 rfl rfl
theorem dksX0_isSafe_4 : cX0_isSafe.data.toList.drop 95 = dktX0_isSafe_4 := dk_seg dksX0_isSafe_3 24 rfl rfl
theorem dX0_isSafe_0 : decode cX0_isSafe 0 = .ok (.aload_n 0, 1) := dk_42 (dk_at dksX0_isSafe_0 0 rfl rfl)
theorem dX0_isSafe_1 : decode cX0_isSafe 1 = .ok (.getfield 15, 3) := dk_180 0 15 (dk_at dksX0_isSafe_0 1 rfl rfl)
theorem dX0_isSafe_4 : decode cX0_isSafe 4 = .ok (.iconst 1, 1) := dk_4 (dk_at dksX0_isSafe_0 4 rfl rfl)
theorem dX0_isSafe_5 : decode cX0_isSafe 5 = .ok (.iaload, 1) := dk_46 (dk_at dksX0_isSafe_0 5 rfl rfl)
theorem dX0_isSafe_6 : decode cX0_isSafe 6 = .ok (.istore_n 3, 1) := dk_62 (dk_at dksX0_isSafe_0 6 rfl rfl)
theorem dX0_isSafe_7 : decode cX0_isSafe 7 = .ok (.aload_n 0, 1) := dk_42 (dk_at dksX0_isSafe_0 7 rfl rfl)
theorem dX0_isSafe_8 : decode cX0_isSafe 8 = .ok (.getfield 15, 3) := dk_180 0 15 (dk_at dksX0_isSafe_0 8 rfl rfl)
theorem dX0_isSafe_11 : decode cX0_isSafe 11 = .ok (.iconst 2, 1) := dk_5 (dk_at dksX0_isSafe_0 11 rfl rfl)
theorem dX0_isSafe_12 : decode cX0_isSafe 12 = .ok (.iaload, 1) := dk_46 (dk_at dksX0_isSafe_0 12 rfl rfl)
theorem dX0_isSafe_13 : decode cX0_isSafe 13 = .ok (.istore 4, 2) := dk_54 4 (dk_at dksX0_isSafe_0 13 rfl rfl)
theorem dX0_isSafe_15 : decode cX0_isSafe 15 = .ok (.aload_n 0, 1) := dk_42 (dk_at dksX0_isSafe_0 15 rfl rfl)
theorem dX0_isSafe_16 : decode cX0_isSafe 16 = .ok (.iload_n 1, 1) := dk_27 (dk_at dksX0_isSafe_0 16 rfl rfl)
theorem dX0_isSafe_17 : decode cX0_isSafe 17 = .ok (.iload_n 2, 1) := dk_28 (dk_at dksX0_isSafe_0 17 rfl rfl)
theorem dX0_isSafe_18 : decode cX0_isSafe 18 = .ok (.invokevirtual 199, 3) := dk_182 0 199 (dk_at dksX0_isSafe_0 18 rfl rfl)
theorem dX0_isSafe_21 : decode cX0_isSafe 21 = .ok (.istore 5, 2) := dk_54 5 (dk_at dksX0_isSafe_0 21 rfl rfl)
theorem dX0_isSafe_23 : decode cX0_isSafe 23 = .ok (.iconst 0, 1) := dk_3 (dk_at dksX0_isSafe_0 23 rfl rfl)
theorem dX0_isSafe_24 : decode cX0_isSafe 24 = .ok (.istore 6, 2) := dk_54 6 (dk_at dksX0_isSafe_1 0 rfl rfl)
theorem dX0_isSafe_26 : decode cX0_isSafe 26 = .ok (.iload 6, 2) := dk_21 6 (dk_at dksX0_isSafe_1 2 rfl rfl)
theorem dX0_isSafe_28 : decode cX0_isSafe 28 = .ok (.bipush 64, 2) := dk_16 64 (dk_at dksX0_isSafe_1 4 rfl rfl)
theorem dX0_isSafe_30 : decode cX0_isSafe 30 = .ok (.if_icmp .ge 57, 3) := dk_162 0 57 (dk_at dksX0_isSafe_1 6 rfl rfl)
theorem dX0_isSafe_33 : decode cX0_isSafe 33 = .ok (.iload 5, 2) := dk_21 5 (dk_at dksX0_isSafe_1 9 rfl rfl)
theorem dX0_isSafe_35 : decode cX0_isSafe 35 = .ok (.ifCond .eq 52, 3) := dk_153 0 52 (dk_at dksX0_isSafe_1 11 rfl rfl)
theorem dX0_isSafe_38 : decode cX0_isSafe 38 = .ok (.aload_n 0, 1) := dk_42 (dk_at dksX0_isSafe_1 14 rfl rfl)
theorem dX0_isSafe_39 : decode cX0_isSafe 39 = .ok (.getfield 15, 3) := dk_180 0 15 (dk_at dksX0_isSafe_1 15 rfl rfl)
theorem dX0_isSafe_42 : decode cX0_isSafe 42 = .ok (.iconst 1, 1) := dk_4 (dk_at dksX0_isSafe_1 18 rfl rfl)
theorem dX0_isSafe_43 : decode cX0_isSafe 43 = .ok (.iload_n 3, 1) := dk_29 (dk_at dksX0_isSafe_1 19 rfl rfl)
theorem dX0_isSafe_44 : decode cX0_isSafe 44 = .ok (.iconst 1, 1) := dk_4 (dk_at dksX0_isSafe_1 20 rfl rfl)
theorem dX0_isSafe_45 : decode cX0_isSafe 45 = .ok (.iload 6, 2) := dk_21 6 (dk_at dksX0_isSafe_1 21 rfl rfl)
theorem dX0_isSafe_47 : decode cX0_isSafe 47 = .ok (.bipush 8, 2) := dk_16 8 (dk_at dksX0_isSafe_2 0 rfl rfl)
theorem dX0_isSafe_49 : decode cX0_isSafe 49 = .ok (.idiv, 1) := dk_108 (dk_at dksX0_isSafe_2 2 rfl rfl)
theorem dX0_isSafe_50 : decode cX0_isSafe 50 = .ok (.ishl, 1) := dk_120 (dk_at dksX0_isSafe_2 3 rfl rfl)
theorem dX0_isSafe_51 : decode cX0_isSafe 51 = .ok (.iconst (-1), 1) := dk_2 (dk_at dksX0_isSafe_2 4 rfl rfl)
theorem dX0_isSafe_52 : decode cX0_isSafe 52 = .ok (.ixor, 1) := dk_130 (dk_at dksX0_isSafe_2 5 rfl rfl)
theorem dX0_isSafe_53 : decode cX0_isSafe 53 = .ok (.iand, 1) := dk_126 (dk_at dksX0_isSafe_2 6 rfl rfl)
theorem dX0_isSafe_54 : decode cX0_isSafe 54 = .ok (.iastore, 1) := dk_79 (dk_at dksX0_isSafe_2 7 rfl rfl)
theorem dX0_isSafe_55 : decode cX0_isSafe 55 = .ok (.aload_n 0, 1) := dk_42 (dk_at dksX0_isSafe_2 8 rfl rfl)
theorem dX0_isSafe_56 : decode cX0_isSafe 56 = .ok (.getfield 15, 3) := dk_180 0 15 (dk_at dksX0_isSafe_2 9 rfl rfl)
theorem dX0_isSafe_59 : decode cX0_isSafe 59 = .ok (.iconst 2, 1) := dk_5 (dk_at dksX0_isSafe_2 12 rfl rfl)
theorem dX0_isSafe_60 : decode cX0_isSafe 60 = .ok (.iload 4, 2) := dk_21 4 (dk_at dksX0_isSafe_2 13 rfl rfl)
theorem dX0_isSafe_62 : decode cX0_isSafe 62 = .ok (.iconst 1, 1) := dk_4 (dk_at dksX0_isSafe_2 15 rfl rfl)
theorem dX0_isSafe_63 : decode cX0_isSafe 63 = .ok (.iload 6, 2) := dk_21 6 (dk_at dksX0_isSafe_2 16 rfl rfl)
theorem dX0_isSafe_65 : decode cX0_isSafe 65 = .ok (.bipush 8, 2) := dk_16 8 (dk_at dksX0_isSafe_2 18 rfl rfl)
theorem dX0_isSafe_67 : decode cX0_isSafe 67 = .ok (.irem, 1) := dk_112 (dk_at dksX0_isSafe_2 20 rfl rfl)
theorem dX0_isSafe_68 : decode cX0_isSafe 68 = .ok (.ishl, 1) := dk_120 (dk_at dksX0_isSafe_2 21 rfl rfl)
theorem dX0_isSafe_69 : decode cX0_isSafe 69 = .ok (.iconst (-1), 1) := dk_2 (dk_at dksX0_isSafe_2 22 rfl rfl)
theorem dX0_isSafe_70 : decode cX0_isSafe 70 = .ok (.ixor, 1) := dk_130 (dk_at dksX0_isSafe_2 23 rfl rfl)
theorem dX0_isSafe_71 : decode cX0_isSafe 71 = .ok (.iand, 1) := dk_126 (dk_at dksX0_isSafe_3 0 rfl rfl)
theorem dX0_isSafe_72 : decode cX0_isSafe 72 = .ok (.iastore, 1) := dk_79 (dk_at dksX0_isSafe_3 1 rfl rfl)
theorem dX0_isSafe_73 : decode cX0_isSafe 73 = .ok (.aload_n 0, 1) := dk_42 (dk_at dksX0_isSafe_3 2 rfl rfl)
theorem dX0_isSafe_74 : decode cX0_isSafe 74 = .ok (.iload_n 1, 1) := dk_27 (dk_at dksX0_isSafe_3 3 rfl rfl)
theorem dX0_isSafe_75 : decode cX0_isSafe 75 = .ok (.iload_n 2, 1) := dk_28 (dk_at dksX0_isSafe_3 4 rfl rfl)
theorem dX0_isSafe_76 : decode cX0_isSafe 76 = .ok (.invokevirtual 199, 3) := dk_182 0 199 (dk_at dksX0_isSafe_3 5 rfl rfl)
theorem dX0_isSafe_79 : decode cX0_isSafe 79 = .ok (.istore 5, 2) := dk_54 5 (dk_at dksX0_isSafe_3 8 rfl rfl)
theorem dX0_isSafe_81 : decode cX0_isSafe 81 = .ok (.iinc 6 1, 3) := dk_132 6 1 (dk_at dksX0_isSafe_3 10 rfl rfl)
theorem dX0_isSafe_84 : decode cX0_isSafe 84 = .ok (.goto (-58), 3) := dk_167 255 198 (dk_at dksX0_isSafe_3 13 rfl rfl)
theorem dX0_isSafe_87 : decode cX0_isSafe 87 = .ok (.aload_n 0, 1) := dk_42 (dk_at dksX0_isSafe_3 16 rfl rfl)
theorem dX0_isSafe_88 : decode cX0_isSafe 88 = .ok (.getfield 15, 3) := dk_180 0 15 (dk_at dksX0_isSafe_3 17 rfl rfl)
theorem dX0_isSafe_91 : decode cX0_isSafe 91 = .ok (.iconst 1, 1) := dk_4 (dk_at dksX0_isSafe_3 20 rfl rfl)
theorem dX0_isSafe_92 : decode cX0_isSafe 92 = .ok (.iload_n 3, 1) := dk_29 (dk_at dksX0_isSafe_3 21 rfl rfl)
theorem dX0_isSafe_93 : decode cX0_isSafe 93 = .ok (.iastore, 1) := dk_79 (dk_at dksX0_isSafe_3 22 rfl rfl)
theorem dX0_isSafe_94 : decode cX0_isSafe 94 = .ok (.aload_n 0, 1) := dk_42 (dk_at dksX0_isSafe_3 23 rfl rfl)
theorem dX0_isSafe_95 : decode cX0_isSafe 95 = .ok (.getfield 15, 3) := dk_180 0 15 (dk_at dksX0_isSafe_4 0 rfl rfl)
theorem dX0_isSafe_98 : decode cX0_isSafe 98 = .ok (.iconst 2, 1) := dk_5 (dk_at dksX0_isSafe_4 3 rfl rfl)
theorem dX0_isSafe_99 : decode cX0_isSafe 99 = .ok (.iload 4, 2) := dk_21 4 (dk_at dksX0_isSafe_4 4 rfl rfl)
theorem dX0_isSafe_101 : decode cX0_isSafe 101 = .ok (.iastore, 1) := dk_79 (dk_at dksX0_isSafe_4 6 rfl rfl)
theorem dX0_isSafe_102 : decode cX0_isSafe 102 = .ok (.iload 5, 2) := dk_21 5 (dk_at dksX0_isSafe_4 7 rfl rfl)
theorem dX0_isSafe_104 : decode cX0_isSafe 104 = .ok (.ireturn, 1) := dk_172 (dk_at dksX0_isSafe_4 9 rfl rfl)
abbrev cX0_hangs : ByteArray := prog_1_method_33_code
def yX0_hangs : MethodName := ⟨RX0, "hangs", "(II)I"⟩
def dkwX0_hangs_5 : List UInt8 := [132, 5, 1, 167, 255, 177, 21, 4, 172]
abbrev dktX0_hangs_5 : List UInt8 := dkwX0_hangs_5 ++ []
def dkwX0_hangs_4 : List UInt8 := [21, 5, 120, 128, 54, 4, 42, 180, 0, 21, 21, 5, 185, 0, 105, 2, 0, 192, 0, 37, 3, 181, 0, 205]
abbrev dktX0_hangs_4 : List UInt8 := dkwX0_hangs_4 ++ dktX0_hangs_5
def dkwX0_hangs_3 : List UInt8 := [192, 0, 37, 4, 181, 0, 205, 21, 4, 42, 27, 28, 182, 0, 199, 153, 0, 7, 3, 167, 0, 7, 4]
abbrev dktX0_hangs_3 : List UInt8 := dkwX0_hangs_3 ++ dktX0_hangs_4
def dkwX0_hangs_2 : List UInt8 := [185, 0, 54, 1, 0, 162, 0, 71, 29, 153, 0, 67, 42, 180, 0, 21, 21, 5, 185, 0, 105, 2, 0]
abbrev dktX0_hangs_2 : List UInt8 := dkwX0_hangs_2 ++ dktX0_hangs_3
def dkwX0_hangs_1 : List UInt8 := [16, 253, 172, 42, 27, 28, 182, 0, 199, 62, 3, 54, 4, 3, 54, 5, 21, 5, 42, 180, 0, 21]
abbrev dktX0_hangs_1 : List UInt8 := dkwX0_hangs_1 ++ dktX0_hangs_2
def dkwX0_hangs_0 : List UInt8 := [27, 184, 0, 128, 153, 0, 10, 28, 184, 0, 128, 154, 0, 6, 16, 254, 172, 42, 182, 0, 133, 153, 0, 6]
abbrev dktX0_hangs_0 : List UInt8 := dkwX0_hangs_0 ++ dktX0_hangs_1
theorem dksX0_hangs_0 : cX0_hangs.data.toList.drop 0 = dktX0_hangs_0 := by decide +kernel
theorem dksX0_hangs_1 : cX0_hangs.data.toList.drop 24 = dktX0_hangs_1 := dk_seg dksX0_hangs_0 24 rfl rfl
theorem dksX0_hangs_2 : cX0_hangs.data.toList.drop 46 = dktX0_hangs_2 := dk_seg dksX0_hangs_1 22 rfl rfl
theorem dksX0_hangs_3 : cX0_hangs.data.toList.drop 69 = dktX0_hangs_3 := dk_seg dksX0_hangs_2 23 rfl rfl
theorem dksX0_hangs_4 : cX0_hangs.data.toList.drop 92 = dktX0_hangs_4 := dk_seg dksX0_hangs_3 23 rfl rfl
theorem dksX0_hangs_5 : cX0_hangs.data.toList.drop 116 = dktX0_hangs_5 := dk_seg dksX0_hangs_4 24 rfl rfl
theorem dX0_hangs_0 : decode cX0_hangs 0 = .ok (.iload_n 1, 1) := dk_27 (dk_at dksX0_hangs_0 0 rfl rfl)
theorem dX0_hangs_1 : decode cX0_hangs 1 = .ok (.invokestatic 128, 3) := dk_184 0 128 (dk_at dksX0_hangs_0 1 rfl rfl)
theorem dX0_hangs_4 : decode cX0_hangs 4 = .ok (.ifCond .eq 10, 3) := dk_153 0 10 (dk_at dksX0_hangs_0 4 rfl rfl)
theorem dX0_hangs_7 : decode cX0_hangs 7 = .ok (.iload_n 2, 1) := dk_28 (dk_at dksX0_hangs_0 7 rfl rfl)
theorem dX0_hangs_8 : decode cX0_hangs 8 = .ok (.invokestatic 128, 3) := dk_184 0 128 (dk_at dksX0_hangs_0 8 rfl rfl)
theorem dX0_hangs_11 : decode cX0_hangs 11 = .ok (.ifCond .ne 6, 3) := dk_154 0 6 (dk_at dksX0_hangs_0 11 rfl rfl)
theorem dX0_hangs_14 : decode cX0_hangs 14 = .ok (.bipush (-2), 2) := dk_16 254 (dk_at dksX0_hangs_0 14 rfl rfl)
theorem dX0_hangs_16 : decode cX0_hangs 16 = .ok (.ireturn, 1) := dk_172 (dk_at dksX0_hangs_0 16 rfl rfl)
theorem dX0_hangs_17 : decode cX0_hangs 17 = .ok (.aload_n 0, 1) := dk_42 (dk_at dksX0_hangs_0 17 rfl rfl)
theorem dX0_hangs_18 : decode cX0_hangs 18 = .ok (.invokevirtual 133, 3) := dk_182 0 133 (dk_at dksX0_hangs_0 18 rfl rfl)
theorem dX0_hangs_21 : decode cX0_hangs 21 = .ok (.ifCond .eq 6, 3) := dk_153 0 6 (dk_at dksX0_hangs_0 21 rfl rfl)
theorem dX0_hangs_24 : decode cX0_hangs 24 = .ok (.bipush (-3), 2) := dk_16 253 (dk_at dksX0_hangs_1 0 rfl rfl)
theorem dX0_hangs_26 : decode cX0_hangs 26 = .ok (.ireturn, 1) := dk_172 (dk_at dksX0_hangs_1 2 rfl rfl)
theorem dX0_hangs_27 : decode cX0_hangs 27 = .ok (.aload_n 0, 1) := dk_42 (dk_at dksX0_hangs_1 3 rfl rfl)
theorem dX0_hangs_28 : decode cX0_hangs 28 = .ok (.iload_n 1, 1) := dk_27 (dk_at dksX0_hangs_1 4 rfl rfl)
theorem dX0_hangs_29 : decode cX0_hangs 29 = .ok (.iload_n 2, 1) := dk_28 (dk_at dksX0_hangs_1 5 rfl rfl)
theorem dX0_hangs_30 : decode cX0_hangs 30 = .ok (.invokevirtual 199, 3) := dk_182 0 199 (dk_at dksX0_hangs_1 6 rfl rfl)
theorem dX0_hangs_33 : decode cX0_hangs 33 = .ok (.istore_n 3, 1) := dk_62 (dk_at dksX0_hangs_1 9 rfl rfl)
theorem dX0_hangs_34 : decode cX0_hangs 34 = .ok (.iconst 0, 1) := dk_3 (dk_at dksX0_hangs_1 10 rfl rfl)
theorem dX0_hangs_35 : decode cX0_hangs 35 = .ok (.istore 4, 2) := dk_54 4 (dk_at dksX0_hangs_1 11 rfl rfl)
theorem dX0_hangs_37 : decode cX0_hangs 37 = .ok (.iconst 0, 1) := dk_3 (dk_at dksX0_hangs_1 13 rfl rfl)
theorem dX0_hangs_38 : decode cX0_hangs 38 = .ok (.istore 5, 2) := dk_54 5 (dk_at dksX0_hangs_1 14 rfl rfl)
theorem dX0_hangs_40 : decode cX0_hangs 40 = .ok (.iload 5, 2) := dk_21 5 (dk_at dksX0_hangs_1 16 rfl rfl)
theorem dX0_hangs_42 : decode cX0_hangs 42 = .ok (.aload_n 0, 1) := dk_42 (dk_at dksX0_hangs_1 18 rfl rfl)
theorem dX0_hangs_43 : decode cX0_hangs 43 = .ok (.getfield 21, 3) := dk_180 0 21 (dk_at dksX0_hangs_1 19 rfl rfl)
theorem dX0_hangs_46 : decode cX0_hangs 46 = .ok (.invokeinterface 54 1, 5) := by decide +kernel
theorem dX0_hangs_51 : decode cX0_hangs 51 = .ok (.if_icmp .ge 71, 3) := dk_162 0 71 (dk_at dksX0_hangs_2 5 rfl rfl)
theorem dX0_hangs_54 : decode cX0_hangs 54 = .ok (.iload_n 3, 1) := dk_29 (dk_at dksX0_hangs_2 8 rfl rfl)
theorem dX0_hangs_55 : decode cX0_hangs 55 = .ok (.ifCond .eq 67, 3) := dk_153 0 67 (dk_at dksX0_hangs_2 9 rfl rfl)
theorem dX0_hangs_58 : decode cX0_hangs 58 = .ok (.aload_n 0, 1) := dk_42 (dk_at dksX0_hangs_2 12 rfl rfl)
theorem dX0_hangs_59 : decode cX0_hangs 59 = .ok (.getfield 21, 3) := dk_180 0 21 (dk_at dksX0_hangs_2 13 rfl rfl)
theorem dX0_hangs_62 : decode cX0_hangs 62 = .ok (.iload 5, 2) := dk_21 5 (dk_at dksX0_hangs_2 16 rfl rfl)
theorem dX0_hangs_64 : decode cX0_hangs 64 = .ok (.invokeinterface 105 2, 5) := by decide +kernel
theorem dX0_hangs_69 : decode cX0_hangs 69 = .ok (.checkcast 37, 3) := dk_192 0 37 (dk_at dksX0_hangs_3 0 rfl rfl)
theorem dX0_hangs_72 : decode cX0_hangs 72 = .ok (.iconst 1, 1) := dk_4 (dk_at dksX0_hangs_3 3 rfl rfl)
theorem dX0_hangs_73 : decode cX0_hangs 73 = .ok (.putfield 205, 3) := dk_181 0 205 (dk_at dksX0_hangs_3 4 rfl rfl)
theorem dX0_hangs_76 : decode cX0_hangs 76 = .ok (.iload 4, 2) := dk_21 4 (dk_at dksX0_hangs_3 7 rfl rfl)
theorem dX0_hangs_78 : decode cX0_hangs 78 = .ok (.aload_n 0, 1) := dk_42 (dk_at dksX0_hangs_3 9 rfl rfl)
theorem dX0_hangs_79 : decode cX0_hangs 79 = .ok (.iload_n 1, 1) := dk_27 (dk_at dksX0_hangs_3 10 rfl rfl)
theorem dX0_hangs_80 : decode cX0_hangs 80 = .ok (.iload_n 2, 1) := dk_28 (dk_at dksX0_hangs_3 11 rfl rfl)
theorem dX0_hangs_81 : decode cX0_hangs 81 = .ok (.invokevirtual 199, 3) := dk_182 0 199 (dk_at dksX0_hangs_3 12 rfl rfl)
theorem dX0_hangs_84 : decode cX0_hangs 84 = .ok (.ifCond .eq 7, 3) := dk_153 0 7 (dk_at dksX0_hangs_3 15 rfl rfl)
theorem dX0_hangs_87 : decode cX0_hangs 87 = .ok (.iconst 0, 1) := dk_3 (dk_at dksX0_hangs_3 18 rfl rfl)
theorem dX0_hangs_88 : decode cX0_hangs 88 = .ok (.goto 7, 3) := dk_167 0 7 (dk_at dksX0_hangs_3 19 rfl rfl)
theorem dX0_hangs_91 : decode cX0_hangs 91 = .ok (.iconst 1, 1) := dk_4 (dk_at dksX0_hangs_3 22 rfl rfl)
theorem dX0_hangs_92 : decode cX0_hangs 92 = .ok (.iload 5, 2) := dk_21 5 (dk_at dksX0_hangs_4 0 rfl rfl)
theorem dX0_hangs_94 : decode cX0_hangs 94 = .ok (.ishl, 1) := dk_120 (dk_at dksX0_hangs_4 2 rfl rfl)
theorem dX0_hangs_95 : decode cX0_hangs 95 = .ok (.ior, 1) := dk_128 (dk_at dksX0_hangs_4 3 rfl rfl)
theorem dX0_hangs_96 : decode cX0_hangs 96 = .ok (.istore 4, 2) := dk_54 4 (dk_at dksX0_hangs_4 4 rfl rfl)
theorem dX0_hangs_98 : decode cX0_hangs 98 = .ok (.aload_n 0, 1) := dk_42 (dk_at dksX0_hangs_4 6 rfl rfl)
theorem dX0_hangs_99 : decode cX0_hangs 99 = .ok (.getfield 21, 3) := dk_180 0 21 (dk_at dksX0_hangs_4 7 rfl rfl)
theorem dX0_hangs_102 : decode cX0_hangs 102 = .ok (.iload 5, 2) := dk_21 5 (dk_at dksX0_hangs_4 10 rfl rfl)
theorem dX0_hangs_104 : decode cX0_hangs 104 = .ok (.invokeinterface 105 2, 5) := by decide +kernel
theorem dX0_hangs_109 : decode cX0_hangs 109 = .ok (.checkcast 37, 3) := dk_192 0 37 (dk_at dksX0_hangs_4 17 rfl rfl)
theorem dX0_hangs_112 : decode cX0_hangs 112 = .ok (.iconst 0, 1) := dk_3 (dk_at dksX0_hangs_4 20 rfl rfl)
theorem dX0_hangs_113 : decode cX0_hangs 113 = .ok (.putfield 205, 3) := dk_181 0 205 (dk_at dksX0_hangs_4 21 rfl rfl)
theorem dX0_hangs_116 : decode cX0_hangs 116 = .ok (.iinc 5 1, 3) := dk_132 5 1 (dk_at dksX0_hangs_5 0 rfl rfl)
theorem dX0_hangs_119 : decode cX0_hangs 119 = .ok (.goto (-79), 3) := dk_167 255 177 (dk_at dksX0_hangs_5 3 rfl rfl)
theorem dX0_hangs_122 : decode cX0_hangs 122 = .ok (.iload 4, 2) := dk_21 4 (dk_at dksX0_hangs_5 6 rfl rfl)
theorem dX0_hangs_124 : decode cX0_hangs 124 = .ok (.ireturn, 1) := dk_172 (dk_at dksX0_hangs_5 8 rfl rfl)
abbrev cX0_peace : ByteArray := prog_1_method_35_code
def yX0_peace : MethodName := ⟨RX0, "peace", "(II)I"⟩
def dkwX0_peace_1 : List UInt8 := [16, 253, 167, 0, 9, 42, 27, 28, 182, 0, 209, 172]
abbrev dktX0_peace_1 : List UInt8 := dkwX0_peace_1 ++ []
def dkwX0_peace_0 : List UInt8 := [27, 184, 0, 128, 153, 0, 10, 28, 184, 0, 128, 154, 0, 6, 16, 254, 172, 42, 182, 0, 133, 153, 0, 8]
abbrev dktX0_peace_0 : List UInt8 := dkwX0_peace_0 ++ dktX0_peace_1
theorem dksX0_peace_0 : cX0_peace.data.toList.drop 0 = dktX0_peace_0 := by decide +kernel
theorem dksX0_peace_1 : cX0_peace.data.toList.drop 24 = dktX0_peace_1 := dk_seg dksX0_peace_0 24 rfl rfl
theorem dX0_peace_0 : decode cX0_peace 0 = .ok (.iload_n 1, 1) := dk_27 (dk_at dksX0_peace_0 0 rfl rfl)
theorem dX0_peace_1 : decode cX0_peace 1 = .ok (.invokestatic 128, 3) := dk_184 0 128 (dk_at dksX0_peace_0 1 rfl rfl)
theorem dX0_peace_4 : decode cX0_peace 4 = .ok (.ifCond .eq 10, 3) := dk_153 0 10 (dk_at dksX0_peace_0 4 rfl rfl)
theorem dX0_peace_7 : decode cX0_peace 7 = .ok (.iload_n 2, 1) := dk_28 (dk_at dksX0_peace_0 7 rfl rfl)
theorem dX0_peace_8 : decode cX0_peace 8 = .ok (.invokestatic 128, 3) := dk_184 0 128 (dk_at dksX0_peace_0 8 rfl rfl)
theorem dX0_peace_11 : decode cX0_peace 11 = .ok (.ifCond .ne 6, 3) := dk_154 0 6 (dk_at dksX0_peace_0 11 rfl rfl)
theorem dX0_peace_14 : decode cX0_peace 14 = .ok (.bipush (-2), 2) := dk_16 254 (dk_at dksX0_peace_0 14 rfl rfl)
theorem dX0_peace_16 : decode cX0_peace 16 = .ok (.ireturn, 1) := dk_172 (dk_at dksX0_peace_0 16 rfl rfl)
theorem dX0_peace_17 : decode cX0_peace 17 = .ok (.aload_n 0, 1) := dk_42 (dk_at dksX0_peace_0 17 rfl rfl)
theorem dX0_peace_18 : decode cX0_peace 18 = .ok (.invokevirtual 133, 3) := dk_182 0 133 (dk_at dksX0_peace_0 18 rfl rfl)
theorem dX0_peace_21 : decode cX0_peace 21 = .ok (.ifCond .eq 8, 3) := dk_153 0 8 (dk_at dksX0_peace_0 21 rfl rfl)
theorem dX0_peace_24 : decode cX0_peace 24 = .ok (.bipush (-3), 2) := dk_16 253 (dk_at dksX0_peace_1 0 rfl rfl)
theorem dX0_peace_26 : decode cX0_peace 26 = .ok (.goto 9, 3) := dk_167 0 9 (dk_at dksX0_peace_1 2 rfl rfl)
theorem dX0_peace_29 : decode cX0_peace 29 = .ok (.aload_n 0, 1) := dk_42 (dk_at dksX0_peace_1 5 rfl rfl)
theorem dX0_peace_30 : decode cX0_peace 30 = .ok (.iload_n 1, 1) := dk_27 (dk_at dksX0_peace_1 6 rfl rfl)
theorem dX0_peace_31 : decode cX0_peace 31 = .ok (.iload_n 2, 1) := dk_28 (dk_at dksX0_peace_1 7 rfl rfl)
theorem dX0_peace_32 : decode cX0_peace 32 = .ok (.invokevirtual 209, 3) := dk_182 0 209 (dk_at dksX0_peace_1 8 rfl rfl)
theorem dX0_peace_35 : decode cX0_peace 35 = .ok (.ireturn, 1) := dk_172 (dk_at dksX0_peace_1 11 rfl rfl)
abbrev cX0_peaceBy : ByteArray := prog_1_method_34_code
def yX0_peaceBy : MethodName := ⟨RX0, "peaceBy", "(II)I"⟩
def dkwX0_peaceBy_8 : List UInt8 := [21, 5, 172]
abbrev dktX0_peaceBy_8 : List UInt8 := dkwX0_peaceBy_8 ++ []
def dkwX0_peaceBy_7 : List UInt8 := [54, 5, 132, 6, 1, 167, 255, 108, 42, 180, 0, 15, 4, 29, 79, 42, 180, 0, 15, 5, 21, 4, 79]
abbrev dktX0_peaceBy_7 : List UInt8 := dkwX0_peaceBy_7 ++ dktX0_peaceBy_8
def dkwX0_peaceBy_6 : List UInt8 := [128, 167, 0, 5, 21, 4, 79, 42, 27, 28, 182, 0, 199, 153, 0, 8, 21, 9, 167, 0, 5, 21, 5]
abbrev dktX0_peaceBy_6 : List UInt8 := dkwX0_peaceBy_6 ++ dktX0_peaceBy_7
def dkwX0_peaceBy_5 : List UInt8 := [128, 167, 0, 4, 29, 79, 42, 180, 0, 15, 5, 21, 8, 16, 8, 162, 0, 13, 21, 4, 4, 21, 8, 120]
abbrev dktX0_peaceBy_5 : List UInt8 := dkwX0_peaceBy_5 ++ dktX0_peaceBy_6
def dkwX0_peaceBy_4 : List UInt8 := [21, 9, 21, 5, 162, 0, 69, 42, 180, 0, 15, 4, 21, 7, 16, 8, 162, 0, 12, 29, 4, 21, 7, 120]
abbrev dktX0_peaceBy_4 : List UInt8 := dkwX0_peaceBy_4 ++ dktX0_peaceBy_5
def dkwX0_peaceBy_3 : List UInt8 := [21, 4, 21, 8, 184, 0, 162, 154, 0, 7, 4, 167, 0, 4, 3, 96, 54, 9, 21, 5, 155, 0, 10]
abbrev dktX0_peaceBy_3 : List UInt8 := dkwX0_peaceBy_3 ++ dktX0_peaceBy_4
def dkwX0_peaceBy_2 : List UInt8 := [162, 0, 16, 29, 21, 7, 184, 0, 162, 154, 0, 7, 4, 167, 0, 4, 3, 21, 8, 16, 8, 162, 0, 17]
abbrev dktX0_peaceBy_2 : List UInt8 := dkwX0_peaceBy_2 ++ dktX0_peaceBy_3
def dkwX0_peaceBy_1 : List UInt8 := [16, 81, 162, 0, 147, 21, 6, 16, 9, 108, 54, 7, 21, 6, 16, 9, 112, 54, 8, 21, 7, 16, 8]
abbrev dktX0_peaceBy_1 : List UInt8 := dkwX0_peaceBy_1 ++ dktX0_peaceBy_2
def dkwX0_peaceBy_0 : List UInt8 := [42, 180, 0, 15, 4, 46, 62, 42, 180, 0, 15, 5, 46, 54, 4, 16, 247, 54, 5, 3, 54, 6, 21, 6]
abbrev dktX0_peaceBy_0 : List UInt8 := dkwX0_peaceBy_0 ++ dktX0_peaceBy_1
theorem dksX0_peaceBy_0 : cX0_peaceBy.data.toList.drop 0 = dktX0_peaceBy_0 := by decide +kernel
theorem dksX0_peaceBy_1 : cX0_peaceBy.data.toList.drop 24 = dktX0_peaceBy_1 := dk_seg dksX0_peaceBy_0 24 rfl rfl
theorem dksX0_peaceBy_2 : cX0_peaceBy.data.toList.drop 47 = dktX0_peaceBy_2 := dk_seg dksX0_peaceBy_1 23 rfl rfl
theorem dksX0_peaceBy_3 : cX0_peaceBy.data.toList.drop 71 = dktX0_peaceBy_3 := dk_seg dksX0_peaceBy_2 24 rfl rfl
theorem dksX0_peaceBy_4 : cX0_peaceBy.data.toList.drop 94 = dktX0_peaceBy_4 := dk_seg dksX0_peaceBy_3 23 rfl rfl
theorem dksX0_peaceBy_5 : cX0_peaceBy.data.toList.drop 118 = dktX0_peaceBy_5 := dk_seg dksX0_peaceBy_4 24 rfl rfl
theorem dksX0_peaceBy_6 : cX0_peaceBy.data.toList.drop 142 = dktX0_peaceBy_6 := dk_seg dksX0_peaceBy_5 24 rfl rfl
theorem dksX0_peaceBy_7 : cX0_peaceBy.data.toList.drop 165 = dktX0_peaceBy_7 := dk_seg dksX0_peaceBy_6 23 rfl rfl
theorem dksX0_peaceBy_8 : cX0_peaceBy.data.toList.drop 188 = dktX0_peaceBy_8 := dk_seg dksX0_peaceBy_7 23 rfl rfl
theorem dX0_peaceBy_0 : decode cX0_peaceBy 0 = .ok (.aload_n 0, 1) := dk_42 (dk_at dksX0_peaceBy_0 0 rfl rfl)
theorem dX0_peaceBy_1 : decode cX0_peaceBy 1 = .ok (.getfield 15, 3) := dk_180 0 15 (dk_at dksX0_peaceBy_0 1 rfl rfl)
theorem dX0_peaceBy_4 : decode cX0_peaceBy 4 = .ok (.iconst 1, 1) := dk_4 (dk_at dksX0_peaceBy_0 4 rfl rfl)
theorem dX0_peaceBy_5 : decode cX0_peaceBy 5 = .ok (.iaload, 1) := dk_46 (dk_at dksX0_peaceBy_0 5 rfl rfl)
theorem dX0_peaceBy_6 : decode cX0_peaceBy 6 = .ok (.istore_n 3, 1) := dk_62 (dk_at dksX0_peaceBy_0 6 rfl rfl)
theorem dX0_peaceBy_7 : decode cX0_peaceBy 7 = .ok (.aload_n 0, 1) := dk_42 (dk_at dksX0_peaceBy_0 7 rfl rfl)
theorem dX0_peaceBy_8 : decode cX0_peaceBy 8 = .ok (.getfield 15, 3) := dk_180 0 15 (dk_at dksX0_peaceBy_0 8 rfl rfl)
theorem dX0_peaceBy_11 : decode cX0_peaceBy 11 = .ok (.iconst 2, 1) := dk_5 (dk_at dksX0_peaceBy_0 11 rfl rfl)
theorem dX0_peaceBy_12 : decode cX0_peaceBy 12 = .ok (.iaload, 1) := dk_46 (dk_at dksX0_peaceBy_0 12 rfl rfl)
theorem dX0_peaceBy_13 : decode cX0_peaceBy 13 = .ok (.istore 4, 2) := dk_54 4 (dk_at dksX0_peaceBy_0 13 rfl rfl)
theorem dX0_peaceBy_15 : decode cX0_peaceBy 15 = .ok (.bipush (-9), 2) := dk_16 247 (dk_at dksX0_peaceBy_0 15 rfl rfl)
theorem dX0_peaceBy_17 : decode cX0_peaceBy 17 = .ok (.istore 5, 2) := dk_54 5 (dk_at dksX0_peaceBy_0 17 rfl rfl)
theorem dX0_peaceBy_19 : decode cX0_peaceBy 19 = .ok (.iconst 0, 1) := dk_3 (dk_at dksX0_peaceBy_0 19 rfl rfl)
theorem dX0_peaceBy_20 : decode cX0_peaceBy 20 = .ok (.istore 6, 2) := dk_54 6 (dk_at dksX0_peaceBy_0 20 rfl rfl)
theorem dX0_peaceBy_22 : decode cX0_peaceBy 22 = .ok (.iload 6, 2) := dk_21 6 (dk_at dksX0_peaceBy_0 22 rfl rfl)
theorem dX0_peaceBy_24 : decode cX0_peaceBy 24 = .ok (.bipush 81, 2) := dk_16 81 (dk_at dksX0_peaceBy_1 0 rfl rfl)
theorem dX0_peaceBy_26 : decode cX0_peaceBy 26 = .ok (.if_icmp .ge 147, 3) := dk_162 0 147 (dk_at dksX0_peaceBy_1 2 rfl rfl)
theorem dX0_peaceBy_29 : decode cX0_peaceBy 29 = .ok (.iload 6, 2) := dk_21 6 (dk_at dksX0_peaceBy_1 5 rfl rfl)
theorem dX0_peaceBy_31 : decode cX0_peaceBy 31 = .ok (.bipush 9, 2) := dk_16 9 (dk_at dksX0_peaceBy_1 7 rfl rfl)
theorem dX0_peaceBy_33 : decode cX0_peaceBy 33 = .ok (.idiv, 1) := dk_108 (dk_at dksX0_peaceBy_1 9 rfl rfl)
theorem dX0_peaceBy_34 : decode cX0_peaceBy 34 = .ok (.istore 7, 2) := dk_54 7 (dk_at dksX0_peaceBy_1 10 rfl rfl)
theorem dX0_peaceBy_36 : decode cX0_peaceBy 36 = .ok (.iload 6, 2) := dk_21 6 (dk_at dksX0_peaceBy_1 12 rfl rfl)
theorem dX0_peaceBy_38 : decode cX0_peaceBy 38 = .ok (.bipush 9, 2) := dk_16 9 (dk_at dksX0_peaceBy_1 14 rfl rfl)
theorem dX0_peaceBy_40 : decode cX0_peaceBy 40 = .ok (.irem, 1) := dk_112 (dk_at dksX0_peaceBy_1 16 rfl rfl)
theorem dX0_peaceBy_41 : decode cX0_peaceBy 41 = .ok (.istore 8, 2) := dk_54 8 (dk_at dksX0_peaceBy_1 17 rfl rfl)
theorem dX0_peaceBy_43 : decode cX0_peaceBy 43 = .ok (.iload 7, 2) := dk_21 7 (dk_at dksX0_peaceBy_1 19 rfl rfl)
theorem dX0_peaceBy_45 : decode cX0_peaceBy 45 = .ok (.bipush 8, 2) := dk_16 8 (dk_at dksX0_peaceBy_1 21 rfl rfl)
theorem dX0_peaceBy_47 : decode cX0_peaceBy 47 = .ok (.if_icmp .ge 16, 3) := dk_162 0 16 (dk_at dksX0_peaceBy_2 0 rfl rfl)
theorem dX0_peaceBy_50 : decode cX0_peaceBy 50 = .ok (.iload_n 3, 1) := dk_29 (dk_at dksX0_peaceBy_2 3 rfl rfl)
theorem dX0_peaceBy_51 : decode cX0_peaceBy 51 = .ok (.iload 7, 2) := dk_21 7 (dk_at dksX0_peaceBy_2 4 rfl rfl)
theorem dX0_peaceBy_53 : decode cX0_peaceBy 53 = .ok (.invokestatic 162, 3) := dk_184 0 162 (dk_at dksX0_peaceBy_2 6 rfl rfl)
theorem dX0_peaceBy_56 : decode cX0_peaceBy 56 = .ok (.ifCond .ne 7, 3) := dk_154 0 7 (dk_at dksX0_peaceBy_2 9 rfl rfl)
theorem dX0_peaceBy_59 : decode cX0_peaceBy 59 = .ok (.iconst 1, 1) := dk_4 (dk_at dksX0_peaceBy_2 12 rfl rfl)
theorem dX0_peaceBy_60 : decode cX0_peaceBy 60 = .ok (.goto 4, 3) := dk_167 0 4 (dk_at dksX0_peaceBy_2 13 rfl rfl)
theorem dX0_peaceBy_63 : decode cX0_peaceBy 63 = .ok (.iconst 0, 1) := dk_3 (dk_at dksX0_peaceBy_2 16 rfl rfl)
theorem dX0_peaceBy_64 : decode cX0_peaceBy 64 = .ok (.iload 8, 2) := dk_21 8 (dk_at dksX0_peaceBy_2 17 rfl rfl)
theorem dX0_peaceBy_66 : decode cX0_peaceBy 66 = .ok (.bipush 8, 2) := dk_16 8 (dk_at dksX0_peaceBy_2 19 rfl rfl)
theorem dX0_peaceBy_68 : decode cX0_peaceBy 68 = .ok (.if_icmp .ge 17, 3) := dk_162 0 17 (dk_at dksX0_peaceBy_2 21 rfl rfl)
theorem dX0_peaceBy_71 : decode cX0_peaceBy 71 = .ok (.iload 4, 2) := dk_21 4 (dk_at dksX0_peaceBy_3 0 rfl rfl)
theorem dX0_peaceBy_73 : decode cX0_peaceBy 73 = .ok (.iload 8, 2) := dk_21 8 (dk_at dksX0_peaceBy_3 2 rfl rfl)
theorem dX0_peaceBy_75 : decode cX0_peaceBy 75 = .ok (.invokestatic 162, 3) := dk_184 0 162 (dk_at dksX0_peaceBy_3 4 rfl rfl)
theorem dX0_peaceBy_78 : decode cX0_peaceBy 78 = .ok (.ifCond .ne 7, 3) := dk_154 0 7 (dk_at dksX0_peaceBy_3 7 rfl rfl)
theorem dX0_peaceBy_81 : decode cX0_peaceBy 81 = .ok (.iconst 1, 1) := dk_4 (dk_at dksX0_peaceBy_3 10 rfl rfl)
theorem dX0_peaceBy_82 : decode cX0_peaceBy 82 = .ok (.goto 4, 3) := dk_167 0 4 (dk_at dksX0_peaceBy_3 11 rfl rfl)
theorem dX0_peaceBy_85 : decode cX0_peaceBy 85 = .ok (.iconst 0, 1) := dk_3 (dk_at dksX0_peaceBy_3 14 rfl rfl)
theorem dX0_peaceBy_86 : decode cX0_peaceBy 86 = .ok (.iadd, 1) := dk_96 (dk_at dksX0_peaceBy_3 15 rfl rfl)
theorem dX0_peaceBy_87 : decode cX0_peaceBy 87 = .ok (.istore 9, 2) := dk_54 9 (dk_at dksX0_peaceBy_3 16 rfl rfl)
theorem dX0_peaceBy_89 : decode cX0_peaceBy 89 = .ok (.iload 5, 2) := dk_21 5 (dk_at dksX0_peaceBy_3 18 rfl rfl)
theorem dX0_peaceBy_91 : decode cX0_peaceBy 91 = .ok (.ifCond .lt 10, 3) := dk_155 0 10 (dk_at dksX0_peaceBy_3 20 rfl rfl)
theorem dX0_peaceBy_94 : decode cX0_peaceBy 94 = .ok (.iload 9, 2) := dk_21 9 (dk_at dksX0_peaceBy_4 0 rfl rfl)
theorem dX0_peaceBy_96 : decode cX0_peaceBy 96 = .ok (.iload 5, 2) := dk_21 5 (dk_at dksX0_peaceBy_4 2 rfl rfl)
theorem dX0_peaceBy_98 : decode cX0_peaceBy 98 = .ok (.if_icmp .ge 69, 3) := dk_162 0 69 (dk_at dksX0_peaceBy_4 4 rfl rfl)
theorem dX0_peaceBy_101 : decode cX0_peaceBy 101 = .ok (.aload_n 0, 1) := dk_42 (dk_at dksX0_peaceBy_4 7 rfl rfl)
theorem dX0_peaceBy_102 : decode cX0_peaceBy 102 = .ok (.getfield 15, 3) := dk_180 0 15 (dk_at dksX0_peaceBy_4 8 rfl rfl)
theorem dX0_peaceBy_105 : decode cX0_peaceBy 105 = .ok (.iconst 1, 1) := dk_4 (dk_at dksX0_peaceBy_4 11 rfl rfl)
theorem dX0_peaceBy_106 : decode cX0_peaceBy 106 = .ok (.iload 7, 2) := dk_21 7 (dk_at dksX0_peaceBy_4 12 rfl rfl)
theorem dX0_peaceBy_108 : decode cX0_peaceBy 108 = .ok (.bipush 8, 2) := dk_16 8 (dk_at dksX0_peaceBy_4 14 rfl rfl)
theorem dX0_peaceBy_110 : decode cX0_peaceBy 110 = .ok (.if_icmp .ge 12, 3) := dk_162 0 12 (dk_at dksX0_peaceBy_4 16 rfl rfl)
theorem dX0_peaceBy_113 : decode cX0_peaceBy 113 = .ok (.iload_n 3, 1) := dk_29 (dk_at dksX0_peaceBy_4 19 rfl rfl)
theorem dX0_peaceBy_114 : decode cX0_peaceBy 114 = .ok (.iconst 1, 1) := dk_4 (dk_at dksX0_peaceBy_4 20 rfl rfl)
theorem dX0_peaceBy_115 : decode cX0_peaceBy 115 = .ok (.iload 7, 2) := dk_21 7 (dk_at dksX0_peaceBy_4 21 rfl rfl)
theorem dX0_peaceBy_117 : decode cX0_peaceBy 117 = .ok (.ishl, 1) := dk_120 (dk_at dksX0_peaceBy_4 23 rfl rfl)
theorem dX0_peaceBy_118 : decode cX0_peaceBy 118 = .ok (.ior, 1) := dk_128 (dk_at dksX0_peaceBy_5 0 rfl rfl)
theorem dX0_peaceBy_119 : decode cX0_peaceBy 119 = .ok (.goto 4, 3) := dk_167 0 4 (dk_at dksX0_peaceBy_5 1 rfl rfl)
theorem dX0_peaceBy_122 : decode cX0_peaceBy 122 = .ok (.iload_n 3, 1) := dk_29 (dk_at dksX0_peaceBy_5 4 rfl rfl)
theorem dX0_peaceBy_123 : decode cX0_peaceBy 123 = .ok (.iastore, 1) := dk_79 (dk_at dksX0_peaceBy_5 5 rfl rfl)
theorem dX0_peaceBy_124 : decode cX0_peaceBy 124 = .ok (.aload_n 0, 1) := dk_42 (dk_at dksX0_peaceBy_5 6 rfl rfl)
theorem dX0_peaceBy_125 : decode cX0_peaceBy 125 = .ok (.getfield 15, 3) := dk_180 0 15 (dk_at dksX0_peaceBy_5 7 rfl rfl)
theorem dX0_peaceBy_128 : decode cX0_peaceBy 128 = .ok (.iconst 2, 1) := dk_5 (dk_at dksX0_peaceBy_5 10 rfl rfl)
theorem dX0_peaceBy_129 : decode cX0_peaceBy 129 = .ok (.iload 8, 2) := dk_21 8 (dk_at dksX0_peaceBy_5 11 rfl rfl)
theorem dX0_peaceBy_131 : decode cX0_peaceBy 131 = .ok (.bipush 8, 2) := dk_16 8 (dk_at dksX0_peaceBy_5 13 rfl rfl)
theorem dX0_peaceBy_133 : decode cX0_peaceBy 133 = .ok (.if_icmp .ge 13, 3) := dk_162 0 13 (dk_at dksX0_peaceBy_5 15 rfl rfl)
theorem dX0_peaceBy_136 : decode cX0_peaceBy 136 = .ok (.iload 4, 2) := dk_21 4 (dk_at dksX0_peaceBy_5 18 rfl rfl)
theorem dX0_peaceBy_138 : decode cX0_peaceBy 138 = .ok (.iconst 1, 1) := dk_4 (dk_at dksX0_peaceBy_5 20 rfl rfl)
theorem dX0_peaceBy_139 : decode cX0_peaceBy 139 = .ok (.iload 8, 2) := dk_21 8 (dk_at dksX0_peaceBy_5 21 rfl rfl)
theorem dX0_peaceBy_141 : decode cX0_peaceBy 141 = .ok (.ishl, 1) := dk_120 (dk_at dksX0_peaceBy_5 23 rfl rfl)
theorem dX0_peaceBy_142 : decode cX0_peaceBy 142 = .ok (.ior, 1) := dk_128 (dk_at dksX0_peaceBy_6 0 rfl rfl)
theorem dX0_peaceBy_143 : decode cX0_peaceBy 143 = .ok (.goto 5, 3) := dk_167 0 5 (dk_at dksX0_peaceBy_6 1 rfl rfl)
theorem dX0_peaceBy_146 : decode cX0_peaceBy 146 = .ok (.iload 4, 2) := dk_21 4 (dk_at dksX0_peaceBy_6 4 rfl rfl)
theorem dX0_peaceBy_148 : decode cX0_peaceBy 148 = .ok (.iastore, 1) := dk_79 (dk_at dksX0_peaceBy_6 6 rfl rfl)
theorem dX0_peaceBy_149 : decode cX0_peaceBy 149 = .ok (.aload_n 0, 1) := dk_42 (dk_at dksX0_peaceBy_6 7 rfl rfl)
theorem dX0_peaceBy_150 : decode cX0_peaceBy 150 = .ok (.iload_n 1, 1) := dk_27 (dk_at dksX0_peaceBy_6 8 rfl rfl)
theorem dX0_peaceBy_151 : decode cX0_peaceBy 151 = .ok (.iload_n 2, 1) := dk_28 (dk_at dksX0_peaceBy_6 9 rfl rfl)
theorem dX0_peaceBy_152 : decode cX0_peaceBy 152 = .ok (.invokevirtual 199, 3) := dk_182 0 199 (dk_at dksX0_peaceBy_6 10 rfl rfl)
theorem dX0_peaceBy_155 : decode cX0_peaceBy 155 = .ok (.ifCond .eq 8, 3) := dk_153 0 8 (dk_at dksX0_peaceBy_6 13 rfl rfl)
theorem dX0_peaceBy_158 : decode cX0_peaceBy 158 = .ok (.iload 9, 2) := dk_21 9 (dk_at dksX0_peaceBy_6 16 rfl rfl)
theorem dX0_peaceBy_160 : decode cX0_peaceBy 160 = .ok (.goto 5, 3) := dk_167 0 5 (dk_at dksX0_peaceBy_6 18 rfl rfl)
theorem dX0_peaceBy_163 : decode cX0_peaceBy 163 = .ok (.iload 5, 2) := dk_21 5 (dk_at dksX0_peaceBy_6 21 rfl rfl)
theorem dX0_peaceBy_165 : decode cX0_peaceBy 165 = .ok (.istore 5, 2) := dk_54 5 (dk_at dksX0_peaceBy_7 0 rfl rfl)
theorem dX0_peaceBy_167 : decode cX0_peaceBy 167 = .ok (.iinc 6 1, 3) := dk_132 6 1 (dk_at dksX0_peaceBy_7 2 rfl rfl)
theorem dX0_peaceBy_170 : decode cX0_peaceBy 170 = .ok (.goto (-148), 3) := dk_167 255 108 (dk_at dksX0_peaceBy_7 5 rfl rfl)
theorem dX0_peaceBy_173 : decode cX0_peaceBy 173 = .ok (.aload_n 0, 1) := dk_42 (dk_at dksX0_peaceBy_7 8 rfl rfl)
theorem dX0_peaceBy_174 : decode cX0_peaceBy 174 = .ok (.getfield 15, 3) := dk_180 0 15 (dk_at dksX0_peaceBy_7 9 rfl rfl)
theorem dX0_peaceBy_177 : decode cX0_peaceBy 177 = .ok (.iconst 1, 1) := dk_4 (dk_at dksX0_peaceBy_7 12 rfl rfl)
theorem dX0_peaceBy_178 : decode cX0_peaceBy 178 = .ok (.iload_n 3, 1) := dk_29 (dk_at dksX0_peaceBy_7 13 rfl rfl)
theorem dX0_peaceBy_179 : decode cX0_peaceBy 179 = .ok (.iastore, 1) := dk_79 (dk_at dksX0_peaceBy_7 14 rfl rfl)
theorem dX0_peaceBy_180 : decode cX0_peaceBy 180 = .ok (.aload_n 0, 1) := dk_42 (dk_at dksX0_peaceBy_7 15 rfl rfl)
theorem dX0_peaceBy_181 : decode cX0_peaceBy 181 = .ok (.getfield 15, 3) := dk_180 0 15 (dk_at dksX0_peaceBy_7 16 rfl rfl)
theorem dX0_peaceBy_184 : decode cX0_peaceBy 184 = .ok (.iconst 2, 1) := dk_5 (dk_at dksX0_peaceBy_7 19 rfl rfl)
theorem dX0_peaceBy_185 : decode cX0_peaceBy 185 = .ok (.iload 4, 2) := dk_21 4 (dk_at dksX0_peaceBy_7 20 rfl rfl)
theorem dX0_peaceBy_187 : decode cX0_peaceBy 187 = .ok (.iastore, 1) := dk_79 (dk_at dksX0_peaceBy_7 22 rfl rfl)
theorem dX0_peaceBy_188 : decode cX0_peaceBy 188 = .ok (.iload 5, 2) := dk_21 5 (dk_at dksX0_peaceBy_8 0 rfl rfl)
theorem dX0_peaceBy_190 : decode cX0_peaceBy 190 = .ok (.ireturn, 1) := dk_172 (dk_at dksX0_peaceBy_8 2 rfl rfl)
abbrev cX0_reading : ByteArray := prog_1_method_36_code
def yX0_reading : MethodName := ⟨RX0, "reading", "(II)I"⟩
def dkwX0_reading_3 : List UInt8 := [180, 0, 28, 185, 0, 54, 1, 0, 4, 100, 172]
abbrev dktX0_reading_3 : List UInt8 := dkwX0_reading_3 ++ []
def dkwX0_reading_2 : List UInt8 := [16, 252, 172, 42, 180, 0, 28, 187, 0, 212, 89, 27, 28, 183, 0, 214, 185, 0, 87, 2, 0, 87, 42]
abbrev dktX0_reading_2 : List UInt8 := dkwX0_reading_2 ++ dktX0_reading_3
def dkwX0_reading_1 : List UInt8 := [182, 0, 133, 153, 0, 6, 16, 253, 172, 42, 180, 0, 28, 185, 0, 54, 1, 0, 16, 8, 160, 0, 6]
abbrev dktX0_reading_1 : List UInt8 := dkwX0_reading_1 ++ dktX0_reading_2
def dkwX0_reading_0 : List UInt8 := [27, 184, 0, 128, 153, 0, 16, 28, 16, 247, 159, 0, 13, 28, 184, 0, 128, 154, 0, 6, 16, 254, 172, 42]
abbrev dktX0_reading_0 : List UInt8 := dkwX0_reading_0 ++ dktX0_reading_1
theorem dksX0_reading_0 : cX0_reading.data.toList.drop 0 = dktX0_reading_0 := by decide +kernel
theorem dksX0_reading_1 : cX0_reading.data.toList.drop 24 = dktX0_reading_1 := dk_seg dksX0_reading_0 24 rfl rfl
theorem dksX0_reading_2 : cX0_reading.data.toList.drop 47 = dktX0_reading_2 := dk_seg dksX0_reading_1 23 rfl rfl
theorem dksX0_reading_3 : cX0_reading.data.toList.drop 70 = dktX0_reading_3 := dk_seg dksX0_reading_2 23 rfl rfl
theorem dX0_reading_0 : decode cX0_reading 0 = .ok (.iload_n 1, 1) := dk_27 (dk_at dksX0_reading_0 0 rfl rfl)
theorem dX0_reading_1 : decode cX0_reading 1 = .ok (.invokestatic 128, 3) := dk_184 0 128 (dk_at dksX0_reading_0 1 rfl rfl)
theorem dX0_reading_4 : decode cX0_reading 4 = .ok (.ifCond .eq 16, 3) := dk_153 0 16 (dk_at dksX0_reading_0 4 rfl rfl)
theorem dX0_reading_7 : decode cX0_reading 7 = .ok (.iload_n 2, 1) := dk_28 (dk_at dksX0_reading_0 7 rfl rfl)
theorem dX0_reading_8 : decode cX0_reading 8 = .ok (.bipush (-9), 2) := dk_16 247 (dk_at dksX0_reading_0 8 rfl rfl)
theorem dX0_reading_10 : decode cX0_reading 10 = .ok (.if_icmp .eq 13, 3) := dk_159 0 13 (dk_at dksX0_reading_0 10 rfl rfl)
theorem dX0_reading_13 : decode cX0_reading 13 = .ok (.iload_n 2, 1) := dk_28 (dk_at dksX0_reading_0 13 rfl rfl)
theorem dX0_reading_14 : decode cX0_reading 14 = .ok (.invokestatic 128, 3) := dk_184 0 128 (dk_at dksX0_reading_0 14 rfl rfl)
theorem dX0_reading_17 : decode cX0_reading 17 = .ok (.ifCond .ne 6, 3) := dk_154 0 6 (dk_at dksX0_reading_0 17 rfl rfl)
theorem dX0_reading_20 : decode cX0_reading 20 = .ok (.bipush (-2), 2) := dk_16 254 (dk_at dksX0_reading_0 20 rfl rfl)
theorem dX0_reading_22 : decode cX0_reading 22 = .ok (.ireturn, 1) := dk_172 (dk_at dksX0_reading_0 22 rfl rfl)
theorem dX0_reading_23 : decode cX0_reading 23 = .ok (.aload_n 0, 1) := dk_42 (dk_at dksX0_reading_0 23 rfl rfl)
theorem dX0_reading_24 : decode cX0_reading 24 = .ok (.invokevirtual 133, 3) := dk_182 0 133 (dk_at dksX0_reading_1 0 rfl rfl)
theorem dX0_reading_27 : decode cX0_reading 27 = .ok (.ifCond .eq 6, 3) := dk_153 0 6 (dk_at dksX0_reading_1 3 rfl rfl)
theorem dX0_reading_30 : decode cX0_reading 30 = .ok (.bipush (-3), 2) := dk_16 253 (dk_at dksX0_reading_1 6 rfl rfl)
theorem dX0_reading_32 : decode cX0_reading 32 = .ok (.ireturn, 1) := dk_172 (dk_at dksX0_reading_1 8 rfl rfl)
theorem dX0_reading_33 : decode cX0_reading 33 = .ok (.aload_n 0, 1) := dk_42 (dk_at dksX0_reading_1 9 rfl rfl)
theorem dX0_reading_34 : decode cX0_reading 34 = .ok (.getfield 28, 3) := dk_180 0 28 (dk_at dksX0_reading_1 10 rfl rfl)
theorem dX0_reading_37 : decode cX0_reading 37 = .ok (.invokeinterface 54 1, 5) := by decide +kernel
theorem dX0_reading_42 : decode cX0_reading 42 = .ok (.bipush 8, 2) := dk_16 8 (dk_at dksX0_reading_1 18 rfl rfl)
theorem dX0_reading_44 : decode cX0_reading 44 = .ok (.if_icmp .ne 6, 3) := dk_160 0 6 (dk_at dksX0_reading_1 20 rfl rfl)
theorem dX0_reading_47 : decode cX0_reading 47 = .ok (.bipush (-4), 2) := dk_16 252 (dk_at dksX0_reading_2 0 rfl rfl)
theorem dX0_reading_49 : decode cX0_reading 49 = .ok (.ireturn, 1) := dk_172 (dk_at dksX0_reading_2 2 rfl rfl)
theorem dX0_reading_50 : decode cX0_reading 50 = .ok (.aload_n 0, 1) := dk_42 (dk_at dksX0_reading_2 3 rfl rfl)
theorem dX0_reading_51 : decode cX0_reading 51 = .ok (.getfield 28, 3) := dk_180 0 28 (dk_at dksX0_reading_2 4 rfl rfl)
theorem dX0_reading_54 : decode cX0_reading 54 = .ok (.new 212, 3) := dk_187 0 212 (dk_at dksX0_reading_2 7 rfl rfl)
theorem dX0_reading_57 : decode cX0_reading 57 = .ok (.dup, 1) := dk_89 (dk_at dksX0_reading_2 10 rfl rfl)
theorem dX0_reading_58 : decode cX0_reading 58 = .ok (.iload_n 1, 1) := dk_27 (dk_at dksX0_reading_2 11 rfl rfl)
theorem dX0_reading_59 : decode cX0_reading 59 = .ok (.iload_n 2, 1) := dk_28 (dk_at dksX0_reading_2 12 rfl rfl)
theorem dX0_reading_60 : decode cX0_reading 60 = .ok (.invokespecial 214, 3) := dk_183 0 214 (dk_at dksX0_reading_2 13 rfl rfl)
theorem dX0_reading_63 : decode cX0_reading 63 = .ok (.invokeinterface 87 2, 5) := by decide +kernel
theorem dX0_reading_68 : decode cX0_reading 68 = .ok (.pop, 1) := dk_87 (dk_at dksX0_reading_2 21 rfl rfl)
theorem dX0_reading_69 : decode cX0_reading 69 = .ok (.aload_n 0, 1) := dk_42 (dk_at dksX0_reading_2 22 rfl rfl)
theorem dX0_reading_70 : decode cX0_reading 70 = .ok (.getfield 28, 3) := dk_180 0 28 (dk_at dksX0_reading_3 0 rfl rfl)
theorem dX0_reading_73 : decode cX0_reading 73 = .ok (.invokeinterface 54 1, 5) := by decide +kernel
theorem dX0_reading_78 : decode cX0_reading 78 = .ok (.iconst 1, 1) := dk_4 (dk_at dksX0_reading_3 8 rfl rfl)
theorem dX0_reading_79 : decode cX0_reading 79 = .ok (.isub, 1) := dk_100 (dk_at dksX0_reading_3 9 rfl rfl)
theorem dX0_reading_80 : decode cX0_reading 80 = .ok (.ireturn, 1) := dk_172 (dk_at dksX0_reading_3 10 rfl rfl)
abbrev cX0_back : ByteArray := prog_1_method_37_code
def yX0_back : MethodName := ⟨RX0, "back", "(I)I"⟩
def dkwX0_back_2 : List UInt8 := [185, 0, 217, 2, 0, 87, 132, 2, 1, 167, 255, 227, 42, 180, 0, 28, 185, 0, 54, 1, 0, 172]
abbrev dktX0_back_2 : List UInt8 := dkwX0_back_2 ++ []
def dkwX0_back_1 : List UInt8 := [28, 27, 162, 0, 30, 42, 180, 0, 28, 42, 180, 0, 28, 185, 0, 54, 1, 0, 4, 100]
abbrev dktX0_back_1 : List UInt8 := dkwX0_back_1 ++ dktX0_back_2
def dkwX0_back_0 : List UInt8 := [27, 133, 9, 42, 180, 0, 28, 185, 0, 54, 1, 0, 133, 184, 0, 58, 154, 0, 6, 16, 254, 172, 3, 61]
abbrev dktX0_back_0 : List UInt8 := dkwX0_back_0 ++ dktX0_back_1
theorem dksX0_back_0 : cX0_back.data.toList.drop 0 = dktX0_back_0 := by decide +kernel
theorem dksX0_back_1 : cX0_back.data.toList.drop 24 = dktX0_back_1 := dk_seg dksX0_back_0 24 rfl rfl
theorem dksX0_back_2 : cX0_back.data.toList.drop 44 = dktX0_back_2 := dk_seg dksX0_back_1 20 rfl rfl
theorem dX0_back_0 : decode cX0_back 0 = .ok (.iload_n 1, 1) := dk_27 (dk_at dksX0_back_0 0 rfl rfl)
theorem dX0_back_1 : decode cX0_back 1 = .ok (.i2l, 1) := dk_133 (dk_at dksX0_back_0 1 rfl rfl)
theorem dX0_back_2 : decode cX0_back 2 = .ok (.lconst 0, 1) := dk_9 (dk_at dksX0_back_0 2 rfl rfl)
theorem dX0_back_3 : decode cX0_back 3 = .ok (.aload_n 0, 1) := dk_42 (dk_at dksX0_back_0 3 rfl rfl)
theorem dX0_back_4 : decode cX0_back 4 = .ok (.getfield 28, 3) := dk_180 0 28 (dk_at dksX0_back_0 4 rfl rfl)
theorem dX0_back_7 : decode cX0_back 7 = .ok (.invokeinterface 54 1, 5) := by decide +kernel
theorem dX0_back_12 : decode cX0_back 12 = .ok (.i2l, 1) := dk_133 (dk_at dksX0_back_0 12 rfl rfl)
theorem dX0_back_13 : decode cX0_back 13 = .ok (.invokestatic 58, 3) := dk_184 0 58 (dk_at dksX0_back_0 13 rfl rfl)
theorem dX0_back_16 : decode cX0_back 16 = .ok (.ifCond .ne 6, 3) := dk_154 0 6 (dk_at dksX0_back_0 16 rfl rfl)
theorem dX0_back_19 : decode cX0_back 19 = .ok (.bipush (-2), 2) := dk_16 254 (dk_at dksX0_back_0 19 rfl rfl)
theorem dX0_back_21 : decode cX0_back 21 = .ok (.ireturn, 1) := dk_172 (dk_at dksX0_back_0 21 rfl rfl)
theorem dX0_back_22 : decode cX0_back 22 = .ok (.iconst 0, 1) := dk_3 (dk_at dksX0_back_0 22 rfl rfl)
theorem dX0_back_23 : decode cX0_back 23 = .ok (.istore_n 2, 1) := dk_61 (dk_at dksX0_back_0 23 rfl rfl)
theorem dX0_back_24 : decode cX0_back 24 = .ok (.iload_n 2, 1) := dk_28 (dk_at dksX0_back_1 0 rfl rfl)
theorem dX0_back_25 : decode cX0_back 25 = .ok (.iload_n 1, 1) := dk_27 (dk_at dksX0_back_1 1 rfl rfl)
theorem dX0_back_26 : decode cX0_back 26 = .ok (.if_icmp .ge 30, 3) := dk_162 0 30 (dk_at dksX0_back_1 2 rfl rfl)
theorem dX0_back_29 : decode cX0_back 29 = .ok (.aload_n 0, 1) := dk_42 (dk_at dksX0_back_1 5 rfl rfl)
theorem dX0_back_30 : decode cX0_back 30 = .ok (.getfield 28, 3) := dk_180 0 28 (dk_at dksX0_back_1 6 rfl rfl)
theorem dX0_back_33 : decode cX0_back 33 = .ok (.aload_n 0, 1) := dk_42 (dk_at dksX0_back_1 9 rfl rfl)
theorem dX0_back_34 : decode cX0_back 34 = .ok (.getfield 28, 3) := dk_180 0 28 (dk_at dksX0_back_1 10 rfl rfl)
theorem dX0_back_37 : decode cX0_back 37 = .ok (.invokeinterface 54 1, 5) := by decide +kernel
theorem dX0_back_42 : decode cX0_back 42 = .ok (.iconst 1, 1) := dk_4 (dk_at dksX0_back_1 18 rfl rfl)
theorem dX0_back_43 : decode cX0_back 43 = .ok (.isub, 1) := dk_100 (dk_at dksX0_back_1 19 rfl rfl)
theorem dX0_back_44 : decode cX0_back 44 = .ok (.invokeinterface 217 2, 5) := by decide +kernel
theorem dX0_back_49 : decode cX0_back 49 = .ok (.pop, 1) := dk_87 (dk_at dksX0_back_2 5 rfl rfl)
theorem dX0_back_50 : decode cX0_back 50 = .ok (.iinc 2 1, 3) := dk_132 2 1 (dk_at dksX0_back_2 6 rfl rfl)
theorem dX0_back_53 : decode cX0_back 53 = .ok (.goto (-29), 3) := dk_167 255 227 (dk_at dksX0_back_2 9 rfl rfl)
theorem dX0_back_56 : decode cX0_back 56 = .ok (.aload_n 0, 1) := dk_42 (dk_at dksX0_back_2 12 rfl rfl)
theorem dX0_back_57 : decode cX0_back 57 = .ok (.getfield 28, 3) := dk_180 0 28 (dk_at dksX0_back_2 13 rfl rfl)
theorem dX0_back_60 : decode cX0_back 60 = .ok (.invokeinterface 54 1, 5) := by decide +kernel
theorem dX0_back_65 : decode cX0_back 65 = .ok (.ireturn, 1) := dk_172 (dk_at dksX0_back_2 21 rfl rfl)
abbrev cX0_snows : ByteArray := prog_1_method_39_code
def yX0_snows : MethodName := ⟨RX0, "snows", "(I)I"⟩
def dkwX0_snows_3 : List UInt8 := [180, 0, 11, 27, 28, 79, 29, 172]
abbrev dktX0_snows_3 : List UInt8 := dkwX0_snows_3 ++ []
def dkwX0_snows_2 : List UInt8 := [42, 182, 0, 226, 153, 0, 10, 4, 21, 4, 120, 167, 0, 4, 3, 128, 62, 132, 4, 1, 167, 255, 220, 42]
abbrev dktX0_snows_2 : List UInt8 := dkwX0_snows_2 ++ dktX0_snows_3
def dkwX0_snows_1 : List UInt8 := [27, 46, 61, 3, 62, 3, 54, 4, 21, 4, 16, 9, 163, 0, 35, 42, 180, 0, 11, 27, 21, 4, 79, 29]
abbrev dktX0_snows_1 : List UInt8 := dkwX0_snows_1 ++ dktX0_snows_2
def dkwX0_snows_0 : List UInt8 := [27, 184, 0, 128, 154, 0, 6, 16, 254, 172, 42, 182, 0, 133, 153, 0, 6, 16, 253, 172, 42, 180, 0, 11]
abbrev dktX0_snows_0 : List UInt8 := dkwX0_snows_0 ++ dktX0_snows_1
theorem dksX0_snows_0 : cX0_snows.data.toList.drop 0 = dktX0_snows_0 := by decide +kernel
theorem dksX0_snows_1 : cX0_snows.data.toList.drop 24 = dktX0_snows_1 := dk_seg dksX0_snows_0 24 rfl rfl
theorem dksX0_snows_2 : cX0_snows.data.toList.drop 48 = dktX0_snows_2 := dk_seg dksX0_snows_1 24 rfl rfl
theorem dksX0_snows_3 : cX0_snows.data.toList.drop 72 = dktX0_snows_3 := dk_seg dksX0_snows_2 24 rfl rfl
theorem dX0_snows_0 : decode cX0_snows 0 = .ok (.iload_n 1, 1) := dk_27 (dk_at dksX0_snows_0 0 rfl rfl)
theorem dX0_snows_1 : decode cX0_snows 1 = .ok (.invokestatic 128, 3) := dk_184 0 128 (dk_at dksX0_snows_0 1 rfl rfl)
theorem dX0_snows_4 : decode cX0_snows 4 = .ok (.ifCond .ne 6, 3) := dk_154 0 6 (dk_at dksX0_snows_0 4 rfl rfl)
theorem dX0_snows_7 : decode cX0_snows 7 = .ok (.bipush (-2), 2) := dk_16 254 (dk_at dksX0_snows_0 7 rfl rfl)
theorem dX0_snows_9 : decode cX0_snows 9 = .ok (.ireturn, 1) := dk_172 (dk_at dksX0_snows_0 9 rfl rfl)
theorem dX0_snows_10 : decode cX0_snows 10 = .ok (.aload_n 0, 1) := dk_42 (dk_at dksX0_snows_0 10 rfl rfl)
theorem dX0_snows_11 : decode cX0_snows 11 = .ok (.invokevirtual 133, 3) := dk_182 0 133 (dk_at dksX0_snows_0 11 rfl rfl)
theorem dX0_snows_14 : decode cX0_snows 14 = .ok (.ifCond .eq 6, 3) := dk_153 0 6 (dk_at dksX0_snows_0 14 rfl rfl)
theorem dX0_snows_17 : decode cX0_snows 17 = .ok (.bipush (-3), 2) := dk_16 253 (dk_at dksX0_snows_0 17 rfl rfl)
theorem dX0_snows_19 : decode cX0_snows 19 = .ok (.ireturn, 1) := dk_172 (dk_at dksX0_snows_0 19 rfl rfl)
theorem dX0_snows_20 : decode cX0_snows 20 = .ok (.aload_n 0, 1) := dk_42 (dk_at dksX0_snows_0 20 rfl rfl)
theorem dX0_snows_21 : decode cX0_snows 21 = .ok (.getfield 11, 3) := dk_180 0 11 (dk_at dksX0_snows_0 21 rfl rfl)
theorem dX0_snows_24 : decode cX0_snows 24 = .ok (.iload_n 1, 1) := dk_27 (dk_at dksX0_snows_1 0 rfl rfl)
theorem dX0_snows_25 : decode cX0_snows 25 = .ok (.iaload, 1) := dk_46 (dk_at dksX0_snows_1 1 rfl rfl)
theorem dX0_snows_26 : decode cX0_snows 26 = .ok (.istore_n 2, 1) := dk_61 (dk_at dksX0_snows_1 2 rfl rfl)
theorem dX0_snows_27 : decode cX0_snows 27 = .ok (.iconst 0, 1) := dk_3 (dk_at dksX0_snows_1 3 rfl rfl)
theorem dX0_snows_28 : decode cX0_snows 28 = .ok (.istore_n 3, 1) := dk_62 (dk_at dksX0_snows_1 4 rfl rfl)
theorem dX0_snows_29 : decode cX0_snows 29 = .ok (.iconst 0, 1) := dk_3 (dk_at dksX0_snows_1 5 rfl rfl)
theorem dX0_snows_30 : decode cX0_snows 30 = .ok (.istore 4, 2) := dk_54 4 (dk_at dksX0_snows_1 6 rfl rfl)
theorem dX0_snows_32 : decode cX0_snows 32 = .ok (.iload 4, 2) := dk_21 4 (dk_at dksX0_snows_1 8 rfl rfl)
theorem dX0_snows_34 : decode cX0_snows 34 = .ok (.bipush 9, 2) := dk_16 9 (dk_at dksX0_snows_1 10 rfl rfl)
theorem dX0_snows_36 : decode cX0_snows 36 = .ok (.if_icmp .gt 35, 3) := dk_163 0 35 (dk_at dksX0_snows_1 12 rfl rfl)
theorem dX0_snows_39 : decode cX0_snows 39 = .ok (.aload_n 0, 1) := dk_42 (dk_at dksX0_snows_1 15 rfl rfl)
theorem dX0_snows_40 : decode cX0_snows 40 = .ok (.getfield 11, 3) := dk_180 0 11 (dk_at dksX0_snows_1 16 rfl rfl)
theorem dX0_snows_43 : decode cX0_snows 43 = .ok (.iload_n 1, 1) := dk_27 (dk_at dksX0_snows_1 19 rfl rfl)
theorem dX0_snows_44 : decode cX0_snows 44 = .ok (.iload 4, 2) := dk_21 4 (dk_at dksX0_snows_1 20 rfl rfl)
theorem dX0_snows_46 : decode cX0_snows 46 = .ok (.iastore, 1) := dk_79 (dk_at dksX0_snows_1 22 rfl rfl)
theorem dX0_snows_47 : decode cX0_snows 47 = .ok (.iload_n 3, 1) := dk_29 (dk_at dksX0_snows_1 23 rfl rfl)
theorem dX0_snows_48 : decode cX0_snows 48 = .ok (.aload_n 0, 1) := dk_42 (dk_at dksX0_snows_2 0 rfl rfl)
theorem dX0_snows_49 : decode cX0_snows 49 = .ok (.invokevirtual 226, 3) := dk_182 0 226 (dk_at dksX0_snows_2 1 rfl rfl)
theorem dX0_snows_52 : decode cX0_snows 52 = .ok (.ifCond .eq 10, 3) := dk_153 0 10 (dk_at dksX0_snows_2 4 rfl rfl)
theorem dX0_snows_55 : decode cX0_snows 55 = .ok (.iconst 1, 1) := dk_4 (dk_at dksX0_snows_2 7 rfl rfl)
theorem dX0_snows_56 : decode cX0_snows 56 = .ok (.iload 4, 2) := dk_21 4 (dk_at dksX0_snows_2 8 rfl rfl)
theorem dX0_snows_58 : decode cX0_snows 58 = .ok (.ishl, 1) := dk_120 (dk_at dksX0_snows_2 10 rfl rfl)
theorem dX0_snows_59 : decode cX0_snows 59 = .ok (.goto 4, 3) := dk_167 0 4 (dk_at dksX0_snows_2 11 rfl rfl)
theorem dX0_snows_62 : decode cX0_snows 62 = .ok (.iconst 0, 1) := dk_3 (dk_at dksX0_snows_2 14 rfl rfl)
theorem dX0_snows_63 : decode cX0_snows 63 = .ok (.ior, 1) := dk_128 (dk_at dksX0_snows_2 15 rfl rfl)
theorem dX0_snows_64 : decode cX0_snows 64 = .ok (.istore_n 3, 1) := dk_62 (dk_at dksX0_snows_2 16 rfl rfl)
theorem dX0_snows_65 : decode cX0_snows 65 = .ok (.iinc 4 1, 3) := dk_132 4 1 (dk_at dksX0_snows_2 17 rfl rfl)
theorem dX0_snows_68 : decode cX0_snows 68 = .ok (.goto (-36), 3) := dk_167 255 220 (dk_at dksX0_snows_2 20 rfl rfl)
theorem dX0_snows_71 : decode cX0_snows 71 = .ok (.aload_n 0, 1) := dk_42 (dk_at dksX0_snows_2 23 rfl rfl)
theorem dX0_snows_72 : decode cX0_snows 72 = .ok (.getfield 11, 3) := dk_180 0 11 (dk_at dksX0_snows_3 0 rfl rfl)
theorem dX0_snows_75 : decode cX0_snows 75 = .ok (.iload_n 1, 1) := dk_27 (dk_at dksX0_snows_3 3 rfl rfl)
theorem dX0_snows_76 : decode cX0_snows 76 = .ok (.iload_n 2, 1) := dk_28 (dk_at dksX0_snows_3 4 rfl rfl)
theorem dX0_snows_77 : decode cX0_snows 77 = .ok (.iastore, 1) := dk_79 (dk_at dksX0_snows_3 5 rfl rfl)
theorem dX0_snows_78 : decode cX0_snows 78 = .ok (.iload_n 3, 1) := dk_29 (dk_at dksX0_snows_3 6 rfl rfl)
theorem dX0_snows_79 : decode cX0_snows 79 = .ok (.ireturn, 1) := dk_172 (dk_at dksX0_snows_3 7 rfl rfl)
abbrev cX0_areSo : ByteArray := prog_1_method_38_code
def yX0_areSo : MethodName := ⟨RX0, "areSo", "()Z"⟩
def dkwX0_areSo_2 : List UInt8 := [192, 0, 212, 180, 0, 223, 160, 0, 7, 4, 167, 0, 4, 3, 126, 60, 132, 2, 1, 167, 255, 193, 27, 172]
abbrev dktX0_areSo_2 : List UInt8 := dkwX0_areSo_2 ++ []
def dkwX0_areSo_1 : List UInt8 := [185, 0, 105, 2, 0, 192, 0, 212, 180, 0, 220, 182, 0, 179, 42, 180, 0, 28, 28, 185, 0, 105, 2, 0]
abbrev dktX0_areSo_1 : List UInt8 := dkwX0_areSo_1 ++ dktX0_areSo_2
def dkwX0_areSo_0 : List UInt8 := [4, 60, 3, 61, 28, 42, 180, 0, 28, 185, 0, 54, 1, 0, 162, 0, 56, 27, 42, 42, 180, 0, 28, 28]
abbrev dktX0_areSo_0 : List UInt8 := dkwX0_areSo_0 ++ dktX0_areSo_1
theorem dksX0_areSo_0 : cX0_areSo.data.toList.drop 0 = dktX0_areSo_0 := by decide +kernel
theorem dksX0_areSo_1 : cX0_areSo.data.toList.drop 24 = dktX0_areSo_1 := dk_seg dksX0_areSo_0 24 rfl rfl
theorem dksX0_areSo_2 : cX0_areSo.data.toList.drop 48 = dktX0_areSo_2 := dk_seg dksX0_areSo_1 24 rfl rfl
theorem dX0_areSo_0 : decode cX0_areSo 0 = .ok (.iconst 1, 1) := dk_4 (dk_at dksX0_areSo_0 0 rfl rfl)
theorem dX0_areSo_1 : decode cX0_areSo 1 = .ok (.istore_n 1, 1) := dk_60 (dk_at dksX0_areSo_0 1 rfl rfl)
theorem dX0_areSo_2 : decode cX0_areSo 2 = .ok (.iconst 0, 1) := dk_3 (dk_at dksX0_areSo_0 2 rfl rfl)
theorem dX0_areSo_3 : decode cX0_areSo 3 = .ok (.istore_n 2, 1) := dk_61 (dk_at dksX0_areSo_0 3 rfl rfl)
theorem dX0_areSo_4 : decode cX0_areSo 4 = .ok (.iload_n 2, 1) := dk_28 (dk_at dksX0_areSo_0 4 rfl rfl)
theorem dX0_areSo_5 : decode cX0_areSo 5 = .ok (.aload_n 0, 1) := dk_42 (dk_at dksX0_areSo_0 5 rfl rfl)
theorem dX0_areSo_6 : decode cX0_areSo 6 = .ok (.getfield 28, 3) := dk_180 0 28 (dk_at dksX0_areSo_0 6 rfl rfl)
theorem dX0_areSo_9 : decode cX0_areSo 9 = .ok (.invokeinterface 54 1, 5) := by decide +kernel
theorem dX0_areSo_14 : decode cX0_areSo 14 = .ok (.if_icmp .ge 56, 3) := dk_162 0 56 (dk_at dksX0_areSo_0 14 rfl rfl)
theorem dX0_areSo_17 : decode cX0_areSo 17 = .ok (.iload_n 1, 1) := dk_27 (dk_at dksX0_areSo_0 17 rfl rfl)
theorem dX0_areSo_18 : decode cX0_areSo 18 = .ok (.aload_n 0, 1) := dk_42 (dk_at dksX0_areSo_0 18 rfl rfl)
theorem dX0_areSo_19 : decode cX0_areSo 19 = .ok (.aload_n 0, 1) := dk_42 (dk_at dksX0_areSo_0 19 rfl rfl)
theorem dX0_areSo_20 : decode cX0_areSo 20 = .ok (.getfield 28, 3) := dk_180 0 28 (dk_at dksX0_areSo_0 20 rfl rfl)
theorem dX0_areSo_23 : decode cX0_areSo 23 = .ok (.iload_n 2, 1) := dk_28 (dk_at dksX0_areSo_0 23 rfl rfl)
theorem dX0_areSo_24 : decode cX0_areSo 24 = .ok (.invokeinterface 105 2, 5) := by decide +kernel
theorem dX0_areSo_29 : decode cX0_areSo 29 = .ok (.checkcast 212, 3) := dk_192 0 212 (dk_at dksX0_areSo_1 5 rfl rfl)
theorem dX0_areSo_32 : decode cX0_areSo 32 = .ok (.getfield 220, 3) := dk_180 0 220 (dk_at dksX0_areSo_1 8 rfl rfl)
theorem dX0_areSo_35 : decode cX0_areSo 35 = .ok (.invokevirtual 179, 3) := dk_182 0 179 (dk_at dksX0_areSo_1 11 rfl rfl)
theorem dX0_areSo_38 : decode cX0_areSo 38 = .ok (.aload_n 0, 1) := dk_42 (dk_at dksX0_areSo_1 14 rfl rfl)
theorem dX0_areSo_39 : decode cX0_areSo 39 = .ok (.getfield 28, 3) := dk_180 0 28 (dk_at dksX0_areSo_1 15 rfl rfl)
theorem dX0_areSo_42 : decode cX0_areSo 42 = .ok (.iload_n 2, 1) := dk_28 (dk_at dksX0_areSo_1 18 rfl rfl)
theorem dX0_areSo_43 : decode cX0_areSo 43 = .ok (.invokeinterface 105 2, 5) := by decide +kernel
theorem dX0_areSo_48 : decode cX0_areSo 48 = .ok (.checkcast 212, 3) := dk_192 0 212 (dk_at dksX0_areSo_2 0 rfl rfl)
theorem dX0_areSo_51 : decode cX0_areSo 51 = .ok (.getfield 223, 3) := dk_180 0 223 (dk_at dksX0_areSo_2 3 rfl rfl)
theorem dX0_areSo_54 : decode cX0_areSo 54 = .ok (.if_icmp .ne 7, 3) := dk_160 0 7 (dk_at dksX0_areSo_2 6 rfl rfl)
theorem dX0_areSo_57 : decode cX0_areSo 57 = .ok (.iconst 1, 1) := dk_4 (dk_at dksX0_areSo_2 9 rfl rfl)
theorem dX0_areSo_58 : decode cX0_areSo 58 = .ok (.goto 4, 3) := dk_167 0 4 (dk_at dksX0_areSo_2 10 rfl rfl)
theorem dX0_areSo_61 : decode cX0_areSo 61 = .ok (.iconst 0, 1) := dk_3 (dk_at dksX0_areSo_2 13 rfl rfl)
theorem dX0_areSo_62 : decode cX0_areSo 62 = .ok (.iand, 1) := dk_126 (dk_at dksX0_areSo_2 14 rfl rfl)
theorem dX0_areSo_63 : decode cX0_areSo 63 = .ok (.istore_n 1, 1) := dk_60 (dk_at dksX0_areSo_2 15 rfl rfl)
theorem dX0_areSo_64 : decode cX0_areSo 64 = .ok (.iinc 2 1, 3) := dk_132 2 1 (dk_at dksX0_areSo_2 16 rfl rfl)
theorem dX0_areSo_67 : decode cX0_areSo 67 = .ok (.goto (-63), 3) := dk_167 255 193 (dk_at dksX0_areSo_2 19 rfl rfl)
theorem dX0_areSo_70 : decode cX0_areSo 70 = .ok (.iload_n 1, 1) := dk_27 (dk_at dksX0_areSo_2 22 rfl rfl)
theorem dX0_areSo_71 : decode cX0_areSo 71 = .ok (.ireturn, 1) := dk_172 (dk_at dksX0_areSo_2 23 rfl rfl)
abbrev cX0_heights : ByteArray := prog_1_method_40_code
def yX0_heights : MethodName := ⟨RX0, "heights", "(I)I"⟩
def dkwX0_heights_3 : List UInt8 := [167, 255, 220, 44, 29, 181, 0, 122, 21, 4, 172]
abbrev dktX0_heights_3 : List UInt8 := dkwX0_heights_3 ++ []
def dkwX0_heights_2 : List UInt8 := [21, 4, 42, 182, 0, 226, 153, 0, 10, 4, 21, 5, 120, 167, 0, 4, 3, 128, 54, 4, 132, 5, 1]
abbrev dktX0_heights_2 : List UInt8 := dkwX0_heights_2 ++ dktX0_heights_3
def dkwX0_heights_1 : List UInt8 := [44, 180, 0, 122, 62, 3, 54, 4, 3, 54, 5, 21, 5, 16, 9, 163, 0, 35, 44, 21, 5, 181, 0, 122]
abbrev dktX0_heights_1 : List UInt8 := dkwX0_heights_1 ++ dktX0_heights_2
def dkwX0_heights_0 : List UInt8 := [42, 27, 182, 0, 101, 153, 0, 5, 2, 172, 42, 180, 0, 21, 27, 185, 0, 105, 2, 0, 192, 0, 37, 77]
abbrev dktX0_heights_0 : List UInt8 := dkwX0_heights_0 ++ dktX0_heights_1
theorem dksX0_heights_0 : cX0_heights.data.toList.drop 0 = dktX0_heights_0 := by decide +kernel
theorem dksX0_heights_1 : cX0_heights.data.toList.drop 24 = dktX0_heights_1 := dk_seg dksX0_heights_0 24 rfl rfl
theorem dksX0_heights_2 : cX0_heights.data.toList.drop 48 = dktX0_heights_2 := dk_seg dksX0_heights_1 24 rfl rfl
theorem dksX0_heights_3 : cX0_heights.data.toList.drop 71 = dktX0_heights_3 := dk_seg dksX0_heights_2 23 rfl rfl
theorem dX0_heights_0 : decode cX0_heights 0 = .ok (.aload_n 0, 1) := dk_42 (dk_at dksX0_heights_0 0 rfl rfl)
theorem dX0_heights_1 : decode cX0_heights 1 = .ok (.iload_n 1, 1) := dk_27 (dk_at dksX0_heights_0 1 rfl rfl)
theorem dX0_heights_2 : decode cX0_heights 2 = .ok (.invokevirtual 101, 3) := dk_182 0 101 (dk_at dksX0_heights_0 2 rfl rfl)
theorem dX0_heights_5 : decode cX0_heights 5 = .ok (.ifCond .eq 5, 3) := dk_153 0 5 (dk_at dksX0_heights_0 5 rfl rfl)
theorem dX0_heights_8 : decode cX0_heights 8 = .ok (.iconst (-1), 1) := dk_2 (dk_at dksX0_heights_0 8 rfl rfl)
theorem dX0_heights_9 : decode cX0_heights 9 = .ok (.ireturn, 1) := dk_172 (dk_at dksX0_heights_0 9 rfl rfl)
theorem dX0_heights_10 : decode cX0_heights 10 = .ok (.aload_n 0, 1) := dk_42 (dk_at dksX0_heights_0 10 rfl rfl)
theorem dX0_heights_11 : decode cX0_heights 11 = .ok (.getfield 21, 3) := dk_180 0 21 (dk_at dksX0_heights_0 11 rfl rfl)
theorem dX0_heights_14 : decode cX0_heights 14 = .ok (.iload_n 1, 1) := dk_27 (dk_at dksX0_heights_0 14 rfl rfl)
theorem dX0_heights_15 : decode cX0_heights 15 = .ok (.invokeinterface 105 2, 5) := by decide +kernel
theorem dX0_heights_20 : decode cX0_heights 20 = .ok (.checkcast 37, 3) := dk_192 0 37 (dk_at dksX0_heights_0 20 rfl rfl)
theorem dX0_heights_23 : decode cX0_heights 23 = .ok (.astore_n 2, 1) := dk_77 (dk_at dksX0_heights_0 23 rfl rfl)
theorem dX0_heights_24 : decode cX0_heights 24 = .ok (.aload_n 2, 1) := dk_44 (dk_at dksX0_heights_1 0 rfl rfl)
theorem dX0_heights_25 : decode cX0_heights 25 = .ok (.getfield 122, 3) := dk_180 0 122 (dk_at dksX0_heights_1 1 rfl rfl)
theorem dX0_heights_28 : decode cX0_heights 28 = .ok (.istore_n 3, 1) := dk_62 (dk_at dksX0_heights_1 4 rfl rfl)
theorem dX0_heights_29 : decode cX0_heights 29 = .ok (.iconst 0, 1) := dk_3 (dk_at dksX0_heights_1 5 rfl rfl)
theorem dX0_heights_30 : decode cX0_heights 30 = .ok (.istore 4, 2) := dk_54 4 (dk_at dksX0_heights_1 6 rfl rfl)
theorem dX0_heights_32 : decode cX0_heights 32 = .ok (.iconst 0, 1) := dk_3 (dk_at dksX0_heights_1 8 rfl rfl)
theorem dX0_heights_33 : decode cX0_heights 33 = .ok (.istore 5, 2) := dk_54 5 (dk_at dksX0_heights_1 9 rfl rfl)
theorem dX0_heights_35 : decode cX0_heights 35 = .ok (.iload 5, 2) := dk_21 5 (dk_at dksX0_heights_1 11 rfl rfl)
theorem dX0_heights_37 : decode cX0_heights 37 = .ok (.bipush 9, 2) := dk_16 9 (dk_at dksX0_heights_1 13 rfl rfl)
theorem dX0_heights_39 : decode cX0_heights 39 = .ok (.if_icmp .gt 35, 3) := dk_163 0 35 (dk_at dksX0_heights_1 15 rfl rfl)
theorem dX0_heights_42 : decode cX0_heights 42 = .ok (.aload_n 2, 1) := dk_44 (dk_at dksX0_heights_1 18 rfl rfl)
theorem dX0_heights_43 : decode cX0_heights 43 = .ok (.iload 5, 2) := dk_21 5 (dk_at dksX0_heights_1 19 rfl rfl)
theorem dX0_heights_45 : decode cX0_heights 45 = .ok (.putfield 122, 3) := dk_181 0 122 (dk_at dksX0_heights_1 21 rfl rfl)
theorem dX0_heights_48 : decode cX0_heights 48 = .ok (.iload 4, 2) := dk_21 4 (dk_at dksX0_heights_2 0 rfl rfl)
theorem dX0_heights_50 : decode cX0_heights 50 = .ok (.aload_n 0, 1) := dk_42 (dk_at dksX0_heights_2 2 rfl rfl)
theorem dX0_heights_51 : decode cX0_heights 51 = .ok (.invokevirtual 226, 3) := dk_182 0 226 (dk_at dksX0_heights_2 3 rfl rfl)
theorem dX0_heights_54 : decode cX0_heights 54 = .ok (.ifCond .eq 10, 3) := dk_153 0 10 (dk_at dksX0_heights_2 6 rfl rfl)
theorem dX0_heights_57 : decode cX0_heights 57 = .ok (.iconst 1, 1) := dk_4 (dk_at dksX0_heights_2 9 rfl rfl)
theorem dX0_heights_58 : decode cX0_heights 58 = .ok (.iload 5, 2) := dk_21 5 (dk_at dksX0_heights_2 10 rfl rfl)
theorem dX0_heights_60 : decode cX0_heights 60 = .ok (.ishl, 1) := dk_120 (dk_at dksX0_heights_2 12 rfl rfl)
theorem dX0_heights_61 : decode cX0_heights 61 = .ok (.goto 4, 3) := dk_167 0 4 (dk_at dksX0_heights_2 13 rfl rfl)
theorem dX0_heights_64 : decode cX0_heights 64 = .ok (.iconst 0, 1) := dk_3 (dk_at dksX0_heights_2 16 rfl rfl)
theorem dX0_heights_65 : decode cX0_heights 65 = .ok (.ior, 1) := dk_128 (dk_at dksX0_heights_2 17 rfl rfl)
theorem dX0_heights_66 : decode cX0_heights 66 = .ok (.istore 4, 2) := dk_54 4 (dk_at dksX0_heights_2 18 rfl rfl)
theorem dX0_heights_68 : decode cX0_heights 68 = .ok (.iinc 5 1, 3) := dk_132 5 1 (dk_at dksX0_heights_2 20 rfl rfl)
theorem dX0_heights_71 : decode cX0_heights 71 = .ok (.goto (-36), 3) := dk_167 255 220 (dk_at dksX0_heights_3 0 rfl rfl)
theorem dX0_heights_74 : decode cX0_heights 74 = .ok (.aload_n 2, 1) := dk_44 (dk_at dksX0_heights_3 3 rfl rfl)
theorem dX0_heights_75 : decode cX0_heights 75 = .ok (.iload_n 3, 1) := dk_29 (dk_at dksX0_heights_3 4 rfl rfl)
theorem dX0_heights_76 : decode cX0_heights 76 = .ok (.putfield 122, 3) := dk_181 0 122 (dk_at dksX0_heights_3 5 rfl rfl)
theorem dX0_heights_79 : decode cX0_heights 79 = .ok (.iload 4, 2) := dk_21 4 (dk_at dksX0_heights_3 8 rfl rfl)
theorem dX0_heights_81 : decode cX0_heights 81 = .ok (.ireturn, 1) := dk_172 (dk_at dksX0_heights_3 10 rfl rfl)
abbrev cX0_kinds : ByteArray := prog_1_method_41_code
def yX0_kinds : MethodName := ⟨RX0, "kinds", "(I)I"⟩
def dkwX0_kinds_4 : List UInt8 := [180, 0, 21, 27, 44, 185, 0, 229, 3, 0, 87, 29, 172]
abbrev dktX0_kinds_4 : List UInt8 := dkwX0_kinds_4 ++ []
def dkwX0_kinds_3 : List UInt8 := [182, 0, 226, 153, 0, 10, 4, 21, 4, 120, 167, 0, 4, 3, 128, 62, 132, 4, 1, 167, 255, 195, 42]
abbrev dktX0_kinds_3 : List UInt8 := dkwX0_kinds_3 ++ dktX0_kinds_4
def dkwX0_kinds_2 : List UInt8 := [44, 180, 0, 116, 44, 180, 0, 119, 44, 180, 0, 122, 182, 0, 83, 185, 0, 229, 3, 0, 87, 29, 42]
abbrev dktX0_kinds_2 : List UInt8 := dkwX0_kinds_2 ++ dktX0_kinds_3
def dkwX0_kinds_1 : List UInt8 := [3, 62, 3, 54, 4, 21, 4, 6, 162, 0, 61, 42, 180, 0, 21, 27, 42, 21, 4, 27, 44, 180, 0, 112]
abbrev dktX0_kinds_1 : List UInt8 := dkwX0_kinds_1 ++ dktX0_kinds_2
def dkwX0_kinds_0 : List UInt8 := [42, 27, 182, 0, 101, 153, 0, 5, 2, 172, 42, 180, 0, 21, 27, 185, 0, 105, 2, 0, 192, 0, 37, 77]
abbrev dktX0_kinds_0 : List UInt8 := dkwX0_kinds_0 ++ dktX0_kinds_1
theorem dksX0_kinds_0 : cX0_kinds.data.toList.drop 0 = dktX0_kinds_0 := by decide +kernel
theorem dksX0_kinds_1 : cX0_kinds.data.toList.drop 24 = dktX0_kinds_1 := dk_seg dksX0_kinds_0 24 rfl rfl
theorem dksX0_kinds_2 : cX0_kinds.data.toList.drop 48 = dktX0_kinds_2 := dk_seg dksX0_kinds_1 24 rfl rfl
theorem dksX0_kinds_3 : cX0_kinds.data.toList.drop 71 = dktX0_kinds_3 := dk_seg dksX0_kinds_2 23 rfl rfl
theorem dksX0_kinds_4 : cX0_kinds.data.toList.drop 94 = dktX0_kinds_4 := dk_seg dksX0_kinds_3 23 rfl rfl
theorem dX0_kinds_0 : decode cX0_kinds 0 = .ok (.aload_n 0, 1) := dk_42 (dk_at dksX0_kinds_0 0 rfl rfl)
theorem dX0_kinds_1 : decode cX0_kinds 1 = .ok (.iload_n 1, 1) := dk_27 (dk_at dksX0_kinds_0 1 rfl rfl)
theorem dX0_kinds_2 : decode cX0_kinds 2 = .ok (.invokevirtual 101, 3) := dk_182 0 101 (dk_at dksX0_kinds_0 2 rfl rfl)
theorem dX0_kinds_5 : decode cX0_kinds 5 = .ok (.ifCond .eq 5, 3) := dk_153 0 5 (dk_at dksX0_kinds_0 5 rfl rfl)
theorem dX0_kinds_8 : decode cX0_kinds 8 = .ok (.iconst (-1), 1) := dk_2 (dk_at dksX0_kinds_0 8 rfl rfl)
theorem dX0_kinds_9 : decode cX0_kinds 9 = .ok (.ireturn, 1) := dk_172 (dk_at dksX0_kinds_0 9 rfl rfl)
theorem dX0_kinds_10 : decode cX0_kinds 10 = .ok (.aload_n 0, 1) := dk_42 (dk_at dksX0_kinds_0 10 rfl rfl)
theorem dX0_kinds_11 : decode cX0_kinds 11 = .ok (.getfield 21, 3) := dk_180 0 21 (dk_at dksX0_kinds_0 11 rfl rfl)
theorem dX0_kinds_14 : decode cX0_kinds 14 = .ok (.iload_n 1, 1) := dk_27 (dk_at dksX0_kinds_0 14 rfl rfl)
theorem dX0_kinds_15 : decode cX0_kinds 15 = .ok (.invokeinterface 105 2, 5) := by decide +kernel
theorem dX0_kinds_20 : decode cX0_kinds 20 = .ok (.checkcast 37, 3) := dk_192 0 37 (dk_at dksX0_kinds_0 20 rfl rfl)
theorem dX0_kinds_23 : decode cX0_kinds 23 = .ok (.astore_n 2, 1) := dk_77 (dk_at dksX0_kinds_0 23 rfl rfl)
theorem dX0_kinds_24 : decode cX0_kinds 24 = .ok (.iconst 0, 1) := dk_3 (dk_at dksX0_kinds_1 0 rfl rfl)
theorem dX0_kinds_25 : decode cX0_kinds 25 = .ok (.istore_n 3, 1) := dk_62 (dk_at dksX0_kinds_1 1 rfl rfl)
theorem dX0_kinds_26 : decode cX0_kinds 26 = .ok (.iconst 0, 1) := dk_3 (dk_at dksX0_kinds_1 2 rfl rfl)
theorem dX0_kinds_27 : decode cX0_kinds 27 = .ok (.istore 4, 2) := dk_54 4 (dk_at dksX0_kinds_1 3 rfl rfl)
theorem dX0_kinds_29 : decode cX0_kinds 29 = .ok (.iload 4, 2) := dk_21 4 (dk_at dksX0_kinds_1 5 rfl rfl)
theorem dX0_kinds_31 : decode cX0_kinds 31 = .ok (.iconst 3, 1) := dk_6 (dk_at dksX0_kinds_1 7 rfl rfl)
theorem dX0_kinds_32 : decode cX0_kinds 32 = .ok (.if_icmp .ge 61, 3) := dk_162 0 61 (dk_at dksX0_kinds_1 8 rfl rfl)
theorem dX0_kinds_35 : decode cX0_kinds 35 = .ok (.aload_n 0, 1) := dk_42 (dk_at dksX0_kinds_1 11 rfl rfl)
theorem dX0_kinds_36 : decode cX0_kinds 36 = .ok (.getfield 21, 3) := dk_180 0 21 (dk_at dksX0_kinds_1 12 rfl rfl)
theorem dX0_kinds_39 : decode cX0_kinds 39 = .ok (.iload_n 1, 1) := dk_27 (dk_at dksX0_kinds_1 15 rfl rfl)
theorem dX0_kinds_40 : decode cX0_kinds 40 = .ok (.aload_n 0, 1) := dk_42 (dk_at dksX0_kinds_1 16 rfl rfl)
theorem dX0_kinds_41 : decode cX0_kinds 41 = .ok (.iload 4, 2) := dk_21 4 (dk_at dksX0_kinds_1 17 rfl rfl)
theorem dX0_kinds_43 : decode cX0_kinds 43 = .ok (.iload_n 1, 1) := dk_27 (dk_at dksX0_kinds_1 19 rfl rfl)
theorem dX0_kinds_44 : decode cX0_kinds 44 = .ok (.aload_n 2, 1) := dk_44 (dk_at dksX0_kinds_1 20 rfl rfl)
theorem dX0_kinds_45 : decode cX0_kinds 45 = .ok (.getfield 112, 3) := dk_180 0 112 (dk_at dksX0_kinds_1 21 rfl rfl)
theorem dX0_kinds_48 : decode cX0_kinds 48 = .ok (.aload_n 2, 1) := dk_44 (dk_at dksX0_kinds_2 0 rfl rfl)
theorem dX0_kinds_49 : decode cX0_kinds 49 = .ok (.getfield 116, 3) := dk_180 0 116 (dk_at dksX0_kinds_2 1 rfl rfl)
theorem dX0_kinds_52 : decode cX0_kinds 52 = .ok (.aload_n 2, 1) := dk_44 (dk_at dksX0_kinds_2 4 rfl rfl)
theorem dX0_kinds_53 : decode cX0_kinds 53 = .ok (.getfield 119, 3) := dk_180 0 119 (dk_at dksX0_kinds_2 5 rfl rfl)
theorem dX0_kinds_56 : decode cX0_kinds 56 = .ok (.aload_n 2, 1) := dk_44 (dk_at dksX0_kinds_2 8 rfl rfl)
theorem dX0_kinds_57 : decode cX0_kinds 57 = .ok (.getfield 122, 3) := dk_180 0 122 (dk_at dksX0_kinds_2 9 rfl rfl)
theorem dX0_kinds_60 : decode cX0_kinds 60 = .ok (.invokevirtual 83, 3) := dk_182 0 83 (dk_at dksX0_kinds_2 12 rfl rfl)
theorem dX0_kinds_63 : decode cX0_kinds 63 = .ok (.invokeinterface 229 3, 5) := by decide +kernel
theorem dX0_kinds_68 : decode cX0_kinds 68 = .ok (.pop, 1) := dk_87 (dk_at dksX0_kinds_2 20 rfl rfl)
theorem dX0_kinds_69 : decode cX0_kinds 69 = .ok (.iload_n 3, 1) := dk_29 (dk_at dksX0_kinds_2 21 rfl rfl)
theorem dX0_kinds_70 : decode cX0_kinds 70 = .ok (.aload_n 0, 1) := dk_42 (dk_at dksX0_kinds_2 22 rfl rfl)
theorem dX0_kinds_71 : decode cX0_kinds 71 = .ok (.invokevirtual 226, 3) := dk_182 0 226 (dk_at dksX0_kinds_3 0 rfl rfl)
theorem dX0_kinds_74 : decode cX0_kinds 74 = .ok (.ifCond .eq 10, 3) := dk_153 0 10 (dk_at dksX0_kinds_3 3 rfl rfl)
theorem dX0_kinds_77 : decode cX0_kinds 77 = .ok (.iconst 1, 1) := dk_4 (dk_at dksX0_kinds_3 6 rfl rfl)
theorem dX0_kinds_78 : decode cX0_kinds 78 = .ok (.iload 4, 2) := dk_21 4 (dk_at dksX0_kinds_3 7 rfl rfl)
theorem dX0_kinds_80 : decode cX0_kinds 80 = .ok (.ishl, 1) := dk_120 (dk_at dksX0_kinds_3 9 rfl rfl)
theorem dX0_kinds_81 : decode cX0_kinds 81 = .ok (.goto 4, 3) := dk_167 0 4 (dk_at dksX0_kinds_3 10 rfl rfl)
theorem dX0_kinds_84 : decode cX0_kinds 84 = .ok (.iconst 0, 1) := dk_3 (dk_at dksX0_kinds_3 13 rfl rfl)
theorem dX0_kinds_85 : decode cX0_kinds 85 = .ok (.ior, 1) := dk_128 (dk_at dksX0_kinds_3 14 rfl rfl)
theorem dX0_kinds_86 : decode cX0_kinds 86 = .ok (.istore_n 3, 1) := dk_62 (dk_at dksX0_kinds_3 15 rfl rfl)
theorem dX0_kinds_87 : decode cX0_kinds 87 = .ok (.iinc 4 1, 3) := dk_132 4 1 (dk_at dksX0_kinds_3 16 rfl rfl)
theorem dX0_kinds_90 : decode cX0_kinds 90 = .ok (.goto (-61), 3) := dk_167 255 195 (dk_at dksX0_kinds_3 19 rfl rfl)
theorem dX0_kinds_93 : decode cX0_kinds 93 = .ok (.aload_n 0, 1) := dk_42 (dk_at dksX0_kinds_3 22 rfl rfl)
theorem dX0_kinds_94 : decode cX0_kinds 94 = .ok (.getfield 21, 3) := dk_180 0 21 (dk_at dksX0_kinds_4 0 rfl rfl)
theorem dX0_kinds_97 : decode cX0_kinds 97 = .ok (.iload_n 1, 1) := dk_27 (dk_at dksX0_kinds_4 3 rfl rfl)
theorem dX0_kinds_98 : decode cX0_kinds 98 = .ok (.aload_n 2, 1) := dk_44 (dk_at dksX0_kinds_4 4 rfl rfl)
theorem dX0_kinds_99 : decode cX0_kinds 99 = .ok (.invokeinterface 229 3, 5) := by decide +kernel
theorem dX0_kinds_104 : decode cX0_kinds 104 = .ok (.pop, 1) := dk_87 (dk_at dksX0_kinds_4 10 rfl rfl)
theorem dX0_kinds_105 : decode cX0_kinds 105 = .ok (.iload_n 3, 1) := dk_29 (dk_at dksX0_kinds_4 11 rfl rfl)
theorem dX0_kinds_106 : decode cX0_kinds 106 = .ok (.ireturn, 1) := dk_172 (dk_at dksX0_kinds_4 12 rfl rfl)
abbrev cX0_madeOf : ByteArray := prog_1_method_4_code
def yX0_madeOf : MethodName := ⟨RX0, "madeOf", "(IIIIII)LCheeseValleys$Pass;"⟩
def dkwX0_madeOf_2 : List UInt8 := [187, 0, 45, 89, 42, 28, 29, 21, 4, 21, 5, 21, 6, 183, 0, 47, 176]
abbrev dktX0_madeOf_2 : List UInt8 := dkwX0_madeOf_2 ++ []
def dkwX0_madeOf_1 : List UInt8 := [4, 160, 0, 22, 187, 0, 42, 89, 42, 28, 29, 21, 4, 21, 5, 21, 6, 183, 0, 44, 167, 0, 19]
abbrev dktX0_madeOf_1 : List UInt8 := dkwX0_madeOf_1 ++ dktX0_madeOf_2
def dkwX0_madeOf_0 : List UInt8 := [27, 154, 0, 22, 187, 0, 37, 89, 42, 28, 29, 21, 4, 21, 5, 21, 6, 183, 0, 39, 167, 0, 43, 27]
abbrev dktX0_madeOf_0 : List UInt8 := dkwX0_madeOf_0 ++ dktX0_madeOf_1
theorem dksX0_madeOf_0 : cX0_madeOf.data.toList.drop 0 = dktX0_madeOf_0 := by decide +kernel
theorem dksX0_madeOf_1 : cX0_madeOf.data.toList.drop 24 = dktX0_madeOf_1 := dk_seg dksX0_madeOf_0 24 rfl rfl
theorem dksX0_madeOf_2 : cX0_madeOf.data.toList.drop 47 = dktX0_madeOf_2 := dk_seg dksX0_madeOf_1 23 rfl rfl
theorem dX0_madeOf_0 : decode cX0_madeOf 0 = .ok (.iload_n 1, 1) := dk_27 (dk_at dksX0_madeOf_0 0 rfl rfl)
theorem dX0_madeOf_1 : decode cX0_madeOf 1 = .ok (.ifCond .ne 22, 3) := dk_154 0 22 (dk_at dksX0_madeOf_0 1 rfl rfl)
theorem dX0_madeOf_4 : decode cX0_madeOf 4 = .ok (.new 37, 3) := dk_187 0 37 (dk_at dksX0_madeOf_0 4 rfl rfl)
theorem dX0_madeOf_7 : decode cX0_madeOf 7 = .ok (.dup, 1) := dk_89 (dk_at dksX0_madeOf_0 7 rfl rfl)
theorem dX0_madeOf_8 : decode cX0_madeOf 8 = .ok (.aload_n 0, 1) := dk_42 (dk_at dksX0_madeOf_0 8 rfl rfl)
theorem dX0_madeOf_9 : decode cX0_madeOf 9 = .ok (.iload_n 2, 1) := dk_28 (dk_at dksX0_madeOf_0 9 rfl rfl)
theorem dX0_madeOf_10 : decode cX0_madeOf 10 = .ok (.iload_n 3, 1) := dk_29 (dk_at dksX0_madeOf_0 10 rfl rfl)
theorem dX0_madeOf_11 : decode cX0_madeOf 11 = .ok (.iload 4, 2) := dk_21 4 (dk_at dksX0_madeOf_0 11 rfl rfl)
theorem dX0_madeOf_13 : decode cX0_madeOf 13 = .ok (.iload 5, 2) := dk_21 5 (dk_at dksX0_madeOf_0 13 rfl rfl)
theorem dX0_madeOf_15 : decode cX0_madeOf 15 = .ok (.iload 6, 2) := dk_21 6 (dk_at dksX0_madeOf_0 15 rfl rfl)
theorem dX0_madeOf_17 : decode cX0_madeOf 17 = .ok (.invokespecial 39, 3) := dk_183 0 39 (dk_at dksX0_madeOf_0 17 rfl rfl)
theorem dX0_madeOf_20 : decode cX0_madeOf 20 = .ok (.goto 43, 3) := dk_167 0 43 (dk_at dksX0_madeOf_0 20 rfl rfl)
theorem dX0_madeOf_23 : decode cX0_madeOf 23 = .ok (.iload_n 1, 1) := dk_27 (dk_at dksX0_madeOf_0 23 rfl rfl)
theorem dX0_madeOf_24 : decode cX0_madeOf 24 = .ok (.iconst 1, 1) := dk_4 (dk_at dksX0_madeOf_1 0 rfl rfl)
theorem dX0_madeOf_25 : decode cX0_madeOf 25 = .ok (.if_icmp .ne 22, 3) := dk_160 0 22 (dk_at dksX0_madeOf_1 1 rfl rfl)
theorem dX0_madeOf_28 : decode cX0_madeOf 28 = .ok (.new 42, 3) := dk_187 0 42 (dk_at dksX0_madeOf_1 4 rfl rfl)
theorem dX0_madeOf_31 : decode cX0_madeOf 31 = .ok (.dup, 1) := dk_89 (dk_at dksX0_madeOf_1 7 rfl rfl)
theorem dX0_madeOf_32 : decode cX0_madeOf 32 = .ok (.aload_n 0, 1) := dk_42 (dk_at dksX0_madeOf_1 8 rfl rfl)
theorem dX0_madeOf_33 : decode cX0_madeOf 33 = .ok (.iload_n 2, 1) := dk_28 (dk_at dksX0_madeOf_1 9 rfl rfl)
theorem dX0_madeOf_34 : decode cX0_madeOf 34 = .ok (.iload_n 3, 1) := dk_29 (dk_at dksX0_madeOf_1 10 rfl rfl)
theorem dX0_madeOf_35 : decode cX0_madeOf 35 = .ok (.iload 4, 2) := dk_21 4 (dk_at dksX0_madeOf_1 11 rfl rfl)
theorem dX0_madeOf_37 : decode cX0_madeOf 37 = .ok (.iload 5, 2) := dk_21 5 (dk_at dksX0_madeOf_1 13 rfl rfl)
theorem dX0_madeOf_39 : decode cX0_madeOf 39 = .ok (.iload 6, 2) := dk_21 6 (dk_at dksX0_madeOf_1 15 rfl rfl)
theorem dX0_madeOf_41 : decode cX0_madeOf 41 = .ok (.invokespecial 44, 3) := dk_183 0 44 (dk_at dksX0_madeOf_1 17 rfl rfl)
theorem dX0_madeOf_44 : decode cX0_madeOf 44 = .ok (.goto 19, 3) := dk_167 0 19 (dk_at dksX0_madeOf_1 20 rfl rfl)
theorem dX0_madeOf_47 : decode cX0_madeOf 47 = .ok (.new 45, 3) := dk_187 0 45 (dk_at dksX0_madeOf_2 0 rfl rfl)
theorem dX0_madeOf_50 : decode cX0_madeOf 50 = .ok (.dup, 1) := dk_89 (dk_at dksX0_madeOf_2 3 rfl rfl)
theorem dX0_madeOf_51 : decode cX0_madeOf 51 = .ok (.aload_n 0, 1) := dk_42 (dk_at dksX0_madeOf_2 4 rfl rfl)
theorem dX0_madeOf_52 : decode cX0_madeOf 52 = .ok (.iload_n 2, 1) := dk_28 (dk_at dksX0_madeOf_2 5 rfl rfl)
theorem dX0_madeOf_53 : decode cX0_madeOf 53 = .ok (.iload_n 3, 1) := dk_29 (dk_at dksX0_madeOf_2 6 rfl rfl)
theorem dX0_madeOf_54 : decode cX0_madeOf 54 = .ok (.iload 4, 2) := dk_21 4 (dk_at dksX0_madeOf_2 7 rfl rfl)
theorem dX0_madeOf_56 : decode cX0_madeOf 56 = .ok (.iload 5, 2) := dk_21 5 (dk_at dksX0_madeOf_2 9 rfl rfl)
theorem dX0_madeOf_58 : decode cX0_madeOf 58 = .ok (.iload 6, 2) := dk_21 6 (dk_at dksX0_madeOf_2 11 rfl rfl)
theorem dX0_madeOf_60 : decode cX0_madeOf 60 = .ok (.invokespecial 47, 3) := dk_183 0 47 (dk_at dksX0_madeOf_2 13 rfl rfl)
theorem dX0_madeOf_63 : decode cX0_madeOf 63 = .ok (.areturn, 1) := dk_176 (dk_at dksX0_madeOf_2 16 rfl rfl)
abbrev cX0_gave : ByteArray := prog_1_method_42_code
def yX0_gave : MethodName := ⟨RX0, "gave", "(II)I"⟩
def dkwX0_gave_4 : List UInt8 := [154, 0, 8, 21, 4, 167, 0, 5, 21, 5, 172]
abbrev dktX0_gave_4 : List UInt8 := dkwX0_gave_4 ++ []
def dkwX0_gave_3 : List UInt8 := [153, 0, 10, 132, 4, 1, 21, 6, 54, 5, 132, 6, 255, 167, 255, 226, 42, 180, 0, 15, 27, 29, 79, 28]
abbrev dktX0_gave_3 : List UInt8 := dkwX0_gave_3 ++ dktX0_gave_4
def dkwX0_gave_2 : List UInt8 := [17, 0, 255, 54, 6, 21, 6, 155, 0, 31, 42, 180, 0, 15, 27, 21, 6, 79, 42, 182, 0, 226]
abbrev dktX0_gave_2 : List UInt8 := dkwX0_gave_2 ++ dktX0_gave_3
def dkwX0_gave_1 : List UInt8 := [182, 0, 133, 153, 0, 6, 16, 253, 172, 42, 180, 0, 15, 27, 46, 62, 3, 54, 4, 16, 247, 54, 5]
abbrev dktX0_gave_1 : List UInt8 := dkwX0_gave_1 ++ dktX0_gave_2
def dkwX0_gave_0 : List UInt8 := [27, 184, 0, 136, 154, 0, 5, 2, 172, 28, 133, 9, 10, 184, 0, 58, 154, 0, 6, 16, 254, 172, 42]
abbrev dktX0_gave_0 : List UInt8 := dkwX0_gave_0 ++ dktX0_gave_1
theorem dksX0_gave_0 : cX0_gave.data.toList.drop 0 = dktX0_gave_0 := by decide +kernel
theorem dksX0_gave_1 : cX0_gave.data.toList.drop 23 = dktX0_gave_1 := dk_seg dksX0_gave_0 23 rfl rfl
theorem dksX0_gave_2 : cX0_gave.data.toList.drop 46 = dktX0_gave_2 := dk_seg dksX0_gave_1 23 rfl rfl
theorem dksX0_gave_3 : cX0_gave.data.toList.drop 68 = dktX0_gave_3 := dk_seg dksX0_gave_2 22 rfl rfl
theorem dksX0_gave_4 : cX0_gave.data.toList.drop 92 = dktX0_gave_4 := dk_seg dksX0_gave_3 24 rfl rfl
theorem dX0_gave_0 : decode cX0_gave 0 = .ok (.iload_n 1, 1) := dk_27 (dk_at dksX0_gave_0 0 rfl rfl)
theorem dX0_gave_1 : decode cX0_gave 1 = .ok (.invokestatic 136, 3) := dk_184 0 136 (dk_at dksX0_gave_0 1 rfl rfl)
theorem dX0_gave_4 : decode cX0_gave 4 = .ok (.ifCond .ne 5, 3) := dk_154 0 5 (dk_at dksX0_gave_0 4 rfl rfl)
theorem dX0_gave_7 : decode cX0_gave 7 = .ok (.iconst (-1), 1) := dk_2 (dk_at dksX0_gave_0 7 rfl rfl)
theorem dX0_gave_8 : decode cX0_gave 8 = .ok (.ireturn, 1) := dk_172 (dk_at dksX0_gave_0 8 rfl rfl)
theorem dX0_gave_9 : decode cX0_gave 9 = .ok (.iload_n 2, 1) := dk_28 (dk_at dksX0_gave_0 9 rfl rfl)
theorem dX0_gave_10 : decode cX0_gave 10 = .ok (.i2l, 1) := dk_133 (dk_at dksX0_gave_0 10 rfl rfl)
theorem dX0_gave_11 : decode cX0_gave 11 = .ok (.lconst 0, 1) := dk_9 (dk_at dksX0_gave_0 11 rfl rfl)
theorem dX0_gave_12 : decode cX0_gave 12 = .ok (.lconst 1, 1) := dk_10 (dk_at dksX0_gave_0 12 rfl rfl)
theorem dX0_gave_13 : decode cX0_gave 13 = .ok (.invokestatic 58, 3) := dk_184 0 58 (dk_at dksX0_gave_0 13 rfl rfl)
theorem dX0_gave_16 : decode cX0_gave 16 = .ok (.ifCond .ne 6, 3) := dk_154 0 6 (dk_at dksX0_gave_0 16 rfl rfl)
theorem dX0_gave_19 : decode cX0_gave 19 = .ok (.bipush (-2), 2) := dk_16 254 (dk_at dksX0_gave_0 19 rfl rfl)
theorem dX0_gave_21 : decode cX0_gave 21 = .ok (.ireturn, 1) := dk_172 (dk_at dksX0_gave_0 21 rfl rfl)
theorem dX0_gave_22 : decode cX0_gave 22 = .ok (.aload_n 0, 1) := dk_42 (dk_at dksX0_gave_0 22 rfl rfl)
theorem dX0_gave_23 : decode cX0_gave 23 = .ok (.invokevirtual 133, 3) := dk_182 0 133 (dk_at dksX0_gave_1 0 rfl rfl)
theorem dX0_gave_26 : decode cX0_gave 26 = .ok (.ifCond .eq 6, 3) := dk_153 0 6 (dk_at dksX0_gave_1 3 rfl rfl)
theorem dX0_gave_29 : decode cX0_gave 29 = .ok (.bipush (-3), 2) := dk_16 253 (dk_at dksX0_gave_1 6 rfl rfl)
theorem dX0_gave_31 : decode cX0_gave 31 = .ok (.ireturn, 1) := dk_172 (dk_at dksX0_gave_1 8 rfl rfl)
theorem dX0_gave_32 : decode cX0_gave 32 = .ok (.aload_n 0, 1) := dk_42 (dk_at dksX0_gave_1 9 rfl rfl)
theorem dX0_gave_33 : decode cX0_gave 33 = .ok (.getfield 15, 3) := dk_180 0 15 (dk_at dksX0_gave_1 10 rfl rfl)
theorem dX0_gave_36 : decode cX0_gave 36 = .ok (.iload_n 1, 1) := dk_27 (dk_at dksX0_gave_1 13 rfl rfl)
theorem dX0_gave_37 : decode cX0_gave 37 = .ok (.iaload, 1) := dk_46 (dk_at dksX0_gave_1 14 rfl rfl)
theorem dX0_gave_38 : decode cX0_gave 38 = .ok (.istore_n 3, 1) := dk_62 (dk_at dksX0_gave_1 15 rfl rfl)
theorem dX0_gave_39 : decode cX0_gave 39 = .ok (.iconst 0, 1) := dk_3 (dk_at dksX0_gave_1 16 rfl rfl)
theorem dX0_gave_40 : decode cX0_gave 40 = .ok (.istore 4, 2) := dk_54 4 (dk_at dksX0_gave_1 17 rfl rfl)
theorem dX0_gave_42 : decode cX0_gave 42 = .ok (.bipush (-9), 2) := dk_16 247 (dk_at dksX0_gave_1 19 rfl rfl)
theorem dX0_gave_44 : decode cX0_gave 44 = .ok (.istore 5, 2) := dk_54 5 (dk_at dksX0_gave_1 21 rfl rfl)
theorem dX0_gave_46 : decode cX0_gave 46 = .ok (.sipush 255, 3) := dk_17 0 255 (dk_at dksX0_gave_2 0 rfl rfl)
theorem dX0_gave_49 : decode cX0_gave 49 = .ok (.istore 6, 2) := dk_54 6 (dk_at dksX0_gave_2 3 rfl rfl)
theorem dX0_gave_51 : decode cX0_gave 51 = .ok (.iload 6, 2) := dk_21 6 (dk_at dksX0_gave_2 5 rfl rfl)
theorem dX0_gave_53 : decode cX0_gave 53 = .ok (.ifCond .lt 31, 3) := dk_155 0 31 (dk_at dksX0_gave_2 7 rfl rfl)
theorem dX0_gave_56 : decode cX0_gave 56 = .ok (.aload_n 0, 1) := dk_42 (dk_at dksX0_gave_2 10 rfl rfl)
theorem dX0_gave_57 : decode cX0_gave 57 = .ok (.getfield 15, 3) := dk_180 0 15 (dk_at dksX0_gave_2 11 rfl rfl)
theorem dX0_gave_60 : decode cX0_gave 60 = .ok (.iload_n 1, 1) := dk_27 (dk_at dksX0_gave_2 14 rfl rfl)
theorem dX0_gave_61 : decode cX0_gave 61 = .ok (.iload 6, 2) := dk_21 6 (dk_at dksX0_gave_2 15 rfl rfl)
theorem dX0_gave_63 : decode cX0_gave 63 = .ok (.iastore, 1) := dk_79 (dk_at dksX0_gave_2 17 rfl rfl)
theorem dX0_gave_64 : decode cX0_gave 64 = .ok (.aload_n 0, 1) := dk_42 (dk_at dksX0_gave_2 18 rfl rfl)
theorem dX0_gave_65 : decode cX0_gave 65 = .ok (.invokevirtual 226, 3) := dk_182 0 226 (dk_at dksX0_gave_2 19 rfl rfl)
theorem dX0_gave_68 : decode cX0_gave 68 = .ok (.ifCond .eq 10, 3) := dk_153 0 10 (dk_at dksX0_gave_3 0 rfl rfl)
theorem dX0_gave_71 : decode cX0_gave 71 = .ok (.iinc 4 1, 3) := dk_132 4 1 (dk_at dksX0_gave_3 3 rfl rfl)
theorem dX0_gave_74 : decode cX0_gave 74 = .ok (.iload 6, 2) := dk_21 6 (dk_at dksX0_gave_3 6 rfl rfl)
theorem dX0_gave_76 : decode cX0_gave 76 = .ok (.istore 5, 2) := dk_54 5 (dk_at dksX0_gave_3 8 rfl rfl)
theorem dX0_gave_78 : decode cX0_gave 78 = .ok (.iinc 6 (-1), 3) := dk_132 6 255 (dk_at dksX0_gave_3 10 rfl rfl)
theorem dX0_gave_81 : decode cX0_gave 81 = .ok (.goto (-30), 3) := dk_167 255 226 (dk_at dksX0_gave_3 13 rfl rfl)
theorem dX0_gave_84 : decode cX0_gave 84 = .ok (.aload_n 0, 1) := dk_42 (dk_at dksX0_gave_3 16 rfl rfl)
theorem dX0_gave_85 : decode cX0_gave 85 = .ok (.getfield 15, 3) := dk_180 0 15 (dk_at dksX0_gave_3 17 rfl rfl)
theorem dX0_gave_88 : decode cX0_gave 88 = .ok (.iload_n 1, 1) := dk_27 (dk_at dksX0_gave_3 20 rfl rfl)
theorem dX0_gave_89 : decode cX0_gave 89 = .ok (.iload_n 3, 1) := dk_29 (dk_at dksX0_gave_3 21 rfl rfl)
theorem dX0_gave_90 : decode cX0_gave 90 = .ok (.iastore, 1) := dk_79 (dk_at dksX0_gave_3 22 rfl rfl)
theorem dX0_gave_91 : decode cX0_gave 91 = .ok (.iload_n 2, 1) := dk_28 (dk_at dksX0_gave_3 23 rfl rfl)
theorem dX0_gave_92 : decode cX0_gave 92 = .ok (.ifCond .ne 8, 3) := dk_154 0 8 (dk_at dksX0_gave_4 0 rfl rfl)
theorem dX0_gave_95 : decode cX0_gave 95 = .ok (.iload 4, 2) := dk_21 4 (dk_at dksX0_gave_4 3 rfl rfl)
theorem dX0_gave_97 : decode cX0_gave 97 = .ok (.goto 5, 3) := dk_167 0 5 (dk_at dksX0_gave_4 5 rfl rfl)
theorem dX0_gave_100 : decode cX0_gave 100 = .ok (.iload 5, 2) := dk_21 5 (dk_at dksX0_gave_4 8 rfl rfl)
theorem dX0_gave_102 : decode cX0_gave 102 = .ok (.ireturn, 1) := dk_172 (dk_at dksX0_gave_4 10 rfl rfl)
abbrev cX0_odds : ByteArray := prog_1_method_44_code
def yX0_odds : MethodName := ⟨RX0, "odds", "(IIII)J"⟩
def dkwX0_odds_6 : List UInt8 := [21, 7, 133, 21, 6, 133, 184, 0, 233, 109, 173]
abbrev dktX0_odds_6 : List UInt8 := dkwX0_odds_6 ++ []
def dkwX0_odds_5 : List UInt8 := [167, 255, 205, 42, 180, 0, 15, 27, 21, 5, 79, 21, 4, 154, 0, 8, 21, 6, 167, 0, 5, 21, 7, 133]
abbrev dktX0_odds_5 : List UInt8 := dkwX0_odds_5 ++ dktX0_odds_6
def dkwX0_odds_4 : List UInt8 := [28, 29, 182, 0, 199, 153, 0, 7, 4, 167, 0, 4, 3, 96, 54, 6, 132, 7, 1, 132, 8, 1]
abbrev dktX0_odds_4 : List UInt8 := dkwX0_odds_4 ++ dktX0_odds_5
def dkwX0_odds_3 : List UInt8 := [162, 0, 49, 21, 8, 21, 5, 2, 130, 126, 154, 0, 33, 42, 180, 0, 15, 27, 21, 8, 79, 21, 6, 42]
abbrev dktX0_odds_3 : List UInt8 := dkwX0_odds_3 ++ dktX0_odds_4
def dkwX0_odds_2 : List UInt8 := [173, 42, 180, 0, 15, 27, 46, 54, 5, 3, 54, 6, 3, 54, 7, 3, 54, 8, 21, 8, 17, 1, 0]
abbrev dktX0_odds_2 : List UInt8 := dkwX0_odds_2 ++ dktX0_odds_3
def dkwX0_odds_1 : List UInt8 := [153, 0, 21, 21, 4, 133, 9, 10, 184, 0, 58, 153, 0, 10, 42, 182, 0, 133, 153, 0, 7, 20, 0, 237]
abbrev dktX0_odds_1 : List UInt8 := dkwX0_odds_1 ++ dktX0_odds_2
def dkwX0_odds_0 : List UInt8 := [27, 133, 10, 20, 0, 64, 184, 0, 58, 153, 0, 35, 28, 184, 0, 128, 153, 0, 28, 29, 184, 0, 128]
abbrev dktX0_odds_0 : List UInt8 := dkwX0_odds_0 ++ dktX0_odds_1
theorem dksX0_odds_0 : cX0_odds.data.toList.drop 0 = dktX0_odds_0 := by decide +kernel
theorem dksX0_odds_1 : cX0_odds.data.toList.drop 23 = dktX0_odds_1 := dk_seg dksX0_odds_0 23 rfl rfl
theorem dksX0_odds_2 : cX0_odds.data.toList.drop 47 = dktX0_odds_2 := dk_seg dksX0_odds_1 24 rfl rfl
theorem dksX0_odds_3 : cX0_odds.data.toList.drop 70 = dktX0_odds_3 := dk_seg dksX0_odds_2 23 rfl rfl
theorem dksX0_odds_4 : cX0_odds.data.toList.drop 94 = dktX0_odds_4 := dk_seg dksX0_odds_3 24 rfl rfl
theorem dksX0_odds_5 : cX0_odds.data.toList.drop 116 = dktX0_odds_5 := dk_seg dksX0_odds_4 22 rfl rfl
theorem dksX0_odds_6 : cX0_odds.data.toList.drop 140 = dktX0_odds_6 := dk_seg dksX0_odds_5 24 rfl rfl
theorem dX0_odds_0 : decode cX0_odds 0 = .ok (.iload_n 1, 1) := dk_27 (dk_at dksX0_odds_0 0 rfl rfl)
theorem dX0_odds_1 : decode cX0_odds 1 = .ok (.i2l, 1) := dk_133 (dk_at dksX0_odds_0 1 rfl rfl)
theorem dX0_odds_2 : decode cX0_odds 2 = .ok (.lconst 1, 1) := dk_10 (dk_at dksX0_odds_0 2 rfl rfl)
theorem dX0_odds_3 : decode cX0_odds 3 = .ok (.ldc2_w 64, 3) := dk_20 0 64 (dk_at dksX0_odds_0 3 rfl rfl)
theorem dX0_odds_6 : decode cX0_odds 6 = .ok (.invokestatic 58, 3) := dk_184 0 58 (dk_at dksX0_odds_0 6 rfl rfl)
theorem dX0_odds_9 : decode cX0_odds 9 = .ok (.ifCond .eq 35, 3) := dk_153 0 35 (dk_at dksX0_odds_0 9 rfl rfl)
theorem dX0_odds_12 : decode cX0_odds 12 = .ok (.iload_n 2, 1) := dk_28 (dk_at dksX0_odds_0 12 rfl rfl)
theorem dX0_odds_13 : decode cX0_odds 13 = .ok (.invokestatic 128, 3) := dk_184 0 128 (dk_at dksX0_odds_0 13 rfl rfl)
theorem dX0_odds_16 : decode cX0_odds 16 = .ok (.ifCond .eq 28, 3) := dk_153 0 28 (dk_at dksX0_odds_0 16 rfl rfl)
theorem dX0_odds_19 : decode cX0_odds 19 = .ok (.iload_n 3, 1) := dk_29 (dk_at dksX0_odds_0 19 rfl rfl)
theorem dX0_odds_20 : decode cX0_odds 20 = .ok (.invokestatic 128, 3) := dk_184 0 128 (dk_at dksX0_odds_0 20 rfl rfl)
theorem dX0_odds_23 : decode cX0_odds 23 = .ok (.ifCond .eq 21, 3) := dk_153 0 21 (dk_at dksX0_odds_1 0 rfl rfl)
theorem dX0_odds_26 : decode cX0_odds 26 = .ok (.iload 4, 2) := dk_21 4 (dk_at dksX0_odds_1 3 rfl rfl)
theorem dX0_odds_28 : decode cX0_odds 28 = .ok (.i2l, 1) := dk_133 (dk_at dksX0_odds_1 5 rfl rfl)
theorem dX0_odds_29 : decode cX0_odds 29 = .ok (.lconst 0, 1) := dk_9 (dk_at dksX0_odds_1 6 rfl rfl)
theorem dX0_odds_30 : decode cX0_odds 30 = .ok (.lconst 1, 1) := dk_10 (dk_at dksX0_odds_1 7 rfl rfl)
theorem dX0_odds_31 : decode cX0_odds 31 = .ok (.invokestatic 58, 3) := dk_184 0 58 (dk_at dksX0_odds_1 8 rfl rfl)
theorem dX0_odds_34 : decode cX0_odds 34 = .ok (.ifCond .eq 10, 3) := dk_153 0 10 (dk_at dksX0_odds_1 11 rfl rfl)
theorem dX0_odds_37 : decode cX0_odds 37 = .ok (.aload_n 0, 1) := dk_42 (dk_at dksX0_odds_1 14 rfl rfl)
theorem dX0_odds_38 : decode cX0_odds 38 = .ok (.invokevirtual 133, 3) := dk_182 0 133 (dk_at dksX0_odds_1 15 rfl rfl)
theorem dX0_odds_41 : decode cX0_odds 41 = .ok (.ifCond .eq 7, 3) := dk_153 0 7 (dk_at dksX0_odds_1 18 rfl rfl)
theorem dX0_odds_44 : decode cX0_odds 44 = .ok (.ldc2_w 237, 3) := dk_20 0 237 (dk_at dksX0_odds_1 21 rfl rfl)
theorem dX0_odds_47 : decode cX0_odds 47 = .ok (.lreturn, 1) := dk_173 (dk_at dksX0_odds_2 0 rfl rfl)
theorem dX0_odds_48 : decode cX0_odds 48 = .ok (.aload_n 0, 1) := dk_42 (dk_at dksX0_odds_2 1 rfl rfl)
theorem dX0_odds_49 : decode cX0_odds 49 = .ok (.getfield 15, 3) := dk_180 0 15 (dk_at dksX0_odds_2 2 rfl rfl)
theorem dX0_odds_52 : decode cX0_odds 52 = .ok (.iload_n 1, 1) := dk_27 (dk_at dksX0_odds_2 5 rfl rfl)
theorem dX0_odds_53 : decode cX0_odds 53 = .ok (.iaload, 1) := dk_46 (dk_at dksX0_odds_2 6 rfl rfl)
theorem dX0_odds_54 : decode cX0_odds 54 = .ok (.istore 5, 2) := dk_54 5 (dk_at dksX0_odds_2 7 rfl rfl)
theorem dX0_odds_56 : decode cX0_odds 56 = .ok (.iconst 0, 1) := dk_3 (dk_at dksX0_odds_2 9 rfl rfl)
theorem dX0_odds_57 : decode cX0_odds 57 = .ok (.istore 6, 2) := dk_54 6 (dk_at dksX0_odds_2 10 rfl rfl)
theorem dX0_odds_59 : decode cX0_odds 59 = .ok (.iconst 0, 1) := dk_3 (dk_at dksX0_odds_2 12 rfl rfl)
theorem dX0_odds_60 : decode cX0_odds 60 = .ok (.istore 7, 2) := dk_54 7 (dk_at dksX0_odds_2 13 rfl rfl)
theorem dX0_odds_62 : decode cX0_odds 62 = .ok (.iconst 0, 1) := dk_3 (dk_at dksX0_odds_2 15 rfl rfl)
theorem dX0_odds_63 : decode cX0_odds 63 = .ok (.istore 8, 2) := dk_54 8 (dk_at dksX0_odds_2 16 rfl rfl)
theorem dX0_odds_65 : decode cX0_odds 65 = .ok (.iload 8, 2) := dk_21 8 (dk_at dksX0_odds_2 18 rfl rfl)
theorem dX0_odds_67 : decode cX0_odds 67 = .ok (.sipush 256, 3) := dk_17 1 0 (dk_at dksX0_odds_2 20 rfl rfl)
theorem dX0_odds_70 : decode cX0_odds 70 = .ok (.if_icmp .ge 49, 3) := dk_162 0 49 (dk_at dksX0_odds_3 0 rfl rfl)
theorem dX0_odds_73 : decode cX0_odds 73 = .ok (.iload 8, 2) := dk_21 8 (dk_at dksX0_odds_3 3 rfl rfl)
theorem dX0_odds_75 : decode cX0_odds 75 = .ok (.iload 5, 2) := dk_21 5 (dk_at dksX0_odds_3 5 rfl rfl)
theorem dX0_odds_77 : decode cX0_odds 77 = .ok (.iconst (-1), 1) := dk_2 (dk_at dksX0_odds_3 7 rfl rfl)
theorem dX0_odds_78 : decode cX0_odds 78 = .ok (.ixor, 1) := dk_130 (dk_at dksX0_odds_3 8 rfl rfl)
theorem dX0_odds_79 : decode cX0_odds 79 = .ok (.iand, 1) := dk_126 (dk_at dksX0_odds_3 9 rfl rfl)
theorem dX0_odds_80 : decode cX0_odds 80 = .ok (.ifCond .ne 33, 3) := dk_154 0 33 (dk_at dksX0_odds_3 10 rfl rfl)
theorem dX0_odds_83 : decode cX0_odds 83 = .ok (.aload_n 0, 1) := dk_42 (dk_at dksX0_odds_3 13 rfl rfl)
theorem dX0_odds_84 : decode cX0_odds 84 = .ok (.getfield 15, 3) := dk_180 0 15 (dk_at dksX0_odds_3 14 rfl rfl)
theorem dX0_odds_87 : decode cX0_odds 87 = .ok (.iload_n 1, 1) := dk_27 (dk_at dksX0_odds_3 17 rfl rfl)
theorem dX0_odds_88 : decode cX0_odds 88 = .ok (.iload 8, 2) := dk_21 8 (dk_at dksX0_odds_3 18 rfl rfl)
theorem dX0_odds_90 : decode cX0_odds 90 = .ok (.iastore, 1) := dk_79 (dk_at dksX0_odds_3 20 rfl rfl)
theorem dX0_odds_91 : decode cX0_odds 91 = .ok (.iload 6, 2) := dk_21 6 (dk_at dksX0_odds_3 21 rfl rfl)
theorem dX0_odds_93 : decode cX0_odds 93 = .ok (.aload_n 0, 1) := dk_42 (dk_at dksX0_odds_3 23 rfl rfl)
theorem dX0_odds_94 : decode cX0_odds 94 = .ok (.iload_n 2, 1) := dk_28 (dk_at dksX0_odds_4 0 rfl rfl)
theorem dX0_odds_95 : decode cX0_odds 95 = .ok (.iload_n 3, 1) := dk_29 (dk_at dksX0_odds_4 1 rfl rfl)
theorem dX0_odds_96 : decode cX0_odds 96 = .ok (.invokevirtual 199, 3) := dk_182 0 199 (dk_at dksX0_odds_4 2 rfl rfl)
theorem dX0_odds_99 : decode cX0_odds 99 = .ok (.ifCond .eq 7, 3) := dk_153 0 7 (dk_at dksX0_odds_4 5 rfl rfl)
theorem dX0_odds_102 : decode cX0_odds 102 = .ok (.iconst 1, 1) := dk_4 (dk_at dksX0_odds_4 8 rfl rfl)
theorem dX0_odds_103 : decode cX0_odds 103 = .ok (.goto 4, 3) := dk_167 0 4 (dk_at dksX0_odds_4 9 rfl rfl)
theorem dX0_odds_106 : decode cX0_odds 106 = .ok (.iconst 0, 1) := dk_3 (dk_at dksX0_odds_4 12 rfl rfl)
theorem dX0_odds_107 : decode cX0_odds 107 = .ok (.iadd, 1) := dk_96 (dk_at dksX0_odds_4 13 rfl rfl)
theorem dX0_odds_108 : decode cX0_odds 108 = .ok (.istore 6, 2) := dk_54 6 (dk_at dksX0_odds_4 14 rfl rfl)
theorem dX0_odds_110 : decode cX0_odds 110 = .ok (.iinc 7 1, 3) := dk_132 7 1 (dk_at dksX0_odds_4 16 rfl rfl)
theorem dX0_odds_113 : decode cX0_odds 113 = .ok (.iinc 8 1, 3) := dk_132 8 1 (dk_at dksX0_odds_4 19 rfl rfl)
theorem dX0_odds_116 : decode cX0_odds 116 = .ok (.goto (-51), 3) := dk_167 255 205 (dk_at dksX0_odds_5 0 rfl rfl)
theorem dX0_odds_119 : decode cX0_odds 119 = .ok (.aload_n 0, 1) := dk_42 (dk_at dksX0_odds_5 3 rfl rfl)
theorem dX0_odds_120 : decode cX0_odds 120 = .ok (.getfield 15, 3) := dk_180 0 15 (dk_at dksX0_odds_5 4 rfl rfl)
theorem dX0_odds_123 : decode cX0_odds 123 = .ok (.iload_n 1, 1) := dk_27 (dk_at dksX0_odds_5 7 rfl rfl)
theorem dX0_odds_124 : decode cX0_odds 124 = .ok (.iload 5, 2) := dk_21 5 (dk_at dksX0_odds_5 8 rfl rfl)
theorem dX0_odds_126 : decode cX0_odds 126 = .ok (.iastore, 1) := dk_79 (dk_at dksX0_odds_5 10 rfl rfl)
theorem dX0_odds_127 : decode cX0_odds 127 = .ok (.iload 4, 2) := dk_21 4 (dk_at dksX0_odds_5 11 rfl rfl)
theorem dX0_odds_129 : decode cX0_odds 129 = .ok (.ifCond .ne 8, 3) := dk_154 0 8 (dk_at dksX0_odds_5 13 rfl rfl)
theorem dX0_odds_132 : decode cX0_odds 132 = .ok (.iload 6, 2) := dk_21 6 (dk_at dksX0_odds_5 16 rfl rfl)
theorem dX0_odds_134 : decode cX0_odds 134 = .ok (.goto 5, 3) := dk_167 0 5 (dk_at dksX0_odds_5 18 rfl rfl)
theorem dX0_odds_137 : decode cX0_odds 137 = .ok (.iload 7, 2) := dk_21 7 (dk_at dksX0_odds_5 21 rfl rfl)
theorem dX0_odds_139 : decode cX0_odds 139 = .ok (.i2l, 1) := dk_133 (dk_at dksX0_odds_5 23 rfl rfl)
theorem dX0_odds_140 : decode cX0_odds 140 = .ok (.iload 7, 2) := dk_21 7 (dk_at dksX0_odds_6 0 rfl rfl)
theorem dX0_odds_142 : decode cX0_odds 142 = .ok (.i2l, 1) := dk_133 (dk_at dksX0_odds_6 2 rfl rfl)
theorem dX0_odds_143 : decode cX0_odds 143 = .ok (.iload 6, 2) := dk_21 6 (dk_at dksX0_odds_6 3 rfl rfl)
theorem dX0_odds_145 : decode cX0_odds 145 = .ok (.i2l, 1) := dk_133 (dk_at dksX0_odds_6 5 rfl rfl)
theorem dX0_odds_146 : decode cX0_odds 146 = .ok (.invokestatic 233, 3) := dk_184 0 233 (dk_at dksX0_odds_6 6 rfl rfl)
theorem dX0_odds_149 : decode cX0_odds 149 = .ok (.ldiv, 1) := dk_109 (dk_at dksX0_odds_6 9 rfl rfl)
theorem dX0_odds_150 : decode cX0_odds 150 = .ok (.lreturn, 1) := dk_173 (dk_at dksX0_odds_6 10 rfl rfl)
abbrev cX0_greatest : ByteArray := prog_1_method_43_code
def yX0_greatest : MethodName := ⟨RX0, "greatest", "(JJ)J"⟩
def dkwX0_greatest_0 : List UInt8 := [32, 9, 148, 154, 0, 7, 30, 167, 0, 10, 32, 30, 32, 113, 184, 0, 233, 173]
abbrev dktX0_greatest_0 : List UInt8 := dkwX0_greatest_0 ++ []
theorem dksX0_greatest_0 : cX0_greatest.data.toList.drop 0 = dktX0_greatest_0 := by decide +kernel
theorem dX0_greatest_0 : decode cX0_greatest 0 = .ok (.lload_n 2, 1) := dk_32 (dk_at dksX0_greatest_0 0 rfl rfl)
theorem dX0_greatest_1 : decode cX0_greatest 1 = .ok (.lconst 0, 1) := dk_9 (dk_at dksX0_greatest_0 1 rfl rfl)
theorem dX0_greatest_2 : decode cX0_greatest 2 = .ok (.lcmp, 1) := dk_148 (dk_at dksX0_greatest_0 2 rfl rfl)
theorem dX0_greatest_3 : decode cX0_greatest 3 = .ok (.ifCond .ne 7, 3) := dk_154 0 7 (dk_at dksX0_greatest_0 3 rfl rfl)
theorem dX0_greatest_6 : decode cX0_greatest 6 = .ok (.lload_n 0, 1) := dk_30 (dk_at dksX0_greatest_0 6 rfl rfl)
theorem dX0_greatest_7 : decode cX0_greatest 7 = .ok (.goto 10, 3) := dk_167 0 10 (dk_at dksX0_greatest_0 7 rfl rfl)
theorem dX0_greatest_10 : decode cX0_greatest 10 = .ok (.lload_n 2, 1) := dk_32 (dk_at dksX0_greatest_0 10 rfl rfl)
theorem dX0_greatest_11 : decode cX0_greatest 11 = .ok (.lload_n 0, 1) := dk_30 (dk_at dksX0_greatest_0 11 rfl rfl)
theorem dX0_greatest_12 : decode cX0_greatest 12 = .ok (.lload_n 2, 1) := dk_32 (dk_at dksX0_greatest_0 12 rfl rfl)
theorem dX0_greatest_13 : decode cX0_greatest 13 = .ok (.lrem, 1) := dk_113 (dk_at dksX0_greatest_0 13 rfl rfl)
theorem dX0_greatest_14 : decode cX0_greatest 14 = .ok (.invokestatic 233, 3) := dk_184 0 233 (dk_at dksX0_greatest_0 14 rfl rfl)
theorem dX0_greatest_17 : decode cX0_greatest 17 = .ok (.lreturn, 1) := dk_173 (dk_at dksX0_greatest_0 17 rfl rfl)
abbrev cX0_sheet : ByteArray := prog_1_method_54_code
def yX0_sheet : MethodName := ⟨RX0, "sheet", "(III)I"⟩
def dkwX0_sheet_3 : List UInt8 := [182, 1, 12, 172]
abbrev dktX0_sheet_3 : List UInt8 := dkwX0_sheet_3 ++ []
def dkwX0_sheet_2 : List UInt8 := [180, 0, 33, 27, 187, 0, 31, 89, 28, 29, 184, 1, 3, 183, 1, 7, 83, 4, 172, 58, 4, 42, 7]
abbrev dktX0_sheet_2 : List UInt8 := dkwX0_sheet_2 ++ dktX0_sheet_3
def dkwX0_sheet_1 : List UInt8 := [153, 0, 9, 29, 16, 60, 164, 0, 10, 42, 16, 254, 182, 1, 0, 172, 42, 3, 181, 0, 239, 42]
abbrev dktX0_sheet_1 : List UInt8 := dkwX0_sheet_1 ++ dktX0_sheet_2
def dkwX0_sheet_0 : List UInt8 := [27, 184, 0, 253, 153, 0, 9, 42, 2, 182, 1, 0, 172, 28, 133, 9, 20, 0, 64, 184, 0, 58]
abbrev dktX0_sheet_0 : List UInt8 := dkwX0_sheet_0 ++ dktX0_sheet_1
theorem dksX0_sheet_0 : cX0_sheet.data.toList.drop 0 = dktX0_sheet_0 := by decide +kernel
theorem dksX0_sheet_1 : cX0_sheet.data.toList.drop 22 = dktX0_sheet_1 := dk_seg dksX0_sheet_0 22 rfl rfl
theorem dksX0_sheet_2 : cX0_sheet.data.toList.drop 44 = dktX0_sheet_2 := dk_seg dksX0_sheet_1 22 rfl rfl
theorem dksX0_sheet_3 : cX0_sheet.data.toList.drop 67 = dktX0_sheet_3 := dk_seg dksX0_sheet_2 23 rfl rfl
theorem dX0_sheet_0 : decode cX0_sheet 0 = .ok (.iload_n 1, 1) := dk_27 (dk_at dksX0_sheet_0 0 rfl rfl)
theorem dX0_sheet_1 : decode cX0_sheet 1 = .ok (.invokestatic 253, 3) := dk_184 0 253 (dk_at dksX0_sheet_0 1 rfl rfl)
theorem dX0_sheet_4 : decode cX0_sheet 4 = .ok (.ifCond .eq 9, 3) := dk_153 0 9 (dk_at dksX0_sheet_0 4 rfl rfl)
theorem dX0_sheet_7 : decode cX0_sheet 7 = .ok (.aload_n 0, 1) := dk_42 (dk_at dksX0_sheet_0 7 rfl rfl)
theorem dX0_sheet_8 : decode cX0_sheet 8 = .ok (.iconst (-1), 1) := dk_2 (dk_at dksX0_sheet_0 8 rfl rfl)
theorem dX0_sheet_9 : decode cX0_sheet 9 = .ok (.invokevirtual 256, 3) := dk_182 1 0 (dk_at dksX0_sheet_0 9 rfl rfl)
theorem dX0_sheet_12 : decode cX0_sheet 12 = .ok (.ireturn, 1) := dk_172 (dk_at dksX0_sheet_0 12 rfl rfl)
theorem dX0_sheet_13 : decode cX0_sheet 13 = .ok (.iload_n 2, 1) := dk_28 (dk_at dksX0_sheet_0 13 rfl rfl)
theorem dX0_sheet_14 : decode cX0_sheet 14 = .ok (.i2l, 1) := dk_133 (dk_at dksX0_sheet_0 14 rfl rfl)
theorem dX0_sheet_15 : decode cX0_sheet 15 = .ok (.lconst 0, 1) := dk_9 (dk_at dksX0_sheet_0 15 rfl rfl)
theorem dX0_sheet_16 : decode cX0_sheet 16 = .ok (.ldc2_w 64, 3) := dk_20 0 64 (dk_at dksX0_sheet_0 16 rfl rfl)
theorem dX0_sheet_19 : decode cX0_sheet 19 = .ok (.invokestatic 58, 3) := dk_184 0 58 (dk_at dksX0_sheet_0 19 rfl rfl)
theorem dX0_sheet_22 : decode cX0_sheet 22 = .ok (.ifCond .eq 9, 3) := dk_153 0 9 (dk_at dksX0_sheet_1 0 rfl rfl)
theorem dX0_sheet_25 : decode cX0_sheet 25 = .ok (.iload_n 3, 1) := dk_29 (dk_at dksX0_sheet_1 3 rfl rfl)
theorem dX0_sheet_26 : decode cX0_sheet 26 = .ok (.bipush 60, 2) := dk_16 60 (dk_at dksX0_sheet_1 4 rfl rfl)
theorem dX0_sheet_28 : decode cX0_sheet 28 = .ok (.if_icmp .le 10, 3) := dk_164 0 10 (dk_at dksX0_sheet_1 6 rfl rfl)
theorem dX0_sheet_31 : decode cX0_sheet 31 = .ok (.aload_n 0, 1) := dk_42 (dk_at dksX0_sheet_1 9 rfl rfl)
theorem dX0_sheet_32 : decode cX0_sheet 32 = .ok (.bipush (-2), 2) := dk_16 254 (dk_at dksX0_sheet_1 10 rfl rfl)
theorem dX0_sheet_34 : decode cX0_sheet 34 = .ok (.invokevirtual 256, 3) := dk_182 1 0 (dk_at dksX0_sheet_1 12 rfl rfl)
theorem dX0_sheet_37 : decode cX0_sheet 37 = .ok (.ireturn, 1) := dk_172 (dk_at dksX0_sheet_1 15 rfl rfl)
theorem dX0_sheet_38 : decode cX0_sheet 38 = .ok (.aload_n 0, 1) := dk_42 (dk_at dksX0_sheet_1 16 rfl rfl)
theorem dX0_sheet_39 : decode cX0_sheet 39 = .ok (.iconst 0, 1) := dk_3 (dk_at dksX0_sheet_1 17 rfl rfl)
theorem dX0_sheet_40 : decode cX0_sheet 40 = .ok (.putfield 239, 3) := dk_181 0 239 (dk_at dksX0_sheet_1 18 rfl rfl)
theorem dX0_sheet_43 : decode cX0_sheet 43 = .ok (.aload_n 0, 1) := dk_42 (dk_at dksX0_sheet_1 21 rfl rfl)
theorem dX0_sheet_44 : decode cX0_sheet 44 = .ok (.getfield 33, 3) := dk_180 0 33 (dk_at dksX0_sheet_2 0 rfl rfl)
theorem dX0_sheet_47 : decode cX0_sheet 47 = .ok (.iload_n 1, 1) := dk_27 (dk_at dksX0_sheet_2 3 rfl rfl)
theorem dX0_sheet_48 : decode cX0_sheet 48 = .ok (.new 31, 3) := dk_187 0 31 (dk_at dksX0_sheet_2 4 rfl rfl)
theorem dX0_sheet_51 : decode cX0_sheet 51 = .ok (.dup, 1) := dk_89 (dk_at dksX0_sheet_2 7 rfl rfl)
theorem dX0_sheet_52 : decode cX0_sheet 52 = .ok (.iload_n 2, 1) := dk_28 (dk_at dksX0_sheet_2 8 rfl rfl)
theorem dX0_sheet_53 : decode cX0_sheet 53 = .ok (.iload_n 3, 1) := dk_29 (dk_at dksX0_sheet_2 9 rfl rfl)
theorem dX0_sheet_54 : decode cX0_sheet 54 = .ok (.invokestatic 259, 3) := dk_184 1 3 (dk_at dksX0_sheet_2 10 rfl rfl)
theorem dX0_sheet_57 : decode cX0_sheet 57 = .ok (.invokespecial 263, 3) := dk_183 1 7 (dk_at dksX0_sheet_2 13 rfl rfl)
theorem dX0_sheet_60 : decode cX0_sheet 60 = .ok (.aastore, 1) := dk_83 (dk_at dksX0_sheet_2 16 rfl rfl)
theorem dX0_sheet_61 : decode cX0_sheet 61 = .ok (.iconst 1, 1) := dk_4 (dk_at dksX0_sheet_2 17 rfl rfl)
theorem dX0_sheet_62 : decode cX0_sheet 62 = .ok (.ireturn, 1) := dk_172 (dk_at dksX0_sheet_2 18 rfl rfl)
theorem dX0_sheet_63 : decode cX0_sheet 63 = .ok (.astore 4, 2) := dk_58 4 (dk_at dksX0_sheet_2 19 rfl rfl)
theorem dX0_sheet_65 : decode cX0_sheet 65 = .ok (.aload_n 0, 1) := dk_42 (dk_at dksX0_sheet_2 21 rfl rfl)
theorem dX0_sheet_66 : decode cX0_sheet 66 = .ok (.iconst 4, 1) := dk_7 (dk_at dksX0_sheet_2 22 rfl rfl)
theorem dX0_sheet_67 : decode cX0_sheet 67 = .ok (.invokevirtual 268, 3) := dk_182 1 12 (dk_at dksX0_sheet_3 0 rfl rfl)
theorem dX0_sheet_70 : decode cX0_sheet 70 = .ok (.ireturn, 1) := dk_172 (dk_at dksX0_sheet_3 3 rfl rfl)
abbrev cX0_noSheet : ByteArray := prog_1_method_52_code
def yX0_noSheet : MethodName := ⟨RX0, "noSheet", "(I)Z"⟩
def dkwX0_noSheet_0 : List UInt8 := [26, 133, 9, 20, 0, 247, 184, 0, 58, 154, 0, 7, 4, 167, 0, 4, 3, 172]
abbrev dktX0_noSheet_0 : List UInt8 := dkwX0_noSheet_0 ++ []
theorem dksX0_noSheet_0 : cX0_noSheet.data.toList.drop 0 = dktX0_noSheet_0 := by decide +kernel
theorem dX0_noSheet_0 : decode cX0_noSheet 0 = .ok (.iload_n 0, 1) := dk_26 (dk_at dksX0_noSheet_0 0 rfl rfl)
theorem dX0_noSheet_1 : decode cX0_noSheet 1 = .ok (.i2l, 1) := dk_133 (dk_at dksX0_noSheet_0 1 rfl rfl)
theorem dX0_noSheet_2 : decode cX0_noSheet 2 = .ok (.lconst 0, 1) := dk_9 (dk_at dksX0_noSheet_0 2 rfl rfl)
theorem dX0_noSheet_3 : decode cX0_noSheet 3 = .ok (.ldc2_w 247, 3) := dk_20 0 247 (dk_at dksX0_noSheet_0 3 rfl rfl)
theorem dX0_noSheet_6 : decode cX0_noSheet 6 = .ok (.invokestatic 58, 3) := dk_184 0 58 (dk_at dksX0_noSheet_0 6 rfl rfl)
theorem dX0_noSheet_9 : decode cX0_noSheet 9 = .ok (.ifCond .ne 7, 3) := dk_154 0 7 (dk_at dksX0_noSheet_0 9 rfl rfl)
theorem dX0_noSheet_12 : decode cX0_noSheet 12 = .ok (.iconst 1, 1) := dk_4 (dk_at dksX0_noSheet_0 12 rfl rfl)
theorem dX0_noSheet_13 : decode cX0_noSheet 13 = .ok (.goto 4, 3) := dk_167 0 4 (dk_at dksX0_noSheet_0 13 rfl rfl)
theorem dX0_noSheet_16 : decode cX0_noSheet 16 = .ok (.iconst 0, 1) := dk_3 (dk_at dksX0_noSheet_0 16 rfl rfl)
theorem dX0_noSheet_17 : decode cX0_noSheet 17 = .ok (.ireturn, 1) := dk_172 (dk_at dksX0_noSheet_0 17 rfl rfl)
abbrev cX0_refused : ByteArray := prog_1_method_45_code
def yX0_refused : MethodName := ⟨RX0, "refused", "(I)I"⟩
def dkwX0_refused_0 : List UInt8 := [42, 3, 181, 0, 239, 27, 172]
abbrev dktX0_refused_0 : List UInt8 := dkwX0_refused_0 ++ []
theorem dksX0_refused_0 : cX0_refused.data.toList.drop 0 = dktX0_refused_0 := by decide +kernel
theorem dX0_refused_0 : decode cX0_refused 0 = .ok (.aload_n 0, 1) := dk_42 (dk_at dksX0_refused_0 0 rfl rfl)
theorem dX0_refused_1 : decode cX0_refused 1 = .ok (.iconst 0, 1) := dk_3 (dk_at dksX0_refused_0 1 rfl rfl)
theorem dX0_refused_2 : decode cX0_refused 2 = .ok (.putfield 239, 3) := dk_181 0 239 (dk_at dksX0_refused_0 2 rfl rfl)
theorem dX0_refused_5 : decode cX0_refused 5 = .ok (.iload_n 1, 1) := dk_27 (dk_at dksX0_refused_0 5 rfl rfl)
theorem dX0_refused_6 : decode cX0_refused 6 = .ok (.ireturn, 1) := dk_172 (dk_at dksX0_refused_0 6 rfl rfl)
abbrev cX0_rowOf : ByteArray := prog_1_method_48_code
def yX0_rowOf : MethodName := ⟨RX0, "rowOf", "(II)Ljava/lang/Object;"⟩
def dkwX0_rowOf_1 : List UInt8 := [176]
abbrev dktX0_rowOf_1 : List UInt8 := dkwX0_rowOf_1 ++ []
def dkwX0_rowOf_0 : List UInt8 := [26, 154, 0, 9, 27, 188, 8, 167, 0, 17, 26, 4, 160, 0, 9, 27, 188, 9, 167, 0, 6, 27, 188, 10]
abbrev dktX0_rowOf_0 : List UInt8 := dkwX0_rowOf_0 ++ dktX0_rowOf_1
theorem dksX0_rowOf_0 : cX0_rowOf.data.toList.drop 0 = dktX0_rowOf_0 := by decide +kernel
theorem dksX0_rowOf_1 : cX0_rowOf.data.toList.drop 24 = dktX0_rowOf_1 := dk_seg dksX0_rowOf_0 24 rfl rfl
theorem dX0_rowOf_0 : decode cX0_rowOf 0 = .ok (.iload_n 0, 1) := dk_26 (dk_at dksX0_rowOf_0 0 rfl rfl)
theorem dX0_rowOf_1 : decode cX0_rowOf 1 = .ok (.ifCond .ne 9, 3) := dk_154 0 9 (dk_at dksX0_rowOf_0 1 rfl rfl)
theorem dX0_rowOf_4 : decode cX0_rowOf 4 = .ok (.iload_n 1, 1) := dk_27 (dk_at dksX0_rowOf_0 4 rfl rfl)
theorem dX0_rowOf_5 : decode cX0_rowOf 5 = .ok (.newarray .byte, 2) := dk_188_8 (dk_at dksX0_rowOf_0 5 rfl rfl)
theorem dX0_rowOf_7 : decode cX0_rowOf 7 = .ok (.goto 17, 3) := dk_167 0 17 (dk_at dksX0_rowOf_0 7 rfl rfl)
theorem dX0_rowOf_10 : decode cX0_rowOf 10 = .ok (.iload_n 0, 1) := dk_26 (dk_at dksX0_rowOf_0 10 rfl rfl)
theorem dX0_rowOf_11 : decode cX0_rowOf 11 = .ok (.iconst 1, 1) := dk_4 (dk_at dksX0_rowOf_0 11 rfl rfl)
theorem dX0_rowOf_12 : decode cX0_rowOf 12 = .ok (.if_icmp .ne 9, 3) := dk_160 0 9 (dk_at dksX0_rowOf_0 12 rfl rfl)
theorem dX0_rowOf_15 : decode cX0_rowOf 15 = .ok (.iload_n 1, 1) := dk_27 (dk_at dksX0_rowOf_0 15 rfl rfl)
theorem dX0_rowOf_16 : decode cX0_rowOf 16 = .ok (.newarray .short, 2) := dk_188_9 (dk_at dksX0_rowOf_0 16 rfl rfl)
theorem dX0_rowOf_18 : decode cX0_rowOf 18 = .ok (.goto 6, 3) := dk_167 0 6 (dk_at dksX0_rowOf_0 18 rfl rfl)
theorem dX0_rowOf_21 : decode cX0_rowOf 21 = .ok (.iload_n 1, 1) := dk_27 (dk_at dksX0_rowOf_0 21 rfl rfl)
theorem dX0_rowOf_22 : decode cX0_rowOf 22 = .ok (.newarray .int, 2) := dk_188_10 (dk_at dksX0_rowOf_0 22 rfl rfl)
theorem dX0_rowOf_24 : decode cX0_rowOf 24 = .ok (.areturn, 1) := dk_176 (dk_at dksX0_rowOf_1 0 rfl rfl)
abbrev cX0_fails : ByteArray := prog_1_method_46_code
def yX0_fails : MethodName := ⟨RX0, "fails", "(I)I"⟩
def dkwX0_fails_0 : List UInt8 := [42, 27, 181, 0, 239, 16, 246, 27, 100, 172]
abbrev dktX0_fails_0 : List UInt8 := dkwX0_fails_0 ++ []
theorem dksX0_fails_0 : cX0_fails.data.toList.drop 0 = dktX0_fails_0 := by decide +kernel
theorem dX0_fails_0 : decode cX0_fails 0 = .ok (.aload_n 0, 1) := dk_42 (dk_at dksX0_fails_0 0 rfl rfl)
theorem dX0_fails_1 : decode cX0_fails 1 = .ok (.iload_n 1, 1) := dk_27 (dk_at dksX0_fails_0 1 rfl rfl)
theorem dX0_fails_2 : decode cX0_fails 2 = .ok (.putfield 239, 3) := dk_181 0 239 (dk_at dksX0_fails_0 2 rfl rfl)
theorem dX0_fails_5 : decode cX0_fails 5 = .ok (.bipush (-10), 2) := dk_16 246 (dk_at dksX0_fails_0 5 rfl rfl)
theorem dX0_fails_7 : decode cX0_fails 7 = .ok (.iload_n 1, 1) := dk_27 (dk_at dksX0_fails_0 7 rfl rfl)
theorem dX0_fails_8 : decode cX0_fails 8 = .ok (.isub, 1) := dk_100 (dk_at dksX0_fails_0 8 rfl rfl)
theorem dX0_fails_9 : decode cX0_fails 9 = .ok (.ireturn, 1) := dk_172 (dk_at dksX0_fails_0 9 rfl rfl)
abbrev cX0_lose : ByteArray := prog_1_method_55_code
def yX0_lose : MethodName := ⟨RX0, "lose", "(I)I"⟩
def dkwX0_lose_1 : List UInt8 := [42, 180, 0, 33, 27, 1, 83, 28, 172]
abbrev dktX0_lose_1 : List UInt8 := dkwX0_lose_1 ++ []
def dkwX0_lose_0 : List UInt8 := [27, 184, 0, 253, 153, 0, 5, 2, 172, 42, 180, 0, 33, 27, 50, 199, 0, 7, 3, 167, 0, 4, 4, 61]
abbrev dktX0_lose_0 : List UInt8 := dkwX0_lose_0 ++ dktX0_lose_1
theorem dksX0_lose_0 : cX0_lose.data.toList.drop 0 = dktX0_lose_0 := by decide +kernel
theorem dksX0_lose_1 : cX0_lose.data.toList.drop 24 = dktX0_lose_1 := dk_seg dksX0_lose_0 24 rfl rfl
theorem dX0_lose_0 : decode cX0_lose 0 = .ok (.iload_n 1, 1) := dk_27 (dk_at dksX0_lose_0 0 rfl rfl)
theorem dX0_lose_1 : decode cX0_lose 1 = .ok (.invokestatic 253, 3) := dk_184 0 253 (dk_at dksX0_lose_0 1 rfl rfl)
theorem dX0_lose_4 : decode cX0_lose 4 = .ok (.ifCond .eq 5, 3) := dk_153 0 5 (dk_at dksX0_lose_0 4 rfl rfl)
theorem dX0_lose_7 : decode cX0_lose 7 = .ok (.iconst (-1), 1) := dk_2 (dk_at dksX0_lose_0 7 rfl rfl)
theorem dX0_lose_8 : decode cX0_lose 8 = .ok (.ireturn, 1) := dk_172 (dk_at dksX0_lose_0 8 rfl rfl)
theorem dX0_lose_9 : decode cX0_lose 9 = .ok (.aload_n 0, 1) := dk_42 (dk_at dksX0_lose_0 9 rfl rfl)
theorem dX0_lose_10 : decode cX0_lose 10 = .ok (.getfield 33, 3) := dk_180 0 33 (dk_at dksX0_lose_0 10 rfl rfl)
theorem dX0_lose_13 : decode cX0_lose 13 = .ok (.iload_n 1, 1) := dk_27 (dk_at dksX0_lose_0 13 rfl rfl)
theorem dX0_lose_14 : decode cX0_lose 14 = .ok (.aaload, 1) := dk_50 (dk_at dksX0_lose_0 14 rfl rfl)
theorem dX0_lose_15 : decode cX0_lose 15 = .ok (.ifnonnull 7, 3) := dk_199 0 7 (dk_at dksX0_lose_0 15 rfl rfl)
theorem dX0_lose_18 : decode cX0_lose 18 = .ok (.iconst 0, 1) := dk_3 (dk_at dksX0_lose_0 18 rfl rfl)
theorem dX0_lose_19 : decode cX0_lose 19 = .ok (.goto 4, 3) := dk_167 0 4 (dk_at dksX0_lose_0 19 rfl rfl)
theorem dX0_lose_22 : decode cX0_lose 22 = .ok (.iconst 1, 1) := dk_4 (dk_at dksX0_lose_0 22 rfl rfl)
theorem dX0_lose_23 : decode cX0_lose 23 = .ok (.istore_n 2, 1) := dk_61 (dk_at dksX0_lose_0 23 rfl rfl)
theorem dX0_lose_24 : decode cX0_lose 24 = .ok (.aload_n 0, 1) := dk_42 (dk_at dksX0_lose_1 0 rfl rfl)
theorem dX0_lose_25 : decode cX0_lose 25 = .ok (.getfield 33, 3) := dk_180 0 33 (dk_at dksX0_lose_1 1 rfl rfl)
theorem dX0_lose_28 : decode cX0_lose 28 = .ok (.iload_n 1, 1) := dk_27 (dk_at dksX0_lose_1 4 rfl rfl)
theorem dX0_lose_29 : decode cX0_lose 29 = .ok (.aconst_null, 1) := dk_1 (dk_at dksX0_lose_1 5 rfl rfl)
theorem dX0_lose_30 : decode cX0_lose 30 = .ok (.aastore, 1) := dk_83 (dk_at dksX0_lose_1 6 rfl rfl)
theorem dX0_lose_31 : decode cX0_lose 31 = .ok (.iload_n 2, 1) := dk_28 (dk_at dksX0_lose_1 7 rfl rfl)
theorem dX0_lose_32 : decode cX0_lose 32 = .ok (.ireturn, 1) := dk_172 (dk_at dksX0_lose_1 8 rfl rfl)
abbrev cX0_put : ByteArray := prog_1_method_56_code
def yX0_put : MethodName := ⟨RX0, "put", "(III)I"⟩
def dkwX0_put_2 : List UInt8 := [182, 1, 12, 172]
abbrev dktX0_put_2 : List UInt8 := dkwX0_put_2 ++ []
def dkwX0_put_1 : List UInt8 := [180, 0, 249, 28, 29, 184, 1, 15, 4, 172, 58, 4, 42, 4, 182, 1, 12, 172, 58, 4, 42, 6]
abbrev dktX0_put_1 : List UInt8 := dkwX0_put_1 ++ dktX0_put_2
def dkwX0_put_0 : List UInt8 := [27, 184, 0, 253, 153, 0, 9, 42, 2, 182, 1, 0, 172, 42, 3, 181, 0, 239, 42, 180, 0, 33, 27, 50]
abbrev dktX0_put_0 : List UInt8 := dkwX0_put_0 ++ dktX0_put_1
theorem dksX0_put_0 : cX0_put.data.toList.drop 0 = dktX0_put_0 := by decide +kernel
theorem dksX0_put_1 : cX0_put.data.toList.drop 24 = dktX0_put_1 := dk_seg dksX0_put_0 24 rfl rfl
theorem dksX0_put_2 : cX0_put.data.toList.drop 46 = dktX0_put_2 := dk_seg dksX0_put_1 22 rfl rfl
theorem dX0_put_0 : decode cX0_put 0 = .ok (.iload_n 1, 1) := dk_27 (dk_at dksX0_put_0 0 rfl rfl)
theorem dX0_put_1 : decode cX0_put 1 = .ok (.invokestatic 253, 3) := dk_184 0 253 (dk_at dksX0_put_0 1 rfl rfl)
theorem dX0_put_4 : decode cX0_put 4 = .ok (.ifCond .eq 9, 3) := dk_153 0 9 (dk_at dksX0_put_0 4 rfl rfl)
theorem dX0_put_7 : decode cX0_put 7 = .ok (.aload_n 0, 1) := dk_42 (dk_at dksX0_put_0 7 rfl rfl)
theorem dX0_put_8 : decode cX0_put 8 = .ok (.iconst (-1), 1) := dk_2 (dk_at dksX0_put_0 8 rfl rfl)
theorem dX0_put_9 : decode cX0_put 9 = .ok (.invokevirtual 256, 3) := dk_182 1 0 (dk_at dksX0_put_0 9 rfl rfl)
theorem dX0_put_12 : decode cX0_put 12 = .ok (.ireturn, 1) := dk_172 (dk_at dksX0_put_0 12 rfl rfl)
theorem dX0_put_13 : decode cX0_put 13 = .ok (.aload_n 0, 1) := dk_42 (dk_at dksX0_put_0 13 rfl rfl)
theorem dX0_put_14 : decode cX0_put 14 = .ok (.iconst 0, 1) := dk_3 (dk_at dksX0_put_0 14 rfl rfl)
theorem dX0_put_15 : decode cX0_put 15 = .ok (.putfield 239, 3) := dk_181 0 239 (dk_at dksX0_put_0 15 rfl rfl)
theorem dX0_put_18 : decode cX0_put 18 = .ok (.aload_n 0, 1) := dk_42 (dk_at dksX0_put_0 18 rfl rfl)
theorem dX0_put_19 : decode cX0_put 19 = .ok (.getfield 33, 3) := dk_180 0 33 (dk_at dksX0_put_0 19 rfl rfl)
theorem dX0_put_22 : decode cX0_put 22 = .ok (.iload_n 1, 1) := dk_27 (dk_at dksX0_put_0 22 rfl rfl)
theorem dX0_put_23 : decode cX0_put 23 = .ok (.aaload, 1) := dk_50 (dk_at dksX0_put_0 23 rfl rfl)
theorem dX0_put_24 : decode cX0_put 24 = .ok (.getfield 249, 3) := dk_180 0 249 (dk_at dksX0_put_1 0 rfl rfl)
theorem dX0_put_27 : decode cX0_put 27 = .ok (.iload_n 2, 1) := dk_28 (dk_at dksX0_put_1 3 rfl rfl)
theorem dX0_put_28 : decode cX0_put 28 = .ok (.iload_n 3, 1) := dk_29 (dk_at dksX0_put_1 4 rfl rfl)
theorem dX0_put_29 : decode cX0_put 29 = .ok (.invokestatic 271, 3) := dk_184 1 15 (dk_at dksX0_put_1 5 rfl rfl)
theorem dX0_put_32 : decode cX0_put 32 = .ok (.iconst 1, 1) := dk_4 (dk_at dksX0_put_1 8 rfl rfl)
theorem dX0_put_33 : decode cX0_put 33 = .ok (.ireturn, 1) := dk_172 (dk_at dksX0_put_1 9 rfl rfl)
theorem dX0_put_34 : decode cX0_put 34 = .ok (.astore 4, 2) := dk_58 4 (dk_at dksX0_put_1 10 rfl rfl)
theorem dX0_put_36 : decode cX0_put 36 = .ok (.aload_n 0, 1) := dk_42 (dk_at dksX0_put_1 12 rfl rfl)
theorem dX0_put_37 : decode cX0_put 37 = .ok (.iconst 1, 1) := dk_4 (dk_at dksX0_put_1 13 rfl rfl)
theorem dX0_put_38 : decode cX0_put 38 = .ok (.invokevirtual 268, 3) := dk_182 1 12 (dk_at dksX0_put_1 14 rfl rfl)
theorem dX0_put_41 : decode cX0_put 41 = .ok (.ireturn, 1) := dk_172 (dk_at dksX0_put_1 17 rfl rfl)
theorem dX0_put_42 : decode cX0_put 42 = .ok (.astore 4, 2) := dk_58 4 (dk_at dksX0_put_1 18 rfl rfl)
theorem dX0_put_44 : decode cX0_put 44 = .ok (.aload_n 0, 1) := dk_42 (dk_at dksX0_put_1 20 rfl rfl)
theorem dX0_put_45 : decode cX0_put 45 = .ok (.iconst 3, 1) := dk_6 (dk_at dksX0_put_1 21 rfl rfl)
theorem dX0_put_46 : decode cX0_put 46 = .ok (.invokevirtual 268, 3) := dk_182 1 12 (dk_at dksX0_put_2 0 rfl rfl)
theorem dX0_put_49 : decode cX0_put 49 = .ok (.ireturn, 1) := dk_172 (dk_at dksX0_put_2 3 rfl rfl)
abbrev cX0_setIn : ByteArray := prog_1_method_51_code
def yX0_setIn : MethodName := ⟨RX0, "setIn", "(Ljava/lang/Object;II)V"⟩
def dkwX0_setIn_1 : List UInt8 := [153, 0, 14, 42, 192, 0, 244, 27, 28, 147, 86, 167, 0, 10, 42, 192, 0, 246, 27, 28, 79, 177]
abbrev dktX0_setIn_1 : List UInt8 := dkwX0_setIn_1 ++ []
def dkwX0_setIn_0 : List UInt8 := [42, 193, 0, 242, 153, 0, 14, 42, 192, 0, 242, 27, 28, 145, 84, 167, 0, 28, 42, 193, 0, 244]
abbrev dktX0_setIn_0 : List UInt8 := dkwX0_setIn_0 ++ dktX0_setIn_1
theorem dksX0_setIn_0 : cX0_setIn.data.toList.drop 0 = dktX0_setIn_0 := by decide +kernel
theorem dksX0_setIn_1 : cX0_setIn.data.toList.drop 22 = dktX0_setIn_1 := dk_seg dksX0_setIn_0 22 rfl rfl
theorem dX0_setIn_0 : decode cX0_setIn 0 = .ok (.aload_n 0, 1) := dk_42 (dk_at dksX0_setIn_0 0 rfl rfl)
theorem dX0_setIn_1 : decode cX0_setIn 1 = .ok (.instanceof 242, 3) := dk_193 0 242 (dk_at dksX0_setIn_0 1 rfl rfl)
theorem dX0_setIn_4 : decode cX0_setIn 4 = .ok (.ifCond .eq 14, 3) := dk_153 0 14 (dk_at dksX0_setIn_0 4 rfl rfl)
theorem dX0_setIn_7 : decode cX0_setIn 7 = .ok (.aload_n 0, 1) := dk_42 (dk_at dksX0_setIn_0 7 rfl rfl)
theorem dX0_setIn_8 : decode cX0_setIn 8 = .ok (.checkcast 242, 3) := dk_192 0 242 (dk_at dksX0_setIn_0 8 rfl rfl)
theorem dX0_setIn_11 : decode cX0_setIn 11 = .ok (.iload_n 1, 1) := dk_27 (dk_at dksX0_setIn_0 11 rfl rfl)
theorem dX0_setIn_12 : decode cX0_setIn 12 = .ok (.iload_n 2, 1) := dk_28 (dk_at dksX0_setIn_0 12 rfl rfl)
theorem dX0_setIn_13 : decode cX0_setIn 13 = .ok (.i2b, 1) := dk_145 (dk_at dksX0_setIn_0 13 rfl rfl)
theorem dX0_setIn_14 : decode cX0_setIn 14 = .ok (.bastore, 1) := dk_84 (dk_at dksX0_setIn_0 14 rfl rfl)
theorem dX0_setIn_15 : decode cX0_setIn 15 = .ok (.goto 28, 3) := dk_167 0 28 (dk_at dksX0_setIn_0 15 rfl rfl)
theorem dX0_setIn_18 : decode cX0_setIn 18 = .ok (.aload_n 0, 1) := dk_42 (dk_at dksX0_setIn_0 18 rfl rfl)
theorem dX0_setIn_19 : decode cX0_setIn 19 = .ok (.instanceof 244, 3) := dk_193 0 244 (dk_at dksX0_setIn_0 19 rfl rfl)
theorem dX0_setIn_22 : decode cX0_setIn 22 = .ok (.ifCond .eq 14, 3) := dk_153 0 14 (dk_at dksX0_setIn_1 0 rfl rfl)
theorem dX0_setIn_25 : decode cX0_setIn 25 = .ok (.aload_n 0, 1) := dk_42 (dk_at dksX0_setIn_1 3 rfl rfl)
theorem dX0_setIn_26 : decode cX0_setIn 26 = .ok (.checkcast 244, 3) := dk_192 0 244 (dk_at dksX0_setIn_1 4 rfl rfl)
theorem dX0_setIn_29 : decode cX0_setIn 29 = .ok (.iload_n 1, 1) := dk_27 (dk_at dksX0_setIn_1 7 rfl rfl)
theorem dX0_setIn_30 : decode cX0_setIn 30 = .ok (.iload_n 2, 1) := dk_28 (dk_at dksX0_setIn_1 8 rfl rfl)
theorem dX0_setIn_31 : decode cX0_setIn 31 = .ok (.i2s, 1) := dk_147 (dk_at dksX0_setIn_1 9 rfl rfl)
theorem dX0_setIn_32 : decode cX0_setIn 32 = .ok (.sastore, 1) := dk_86 (dk_at dksX0_setIn_1 10 rfl rfl)
theorem dX0_setIn_33 : decode cX0_setIn 33 = .ok (.goto 10, 3) := dk_167 0 10 (dk_at dksX0_setIn_1 11 rfl rfl)
theorem dX0_setIn_36 : decode cX0_setIn 36 = .ok (.aload_n 0, 1) := dk_42 (dk_at dksX0_setIn_1 14 rfl rfl)
theorem dX0_setIn_37 : decode cX0_setIn 37 = .ok (.checkcast 246, 3) := dk_192 0 246 (dk_at dksX0_setIn_1 15 rfl rfl)
theorem dX0_setIn_40 : decode cX0_setIn 40 = .ok (.iload_n 1, 1) := dk_27 (dk_at dksX0_setIn_1 18 rfl rfl)
theorem dX0_setIn_41 : decode cX0_setIn 41 = .ok (.iload_n 2, 1) := dk_28 (dk_at dksX0_setIn_1 19 rfl rfl)
theorem dX0_setIn_42 : decode cX0_setIn 42 = .ok (.iastore, 1) := dk_79 (dk_at dksX0_setIn_1 20 rfl rfl)
theorem dX0_setIn_43 : decode cX0_setIn 43 = .ok (.return_, 1) := dk_177 (dk_at dksX0_setIn_1 21 rfl rfl)
abbrev cX0_cell : ByteArray := prog_1_method_57_code
def yX0_cell : MethodName := ⟨RX0, "cell", "(III)J"⟩
def dkwX0_cell_2 : List UInt8 := [58, 4, 42, 5, 182, 1, 30, 173, 58, 4, 42, 6, 182, 1, 30, 173]
abbrev dktX0_cell_2 : List UInt8 := dkwX0_cell_2 ++ []
def dkwX0_cell_1 : List UInt8 := [20, 0, 237, 173, 42, 27, 182, 1, 23, 29, 28, 184, 1, 26, 133, 173, 58, 4, 42, 4, 182, 1, 30, 173]
abbrev dktX0_cell_1 : List UInt8 := dkwX0_cell_1 ++ dktX0_cell_2
def dkwX0_cell_0 : List UInt8 := [42, 3, 181, 0, 239, 27, 184, 0, 253, 154, 0, 15, 29, 133, 9, 20, 0, 64, 184, 0, 58, 154, 0, 7]
abbrev dktX0_cell_0 : List UInt8 := dkwX0_cell_0 ++ dktX0_cell_1
theorem dksX0_cell_0 : cX0_cell.data.toList.drop 0 = dktX0_cell_0 := by decide +kernel
theorem dksX0_cell_1 : cX0_cell.data.toList.drop 24 = dktX0_cell_1 := dk_seg dksX0_cell_0 24 rfl rfl
theorem dksX0_cell_2 : cX0_cell.data.toList.drop 48 = dktX0_cell_2 := dk_seg dksX0_cell_1 24 rfl rfl
theorem dX0_cell_0 : decode cX0_cell 0 = .ok (.aload_n 0, 1) := dk_42 (dk_at dksX0_cell_0 0 rfl rfl)
theorem dX0_cell_1 : decode cX0_cell 1 = .ok (.iconst 0, 1) := dk_3 (dk_at dksX0_cell_0 1 rfl rfl)
theorem dX0_cell_2 : decode cX0_cell 2 = .ok (.putfield 239, 3) := dk_181 0 239 (dk_at dksX0_cell_0 2 rfl rfl)
theorem dX0_cell_5 : decode cX0_cell 5 = .ok (.iload_n 1, 1) := dk_27 (dk_at dksX0_cell_0 5 rfl rfl)
theorem dX0_cell_6 : decode cX0_cell 6 = .ok (.invokestatic 253, 3) := dk_184 0 253 (dk_at dksX0_cell_0 6 rfl rfl)
theorem dX0_cell_9 : decode cX0_cell 9 = .ok (.ifCond .ne 15, 3) := dk_154 0 15 (dk_at dksX0_cell_0 9 rfl rfl)
theorem dX0_cell_12 : decode cX0_cell 12 = .ok (.iload_n 3, 1) := dk_29 (dk_at dksX0_cell_0 12 rfl rfl)
theorem dX0_cell_13 : decode cX0_cell 13 = .ok (.i2l, 1) := dk_133 (dk_at dksX0_cell_0 13 rfl rfl)
theorem dX0_cell_14 : decode cX0_cell 14 = .ok (.lconst 0, 1) := dk_9 (dk_at dksX0_cell_0 14 rfl rfl)
theorem dX0_cell_15 : decode cX0_cell 15 = .ok (.ldc2_w 64, 3) := dk_20 0 64 (dk_at dksX0_cell_0 15 rfl rfl)
theorem dX0_cell_18 : decode cX0_cell 18 = .ok (.invokestatic 58, 3) := dk_184 0 58 (dk_at dksX0_cell_0 18 rfl rfl)
theorem dX0_cell_21 : decode cX0_cell 21 = .ok (.ifCond .ne 7, 3) := dk_154 0 7 (dk_at dksX0_cell_0 21 rfl rfl)
theorem dX0_cell_24 : decode cX0_cell 24 = .ok (.ldc2_w 237, 3) := dk_20 0 237 (dk_at dksX0_cell_1 0 rfl rfl)
theorem dX0_cell_27 : decode cX0_cell 27 = .ok (.lreturn, 1) := dk_173 (dk_at dksX0_cell_1 3 rfl rfl)
theorem dX0_cell_28 : decode cX0_cell 28 = .ok (.aload_n 0, 1) := dk_42 (dk_at dksX0_cell_1 4 rfl rfl)
theorem dX0_cell_29 : decode cX0_cell 29 = .ok (.iload_n 1, 1) := dk_27 (dk_at dksX0_cell_1 5 rfl rfl)
theorem dX0_cell_30 : decode cX0_cell 30 = .ok (.invokevirtual 279, 3) := dk_182 1 23 (dk_at dksX0_cell_1 6 rfl rfl)
theorem dX0_cell_33 : decode cX0_cell 33 = .ok (.iload_n 3, 1) := dk_29 (dk_at dksX0_cell_1 9 rfl rfl)
theorem dX0_cell_34 : decode cX0_cell 34 = .ok (.iload_n 2, 1) := dk_28 (dk_at dksX0_cell_1 10 rfl rfl)
theorem dX0_cell_35 : decode cX0_cell 35 = .ok (.invokestatic 282, 3) := dk_184 1 26 (dk_at dksX0_cell_1 11 rfl rfl)
theorem dX0_cell_38 : decode cX0_cell 38 = .ok (.i2l, 1) := dk_133 (dk_at dksX0_cell_1 14 rfl rfl)
theorem dX0_cell_39 : decode cX0_cell 39 = .ok (.lreturn, 1) := dk_173 (dk_at dksX0_cell_1 15 rfl rfl)
theorem dX0_cell_40 : decode cX0_cell 40 = .ok (.astore 4, 2) := dk_58 4 (dk_at dksX0_cell_1 16 rfl rfl)
theorem dX0_cell_42 : decode cX0_cell 42 = .ok (.aload_n 0, 1) := dk_42 (dk_at dksX0_cell_1 18 rfl rfl)
theorem dX0_cell_43 : decode cX0_cell 43 = .ok (.iconst 1, 1) := dk_4 (dk_at dksX0_cell_1 19 rfl rfl)
theorem dX0_cell_44 : decode cX0_cell 44 = .ok (.invokevirtual 286, 3) := dk_182 1 30 (dk_at dksX0_cell_1 20 rfl rfl)
theorem dX0_cell_47 : decode cX0_cell 47 = .ok (.lreturn, 1) := dk_173 (dk_at dksX0_cell_1 23 rfl rfl)
theorem dX0_cell_48 : decode cX0_cell 48 = .ok (.astore 4, 2) := dk_58 4 (dk_at dksX0_cell_2 0 rfl rfl)
theorem dX0_cell_50 : decode cX0_cell 50 = .ok (.aload_n 0, 1) := dk_42 (dk_at dksX0_cell_2 2 rfl rfl)
theorem dX0_cell_51 : decode cX0_cell 51 = .ok (.iconst 2, 1) := dk_5 (dk_at dksX0_cell_2 3 rfl rfl)
theorem dX0_cell_52 : decode cX0_cell 52 = .ok (.invokevirtual 286, 3) := dk_182 1 30 (dk_at dksX0_cell_2 4 rfl rfl)
theorem dX0_cell_55 : decode cX0_cell 55 = .ok (.lreturn, 1) := dk_173 (dk_at dksX0_cell_2 7 rfl rfl)
theorem dX0_cell_56 : decode cX0_cell 56 = .ok (.astore 4, 2) := dk_58 4 (dk_at dksX0_cell_2 8 rfl rfl)
theorem dX0_cell_58 : decode cX0_cell 58 = .ok (.aload_n 0, 1) := dk_42 (dk_at dksX0_cell_2 10 rfl rfl)
theorem dX0_cell_59 : decode cX0_cell 59 = .ok (.iconst 3, 1) := dk_6 (dk_at dksX0_cell_2 11 rfl rfl)
theorem dX0_cell_60 : decode cX0_cell 60 = .ok (.invokevirtual 286, 3) := dk_182 1 30 (dk_at dksX0_cell_2 12 rfl rfl)
theorem dX0_cell_63 : decode cX0_cell 63 = .ok (.lreturn, 1) := dk_173 (dk_at dksX0_cell_2 15 rfl rfl)
abbrev cX0_rowIn : ByteArray := prog_1_method_53_code
def yX0_rowIn : MethodName := ⟨RX0, "rowIn", "(I)Ljava/lang/Object;"⟩
def dkwX0_rowIn_0 : List UInt8 := [42, 180, 0, 33, 27, 50, 199, 0, 7, 1, 167, 0, 12, 42, 180, 0, 33, 27, 50, 180, 0, 249, 176]
abbrev dktX0_rowIn_0 : List UInt8 := dkwX0_rowIn_0 ++ []
theorem dksX0_rowIn_0 : cX0_rowIn.data.toList.drop 0 = dktX0_rowIn_0 := by decide +kernel
theorem dX0_rowIn_0 : decode cX0_rowIn 0 = .ok (.aload_n 0, 1) := dk_42 (dk_at dksX0_rowIn_0 0 rfl rfl)
theorem dX0_rowIn_1 : decode cX0_rowIn 1 = .ok (.getfield 33, 3) := dk_180 0 33 (dk_at dksX0_rowIn_0 1 rfl rfl)
theorem dX0_rowIn_4 : decode cX0_rowIn 4 = .ok (.iload_n 1, 1) := dk_27 (dk_at dksX0_rowIn_0 4 rfl rfl)
theorem dX0_rowIn_5 : decode cX0_rowIn 5 = .ok (.aaload, 1) := dk_50 (dk_at dksX0_rowIn_0 5 rfl rfl)
theorem dX0_rowIn_6 : decode cX0_rowIn 6 = .ok (.ifnonnull 7, 3) := dk_199 0 7 (dk_at dksX0_rowIn_0 6 rfl rfl)
theorem dX0_rowIn_9 : decode cX0_rowIn 9 = .ok (.aconst_null, 1) := dk_1 (dk_at dksX0_rowIn_0 9 rfl rfl)
theorem dX0_rowIn_10 : decode cX0_rowIn 10 = .ok (.goto 12, 3) := dk_167 0 12 (dk_at dksX0_rowIn_0 10 rfl rfl)
theorem dX0_rowIn_13 : decode cX0_rowIn 13 = .ok (.aload_n 0, 1) := dk_42 (dk_at dksX0_rowIn_0 13 rfl rfl)
theorem dX0_rowIn_14 : decode cX0_rowIn 14 = .ok (.getfield 33, 3) := dk_180 0 33 (dk_at dksX0_rowIn_0 14 rfl rfl)
theorem dX0_rowIn_17 : decode cX0_rowIn 17 = .ok (.iload_n 1, 1) := dk_27 (dk_at dksX0_rowIn_0 17 rfl rfl)
theorem dX0_rowIn_18 : decode cX0_rowIn 18 = .ok (.aaload, 1) := dk_50 (dk_at dksX0_rowIn_0 18 rfl rfl)
theorem dX0_rowIn_19 : decode cX0_rowIn 19 = .ok (.getfield 249, 3) := dk_180 0 249 (dk_at dksX0_rowIn_0 19 rfl rfl)
theorem dX0_rowIn_22 : decode cX0_rowIn 22 = .ok (.areturn, 1) := dk_176 (dk_at dksX0_rowIn_0 22 rfl rfl)
abbrev cX0_cellOf : ByteArray := prog_1_method_49_code
def yX0_cellOf : MethodName := ⟨RX0, "cellOf", "(Ljava/lang/Object;II)I"⟩
def dkwX0_cellOf_1 : List UInt8 := [167, 0, 9, 42, 192, 0, 246, 28, 46, 172]
abbrev dktX0_cellOf_1 : List UInt8 := dkwX0_cellOf_1 ++ []
def dkwX0_cellOf_0 : List UInt8 := [27, 154, 0, 12, 42, 192, 0, 242, 28, 51, 167, 0, 23, 27, 4, 160, 0, 12, 42, 192, 0, 244, 28, 53]
abbrev dktX0_cellOf_0 : List UInt8 := dkwX0_cellOf_0 ++ dktX0_cellOf_1
theorem dksX0_cellOf_0 : cX0_cellOf.data.toList.drop 0 = dktX0_cellOf_0 := by decide +kernel
theorem dksX0_cellOf_1 : cX0_cellOf.data.toList.drop 24 = dktX0_cellOf_1 := dk_seg dksX0_cellOf_0 24 rfl rfl
theorem dX0_cellOf_0 : decode cX0_cellOf 0 = .ok (.iload_n 1, 1) := dk_27 (dk_at dksX0_cellOf_0 0 rfl rfl)
theorem dX0_cellOf_1 : decode cX0_cellOf 1 = .ok (.ifCond .ne 12, 3) := dk_154 0 12 (dk_at dksX0_cellOf_0 1 rfl rfl)
theorem dX0_cellOf_4 : decode cX0_cellOf 4 = .ok (.aload_n 0, 1) := dk_42 (dk_at dksX0_cellOf_0 4 rfl rfl)
theorem dX0_cellOf_5 : decode cX0_cellOf 5 = .ok (.checkcast 242, 3) := dk_192 0 242 (dk_at dksX0_cellOf_0 5 rfl rfl)
theorem dX0_cellOf_8 : decode cX0_cellOf 8 = .ok (.iload_n 2, 1) := dk_28 (dk_at dksX0_cellOf_0 8 rfl rfl)
theorem dX0_cellOf_9 : decode cX0_cellOf 9 = .ok (.baload, 1) := dk_51 (dk_at dksX0_cellOf_0 9 rfl rfl)
theorem dX0_cellOf_10 : decode cX0_cellOf 10 = .ok (.goto 23, 3) := dk_167 0 23 (dk_at dksX0_cellOf_0 10 rfl rfl)
theorem dX0_cellOf_13 : decode cX0_cellOf 13 = .ok (.iload_n 1, 1) := dk_27 (dk_at dksX0_cellOf_0 13 rfl rfl)
theorem dX0_cellOf_14 : decode cX0_cellOf 14 = .ok (.iconst 1, 1) := dk_4 (dk_at dksX0_cellOf_0 14 rfl rfl)
theorem dX0_cellOf_15 : decode cX0_cellOf 15 = .ok (.if_icmp .ne 12, 3) := dk_160 0 12 (dk_at dksX0_cellOf_0 15 rfl rfl)
theorem dX0_cellOf_18 : decode cX0_cellOf 18 = .ok (.aload_n 0, 1) := dk_42 (dk_at dksX0_cellOf_0 18 rfl rfl)
theorem dX0_cellOf_19 : decode cX0_cellOf 19 = .ok (.checkcast 244, 3) := dk_192 0 244 (dk_at dksX0_cellOf_0 19 rfl rfl)
theorem dX0_cellOf_22 : decode cX0_cellOf 22 = .ok (.iload_n 2, 1) := dk_28 (dk_at dksX0_cellOf_0 22 rfl rfl)
theorem dX0_cellOf_23 : decode cX0_cellOf 23 = .ok (.saload, 1) := dk_53 (dk_at dksX0_cellOf_0 23 rfl rfl)
theorem dX0_cellOf_24 : decode cX0_cellOf 24 = .ok (.goto 9, 3) := dk_167 0 9 (dk_at dksX0_cellOf_1 0 rfl rfl)
theorem dX0_cellOf_27 : decode cX0_cellOf 27 = .ok (.aload_n 0, 1) := dk_42 (dk_at dksX0_cellOf_1 3 rfl rfl)
theorem dX0_cellOf_28 : decode cX0_cellOf 28 = .ok (.checkcast 246, 3) := dk_192 0 246 (dk_at dksX0_cellOf_1 4 rfl rfl)
theorem dX0_cellOf_31 : decode cX0_cellOf 31 = .ok (.iload_n 2, 1) := dk_28 (dk_at dksX0_cellOf_1 7 rfl rfl)
theorem dX0_cellOf_32 : decode cX0_cellOf 32 = .ok (.iaload, 1) := dk_46 (dk_at dksX0_cellOf_1 8 rfl rfl)
theorem dX0_cellOf_33 : decode cX0_cellOf 33 = .ok (.ireturn, 1) := dk_172 (dk_at dksX0_cellOf_1 9 rfl rfl)
abbrev cX0_failsLong : ByteArray := prog_1_method_47_code
def yX0_failsLong : MethodName := ⟨RX0, "failsLong", "(I)J"⟩
def dkwX0_failsLong_0 : List UInt8 := [42, 27, 181, 0, 239, 20, 0, 237, 173]
abbrev dktX0_failsLong_0 : List UInt8 := dkwX0_failsLong_0 ++ []
theorem dksX0_failsLong_0 : cX0_failsLong.data.toList.drop 0 = dktX0_failsLong_0 := by decide +kernel
theorem dX0_failsLong_0 : decode cX0_failsLong 0 = .ok (.aload_n 0, 1) := dk_42 (dk_at dksX0_failsLong_0 0 rfl rfl)
theorem dX0_failsLong_1 : decode cX0_failsLong 1 = .ok (.iload_n 1, 1) := dk_27 (dk_at dksX0_failsLong_0 1 rfl rfl)
theorem dX0_failsLong_2 : decode cX0_failsLong 2 = .ok (.putfield 239, 3) := dk_181 0 239 (dk_at dksX0_failsLong_0 2 rfl rfl)
theorem dX0_failsLong_5 : decode cX0_failsLong 5 = .ok (.ldc2_w 237, 3) := dk_20 0 237 (dk_at dksX0_failsLong_0 5 rfl rfl)
theorem dX0_failsLong_8 : decode cX0_failsLong 8 = .ok (.lreturn, 1) := dk_173 (dk_at dksX0_failsLong_0 8 rfl rfl)
abbrev cX0_land : ByteArray := prog_1_method_61_code
def yX0_land : MethodName := ⟨RX0, "land", "(IIII)I"⟩
def dkwX0_land_0 : List UInt8 := [42, 187, 1, 60, 89, 42, 27, 28, 29, 21, 4, 183, 1, 62, 4, 182, 1, 65, 172]
abbrev dktX0_land_0 : List UInt8 := dkwX0_land_0 ++ []
theorem dksX0_land_0 : cX0_land.data.toList.drop 0 = dktX0_land_0 := by decide +kernel
theorem dX0_land_0 : decode cX0_land 0 = .ok (.aload_n 0, 1) := dk_42 (dk_at dksX0_land_0 0 rfl rfl)
theorem dX0_land_1 : decode cX0_land 1 = .ok (.new 316, 3) := dk_187 1 60 (dk_at dksX0_land_0 1 rfl rfl)
theorem dX0_land_4 : decode cX0_land 4 = .ok (.dup, 1) := dk_89 (dk_at dksX0_land_0 4 rfl rfl)
theorem dX0_land_5 : decode cX0_land 5 = .ok (.aload_n 0, 1) := dk_42 (dk_at dksX0_land_0 5 rfl rfl)
theorem dX0_land_6 : decode cX0_land 6 = .ok (.iload_n 1, 1) := dk_27 (dk_at dksX0_land_0 6 rfl rfl)
theorem dX0_land_7 : decode cX0_land 7 = .ok (.iload_n 2, 1) := dk_28 (dk_at dksX0_land_0 7 rfl rfl)
theorem dX0_land_8 : decode cX0_land 8 = .ok (.iload_n 3, 1) := dk_29 (dk_at dksX0_land_0 8 rfl rfl)
theorem dX0_land_9 : decode cX0_land 9 = .ok (.iload 4, 2) := dk_21 4 (dk_at dksX0_land_0 9 rfl rfl)
theorem dX0_land_11 : decode cX0_land 11 = .ok (.invokespecial 318, 3) := dk_183 1 62 (dk_at dksX0_land_0 11 rfl rfl)
theorem dX0_land_14 : decode cX0_land 14 = .ok (.iconst 1, 1) := dk_4 (dk_at dksX0_land_0 14 rfl rfl)
theorem dX0_land_15 : decode cX0_land 15 = .ok (.invokevirtual 321, 3) := dk_182 1 65 (dk_at dksX0_land_0 15 rfl rfl)
theorem dX0_land_18 : decode cX0_land 18 = .ok (.ireturn, 1) := dk_172 (dk_at dksX0_land_0 18 rfl rfl)
abbrev cX0_looked : ByteArray := prog_1_method_60_code
def yX0_looked : MethodName := ⟨RX0, "looked", "(LCheeseValleys$Looking;Z)I"⟩
def dkwX0_looked_2 : List UInt8 := [182, 1, 0, 172]
abbrev dktX0_looked_2 : List UInt8 := dkwX0_looked_2 ++ []
def dkwX0_looked_1 : List UInt8 := [20, 0, 64, 184, 0, 58, 153, 0, 14, 28, 153, 0, 10, 43, 182, 1, 57, 167, 0, 9, 42, 16, 254]
abbrev dktX0_looked_1 : List UInt8 := dkwX0_looked_1 ++ dktX0_looked_2
def dkwX0_looked_0 : List UInt8 := [43, 180, 1, 49, 184, 0, 253, 153, 0, 9, 42, 2, 182, 1, 0, 172, 43, 180, 1, 54, 133, 9]
abbrev dktX0_looked_0 : List UInt8 := dkwX0_looked_0 ++ dktX0_looked_1
theorem dksX0_looked_0 : cX0_looked.data.toList.drop 0 = dktX0_looked_0 := by decide +kernel
theorem dksX0_looked_1 : cX0_looked.data.toList.drop 22 = dktX0_looked_1 := dk_seg dksX0_looked_0 22 rfl rfl
theorem dksX0_looked_2 : cX0_looked.data.toList.drop 45 = dktX0_looked_2 := dk_seg dksX0_looked_1 23 rfl rfl
theorem dX0_looked_0 : decode cX0_looked 0 = .ok (.aload_n 1, 1) := dk_43 (dk_at dksX0_looked_0 0 rfl rfl)
theorem dX0_looked_1 : decode cX0_looked 1 = .ok (.getfield 305, 3) := dk_180 1 49 (dk_at dksX0_looked_0 1 rfl rfl)
theorem dX0_looked_4 : decode cX0_looked 4 = .ok (.invokestatic 253, 3) := dk_184 0 253 (dk_at dksX0_looked_0 4 rfl rfl)
theorem dX0_looked_7 : decode cX0_looked 7 = .ok (.ifCond .eq 9, 3) := dk_153 0 9 (dk_at dksX0_looked_0 7 rfl rfl)
theorem dX0_looked_10 : decode cX0_looked 10 = .ok (.aload_n 0, 1) := dk_42 (dk_at dksX0_looked_0 10 rfl rfl)
theorem dX0_looked_11 : decode cX0_looked 11 = .ok (.iconst (-1), 1) := dk_2 (dk_at dksX0_looked_0 11 rfl rfl)
theorem dX0_looked_12 : decode cX0_looked 12 = .ok (.invokevirtual 256, 3) := dk_182 1 0 (dk_at dksX0_looked_0 12 rfl rfl)
theorem dX0_looked_15 : decode cX0_looked 15 = .ok (.ireturn, 1) := dk_172 (dk_at dksX0_looked_0 15 rfl rfl)
theorem dX0_looked_16 : decode cX0_looked 16 = .ok (.aload_n 1, 1) := dk_43 (dk_at dksX0_looked_0 16 rfl rfl)
theorem dX0_looked_17 : decode cX0_looked 17 = .ok (.getfield 310, 3) := dk_180 1 54 (dk_at dksX0_looked_0 17 rfl rfl)
theorem dX0_looked_20 : decode cX0_looked 20 = .ok (.i2l, 1) := dk_133 (dk_at dksX0_looked_0 20 rfl rfl)
theorem dX0_looked_21 : decode cX0_looked 21 = .ok (.lconst 0, 1) := dk_9 (dk_at dksX0_looked_0 21 rfl rfl)
theorem dX0_looked_22 : decode cX0_looked 22 = .ok (.ldc2_w 64, 3) := dk_20 0 64 (dk_at dksX0_looked_1 0 rfl rfl)
theorem dX0_looked_25 : decode cX0_looked 25 = .ok (.invokestatic 58, 3) := dk_184 0 58 (dk_at dksX0_looked_1 3 rfl rfl)
theorem dX0_looked_28 : decode cX0_looked 28 = .ok (.ifCond .eq 14, 3) := dk_153 0 14 (dk_at dksX0_looked_1 6 rfl rfl)
theorem dX0_looked_31 : decode cX0_looked 31 = .ok (.iload_n 2, 1) := dk_28 (dk_at dksX0_looked_1 9 rfl rfl)
theorem dX0_looked_32 : decode cX0_looked 32 = .ok (.ifCond .eq 10, 3) := dk_153 0 10 (dk_at dksX0_looked_1 10 rfl rfl)
theorem dX0_looked_35 : decode cX0_looked 35 = .ok (.aload_n 1, 1) := dk_43 (dk_at dksX0_looked_1 13 rfl rfl)
theorem dX0_looked_36 : decode cX0_looked 36 = .ok (.invokevirtual 313, 3) := dk_182 1 57 (dk_at dksX0_looked_1 14 rfl rfl)
theorem dX0_looked_39 : decode cX0_looked 39 = .ok (.goto 9, 3) := dk_167 0 9 (dk_at dksX0_looked_1 17 rfl rfl)
theorem dX0_looked_42 : decode cX0_looked 42 = .ok (.aload_n 0, 1) := dk_42 (dk_at dksX0_looked_1 20 rfl rfl)
theorem dX0_looked_43 : decode cX0_looked 43 = .ok (.bipush (-2), 2) := dk_16 254 (dk_at dksX0_looked_1 21 rfl rfl)
theorem dX0_looked_45 : decode cX0_looked 45 = .ok (.invokevirtual 256, 3) := dk_182 1 0 (dk_at dksX0_looked_2 0 rfl rfl)
theorem dX0_looked_48 : decode cX0_looked 48 = .ok (.ireturn, 1) := dk_172 (dk_at dksX0_looked_2 3 rfl rfl)
abbrev cX0_cellsOf : ByteArray := prog_1_method_59_code
def yX0_cellsOf : MethodName := ⟨RX0, "cellsOf", "(Ljava/lang/Object;III)[I"⟩
def dkwX0_cellsOf_3 : List UInt8 := [184, 1, 26, 79, 132, 7, 1, 167, 255, 231, 25, 6, 176]
abbrev dktX0_cellsOf_3 : List UInt8 := dkwX0_cellsOf_3 ++ []
def dkwX0_cellsOf_2 : List UInt8 := [58, 6, 3, 54, 7, 21, 7, 25, 6, 190, 162, 0, 23, 25, 6, 21, 7, 42, 27, 28, 21, 7, 96]
abbrev dktX0_cellsOf_2 : List UInt8 := dkwX0_cellsOf_2 ++ dktX0_cellsOf_3
def dkwX0_cellsOf_1 : List UInt8 := [155, 0, 15, 28, 21, 4, 29, 100, 163, 0, 7, 4, 167, 0, 4, 3, 184, 1, 45, 25, 5, 190, 188, 10]
abbrev dktX0_cellsOf_1 : List UInt8 := dkwX0_cellsOf_1 ++ dktX0_cellsOf_2
def dkwX0_cellsOf_0 : List UInt8 := [42, 27, 184, 1, 41, 54, 4, 29, 16, 61, 184, 0, 148, 188, 8, 58, 5, 29, 16, 61, 162, 0, 19, 28]
abbrev dktX0_cellsOf_0 : List UInt8 := dkwX0_cellsOf_0 ++ dktX0_cellsOf_1
theorem dksX0_cellsOf_0 : cX0_cellsOf.data.toList.drop 0 = dktX0_cellsOf_0 := by decide +kernel
theorem dksX0_cellsOf_1 : cX0_cellsOf.data.toList.drop 24 = dktX0_cellsOf_1 := dk_seg dksX0_cellsOf_0 24 rfl rfl
theorem dksX0_cellsOf_2 : cX0_cellsOf.data.toList.drop 48 = dktX0_cellsOf_2 := dk_seg dksX0_cellsOf_1 24 rfl rfl
theorem dksX0_cellsOf_3 : cX0_cellsOf.data.toList.drop 71 = dktX0_cellsOf_3 := dk_seg dksX0_cellsOf_2 23 rfl rfl
theorem dX0_cellsOf_0 : decode cX0_cellsOf 0 = .ok (.aload_n 0, 1) := dk_42 (dk_at dksX0_cellsOf_0 0 rfl rfl)
theorem dX0_cellsOf_1 : decode cX0_cellsOf 1 = .ok (.iload_n 1, 1) := dk_27 (dk_at dksX0_cellsOf_0 1 rfl rfl)
theorem dX0_cellsOf_2 : decode cX0_cellsOf 2 = .ok (.invokestatic 297, 3) := dk_184 1 41 (dk_at dksX0_cellsOf_0 2 rfl rfl)
theorem dX0_cellsOf_5 : decode cX0_cellsOf 5 = .ok (.istore 4, 2) := dk_54 4 (dk_at dksX0_cellsOf_0 5 rfl rfl)
theorem dX0_cellsOf_7 : decode cX0_cellsOf 7 = .ok (.iload_n 3, 1) := dk_29 (dk_at dksX0_cellsOf_0 7 rfl rfl)
theorem dX0_cellsOf_8 : decode cX0_cellsOf 8 = .ok (.bipush 61, 2) := dk_16 61 (dk_at dksX0_cellsOf_0 8 rfl rfl)
theorem dX0_cellsOf_10 : decode cX0_cellsOf 10 = .ok (.invokestatic 148, 3) := dk_184 0 148 (dk_at dksX0_cellsOf_0 10 rfl rfl)
theorem dX0_cellsOf_13 : decode cX0_cellsOf 13 = .ok (.newarray .byte, 2) := dk_188_8 (dk_at dksX0_cellsOf_0 13 rfl rfl)
theorem dX0_cellsOf_15 : decode cX0_cellsOf 15 = .ok (.astore 5, 2) := dk_58 5 (dk_at dksX0_cellsOf_0 15 rfl rfl)
theorem dX0_cellsOf_17 : decode cX0_cellsOf 17 = .ok (.iload_n 3, 1) := dk_29 (dk_at dksX0_cellsOf_0 17 rfl rfl)
theorem dX0_cellsOf_18 : decode cX0_cellsOf 18 = .ok (.bipush 61, 2) := dk_16 61 (dk_at dksX0_cellsOf_0 18 rfl rfl)
theorem dX0_cellsOf_20 : decode cX0_cellsOf 20 = .ok (.if_icmp .ge 19, 3) := dk_162 0 19 (dk_at dksX0_cellsOf_0 20 rfl rfl)
theorem dX0_cellsOf_23 : decode cX0_cellsOf 23 = .ok (.iload_n 2, 1) := dk_28 (dk_at dksX0_cellsOf_0 23 rfl rfl)
theorem dX0_cellsOf_24 : decode cX0_cellsOf 24 = .ok (.ifCond .lt 15, 3) := dk_155 0 15 (dk_at dksX0_cellsOf_1 0 rfl rfl)
theorem dX0_cellsOf_27 : decode cX0_cellsOf 27 = .ok (.iload_n 2, 1) := dk_28 (dk_at dksX0_cellsOf_1 3 rfl rfl)
theorem dX0_cellsOf_28 : decode cX0_cellsOf 28 = .ok (.iload 4, 2) := dk_21 4 (dk_at dksX0_cellsOf_1 4 rfl rfl)
theorem dX0_cellsOf_30 : decode cX0_cellsOf 30 = .ok (.iload_n 3, 1) := dk_29 (dk_at dksX0_cellsOf_1 6 rfl rfl)
theorem dX0_cellsOf_31 : decode cX0_cellsOf 31 = .ok (.isub, 1) := dk_100 (dk_at dksX0_cellsOf_1 7 rfl rfl)
theorem dX0_cellsOf_32 : decode cX0_cellsOf 32 = .ok (.if_icmp .gt 7, 3) := dk_163 0 7 (dk_at dksX0_cellsOf_1 8 rfl rfl)
theorem dX0_cellsOf_35 : decode cX0_cellsOf 35 = .ok (.iconst 1, 1) := dk_4 (dk_at dksX0_cellsOf_1 11 rfl rfl)
theorem dX0_cellsOf_36 : decode cX0_cellsOf 36 = .ok (.goto 4, 3) := dk_167 0 4 (dk_at dksX0_cellsOf_1 12 rfl rfl)
theorem dX0_cellsOf_39 : decode cX0_cellsOf 39 = .ok (.iconst 0, 1) := dk_3 (dk_at dksX0_cellsOf_1 15 rfl rfl)
theorem dX0_cellsOf_40 : decode cX0_cellsOf 40 = .ok (.invokestatic 301, 3) := dk_184 1 45 (dk_at dksX0_cellsOf_1 16 rfl rfl)
theorem dX0_cellsOf_43 : decode cX0_cellsOf 43 = .ok (.aload 5, 2) := dk_25 5 (dk_at dksX0_cellsOf_1 19 rfl rfl)
theorem dX0_cellsOf_45 : decode cX0_cellsOf 45 = .ok (.arraylength, 1) := dk_190 (dk_at dksX0_cellsOf_1 21 rfl rfl)
theorem dX0_cellsOf_46 : decode cX0_cellsOf 46 = .ok (.newarray .int, 2) := dk_188_10 (dk_at dksX0_cellsOf_1 22 rfl rfl)
theorem dX0_cellsOf_48 : decode cX0_cellsOf 48 = .ok (.astore 6, 2) := dk_58 6 (dk_at dksX0_cellsOf_2 0 rfl rfl)
theorem dX0_cellsOf_50 : decode cX0_cellsOf 50 = .ok (.iconst 0, 1) := dk_3 (dk_at dksX0_cellsOf_2 2 rfl rfl)
theorem dX0_cellsOf_51 : decode cX0_cellsOf 51 = .ok (.istore 7, 2) := dk_54 7 (dk_at dksX0_cellsOf_2 3 rfl rfl)
theorem dX0_cellsOf_53 : decode cX0_cellsOf 53 = .ok (.iload 7, 2) := dk_21 7 (dk_at dksX0_cellsOf_2 5 rfl rfl)
theorem dX0_cellsOf_55 : decode cX0_cellsOf 55 = .ok (.aload 6, 2) := dk_25 6 (dk_at dksX0_cellsOf_2 7 rfl rfl)
theorem dX0_cellsOf_57 : decode cX0_cellsOf 57 = .ok (.arraylength, 1) := dk_190 (dk_at dksX0_cellsOf_2 9 rfl rfl)
theorem dX0_cellsOf_58 : decode cX0_cellsOf 58 = .ok (.if_icmp .ge 23, 3) := dk_162 0 23 (dk_at dksX0_cellsOf_2 10 rfl rfl)
theorem dX0_cellsOf_61 : decode cX0_cellsOf 61 = .ok (.aload 6, 2) := dk_25 6 (dk_at dksX0_cellsOf_2 13 rfl rfl)
theorem dX0_cellsOf_63 : decode cX0_cellsOf 63 = .ok (.iload 7, 2) := dk_21 7 (dk_at dksX0_cellsOf_2 15 rfl rfl)
theorem dX0_cellsOf_65 : decode cX0_cellsOf 65 = .ok (.aload_n 0, 1) := dk_42 (dk_at dksX0_cellsOf_2 17 rfl rfl)
theorem dX0_cellsOf_66 : decode cX0_cellsOf 66 = .ok (.iload_n 1, 1) := dk_27 (dk_at dksX0_cellsOf_2 18 rfl rfl)
theorem dX0_cellsOf_67 : decode cX0_cellsOf 67 = .ok (.iload_n 2, 1) := dk_28 (dk_at dksX0_cellsOf_2 19 rfl rfl)
theorem dX0_cellsOf_68 : decode cX0_cellsOf 68 = .ok (.iload 7, 2) := dk_21 7 (dk_at dksX0_cellsOf_2 20 rfl rfl)
theorem dX0_cellsOf_70 : decode cX0_cellsOf 70 = .ok (.iadd, 1) := dk_96 (dk_at dksX0_cellsOf_2 22 rfl rfl)
theorem dX0_cellsOf_71 : decode cX0_cellsOf 71 = .ok (.invokestatic 282, 3) := dk_184 1 26 (dk_at dksX0_cellsOf_3 0 rfl rfl)
theorem dX0_cellsOf_74 : decode cX0_cellsOf 74 = .ok (.iastore, 1) := dk_79 (dk_at dksX0_cellsOf_3 3 rfl rfl)
theorem dX0_cellsOf_75 : decode cX0_cellsOf 75 = .ok (.iinc 7 1, 3) := dk_132 7 1 (dk_at dksX0_cellsOf_3 4 rfl rfl)
theorem dX0_cellsOf_78 : decode cX0_cellsOf 78 = .ok (.goto (-25), 3) := dk_167 255 231 (dk_at dksX0_cellsOf_3 7 rfl rfl)
theorem dX0_cellsOf_81 : decode cX0_cellsOf 81 = .ok (.aload 6, 2) := dk_25 6 (dk_at dksX0_cellsOf_3 10 rfl rfl)
theorem dX0_cellsOf_83 : decode cX0_cellsOf 83 = .ok (.areturn, 1) := dk_176 (dk_at dksX0_cellsOf_3 12 rfl rfl)
abbrev cX0_sizeOf : ByteArray := prog_1_method_50_code
def yX0_sizeOf : MethodName := ⟨RX0, "sizeOf", "(Ljava/lang/Object;I)I"⟩
def dkwX0_sizeOf_1 : List UInt8 := [167, 0, 8, 42, 192, 0, 246, 190, 172]
abbrev dktX0_sizeOf_1 : List UInt8 := dkwX0_sizeOf_1 ++ []
def dkwX0_sizeOf_0 : List UInt8 := [27, 154, 0, 11, 42, 192, 0, 242, 190, 167, 0, 21, 27, 4, 160, 0, 11, 42, 192, 0, 244, 190]
abbrev dktX0_sizeOf_0 : List UInt8 := dkwX0_sizeOf_0 ++ dktX0_sizeOf_1
theorem dksX0_sizeOf_0 : cX0_sizeOf.data.toList.drop 0 = dktX0_sizeOf_0 := by decide +kernel
theorem dksX0_sizeOf_1 : cX0_sizeOf.data.toList.drop 22 = dktX0_sizeOf_1 := dk_seg dksX0_sizeOf_0 22 rfl rfl
theorem dX0_sizeOf_0 : decode cX0_sizeOf 0 = .ok (.iload_n 1, 1) := dk_27 (dk_at dksX0_sizeOf_0 0 rfl rfl)
theorem dX0_sizeOf_1 : decode cX0_sizeOf 1 = .ok (.ifCond .ne 11, 3) := dk_154 0 11 (dk_at dksX0_sizeOf_0 1 rfl rfl)
theorem dX0_sizeOf_4 : decode cX0_sizeOf 4 = .ok (.aload_n 0, 1) := dk_42 (dk_at dksX0_sizeOf_0 4 rfl rfl)
theorem dX0_sizeOf_5 : decode cX0_sizeOf 5 = .ok (.checkcast 242, 3) := dk_192 0 242 (dk_at dksX0_sizeOf_0 5 rfl rfl)
theorem dX0_sizeOf_8 : decode cX0_sizeOf 8 = .ok (.arraylength, 1) := dk_190 (dk_at dksX0_sizeOf_0 8 rfl rfl)
theorem dX0_sizeOf_9 : decode cX0_sizeOf 9 = .ok (.goto 21, 3) := dk_167 0 21 (dk_at dksX0_sizeOf_0 9 rfl rfl)
theorem dX0_sizeOf_12 : decode cX0_sizeOf 12 = .ok (.iload_n 1, 1) := dk_27 (dk_at dksX0_sizeOf_0 12 rfl rfl)
theorem dX0_sizeOf_13 : decode cX0_sizeOf 13 = .ok (.iconst 1, 1) := dk_4 (dk_at dksX0_sizeOf_0 13 rfl rfl)
theorem dX0_sizeOf_14 : decode cX0_sizeOf 14 = .ok (.if_icmp .ne 11, 3) := dk_160 0 11 (dk_at dksX0_sizeOf_0 14 rfl rfl)
theorem dX0_sizeOf_17 : decode cX0_sizeOf 17 = .ok (.aload_n 0, 1) := dk_42 (dk_at dksX0_sizeOf_0 17 rfl rfl)
theorem dX0_sizeOf_18 : decode cX0_sizeOf 18 = .ok (.checkcast 244, 3) := dk_192 0 244 (dk_at dksX0_sizeOf_0 18 rfl rfl)
theorem dX0_sizeOf_21 : decode cX0_sizeOf 21 = .ok (.arraylength, 1) := dk_190 (dk_at dksX0_sizeOf_0 21 rfl rfl)
theorem dX0_sizeOf_22 : decode cX0_sizeOf 22 = .ok (.goto 8, 3) := dk_167 0 8 (dk_at dksX0_sizeOf_1 0 rfl rfl)
theorem dX0_sizeOf_25 : decode cX0_sizeOf 25 = .ok (.aload_n 0, 1) := dk_42 (dk_at dksX0_sizeOf_1 3 rfl rfl)
theorem dX0_sizeOf_26 : decode cX0_sizeOf 26 = .ok (.checkcast 246, 3) := dk_192 0 246 (dk_at dksX0_sizeOf_1 4 rfl rfl)
theorem dX0_sizeOf_29 : decode cX0_sizeOf 29 = .ok (.arraylength, 1) := dk_190 (dk_at dksX0_sizeOf_1 7 rfl rfl)
theorem dX0_sizeOf_30 : decode cX0_sizeOf 30 = .ok (.ireturn, 1) := dk_172 (dk_at dksX0_sizeOf_1 8 rfl rfl)
abbrev cX0_need : ByteArray := prog_1_method_58_code
def yX0_need : MethodName := ⟨RX0, "need", "(Z)V"⟩
def dkwX0_need_0 : List UInt8 := [26, 154, 0, 14, 187, 1, 21, 89, 19, 1, 36, 183, 1, 38, 191, 177]
abbrev dktX0_need_0 : List UInt8 := dkwX0_need_0 ++ []
theorem dksX0_need_0 : cX0_need.data.toList.drop 0 = dktX0_need_0 := by decide +kernel
theorem dX0_need_0 : decode cX0_need 0 = .ok (.iload_n 0, 1) := dk_26 (dk_at dksX0_need_0 0 rfl rfl)
theorem dX0_need_1 : decode cX0_need 1 = .ok (.ifCond .ne 14, 3) := dk_154 0 14 (dk_at dksX0_need_0 1 rfl rfl)
theorem dX0_need_4 : decode cX0_need 4 = .ok (.new 277, 3) := dk_187 1 21 (dk_at dksX0_need_0 4 rfl rfl)
theorem dX0_need_7 : decode cX0_need 7 = .ok (.dup, 1) := dk_89 (dk_at dksX0_need_0 7 rfl rfl)
theorem dX0_need_8 : decode cX0_need 8 = .ok (.ldc_w 292, 3) := dk_19 1 36 (dk_at dksX0_need_0 8 rfl rfl)
theorem dX0_need_11 : decode cX0_need 11 = .ok (.invokespecial 294, 3) := dk_183 1 38 (dk_at dksX0_need_0 11 rfl rfl)
theorem dX0_need_14 : decode cX0_need 14 = .ok (.athrow, 1) := dk_191 (dk_at dksX0_need_0 14 rfl rfl)
theorem dX0_need_15 : decode cX0_need 15 = .ok (.return_, 1) := dk_177 (dk_at dksX0_need_0 15 rfl rfl)
abbrev cX0_stepsBarred : ByteArray := prog_1_method_27_code
def yX0_stepsBarred : MethodName := ⟨RX0, "stepsBarred", "([I)I"⟩
def dkwX0_stepsBarred_2 : List UInt8 := [182, 0, 101, 153, 0, 5, 2, 172, 132, 2, 1, 167, 255, 210, 3, 172]
abbrev dktX0_stepsBarred_2 : List UInt8 := dkwX0_stepsBarred_2 ++ []
def dkwX0_stepsBarred_1 : List UInt8 := [20, 0, 182, 184, 0, 58, 154, 0, 6, 16, 254, 172, 43, 28, 46, 16, 6, 162, 0, 15, 42, 43, 28, 46]
abbrev dktX0_stepsBarred_1 : List UInt8 := dkwX0_stepsBarred_1 ++ dktX0_stepsBarred_2
def dkwX0_stepsBarred_0 : List UInt8 := [42, 182, 0, 133, 153, 0, 6, 16, 253, 172, 3, 61, 28, 43, 190, 162, 0, 46, 43, 28, 46, 133, 9]
abbrev dktX0_stepsBarred_0 : List UInt8 := dkwX0_stepsBarred_0 ++ dktX0_stepsBarred_1
theorem dksX0_stepsBarred_0 : cX0_stepsBarred.data.toList.drop 0 = dktX0_stepsBarred_0 := by decide +kernel
theorem dksX0_stepsBarred_1 : cX0_stepsBarred.data.toList.drop 23 = dktX0_stepsBarred_1 := dk_seg dksX0_stepsBarred_0 23 rfl rfl
theorem dksX0_stepsBarred_2 : cX0_stepsBarred.data.toList.drop 47 = dktX0_stepsBarred_2 := dk_seg dksX0_stepsBarred_1 24 rfl rfl
theorem dX0_stepsBarred_0 : decode cX0_stepsBarred 0 = .ok (.aload_n 0, 1) := dk_42 (dk_at dksX0_stepsBarred_0 0 rfl rfl)
theorem dX0_stepsBarred_1 : decode cX0_stepsBarred 1 = .ok (.invokevirtual 133, 3) := dk_182 0 133 (dk_at dksX0_stepsBarred_0 1 rfl rfl)
theorem dX0_stepsBarred_4 : decode cX0_stepsBarred 4 = .ok (.ifCond .eq 6, 3) := dk_153 0 6 (dk_at dksX0_stepsBarred_0 4 rfl rfl)
theorem dX0_stepsBarred_7 : decode cX0_stepsBarred 7 = .ok (.bipush (-3), 2) := dk_16 253 (dk_at dksX0_stepsBarred_0 7 rfl rfl)
theorem dX0_stepsBarred_9 : decode cX0_stepsBarred 9 = .ok (.ireturn, 1) := dk_172 (dk_at dksX0_stepsBarred_0 9 rfl rfl)
theorem dX0_stepsBarred_10 : decode cX0_stepsBarred 10 = .ok (.iconst 0, 1) := dk_3 (dk_at dksX0_stepsBarred_0 10 rfl rfl)
theorem dX0_stepsBarred_11 : decode cX0_stepsBarred 11 = .ok (.istore_n 2, 1) := dk_61 (dk_at dksX0_stepsBarred_0 11 rfl rfl)
theorem dX0_stepsBarred_12 : decode cX0_stepsBarred 12 = .ok (.iload_n 2, 1) := dk_28 (dk_at dksX0_stepsBarred_0 12 rfl rfl)
theorem dX0_stepsBarred_13 : decode cX0_stepsBarred 13 = .ok (.aload_n 1, 1) := dk_43 (dk_at dksX0_stepsBarred_0 13 rfl rfl)
theorem dX0_stepsBarred_14 : decode cX0_stepsBarred 14 = .ok (.arraylength, 1) := dk_190 (dk_at dksX0_stepsBarred_0 14 rfl rfl)
theorem dX0_stepsBarred_15 : decode cX0_stepsBarred 15 = .ok (.if_icmp .ge 46, 3) := dk_162 0 46 (dk_at dksX0_stepsBarred_0 15 rfl rfl)
theorem dX0_stepsBarred_18 : decode cX0_stepsBarred 18 = .ok (.aload_n 1, 1) := dk_43 (dk_at dksX0_stepsBarred_0 18 rfl rfl)
theorem dX0_stepsBarred_19 : decode cX0_stepsBarred 19 = .ok (.iload_n 2, 1) := dk_28 (dk_at dksX0_stepsBarred_0 19 rfl rfl)
theorem dX0_stepsBarred_20 : decode cX0_stepsBarred 20 = .ok (.iaload, 1) := dk_46 (dk_at dksX0_stepsBarred_0 20 rfl rfl)
theorem dX0_stepsBarred_21 : decode cX0_stepsBarred 21 = .ok (.i2l, 1) := dk_133 (dk_at dksX0_stepsBarred_0 21 rfl rfl)
theorem dX0_stepsBarred_22 : decode cX0_stepsBarred 22 = .ok (.lconst 0, 1) := dk_9 (dk_at dksX0_stepsBarred_0 22 rfl rfl)
theorem dX0_stepsBarred_23 : decode cX0_stepsBarred 23 = .ok (.ldc2_w 182, 3) := dk_20 0 182 (dk_at dksX0_stepsBarred_1 0 rfl rfl)
theorem dX0_stepsBarred_26 : decode cX0_stepsBarred 26 = .ok (.invokestatic 58, 3) := dk_184 0 58 (dk_at dksX0_stepsBarred_1 3 rfl rfl)
theorem dX0_stepsBarred_29 : decode cX0_stepsBarred 29 = .ok (.ifCond .ne 6, 3) := dk_154 0 6 (dk_at dksX0_stepsBarred_1 6 rfl rfl)
theorem dX0_stepsBarred_32 : decode cX0_stepsBarred 32 = .ok (.bipush (-2), 2) := dk_16 254 (dk_at dksX0_stepsBarred_1 9 rfl rfl)
theorem dX0_stepsBarred_34 : decode cX0_stepsBarred 34 = .ok (.ireturn, 1) := dk_172 (dk_at dksX0_stepsBarred_1 11 rfl rfl)
theorem dX0_stepsBarred_35 : decode cX0_stepsBarred 35 = .ok (.aload_n 1, 1) := dk_43 (dk_at dksX0_stepsBarred_1 12 rfl rfl)
theorem dX0_stepsBarred_36 : decode cX0_stepsBarred 36 = .ok (.iload_n 2, 1) := dk_28 (dk_at dksX0_stepsBarred_1 13 rfl rfl)
theorem dX0_stepsBarred_37 : decode cX0_stepsBarred 37 = .ok (.iaload, 1) := dk_46 (dk_at dksX0_stepsBarred_1 14 rfl rfl)
theorem dX0_stepsBarred_38 : decode cX0_stepsBarred 38 = .ok (.bipush 6, 2) := dk_16 6 (dk_at dksX0_stepsBarred_1 15 rfl rfl)
theorem dX0_stepsBarred_40 : decode cX0_stepsBarred 40 = .ok (.if_icmp .ge 15, 3) := dk_162 0 15 (dk_at dksX0_stepsBarred_1 17 rfl rfl)
theorem dX0_stepsBarred_43 : decode cX0_stepsBarred 43 = .ok (.aload_n 0, 1) := dk_42 (dk_at dksX0_stepsBarred_1 20 rfl rfl)
theorem dX0_stepsBarred_44 : decode cX0_stepsBarred 44 = .ok (.aload_n 1, 1) := dk_43 (dk_at dksX0_stepsBarred_1 21 rfl rfl)
theorem dX0_stepsBarred_45 : decode cX0_stepsBarred 45 = .ok (.iload_n 2, 1) := dk_28 (dk_at dksX0_stepsBarred_1 22 rfl rfl)
theorem dX0_stepsBarred_46 : decode cX0_stepsBarred 46 = .ok (.iaload, 1) := dk_46 (dk_at dksX0_stepsBarred_1 23 rfl rfl)
theorem dX0_stepsBarred_47 : decode cX0_stepsBarred 47 = .ok (.invokevirtual 101, 3) := dk_182 0 101 (dk_at dksX0_stepsBarred_2 0 rfl rfl)
theorem dX0_stepsBarred_50 : decode cX0_stepsBarred 50 = .ok (.ifCond .eq 5, 3) := dk_153 0 5 (dk_at dksX0_stepsBarred_2 3 rfl rfl)
theorem dX0_stepsBarred_53 : decode cX0_stepsBarred 53 = .ok (.iconst (-1), 1) := dk_2 (dk_at dksX0_stepsBarred_2 6 rfl rfl)
theorem dX0_stepsBarred_54 : decode cX0_stepsBarred 54 = .ok (.ireturn, 1) := dk_172 (dk_at dksX0_stepsBarred_2 7 rfl rfl)
theorem dX0_stepsBarred_55 : decode cX0_stepsBarred 55 = .ok (.iinc 2 1, 3) := dk_132 2 1 (dk_at dksX0_stepsBarred_2 8 rfl rfl)
theorem dX0_stepsBarred_58 : decode cX0_stepsBarred 58 = .ok (.goto (-46), 3) := dk_167 255 210 (dk_at dksX0_stepsBarred_2 11 rfl rfl)
theorem dX0_stepsBarred_61 : decode cX0_stepsBarred 61 = .ok (.iconst 0, 1) := dk_3 (dk_at dksX0_stepsBarred_2 14 rfl rfl)
theorem dX0_stepsBarred_62 : decode cX0_stepsBarred 62 = .ok (.ireturn, 1) := dk_172 (dk_at dksX0_stepsBarred_2 15 rfl rfl)
abbrev cX0_wayBy : ByteArray := prog_1_method_29_code
def yX0_wayBy : MethodName := ⟨RX0, "wayBy", "([III)I"⟩
def dkwX0_wayBy_6 : List UInt8 := [42, 180, 0, 190, 172, 42, 180, 0, 187, 172, 42, 180, 0, 193, 172, 42, 180, 0, 184, 172]
abbrev dktX0_wayBy_6 : List UInt8 := dkwX0_wayBy_6 ++ []
def dkwX0_wayBy_5 : List UInt8 := [170, 0, 0, 0, 0, 45, 0, 0, 0, 0, 0, 0, 0, 3, 0, 0, 0, 30, 0, 0, 0, 45, 0, 0, 0, 35, 0, 0, 0, 40]
abbrev dktX0_wayBy_5 : List UInt8 := dkwX0_wayBy_5 ++ dktX0_wayBy_6
def dkwX0_wayBy_4 : List UInt8 := [21, 4, 100, 172, 29]
abbrev dktX0_wayBy_4 : List UInt8 := dkwX0_wayBy_4 ++ dktX0_wayBy_5
def dkwX0_wayBy_3 : List UInt8 := [54, 4, 132, 5, 1, 167, 255, 208, 29, 4, 160, 0, 6, 21, 4, 172, 21, 4, 155, 0, 9, 16, 156]
abbrev dktX0_wayBy_3 : List UInt8 := dkwX0_wayBy_3 ++ dktX0_wayBy_4
def dkwX0_wayBy_2 : List UInt8 := [184, 0, 162, 153, 0, 19, 42, 43, 21, 5, 46, 182, 0, 196, 153, 0, 8, 16, 247, 167, 0, 5, 21, 5]
abbrev dktX0_wayBy_2 : List UInt8 := dkwX0_wayBy_2 ++ dktX0_wayBy_3
def dkwX0_wayBy_1 : List UInt8 := [3, 54, 5, 21, 5, 43, 190, 162, 0, 47, 21, 4, 156, 0, 42, 42, 180, 0, 15, 3, 46, 28]
abbrev dktX0_wayBy_1 : List UInt8 := dkwX0_wayBy_1 ++ dktX0_wayBy_2
def dkwX0_wayBy_0 : List UInt8 := [42, 28, 181, 0, 190, 42, 3, 181, 0, 193, 42, 3, 181, 0, 184, 42, 3, 181, 0, 187, 16, 247, 54, 4]
abbrev dktX0_wayBy_0 : List UInt8 := dkwX0_wayBy_0 ++ dktX0_wayBy_1
theorem dksX0_wayBy_0 : cX0_wayBy.data.toList.drop 0 = dktX0_wayBy_0 := by decide +kernel
theorem dksX0_wayBy_1 : cX0_wayBy.data.toList.drop 24 = dktX0_wayBy_1 := dk_seg dksX0_wayBy_0 24 rfl rfl
theorem dksX0_wayBy_2 : cX0_wayBy.data.toList.drop 46 = dktX0_wayBy_2 := dk_seg dksX0_wayBy_1 22 rfl rfl
theorem dksX0_wayBy_3 : cX0_wayBy.data.toList.drop 70 = dktX0_wayBy_3 := dk_seg dksX0_wayBy_2 24 rfl rfl
theorem dksX0_wayBy_4 : cX0_wayBy.data.toList.drop 93 = dktX0_wayBy_4 := dk_seg dksX0_wayBy_3 23 rfl rfl
theorem dksX0_wayBy_5 : cX0_wayBy.data.toList.drop 98 = dktX0_wayBy_5 := dk_seg dksX0_wayBy_4 5 rfl rfl
theorem dksX0_wayBy_6 : cX0_wayBy.data.toList.drop 128 = dktX0_wayBy_6 := dk_seg dksX0_wayBy_5 30 rfl rfl
theorem dX0_wayBy_0 : decode cX0_wayBy 0 = .ok (.aload_n 0, 1) := dk_42 (dk_at dksX0_wayBy_0 0 rfl rfl)
theorem dX0_wayBy_1 : decode cX0_wayBy 1 = .ok (.iload_n 2, 1) := dk_28 (dk_at dksX0_wayBy_0 1 rfl rfl)
theorem dX0_wayBy_2 : decode cX0_wayBy 2 = .ok (.putfield 190, 3) := dk_181 0 190 (dk_at dksX0_wayBy_0 2 rfl rfl)
theorem dX0_wayBy_5 : decode cX0_wayBy 5 = .ok (.aload_n 0, 1) := dk_42 (dk_at dksX0_wayBy_0 5 rfl rfl)
theorem dX0_wayBy_6 : decode cX0_wayBy 6 = .ok (.iconst 0, 1) := dk_3 (dk_at dksX0_wayBy_0 6 rfl rfl)
theorem dX0_wayBy_7 : decode cX0_wayBy 7 = .ok (.putfield 193, 3) := dk_181 0 193 (dk_at dksX0_wayBy_0 7 rfl rfl)
theorem dX0_wayBy_10 : decode cX0_wayBy 10 = .ok (.aload_n 0, 1) := dk_42 (dk_at dksX0_wayBy_0 10 rfl rfl)
theorem dX0_wayBy_11 : decode cX0_wayBy 11 = .ok (.iconst 0, 1) := dk_3 (dk_at dksX0_wayBy_0 11 rfl rfl)
theorem dX0_wayBy_12 : decode cX0_wayBy 12 = .ok (.putfield 184, 3) := dk_181 0 184 (dk_at dksX0_wayBy_0 12 rfl rfl)
theorem dX0_wayBy_15 : decode cX0_wayBy 15 = .ok (.aload_n 0, 1) := dk_42 (dk_at dksX0_wayBy_0 15 rfl rfl)
theorem dX0_wayBy_16 : decode cX0_wayBy 16 = .ok (.iconst 0, 1) := dk_3 (dk_at dksX0_wayBy_0 16 rfl rfl)
theorem dX0_wayBy_17 : decode cX0_wayBy 17 = .ok (.putfield 187, 3) := dk_181 0 187 (dk_at dksX0_wayBy_0 17 rfl rfl)
theorem dX0_wayBy_20 : decode cX0_wayBy 20 = .ok (.bipush (-9), 2) := dk_16 247 (dk_at dksX0_wayBy_0 20 rfl rfl)
theorem dX0_wayBy_22 : decode cX0_wayBy 22 = .ok (.istore 4, 2) := dk_54 4 (dk_at dksX0_wayBy_0 22 rfl rfl)
theorem dX0_wayBy_24 : decode cX0_wayBy 24 = .ok (.iconst 0, 1) := dk_3 (dk_at dksX0_wayBy_1 0 rfl rfl)
theorem dX0_wayBy_25 : decode cX0_wayBy 25 = .ok (.istore 5, 2) := dk_54 5 (dk_at dksX0_wayBy_1 1 rfl rfl)
theorem dX0_wayBy_27 : decode cX0_wayBy 27 = .ok (.iload 5, 2) := dk_21 5 (dk_at dksX0_wayBy_1 3 rfl rfl)
theorem dX0_wayBy_29 : decode cX0_wayBy 29 = .ok (.aload_n 1, 1) := dk_43 (dk_at dksX0_wayBy_1 5 rfl rfl)
theorem dX0_wayBy_30 : decode cX0_wayBy 30 = .ok (.arraylength, 1) := dk_190 (dk_at dksX0_wayBy_1 6 rfl rfl)
theorem dX0_wayBy_31 : decode cX0_wayBy 31 = .ok (.if_icmp .ge 47, 3) := dk_162 0 47 (dk_at dksX0_wayBy_1 7 rfl rfl)
theorem dX0_wayBy_34 : decode cX0_wayBy 34 = .ok (.iload 4, 2) := dk_21 4 (dk_at dksX0_wayBy_1 10 rfl rfl)
theorem dX0_wayBy_36 : decode cX0_wayBy 36 = .ok (.ifCond .ge 42, 3) := dk_156 0 42 (dk_at dksX0_wayBy_1 12 rfl rfl)
theorem dX0_wayBy_39 : decode cX0_wayBy 39 = .ok (.aload_n 0, 1) := dk_42 (dk_at dksX0_wayBy_1 15 rfl rfl)
theorem dX0_wayBy_40 : decode cX0_wayBy 40 = .ok (.getfield 15, 3) := dk_180 0 15 (dk_at dksX0_wayBy_1 16 rfl rfl)
theorem dX0_wayBy_43 : decode cX0_wayBy 43 = .ok (.iconst 0, 1) := dk_3 (dk_at dksX0_wayBy_1 19 rfl rfl)
theorem dX0_wayBy_44 : decode cX0_wayBy 44 = .ok (.iaload, 1) := dk_46 (dk_at dksX0_wayBy_1 20 rfl rfl)
theorem dX0_wayBy_45 : decode cX0_wayBy 45 = .ok (.iload_n 2, 1) := dk_28 (dk_at dksX0_wayBy_1 21 rfl rfl)
theorem dX0_wayBy_46 : decode cX0_wayBy 46 = .ok (.invokestatic 162, 3) := dk_184 0 162 (dk_at dksX0_wayBy_2 0 rfl rfl)
theorem dX0_wayBy_49 : decode cX0_wayBy 49 = .ok (.ifCond .eq 19, 3) := dk_153 0 19 (dk_at dksX0_wayBy_2 3 rfl rfl)
theorem dX0_wayBy_52 : decode cX0_wayBy 52 = .ok (.aload_n 0, 1) := dk_42 (dk_at dksX0_wayBy_2 6 rfl rfl)
theorem dX0_wayBy_53 : decode cX0_wayBy 53 = .ok (.aload_n 1, 1) := dk_43 (dk_at dksX0_wayBy_2 7 rfl rfl)
theorem dX0_wayBy_54 : decode cX0_wayBy 54 = .ok (.iload 5, 2) := dk_21 5 (dk_at dksX0_wayBy_2 8 rfl rfl)
theorem dX0_wayBy_56 : decode cX0_wayBy 56 = .ok (.iaload, 1) := dk_46 (dk_at dksX0_wayBy_2 10 rfl rfl)
theorem dX0_wayBy_57 : decode cX0_wayBy 57 = .ok (.invokevirtual 196, 3) := dk_182 0 196 (dk_at dksX0_wayBy_2 11 rfl rfl)
theorem dX0_wayBy_60 : decode cX0_wayBy 60 = .ok (.ifCond .eq 8, 3) := dk_153 0 8 (dk_at dksX0_wayBy_2 14 rfl rfl)
theorem dX0_wayBy_63 : decode cX0_wayBy 63 = .ok (.bipush (-9), 2) := dk_16 247 (dk_at dksX0_wayBy_2 17 rfl rfl)
theorem dX0_wayBy_65 : decode cX0_wayBy 65 = .ok (.goto 5, 3) := dk_167 0 5 (dk_at dksX0_wayBy_2 19 rfl rfl)
theorem dX0_wayBy_68 : decode cX0_wayBy 68 = .ok (.iload 5, 2) := dk_21 5 (dk_at dksX0_wayBy_2 22 rfl rfl)
theorem dX0_wayBy_70 : decode cX0_wayBy 70 = .ok (.istore 4, 2) := dk_54 4 (dk_at dksX0_wayBy_3 0 rfl rfl)
theorem dX0_wayBy_72 : decode cX0_wayBy 72 = .ok (.iinc 5 1, 3) := dk_132 5 1 (dk_at dksX0_wayBy_3 2 rfl rfl)
theorem dX0_wayBy_75 : decode cX0_wayBy 75 = .ok (.goto (-48), 3) := dk_167 255 208 (dk_at dksX0_wayBy_3 5 rfl rfl)
theorem dX0_wayBy_78 : decode cX0_wayBy 78 = .ok (.iload_n 3, 1) := dk_29 (dk_at dksX0_wayBy_3 8 rfl rfl)
theorem dX0_wayBy_79 : decode cX0_wayBy 79 = .ok (.iconst 1, 1) := dk_4 (dk_at dksX0_wayBy_3 9 rfl rfl)
theorem dX0_wayBy_80 : decode cX0_wayBy 80 = .ok (.if_icmp .ne 6, 3) := dk_160 0 6 (dk_at dksX0_wayBy_3 10 rfl rfl)
theorem dX0_wayBy_83 : decode cX0_wayBy 83 = .ok (.iload 4, 2) := dk_21 4 (dk_at dksX0_wayBy_3 13 rfl rfl)
theorem dX0_wayBy_85 : decode cX0_wayBy 85 = .ok (.ireturn, 1) := dk_172 (dk_at dksX0_wayBy_3 15 rfl rfl)
theorem dX0_wayBy_86 : decode cX0_wayBy 86 = .ok (.iload 4, 2) := dk_21 4 (dk_at dksX0_wayBy_3 16 rfl rfl)
theorem dX0_wayBy_88 : decode cX0_wayBy 88 = .ok (.ifCond .lt 9, 3) := dk_155 0 9 (dk_at dksX0_wayBy_3 18 rfl rfl)
theorem dX0_wayBy_91 : decode cX0_wayBy 91 = .ok (.bipush (-100), 2) := dk_16 156 (dk_at dksX0_wayBy_3 21 rfl rfl)
theorem dX0_wayBy_93 : decode cX0_wayBy 93 = .ok (.iload 4, 2) := dk_21 4 (dk_at dksX0_wayBy_4 0 rfl rfl)
theorem dX0_wayBy_95 : decode cX0_wayBy 95 = .ok (.isub, 1) := dk_100 (dk_at dksX0_wayBy_4 2 rfl rfl)
theorem dX0_wayBy_96 : decode cX0_wayBy 96 = .ok (.ireturn, 1) := dk_172 (dk_at dksX0_wayBy_4 3 rfl rfl)
theorem dX0_wayBy_97 : decode cX0_wayBy 97 = .ok (.iload_n 3, 1) := dk_29 (dk_at dksX0_wayBy_4 4 rfl rfl)
theorem dX0_wayBy_98 : decode cX0_wayBy 98 = .ok (.tableswitch 45 0 3 #[30, 45, 35, 40], 30) := by decide +kernel
theorem dX0_wayBy_128 : decode cX0_wayBy 128 = .ok (.aload_n 0, 1) := dk_42 (dk_at dksX0_wayBy_6 0 rfl rfl)
theorem dX0_wayBy_129 : decode cX0_wayBy 129 = .ok (.getfield 190, 3) := dk_180 0 190 (dk_at dksX0_wayBy_6 1 rfl rfl)
theorem dX0_wayBy_132 : decode cX0_wayBy 132 = .ok (.ireturn, 1) := dk_172 (dk_at dksX0_wayBy_6 4 rfl rfl)
theorem dX0_wayBy_133 : decode cX0_wayBy 133 = .ok (.aload_n 0, 1) := dk_42 (dk_at dksX0_wayBy_6 5 rfl rfl)
theorem dX0_wayBy_134 : decode cX0_wayBy 134 = .ok (.getfield 187, 3) := dk_180 0 187 (dk_at dksX0_wayBy_6 6 rfl rfl)
theorem dX0_wayBy_137 : decode cX0_wayBy 137 = .ok (.ireturn, 1) := dk_172 (dk_at dksX0_wayBy_6 9 rfl rfl)
theorem dX0_wayBy_138 : decode cX0_wayBy 138 = .ok (.aload_n 0, 1) := dk_42 (dk_at dksX0_wayBy_6 10 rfl rfl)
theorem dX0_wayBy_139 : decode cX0_wayBy 139 = .ok (.getfield 193, 3) := dk_180 0 193 (dk_at dksX0_wayBy_6 11 rfl rfl)
theorem dX0_wayBy_142 : decode cX0_wayBy 142 = .ok (.ireturn, 1) := dk_172 (dk_at dksX0_wayBy_6 14 rfl rfl)
theorem dX0_wayBy_143 : decode cX0_wayBy 143 = .ok (.aload_n 0, 1) := dk_42 (dk_at dksX0_wayBy_6 15 rfl rfl)
theorem dX0_wayBy_144 : decode cX0_wayBy 144 = .ok (.getfield 184, 3) := dk_180 0 184 (dk_at dksX0_wayBy_6 16 rfl rfl)
theorem dX0_wayBy_147 : decode cX0_wayBy 147 = .ok (.ireturn, 1) := dk_172 (dk_at dksX0_wayBy_6 19 rfl rfl)
abbrev cX0_goStep : ByteArray := prog_1_method_28_code
def yX0_goStep : MethodName := ⟨RX0, "goStep", "(I)Z"⟩
def dkwX0_goStep_9 : List UInt8 := [96, 181, 0, 190, 29, 172]
abbrev dktX0_goStep_9 : List UInt8 := dkwX0_goStep_9 ++ []
def dkwX0_goStep_8 : List UInt8 := [153, 0, 28, 42, 44, 42, 180, 0, 193, 182, 0, 158, 181, 0, 193, 42, 89, 180, 0, 190, 44, 182, 0, 125]
abbrev dktX0_goStep_8 : List UInt8 := dkwX0_goStep_8 ++ dktX0_goStep_9
def dkwX0_goStep_7 : List UInt8 := [153, 0, 21, 42, 180, 0, 190, 44, 182, 0, 125, 96, 16, 8, 162, 0, 7, 4, 167, 0, 4, 3, 62, 29]
abbrev dktX0_goStep_7 : List UInt8 := dkwX0_goStep_7 ++ dktX0_goStep_8
def dkwX0_goStep_6 : List UInt8 := [192, 0, 37, 77, 44, 42, 180, 0, 193, 182, 0, 158, 155, 0, 32, 44, 42, 180, 0, 190, 182, 0, 141]
abbrev dktX0_goStep_6 : List UInt8 := dkwX0_goStep_6 ++ dktX0_goStep_7
def dkwX0_goStep_5 : List UInt8 := [153, 0, 7, 4, 167, 0, 4, 3, 96, 181, 0, 184, 28, 172, 42, 180, 0, 21, 27, 185, 0, 105, 2, 0]
abbrev dktX0_goStep_5 : List UInt8 := dkwX0_goStep_5 ++ dktX0_goStep_6
def dkwX0_goStep_4 : List UInt8 := [42, 180, 0, 190, 184, 0, 162, 153, 0, 7, 4, 167, 0, 4, 3, 61, 42, 89, 180, 0, 184, 28]
abbrev dktX0_goStep_4 : List UInt8 := dkwX0_goStep_4 ++ dktX0_goStep_5
def dkwX0_goStep_3 : List UInt8 := [100, 160, 0, 37, 42, 180, 0, 184, 27, 16, 7, 100, 160, 0, 26, 42, 180, 0, 15, 42, 180, 0, 193, 46]
abbrev dktX0_goStep_3 : List UInt8 := dkwX0_goStep_3 ++ dktX0_goStep_4
def dkwX0_goStep_2 : List UInt8 := [167, 0, 4, 3, 172, 27, 16, 7, 159, 0, 9, 27, 16, 8, 160, 0, 70, 42, 180, 0, 193, 27, 16, 6]
abbrev dktX0_goStep_2 : List UInt8 := dkwX0_goStep_2 ++ dktX0_goStep_3
def dkwX0_goStep_1 : List UInt8 := [181, 0, 187, 42, 89, 180, 0, 190, 4, 96, 181, 0, 190, 42, 180, 0, 190, 16, 8, 162, 0, 7, 4]
abbrev dktX0_goStep_1 : List UInt8 := dkwX0_goStep_1 ++ dktX0_goStep_2
def dkwX0_goStep_0 : List UInt8 := [42, 180, 0, 184, 5, 160, 0, 5, 3, 172, 27, 16, 6, 160, 0, 38, 42, 89, 180, 0, 187, 4, 96]
abbrev dktX0_goStep_0 : List UInt8 := dkwX0_goStep_0 ++ dktX0_goStep_1
theorem dksX0_goStep_0 : cX0_goStep.data.toList.drop 0 = dktX0_goStep_0 := by decide +kernel
theorem dksX0_goStep_1 : cX0_goStep.data.toList.drop 23 = dktX0_goStep_1 := dk_seg dksX0_goStep_0 23 rfl rfl
theorem dksX0_goStep_2 : cX0_goStep.data.toList.drop 46 = dktX0_goStep_2 := dk_seg dksX0_goStep_1 23 rfl rfl
theorem dksX0_goStep_3 : cX0_goStep.data.toList.drop 70 = dktX0_goStep_3 := dk_seg dksX0_goStep_2 24 rfl rfl
theorem dksX0_goStep_4 : cX0_goStep.data.toList.drop 94 = dktX0_goStep_4 := dk_seg dksX0_goStep_3 24 rfl rfl
theorem dksX0_goStep_5 : cX0_goStep.data.toList.drop 116 = dktX0_goStep_5 := dk_seg dksX0_goStep_4 22 rfl rfl
theorem dksX0_goStep_6 : cX0_goStep.data.toList.drop 140 = dktX0_goStep_6 := dk_seg dksX0_goStep_5 24 rfl rfl
theorem dksX0_goStep_7 : cX0_goStep.data.toList.drop 163 = dktX0_goStep_7 := dk_seg dksX0_goStep_6 23 rfl rfl
theorem dksX0_goStep_8 : cX0_goStep.data.toList.drop 187 = dktX0_goStep_8 := dk_seg dksX0_goStep_7 24 rfl rfl
theorem dksX0_goStep_9 : cX0_goStep.data.toList.drop 211 = dktX0_goStep_9 := dk_seg dksX0_goStep_8 24 rfl rfl
theorem dX0_goStep_0 : decode cX0_goStep 0 = .ok (.aload_n 0, 1) := dk_42 (dk_at dksX0_goStep_0 0 rfl rfl)
theorem dX0_goStep_1 : decode cX0_goStep 1 = .ok (.getfield 184, 3) := dk_180 0 184 (dk_at dksX0_goStep_0 1 rfl rfl)
theorem dX0_goStep_4 : decode cX0_goStep 4 = .ok (.iconst 2, 1) := dk_5 (dk_at dksX0_goStep_0 4 rfl rfl)
theorem dX0_goStep_5 : decode cX0_goStep 5 = .ok (.if_icmp .ne 5, 3) := dk_160 0 5 (dk_at dksX0_goStep_0 5 rfl rfl)
theorem dX0_goStep_8 : decode cX0_goStep 8 = .ok (.iconst 0, 1) := dk_3 (dk_at dksX0_goStep_0 8 rfl rfl)
theorem dX0_goStep_9 : decode cX0_goStep 9 = .ok (.ireturn, 1) := dk_172 (dk_at dksX0_goStep_0 9 rfl rfl)
theorem dX0_goStep_10 : decode cX0_goStep 10 = .ok (.iload_n 1, 1) := dk_27 (dk_at dksX0_goStep_0 10 rfl rfl)
theorem dX0_goStep_11 : decode cX0_goStep 11 = .ok (.bipush 6, 2) := dk_16 6 (dk_at dksX0_goStep_0 11 rfl rfl)
theorem dX0_goStep_13 : decode cX0_goStep 13 = .ok (.if_icmp .ne 38, 3) := dk_160 0 38 (dk_at dksX0_goStep_0 13 rfl rfl)
theorem dX0_goStep_16 : decode cX0_goStep 16 = .ok (.aload_n 0, 1) := dk_42 (dk_at dksX0_goStep_0 16 rfl rfl)
theorem dX0_goStep_17 : decode cX0_goStep 17 = .ok (.dup, 1) := dk_89 (dk_at dksX0_goStep_0 17 rfl rfl)
theorem dX0_goStep_18 : decode cX0_goStep 18 = .ok (.getfield 187, 3) := dk_180 0 187 (dk_at dksX0_goStep_0 18 rfl rfl)
theorem dX0_goStep_21 : decode cX0_goStep 21 = .ok (.iconst 1, 1) := dk_4 (dk_at dksX0_goStep_0 21 rfl rfl)
theorem dX0_goStep_22 : decode cX0_goStep 22 = .ok (.iadd, 1) := dk_96 (dk_at dksX0_goStep_0 22 rfl rfl)
theorem dX0_goStep_23 : decode cX0_goStep 23 = .ok (.putfield 187, 3) := dk_181 0 187 (dk_at dksX0_goStep_1 0 rfl rfl)
theorem dX0_goStep_26 : decode cX0_goStep 26 = .ok (.aload_n 0, 1) := dk_42 (dk_at dksX0_goStep_1 3 rfl rfl)
theorem dX0_goStep_27 : decode cX0_goStep 27 = .ok (.dup, 1) := dk_89 (dk_at dksX0_goStep_1 4 rfl rfl)
theorem dX0_goStep_28 : decode cX0_goStep 28 = .ok (.getfield 190, 3) := dk_180 0 190 (dk_at dksX0_goStep_1 5 rfl rfl)
theorem dX0_goStep_31 : decode cX0_goStep 31 = .ok (.iconst 1, 1) := dk_4 (dk_at dksX0_goStep_1 8 rfl rfl)
theorem dX0_goStep_32 : decode cX0_goStep 32 = .ok (.iadd, 1) := dk_96 (dk_at dksX0_goStep_1 9 rfl rfl)
theorem dX0_goStep_33 : decode cX0_goStep 33 = .ok (.putfield 190, 3) := dk_181 0 190 (dk_at dksX0_goStep_1 10 rfl rfl)
theorem dX0_goStep_36 : decode cX0_goStep 36 = .ok (.aload_n 0, 1) := dk_42 (dk_at dksX0_goStep_1 13 rfl rfl)
theorem dX0_goStep_37 : decode cX0_goStep 37 = .ok (.getfield 190, 3) := dk_180 0 190 (dk_at dksX0_goStep_1 14 rfl rfl)
theorem dX0_goStep_40 : decode cX0_goStep 40 = .ok (.bipush 8, 2) := dk_16 8 (dk_at dksX0_goStep_1 17 rfl rfl)
theorem dX0_goStep_42 : decode cX0_goStep 42 = .ok (.if_icmp .ge 7, 3) := dk_162 0 7 (dk_at dksX0_goStep_1 19 rfl rfl)
theorem dX0_goStep_45 : decode cX0_goStep 45 = .ok (.iconst 1, 1) := dk_4 (dk_at dksX0_goStep_1 22 rfl rfl)
theorem dX0_goStep_46 : decode cX0_goStep 46 = .ok (.goto 4, 3) := dk_167 0 4 (dk_at dksX0_goStep_2 0 rfl rfl)
theorem dX0_goStep_49 : decode cX0_goStep 49 = .ok (.iconst 0, 1) := dk_3 (dk_at dksX0_goStep_2 3 rfl rfl)
theorem dX0_goStep_50 : decode cX0_goStep 50 = .ok (.ireturn, 1) := dk_172 (dk_at dksX0_goStep_2 4 rfl rfl)
theorem dX0_goStep_51 : decode cX0_goStep 51 = .ok (.iload_n 1, 1) := dk_27 (dk_at dksX0_goStep_2 5 rfl rfl)
theorem dX0_goStep_52 : decode cX0_goStep 52 = .ok (.bipush 7, 2) := dk_16 7 (dk_at dksX0_goStep_2 6 rfl rfl)
theorem dX0_goStep_54 : decode cX0_goStep 54 = .ok (.if_icmp .eq 9, 3) := dk_159 0 9 (dk_at dksX0_goStep_2 8 rfl rfl)
theorem dX0_goStep_57 : decode cX0_goStep 57 = .ok (.iload_n 1, 1) := dk_27 (dk_at dksX0_goStep_2 11 rfl rfl)
theorem dX0_goStep_58 : decode cX0_goStep 58 = .ok (.bipush 8, 2) := dk_16 8 (dk_at dksX0_goStep_2 12 rfl rfl)
theorem dX0_goStep_60 : decode cX0_goStep 60 = .ok (.if_icmp .ne 70, 3) := dk_160 0 70 (dk_at dksX0_goStep_2 14 rfl rfl)
theorem dX0_goStep_63 : decode cX0_goStep 63 = .ok (.aload_n 0, 1) := dk_42 (dk_at dksX0_goStep_2 17 rfl rfl)
theorem dX0_goStep_64 : decode cX0_goStep 64 = .ok (.getfield 193, 3) := dk_180 0 193 (dk_at dksX0_goStep_2 18 rfl rfl)
theorem dX0_goStep_67 : decode cX0_goStep 67 = .ok (.iload_n 1, 1) := dk_27 (dk_at dksX0_goStep_2 21 rfl rfl)
theorem dX0_goStep_68 : decode cX0_goStep 68 = .ok (.bipush 6, 2) := dk_16 6 (dk_at dksX0_goStep_2 22 rfl rfl)
theorem dX0_goStep_70 : decode cX0_goStep 70 = .ok (.isub, 1) := dk_100 (dk_at dksX0_goStep_3 0 rfl rfl)
theorem dX0_goStep_71 : decode cX0_goStep 71 = .ok (.if_icmp .ne 37, 3) := dk_160 0 37 (dk_at dksX0_goStep_3 1 rfl rfl)
theorem dX0_goStep_74 : decode cX0_goStep 74 = .ok (.aload_n 0, 1) := dk_42 (dk_at dksX0_goStep_3 4 rfl rfl)
theorem dX0_goStep_75 : decode cX0_goStep 75 = .ok (.getfield 184, 3) := dk_180 0 184 (dk_at dksX0_goStep_3 5 rfl rfl)
theorem dX0_goStep_78 : decode cX0_goStep 78 = .ok (.iload_n 1, 1) := dk_27 (dk_at dksX0_goStep_3 8 rfl rfl)
theorem dX0_goStep_79 : decode cX0_goStep 79 = .ok (.bipush 7, 2) := dk_16 7 (dk_at dksX0_goStep_3 9 rfl rfl)
theorem dX0_goStep_81 : decode cX0_goStep 81 = .ok (.isub, 1) := dk_100 (dk_at dksX0_goStep_3 11 rfl rfl)
theorem dX0_goStep_82 : decode cX0_goStep 82 = .ok (.if_icmp .ne 26, 3) := dk_160 0 26 (dk_at dksX0_goStep_3 12 rfl rfl)
theorem dX0_goStep_85 : decode cX0_goStep 85 = .ok (.aload_n 0, 1) := dk_42 (dk_at dksX0_goStep_3 15 rfl rfl)
theorem dX0_goStep_86 : decode cX0_goStep 86 = .ok (.getfield 15, 3) := dk_180 0 15 (dk_at dksX0_goStep_3 16 rfl rfl)
theorem dX0_goStep_89 : decode cX0_goStep 89 = .ok (.aload_n 0, 1) := dk_42 (dk_at dksX0_goStep_3 19 rfl rfl)
theorem dX0_goStep_90 : decode cX0_goStep 90 = .ok (.getfield 193, 3) := dk_180 0 193 (dk_at dksX0_goStep_3 20 rfl rfl)
theorem dX0_goStep_93 : decode cX0_goStep 93 = .ok (.iaload, 1) := dk_46 (dk_at dksX0_goStep_3 23 rfl rfl)
theorem dX0_goStep_94 : decode cX0_goStep 94 = .ok (.aload_n 0, 1) := dk_42 (dk_at dksX0_goStep_4 0 rfl rfl)
theorem dX0_goStep_95 : decode cX0_goStep 95 = .ok (.getfield 190, 3) := dk_180 0 190 (dk_at dksX0_goStep_4 1 rfl rfl)
theorem dX0_goStep_98 : decode cX0_goStep 98 = .ok (.invokestatic 162, 3) := dk_184 0 162 (dk_at dksX0_goStep_4 4 rfl rfl)
theorem dX0_goStep_101 : decode cX0_goStep 101 = .ok (.ifCond .eq 7, 3) := dk_153 0 7 (dk_at dksX0_goStep_4 7 rfl rfl)
theorem dX0_goStep_104 : decode cX0_goStep 104 = .ok (.iconst 1, 1) := dk_4 (dk_at dksX0_goStep_4 10 rfl rfl)
theorem dX0_goStep_105 : decode cX0_goStep 105 = .ok (.goto 4, 3) := dk_167 0 4 (dk_at dksX0_goStep_4 11 rfl rfl)
theorem dX0_goStep_108 : decode cX0_goStep 108 = .ok (.iconst 0, 1) := dk_3 (dk_at dksX0_goStep_4 14 rfl rfl)
theorem dX0_goStep_109 : decode cX0_goStep 109 = .ok (.istore_n 2, 1) := dk_61 (dk_at dksX0_goStep_4 15 rfl rfl)
theorem dX0_goStep_110 : decode cX0_goStep 110 = .ok (.aload_n 0, 1) := dk_42 (dk_at dksX0_goStep_4 16 rfl rfl)
theorem dX0_goStep_111 : decode cX0_goStep 111 = .ok (.dup, 1) := dk_89 (dk_at dksX0_goStep_4 17 rfl rfl)
theorem dX0_goStep_112 : decode cX0_goStep 112 = .ok (.getfield 184, 3) := dk_180 0 184 (dk_at dksX0_goStep_4 18 rfl rfl)
theorem dX0_goStep_115 : decode cX0_goStep 115 = .ok (.iload_n 2, 1) := dk_28 (dk_at dksX0_goStep_4 21 rfl rfl)
theorem dX0_goStep_116 : decode cX0_goStep 116 = .ok (.ifCond .eq 7, 3) := dk_153 0 7 (dk_at dksX0_goStep_5 0 rfl rfl)
theorem dX0_goStep_119 : decode cX0_goStep 119 = .ok (.iconst 1, 1) := dk_4 (dk_at dksX0_goStep_5 3 rfl rfl)
theorem dX0_goStep_120 : decode cX0_goStep 120 = .ok (.goto 4, 3) := dk_167 0 4 (dk_at dksX0_goStep_5 4 rfl rfl)
theorem dX0_goStep_123 : decode cX0_goStep 123 = .ok (.iconst 0, 1) := dk_3 (dk_at dksX0_goStep_5 7 rfl rfl)
theorem dX0_goStep_124 : decode cX0_goStep 124 = .ok (.iadd, 1) := dk_96 (dk_at dksX0_goStep_5 8 rfl rfl)
theorem dX0_goStep_125 : decode cX0_goStep 125 = .ok (.putfield 184, 3) := dk_181 0 184 (dk_at dksX0_goStep_5 9 rfl rfl)
theorem dX0_goStep_128 : decode cX0_goStep 128 = .ok (.iload_n 2, 1) := dk_28 (dk_at dksX0_goStep_5 12 rfl rfl)
theorem dX0_goStep_129 : decode cX0_goStep 129 = .ok (.ireturn, 1) := dk_172 (dk_at dksX0_goStep_5 13 rfl rfl)
theorem dX0_goStep_130 : decode cX0_goStep 130 = .ok (.aload_n 0, 1) := dk_42 (dk_at dksX0_goStep_5 14 rfl rfl)
theorem dX0_goStep_131 : decode cX0_goStep 131 = .ok (.getfield 21, 3) := dk_180 0 21 (dk_at dksX0_goStep_5 15 rfl rfl)
theorem dX0_goStep_134 : decode cX0_goStep 134 = .ok (.iload_n 1, 1) := dk_27 (dk_at dksX0_goStep_5 18 rfl rfl)
theorem dX0_goStep_135 : decode cX0_goStep 135 = .ok (.invokeinterface 105 2, 5) := by decide +kernel
theorem dX0_goStep_140 : decode cX0_goStep 140 = .ok (.checkcast 37, 3) := dk_192 0 37 (dk_at dksX0_goStep_6 0 rfl rfl)
theorem dX0_goStep_143 : decode cX0_goStep 143 = .ok (.astore_n 2, 1) := dk_77 (dk_at dksX0_goStep_6 3 rfl rfl)
theorem dX0_goStep_144 : decode cX0_goStep 144 = .ok (.aload_n 2, 1) := dk_44 (dk_at dksX0_goStep_6 4 rfl rfl)
theorem dX0_goStep_145 : decode cX0_goStep 145 = .ok (.aload_n 0, 1) := dk_42 (dk_at dksX0_goStep_6 5 rfl rfl)
theorem dX0_goStep_146 : decode cX0_goStep 146 = .ok (.getfield 193, 3) := dk_180 0 193 (dk_at dksX0_goStep_6 6 rfl rfl)
theorem dX0_goStep_149 : decode cX0_goStep 149 = .ok (.invokevirtual 158, 3) := dk_182 0 158 (dk_at dksX0_goStep_6 9 rfl rfl)
theorem dX0_goStep_152 : decode cX0_goStep 152 = .ok (.ifCond .lt 32, 3) := dk_155 0 32 (dk_at dksX0_goStep_6 12 rfl rfl)
theorem dX0_goStep_155 : decode cX0_goStep 155 = .ok (.aload_n 2, 1) := dk_44 (dk_at dksX0_goStep_6 15 rfl rfl)
theorem dX0_goStep_156 : decode cX0_goStep 156 = .ok (.aload_n 0, 1) := dk_42 (dk_at dksX0_goStep_6 16 rfl rfl)
theorem dX0_goStep_157 : decode cX0_goStep 157 = .ok (.getfield 190, 3) := dk_180 0 190 (dk_at dksX0_goStep_6 17 rfl rfl)
theorem dX0_goStep_160 : decode cX0_goStep 160 = .ok (.invokevirtual 141, 3) := dk_182 0 141 (dk_at dksX0_goStep_6 20 rfl rfl)
theorem dX0_goStep_163 : decode cX0_goStep 163 = .ok (.ifCond .eq 21, 3) := dk_153 0 21 (dk_at dksX0_goStep_7 0 rfl rfl)
theorem dX0_goStep_166 : decode cX0_goStep 166 = .ok (.aload_n 0, 1) := dk_42 (dk_at dksX0_goStep_7 3 rfl rfl)
theorem dX0_goStep_167 : decode cX0_goStep 167 = .ok (.getfield 190, 3) := dk_180 0 190 (dk_at dksX0_goStep_7 4 rfl rfl)
theorem dX0_goStep_170 : decode cX0_goStep 170 = .ok (.aload_n 2, 1) := dk_44 (dk_at dksX0_goStep_7 7 rfl rfl)
theorem dX0_goStep_171 : decode cX0_goStep 171 = .ok (.invokevirtual 125, 3) := dk_182 0 125 (dk_at dksX0_goStep_7 8 rfl rfl)
theorem dX0_goStep_174 : decode cX0_goStep 174 = .ok (.iadd, 1) := dk_96 (dk_at dksX0_goStep_7 11 rfl rfl)
theorem dX0_goStep_175 : decode cX0_goStep 175 = .ok (.bipush 8, 2) := dk_16 8 (dk_at dksX0_goStep_7 12 rfl rfl)
theorem dX0_goStep_177 : decode cX0_goStep 177 = .ok (.if_icmp .ge 7, 3) := dk_162 0 7 (dk_at dksX0_goStep_7 14 rfl rfl)
theorem dX0_goStep_180 : decode cX0_goStep 180 = .ok (.iconst 1, 1) := dk_4 (dk_at dksX0_goStep_7 17 rfl rfl)
theorem dX0_goStep_181 : decode cX0_goStep 181 = .ok (.goto 4, 3) := dk_167 0 4 (dk_at dksX0_goStep_7 18 rfl rfl)
theorem dX0_goStep_184 : decode cX0_goStep 184 = .ok (.iconst 0, 1) := dk_3 (dk_at dksX0_goStep_7 21 rfl rfl)
theorem dX0_goStep_185 : decode cX0_goStep 185 = .ok (.istore_n 3, 1) := dk_62 (dk_at dksX0_goStep_7 22 rfl rfl)
theorem dX0_goStep_186 : decode cX0_goStep 186 = .ok (.iload_n 3, 1) := dk_29 (dk_at dksX0_goStep_7 23 rfl rfl)
theorem dX0_goStep_187 : decode cX0_goStep 187 = .ok (.ifCond .eq 28, 3) := dk_153 0 28 (dk_at dksX0_goStep_8 0 rfl rfl)
theorem dX0_goStep_190 : decode cX0_goStep 190 = .ok (.aload_n 0, 1) := dk_42 (dk_at dksX0_goStep_8 3 rfl rfl)
theorem dX0_goStep_191 : decode cX0_goStep 191 = .ok (.aload_n 2, 1) := dk_44 (dk_at dksX0_goStep_8 4 rfl rfl)
theorem dX0_goStep_192 : decode cX0_goStep 192 = .ok (.aload_n 0, 1) := dk_42 (dk_at dksX0_goStep_8 5 rfl rfl)
theorem dX0_goStep_193 : decode cX0_goStep 193 = .ok (.getfield 193, 3) := dk_180 0 193 (dk_at dksX0_goStep_8 6 rfl rfl)
theorem dX0_goStep_196 : decode cX0_goStep 196 = .ok (.invokevirtual 158, 3) := dk_182 0 158 (dk_at dksX0_goStep_8 9 rfl rfl)
theorem dX0_goStep_199 : decode cX0_goStep 199 = .ok (.putfield 193, 3) := dk_181 0 193 (dk_at dksX0_goStep_8 12 rfl rfl)
theorem dX0_goStep_202 : decode cX0_goStep 202 = .ok (.aload_n 0, 1) := dk_42 (dk_at dksX0_goStep_8 15 rfl rfl)
theorem dX0_goStep_203 : decode cX0_goStep 203 = .ok (.dup, 1) := dk_89 (dk_at dksX0_goStep_8 16 rfl rfl)
theorem dX0_goStep_204 : decode cX0_goStep 204 = .ok (.getfield 190, 3) := dk_180 0 190 (dk_at dksX0_goStep_8 17 rfl rfl)
theorem dX0_goStep_207 : decode cX0_goStep 207 = .ok (.aload_n 2, 1) := dk_44 (dk_at dksX0_goStep_8 20 rfl rfl)
theorem dX0_goStep_208 : decode cX0_goStep 208 = .ok (.invokevirtual 125, 3) := dk_182 0 125 (dk_at dksX0_goStep_8 21 rfl rfl)
theorem dX0_goStep_211 : decode cX0_goStep 211 = .ok (.iadd, 1) := dk_96 (dk_at dksX0_goStep_9 0 rfl rfl)
theorem dX0_goStep_212 : decode cX0_goStep 212 = .ok (.putfield 190, 3) := dk_181 0 190 (dk_at dksX0_goStep_9 1 rfl rfl)
theorem dX0_goStep_215 : decode cX0_goStep 215 = .ok (.iload_n 3, 1) := dk_29 (dk_at dksX0_goStep_9 4 rfl rfl)
theorem dX0_goStep_216 : decode cX0_goStep 216 = .ok (.ireturn, 1) := dk_172 (dk_at dksX0_goStep_9 5 rfl rfl)
abbrev cX0_newLand : ByteArray := prog_1_method_14_code
def yX0_newLand : MethodName := ⟨RX0, "newLand", "([I)I"⟩
def dkwX0_newLand_19 : List UInt8 := [185, 0, 94, 1, 0, 42, 180, 0, 21, 185, 0, 54, 1, 0, 172]
abbrev dktX0_newLand_19 : List UInt8 := dkwX0_newLand_19 ++ []
def dkwX0_newLand_18 : List UInt8 := [185, 0, 94, 1, 0, 42, 180, 0, 21, 45, 185, 0, 97, 2, 0, 87, 42, 180, 0, 28]
abbrev dktX0_newLand_18 : List UInt8 := dkwX0_newLand_18 ++ dktX0_newLand_19
def dkwX0_newLand_17 : List UInt8 := [21, 4, 43, 16, 10, 7, 21, 4, 104, 96, 184, 0, 91, 79, 132, 4, 1, 167, 255, 229, 42, 180, 0, 21]
abbrev dktX0_newLand_17 : List UInt8 := dkwX0_newLand_17 ++ dktX0_newLand_18
def dkwX0_newLand_16 : List UInt8 := [184, 0, 74, 79, 132, 4, 1, 167, 255, 231, 3, 54, 4, 21, 4, 6, 162, 0, 27, 42, 180, 0, 15]
abbrev dktX0_newLand_16 : List UInt8 := dkwX0_newLand_16 ++ dktX0_newLand_17
def dkwX0_newLand_15 : List UInt8 := [167, 255, 22, 3, 54, 4, 21, 4, 16, 8, 162, 0, 24, 42, 180, 0, 11, 21, 4, 43, 4, 21, 4, 96]
abbrev dktX0_newLand_15 : List UInt8 := dkwX0_newLand_15 ++ dktX0_newLand_16
def dkwX0_newLand_14 : List UInt8 := [184, 0, 74, 43, 28, 8, 96, 184, 0, 74, 182, 0, 83, 185, 0, 87, 2, 0, 87, 132, 2, 6]
abbrev dktX0_newLand_14 : List UInt8 := dkwX0_newLand_14 ++ dktX0_newLand_15
def dkwX0_newLand_13 : List UInt8 := [185, 0, 54, 1, 0, 43, 28, 5, 96, 184, 0, 74, 43, 28, 6, 96, 184, 0, 74, 43, 28, 7, 96]
abbrev dktX0_newLand_13 : List UInt8 := dkwX0_newLand_13 ++ dktX0_newLand_14
def dkwX0_newLand_12 : List UInt8 := [160, 0, 11, 16, 156, 28, 100, 21, 6, 100, 172, 132, 6, 1, 167, 255, 175, 45, 42, 21, 5, 45]
abbrev dktX0_newLand_12 : List UInt8 := dkwX0_newLand_12 ++ dktX0_newLand_13
def dkwX0_newLand_11 : List UInt8 := [184, 0, 70, 153, 0, 22, 21, 6, 6, 160, 0, 24, 43, 28, 6, 96, 46, 43, 28, 5, 96, 46]
abbrev dktX0_newLand_11 : List UInt8 := dkwX0_newLand_11 ++ dktX0_newLand_12
def dkwX0_newLand_10 : List UInt8 := [21, 6, 7, 162, 0, 7, 5, 167, 0, 15, 21, 6, 7, 160, 0, 7, 6, 167, 0, 5, 16, 9]
abbrev dktX0_newLand_10 : List UInt8 := dkwX0_newLand_10 ++ dktX0_newLand_11
def dkwX0_newLand_9 : List UInt8 := [21, 6, 16, 6, 162, 0, 80, 43, 28, 21, 6, 96, 21, 6, 7, 160, 0, 7, 4, 167, 0, 4, 3]
abbrev dktX0_newLand_9 : List UInt8 := dkwX0_newLand_9 ++ dktX0_newLand_10
def dkwX0_newLand_8 : List UInt8 := [160, 0, 7, 5, 167, 0, 5, 16, 247, 54, 5, 21, 5, 156, 0, 8, 16, 155, 28, 100, 172, 5, 54, 6]
abbrev dktX0_newLand_8 : List UInt8 := dkwX0_newLand_8 ++ dktX0_newLand_9
def dkwX0_newLand_7 : List UInt8 := [16, 112, 160, 0, 7, 3, 167, 0, 27, 21, 4, 16, 115, 160, 0, 7, 4, 167, 0, 16, 21, 4, 16, 116]
abbrev dktX0_newLand_7 : List UInt8 := dkwX0_newLand_7 ++ dktX0_newLand_8
def dkwX0_newLand_6 : List UInt8 := [184, 0, 66, 16, 44, 159, 0, 8, 16, 156, 28, 100, 172, 43, 28, 4, 96, 184, 0, 66, 54, 4, 21, 4]
abbrev dktX0_newLand_6 : List UInt8 := dkwX0_newLand_6 ++ dktX0_newLand_7
def dkwX0_newLand_5 : List UInt8 := [154, 0, 9, 28, 43, 190, 162, 0, 225, 45, 185, 0, 54, 1, 0, 16, 6, 159, 0, 13, 43, 28]
abbrev dktX0_newLand_5 : List UInt8 := dkwX0_newLand_5 ++ dktX0_newLand_6
def dkwX0_newLand_4 : List UInt8 := [132, 3, 1, 167, 255, 207, 187, 0, 18, 89, 16, 6, 183, 0, 80, 78, 45, 185, 0, 48, 1, 0]
abbrev dktX0_newLand_4 : List UInt8 := dkwX0_newLand_4 ++ dktX0_newLand_5
def dkwX0_newLand_3 : List UInt8 := [4, 96, 184, 0, 77, 54, 4, 21, 4, 6, 162, 0, 11, 16, 155, 28, 100, 21, 4, 100, 172, 132, 2, 4]
abbrev dktX0_newLand_3 : List UInt8 := dkwX0_newLand_3 ++ dktX0_newLand_4
def dkwX0_newLand_2 : List UInt8 := [3, 62, 29, 6, 162, 0, 50, 43, 28, 184, 0, 66, 16, 59, 159, 0, 8, 16, 156, 28, 100, 172, 43, 28]
abbrev dktX0_newLand_2 : List UInt8 := dkwX0_newLand_2 ++ dktX0_newLand_3
def dkwX0_newLand_1 : List UInt8 := [96, 3, 16, 9, 184, 0, 70, 154, 0, 8, 16, 155, 28, 100, 172, 132, 2, 1, 167, 255, 229, 16, 9, 61]
abbrev dktX0_newLand_1 : List UInt8 := dkwX0_newLand_1 ++ dktX0_newLand_2
def dkwX0_newLand_0 : List UInt8 := [43, 3, 184, 0, 66, 16, 118, 159, 0, 6, 16, 156, 172, 3, 61, 28, 16, 8, 162, 0, 27, 43, 4, 28]
abbrev dktX0_newLand_0 : List UInt8 := dkwX0_newLand_0 ++ dktX0_newLand_1
theorem dksX0_newLand_0 : cX0_newLand.data.toList.drop 0 = dktX0_newLand_0 := by decide +kernel
theorem dksX0_newLand_1 : cX0_newLand.data.toList.drop 24 = dktX0_newLand_1 := dk_seg dksX0_newLand_0 24 rfl rfl
theorem dksX0_newLand_2 : cX0_newLand.data.toList.drop 48 = dktX0_newLand_2 := dk_seg dksX0_newLand_1 24 rfl rfl
theorem dksX0_newLand_3 : cX0_newLand.data.toList.drop 72 = dktX0_newLand_3 := dk_seg dksX0_newLand_2 24 rfl rfl
theorem dksX0_newLand_4 : cX0_newLand.data.toList.drop 96 = dktX0_newLand_4 := dk_seg dksX0_newLand_3 24 rfl rfl
theorem dksX0_newLand_5 : cX0_newLand.data.toList.drop 118 = dktX0_newLand_5 := dk_seg dksX0_newLand_4 22 rfl rfl
theorem dksX0_newLand_6 : cX0_newLand.data.toList.drop 140 = dktX0_newLand_6 := dk_seg dksX0_newLand_5 22 rfl rfl
theorem dksX0_newLand_7 : cX0_newLand.data.toList.drop 164 = dktX0_newLand_7 := dk_seg dksX0_newLand_6 24 rfl rfl
theorem dksX0_newLand_8 : cX0_newLand.data.toList.drop 188 = dktX0_newLand_8 := dk_seg dksX0_newLand_7 24 rfl rfl
theorem dksX0_newLand_9 : cX0_newLand.data.toList.drop 212 = dktX0_newLand_9 := dk_seg dksX0_newLand_8 24 rfl rfl
theorem dksX0_newLand_10 : cX0_newLand.data.toList.drop 235 = dktX0_newLand_10 := dk_seg dksX0_newLand_9 23 rfl rfl
theorem dksX0_newLand_11 : cX0_newLand.data.toList.drop 257 = dktX0_newLand_11 := dk_seg dksX0_newLand_10 22 rfl rfl
theorem dksX0_newLand_12 : cX0_newLand.data.toList.drop 279 = dktX0_newLand_12 := dk_seg dksX0_newLand_11 22 rfl rfl
theorem dksX0_newLand_13 : cX0_newLand.data.toList.drop 301 = dktX0_newLand_13 := dk_seg dksX0_newLand_12 22 rfl rfl
theorem dksX0_newLand_14 : cX0_newLand.data.toList.drop 324 = dktX0_newLand_14 := dk_seg dksX0_newLand_13 23 rfl rfl
theorem dksX0_newLand_15 : cX0_newLand.data.toList.drop 346 = dktX0_newLand_15 := dk_seg dksX0_newLand_14 22 rfl rfl
theorem dksX0_newLand_16 : cX0_newLand.data.toList.drop 370 = dktX0_newLand_16 := dk_seg dksX0_newLand_15 24 rfl rfl
theorem dksX0_newLand_17 : cX0_newLand.data.toList.drop 393 = dktX0_newLand_17 := dk_seg dksX0_newLand_16 23 rfl rfl
theorem dksX0_newLand_18 : cX0_newLand.data.toList.drop 417 = dktX0_newLand_18 := dk_seg dksX0_newLand_17 24 rfl rfl
theorem dksX0_newLand_19 : cX0_newLand.data.toList.drop 437 = dktX0_newLand_19 := dk_seg dksX0_newLand_18 20 rfl rfl
theorem dX0_newLand_0 : decode cX0_newLand 0 = .ok (.aload_n 1, 1) := dk_43 (dk_at dksX0_newLand_0 0 rfl rfl)
theorem dX0_newLand_1 : decode cX0_newLand 1 = .ok (.iconst 0, 1) := dk_3 (dk_at dksX0_newLand_0 1 rfl rfl)
theorem dX0_newLand_2 : decode cX0_newLand 2 = .ok (.invokestatic 66, 3) := dk_184 0 66 (dk_at dksX0_newLand_0 2 rfl rfl)
theorem dX0_newLand_5 : decode cX0_newLand 5 = .ok (.bipush 118, 2) := dk_16 118 (dk_at dksX0_newLand_0 5 rfl rfl)
theorem dX0_newLand_7 : decode cX0_newLand 7 = .ok (.if_icmp .eq 6, 3) := dk_159 0 6 (dk_at dksX0_newLand_0 7 rfl rfl)
theorem dX0_newLand_10 : decode cX0_newLand 10 = .ok (.bipush (-100), 2) := dk_16 156 (dk_at dksX0_newLand_0 10 rfl rfl)
theorem dX0_newLand_12 : decode cX0_newLand 12 = .ok (.ireturn, 1) := dk_172 (dk_at dksX0_newLand_0 12 rfl rfl)
theorem dX0_newLand_13 : decode cX0_newLand 13 = .ok (.iconst 0, 1) := dk_3 (dk_at dksX0_newLand_0 13 rfl rfl)
theorem dX0_newLand_14 : decode cX0_newLand 14 = .ok (.istore_n 2, 1) := dk_61 (dk_at dksX0_newLand_0 14 rfl rfl)
theorem dX0_newLand_15 : decode cX0_newLand 15 = .ok (.iload_n 2, 1) := dk_28 (dk_at dksX0_newLand_0 15 rfl rfl)
theorem dX0_newLand_16 : decode cX0_newLand 16 = .ok (.bipush 8, 2) := dk_16 8 (dk_at dksX0_newLand_0 16 rfl rfl)
theorem dX0_newLand_18 : decode cX0_newLand 18 = .ok (.if_icmp .ge 27, 3) := dk_162 0 27 (dk_at dksX0_newLand_0 18 rfl rfl)
theorem dX0_newLand_21 : decode cX0_newLand 21 = .ok (.aload_n 1, 1) := dk_43 (dk_at dksX0_newLand_0 21 rfl rfl)
theorem dX0_newLand_22 : decode cX0_newLand 22 = .ok (.iconst 1, 1) := dk_4 (dk_at dksX0_newLand_0 22 rfl rfl)
theorem dX0_newLand_23 : decode cX0_newLand 23 = .ok (.iload_n 2, 1) := dk_28 (dk_at dksX0_newLand_0 23 rfl rfl)
theorem dX0_newLand_24 : decode cX0_newLand 24 = .ok (.iadd, 1) := dk_96 (dk_at dksX0_newLand_1 0 rfl rfl)
theorem dX0_newLand_25 : decode cX0_newLand 25 = .ok (.iconst 0, 1) := dk_3 (dk_at dksX0_newLand_1 1 rfl rfl)
theorem dX0_newLand_26 : decode cX0_newLand 26 = .ok (.bipush 9, 2) := dk_16 9 (dk_at dksX0_newLand_1 2 rfl rfl)
theorem dX0_newLand_28 : decode cX0_newLand 28 = .ok (.invokestatic 70, 3) := dk_184 0 70 (dk_at dksX0_newLand_1 4 rfl rfl)
theorem dX0_newLand_31 : decode cX0_newLand 31 = .ok (.ifCond .ne 8, 3) := dk_154 0 8 (dk_at dksX0_newLand_1 7 rfl rfl)
theorem dX0_newLand_34 : decode cX0_newLand 34 = .ok (.bipush (-101), 2) := dk_16 155 (dk_at dksX0_newLand_1 10 rfl rfl)
theorem dX0_newLand_36 : decode cX0_newLand 36 = .ok (.iload_n 2, 1) := dk_28 (dk_at dksX0_newLand_1 12 rfl rfl)
theorem dX0_newLand_37 : decode cX0_newLand 37 = .ok (.isub, 1) := dk_100 (dk_at dksX0_newLand_1 13 rfl rfl)
theorem dX0_newLand_38 : decode cX0_newLand 38 = .ok (.ireturn, 1) := dk_172 (dk_at dksX0_newLand_1 14 rfl rfl)
theorem dX0_newLand_39 : decode cX0_newLand 39 = .ok (.iinc 2 1, 3) := dk_132 2 1 (dk_at dksX0_newLand_1 15 rfl rfl)
theorem dX0_newLand_42 : decode cX0_newLand 42 = .ok (.goto (-27), 3) := dk_167 255 229 (dk_at dksX0_newLand_1 18 rfl rfl)
theorem dX0_newLand_45 : decode cX0_newLand 45 = .ok (.bipush 9, 2) := dk_16 9 (dk_at dksX0_newLand_1 21 rfl rfl)
theorem dX0_newLand_47 : decode cX0_newLand 47 = .ok (.istore_n 2, 1) := dk_61 (dk_at dksX0_newLand_1 23 rfl rfl)
theorem dX0_newLand_48 : decode cX0_newLand 48 = .ok (.iconst 0, 1) := dk_3 (dk_at dksX0_newLand_2 0 rfl rfl)
theorem dX0_newLand_49 : decode cX0_newLand 49 = .ok (.istore_n 3, 1) := dk_62 (dk_at dksX0_newLand_2 1 rfl rfl)
theorem dX0_newLand_50 : decode cX0_newLand 50 = .ok (.iload_n 3, 1) := dk_29 (dk_at dksX0_newLand_2 2 rfl rfl)
theorem dX0_newLand_51 : decode cX0_newLand 51 = .ok (.iconst 3, 1) := dk_6 (dk_at dksX0_newLand_2 3 rfl rfl)
theorem dX0_newLand_52 : decode cX0_newLand 52 = .ok (.if_icmp .ge 50, 3) := dk_162 0 50 (dk_at dksX0_newLand_2 4 rfl rfl)
theorem dX0_newLand_55 : decode cX0_newLand 55 = .ok (.aload_n 1, 1) := dk_43 (dk_at dksX0_newLand_2 7 rfl rfl)
theorem dX0_newLand_56 : decode cX0_newLand 56 = .ok (.iload_n 2, 1) := dk_28 (dk_at dksX0_newLand_2 8 rfl rfl)
theorem dX0_newLand_57 : decode cX0_newLand 57 = .ok (.invokestatic 66, 3) := dk_184 0 66 (dk_at dksX0_newLand_2 9 rfl rfl)
theorem dX0_newLand_60 : decode cX0_newLand 60 = .ok (.bipush 59, 2) := dk_16 59 (dk_at dksX0_newLand_2 12 rfl rfl)
theorem dX0_newLand_62 : decode cX0_newLand 62 = .ok (.if_icmp .eq 8, 3) := dk_159 0 8 (dk_at dksX0_newLand_2 14 rfl rfl)
theorem dX0_newLand_65 : decode cX0_newLand 65 = .ok (.bipush (-100), 2) := dk_16 156 (dk_at dksX0_newLand_2 17 rfl rfl)
theorem dX0_newLand_67 : decode cX0_newLand 67 = .ok (.iload_n 2, 1) := dk_28 (dk_at dksX0_newLand_2 19 rfl rfl)
theorem dX0_newLand_68 : decode cX0_newLand 68 = .ok (.isub, 1) := dk_100 (dk_at dksX0_newLand_2 20 rfl rfl)
theorem dX0_newLand_69 : decode cX0_newLand 69 = .ok (.ireturn, 1) := dk_172 (dk_at dksX0_newLand_2 21 rfl rfl)
theorem dX0_newLand_70 : decode cX0_newLand 70 = .ok (.aload_n 1, 1) := dk_43 (dk_at dksX0_newLand_2 22 rfl rfl)
theorem dX0_newLand_71 : decode cX0_newLand 71 = .ok (.iload_n 2, 1) := dk_28 (dk_at dksX0_newLand_2 23 rfl rfl)
theorem dX0_newLand_72 : decode cX0_newLand 72 = .ok (.iconst 1, 1) := dk_4 (dk_at dksX0_newLand_3 0 rfl rfl)
theorem dX0_newLand_73 : decode cX0_newLand 73 = .ok (.iadd, 1) := dk_96 (dk_at dksX0_newLand_3 1 rfl rfl)
theorem dX0_newLand_74 : decode cX0_newLand 74 = .ok (.invokestatic 77, 3) := dk_184 0 77 (dk_at dksX0_newLand_3 2 rfl rfl)
theorem dX0_newLand_77 : decode cX0_newLand 77 = .ok (.istore 4, 2) := dk_54 4 (dk_at dksX0_newLand_3 5 rfl rfl)
theorem dX0_newLand_79 : decode cX0_newLand 79 = .ok (.iload 4, 2) := dk_21 4 (dk_at dksX0_newLand_3 7 rfl rfl)
theorem dX0_newLand_81 : decode cX0_newLand 81 = .ok (.iconst 3, 1) := dk_6 (dk_at dksX0_newLand_3 9 rfl rfl)
theorem dX0_newLand_82 : decode cX0_newLand 82 = .ok (.if_icmp .ge 11, 3) := dk_162 0 11 (dk_at dksX0_newLand_3 10 rfl rfl)
theorem dX0_newLand_85 : decode cX0_newLand 85 = .ok (.bipush (-101), 2) := dk_16 155 (dk_at dksX0_newLand_3 13 rfl rfl)
theorem dX0_newLand_87 : decode cX0_newLand 87 = .ok (.iload_n 2, 1) := dk_28 (dk_at dksX0_newLand_3 15 rfl rfl)
theorem dX0_newLand_88 : decode cX0_newLand 88 = .ok (.isub, 1) := dk_100 (dk_at dksX0_newLand_3 16 rfl rfl)
theorem dX0_newLand_89 : decode cX0_newLand 89 = .ok (.iload 4, 2) := dk_21 4 (dk_at dksX0_newLand_3 17 rfl rfl)
theorem dX0_newLand_91 : decode cX0_newLand 91 = .ok (.isub, 1) := dk_100 (dk_at dksX0_newLand_3 19 rfl rfl)
theorem dX0_newLand_92 : decode cX0_newLand 92 = .ok (.ireturn, 1) := dk_172 (dk_at dksX0_newLand_3 20 rfl rfl)
theorem dX0_newLand_93 : decode cX0_newLand 93 = .ok (.iinc 2 4, 3) := dk_132 2 4 (dk_at dksX0_newLand_3 21 rfl rfl)
theorem dX0_newLand_96 : decode cX0_newLand 96 = .ok (.iinc 3 1, 3) := dk_132 3 1 (dk_at dksX0_newLand_4 0 rfl rfl)
theorem dX0_newLand_99 : decode cX0_newLand 99 = .ok (.goto (-49), 3) := dk_167 255 207 (dk_at dksX0_newLand_4 3 rfl rfl)
theorem dX0_newLand_102 : decode cX0_newLand 102 = .ok (.new 18, 3) := dk_187 0 18 (dk_at dksX0_newLand_4 6 rfl rfl)
theorem dX0_newLand_105 : decode cX0_newLand 105 = .ok (.dup, 1) := dk_89 (dk_at dksX0_newLand_4 9 rfl rfl)
theorem dX0_newLand_106 : decode cX0_newLand 106 = .ok (.bipush 6, 2) := dk_16 6 (dk_at dksX0_newLand_4 10 rfl rfl)
theorem dX0_newLand_108 : decode cX0_newLand 108 = .ok (.invokespecial 80, 3) := dk_183 0 80 (dk_at dksX0_newLand_4 12 rfl rfl)
theorem dX0_newLand_111 : decode cX0_newLand 111 = .ok (.astore_n 3, 1) := dk_78 (dk_at dksX0_newLand_4 15 rfl rfl)
theorem dX0_newLand_112 : decode cX0_newLand 112 = .ok (.aload_n 3, 1) := dk_45 (dk_at dksX0_newLand_4 16 rfl rfl)
theorem dX0_newLand_113 : decode cX0_newLand 113 = .ok (.invokeinterface 48 1, 5) := by decide +kernel
theorem dX0_newLand_118 : decode cX0_newLand 118 = .ok (.ifCond .ne 9, 3) := dk_154 0 9 (dk_at dksX0_newLand_5 0 rfl rfl)
theorem dX0_newLand_121 : decode cX0_newLand 121 = .ok (.iload_n 2, 1) := dk_28 (dk_at dksX0_newLand_5 3 rfl rfl)
theorem dX0_newLand_122 : decode cX0_newLand 122 = .ok (.aload_n 1, 1) := dk_43 (dk_at dksX0_newLand_5 4 rfl rfl)
theorem dX0_newLand_123 : decode cX0_newLand 123 = .ok (.arraylength, 1) := dk_190 (dk_at dksX0_newLand_5 5 rfl rfl)
theorem dX0_newLand_124 : decode cX0_newLand 124 = .ok (.if_icmp .ge 225, 3) := dk_162 0 225 (dk_at dksX0_newLand_5 6 rfl rfl)
theorem dX0_newLand_127 : decode cX0_newLand 127 = .ok (.aload_n 3, 1) := dk_45 (dk_at dksX0_newLand_5 9 rfl rfl)
theorem dX0_newLand_128 : decode cX0_newLand 128 = .ok (.invokeinterface 54 1, 5) := by decide +kernel
theorem dX0_newLand_133 : decode cX0_newLand 133 = .ok (.bipush 6, 2) := dk_16 6 (dk_at dksX0_newLand_5 15 rfl rfl)
theorem dX0_newLand_135 : decode cX0_newLand 135 = .ok (.if_icmp .eq 13, 3) := dk_159 0 13 (dk_at dksX0_newLand_5 17 rfl rfl)
theorem dX0_newLand_138 : decode cX0_newLand 138 = .ok (.aload_n 1, 1) := dk_43 (dk_at dksX0_newLand_5 20 rfl rfl)
theorem dX0_newLand_139 : decode cX0_newLand 139 = .ok (.iload_n 2, 1) := dk_28 (dk_at dksX0_newLand_5 21 rfl rfl)
theorem dX0_newLand_140 : decode cX0_newLand 140 = .ok (.invokestatic 66, 3) := dk_184 0 66 (dk_at dksX0_newLand_6 0 rfl rfl)
theorem dX0_newLand_143 : decode cX0_newLand 143 = .ok (.bipush 44, 2) := dk_16 44 (dk_at dksX0_newLand_6 3 rfl rfl)
theorem dX0_newLand_145 : decode cX0_newLand 145 = .ok (.if_icmp .eq 8, 3) := dk_159 0 8 (dk_at dksX0_newLand_6 5 rfl rfl)
theorem dX0_newLand_148 : decode cX0_newLand 148 = .ok (.bipush (-100), 2) := dk_16 156 (dk_at dksX0_newLand_6 8 rfl rfl)
theorem dX0_newLand_150 : decode cX0_newLand 150 = .ok (.iload_n 2, 1) := dk_28 (dk_at dksX0_newLand_6 10 rfl rfl)
theorem dX0_newLand_151 : decode cX0_newLand 151 = .ok (.isub, 1) := dk_100 (dk_at dksX0_newLand_6 11 rfl rfl)
theorem dX0_newLand_152 : decode cX0_newLand 152 = .ok (.ireturn, 1) := dk_172 (dk_at dksX0_newLand_6 12 rfl rfl)
theorem dX0_newLand_153 : decode cX0_newLand 153 = .ok (.aload_n 1, 1) := dk_43 (dk_at dksX0_newLand_6 13 rfl rfl)
theorem dX0_newLand_154 : decode cX0_newLand 154 = .ok (.iload_n 2, 1) := dk_28 (dk_at dksX0_newLand_6 14 rfl rfl)
theorem dX0_newLand_155 : decode cX0_newLand 155 = .ok (.iconst 1, 1) := dk_4 (dk_at dksX0_newLand_6 15 rfl rfl)
theorem dX0_newLand_156 : decode cX0_newLand 156 = .ok (.iadd, 1) := dk_96 (dk_at dksX0_newLand_6 16 rfl rfl)
theorem dX0_newLand_157 : decode cX0_newLand 157 = .ok (.invokestatic 66, 3) := dk_184 0 66 (dk_at dksX0_newLand_6 17 rfl rfl)
theorem dX0_newLand_160 : decode cX0_newLand 160 = .ok (.istore 4, 2) := dk_54 4 (dk_at dksX0_newLand_6 20 rfl rfl)
theorem dX0_newLand_162 : decode cX0_newLand 162 = .ok (.iload 4, 2) := dk_21 4 (dk_at dksX0_newLand_6 22 rfl rfl)
theorem dX0_newLand_164 : decode cX0_newLand 164 = .ok (.bipush 112, 2) := dk_16 112 (dk_at dksX0_newLand_7 0 rfl rfl)
theorem dX0_newLand_166 : decode cX0_newLand 166 = .ok (.if_icmp .ne 7, 3) := dk_160 0 7 (dk_at dksX0_newLand_7 2 rfl rfl)
theorem dX0_newLand_169 : decode cX0_newLand 169 = .ok (.iconst 0, 1) := dk_3 (dk_at dksX0_newLand_7 5 rfl rfl)
theorem dX0_newLand_170 : decode cX0_newLand 170 = .ok (.goto 27, 3) := dk_167 0 27 (dk_at dksX0_newLand_7 6 rfl rfl)
theorem dX0_newLand_173 : decode cX0_newLand 173 = .ok (.iload 4, 2) := dk_21 4 (dk_at dksX0_newLand_7 9 rfl rfl)
theorem dX0_newLand_175 : decode cX0_newLand 175 = .ok (.bipush 115, 2) := dk_16 115 (dk_at dksX0_newLand_7 11 rfl rfl)
theorem dX0_newLand_177 : decode cX0_newLand 177 = .ok (.if_icmp .ne 7, 3) := dk_160 0 7 (dk_at dksX0_newLand_7 13 rfl rfl)
theorem dX0_newLand_180 : decode cX0_newLand 180 = .ok (.iconst 1, 1) := dk_4 (dk_at dksX0_newLand_7 16 rfl rfl)
theorem dX0_newLand_181 : decode cX0_newLand 181 = .ok (.goto 16, 3) := dk_167 0 16 (dk_at dksX0_newLand_7 17 rfl rfl)
theorem dX0_newLand_184 : decode cX0_newLand 184 = .ok (.iload 4, 2) := dk_21 4 (dk_at dksX0_newLand_7 20 rfl rfl)
theorem dX0_newLand_186 : decode cX0_newLand 186 = .ok (.bipush 116, 2) := dk_16 116 (dk_at dksX0_newLand_7 22 rfl rfl)
theorem dX0_newLand_188 : decode cX0_newLand 188 = .ok (.if_icmp .ne 7, 3) := dk_160 0 7 (dk_at dksX0_newLand_8 0 rfl rfl)
theorem dX0_newLand_191 : decode cX0_newLand 191 = .ok (.iconst 2, 1) := dk_5 (dk_at dksX0_newLand_8 3 rfl rfl)
theorem dX0_newLand_192 : decode cX0_newLand 192 = .ok (.goto 5, 3) := dk_167 0 5 (dk_at dksX0_newLand_8 4 rfl rfl)
theorem dX0_newLand_195 : decode cX0_newLand 195 = .ok (.bipush (-9), 2) := dk_16 247 (dk_at dksX0_newLand_8 7 rfl rfl)
theorem dX0_newLand_197 : decode cX0_newLand 197 = .ok (.istore 5, 2) := dk_54 5 (dk_at dksX0_newLand_8 9 rfl rfl)
theorem dX0_newLand_199 : decode cX0_newLand 199 = .ok (.iload 5, 2) := dk_21 5 (dk_at dksX0_newLand_8 11 rfl rfl)
theorem dX0_newLand_201 : decode cX0_newLand 201 = .ok (.ifCond .ge 8, 3) := dk_156 0 8 (dk_at dksX0_newLand_8 13 rfl rfl)
theorem dX0_newLand_204 : decode cX0_newLand 204 = .ok (.bipush (-101), 2) := dk_16 155 (dk_at dksX0_newLand_8 16 rfl rfl)
theorem dX0_newLand_206 : decode cX0_newLand 206 = .ok (.iload_n 2, 1) := dk_28 (dk_at dksX0_newLand_8 18 rfl rfl)
theorem dX0_newLand_207 : decode cX0_newLand 207 = .ok (.isub, 1) := dk_100 (dk_at dksX0_newLand_8 19 rfl rfl)
theorem dX0_newLand_208 : decode cX0_newLand 208 = .ok (.ireturn, 1) := dk_172 (dk_at dksX0_newLand_8 20 rfl rfl)
theorem dX0_newLand_209 : decode cX0_newLand 209 = .ok (.iconst 2, 1) := dk_5 (dk_at dksX0_newLand_8 21 rfl rfl)
theorem dX0_newLand_210 : decode cX0_newLand 210 = .ok (.istore 6, 2) := dk_54 6 (dk_at dksX0_newLand_8 22 rfl rfl)
theorem dX0_newLand_212 : decode cX0_newLand 212 = .ok (.iload 6, 2) := dk_21 6 (dk_at dksX0_newLand_9 0 rfl rfl)
theorem dX0_newLand_214 : decode cX0_newLand 214 = .ok (.bipush 6, 2) := dk_16 6 (dk_at dksX0_newLand_9 2 rfl rfl)
theorem dX0_newLand_216 : decode cX0_newLand 216 = .ok (.if_icmp .ge 80, 3) := dk_162 0 80 (dk_at dksX0_newLand_9 4 rfl rfl)
theorem dX0_newLand_219 : decode cX0_newLand 219 = .ok (.aload_n 1, 1) := dk_43 (dk_at dksX0_newLand_9 7 rfl rfl)
theorem dX0_newLand_220 : decode cX0_newLand 220 = .ok (.iload_n 2, 1) := dk_28 (dk_at dksX0_newLand_9 8 rfl rfl)
theorem dX0_newLand_221 : decode cX0_newLand 221 = .ok (.iload 6, 2) := dk_21 6 (dk_at dksX0_newLand_9 9 rfl rfl)
theorem dX0_newLand_223 : decode cX0_newLand 223 = .ok (.iadd, 1) := dk_96 (dk_at dksX0_newLand_9 11 rfl rfl)
theorem dX0_newLand_224 : decode cX0_newLand 224 = .ok (.iload 6, 2) := dk_21 6 (dk_at dksX0_newLand_9 12 rfl rfl)
theorem dX0_newLand_226 : decode cX0_newLand 226 = .ok (.iconst 4, 1) := dk_7 (dk_at dksX0_newLand_9 14 rfl rfl)
theorem dX0_newLand_227 : decode cX0_newLand 227 = .ok (.if_icmp .ne 7, 3) := dk_160 0 7 (dk_at dksX0_newLand_9 15 rfl rfl)
theorem dX0_newLand_230 : decode cX0_newLand 230 = .ok (.iconst 1, 1) := dk_4 (dk_at dksX0_newLand_9 18 rfl rfl)
theorem dX0_newLand_231 : decode cX0_newLand 231 = .ok (.goto 4, 3) := dk_167 0 4 (dk_at dksX0_newLand_9 19 rfl rfl)
theorem dX0_newLand_234 : decode cX0_newLand 234 = .ok (.iconst 0, 1) := dk_3 (dk_at dksX0_newLand_9 22 rfl rfl)
theorem dX0_newLand_235 : decode cX0_newLand 235 = .ok (.iload 6, 2) := dk_21 6 (dk_at dksX0_newLand_10 0 rfl rfl)
theorem dX0_newLand_237 : decode cX0_newLand 237 = .ok (.iconst 4, 1) := dk_7 (dk_at dksX0_newLand_10 2 rfl rfl)
theorem dX0_newLand_238 : decode cX0_newLand 238 = .ok (.if_icmp .ge 7, 3) := dk_162 0 7 (dk_at dksX0_newLand_10 3 rfl rfl)
theorem dX0_newLand_241 : decode cX0_newLand 241 = .ok (.iconst 2, 1) := dk_5 (dk_at dksX0_newLand_10 6 rfl rfl)
theorem dX0_newLand_242 : decode cX0_newLand 242 = .ok (.goto 15, 3) := dk_167 0 15 (dk_at dksX0_newLand_10 7 rfl rfl)
theorem dX0_newLand_245 : decode cX0_newLand 245 = .ok (.iload 6, 2) := dk_21 6 (dk_at dksX0_newLand_10 10 rfl rfl)
theorem dX0_newLand_247 : decode cX0_newLand 247 = .ok (.iconst 4, 1) := dk_7 (dk_at dksX0_newLand_10 12 rfl rfl)
theorem dX0_newLand_248 : decode cX0_newLand 248 = .ok (.if_icmp .ne 7, 3) := dk_160 0 7 (dk_at dksX0_newLand_10 13 rfl rfl)
theorem dX0_newLand_251 : decode cX0_newLand 251 = .ok (.iconst 3, 1) := dk_6 (dk_at dksX0_newLand_10 16 rfl rfl)
theorem dX0_newLand_252 : decode cX0_newLand 252 = .ok (.goto 5, 3) := dk_167 0 5 (dk_at dksX0_newLand_10 17 rfl rfl)
theorem dX0_newLand_255 : decode cX0_newLand 255 = .ok (.bipush 9, 2) := dk_16 9 (dk_at dksX0_newLand_10 20 rfl rfl)
theorem dX0_newLand_257 : decode cX0_newLand 257 = .ok (.invokestatic 70, 3) := dk_184 0 70 (dk_at dksX0_newLand_11 0 rfl rfl)
theorem dX0_newLand_260 : decode cX0_newLand 260 = .ok (.ifCond .eq 22, 3) := dk_153 0 22 (dk_at dksX0_newLand_11 3 rfl rfl)
theorem dX0_newLand_263 : decode cX0_newLand 263 = .ok (.iload 6, 2) := dk_21 6 (dk_at dksX0_newLand_11 6 rfl rfl)
theorem dX0_newLand_265 : decode cX0_newLand 265 = .ok (.iconst 3, 1) := dk_6 (dk_at dksX0_newLand_11 8 rfl rfl)
theorem dX0_newLand_266 : decode cX0_newLand 266 = .ok (.if_icmp .ne 24, 3) := dk_160 0 24 (dk_at dksX0_newLand_11 9 rfl rfl)
theorem dX0_newLand_269 : decode cX0_newLand 269 = .ok (.aload_n 1, 1) := dk_43 (dk_at dksX0_newLand_11 12 rfl rfl)
theorem dX0_newLand_270 : decode cX0_newLand 270 = .ok (.iload_n 2, 1) := dk_28 (dk_at dksX0_newLand_11 13 rfl rfl)
theorem dX0_newLand_271 : decode cX0_newLand 271 = .ok (.iconst 3, 1) := dk_6 (dk_at dksX0_newLand_11 14 rfl rfl)
theorem dX0_newLand_272 : decode cX0_newLand 272 = .ok (.iadd, 1) := dk_96 (dk_at dksX0_newLand_11 15 rfl rfl)
theorem dX0_newLand_273 : decode cX0_newLand 273 = .ok (.iaload, 1) := dk_46 (dk_at dksX0_newLand_11 16 rfl rfl)
theorem dX0_newLand_274 : decode cX0_newLand 274 = .ok (.aload_n 1, 1) := dk_43 (dk_at dksX0_newLand_11 17 rfl rfl)
theorem dX0_newLand_275 : decode cX0_newLand 275 = .ok (.iload_n 2, 1) := dk_28 (dk_at dksX0_newLand_11 18 rfl rfl)
theorem dX0_newLand_276 : decode cX0_newLand 276 = .ok (.iconst 2, 1) := dk_5 (dk_at dksX0_newLand_11 19 rfl rfl)
theorem dX0_newLand_277 : decode cX0_newLand 277 = .ok (.iadd, 1) := dk_96 (dk_at dksX0_newLand_11 20 rfl rfl)
theorem dX0_newLand_278 : decode cX0_newLand 278 = .ok (.iaload, 1) := dk_46 (dk_at dksX0_newLand_11 21 rfl rfl)
theorem dX0_newLand_279 : decode cX0_newLand 279 = .ok (.if_icmp .ne 11, 3) := dk_160 0 11 (dk_at dksX0_newLand_12 0 rfl rfl)
theorem dX0_newLand_282 : decode cX0_newLand 282 = .ok (.bipush (-100), 2) := dk_16 156 (dk_at dksX0_newLand_12 3 rfl rfl)
theorem dX0_newLand_284 : decode cX0_newLand 284 = .ok (.iload_n 2, 1) := dk_28 (dk_at dksX0_newLand_12 5 rfl rfl)
theorem dX0_newLand_285 : decode cX0_newLand 285 = .ok (.isub, 1) := dk_100 (dk_at dksX0_newLand_12 6 rfl rfl)
theorem dX0_newLand_286 : decode cX0_newLand 286 = .ok (.iload 6, 2) := dk_21 6 (dk_at dksX0_newLand_12 7 rfl rfl)
theorem dX0_newLand_288 : decode cX0_newLand 288 = .ok (.isub, 1) := dk_100 (dk_at dksX0_newLand_12 9 rfl rfl)
theorem dX0_newLand_289 : decode cX0_newLand 289 = .ok (.ireturn, 1) := dk_172 (dk_at dksX0_newLand_12 10 rfl rfl)
theorem dX0_newLand_290 : decode cX0_newLand 290 = .ok (.iinc 6 1, 3) := dk_132 6 1 (dk_at dksX0_newLand_12 11 rfl rfl)
theorem dX0_newLand_293 : decode cX0_newLand 293 = .ok (.goto (-81), 3) := dk_167 255 175 (dk_at dksX0_newLand_12 14 rfl rfl)
theorem dX0_newLand_296 : decode cX0_newLand 296 = .ok (.aload_n 3, 1) := dk_45 (dk_at dksX0_newLand_12 17 rfl rfl)
theorem dX0_newLand_297 : decode cX0_newLand 297 = .ok (.aload_n 0, 1) := dk_42 (dk_at dksX0_newLand_12 18 rfl rfl)
theorem dX0_newLand_298 : decode cX0_newLand 298 = .ok (.iload 5, 2) := dk_21 5 (dk_at dksX0_newLand_12 19 rfl rfl)
theorem dX0_newLand_300 : decode cX0_newLand 300 = .ok (.aload_n 3, 1) := dk_45 (dk_at dksX0_newLand_12 21 rfl rfl)
theorem dX0_newLand_301 : decode cX0_newLand 301 = .ok (.invokeinterface 54 1, 5) := by decide +kernel
theorem dX0_newLand_306 : decode cX0_newLand 306 = .ok (.aload_n 1, 1) := dk_43 (dk_at dksX0_newLand_13 5 rfl rfl)
theorem dX0_newLand_307 : decode cX0_newLand 307 = .ok (.iload_n 2, 1) := dk_28 (dk_at dksX0_newLand_13 6 rfl rfl)
theorem dX0_newLand_308 : decode cX0_newLand 308 = .ok (.iconst 2, 1) := dk_5 (dk_at dksX0_newLand_13 7 rfl rfl)
theorem dX0_newLand_309 : decode cX0_newLand 309 = .ok (.iadd, 1) := dk_96 (dk_at dksX0_newLand_13 8 rfl rfl)
theorem dX0_newLand_310 : decode cX0_newLand 310 = .ok (.invokestatic 74, 3) := dk_184 0 74 (dk_at dksX0_newLand_13 9 rfl rfl)
theorem dX0_newLand_313 : decode cX0_newLand 313 = .ok (.aload_n 1, 1) := dk_43 (dk_at dksX0_newLand_13 12 rfl rfl)
theorem dX0_newLand_314 : decode cX0_newLand 314 = .ok (.iload_n 2, 1) := dk_28 (dk_at dksX0_newLand_13 13 rfl rfl)
theorem dX0_newLand_315 : decode cX0_newLand 315 = .ok (.iconst 3, 1) := dk_6 (dk_at dksX0_newLand_13 14 rfl rfl)
theorem dX0_newLand_316 : decode cX0_newLand 316 = .ok (.iadd, 1) := dk_96 (dk_at dksX0_newLand_13 15 rfl rfl)
theorem dX0_newLand_317 : decode cX0_newLand 317 = .ok (.invokestatic 74, 3) := dk_184 0 74 (dk_at dksX0_newLand_13 16 rfl rfl)
theorem dX0_newLand_320 : decode cX0_newLand 320 = .ok (.aload_n 1, 1) := dk_43 (dk_at dksX0_newLand_13 19 rfl rfl)
theorem dX0_newLand_321 : decode cX0_newLand 321 = .ok (.iload_n 2, 1) := dk_28 (dk_at dksX0_newLand_13 20 rfl rfl)
theorem dX0_newLand_322 : decode cX0_newLand 322 = .ok (.iconst 4, 1) := dk_7 (dk_at dksX0_newLand_13 21 rfl rfl)
theorem dX0_newLand_323 : decode cX0_newLand 323 = .ok (.iadd, 1) := dk_96 (dk_at dksX0_newLand_13 22 rfl rfl)
theorem dX0_newLand_324 : decode cX0_newLand 324 = .ok (.invokestatic 74, 3) := dk_184 0 74 (dk_at dksX0_newLand_14 0 rfl rfl)
theorem dX0_newLand_327 : decode cX0_newLand 327 = .ok (.aload_n 1, 1) := dk_43 (dk_at dksX0_newLand_14 3 rfl rfl)
theorem dX0_newLand_328 : decode cX0_newLand 328 = .ok (.iload_n 2, 1) := dk_28 (dk_at dksX0_newLand_14 4 rfl rfl)
theorem dX0_newLand_329 : decode cX0_newLand 329 = .ok (.iconst 5, 1) := dk_8 (dk_at dksX0_newLand_14 5 rfl rfl)
theorem dX0_newLand_330 : decode cX0_newLand 330 = .ok (.iadd, 1) := dk_96 (dk_at dksX0_newLand_14 6 rfl rfl)
theorem dX0_newLand_331 : decode cX0_newLand 331 = .ok (.invokestatic 74, 3) := dk_184 0 74 (dk_at dksX0_newLand_14 7 rfl rfl)
theorem dX0_newLand_334 : decode cX0_newLand 334 = .ok (.invokevirtual 83, 3) := dk_182 0 83 (dk_at dksX0_newLand_14 10 rfl rfl)
theorem dX0_newLand_337 : decode cX0_newLand 337 = .ok (.invokeinterface 87 2, 5) := by decide +kernel
theorem dX0_newLand_342 : decode cX0_newLand 342 = .ok (.pop, 1) := dk_87 (dk_at dksX0_newLand_14 18 rfl rfl)
theorem dX0_newLand_343 : decode cX0_newLand 343 = .ok (.iinc 2 6, 3) := dk_132 2 6 (dk_at dksX0_newLand_14 19 rfl rfl)
theorem dX0_newLand_346 : decode cX0_newLand 346 = .ok (.goto (-234), 3) := dk_167 255 22 (dk_at dksX0_newLand_15 0 rfl rfl)
theorem dX0_newLand_349 : decode cX0_newLand 349 = .ok (.iconst 0, 1) := dk_3 (dk_at dksX0_newLand_15 3 rfl rfl)
theorem dX0_newLand_350 : decode cX0_newLand 350 = .ok (.istore 4, 2) := dk_54 4 (dk_at dksX0_newLand_15 4 rfl rfl)
theorem dX0_newLand_352 : decode cX0_newLand 352 = .ok (.iload 4, 2) := dk_21 4 (dk_at dksX0_newLand_15 6 rfl rfl)
theorem dX0_newLand_354 : decode cX0_newLand 354 = .ok (.bipush 8, 2) := dk_16 8 (dk_at dksX0_newLand_15 8 rfl rfl)
theorem dX0_newLand_356 : decode cX0_newLand 356 = .ok (.if_icmp .ge 24, 3) := dk_162 0 24 (dk_at dksX0_newLand_15 10 rfl rfl)
theorem dX0_newLand_359 : decode cX0_newLand 359 = .ok (.aload_n 0, 1) := dk_42 (dk_at dksX0_newLand_15 13 rfl rfl)
theorem dX0_newLand_360 : decode cX0_newLand 360 = .ok (.getfield 11, 3) := dk_180 0 11 (dk_at dksX0_newLand_15 14 rfl rfl)
theorem dX0_newLand_363 : decode cX0_newLand 363 = .ok (.iload 4, 2) := dk_21 4 (dk_at dksX0_newLand_15 17 rfl rfl)
theorem dX0_newLand_365 : decode cX0_newLand 365 = .ok (.aload_n 1, 1) := dk_43 (dk_at dksX0_newLand_15 19 rfl rfl)
theorem dX0_newLand_366 : decode cX0_newLand 366 = .ok (.iconst 1, 1) := dk_4 (dk_at dksX0_newLand_15 20 rfl rfl)
theorem dX0_newLand_367 : decode cX0_newLand 367 = .ok (.iload 4, 2) := dk_21 4 (dk_at dksX0_newLand_15 21 rfl rfl)
theorem dX0_newLand_369 : decode cX0_newLand 369 = .ok (.iadd, 1) := dk_96 (dk_at dksX0_newLand_15 23 rfl rfl)
theorem dX0_newLand_370 : decode cX0_newLand 370 = .ok (.invokestatic 74, 3) := dk_184 0 74 (dk_at dksX0_newLand_16 0 rfl rfl)
theorem dX0_newLand_373 : decode cX0_newLand 373 = .ok (.iastore, 1) := dk_79 (dk_at dksX0_newLand_16 3 rfl rfl)
theorem dX0_newLand_374 : decode cX0_newLand 374 = .ok (.iinc 4 1, 3) := dk_132 4 1 (dk_at dksX0_newLand_16 4 rfl rfl)
theorem dX0_newLand_377 : decode cX0_newLand 377 = .ok (.goto (-25), 3) := dk_167 255 231 (dk_at dksX0_newLand_16 7 rfl rfl)
theorem dX0_newLand_380 : decode cX0_newLand 380 = .ok (.iconst 0, 1) := dk_3 (dk_at dksX0_newLand_16 10 rfl rfl)
theorem dX0_newLand_381 : decode cX0_newLand 381 = .ok (.istore 4, 2) := dk_54 4 (dk_at dksX0_newLand_16 11 rfl rfl)
theorem dX0_newLand_383 : decode cX0_newLand 383 = .ok (.iload 4, 2) := dk_21 4 (dk_at dksX0_newLand_16 13 rfl rfl)
theorem dX0_newLand_385 : decode cX0_newLand 385 = .ok (.iconst 3, 1) := dk_6 (dk_at dksX0_newLand_16 15 rfl rfl)
theorem dX0_newLand_386 : decode cX0_newLand 386 = .ok (.if_icmp .ge 27, 3) := dk_162 0 27 (dk_at dksX0_newLand_16 16 rfl rfl)
theorem dX0_newLand_389 : decode cX0_newLand 389 = .ok (.aload_n 0, 1) := dk_42 (dk_at dksX0_newLand_16 19 rfl rfl)
theorem dX0_newLand_390 : decode cX0_newLand 390 = .ok (.getfield 15, 3) := dk_180 0 15 (dk_at dksX0_newLand_16 20 rfl rfl)
theorem dX0_newLand_393 : decode cX0_newLand 393 = .ok (.iload 4, 2) := dk_21 4 (dk_at dksX0_newLand_17 0 rfl rfl)
theorem dX0_newLand_395 : decode cX0_newLand 395 = .ok (.aload_n 1, 1) := dk_43 (dk_at dksX0_newLand_17 2 rfl rfl)
theorem dX0_newLand_396 : decode cX0_newLand 396 = .ok (.bipush 10, 2) := dk_16 10 (dk_at dksX0_newLand_17 3 rfl rfl)
theorem dX0_newLand_398 : decode cX0_newLand 398 = .ok (.iconst 4, 1) := dk_7 (dk_at dksX0_newLand_17 5 rfl rfl)
theorem dX0_newLand_399 : decode cX0_newLand 399 = .ok (.iload 4, 2) := dk_21 4 (dk_at dksX0_newLand_17 6 rfl rfl)
theorem dX0_newLand_401 : decode cX0_newLand 401 = .ok (.imul, 1) := dk_104 (dk_at dksX0_newLand_17 8 rfl rfl)
theorem dX0_newLand_402 : decode cX0_newLand 402 = .ok (.iadd, 1) := dk_96 (dk_at dksX0_newLand_17 9 rfl rfl)
theorem dX0_newLand_403 : decode cX0_newLand 403 = .ok (.invokestatic 91, 3) := dk_184 0 91 (dk_at dksX0_newLand_17 10 rfl rfl)
theorem dX0_newLand_406 : decode cX0_newLand 406 = .ok (.iastore, 1) := dk_79 (dk_at dksX0_newLand_17 13 rfl rfl)
theorem dX0_newLand_407 : decode cX0_newLand 407 = .ok (.iinc 4 1, 3) := dk_132 4 1 (dk_at dksX0_newLand_17 14 rfl rfl)
theorem dX0_newLand_410 : decode cX0_newLand 410 = .ok (.goto (-27), 3) := dk_167 255 229 (dk_at dksX0_newLand_17 17 rfl rfl)
theorem dX0_newLand_413 : decode cX0_newLand 413 = .ok (.aload_n 0, 1) := dk_42 (dk_at dksX0_newLand_17 20 rfl rfl)
theorem dX0_newLand_414 : decode cX0_newLand 414 = .ok (.getfield 21, 3) := dk_180 0 21 (dk_at dksX0_newLand_17 21 rfl rfl)
theorem dX0_newLand_417 : decode cX0_newLand 417 = .ok (.invokeinterface 94 1, 5) := by decide +kernel
theorem dX0_newLand_422 : decode cX0_newLand 422 = .ok (.aload_n 0, 1) := dk_42 (dk_at dksX0_newLand_18 5 rfl rfl)
theorem dX0_newLand_423 : decode cX0_newLand 423 = .ok (.getfield 21, 3) := dk_180 0 21 (dk_at dksX0_newLand_18 6 rfl rfl)
theorem dX0_newLand_426 : decode cX0_newLand 426 = .ok (.aload_n 3, 1) := dk_45 (dk_at dksX0_newLand_18 9 rfl rfl)
theorem dX0_newLand_427 : decode cX0_newLand 427 = .ok (.invokeinterface 97 2, 5) := by decide +kernel
theorem dX0_newLand_432 : decode cX0_newLand 432 = .ok (.pop, 1) := dk_87 (dk_at dksX0_newLand_18 15 rfl rfl)
theorem dX0_newLand_433 : decode cX0_newLand 433 = .ok (.aload_n 0, 1) := dk_42 (dk_at dksX0_newLand_18 16 rfl rfl)
theorem dX0_newLand_434 : decode cX0_newLand 434 = .ok (.getfield 28, 3) := dk_180 0 28 (dk_at dksX0_newLand_18 17 rfl rfl)
theorem dX0_newLand_437 : decode cX0_newLand 437 = .ok (.invokeinterface 94 1, 5) := by decide +kernel
theorem dX0_newLand_442 : decode cX0_newLand 442 = .ok (.aload_n 0, 1) := dk_42 (dk_at dksX0_newLand_19 5 rfl rfl)
theorem dX0_newLand_443 : decode cX0_newLand 443 = .ok (.getfield 21, 3) := dk_180 0 21 (dk_at dksX0_newLand_19 6 rfl rfl)
theorem dX0_newLand_446 : decode cX0_newLand 446 = .ok (.invokeinterface 54 1, 5) := by decide +kernel
theorem dX0_newLand_451 : decode cX0_newLand 451 = .ok (.ireturn, 1) := dk_172 (dk_at dksX0_newLand_19 14 rfl rfl)
abbrev cX0_codeAt : ByteArray := prog_1_method_9_code
def yX0_codeAt : MethodName := ⟨RX0, "codeAt", "([II)I"⟩
def dkwX0_codeAt_0 : List UInt8 := [27, 42, 190, 162, 0, 9, 42, 27, 46, 167, 0, 5, 16, 247, 172]
abbrev dktX0_codeAt_0 : List UInt8 := dkwX0_codeAt_0 ++ []
theorem dksX0_codeAt_0 : cX0_codeAt.data.toList.drop 0 = dktX0_codeAt_0 := by decide +kernel
theorem dX0_codeAt_0 : decode cX0_codeAt 0 = .ok (.iload_n 1, 1) := dk_27 (dk_at dksX0_codeAt_0 0 rfl rfl)
theorem dX0_codeAt_1 : decode cX0_codeAt 1 = .ok (.aload_n 0, 1) := dk_42 (dk_at dksX0_codeAt_0 1 rfl rfl)
theorem dX0_codeAt_2 : decode cX0_codeAt 2 = .ok (.arraylength, 1) := dk_190 (dk_at dksX0_codeAt_0 2 rfl rfl)
theorem dX0_codeAt_3 : decode cX0_codeAt 3 = .ok (.if_icmp .ge 9, 3) := dk_162 0 9 (dk_at dksX0_codeAt_0 3 rfl rfl)
theorem dX0_codeAt_6 : decode cX0_codeAt 6 = .ok (.aload_n 0, 1) := dk_42 (dk_at dksX0_codeAt_0 6 rfl rfl)
theorem dX0_codeAt_7 : decode cX0_codeAt 7 = .ok (.iload_n 1, 1) := dk_27 (dk_at dksX0_codeAt_0 7 rfl rfl)
theorem dX0_codeAt_8 : decode cX0_codeAt 8 = .ok (.iaload, 1) := dk_46 (dk_at dksX0_codeAt_0 8 rfl rfl)
theorem dX0_codeAt_9 : decode cX0_codeAt 9 = .ok (.goto 5, 3) := dk_167 0 5 (dk_at dksX0_codeAt_0 9 rfl rfl)
theorem dX0_codeAt_12 : decode cX0_codeAt 12 = .ok (.bipush (-9), 2) := dk_16 247 (dk_at dksX0_codeAt_0 12 rfl rfl)
theorem dX0_codeAt_14 : decode cX0_codeAt 14 = .ok (.ireturn, 1) := dk_172 (dk_at dksX0_codeAt_0 14 rfl rfl)
abbrev cX0_isFigure : ByteArray := prog_1_method_10_code
def yX0_isFigure : MethodName := ⟨RX0, "isFigure", "([IIII)Z"⟩
def dkwX0_isFigure_0 : List UInt8 := [42, 27, 184, 0, 66, 16, 48, 100, 133, 28, 133, 29, 133, 184, 0, 58, 172]
abbrev dktX0_isFigure_0 : List UInt8 := dkwX0_isFigure_0 ++ []
theorem dksX0_isFigure_0 : cX0_isFigure.data.toList.drop 0 = dktX0_isFigure_0 := by decide +kernel
theorem dX0_isFigure_0 : decode cX0_isFigure 0 = .ok (.aload_n 0, 1) := dk_42 (dk_at dksX0_isFigure_0 0 rfl rfl)
theorem dX0_isFigure_1 : decode cX0_isFigure 1 = .ok (.iload_n 1, 1) := dk_27 (dk_at dksX0_isFigure_0 1 rfl rfl)
theorem dX0_isFigure_2 : decode cX0_isFigure 2 = .ok (.invokestatic 66, 3) := dk_184 0 66 (dk_at dksX0_isFigure_0 2 rfl rfl)
theorem dX0_isFigure_5 : decode cX0_isFigure 5 = .ok (.bipush 48, 2) := dk_16 48 (dk_at dksX0_isFigure_0 5 rfl rfl)
theorem dX0_isFigure_7 : decode cX0_isFigure 7 = .ok (.isub, 1) := dk_100 (dk_at dksX0_isFigure_0 7 rfl rfl)
theorem dX0_isFigure_8 : decode cX0_isFigure 8 = .ok (.i2l, 1) := dk_133 (dk_at dksX0_isFigure_0 8 rfl rfl)
theorem dX0_isFigure_9 : decode cX0_isFigure 9 = .ok (.iload_n 2, 1) := dk_28 (dk_at dksX0_isFigure_0 9 rfl rfl)
theorem dX0_isFigure_10 : decode cX0_isFigure 10 = .ok (.i2l, 1) := dk_133 (dk_at dksX0_isFigure_0 10 rfl rfl)
theorem dX0_isFigure_11 : decode cX0_isFigure 11 = .ok (.iload_n 3, 1) := dk_29 (dk_at dksX0_isFigure_0 11 rfl rfl)
theorem dX0_isFigure_12 : decode cX0_isFigure 12 = .ok (.i2l, 1) := dk_133 (dk_at dksX0_isFigure_0 12 rfl rfl)
theorem dX0_isFigure_13 : decode cX0_isFigure 13 = .ok (.invokestatic 58, 3) := dk_184 0 58 (dk_at dksX0_isFigure_0 13 rfl rfl)
theorem dX0_isFigure_16 : decode cX0_isFigure 16 = .ok (.ireturn, 1) := dk_172 (dk_at dksX0_isFigure_0 16 rfl rfl)
abbrev cX0_rightOf : ByteArray := prog_1_method_12_code
def yX0_rightOf : MethodName := ⟨RX0, "rightOf", "([II)I"⟩
def dkwX0_rightOf_3 : List UInt8 := [160, 0, 7, 8, 167, 0, 5, 16, 9, 184, 0, 70, 153, 0, 7, 6, 167, 0, 4, 5, 172]
abbrev dktX0_rightOf_3 : List UInt8 := dkwX0_rightOf_3 ++ []
def dkwX0_rightOf_2 : List UInt8 := [154, 0, 5, 4, 172, 42, 27, 5, 96, 3, 28, 153, 0, 18, 42, 27, 4, 96, 184, 0, 74, 8]
abbrev dktX0_rightOf_2 : List UInt8 := dkwX0_rightOf_2 ++ dktX0_rightOf_3
def dkwX0_rightOf_1 : List UInt8 := [167, 0, 4, 3, 61, 42, 27, 4, 96, 3, 28, 153, 0, 7, 8, 167, 0, 5, 16, 9, 184, 0, 70]
abbrev dktX0_rightOf_1 : List UInt8 := dkwX0_rightOf_1 ++ dktX0_rightOf_2
def dkwX0_rightOf_0 : List UInt8 := [42, 27, 3, 5, 184, 0, 70, 154, 0, 5, 3, 172, 42, 27, 184, 0, 74, 5, 160, 0, 7, 4]
abbrev dktX0_rightOf_0 : List UInt8 := dkwX0_rightOf_0 ++ dktX0_rightOf_1
theorem dksX0_rightOf_0 : cX0_rightOf.data.toList.drop 0 = dktX0_rightOf_0 := by decide +kernel
theorem dksX0_rightOf_1 : cX0_rightOf.data.toList.drop 22 = dktX0_rightOf_1 := dk_seg dksX0_rightOf_0 22 rfl rfl
theorem dksX0_rightOf_2 : cX0_rightOf.data.toList.drop 45 = dktX0_rightOf_2 := dk_seg dksX0_rightOf_1 23 rfl rfl
theorem dksX0_rightOf_3 : cX0_rightOf.data.toList.drop 67 = dktX0_rightOf_3 := dk_seg dksX0_rightOf_2 22 rfl rfl
theorem dX0_rightOf_0 : decode cX0_rightOf 0 = .ok (.aload_n 0, 1) := dk_42 (dk_at dksX0_rightOf_0 0 rfl rfl)
theorem dX0_rightOf_1 : decode cX0_rightOf 1 = .ok (.iload_n 1, 1) := dk_27 (dk_at dksX0_rightOf_0 1 rfl rfl)
theorem dX0_rightOf_2 : decode cX0_rightOf 2 = .ok (.iconst 0, 1) := dk_3 (dk_at dksX0_rightOf_0 2 rfl rfl)
theorem dX0_rightOf_3 : decode cX0_rightOf 3 = .ok (.iconst 2, 1) := dk_5 (dk_at dksX0_rightOf_0 3 rfl rfl)
theorem dX0_rightOf_4 : decode cX0_rightOf 4 = .ok (.invokestatic 70, 3) := dk_184 0 70 (dk_at dksX0_rightOf_0 4 rfl rfl)
theorem dX0_rightOf_7 : decode cX0_rightOf 7 = .ok (.ifCond .ne 5, 3) := dk_154 0 5 (dk_at dksX0_rightOf_0 7 rfl rfl)
theorem dX0_rightOf_10 : decode cX0_rightOf 10 = .ok (.iconst 0, 1) := dk_3 (dk_at dksX0_rightOf_0 10 rfl rfl)
theorem dX0_rightOf_11 : decode cX0_rightOf 11 = .ok (.ireturn, 1) := dk_172 (dk_at dksX0_rightOf_0 11 rfl rfl)
theorem dX0_rightOf_12 : decode cX0_rightOf 12 = .ok (.aload_n 0, 1) := dk_42 (dk_at dksX0_rightOf_0 12 rfl rfl)
theorem dX0_rightOf_13 : decode cX0_rightOf 13 = .ok (.iload_n 1, 1) := dk_27 (dk_at dksX0_rightOf_0 13 rfl rfl)
theorem dX0_rightOf_14 : decode cX0_rightOf 14 = .ok (.invokestatic 74, 3) := dk_184 0 74 (dk_at dksX0_rightOf_0 14 rfl rfl)
theorem dX0_rightOf_17 : decode cX0_rightOf 17 = .ok (.iconst 2, 1) := dk_5 (dk_at dksX0_rightOf_0 17 rfl rfl)
theorem dX0_rightOf_18 : decode cX0_rightOf 18 = .ok (.if_icmp .ne 7, 3) := dk_160 0 7 (dk_at dksX0_rightOf_0 18 rfl rfl)
theorem dX0_rightOf_21 : decode cX0_rightOf 21 = .ok (.iconst 1, 1) := dk_4 (dk_at dksX0_rightOf_0 21 rfl rfl)
theorem dX0_rightOf_22 : decode cX0_rightOf 22 = .ok (.goto 4, 3) := dk_167 0 4 (dk_at dksX0_rightOf_1 0 rfl rfl)
theorem dX0_rightOf_25 : decode cX0_rightOf 25 = .ok (.iconst 0, 1) := dk_3 (dk_at dksX0_rightOf_1 3 rfl rfl)
theorem dX0_rightOf_26 : decode cX0_rightOf 26 = .ok (.istore_n 2, 1) := dk_61 (dk_at dksX0_rightOf_1 4 rfl rfl)
theorem dX0_rightOf_27 : decode cX0_rightOf 27 = .ok (.aload_n 0, 1) := dk_42 (dk_at dksX0_rightOf_1 5 rfl rfl)
theorem dX0_rightOf_28 : decode cX0_rightOf 28 = .ok (.iload_n 1, 1) := dk_27 (dk_at dksX0_rightOf_1 6 rfl rfl)
theorem dX0_rightOf_29 : decode cX0_rightOf 29 = .ok (.iconst 1, 1) := dk_4 (dk_at dksX0_rightOf_1 7 rfl rfl)
theorem dX0_rightOf_30 : decode cX0_rightOf 30 = .ok (.iadd, 1) := dk_96 (dk_at dksX0_rightOf_1 8 rfl rfl)
theorem dX0_rightOf_31 : decode cX0_rightOf 31 = .ok (.iconst 0, 1) := dk_3 (dk_at dksX0_rightOf_1 9 rfl rfl)
theorem dX0_rightOf_32 : decode cX0_rightOf 32 = .ok (.iload_n 2, 1) := dk_28 (dk_at dksX0_rightOf_1 10 rfl rfl)
theorem dX0_rightOf_33 : decode cX0_rightOf 33 = .ok (.ifCond .eq 7, 3) := dk_153 0 7 (dk_at dksX0_rightOf_1 11 rfl rfl)
theorem dX0_rightOf_36 : decode cX0_rightOf 36 = .ok (.iconst 5, 1) := dk_8 (dk_at dksX0_rightOf_1 14 rfl rfl)
theorem dX0_rightOf_37 : decode cX0_rightOf 37 = .ok (.goto 5, 3) := dk_167 0 5 (dk_at dksX0_rightOf_1 15 rfl rfl)
theorem dX0_rightOf_40 : decode cX0_rightOf 40 = .ok (.bipush 9, 2) := dk_16 9 (dk_at dksX0_rightOf_1 18 rfl rfl)
theorem dX0_rightOf_42 : decode cX0_rightOf 42 = .ok (.invokestatic 70, 3) := dk_184 0 70 (dk_at dksX0_rightOf_1 20 rfl rfl)
theorem dX0_rightOf_45 : decode cX0_rightOf 45 = .ok (.ifCond .ne 5, 3) := dk_154 0 5 (dk_at dksX0_rightOf_2 0 rfl rfl)
theorem dX0_rightOf_48 : decode cX0_rightOf 48 = .ok (.iconst 1, 1) := dk_4 (dk_at dksX0_rightOf_2 3 rfl rfl)
theorem dX0_rightOf_49 : decode cX0_rightOf 49 = .ok (.ireturn, 1) := dk_172 (dk_at dksX0_rightOf_2 4 rfl rfl)
theorem dX0_rightOf_50 : decode cX0_rightOf 50 = .ok (.aload_n 0, 1) := dk_42 (dk_at dksX0_rightOf_2 5 rfl rfl)
theorem dX0_rightOf_51 : decode cX0_rightOf 51 = .ok (.iload_n 1, 1) := dk_27 (dk_at dksX0_rightOf_2 6 rfl rfl)
theorem dX0_rightOf_52 : decode cX0_rightOf 52 = .ok (.iconst 2, 1) := dk_5 (dk_at dksX0_rightOf_2 7 rfl rfl)
theorem dX0_rightOf_53 : decode cX0_rightOf 53 = .ok (.iadd, 1) := dk_96 (dk_at dksX0_rightOf_2 8 rfl rfl)
theorem dX0_rightOf_54 : decode cX0_rightOf 54 = .ok (.iconst 0, 1) := dk_3 (dk_at dksX0_rightOf_2 9 rfl rfl)
theorem dX0_rightOf_55 : decode cX0_rightOf 55 = .ok (.iload_n 2, 1) := dk_28 (dk_at dksX0_rightOf_2 10 rfl rfl)
theorem dX0_rightOf_56 : decode cX0_rightOf 56 = .ok (.ifCond .eq 18, 3) := dk_153 0 18 (dk_at dksX0_rightOf_2 11 rfl rfl)
theorem dX0_rightOf_59 : decode cX0_rightOf 59 = .ok (.aload_n 0, 1) := dk_42 (dk_at dksX0_rightOf_2 14 rfl rfl)
theorem dX0_rightOf_60 : decode cX0_rightOf 60 = .ok (.iload_n 1, 1) := dk_27 (dk_at dksX0_rightOf_2 15 rfl rfl)
theorem dX0_rightOf_61 : decode cX0_rightOf 61 = .ok (.iconst 1, 1) := dk_4 (dk_at dksX0_rightOf_2 16 rfl rfl)
theorem dX0_rightOf_62 : decode cX0_rightOf 62 = .ok (.iadd, 1) := dk_96 (dk_at dksX0_rightOf_2 17 rfl rfl)
theorem dX0_rightOf_63 : decode cX0_rightOf 63 = .ok (.invokestatic 74, 3) := dk_184 0 74 (dk_at dksX0_rightOf_2 18 rfl rfl)
theorem dX0_rightOf_66 : decode cX0_rightOf 66 = .ok (.iconst 5, 1) := dk_8 (dk_at dksX0_rightOf_2 21 rfl rfl)
theorem dX0_rightOf_67 : decode cX0_rightOf 67 = .ok (.if_icmp .ne 7, 3) := dk_160 0 7 (dk_at dksX0_rightOf_3 0 rfl rfl)
theorem dX0_rightOf_70 : decode cX0_rightOf 70 = .ok (.iconst 5, 1) := dk_8 (dk_at dksX0_rightOf_3 3 rfl rfl)
theorem dX0_rightOf_71 : decode cX0_rightOf 71 = .ok (.goto 5, 3) := dk_167 0 5 (dk_at dksX0_rightOf_3 4 rfl rfl)
theorem dX0_rightOf_74 : decode cX0_rightOf 74 = .ok (.bipush 9, 2) := dk_16 9 (dk_at dksX0_rightOf_3 7 rfl rfl)
theorem dX0_rightOf_76 : decode cX0_rightOf 76 = .ok (.invokestatic 70, 3) := dk_184 0 70 (dk_at dksX0_rightOf_3 9 rfl rfl)
theorem dX0_rightOf_79 : decode cX0_rightOf 79 = .ok (.ifCond .eq 7, 3) := dk_153 0 7 (dk_at dksX0_rightOf_3 12 rfl rfl)
theorem dX0_rightOf_82 : decode cX0_rightOf 82 = .ok (.iconst 3, 1) := dk_6 (dk_at dksX0_rightOf_3 15 rfl rfl)
theorem dX0_rightOf_83 : decode cX0_rightOf 83 = .ok (.goto 4, 3) := dk_167 0 4 (dk_at dksX0_rightOf_3 16 rfl rfl)
theorem dX0_rightOf_86 : decode cX0_rightOf 86 = .ok (.iconst 2, 1) := dk_5 (dk_at dksX0_rightOf_3 19 rfl rfl)
theorem dX0_rightOf_87 : decode cX0_rightOf 87 = .ok (.ireturn, 1) := dk_172 (dk_at dksX0_rightOf_3 20 rfl rfl)
abbrev cX0_figureAt : ByteArray := prog_1_method_11_code
def yX0_figureAt : MethodName := ⟨RX0, "figureAt", "([II)I"⟩
def dkwX0_figureAt_0 : List UInt8 := [42, 27, 46, 16, 48, 100, 172]
abbrev dktX0_figureAt_0 : List UInt8 := dkwX0_figureAt_0 ++ []
theorem dksX0_figureAt_0 : cX0_figureAt.data.toList.drop 0 = dktX0_figureAt_0 := by decide +kernel
theorem dX0_figureAt_0 : decode cX0_figureAt 0 = .ok (.aload_n 0, 1) := dk_42 (dk_at dksX0_figureAt_0 0 rfl rfl)
theorem dX0_figureAt_1 : decode cX0_figureAt 1 = .ok (.iload_n 1, 1) := dk_27 (dk_at dksX0_figureAt_0 1 rfl rfl)
theorem dX0_figureAt_2 : decode cX0_figureAt 2 = .ok (.iaload, 1) := dk_46 (dk_at dksX0_figureAt_0 2 rfl rfl)
theorem dX0_figureAt_3 : decode cX0_figureAt 3 = .ok (.bipush 48, 2) := dk_16 48 (dk_at dksX0_figureAt_0 3 rfl rfl)
theorem dX0_figureAt_5 : decode cX0_figureAt 5 = .ok (.isub, 1) := dk_100 (dk_at dksX0_figureAt_0 5 rfl rfl)
theorem dX0_figureAt_6 : decode cX0_figureAt 6 = .ok (.ireturn, 1) := dk_172 (dk_at dksX0_figureAt_0 6 rfl rfl)
abbrev cX0_setAt : ByteArray := prog_1_method_13_code
def yX0_setAt : MethodName := ⟨RX0, "setAt", "([II)I"⟩
def dkwX0_setAt_1 : List UInt8 := [184, 0, 74, 96, 172]
abbrev dktX0_setAt_1 : List UInt8 := dkwX0_setAt_1 ++ []
def dkwX0_setAt_0 : List UInt8 := [16, 100, 42, 27, 184, 0, 74, 104, 16, 10, 42, 27, 4, 96, 184, 0, 74, 104, 96, 42, 27, 5, 96]
abbrev dktX0_setAt_0 : List UInt8 := dkwX0_setAt_0 ++ dktX0_setAt_1
theorem dksX0_setAt_0 : cX0_setAt.data.toList.drop 0 = dktX0_setAt_0 := by decide +kernel
theorem dksX0_setAt_1 : cX0_setAt.data.toList.drop 23 = dktX0_setAt_1 := dk_seg dksX0_setAt_0 23 rfl rfl
theorem dX0_setAt_0 : decode cX0_setAt 0 = .ok (.bipush 100, 2) := dk_16 100 (dk_at dksX0_setAt_0 0 rfl rfl)
theorem dX0_setAt_2 : decode cX0_setAt 2 = .ok (.aload_n 0, 1) := dk_42 (dk_at dksX0_setAt_0 2 rfl rfl)
theorem dX0_setAt_3 : decode cX0_setAt 3 = .ok (.iload_n 1, 1) := dk_27 (dk_at dksX0_setAt_0 3 rfl rfl)
theorem dX0_setAt_4 : decode cX0_setAt 4 = .ok (.invokestatic 74, 3) := dk_184 0 74 (dk_at dksX0_setAt_0 4 rfl rfl)
theorem dX0_setAt_7 : decode cX0_setAt 7 = .ok (.imul, 1) := dk_104 (dk_at dksX0_setAt_0 7 rfl rfl)
theorem dX0_setAt_8 : decode cX0_setAt 8 = .ok (.bipush 10, 2) := dk_16 10 (dk_at dksX0_setAt_0 8 rfl rfl)
theorem dX0_setAt_10 : decode cX0_setAt 10 = .ok (.aload_n 0, 1) := dk_42 (dk_at dksX0_setAt_0 10 rfl rfl)
theorem dX0_setAt_11 : decode cX0_setAt 11 = .ok (.iload_n 1, 1) := dk_27 (dk_at dksX0_setAt_0 11 rfl rfl)
theorem dX0_setAt_12 : decode cX0_setAt 12 = .ok (.iconst 1, 1) := dk_4 (dk_at dksX0_setAt_0 12 rfl rfl)
theorem dX0_setAt_13 : decode cX0_setAt 13 = .ok (.iadd, 1) := dk_96 (dk_at dksX0_setAt_0 13 rfl rfl)
theorem dX0_setAt_14 : decode cX0_setAt 14 = .ok (.invokestatic 74, 3) := dk_184 0 74 (dk_at dksX0_setAt_0 14 rfl rfl)
theorem dX0_setAt_17 : decode cX0_setAt 17 = .ok (.imul, 1) := dk_104 (dk_at dksX0_setAt_0 17 rfl rfl)
theorem dX0_setAt_18 : decode cX0_setAt 18 = .ok (.iadd, 1) := dk_96 (dk_at dksX0_setAt_0 18 rfl rfl)
theorem dX0_setAt_19 : decode cX0_setAt 19 = .ok (.aload_n 0, 1) := dk_42 (dk_at dksX0_setAt_0 19 rfl rfl)
theorem dX0_setAt_20 : decode cX0_setAt 20 = .ok (.iload_n 1, 1) := dk_27 (dk_at dksX0_setAt_0 20 rfl rfl)
theorem dX0_setAt_21 : decode cX0_setAt 21 = .ok (.iconst 2, 1) := dk_5 (dk_at dksX0_setAt_0 21 rfl rfl)
theorem dX0_setAt_22 : decode cX0_setAt 22 = .ok (.iadd, 1) := dk_96 (dk_at dksX0_setAt_0 22 rfl rfl)
theorem dX0_setAt_23 : decode cX0_setAt 23 = .ok (.invokestatic 74, 3) := dk_184 0 74 (dk_at dksX0_setAt_1 0 rfl rfl)
theorem dX0_setAt_26 : decode cX0_setAt 26 = .ok (.iadd, 1) := dk_96 (dk_at dksX0_setAt_1 3 rfl rfl)
theorem dX0_setAt_27 : decode cX0_setAt 27 = .ok (.ireturn, 1) := dk_172 (dk_at dksX0_setAt_1 4 rfl rfl)
abbrev cX0_way : ByteArray := prog_1_method_62_code
def yX0_way : MethodName := ⟨RX0, "way", "(IIIIII)I"⟩
def dkwX0_way_2 : List UInt8 := [9, 20, 1, 76, 184, 0, 58, 153, 0, 7, 4, 167, 0, 4, 3, 182, 1, 65, 172]
abbrev dktX0_way_2 : List UInt8 := dkwX0_way_2 ++ []
def dkwX0_way_1 : List UInt8 := [21, 5, 27, 21, 6, 183, 1, 71, 21, 5, 133, 9, 20, 1, 74, 184, 0, 58, 153, 0, 20, 21, 6, 133]
abbrev dktX0_way_1 : List UInt8 := dkwX0_way_1 ++ dktX0_way_2
def dkwX0_way_0 : List UInt8 := [27, 184, 0, 128, 154, 0, 10, 42, 16, 254, 182, 1, 0, 172, 42, 187, 1, 69, 89, 42, 28, 29, 21, 4]
abbrev dktX0_way_0 : List UInt8 := dkwX0_way_0 ++ dktX0_way_1
theorem dksX0_way_0 : cX0_way.data.toList.drop 0 = dktX0_way_0 := by decide +kernel
theorem dksX0_way_1 : cX0_way.data.toList.drop 24 = dktX0_way_1 := dk_seg dksX0_way_0 24 rfl rfl
theorem dksX0_way_2 : cX0_way.data.toList.drop 48 = dktX0_way_2 := dk_seg dksX0_way_1 24 rfl rfl
theorem dX0_way_0 : decode cX0_way 0 = .ok (.iload_n 1, 1) := dk_27 (dk_at dksX0_way_0 0 rfl rfl)
theorem dX0_way_1 : decode cX0_way 1 = .ok (.invokestatic 128, 3) := dk_184 0 128 (dk_at dksX0_way_0 1 rfl rfl)
theorem dX0_way_4 : decode cX0_way 4 = .ok (.ifCond .ne 10, 3) := dk_154 0 10 (dk_at dksX0_way_0 4 rfl rfl)
theorem dX0_way_7 : decode cX0_way 7 = .ok (.aload_n 0, 1) := dk_42 (dk_at dksX0_way_0 7 rfl rfl)
theorem dX0_way_8 : decode cX0_way 8 = .ok (.bipush (-2), 2) := dk_16 254 (dk_at dksX0_way_0 8 rfl rfl)
theorem dX0_way_10 : decode cX0_way 10 = .ok (.invokevirtual 256, 3) := dk_182 1 0 (dk_at dksX0_way_0 10 rfl rfl)
theorem dX0_way_13 : decode cX0_way 13 = .ok (.ireturn, 1) := dk_172 (dk_at dksX0_way_0 13 rfl rfl)
theorem dX0_way_14 : decode cX0_way 14 = .ok (.aload_n 0, 1) := dk_42 (dk_at dksX0_way_0 14 rfl rfl)
theorem dX0_way_15 : decode cX0_way 15 = .ok (.new 325, 3) := dk_187 1 69 (dk_at dksX0_way_0 15 rfl rfl)
theorem dX0_way_18 : decode cX0_way 18 = .ok (.dup, 1) := dk_89 (dk_at dksX0_way_0 18 rfl rfl)
theorem dX0_way_19 : decode cX0_way 19 = .ok (.aload_n 0, 1) := dk_42 (dk_at dksX0_way_0 19 rfl rfl)
theorem dX0_way_20 : decode cX0_way 20 = .ok (.iload_n 2, 1) := dk_28 (dk_at dksX0_way_0 20 rfl rfl)
theorem dX0_way_21 : decode cX0_way 21 = .ok (.iload_n 3, 1) := dk_29 (dk_at dksX0_way_0 21 rfl rfl)
theorem dX0_way_22 : decode cX0_way 22 = .ok (.iload 4, 2) := dk_21 4 (dk_at dksX0_way_0 22 rfl rfl)
theorem dX0_way_24 : decode cX0_way 24 = .ok (.iload 5, 2) := dk_21 5 (dk_at dksX0_way_1 0 rfl rfl)
theorem dX0_way_26 : decode cX0_way 26 = .ok (.iload_n 1, 1) := dk_27 (dk_at dksX0_way_1 2 rfl rfl)
theorem dX0_way_27 : decode cX0_way 27 = .ok (.iload 6, 2) := dk_21 6 (dk_at dksX0_way_1 3 rfl rfl)
theorem dX0_way_29 : decode cX0_way 29 = .ok (.invokespecial 327, 3) := dk_183 1 71 (dk_at dksX0_way_1 5 rfl rfl)
theorem dX0_way_32 : decode cX0_way 32 = .ok (.iload 5, 2) := dk_21 5 (dk_at dksX0_way_1 8 rfl rfl)
theorem dX0_way_34 : decode cX0_way 34 = .ok (.i2l, 1) := dk_133 (dk_at dksX0_way_1 10 rfl rfl)
theorem dX0_way_35 : decode cX0_way 35 = .ok (.lconst 0, 1) := dk_9 (dk_at dksX0_way_1 11 rfl rfl)
theorem dX0_way_36 : decode cX0_way 36 = .ok (.ldc2_w 330, 3) := dk_20 1 74 (dk_at dksX0_way_1 12 rfl rfl)
theorem dX0_way_39 : decode cX0_way 39 = .ok (.invokestatic 58, 3) := dk_184 0 58 (dk_at dksX0_way_1 15 rfl rfl)
theorem dX0_way_42 : decode cX0_way 42 = .ok (.ifCond .eq 20, 3) := dk_153 0 20 (dk_at dksX0_way_1 18 rfl rfl)
theorem dX0_way_45 : decode cX0_way 45 = .ok (.iload 6, 2) := dk_21 6 (dk_at dksX0_way_1 21 rfl rfl)
theorem dX0_way_47 : decode cX0_way 47 = .ok (.i2l, 1) := dk_133 (dk_at dksX0_way_1 23 rfl rfl)
theorem dX0_way_48 : decode cX0_way 48 = .ok (.lconst 0, 1) := dk_9 (dk_at dksX0_way_2 0 rfl rfl)
theorem dX0_way_49 : decode cX0_way 49 = .ok (.ldc2_w 332, 3) := dk_20 1 76 (dk_at dksX0_way_2 1 rfl rfl)
theorem dX0_way_52 : decode cX0_way 52 = .ok (.invokestatic 58, 3) := dk_184 0 58 (dk_at dksX0_way_2 4 rfl rfl)
theorem dX0_way_55 : decode cX0_way 55 = .ok (.ifCond .eq 7, 3) := dk_153 0 7 (dk_at dksX0_way_2 7 rfl rfl)
theorem dX0_way_58 : decode cX0_way 58 = .ok (.iconst 1, 1) := dk_4 (dk_at dksX0_way_2 10 rfl rfl)
theorem dX0_way_59 : decode cX0_way 59 = .ok (.goto 4, 3) := dk_167 0 4 (dk_at dksX0_way_2 11 rfl rfl)
theorem dX0_way_62 : decode cX0_way 62 = .ok (.iconst 0, 1) := dk_3 (dk_at dksX0_way_2 14 rfl rfl)
theorem dX0_way_63 : decode cX0_way 63 = .ok (.invokevirtual 321, 3) := dk_182 1 65 (dk_at dksX0_way_2 15 rfl rfl)
theorem dX0_way_66 : decode cX0_way 66 = .ok (.ireturn, 1) := dk_172 (dk_at dksX0_way_2 18 rfl rfl)
abbrev cX0_copy : ByteArray := prog_1_method_63_code
def yX0_copy : MethodName := ⟨RX0, "copy", "(IIIII)I"⟩
def dkwX0_copy_1 : List UInt8 := [187, 1, 78, 89, 42, 27, 28, 29, 21, 4, 21, 5, 183, 1, 80, 182, 1, 81, 172]
abbrev dktX0_copy_1 : List UInt8 := dkwX0_copy_1 ++ []
def dkwX0_copy_0 : List UInt8 := [27, 184, 0, 253, 154, 0, 10, 29, 184, 0, 253, 153, 0, 11, 42, 2, 182, 1, 0, 167, 0, 21]
abbrev dktX0_copy_0 : List UInt8 := dkwX0_copy_0 ++ dktX0_copy_1
theorem dksX0_copy_0 : cX0_copy.data.toList.drop 0 = dktX0_copy_0 := by decide +kernel
theorem dksX0_copy_1 : cX0_copy.data.toList.drop 22 = dktX0_copy_1 := dk_seg dksX0_copy_0 22 rfl rfl
theorem dX0_copy_0 : decode cX0_copy 0 = .ok (.iload_n 1, 1) := dk_27 (dk_at dksX0_copy_0 0 rfl rfl)
theorem dX0_copy_1 : decode cX0_copy 1 = .ok (.invokestatic 253, 3) := dk_184 0 253 (dk_at dksX0_copy_0 1 rfl rfl)
theorem dX0_copy_4 : decode cX0_copy 4 = .ok (.ifCond .ne 10, 3) := dk_154 0 10 (dk_at dksX0_copy_0 4 rfl rfl)
theorem dX0_copy_7 : decode cX0_copy 7 = .ok (.iload_n 3, 1) := dk_29 (dk_at dksX0_copy_0 7 rfl rfl)
theorem dX0_copy_8 : decode cX0_copy 8 = .ok (.invokestatic 253, 3) := dk_184 0 253 (dk_at dksX0_copy_0 8 rfl rfl)
theorem dX0_copy_11 : decode cX0_copy 11 = .ok (.ifCond .eq 11, 3) := dk_153 0 11 (dk_at dksX0_copy_0 11 rfl rfl)
theorem dX0_copy_14 : decode cX0_copy 14 = .ok (.aload_n 0, 1) := dk_42 (dk_at dksX0_copy_0 14 rfl rfl)
theorem dX0_copy_15 : decode cX0_copy 15 = .ok (.iconst (-1), 1) := dk_2 (dk_at dksX0_copy_0 15 rfl rfl)
theorem dX0_copy_16 : decode cX0_copy 16 = .ok (.invokevirtual 256, 3) := dk_182 1 0 (dk_at dksX0_copy_0 16 rfl rfl)
theorem dX0_copy_19 : decode cX0_copy 19 = .ok (.goto 21, 3) := dk_167 0 21 (dk_at dksX0_copy_0 19 rfl rfl)
theorem dX0_copy_22 : decode cX0_copy 22 = .ok (.new 334, 3) := dk_187 1 78 (dk_at dksX0_copy_1 0 rfl rfl)
theorem dX0_copy_25 : decode cX0_copy 25 = .ok (.dup, 1) := dk_89 (dk_at dksX0_copy_1 3 rfl rfl)
theorem dX0_copy_26 : decode cX0_copy 26 = .ok (.aload_n 0, 1) := dk_42 (dk_at dksX0_copy_1 4 rfl rfl)
theorem dX0_copy_27 : decode cX0_copy 27 = .ok (.iload_n 1, 1) := dk_27 (dk_at dksX0_copy_1 5 rfl rfl)
theorem dX0_copy_28 : decode cX0_copy 28 = .ok (.iload_n 2, 1) := dk_28 (dk_at dksX0_copy_1 6 rfl rfl)
theorem dX0_copy_29 : decode cX0_copy 29 = .ok (.iload_n 3, 1) := dk_29 (dk_at dksX0_copy_1 7 rfl rfl)
theorem dX0_copy_30 : decode cX0_copy 30 = .ok (.iload 4, 2) := dk_21 4 (dk_at dksX0_copy_1 8 rfl rfl)
theorem dX0_copy_32 : decode cX0_copy 32 = .ok (.iload 5, 2) := dk_21 5 (dk_at dksX0_copy_1 10 rfl rfl)
theorem dX0_copy_34 : decode cX0_copy 34 = .ok (.invokespecial 336, 3) := dk_183 1 80 (dk_at dksX0_copy_1 12 rfl rfl)
theorem dX0_copy_37 : decode cX0_copy 37 = .ok (.invokevirtual 337, 3) := dk_182 1 81 (dk_at dksX0_copy_1 15 rfl rfl)
theorem dX0_copy_40 : decode cX0_copy 40 = .ok (.ireturn, 1) := dk_172 (dk_at dksX0_copy_1 18 rfl rfl)
abbrev cX0_tell : ByteArray := prog_1_method_64_code
def yX0_tell : MethodName := ⟨RX0, "tell", "(I)I"⟩
def dkwX0_tell_1 : List UInt8 := [192, 0, 37, 182, 1, 82, 172]
abbrev dktX0_tell_1 : List UInt8 := dkwX0_tell_1 ++ []
def dkwX0_tell_0 : List UInt8 := [42, 27, 182, 0, 101, 153, 0, 7, 2, 167, 0, 19, 42, 180, 0, 21, 27, 185, 0, 105, 2, 0]
abbrev dktX0_tell_0 : List UInt8 := dkwX0_tell_0 ++ dktX0_tell_1
theorem dksX0_tell_0 : cX0_tell.data.toList.drop 0 = dktX0_tell_0 := by decide +kernel
theorem dksX0_tell_1 : cX0_tell.data.toList.drop 22 = dktX0_tell_1 := dk_seg dksX0_tell_0 22 rfl rfl
theorem dX0_tell_0 : decode cX0_tell 0 = .ok (.aload_n 0, 1) := dk_42 (dk_at dksX0_tell_0 0 rfl rfl)
theorem dX0_tell_1 : decode cX0_tell 1 = .ok (.iload_n 1, 1) := dk_27 (dk_at dksX0_tell_0 1 rfl rfl)
theorem dX0_tell_2 : decode cX0_tell 2 = .ok (.invokevirtual 101, 3) := dk_182 0 101 (dk_at dksX0_tell_0 2 rfl rfl)
theorem dX0_tell_5 : decode cX0_tell 5 = .ok (.ifCond .eq 7, 3) := dk_153 0 7 (dk_at dksX0_tell_0 5 rfl rfl)
theorem dX0_tell_8 : decode cX0_tell 8 = .ok (.iconst (-1), 1) := dk_2 (dk_at dksX0_tell_0 8 rfl rfl)
theorem dX0_tell_9 : decode cX0_tell 9 = .ok (.goto 19, 3) := dk_167 0 19 (dk_at dksX0_tell_0 9 rfl rfl)
theorem dX0_tell_12 : decode cX0_tell 12 = .ok (.aload_n 0, 1) := dk_42 (dk_at dksX0_tell_0 12 rfl rfl)
theorem dX0_tell_13 : decode cX0_tell 13 = .ok (.getfield 21, 3) := dk_180 0 21 (dk_at dksX0_tell_0 13 rfl rfl)
theorem dX0_tell_16 : decode cX0_tell 16 = .ok (.iload_n 1, 1) := dk_27 (dk_at dksX0_tell_0 16 rfl rfl)
theorem dX0_tell_17 : decode cX0_tell 17 = .ok (.invokeinterface 105 2, 5) := by decide +kernel
theorem dX0_tell_22 : decode cX0_tell 22 = .ok (.checkcast 37, 3) := dk_192 0 37 (dk_at dksX0_tell_1 0 rfl rfl)
theorem dX0_tell_25 : decode cX0_tell 25 = .ok (.invokevirtual 338, 3) := dk_182 1 82 (dk_at dksX0_tell_1 3 rfl rfl)
theorem dX0_tell_28 : decode cX0_tell 28 = .ok (.ireturn, 1) := dk_172 (dk_at dksX0_tell_1 6 rfl rfl)
abbrev cX0_mark : ByteArray := prog_1_method_65_code
def yX0_mark : MethodName := ⟨RX0, "mark", "(I)I"⟩
def dkwX0_mark_1 : List UInt8 := [44, 185, 1, 87, 1, 0, 172]
abbrev dktX0_mark_1 : List UInt8 := dkwX0_mark_1 ++ []
def dkwX0_mark_0 : List UInt8 := [42, 27, 182, 0, 101, 153, 0, 5, 2, 172, 42, 180, 0, 21, 27, 185, 0, 105, 2, 0, 192, 1, 85, 77]
abbrev dktX0_mark_0 : List UInt8 := dkwX0_mark_0 ++ dktX0_mark_1
theorem dksX0_mark_0 : cX0_mark.data.toList.drop 0 = dktX0_mark_0 := by decide +kernel
theorem dksX0_mark_1 : cX0_mark.data.toList.drop 24 = dktX0_mark_1 := dk_seg dksX0_mark_0 24 rfl rfl
theorem dX0_mark_0 : decode cX0_mark 0 = .ok (.aload_n 0, 1) := dk_42 (dk_at dksX0_mark_0 0 rfl rfl)
theorem dX0_mark_1 : decode cX0_mark 1 = .ok (.iload_n 1, 1) := dk_27 (dk_at dksX0_mark_0 1 rfl rfl)
theorem dX0_mark_2 : decode cX0_mark 2 = .ok (.invokevirtual 101, 3) := dk_182 0 101 (dk_at dksX0_mark_0 2 rfl rfl)
theorem dX0_mark_5 : decode cX0_mark 5 = .ok (.ifCond .eq 5, 3) := dk_153 0 5 (dk_at dksX0_mark_0 5 rfl rfl)
theorem dX0_mark_8 : decode cX0_mark 8 = .ok (.iconst (-1), 1) := dk_2 (dk_at dksX0_mark_0 8 rfl rfl)
theorem dX0_mark_9 : decode cX0_mark 9 = .ok (.ireturn, 1) := dk_172 (dk_at dksX0_mark_0 9 rfl rfl)
theorem dX0_mark_10 : decode cX0_mark 10 = .ok (.aload_n 0, 1) := dk_42 (dk_at dksX0_mark_0 10 rfl rfl)
theorem dX0_mark_11 : decode cX0_mark 11 = .ok (.getfield 21, 3) := dk_180 0 21 (dk_at dksX0_mark_0 11 rfl rfl)
theorem dX0_mark_14 : decode cX0_mark 14 = .ok (.iload_n 1, 1) := dk_27 (dk_at dksX0_mark_0 14 rfl rfl)
theorem dX0_mark_15 : decode cX0_mark 15 = .ok (.invokeinterface 105 2, 5) := by decide +kernel
theorem dX0_mark_20 : decode cX0_mark 20 = .ok (.checkcast 341, 3) := dk_192 1 85 (dk_at dksX0_mark_0 20 rfl rfl)
theorem dX0_mark_23 : decode cX0_mark 23 = .ok (.astore_n 2, 1) := dk_77 (dk_at dksX0_mark_0 23 rfl rfl)
theorem dX0_mark_24 : decode cX0_mark 24 = .ok (.aload_n 2, 1) := dk_44 (dk_at dksX0_mark_1 0 rfl rfl)
theorem dX0_mark_25 : decode cX0_mark 25 = .ok (.invokeinterface 343 1, 5) := by decide +kernel
theorem dX0_mark_30 : decode cX0_mark 30 = .ok (.ireturn, 1) := dk_172 (dk_at dksX0_mark_1 6 rfl rfl)
abbrev cX0_as : ByteArray := prog_1_method_66_code
def yX0_as : MethodName := ⟨RX0, "as", "(II)I"⟩
def dkwX0_as_2 : List UInt8 := [183, 1, 92, 182, 1, 95, 167, 0, 9, 42, 16, 254, 182, 1, 0, 172]
abbrev dktX0_as_2 : List UInt8 := dkwX0_as_2 ++ []
def dkwX0_as_1 : List UInt8 := [153, 0, 31, 187, 1, 90, 89, 42, 42, 180, 0, 21, 27, 185, 0, 105, 2, 0, 192, 0, 37, 28]
abbrev dktX0_as_1 : List UInt8 := dkwX0_as_1 ++ dktX0_as_2
def dkwX0_as_0 : List UInt8 := [42, 27, 182, 0, 101, 153, 0, 9, 42, 2, 182, 1, 0, 172, 28, 133, 9, 20, 0, 64, 184, 0, 58]
abbrev dktX0_as_0 : List UInt8 := dkwX0_as_0 ++ dktX0_as_1
theorem dksX0_as_0 : cX0_as.data.toList.drop 0 = dktX0_as_0 := by decide +kernel
theorem dksX0_as_1 : cX0_as.data.toList.drop 23 = dktX0_as_1 := dk_seg dksX0_as_0 23 rfl rfl
theorem dksX0_as_2 : cX0_as.data.toList.drop 45 = dktX0_as_2 := dk_seg dksX0_as_1 22 rfl rfl
theorem dX0_as_0 : decode cX0_as 0 = .ok (.aload_n 0, 1) := dk_42 (dk_at dksX0_as_0 0 rfl rfl)
theorem dX0_as_1 : decode cX0_as 1 = .ok (.iload_n 1, 1) := dk_27 (dk_at dksX0_as_0 1 rfl rfl)
theorem dX0_as_2 : decode cX0_as 2 = .ok (.invokevirtual 101, 3) := dk_182 0 101 (dk_at dksX0_as_0 2 rfl rfl)
theorem dX0_as_5 : decode cX0_as 5 = .ok (.ifCond .eq 9, 3) := dk_153 0 9 (dk_at dksX0_as_0 5 rfl rfl)
theorem dX0_as_8 : decode cX0_as 8 = .ok (.aload_n 0, 1) := dk_42 (dk_at dksX0_as_0 8 rfl rfl)
theorem dX0_as_9 : decode cX0_as 9 = .ok (.iconst (-1), 1) := dk_2 (dk_at dksX0_as_0 9 rfl rfl)
theorem dX0_as_10 : decode cX0_as 10 = .ok (.invokevirtual 256, 3) := dk_182 1 0 (dk_at dksX0_as_0 10 rfl rfl)
theorem dX0_as_13 : decode cX0_as 13 = .ok (.ireturn, 1) := dk_172 (dk_at dksX0_as_0 13 rfl rfl)
theorem dX0_as_14 : decode cX0_as 14 = .ok (.iload_n 2, 1) := dk_28 (dk_at dksX0_as_0 14 rfl rfl)
theorem dX0_as_15 : decode cX0_as 15 = .ok (.i2l, 1) := dk_133 (dk_at dksX0_as_0 15 rfl rfl)
theorem dX0_as_16 : decode cX0_as 16 = .ok (.lconst 0, 1) := dk_9 (dk_at dksX0_as_0 16 rfl rfl)
theorem dX0_as_17 : decode cX0_as 17 = .ok (.ldc2_w 64, 3) := dk_20 0 64 (dk_at dksX0_as_0 17 rfl rfl)
theorem dX0_as_20 : decode cX0_as 20 = .ok (.invokestatic 58, 3) := dk_184 0 58 (dk_at dksX0_as_0 20 rfl rfl)
theorem dX0_as_23 : decode cX0_as 23 = .ok (.ifCond .eq 31, 3) := dk_153 0 31 (dk_at dksX0_as_1 0 rfl rfl)
theorem dX0_as_26 : decode cX0_as 26 = .ok (.new 346, 3) := dk_187 1 90 (dk_at dksX0_as_1 3 rfl rfl)
theorem dX0_as_29 : decode cX0_as 29 = .ok (.dup, 1) := dk_89 (dk_at dksX0_as_1 6 rfl rfl)
theorem dX0_as_30 : decode cX0_as 30 = .ok (.aload_n 0, 1) := dk_42 (dk_at dksX0_as_1 7 rfl rfl)
theorem dX0_as_31 : decode cX0_as 31 = .ok (.aload_n 0, 1) := dk_42 (dk_at dksX0_as_1 8 rfl rfl)
theorem dX0_as_32 : decode cX0_as 32 = .ok (.getfield 21, 3) := dk_180 0 21 (dk_at dksX0_as_1 9 rfl rfl)
theorem dX0_as_35 : decode cX0_as 35 = .ok (.iload_n 1, 1) := dk_27 (dk_at dksX0_as_1 12 rfl rfl)
theorem dX0_as_36 : decode cX0_as 36 = .ok (.invokeinterface 105 2, 5) := by decide +kernel
theorem dX0_as_41 : decode cX0_as 41 = .ok (.checkcast 37, 3) := dk_192 0 37 (dk_at dksX0_as_1 18 rfl rfl)
theorem dX0_as_44 : decode cX0_as 44 = .ok (.iload_n 2, 1) := dk_28 (dk_at dksX0_as_1 21 rfl rfl)
theorem dX0_as_45 : decode cX0_as 45 = .ok (.invokespecial 348, 3) := dk_183 1 92 (dk_at dksX0_as_2 0 rfl rfl)
theorem dX0_as_48 : decode cX0_as 48 = .ok (.invokevirtual 351, 3) := dk_182 1 95 (dk_at dksX0_as_2 3 rfl rfl)
theorem dX0_as_51 : decode cX0_as 51 = .ok (.goto 9, 3) := dk_167 0 9 (dk_at dksX0_as_2 6 rfl rfl)
theorem dX0_as_54 : decode cX0_as 54 = .ok (.aload_n 0, 1) := dk_42 (dk_at dksX0_as_2 9 rfl rfl)
theorem dX0_as_55 : decode cX0_as 55 = .ok (.bipush (-2), 2) := dk_16 254 (dk_at dksX0_as_2 10 rfl rfl)
theorem dX0_as_57 : decode cX0_as 57 = .ok (.invokevirtual 256, 3) := dk_182 1 0 (dk_at dksX0_as_2 12 rfl rfl)
theorem dX0_as_60 : decode cX0_as 60 = .ok (.ireturn, 1) := dk_172 (dk_at dksX0_as_2 15 rfl rfl)
abbrev cX0_trace : ByteArray := prog_1_method_67_code
def yX0_trace : MethodName := ⟨RX0, "trace", "()I"⟩
theorem dX0_trace_0 : decode cX0_trace 0 = .ok (.aload_n 0, 1) := by decide +kernel
theorem dX0_trace_1 : decode cX0_trace 1 = .ok (.getfield 352, 3) := by decide +kernel
theorem dX0_trace_4 : decode cX0_trace 4 = .ok (.ireturn, 1) := by decide +kernel
abbrev cX0_fault : ByteArray := prog_1_method_68_code
def yX0_fault : MethodName := ⟨RX0, "fault", "()I"⟩
theorem dX0_fault_0 : decode cX0_fault 0 = .ok (.aload_n 0, 1) := by decide +kernel
theorem dX0_fault_1 : decode cX0_fault 1 = .ok (.getfield 239, 3) := by decide +kernel
theorem dX0_fault_4 : decode cX0_fault 4 = .ok (.ireturn, 1) := by decide +kernel
abbrev cX0_many : ByteArray := prog_1_method_69_code
def yX0_many : MethodName := ⟨RX0, "many", "(I)I"⟩
def dkwX0_many_3 : List UInt8 := [180, 0, 15, 5, 46, 126, 184, 1, 99, 172, 42, 180, 0, 28, 185, 0, 54, 1, 0, 172, 16, 254, 172]
abbrev dktX0_many_3 : List UInt8 := dkwX0_many_3 ++ []
def dkwX0_many_2 : List UInt8 := [42, 180, 0, 21, 185, 0, 54, 1, 0, 172, 42, 180, 0, 15, 3, 46, 42, 180, 0, 15, 4, 46, 126, 42]
abbrev dktX0_many_2 : List UInt8 := dkwX0_many_2 ++ dktX0_many_3
def dkwX0_many_1 : List UInt8 := [170, 0, 0, 0, 0, 0, 71, 0, 0, 0, 0, 0, 0, 0, 2, 0, 0, 0, 27, 0, 0, 0, 37, 0, 0, 0, 61]
abbrev dktX0_many_1 : List UInt8 := dkwX0_many_1 ++ dktX0_many_2
def dkwX0_many_0 : List UInt8 := [27]
abbrev dktX0_many_0 : List UInt8 := dkwX0_many_0 ++ dktX0_many_1
theorem dksX0_many_0 : cX0_many.data.toList.drop 0 = dktX0_many_0 := by decide +kernel
theorem dksX0_many_1 : cX0_many.data.toList.drop 1 = dktX0_many_1 := dk_seg dksX0_many_0 1 rfl rfl
theorem dksX0_many_2 : cX0_many.data.toList.drop 28 = dktX0_many_2 := dk_seg dksX0_many_1 27 rfl rfl
theorem dksX0_many_3 : cX0_many.data.toList.drop 52 = dktX0_many_3 := dk_seg dksX0_many_2 24 rfl rfl
theorem dX0_many_0 : decode cX0_many 0 = .ok (.iload_n 1, 1) := dk_27 (dk_at dksX0_many_0 0 rfl rfl)
theorem dX0_many_1 : decode cX0_many 1 = .ok (.tableswitch 71 0 2 #[27, 37, 61], 27) := by decide +kernel
theorem dX0_many_28 : decode cX0_many 28 = .ok (.aload_n 0, 1) := dk_42 (dk_at dksX0_many_2 0 rfl rfl)
theorem dX0_many_29 : decode cX0_many 29 = .ok (.getfield 21, 3) := dk_180 0 21 (dk_at dksX0_many_2 1 rfl rfl)
theorem dX0_many_32 : decode cX0_many 32 = .ok (.invokeinterface 54 1, 5) := by decide +kernel
theorem dX0_many_37 : decode cX0_many 37 = .ok (.ireturn, 1) := dk_172 (dk_at dksX0_many_2 9 rfl rfl)
theorem dX0_many_38 : decode cX0_many 38 = .ok (.aload_n 0, 1) := dk_42 (dk_at dksX0_many_2 10 rfl rfl)
theorem dX0_many_39 : decode cX0_many 39 = .ok (.getfield 15, 3) := dk_180 0 15 (dk_at dksX0_many_2 11 rfl rfl)
theorem dX0_many_42 : decode cX0_many 42 = .ok (.iconst 0, 1) := dk_3 (dk_at dksX0_many_2 14 rfl rfl)
theorem dX0_many_43 : decode cX0_many 43 = .ok (.iaload, 1) := dk_46 (dk_at dksX0_many_2 15 rfl rfl)
theorem dX0_many_44 : decode cX0_many 44 = .ok (.aload_n 0, 1) := dk_42 (dk_at dksX0_many_2 16 rfl rfl)
theorem dX0_many_45 : decode cX0_many 45 = .ok (.getfield 15, 3) := dk_180 0 15 (dk_at dksX0_many_2 17 rfl rfl)
theorem dX0_many_48 : decode cX0_many 48 = .ok (.iconst 1, 1) := dk_4 (dk_at dksX0_many_2 20 rfl rfl)
theorem dX0_many_49 : decode cX0_many 49 = .ok (.iaload, 1) := dk_46 (dk_at dksX0_many_2 21 rfl rfl)
theorem dX0_many_50 : decode cX0_many 50 = .ok (.iand, 1) := dk_126 (dk_at dksX0_many_2 22 rfl rfl)
theorem dX0_many_51 : decode cX0_many 51 = .ok (.aload_n 0, 1) := dk_42 (dk_at dksX0_many_2 23 rfl rfl)
theorem dX0_many_52 : decode cX0_many 52 = .ok (.getfield 15, 3) := dk_180 0 15 (dk_at dksX0_many_3 0 rfl rfl)
theorem dX0_many_55 : decode cX0_many 55 = .ok (.iconst 2, 1) := dk_5 (dk_at dksX0_many_3 3 rfl rfl)
theorem dX0_many_56 : decode cX0_many 56 = .ok (.iaload, 1) := dk_46 (dk_at dksX0_many_3 4 rfl rfl)
theorem dX0_many_57 : decode cX0_many 57 = .ok (.iand, 1) := dk_126 (dk_at dksX0_many_3 5 rfl rfl)
theorem dX0_many_58 : decode cX0_many 58 = .ok (.invokestatic 355, 3) := dk_184 1 99 (dk_at dksX0_many_3 6 rfl rfl)
theorem dX0_many_61 : decode cX0_many 61 = .ok (.ireturn, 1) := dk_172 (dk_at dksX0_many_3 9 rfl rfl)
theorem dX0_many_62 : decode cX0_many 62 = .ok (.aload_n 0, 1) := dk_42 (dk_at dksX0_many_3 10 rfl rfl)
theorem dX0_many_63 : decode cX0_many 63 = .ok (.getfield 28, 3) := dk_180 0 28 (dk_at dksX0_many_3 11 rfl rfl)
theorem dX0_many_66 : decode cX0_many 66 = .ok (.invokeinterface 54 1, 5) := by decide +kernel
theorem dX0_many_71 : decode cX0_many 71 = .ok (.ireturn, 1) := dk_172 (dk_at dksX0_many_3 19 rfl rfl)
theorem dX0_many_72 : decode cX0_many 72 = .ok (.bipush (-2), 2) := dk_16 254 (dk_at dksX0_many_3 20 rfl rfl)
theorem dX0_many_74 : decode cX0_many 74 = .ok (.ireturn, 1) := dk_172 (dk_at dksX0_many_3 22 rfl rfl)
theorem q52 : (Jvm.Cond.initialized "CheeseValleys") ∈ lw_all := lw_g (lw_at lw_m1 1 rfl) rfl
theorem q86 : (Jvm.Cond.instantiable "CheeseValleys" (14 : Nat)) ∈ lw_all := lw_g (lw_at lw_m1 35 rfl) rfl
theorem q88 : (Jvm.Cond.instanceMethod ({ cls := "CheeseValleys", name := "<init>", desc := "()V" } : Jvm.MethodName)) ∈ lw_all := lw_g (lw_at lw_m1 37 rfl) rfl
theorem q89 : (Jvm.Cond.code ({ cls := "CheeseValleys", name := "<init>", desc := "()V" } : Jvm.MethodName) prog_1_method_3_code (1 : Nat) (Option.none : Option Jvm.ClassFile.FieldType)) ∈ lw_all := lw_g (lw_at lw_m1 38 rfl) rfl
theorem q90 : (Jvm.Cond.methodLink "CheeseValleys" (3 : Nat) ({ cls := "java/lang/Object", name := "<init>", desc := "()V" } : Jvm.MethodName)) ∈ lw_all := lw_g (lw_at lw_m1 39 rfl) rfl
theorem q93 : (Jvm.Cond.classLink "CheeseValleys" (18 : Nat) "java/util/ArrayList") ∈ lw_all := lw_g (lw_at lw_m1 42 rfl) rfl
theorem q95 : (Jvm.Cond.methodLink "CheeseValleys" (20 : Nat) ({ cls := "java/util/ArrayList", name := "<init>", desc := "()V" } : Jvm.MethodName)) ∈ lw_all := lw_g (lw_at lw_m1 44 rfl) rfl
theorem q120 : (Jvm.Cond.classLink "CheeseValleys" (31 : Nat) "CheeseValleys$Sheet") ∈ lw_all := lw_g (lw_at lw_m1 69 rfl) rfl
theorem q123 : (Jvm.Cond.fieldLink "CheeseValleys" (352 : Nat) "CheeseValleys" "trace" "I") ∈ lw_all := lw_g (lw_at lw_m1 72 rfl) rfl
theorem q124 : (Jvm.Cond.fieldLink "CheeseValleys" (11 : Nat) "CheeseValleys" "snowOn" "[I") ∈ lw_all := lw_g (lw_at lw_m1 73 rfl) rfl
theorem q126 : (Jvm.Cond.fieldLink "CheeseValleys" (15 : Nat) "CheeseValleys" "givesOf" "[I") ∈ lw_all := lw_g (lw_at lw_m1 75 rfl) rfl
theorem q127 : (Jvm.Cond.fieldLink "CheeseValleys" (21 : Nat) "CheeseValleys" "passes" "Ljava/util/List;") ∈ lw_all := lw_g (lw_at lw_m1 76 rfl) rfl
theorem q128 : (Jvm.Cond.fieldLink "CheeseValleys" (25 : Nat) "CheeseValleys" "waitedAt" "[I") ∈ lw_all := lw_g (lw_at lw_m1 77 rfl) rfl
theorem q129 : (Jvm.Cond.fieldLink "CheeseValleys" (166 : Nat) "CheeseValleys" "soonestNow" "I") ∈ lw_all := lw_g (lw_at lw_m1 78 rfl) rfl
theorem q130 : (Jvm.Cond.fieldLink "CheeseValleys" (169 : Nat) "CheeseValleys" "fewestNow" "I") ∈ lw_all := lw_g (lw_at lw_m1 79 rfl) rfl
theorem q131 : (Jvm.Cond.fieldLink "CheeseValleys" (190 : Nat) "CheeseValleys" "dayNow" "I") ∈ lw_all := lw_g (lw_at lw_m1 80 rfl) rfl
theorem q132 : (Jvm.Cond.fieldLink "CheeseValleys" (193 : Nat) "CheeseValleys" "valleyNow" "I") ∈ lw_all := lw_g (lw_at lw_m1 81 rfl) rfl
theorem q133 : (Jvm.Cond.fieldLink "CheeseValleys" (184 : Nat) "CheeseValleys" "stageNow" "I") ∈ lw_all := lw_g (lw_at lw_m1 82 rfl) rfl
theorem q134 : (Jvm.Cond.fieldLink "CheeseValleys" (187 : Nat) "CheeseValleys" "waitedNow" "I") ∈ lw_all := lw_g (lw_at lw_m1 83 rfl) rfl
theorem q135 : (Jvm.Cond.fieldLink "CheeseValleys" (28 : Nat) "CheeseValleys" "readings" "Ljava/util/List;") ∈ lw_all := lw_g (lw_at lw_m1 84 rfl) rfl
theorem q137 : (Jvm.Cond.fieldLink "CheeseValleys" (239 : Nat) "CheeseValleys" "fault" "I") ∈ lw_all := lw_g (lw_at lw_m1 86 rfl) rfl
theorem q138 : (Jvm.Cond.fieldLink "CheeseValleys" (33 : Nat) "CheeseValleys" "sheets" "[LCheeseValleys$Sheet;") ∈ lw_all := lw_g (lw_at lw_m1 87 rfl) rfl
theorem q139 : (Jvm.Cond.lays "CheeseValleys" "CheeseValleys" "trace" "I") ∈ lw_all := lw_g (lw_at lw_m1 88 rfl) rfl
theorem q140 : (Jvm.Cond.soleField "CheeseValleys" "trace") ∈ lw_all := lw_g (lw_at lw_m1 89 rfl) rfl
theorem q141 : (Jvm.Cond.laysFinal "CheeseValleys" "CheeseValleys" "snowOn" "[I") ∈ lw_all := lw_g (lw_at lw_m1 90 rfl) rfl
theorem q142 : (Jvm.Cond.soleField "CheeseValleys" "snowOn") ∈ lw_all := lw_g (lw_at lw_m1 91 rfl) rfl
theorem q143 : (Jvm.Cond.laysFinal "CheeseValleys" "CheeseValleys" "givesOf" "[I") ∈ lw_all := lw_g (lw_at lw_m1 92 rfl) rfl
theorem q144 : (Jvm.Cond.soleField "CheeseValleys" "givesOf") ∈ lw_all := lw_g (lw_at lw_m1 93 rfl) rfl
theorem q145 : (Jvm.Cond.laysFinal "CheeseValleys" "CheeseValleys" "passes" "Ljava/util/List;") ∈ lw_all := lw_g (lw_at lw_m1 94 rfl) rfl
theorem q146 : (Jvm.Cond.soleField "CheeseValleys" "passes") ∈ lw_all := lw_g (lw_at lw_m1 95 rfl) rfl
theorem q147 : (Jvm.Cond.laysFinal "CheeseValleys" "CheeseValleys" "waitedAt" "[I") ∈ lw_all := lw_g (lw_at lw_m1 96 rfl) rfl
theorem q148 : (Jvm.Cond.soleField "CheeseValleys" "waitedAt") ∈ lw_all := lw_g (lw_at lw_m1 97 rfl) rfl
theorem q149 : (Jvm.Cond.lays "CheeseValleys" "CheeseValleys" "soonestNow" "I") ∈ lw_all := lw_g (lw_at lw_m1 98 rfl) rfl
theorem q150 : (Jvm.Cond.soleField "CheeseValleys" "soonestNow") ∈ lw_all := lw_g (lw_at lw_m1 99 rfl) rfl
theorem q151 : (Jvm.Cond.lays "CheeseValleys" "CheeseValleys" "fewestNow" "I") ∈ lw_all := lw_g (lw_at lw_m1 100 rfl) rfl
theorem q152 : (Jvm.Cond.soleField "CheeseValleys" "fewestNow") ∈ lw_all := lw_g (lw_at lw_m1 101 rfl) rfl
theorem q153 : (Jvm.Cond.lays "CheeseValleys" "CheeseValleys" "dayNow" "I") ∈ lw_all := lw_g (lw_at lw_m1 102 rfl) rfl
theorem q154 : (Jvm.Cond.soleField "CheeseValleys" "dayNow") ∈ lw_all := lw_g (lw_at lw_m1 103 rfl) rfl
theorem q155 : (Jvm.Cond.lays "CheeseValleys" "CheeseValleys" "valleyNow" "I") ∈ lw_all := lw_g (lw_at lw_m1 104 rfl) rfl
theorem q156 : (Jvm.Cond.soleField "CheeseValleys" "valleyNow") ∈ lw_all := lw_g (lw_at lw_m1 105 rfl) rfl
theorem q157 : (Jvm.Cond.lays "CheeseValleys" "CheeseValleys" "stageNow" "I") ∈ lw_all := lw_g (lw_at lw_m1 106 rfl) rfl
theorem q158 : (Jvm.Cond.soleField "CheeseValleys" "stageNow") ∈ lw_all := lw_g (lw_at lw_m1 107 rfl) rfl
theorem q159 : (Jvm.Cond.lays "CheeseValleys" "CheeseValleys" "waitedNow" "I") ∈ lw_all := lw_g (lw_at lw_m1 108 rfl) rfl
theorem q160 : (Jvm.Cond.soleField "CheeseValleys" "waitedNow") ∈ lw_all := lw_g (lw_at lw_m1 109 rfl) rfl
theorem q161 : (Jvm.Cond.laysFinal "CheeseValleys" "CheeseValleys" "readings" "Ljava/util/List;") ∈ lw_all := lw_g (lw_at lw_m1 110 rfl) rfl
theorem q162 : (Jvm.Cond.soleField "CheeseValleys" "readings") ∈ lw_all := lw_g (lw_at lw_m1 111 rfl) rfl
theorem q163 : (Jvm.Cond.lays "CheeseValleys" "CheeseValleys" "fault" "I") ∈ lw_all := lw_g (lw_at lw_m1 112 rfl) rfl
theorem q164 : (Jvm.Cond.soleField "CheeseValleys" "fault") ∈ lw_all := lw_g (lw_at lw_m1 113 rfl) rfl
theorem q165 : (Jvm.Cond.laysFinal "CheeseValleys" "CheeseValleys" "sheets" "[LCheeseValleys$Sheet;") ∈ lw_all := lw_g (lw_at lw_m1 114 rfl) rfl
theorem q166 : (Jvm.Cond.soleField "CheeseValleys" "sheets") ∈ lw_all := lw_g (lw_at lw_m1 115 rfl) rfl
theorem q167 : (Jvm.Cond.superclass "CheeseValleys" "java/lang/Object") ∈ lw_all := lw_g (lw_at lw_m1 116 rfl) rfl
theorem q169 : (Jvm.Cond.instanceMethod ({ cls := "CheeseValleys", name := "ofPass", desc := "(II)I" } : Jvm.MethodName)) ∈ lw_all := lw_g (lw_at lw_m1 118 rfl) rfl
theorem q170 : (Jvm.Cond.selects "CheeseValleys" ({ cls := "CheeseValleys", name := "ofPass", desc := "(II)I" } : Jvm.MethodName) ({ cls := "CheeseValleys", name := "ofPass", desc := "(II)I" } : Jvm.MethodName)) ∈ lw_all := lw_g (lw_at lw_m1 119 rfl) rfl
theorem q171 : (Jvm.Cond.code ({ cls := "CheeseValleys", name := "ofPass", desc := "(II)I" } : Jvm.MethodName) prog_1_method_15_code (4 : Nat) (Option.some Jvm.ClassFile.FieldType.int)) ∈ lw_all := lw_g (lw_at lw_m1 120 rfl) rfl
theorem q172 : (Jvm.Cond.methodLink "CheeseValleys" (101 : Nat) ({ cls := "CheeseValleys", name := "noPass", desc := "(I)Z" } : Jvm.MethodName)) ∈ lw_all := lw_g (lw_at lw_m1 121 rfl) rfl
theorem q173 : (Jvm.Cond.privateMethod ({ cls := "CheeseValleys", name := "noPass", desc := "(I)Z" } : Jvm.MethodName)) ∈ lw_tbl := lw_at lw_m1 122 rfl
theorem q174 : (Jvm.Cond.instanceMethod ({ cls := "CheeseValleys", name := "noPass", desc := "(I)Z" } : Jvm.MethodName)) ∈ lw_all := lw_g (lw_at lw_m1 123 rfl) rfl
theorem q175 : (Jvm.Cond.code ({ cls := "CheeseValleys", name := "noPass", desc := "(I)Z" } : Jvm.MethodName) prog_1_method_6_code (2 : Nat) (Option.some Jvm.ClassFile.FieldType.boolean)) ∈ lw_all := lw_g (lw_at lw_m1 124 rfl) rfl
theorem q176 : (Jvm.Cond.interfaceEntry "CheeseValleys" (54 : Nat)) ∈ lw_tbl := lw_at lw_m1 125 rfl
theorem q177 : (Jvm.Cond.methodLink "CheeseValleys" (54 : Nat) ({ cls := "java/util/List", name := "size", desc := "()I" } : Jvm.MethodName)) ∈ lw_all := lw_g (lw_at lw_m1 126 rfl) rfl
theorem q186 : (Jvm.Cond.methodLink "CheeseValleys" (58 : Nat) ({ cls := "CheeseValleys", name := "in", desc := "(JJJ)Z" } : Jvm.MethodName)) ∈ lw_all := lw_g (lw_at lw_m1 135 rfl) rfl
theorem q187 : (Jvm.Cond.static ({ cls := "CheeseValleys", name := "in", desc := "(JJJ)Z" } : Jvm.MethodName)) ∈ lw_all := lw_g (lw_at lw_m1 136 rfl) rfl
theorem q188 : (Jvm.Cond.code ({ cls := "CheeseValleys", name := "in", desc := "(JJJ)Z" } : Jvm.MethodName) prog_1_method_1_code (6 : Nat) (Option.some Jvm.ClassFile.FieldType.boolean)) ∈ lw_all := lw_g (lw_at lw_m1 137 rfl) rfl
theorem q189 : (Jvm.Cond.interfaceEntry "CheeseValleys" (105 : Nat)) ∈ lw_tbl := lw_at lw_m1 138 rfl
theorem q190 : (Jvm.Cond.methodLink "CheeseValleys" (105 : Nat) ({ cls := "java/util/List", name := "get", desc := "(I)Ljava/lang/Object;" } : Jvm.MethodName)) ∈ lw_all := lw_g (lw_at lw_m1 139 rfl) rfl
theorem q208 : (Jvm.Cond.classLink "CheeseValleys" (37 : Nat) "CheeseValleys$Pass") ∈ lw_all := lw_g (lw_at lw_m1 157 rfl) rfl
theorem q209 : (Jvm.Cond.methodLink "CheeseValleys" (109 : Nat) ({ cls := "CheeseValleys$Pass", name := "kind", desc := "()I" } : Jvm.MethodName)) ∈ lw_all := lw_g (lw_at lw_m1 158 rfl) rfl
theorem q220 : (Jvm.Cond.methodLink "CheeseValleys" (125 : Nat) ({ cls := "CheeseValleys$Pass", name := "lasts", desc := "()I" } : Jvm.MethodName)) ∈ lw_all := lw_g (lw_at lw_m1 169 rfl) rfl
theorem q244 : (Jvm.Cond.instanceMethod ({ cls := "CheeseValleys", name := "snow", desc := "(II)I" } : Jvm.MethodName)) ∈ lw_all := lw_g (lw_at lw_m1 193 rfl) rfl
theorem q245 : (Jvm.Cond.selects "CheeseValleys" ({ cls := "CheeseValleys", name := "snow", desc := "(II)I" } : Jvm.MethodName) ({ cls := "CheeseValleys", name := "snow", desc := "(II)I" } : Jvm.MethodName)) ∈ lw_all := lw_g (lw_at lw_m1 194 rfl) rfl
theorem q246 : (Jvm.Cond.code ({ cls := "CheeseValleys", name := "snow", desc := "(II)I" } : Jvm.MethodName) prog_1_method_16_code (4 : Nat) (Option.some Jvm.ClassFile.FieldType.int)) ∈ lw_all := lw_g (lw_at lw_m1 195 rfl) rfl
theorem q247 : (Jvm.Cond.methodLink "CheeseValleys" (128 : Nat) ({ cls := "CheeseValleys", name := "isDay", desc := "(I)Z" } : Jvm.MethodName)) ∈ lw_all := lw_g (lw_at lw_m1 196 rfl) rfl
theorem q248 : (Jvm.Cond.static ({ cls := "CheeseValleys", name := "isDay", desc := "(I)Z" } : Jvm.MethodName)) ∈ lw_all := lw_g (lw_at lw_m1 197 rfl) rfl
theorem q249 : (Jvm.Cond.code ({ cls := "CheeseValleys", name := "isDay", desc := "(I)Z" } : Jvm.MethodName) prog_1_method_7_code (1 : Nat) (Option.some Jvm.ClassFile.FieldType.boolean)) ∈ lw_all := lw_g (lw_at lw_m1 198 rfl) rfl
theorem q250 : (Jvm.Cond.constantLong "CheeseValleys" (62 : Nat) (7 : Int64)) ∈ lw_all := lw_g (lw_at lw_m1 199 rfl) rfl
theorem q251 : (Jvm.Cond.constantLong "CheeseValleys" (131 : Nat) (9 : Int64)) ∈ lw_all := lw_g (lw_at lw_m1 200 rfl) rfl
theorem q252 : (Jvm.Cond.methodLink "CheeseValleys" (133 : Nat) ({ cls := "CheeseValleys", name := "noLand", desc := "()Z" } : Jvm.MethodName)) ∈ lw_all := lw_g (lw_at lw_m1 201 rfl) rfl
theorem q253 : (Jvm.Cond.privateMethod ({ cls := "CheeseValleys", name := "noLand", desc := "()Z" } : Jvm.MethodName)) ∈ lw_tbl := lw_at lw_m1 202 rfl
theorem q254 : (Jvm.Cond.instanceMethod ({ cls := "CheeseValleys", name := "noLand", desc := "()Z" } : Jvm.MethodName)) ∈ lw_all := lw_g (lw_at lw_m1 203 rfl) rfl
theorem q255 : (Jvm.Cond.code ({ cls := "CheeseValleys", name := "noLand", desc := "()Z" } : Jvm.MethodName) prog_1_method_5_code (1 : Nat) (Option.some Jvm.ClassFile.FieldType.boolean)) ∈ lw_all := lw_g (lw_at lw_m1 204 rfl) rfl
theorem q256 : (Jvm.Cond.interfaceEntry "CheeseValleys" (48 : Nat)) ∈ lw_tbl := lw_at lw_m1 205 rfl
theorem q257 : (Jvm.Cond.methodLink "CheeseValleys" (48 : Nat) ({ cls := "java/util/List", name := "isEmpty", desc := "()Z" } : Jvm.MethodName)) ∈ lw_all := lw_g (lw_at lw_m1 206 rfl) rfl
theorem q266 : (Jvm.Cond.instanceMethod ({ cls := "CheeseValleys", name := "give", desc := "(II)I" } : Jvm.MethodName)) ∈ lw_all := lw_g (lw_at lw_m1 215 rfl) rfl
theorem q267 : (Jvm.Cond.selects "CheeseValleys" ({ cls := "CheeseValleys", name := "give", desc := "(II)I" } : Jvm.MethodName) ({ cls := "CheeseValleys", name := "give", desc := "(II)I" } : Jvm.MethodName)) ∈ lw_all := lw_g (lw_at lw_m1 216 rfl) rfl
theorem q268 : (Jvm.Cond.code ({ cls := "CheeseValleys", name := "give", desc := "(II)I" } : Jvm.MethodName) prog_1_method_17_code (4 : Nat) (Option.some Jvm.ClassFile.FieldType.int)) ∈ lw_all := lw_g (lw_at lw_m1 217 rfl) rfl
theorem q269 : (Jvm.Cond.methodLink "CheeseValleys" (136 : Nat) ({ cls := "CheeseValleys", name := "isValley", desc := "(I)Z" } : Jvm.MethodName)) ∈ lw_all := lw_g (lw_at lw_m1 218 rfl) rfl
theorem q270 : (Jvm.Cond.static ({ cls := "CheeseValleys", name := "isValley", desc := "(I)Z" } : Jvm.MethodName)) ∈ lw_all := lw_g (lw_at lw_m1 219 rfl) rfl
theorem q271 : (Jvm.Cond.code ({ cls := "CheeseValleys", name := "isValley", desc := "(I)Z" } : Jvm.MethodName) prog_1_method_8_code (1 : Nat) (Option.some Jvm.ClassFile.FieldType.boolean)) ∈ lw_all := lw_g (lw_at lw_m1 220 rfl) rfl
theorem q272 : (Jvm.Cond.constantLong "CheeseValleys" (64 : Nat) (2 : Int64)) ∈ lw_all := lw_g (lw_at lw_m1 221 rfl) rfl
theorem q273 : (Jvm.Cond.constantLong "CheeseValleys" (139 : Nat) (255 : Int64)) ∈ lw_all := lw_g (lw_at lw_m1 222 rfl) rfl
theorem q275 : (Jvm.Cond.instanceMethod ({ cls := "CheeseValleys", name := "open", desc := "(I)I" } : Jvm.MethodName)) ∈ lw_all := lw_g (lw_at lw_m1 224 rfl) rfl
theorem q276 : (Jvm.Cond.selects "CheeseValleys" ({ cls := "CheeseValleys", name := "open", desc := "(I)I" } : Jvm.MethodName) ({ cls := "CheeseValleys", name := "open", desc := "(I)I" } : Jvm.MethodName)) ∈ lw_all := lw_g (lw_at lw_m1 225 rfl) rfl
theorem q277 : (Jvm.Cond.code ({ cls := "CheeseValleys", name := "open", desc := "(I)I" } : Jvm.MethodName) prog_1_method_18_code (4 : Nat) (Option.some Jvm.ClassFile.FieldType.int)) ∈ lw_all := lw_g (lw_at lw_m1 226 rfl) rfl
theorem q278 : (Jvm.Cond.methodLink "CheeseValleys" (141 : Nat) ({ cls := "CheeseValleys$Pass", name := "isOpen", desc := "(I)Z" } : Jvm.MethodName)) ∈ lw_all := lw_g (lw_at lw_m1 227 rfl) rfl
theorem q295 : (Jvm.Cond.instanceMethod ({ cls := "CheeseValleys", name := "soonest", desc := "(I)I" } : Jvm.MethodName)) ∈ lw_all := lw_g (lw_at lw_m2 4 rfl) rfl
theorem q296 : (Jvm.Cond.selects "CheeseValleys" ({ cls := "CheeseValleys", name := "soonest", desc := "(I)I" } : Jvm.MethodName) ({ cls := "CheeseValleys", name := "soonest", desc := "(I)I" } : Jvm.MethodName)) ∈ lw_all := lw_g (lw_at lw_m2 5 rfl) rfl
theorem q297 : (Jvm.Cond.code ({ cls := "CheeseValleys", name := "soonest", desc := "(I)I" } : Jvm.MethodName) prog_1_method_25_code (2 : Nat) (Option.some Jvm.ClassFile.FieldType.int)) ∈ lw_all := lw_g (lw_at lw_m2 6 rfl) rfl
theorem q298 : (Jvm.Cond.methodLink "CheeseValleys" (179 : Nat) ({ cls := "CheeseValleys", name := "soonestOf", desc := "(I)I" } : Jvm.MethodName)) ∈ lw_all := lw_g (lw_at lw_m2 7 rfl) rfl
theorem q299 : (Jvm.Cond.privateMethod ({ cls := "CheeseValleys", name := "soonestOf", desc := "(I)I" } : Jvm.MethodName)) ∈ lw_tbl := lw_at lw_m2 8 rfl
theorem q300 : (Jvm.Cond.instanceMethod ({ cls := "CheeseValleys", name := "soonestOf", desc := "(I)I" } : Jvm.MethodName)) ∈ lw_all := lw_g (lw_at lw_m2 9 rfl) rfl
theorem q301 : (Jvm.Cond.code ({ cls := "CheeseValleys", name := "soonestOf", desc := "(I)I" } : Jvm.MethodName) prog_1_method_23_code (2 : Nat) (Option.some Jvm.ClassFile.FieldType.int)) ∈ lw_all := lw_g (lw_at lw_m2 10 rfl) rfl
theorem q302 : (Jvm.Cond.methodLink "CheeseValleys" (176 : Nat) ({ cls := "CheeseValleys", name := "goWheel", desc := "(I)V" } : Jvm.MethodName)) ∈ lw_all := lw_g (lw_at lw_m2 11 rfl) rfl
theorem q303 : (Jvm.Cond.privateMethod ({ cls := "CheeseValleys", name := "goWheel", desc := "(I)V" } : Jvm.MethodName)) ∈ lw_tbl := lw_at lw_m2 12 rfl
theorem q304 : (Jvm.Cond.instanceMethod ({ cls := "CheeseValleys", name := "goWheel", desc := "(I)V" } : Jvm.MethodName)) ∈ lw_all := lw_g (lw_at lw_m2 13 rfl) rfl
theorem q305 : (Jvm.Cond.code ({ cls := "CheeseValleys", name := "goWheel", desc := "(I)V" } : Jvm.MethodName) prog_1_method_22_code (4 : Nat) (Option.none : Option Jvm.ClassFile.FieldType)) ∈ lw_all := lw_g (lw_at lw_m2 14 rfl) rfl
theorem q306 : (Jvm.Cond.methodLink "CheeseValleys" (162 : Nat) ({ cls := "CheeseValleys", name := "isIn", desc := "(II)Z" } : Jvm.MethodName)) ∈ lw_all := lw_g (lw_at lw_m2 15 rfl) rfl
theorem q307 : (Jvm.Cond.static ({ cls := "CheeseValleys", name := "isIn", desc := "(II)Z" } : Jvm.MethodName)) ∈ lw_all := lw_g (lw_at lw_m2 16 rfl) rfl
theorem q308 : (Jvm.Cond.code ({ cls := "CheeseValleys", name := "isIn", desc := "(II)Z" } : Jvm.MethodName) prog_1_method_2_code (2 : Nat) (Option.some Jvm.ClassFile.FieldType.boolean)) ∈ lw_all := lw_g (lw_at lw_m2 17 rfl) rfl
theorem q309 : (Jvm.Cond.methodLink "CheeseValleys" (154 : Nat) ({ cls := "CheeseValleys", name := "comes", desc := "(IIII)V" } : Jvm.MethodName)) ∈ lw_all := lw_g (lw_at lw_m2 18 rfl) rfl
theorem q310 : (Jvm.Cond.privateMethod ({ cls := "CheeseValleys", name := "comes", desc := "(IIII)V" } : Jvm.MethodName)) ∈ lw_tbl := lw_at lw_m2 19 rfl
theorem q311 : (Jvm.Cond.instanceMethod ({ cls := "CheeseValleys", name := "comes", desc := "(IIII)V" } : Jvm.MethodName)) ∈ lw_all := lw_g (lw_at lw_m2 20 rfl) rfl
theorem q312 : (Jvm.Cond.code ({ cls := "CheeseValleys", name := "comes", desc := "(IIII)V" } : Jvm.MethodName) prog_1_method_20_code (6 : Nat) (Option.none : Option Jvm.ClassFile.FieldType)) ∈ lw_all := lw_g (lw_at lw_m2 21 rfl) rfl
theorem q313 : (Jvm.Cond.methodLink "CheeseValleys" (144 : Nat) ({ cls := "CheeseValleys", name := "placeOf", desc := "(III)I" } : Jvm.MethodName)) ∈ lw_all := lw_g (lw_at lw_m2 22 rfl) rfl
theorem q314 : (Jvm.Cond.static ({ cls := "CheeseValleys", name := "placeOf", desc := "(III)I" } : Jvm.MethodName)) ∈ lw_all := lw_g (lw_at lw_m2 23 rfl) rfl
theorem q315 : (Jvm.Cond.code ({ cls := "CheeseValleys", name := "placeOf", desc := "(III)I" } : Jvm.MethodName) prog_1_method_19_code (3 : Nat) (Option.some Jvm.ClassFile.FieldType.int)) ∈ lw_all := lw_g (lw_at lw_m2 24 rfl) rfl
theorem q316 : (Jvm.Cond.methodLink "CheeseValleys" (148 : Nat) ({ cls := "java/lang/Math", name := "min", desc := "(II)I" } : Jvm.MethodName)) ∈ lw_all := lw_g (lw_at lw_m2 25 rfl) rfl
theorem q319 : (Jvm.Cond.methodLink "CheeseValleys" (172 : Nat) ({ cls := "CheeseValleys", name := "goFrom", desc := "(III)V" } : Jvm.MethodName)) ∈ lw_all := lw_g (lw_at lw_m2 28 rfl) rfl
theorem q320 : (Jvm.Cond.privateMethod ({ cls := "CheeseValleys", name := "goFrom", desc := "(III)V" } : Jvm.MethodName)) ∈ lw_tbl := lw_at lw_m2 29 rfl
theorem q321 : (Jvm.Cond.instanceMethod ({ cls := "CheeseValleys", name := "goFrom", desc := "(III)V" } : Jvm.MethodName)) ∈ lw_all := lw_g (lw_at lw_m2 30 rfl) rfl
theorem q322 : (Jvm.Cond.code ({ cls := "CheeseValleys", name := "goFrom", desc := "(III)V" } : Jvm.MethodName) prog_1_method_21_code (8 : Nat) (Option.none : Option Jvm.ClassFile.FieldType)) ∈ lw_all := lw_g (lw_at lw_m2 31 rfl) rfl
theorem q323 : (Jvm.Cond.methodLink "CheeseValleys" (158 : Nat) ({ cls := "CheeseValleys$Pass", name := "beyond", desc := "(I)I" } : Jvm.MethodName)) ∈ lw_all := lw_g (lw_at lw_m2 32 rfl) rfl
theorem q331 : (Jvm.Cond.instanceMethod ({ cls := "CheeseValleys", name := "holes", desc := "(I)I" } : Jvm.MethodName)) ∈ lw_all := lw_g (lw_at lw_m2 40 rfl) rfl
theorem q332 : (Jvm.Cond.selects "CheeseValleys" ({ cls := "CheeseValleys", name := "holes", desc := "(I)I" } : Jvm.MethodName) ({ cls := "CheeseValleys", name := "holes", desc := "(I)I" } : Jvm.MethodName)) ∈ lw_all := lw_g (lw_at lw_m2 41 rfl) rfl
theorem q333 : (Jvm.Cond.code ({ cls := "CheeseValleys", name := "holes", desc := "(I)I" } : Jvm.MethodName) prog_1_method_26_code (2 : Nat) (Option.some Jvm.ClassFile.FieldType.int)) ∈ lw_all := lw_g (lw_at lw_m2 42 rfl) rfl
theorem q335 : (Jvm.Cond.instanceMethod ({ cls := "CheeseValleys", name := "last", desc := "(I)I" } : Jvm.MethodName)) ∈ lw_all := lw_g (lw_at lw_m2 44 rfl) rfl
theorem q336 : (Jvm.Cond.selects "CheeseValleys" ({ cls := "CheeseValleys", name := "last", desc := "(I)I" } : Jvm.MethodName) ({ cls := "CheeseValleys", name := "last", desc := "(I)I" } : Jvm.MethodName)) ∈ lw_all := lw_g (lw_at lw_m2 45 rfl) rfl
theorem q337 : (Jvm.Cond.code ({ cls := "CheeseValleys", name := "last", desc := "(I)I" } : Jvm.MethodName) prog_1_method_30_code (3 : Nat) (Option.some Jvm.ClassFile.FieldType.int)) ∈ lw_all := lw_g (lw_at lw_m2 46 rfl) rfl
theorem q338 : (Jvm.Cond.methodLink "CheeseValleys" (199 : Nat) ({ cls := "CheeseValleys", name := "isBy", desc := "(II)Z" } : Jvm.MethodName)) ∈ lw_all := lw_g (lw_at lw_m2 47 rfl) rfl
theorem q339 : (Jvm.Cond.privateMethod ({ cls := "CheeseValleys", name := "isBy", desc := "(II)Z" } : Jvm.MethodName)) ∈ lw_tbl := lw_at lw_m2 48 rfl
theorem q340 : (Jvm.Cond.instanceMethod ({ cls := "CheeseValleys", name := "isBy", desc := "(II)Z" } : Jvm.MethodName)) ∈ lw_all := lw_g (lw_at lw_m2 49 rfl) rfl
theorem q341 : (Jvm.Cond.code ({ cls := "CheeseValleys", name := "isBy", desc := "(II)Z" } : Jvm.MethodName) prog_1_method_24_code (3 : Nat) (Option.some Jvm.ClassFile.FieldType.boolean)) ∈ lw_all := lw_g (lw_at lw_m2 50 rfl) rfl
theorem q343 : (Jvm.Cond.instanceMethod ({ cls := "CheeseValleys", name := "safe", desc := "(I)I" } : Jvm.MethodName)) ∈ lw_all := lw_g (lw_at lw_m2 52 rfl) rfl
theorem q344 : (Jvm.Cond.selects "CheeseValleys" ({ cls := "CheeseValleys", name := "safe", desc := "(I)I" } : Jvm.MethodName) ({ cls := "CheeseValleys", name := "safe", desc := "(I)I" } : Jvm.MethodName)) ∈ lw_all := lw_g (lw_at lw_m2 53 rfl) rfl
theorem q345 : (Jvm.Cond.code ({ cls := "CheeseValleys", name := "safe", desc := "(I)I" } : Jvm.MethodName) prog_1_method_32_code (3 : Nat) (Option.some Jvm.ClassFile.FieldType.int)) ∈ lw_all := lw_g (lw_at lw_m2 54 rfl) rfl
theorem q346 : (Jvm.Cond.methodLink "CheeseValleys" (202 : Nat) ({ cls := "CheeseValleys", name := "isSafe", desc := "(II)Z" } : Jvm.MethodName)) ∈ lw_all := lw_g (lw_at lw_m2 55 rfl) rfl
theorem q347 : (Jvm.Cond.privateMethod ({ cls := "CheeseValleys", name := "isSafe", desc := "(II)Z" } : Jvm.MethodName)) ∈ lw_tbl := lw_at lw_m2 56 rfl
theorem q348 : (Jvm.Cond.instanceMethod ({ cls := "CheeseValleys", name := "isSafe", desc := "(II)Z" } : Jvm.MethodName)) ∈ lw_all := lw_g (lw_at lw_m2 57 rfl) rfl
theorem q349 : (Jvm.Cond.code ({ cls := "CheeseValleys", name := "isSafe", desc := "(II)Z" } : Jvm.MethodName) prog_1_method_31_code (7 : Nat) (Option.some Jvm.ClassFile.FieldType.boolean)) ∈ lw_all := lw_g (lw_at lw_m2 58 rfl) rfl
theorem q351 : (Jvm.Cond.instanceMethod ({ cls := "CheeseValleys", name := "hangs", desc := "(II)I" } : Jvm.MethodName)) ∈ lw_all := lw_g (lw_at lw_m2 60 rfl) rfl
theorem q352 : (Jvm.Cond.selects "CheeseValleys" ({ cls := "CheeseValleys", name := "hangs", desc := "(II)I" } : Jvm.MethodName) ({ cls := "CheeseValleys", name := "hangs", desc := "(II)I" } : Jvm.MethodName)) ∈ lw_all := lw_g (lw_at lw_m2 61 rfl) rfl
theorem q353 : (Jvm.Cond.code ({ cls := "CheeseValleys", name := "hangs", desc := "(II)I" } : Jvm.MethodName) prog_1_method_33_code (6 : Nat) (Option.some Jvm.ClassFile.FieldType.int)) ∈ lw_all := lw_g (lw_at lw_m2 62 rfl) rfl
theorem q355 : (Jvm.Cond.instanceMethod ({ cls := "CheeseValleys", name := "peace", desc := "(II)I" } : Jvm.MethodName)) ∈ lw_all := lw_g (lw_at lw_m2 64 rfl) rfl
theorem q356 : (Jvm.Cond.selects "CheeseValleys" ({ cls := "CheeseValleys", name := "peace", desc := "(II)I" } : Jvm.MethodName) ({ cls := "CheeseValleys", name := "peace", desc := "(II)I" } : Jvm.MethodName)) ∈ lw_all := lw_g (lw_at lw_m2 65 rfl) rfl
theorem q357 : (Jvm.Cond.code ({ cls := "CheeseValleys", name := "peace", desc := "(II)I" } : Jvm.MethodName) prog_1_method_35_code (3 : Nat) (Option.some Jvm.ClassFile.FieldType.int)) ∈ lw_all := lw_g (lw_at lw_m2 66 rfl) rfl
theorem q358 : (Jvm.Cond.methodLink "CheeseValleys" (209 : Nat) ({ cls := "CheeseValleys", name := "peaceBy", desc := "(II)I" } : Jvm.MethodName)) ∈ lw_all := lw_g (lw_at lw_m2 67 rfl) rfl
theorem q359 : (Jvm.Cond.privateMethod ({ cls := "CheeseValleys", name := "peaceBy", desc := "(II)I" } : Jvm.MethodName)) ∈ lw_tbl := lw_at lw_m2 68 rfl
theorem q360 : (Jvm.Cond.instanceMethod ({ cls := "CheeseValleys", name := "peaceBy", desc := "(II)I" } : Jvm.MethodName)) ∈ lw_all := lw_g (lw_at lw_m2 69 rfl) rfl
theorem q361 : (Jvm.Cond.code ({ cls := "CheeseValleys", name := "peaceBy", desc := "(II)I" } : Jvm.MethodName) prog_1_method_34_code (10 : Nat) (Option.some Jvm.ClassFile.FieldType.int)) ∈ lw_all := lw_g (lw_at lw_m2 70 rfl) rfl
theorem q363 : (Jvm.Cond.instanceMethod ({ cls := "CheeseValleys", name := "reading", desc := "(II)I" } : Jvm.MethodName)) ∈ lw_all := lw_g (lw_at lw_m2 72 rfl) rfl
theorem q364 : (Jvm.Cond.selects "CheeseValleys" ({ cls := "CheeseValleys", name := "reading", desc := "(II)I" } : Jvm.MethodName) ({ cls := "CheeseValleys", name := "reading", desc := "(II)I" } : Jvm.MethodName)) ∈ lw_all := lw_g (lw_at lw_m2 73 rfl) rfl
theorem q365 : (Jvm.Cond.code ({ cls := "CheeseValleys", name := "reading", desc := "(II)I" } : Jvm.MethodName) prog_1_method_36_code (3 : Nat) (Option.some Jvm.ClassFile.FieldType.int)) ∈ lw_all := lw_g (lw_at lw_m2 74 rfl) rfl
theorem q366 : (Jvm.Cond.classLink "CheeseValleys" (212 : Nat) "CheeseValleys$Reading") ∈ lw_all := lw_g (lw_at lw_m2 75 rfl) rfl
theorem q368 : (Jvm.Cond.methodLink "CheeseValleys" (214 : Nat) ({ cls := "CheeseValleys$Reading", name := "<init>", desc := "(II)V" } : Jvm.MethodName)) ∈ lw_all := lw_g (lw_at lw_m2 77 rfl) rfl
theorem q373 : (Jvm.Cond.fieldLinkNest "CheeseValleys" (220 : Nat) "CheeseValleys$Reading" "day" "I" "CheeseValleys") ∈ lw_tbl := lw_at lw_m2 82 rfl
theorem q375 : (Jvm.Cond.fieldLinkNest "CheeseValleys" (223 : Nat) "CheeseValleys$Reading" "done" "I" "CheeseValleys") ∈ lw_tbl := lw_at lw_m2 84 rfl
theorem q381 : (Jvm.Cond.interfaceEntry "CheeseValleys" (87 : Nat)) ∈ lw_tbl := lw_at lw_m2 90 rfl
theorem q382 : (Jvm.Cond.methodLink "CheeseValleys" (87 : Nat) ({ cls := "java/util/List", name := "add", desc := "(Ljava/lang/Object;)Z" } : Jvm.MethodName)) ∈ lw_all := lw_g (lw_at lw_m2 91 rfl) rfl
theorem q418 : (Jvm.Cond.selects "CheeseValleys" ({ cls := "java/lang/Object", name := "getClass", desc := "()Ljava/lang/Class;" } : Jvm.MethodName) ({ cls := "java/lang/Object", name := "getClass", desc := "()Ljava/lang/Class;" } : Jvm.MethodName)) ∈ lw_all := lw_g (lw_at lw_m2 127 rfl) rfl
theorem q450 : (Jvm.Cond.instanceMethod ({ cls := "CheeseValleys", name := "back", desc := "(I)I" } : Jvm.MethodName)) ∈ lw_all := lw_g (lw_at lw_m2 159 rfl) rfl
theorem q451 : (Jvm.Cond.selects "CheeseValleys" ({ cls := "CheeseValleys", name := "back", desc := "(I)I" } : Jvm.MethodName) ({ cls := "CheeseValleys", name := "back", desc := "(I)I" } : Jvm.MethodName)) ∈ lw_all := lw_g (lw_at lw_m2 160 rfl) rfl
theorem q452 : (Jvm.Cond.code ({ cls := "CheeseValleys", name := "back", desc := "(I)I" } : Jvm.MethodName) prog_1_method_37_code (3 : Nat) (Option.some Jvm.ClassFile.FieldType.int)) ∈ lw_all := lw_g (lw_at lw_m2 161 rfl) rfl
theorem q453 : (Jvm.Cond.interfaceEntry "CheeseValleys" (217 : Nat)) ∈ lw_tbl := lw_at lw_m2 162 rfl
theorem q454 : (Jvm.Cond.methodLink "CheeseValleys" (217 : Nat) ({ cls := "java/util/List", name := "remove", desc := "(I)Ljava/lang/Object;" } : Jvm.MethodName)) ∈ lw_all := lw_g (lw_at lw_m2 163 rfl) rfl
theorem q468 : (Jvm.Cond.instanceMethod ({ cls := "CheeseValleys", name := "snows", desc := "(I)I" } : Jvm.MethodName)) ∈ lw_all := lw_g (lw_at lw_m2 177 rfl) rfl
theorem q469 : (Jvm.Cond.selects "CheeseValleys" ({ cls := "CheeseValleys", name := "snows", desc := "(I)I" } : Jvm.MethodName) ({ cls := "CheeseValleys", name := "snows", desc := "(I)I" } : Jvm.MethodName)) ∈ lw_all := lw_g (lw_at lw_m2 178 rfl) rfl
theorem q470 : (Jvm.Cond.code ({ cls := "CheeseValleys", name := "snows", desc := "(I)I" } : Jvm.MethodName) prog_1_method_39_code (5 : Nat) (Option.some Jvm.ClassFile.FieldType.int)) ∈ lw_all := lw_g (lw_at lw_m2 179 rfl) rfl
theorem q471 : (Jvm.Cond.methodLink "CheeseValleys" (226 : Nat) ({ cls := "CheeseValleys", name := "areSo", desc := "()Z" } : Jvm.MethodName)) ∈ lw_all := lw_g (lw_at lw_m2 180 rfl) rfl
theorem q472 : (Jvm.Cond.privateMethod ({ cls := "CheeseValleys", name := "areSo", desc := "()Z" } : Jvm.MethodName)) ∈ lw_tbl := lw_at lw_m2 181 rfl
theorem q473 : (Jvm.Cond.instanceMethod ({ cls := "CheeseValleys", name := "areSo", desc := "()Z" } : Jvm.MethodName)) ∈ lw_all := lw_g (lw_at lw_m2 182 rfl) rfl
theorem q474 : (Jvm.Cond.code ({ cls := "CheeseValleys", name := "areSo", desc := "()Z" } : Jvm.MethodName) prog_1_method_38_code (3 : Nat) (Option.some Jvm.ClassFile.FieldType.boolean)) ∈ lw_all := lw_g (lw_at lw_m2 183 rfl) rfl
theorem q476 : (Jvm.Cond.instanceMethod ({ cls := "CheeseValleys", name := "heights", desc := "(I)I" } : Jvm.MethodName)) ∈ lw_all := lw_g (lw_at lw_m2 185 rfl) rfl
theorem q477 : (Jvm.Cond.selects "CheeseValleys" ({ cls := "CheeseValleys", name := "heights", desc := "(I)I" } : Jvm.MethodName) ({ cls := "CheeseValleys", name := "heights", desc := "(I)I" } : Jvm.MethodName)) ∈ lw_all := lw_g (lw_at lw_m2 186 rfl) rfl
theorem q478 : (Jvm.Cond.code ({ cls := "CheeseValleys", name := "heights", desc := "(I)I" } : Jvm.MethodName) prog_1_method_40_code (6 : Nat) (Option.some Jvm.ClassFile.FieldType.int)) ∈ lw_all := lw_g (lw_at lw_m2 187 rfl) rfl
theorem q480 : (Jvm.Cond.instanceMethod ({ cls := "CheeseValleys", name := "kinds", desc := "(I)I" } : Jvm.MethodName)) ∈ lw_all := lw_g (lw_at lw_m2 189 rfl) rfl
theorem q481 : (Jvm.Cond.selects "CheeseValleys" ({ cls := "CheeseValleys", name := "kinds", desc := "(I)I" } : Jvm.MethodName) ({ cls := "CheeseValleys", name := "kinds", desc := "(I)I" } : Jvm.MethodName)) ∈ lw_all := lw_g (lw_at lw_m2 190 rfl) rfl
theorem q482 : (Jvm.Cond.code ({ cls := "CheeseValleys", name := "kinds", desc := "(I)I" } : Jvm.MethodName) prog_1_method_41_code (5 : Nat) (Option.some Jvm.ClassFile.FieldType.int)) ∈ lw_all := lw_g (lw_at lw_m2 191 rfl) rfl
theorem q483 : (Jvm.Cond.methodLink "CheeseValleys" (83 : Nat) ({ cls := "CheeseValleys", name := "madeOf", desc := "(IIIIII)LCheeseValleys$Pass;" } : Jvm.MethodName)) ∈ lw_all := lw_g (lw_at lw_m2 192 rfl) rfl
theorem q484 : (Jvm.Cond.privateMethod ({ cls := "CheeseValleys", name := "madeOf", desc := "(IIIIII)LCheeseValleys$Pass;" } : Jvm.MethodName)) ∈ lw_tbl := lw_at lw_m2 193 rfl
theorem q485 : (Jvm.Cond.instanceMethod ({ cls := "CheeseValleys", name := "madeOf", desc := "(IIIIII)LCheeseValleys$Pass;" } : Jvm.MethodName)) ∈ lw_all := lw_g (lw_at lw_m2 194 rfl) rfl
theorem q486 : (Jvm.Cond.code ({ cls := "CheeseValleys", name := "madeOf", desc := "(IIIIII)LCheeseValleys$Pass;" } : Jvm.MethodName) prog_1_method_4_code (7 : Nat) (Option.some (Jvm.ClassFile.FieldType.object "CheeseValleys$Pass"))) ∈ lw_all := lw_g (lw_at lw_m2 195 rfl) rfl
theorem q488 : (Jvm.Cond.methodLink "CheeseValleys" (39 : Nat) ({ cls := "CheeseValleys$Pass", name := "<init>", desc := "(LCheeseValleys;IIIII)V" } : Jvm.MethodName)) ∈ lw_all := lw_g (lw_at lw_m2 197 rfl) rfl
theorem q499 : (Jvm.Cond.fieldLink "CheeseValleys" (112 : Nat) "CheeseValleys$Pass" "from" "I") ∈ lw_all := lw_g (lw_at lw_m2 208 rfl) rfl
theorem q501 : (Jvm.Cond.fieldLink "CheeseValleys" (116 : Nat) "CheeseValleys$Pass" "to" "I") ∈ lw_all := lw_g (lw_at lw_m2 210 rfl) rfl
theorem q503 : (Jvm.Cond.fieldLink "CheeseValleys" (119 : Nat) "CheeseValleys$Pass" "length" "I") ∈ lw_all := lw_g (lw_at lw_m2 212 rfl) rfl
theorem q505 : (Jvm.Cond.fieldLink "CheeseValleys" (122 : Nat) "CheeseValleys$Pass" "high" "I") ∈ lw_all := lw_g (lw_at lw_m2 214 rfl) rfl
theorem q507 : (Jvm.Cond.fieldLink "CheeseValleys" (205 : Nat) "CheeseValleys$Pass" "isShut" "Z") ∈ lw_all := lw_g (lw_at lw_m2 216 rfl) rfl
theorem q524 : (Jvm.Cond.classLink "CheeseValleys" (42 : Nat) "CheeseValleys$Steep") ∈ lw_all := lw_g (lw_at lw_m2 233 rfl) rfl
theorem q526 : (Jvm.Cond.methodLink "CheeseValleys" (44 : Nat) ({ cls := "CheeseValleys$Steep", name := "<init>", desc := "(LCheeseValleys;IIIII)V" } : Jvm.MethodName)) ∈ lw_all := lw_g (lw_at lw_m2 235 rfl) rfl
theorem q540 : (Jvm.Cond.classLink "CheeseValleys" (45 : Nat) "CheeseValleys$Tunnel") ∈ lw_all := lw_g (lw_at lw_m3 9 rfl) rfl
theorem q542 : (Jvm.Cond.methodLink "CheeseValleys" (47 : Nat) ({ cls := "CheeseValleys$Tunnel", name := "<init>", desc := "(LCheeseValleys;IIIII)V" } : Jvm.MethodName)) ∈ lw_all := lw_g (lw_at lw_m3 11 rfl) rfl
theorem q558 : (Jvm.Cond.interfaceEntry "CheeseValleys" (229 : Nat)) ∈ lw_tbl := lw_at lw_m3 27 rfl
theorem q559 : (Jvm.Cond.methodLink "CheeseValleys" (229 : Nat) ({ cls := "java/util/List", name := "set", desc := "(ILjava/lang/Object;)Ljava/lang/Object;" } : Jvm.MethodName)) ∈ lw_all := lw_g (lw_at lw_m3 28 rfl) rfl
theorem q568 : (Jvm.Cond.instanceMethod ({ cls := "CheeseValleys", name := "gave", desc := "(II)I" } : Jvm.MethodName)) ∈ lw_all := lw_g (lw_at lw_m3 37 rfl) rfl
theorem q569 : (Jvm.Cond.selects "CheeseValleys" ({ cls := "CheeseValleys", name := "gave", desc := "(II)I" } : Jvm.MethodName) ({ cls := "CheeseValleys", name := "gave", desc := "(II)I" } : Jvm.MethodName)) ∈ lw_all := lw_g (lw_at lw_m3 38 rfl) rfl
theorem q570 : (Jvm.Cond.code ({ cls := "CheeseValleys", name := "gave", desc := "(II)I" } : Jvm.MethodName) prog_1_method_42_code (7 : Nat) (Option.some Jvm.ClassFile.FieldType.int)) ∈ lw_all := lw_g (lw_at lw_m3 39 rfl) rfl
theorem q572 : (Jvm.Cond.instanceMethod ({ cls := "CheeseValleys", name := "odds", desc := "(IIII)J" } : Jvm.MethodName)) ∈ lw_all := lw_g (lw_at lw_m3 41 rfl) rfl
theorem q573 : (Jvm.Cond.selects "CheeseValleys" ({ cls := "CheeseValleys", name := "odds", desc := "(IIII)J" } : Jvm.MethodName) ({ cls := "CheeseValleys", name := "odds", desc := "(IIII)J" } : Jvm.MethodName)) ∈ lw_all := lw_g (lw_at lw_m3 42 rfl) rfl
theorem q574 : (Jvm.Cond.code ({ cls := "CheeseValleys", name := "odds", desc := "(IIII)J" } : Jvm.MethodName) prog_1_method_44_code (9 : Nat) (Option.some Jvm.ClassFile.FieldType.long)) ∈ lw_all := lw_g (lw_at lw_m3 43 rfl) rfl
theorem q575 : (Jvm.Cond.constantLong "CheeseValleys" (237 : Nat) (-9223372036854775808 : Int64)) ∈ lw_all := lw_g (lw_at lw_m3 44 rfl) rfl
theorem q576 : (Jvm.Cond.methodLink "CheeseValleys" (233 : Nat) ({ cls := "CheeseValleys", name := "greatest", desc := "(JJ)J" } : Jvm.MethodName)) ∈ lw_all := lw_g (lw_at lw_m3 45 rfl) rfl
theorem q577 : (Jvm.Cond.static ({ cls := "CheeseValleys", name := "greatest", desc := "(JJ)J" } : Jvm.MethodName)) ∈ lw_all := lw_g (lw_at lw_m3 46 rfl) rfl
theorem q578 : (Jvm.Cond.code ({ cls := "CheeseValleys", name := "greatest", desc := "(JJ)J" } : Jvm.MethodName) prog_1_method_43_code (4 : Nat) (Option.some Jvm.ClassFile.FieldType.long)) ∈ lw_all := lw_g (lw_at lw_m3 47 rfl) rfl
theorem q580 : (Jvm.Cond.instanceMethod ({ cls := "CheeseValleys", name := "sheet", desc := "(III)I" } : Jvm.MethodName)) ∈ lw_all := lw_g (lw_at lw_m3 49 rfl) rfl
theorem q581 : (Jvm.Cond.selects "CheeseValleys" ({ cls := "CheeseValleys", name := "sheet", desc := "(III)I" } : Jvm.MethodName) ({ cls := "CheeseValleys", name := "sheet", desc := "(III)I" } : Jvm.MethodName)) ∈ lw_all := lw_g (lw_at lw_m3 50 rfl) rfl
theorem q582 : (Jvm.Cond.codeWith ({ cls := "CheeseValleys", name := "sheet", desc := "(III)I" } : Jvm.MethodName) prog_1_method_54_code (5 : Nat) (Option.some Jvm.ClassFile.FieldType.int) [((43 : Nat), (62 : Nat), (63 : Nat), (266 : Nat))]) ∈ lw_all := lw_g (lw_at lw_m3 51 rfl) rfl
theorem q583 : (Jvm.Cond.classLink "CheeseValleys" (266 : Nat) "java/lang/NegativeArraySizeException") ∈ lw_all := lw_g (lw_at lw_m3 52 rfl) rfl
theorem q670 : (Jvm.Cond.methodLink "CheeseValleys" (253 : Nat) ({ cls := "CheeseValleys", name := "noSheet", desc := "(I)Z" } : Jvm.MethodName)) ∈ lw_all := lw_g (lw_at lw_m3 139 rfl) rfl
theorem q671 : (Jvm.Cond.static ({ cls := "CheeseValleys", name := "noSheet", desc := "(I)Z" } : Jvm.MethodName)) ∈ lw_all := lw_g (lw_at lw_m3 140 rfl) rfl
theorem q672 : (Jvm.Cond.code ({ cls := "CheeseValleys", name := "noSheet", desc := "(I)Z" } : Jvm.MethodName) prog_1_method_52_code (1 : Nat) (Option.some Jvm.ClassFile.FieldType.boolean)) ∈ lw_all := lw_g (lw_at lw_m3 141 rfl) rfl
theorem q673 : (Jvm.Cond.constantLong "CheeseValleys" (247 : Nat) (3 : Int64)) ∈ lw_all := lw_g (lw_at lw_m3 142 rfl) rfl
theorem q674 : (Jvm.Cond.methodLink "CheeseValleys" (256 : Nat) ({ cls := "CheeseValleys", name := "refused", desc := "(I)I" } : Jvm.MethodName)) ∈ lw_all := lw_g (lw_at lw_m3 143 rfl) rfl
theorem q675 : (Jvm.Cond.privateMethod ({ cls := "CheeseValleys", name := "refused", desc := "(I)I" } : Jvm.MethodName)) ∈ lw_tbl := lw_at lw_m3 144 rfl
theorem q676 : (Jvm.Cond.instanceMethod ({ cls := "CheeseValleys", name := "refused", desc := "(I)I" } : Jvm.MethodName)) ∈ lw_all := lw_g (lw_at lw_m3 145 rfl) rfl
theorem q677 : (Jvm.Cond.code ({ cls := "CheeseValleys", name := "refused", desc := "(I)I" } : Jvm.MethodName) prog_1_method_45_code (2 : Nat) (Option.some Jvm.ClassFile.FieldType.int)) ∈ lw_all := lw_g (lw_at lw_m3 146 rfl) rfl
theorem q679 : (Jvm.Cond.methodLink "CheeseValleys" (259 : Nat) ({ cls := "CheeseValleys", name := "rowOf", desc := "(II)Ljava/lang/Object;" } : Jvm.MethodName)) ∈ lw_all := lw_g (lw_at lw_m3 148 rfl) rfl
theorem q680 : (Jvm.Cond.static ({ cls := "CheeseValleys", name := "rowOf", desc := "(II)Ljava/lang/Object;" } : Jvm.MethodName)) ∈ lw_all := lw_g (lw_at lw_m3 149 rfl) rfl
theorem q681 : (Jvm.Cond.code ({ cls := "CheeseValleys", name := "rowOf", desc := "(II)Ljava/lang/Object;" } : Jvm.MethodName) prog_1_method_48_code (2 : Nat) (Option.some (Jvm.ClassFile.FieldType.object "java/lang/Object"))) ∈ lw_all := lw_g (lw_at lw_m3 150 rfl) rfl
theorem q682 : (Jvm.Cond.methodLink "CheeseValleys" (263 : Nat) ({ cls := "CheeseValleys$Sheet", name := "<init>", desc := "(Ljava/lang/Object;)V" } : Jvm.MethodName)) ∈ lw_all := lw_g (lw_at lw_m3 151 rfl) rfl
theorem q687 : (Jvm.Cond.fieldLink "CheeseValleys" (249 : Nat) "CheeseValleys$Sheet" "row" "Ljava/lang/Object;") ∈ lw_all := lw_g (lw_at lw_m3 156 rfl) rfl
theorem q692 : (Jvm.Cond.methodLink "CheeseValleys" (268 : Nat) ({ cls := "CheeseValleys", name := "fails", desc := "(I)I" } : Jvm.MethodName)) ∈ lw_all := lw_g (lw_at lw_m3 161 rfl) rfl
theorem q693 : (Jvm.Cond.privateMethod ({ cls := "CheeseValleys", name := "fails", desc := "(I)I" } : Jvm.MethodName)) ∈ lw_tbl := lw_at lw_m3 162 rfl
theorem q694 : (Jvm.Cond.instanceMethod ({ cls := "CheeseValleys", name := "fails", desc := "(I)I" } : Jvm.MethodName)) ∈ lw_all := lw_g (lw_at lw_m3 163 rfl) rfl
theorem q695 : (Jvm.Cond.code ({ cls := "CheeseValleys", name := "fails", desc := "(I)I" } : Jvm.MethodName) prog_1_method_46_code (2 : Nat) (Option.some Jvm.ClassFile.FieldType.int)) ∈ lw_all := lw_g (lw_at lw_m3 164 rfl) rfl
theorem q697 : (Jvm.Cond.instanceMethod ({ cls := "CheeseValleys", name := "lose", desc := "(I)I" } : Jvm.MethodName)) ∈ lw_all := lw_g (lw_at lw_m3 166 rfl) rfl
theorem q698 : (Jvm.Cond.selects "CheeseValleys" ({ cls := "CheeseValleys", name := "lose", desc := "(I)I" } : Jvm.MethodName) ({ cls := "CheeseValleys", name := "lose", desc := "(I)I" } : Jvm.MethodName)) ∈ lw_all := lw_g (lw_at lw_m3 167 rfl) rfl
theorem q699 : (Jvm.Cond.code ({ cls := "CheeseValleys", name := "lose", desc := "(I)I" } : Jvm.MethodName) prog_1_method_55_code (3 : Nat) (Option.some Jvm.ClassFile.FieldType.int)) ∈ lw_all := lw_g (lw_at lw_m3 168 rfl) rfl
theorem q701 : (Jvm.Cond.instanceMethod ({ cls := "CheeseValleys", name := "put", desc := "(III)I" } : Jvm.MethodName)) ∈ lw_all := lw_g (lw_at lw_m3 170 rfl) rfl
theorem q702 : (Jvm.Cond.selects "CheeseValleys" ({ cls := "CheeseValleys", name := "put", desc := "(III)I" } : Jvm.MethodName) ({ cls := "CheeseValleys", name := "put", desc := "(III)I" } : Jvm.MethodName)) ∈ lw_all := lw_g (lw_at lw_m3 171 rfl) rfl
theorem q703 : (Jvm.Cond.codeWith ({ cls := "CheeseValleys", name := "put", desc := "(III)I" } : Jvm.MethodName) prog_1_method_56_code (5 : Nat) (Option.some Jvm.ClassFile.FieldType.int) [((18 : Nat), (33 : Nat), (34 : Nat), (275 : Nat)), ((18 : Nat), (33 : Nat), (42 : Nat), (277 : Nat))]) ∈ lw_all := lw_g (lw_at lw_m3 172 rfl) rfl
theorem q704 : (Jvm.Cond.classLink "CheeseValleys" (275 : Nat) "java/lang/NullPointerException") ∈ lw_all := lw_g (lw_at lw_m3 173 rfl) rfl
theorem q729 : (Jvm.Cond.classLink "CheeseValleys" (277 : Nat) "java/lang/IndexOutOfBoundsException") ∈ lw_all := lw_g (lw_at lw_m3 198 rfl) rfl
theorem q748 : (Jvm.Cond.methodLink "CheeseValleys" (271 : Nat) ({ cls := "CheeseValleys", name := "setIn", desc := "(Ljava/lang/Object;II)V" } : Jvm.MethodName)) ∈ lw_all := lw_g (lw_at lw_m3 217 rfl) rfl
theorem q749 : (Jvm.Cond.static ({ cls := "CheeseValleys", name := "setIn", desc := "(Ljava/lang/Object;II)V" } : Jvm.MethodName)) ∈ lw_all := lw_g (lw_at lw_m3 218 rfl) rfl
theorem q750 : (Jvm.Cond.code ({ cls := "CheeseValleys", name := "setIn", desc := "(Ljava/lang/Object;II)V" } : Jvm.MethodName) prog_1_method_51_code (3 : Nat) (Option.none : Option Jvm.ClassFile.FieldType)) ∈ lw_all := lw_g (lw_at lw_m3 219 rfl) rfl
theorem q751 : (Jvm.Cond.classLink "CheeseValleys" (242 : Nat) "[B") ∈ lw_all := lw_g (lw_at lw_m3 220 rfl) rfl
theorem q752 : (Jvm.Cond.classLink "CheeseValleys" (244 : Nat) "[S") ∈ lw_all := lw_g (lw_at lw_m3 221 rfl) rfl
theorem q753 : (Jvm.Cond.classLink "CheeseValleys" (246 : Nat) "[I") ∈ lw_all := lw_g (lw_at lw_m3 222 rfl) rfl
theorem q755 : (Jvm.Cond.instanceMethod ({ cls := "CheeseValleys", name := "cell", desc := "(III)J" } : Jvm.MethodName)) ∈ lw_all := lw_g (lw_at lw_m3 224 rfl) rfl
theorem q756 : (Jvm.Cond.selects "CheeseValleys" ({ cls := "CheeseValleys", name := "cell", desc := "(III)J" } : Jvm.MethodName) ({ cls := "CheeseValleys", name := "cell", desc := "(III)J" } : Jvm.MethodName)) ∈ lw_all := lw_g (lw_at lw_m3 225 rfl) rfl
theorem q757 : (Jvm.Cond.codeWith ({ cls := "CheeseValleys", name := "cell", desc := "(III)J" } : Jvm.MethodName) prog_1_method_57_code (5 : Nat) (Option.some Jvm.ClassFile.FieldType.long) [((28 : Nat), (39 : Nat), (40 : Nat), (275 : Nat)), ((28 : Nat), (39 : Nat), (48 : Nat), (290 : Nat)), ((28 : Nat), (39 : Nat), (56 : Nat), (277 : Nat))]) ∈ lw_all := lw_g (lw_at lw_m3 226 rfl) rfl
theorem q758 : (Jvm.Cond.classLink "CheeseValleys" (290 : Nat) "java/lang/ClassCastException") ∈ lw_all := lw_g (lw_at lw_m3 227 rfl) rfl
theorem q772 : (Jvm.Cond.methodLink "CheeseValleys" (279 : Nat) ({ cls := "CheeseValleys", name := "rowIn", desc := "(I)Ljava/lang/Object;" } : Jvm.MethodName)) ∈ lw_all := lw_g (lw_at lw_m4 1 rfl) rfl
theorem q773 : (Jvm.Cond.privateMethod ({ cls := "CheeseValleys", name := "rowIn", desc := "(I)Ljava/lang/Object;" } : Jvm.MethodName)) ∈ lw_tbl := lw_at lw_m4 2 rfl
theorem q774 : (Jvm.Cond.instanceMethod ({ cls := "CheeseValleys", name := "rowIn", desc := "(I)Ljava/lang/Object;" } : Jvm.MethodName)) ∈ lw_all := lw_g (lw_at lw_m4 3 rfl) rfl
theorem q775 : (Jvm.Cond.code ({ cls := "CheeseValleys", name := "rowIn", desc := "(I)Ljava/lang/Object;" } : Jvm.MethodName) prog_1_method_53_code (2 : Nat) (Option.some (Jvm.ClassFile.FieldType.object "java/lang/Object"))) ∈ lw_all := lw_g (lw_at lw_m4 4 rfl) rfl
theorem q776 : (Jvm.Cond.methodLink "CheeseValleys" (282 : Nat) ({ cls := "CheeseValleys", name := "cellOf", desc := "(Ljava/lang/Object;II)I" } : Jvm.MethodName)) ∈ lw_all := lw_g (lw_at lw_m4 5 rfl) rfl
theorem q777 : (Jvm.Cond.static ({ cls := "CheeseValleys", name := "cellOf", desc := "(Ljava/lang/Object;II)I" } : Jvm.MethodName)) ∈ lw_all := lw_g (lw_at lw_m4 6 rfl) rfl
theorem q778 : (Jvm.Cond.code ({ cls := "CheeseValleys", name := "cellOf", desc := "(Ljava/lang/Object;II)I" } : Jvm.MethodName) prog_1_method_49_code (3 : Nat) (Option.some Jvm.ClassFile.FieldType.int)) ∈ lw_all := lw_g (lw_at lw_m4 7 rfl) rfl
theorem q779 : (Jvm.Cond.methodLink "CheeseValleys" (286 : Nat) ({ cls := "CheeseValleys", name := "failsLong", desc := "(I)J" } : Jvm.MethodName)) ∈ lw_all := lw_g (lw_at lw_m4 8 rfl) rfl
theorem q780 : (Jvm.Cond.privateMethod ({ cls := "CheeseValleys", name := "failsLong", desc := "(I)J" } : Jvm.MethodName)) ∈ lw_tbl := lw_at lw_m4 9 rfl
theorem q781 : (Jvm.Cond.instanceMethod ({ cls := "CheeseValleys", name := "failsLong", desc := "(I)J" } : Jvm.MethodName)) ∈ lw_all := lw_g (lw_at lw_m4 10 rfl) rfl
theorem q782 : (Jvm.Cond.code ({ cls := "CheeseValleys", name := "failsLong", desc := "(I)J" } : Jvm.MethodName) prog_1_method_47_code (2 : Nat) (Option.some Jvm.ClassFile.FieldType.long)) ∈ lw_all := lw_g (lw_at lw_m4 11 rfl) rfl
theorem q784 : (Jvm.Cond.instanceMethod ({ cls := "CheeseValleys", name := "land", desc := "(IIII)I" } : Jvm.MethodName)) ∈ lw_all := lw_g (lw_at lw_m4 13 rfl) rfl
theorem q785 : (Jvm.Cond.selects "CheeseValleys" ({ cls := "CheeseValleys", name := "land", desc := "(IIII)I" } : Jvm.MethodName) ({ cls := "CheeseValleys", name := "land", desc := "(IIII)I" } : Jvm.MethodName)) ∈ lw_all := lw_g (lw_at lw_m4 14 rfl) rfl
theorem q786 : (Jvm.Cond.code ({ cls := "CheeseValleys", name := "land", desc := "(IIII)I" } : Jvm.MethodName) prog_1_method_61_code (5 : Nat) (Option.some Jvm.ClassFile.FieldType.int)) ∈ lw_all := lw_g (lw_at lw_m4 15 rfl) rfl
theorem q787 : (Jvm.Cond.classLink "CheeseValleys" (316 : Nat) "CheeseValleys$Laying") ∈ lw_all := lw_g (lw_at lw_m4 16 rfl) rfl
theorem q789 : (Jvm.Cond.methodLink "CheeseValleys" (318 : Nat) ({ cls := "CheeseValleys$Laying", name := "<init>", desc := "(LCheeseValleys;IIII)V" } : Jvm.MethodName)) ∈ lw_all := lw_g (lw_at lw_m4 18 rfl) rfl
theorem q801 : (Jvm.Cond.fieldLink "CheeseValleys" (305 : Nat) "CheeseValleys$Looking" "sheet" "I") ∈ lw_all := lw_g (lw_at lw_m4 30 rfl) rfl
theorem q803 : (Jvm.Cond.fieldLink "CheeseValleys" (310 : Nat) "CheeseValleys$Looking" "lane" "I") ∈ lw_all := lw_g (lw_at lw_m4 32 rfl) rfl
theorem q823 : (Jvm.Cond.methodLink "CheeseValleys" (321 : Nat) ({ cls := "CheeseValleys", name := "looked", desc := "(LCheeseValleys$Looking;Z)I" } : Jvm.MethodName)) ∈ lw_all := lw_g (lw_at lw_m4 52 rfl) rfl
theorem q824 : (Jvm.Cond.privateMethod ({ cls := "CheeseValleys", name := "looked", desc := "(LCheeseValleys$Looking;Z)I" } : Jvm.MethodName)) ∈ lw_tbl := lw_at lw_m4 53 rfl
theorem q825 : (Jvm.Cond.instanceMethod ({ cls := "CheeseValleys", name := "looked", desc := "(LCheeseValleys$Looking;Z)I" } : Jvm.MethodName)) ∈ lw_all := lw_g (lw_at lw_m4 54 rfl) rfl
theorem q826 : (Jvm.Cond.code ({ cls := "CheeseValleys", name := "looked", desc := "(LCheeseValleys$Looking;Z)I" } : Jvm.MethodName) prog_1_method_60_code (3 : Nat) (Option.some Jvm.ClassFile.FieldType.int)) ∈ lw_all := lw_g (lw_at lw_m4 55 rfl) rfl
theorem q827 : (Jvm.Cond.methodLink "CheeseValleys" (313 : Nat) ({ cls := "CheeseValleys$Looking", name := "tried", desc := "()I" } : Jvm.MethodName)) ∈ lw_all := lw_g (lw_at lw_m4 56 rfl) rfl
theorem q865 : (Jvm.Cond.static ({ cls := "CheeseValleys", name := "cellsOf", desc := "(Ljava/lang/Object;III)[I" } : Jvm.MethodName)) ∈ lw_all := lw_g (lw_at lw_m4 94 rfl) rfl
theorem q866 : (Jvm.Cond.code ({ cls := "CheeseValleys", name := "cellsOf", desc := "(Ljava/lang/Object;III)[I" } : Jvm.MethodName) prog_1_method_59_code (8 : Nat) (Option.some (Jvm.ClassFile.FieldType.array Jvm.ClassFile.FieldType.int))) ∈ lw_all := lw_g (lw_at lw_m4 95 rfl) rfl
theorem q867 : (Jvm.Cond.methodLink "CheeseValleys" (297 : Nat) ({ cls := "CheeseValleys", name := "sizeOf", desc := "(Ljava/lang/Object;I)I" } : Jvm.MethodName)) ∈ lw_all := lw_g (lw_at lw_m4 96 rfl) rfl
theorem q868 : (Jvm.Cond.static ({ cls := "CheeseValleys", name := "sizeOf", desc := "(Ljava/lang/Object;I)I" } : Jvm.MethodName)) ∈ lw_all := lw_g (lw_at lw_m4 97 rfl) rfl
theorem q869 : (Jvm.Cond.code ({ cls := "CheeseValleys", name := "sizeOf", desc := "(Ljava/lang/Object;I)I" } : Jvm.MethodName) prog_1_method_50_code (2 : Nat) (Option.some Jvm.ClassFile.FieldType.int)) ∈ lw_all := lw_g (lw_at lw_m4 98 rfl) rfl
theorem q870 : (Jvm.Cond.methodLink "CheeseValleys" (301 : Nat) ({ cls := "CheeseValleys", name := "need", desc := "(Z)V" } : Jvm.MethodName)) ∈ lw_all := lw_g (lw_at lw_m4 99 rfl) rfl
theorem q871 : (Jvm.Cond.static ({ cls := "CheeseValleys", name := "need", desc := "(Z)V" } : Jvm.MethodName)) ∈ lw_all := lw_g (lw_at lw_m4 100 rfl) rfl
theorem q872 : (Jvm.Cond.code ({ cls := "CheeseValleys", name := "need", desc := "(Z)V" } : Jvm.MethodName) prog_1_method_58_code (1 : Nat) (Option.none : Option Jvm.ClassFile.FieldType)) ∈ lw_all := lw_g (lw_at lw_m4 101 rfl) rfl
theorem q881 : (Jvm.Cond.stringRef "CheeseValleys" (292 : Nat) "not all there") ∈ lw_tbl := lw_at lw_m4 110 rfl
theorem q882 : (Jvm.Cond.methodLink "CheeseValleys" (294 : Nat) ({ cls := "java/lang/IndexOutOfBoundsException", name := "<init>", desc := "(Ljava/lang/String;)V" } : Jvm.MethodName)) ∈ lw_all := lw_g (lw_at lw_m4 111 rfl) rfl
theorem q892 : (Jvm.Cond.privateMethod ({ cls := "CheeseValleys", name := "stepsBarred", desc := "([I)I" } : Jvm.MethodName)) ∈ lw_tbl := lw_at lw_m4 121 rfl
theorem q893 : (Jvm.Cond.instanceMethod ({ cls := "CheeseValleys", name := "stepsBarred", desc := "([I)I" } : Jvm.MethodName)) ∈ lw_all := lw_g (lw_at lw_m4 122 rfl) rfl
theorem q894 : (Jvm.Cond.code ({ cls := "CheeseValleys", name := "stepsBarred", desc := "([I)I" } : Jvm.MethodName) prog_1_method_27_code (3 : Nat) (Option.some Jvm.ClassFile.FieldType.int)) ∈ lw_all := lw_g (lw_at lw_m4 123 rfl) rfl
theorem q895 : (Jvm.Cond.constantLong "CheeseValleys" (182 : Nat) (8 : Int64)) ∈ lw_all := lw_g (lw_at lw_m4 124 rfl) rfl
theorem q897 : (Jvm.Cond.privateMethod ({ cls := "CheeseValleys", name := "wayBy", desc := "([III)I" } : Jvm.MethodName)) ∈ lw_tbl := lw_at lw_m4 126 rfl
theorem q898 : (Jvm.Cond.instanceMethod ({ cls := "CheeseValleys", name := "wayBy", desc := "([III)I" } : Jvm.MethodName)) ∈ lw_all := lw_g (lw_at lw_m4 127 rfl) rfl
theorem q899 : (Jvm.Cond.code ({ cls := "CheeseValleys", name := "wayBy", desc := "([III)I" } : Jvm.MethodName) prog_1_method_29_code (6 : Nat) (Option.some Jvm.ClassFile.FieldType.int)) ∈ lw_all := lw_g (lw_at lw_m4 128 rfl) rfl
theorem q900 : (Jvm.Cond.methodLink "CheeseValleys" (196 : Nat) ({ cls := "CheeseValleys", name := "goStep", desc := "(I)Z" } : Jvm.MethodName)) ∈ lw_all := lw_g (lw_at lw_m4 129 rfl) rfl
theorem q901 : (Jvm.Cond.privateMethod ({ cls := "CheeseValleys", name := "goStep", desc := "(I)Z" } : Jvm.MethodName)) ∈ lw_tbl := lw_at lw_m4 130 rfl
theorem q902 : (Jvm.Cond.instanceMethod ({ cls := "CheeseValleys", name := "goStep", desc := "(I)Z" } : Jvm.MethodName)) ∈ lw_all := lw_g (lw_at lw_m4 131 rfl) rfl
theorem q903 : (Jvm.Cond.code ({ cls := "CheeseValleys", name := "goStep", desc := "(I)Z" } : Jvm.MethodName) prog_1_method_28_code (4 : Nat) (Option.some Jvm.ClassFile.FieldType.boolean)) ∈ lw_all := lw_g (lw_at lw_m4 132 rfl) rfl
theorem q908 : (Jvm.Cond.privateMethod ({ cls := "CheeseValleys", name := "newLand", desc := "([I)I" } : Jvm.MethodName)) ∈ lw_tbl := lw_at lw_m4 137 rfl
theorem q909 : (Jvm.Cond.instanceMethod ({ cls := "CheeseValleys", name := "newLand", desc := "([I)I" } : Jvm.MethodName)) ∈ lw_all := lw_g (lw_at lw_m4 138 rfl) rfl
theorem q910 : (Jvm.Cond.code ({ cls := "CheeseValleys", name := "newLand", desc := "([I)I" } : Jvm.MethodName) prog_1_method_14_code (7 : Nat) (Option.some Jvm.ClassFile.FieldType.int)) ∈ lw_all := lw_g (lw_at lw_m4 139 rfl) rfl
theorem q911 : (Jvm.Cond.methodLink "CheeseValleys" (66 : Nat) ({ cls := "CheeseValleys", name := "codeAt", desc := "([II)I" } : Jvm.MethodName)) ∈ lw_all := lw_g (lw_at lw_m4 140 rfl) rfl
theorem q912 : (Jvm.Cond.static ({ cls := "CheeseValleys", name := "codeAt", desc := "([II)I" } : Jvm.MethodName)) ∈ lw_all := lw_g (lw_at lw_m4 141 rfl) rfl
theorem q913 : (Jvm.Cond.code ({ cls := "CheeseValleys", name := "codeAt", desc := "([II)I" } : Jvm.MethodName) prog_1_method_9_code (2 : Nat) (Option.some Jvm.ClassFile.FieldType.int)) ∈ lw_all := lw_g (lw_at lw_m4 142 rfl) rfl
theorem q914 : (Jvm.Cond.methodLink "CheeseValleys" (70 : Nat) ({ cls := "CheeseValleys", name := "isFigure", desc := "([IIII)Z" } : Jvm.MethodName)) ∈ lw_all := lw_g (lw_at lw_m4 143 rfl) rfl
theorem q915 : (Jvm.Cond.static ({ cls := "CheeseValleys", name := "isFigure", desc := "([IIII)Z" } : Jvm.MethodName)) ∈ lw_all := lw_g (lw_at lw_m4 144 rfl) rfl
theorem q916 : (Jvm.Cond.code ({ cls := "CheeseValleys", name := "isFigure", desc := "([IIII)Z" } : Jvm.MethodName) prog_1_method_10_code (4 : Nat) (Option.some Jvm.ClassFile.FieldType.boolean)) ∈ lw_all := lw_g (lw_at lw_m4 145 rfl) rfl
theorem q917 : (Jvm.Cond.methodLink "CheeseValleys" (77 : Nat) ({ cls := "CheeseValleys", name := "rightOf", desc := "([II)I" } : Jvm.MethodName)) ∈ lw_all := lw_g (lw_at lw_m4 146 rfl) rfl
theorem q918 : (Jvm.Cond.static ({ cls := "CheeseValleys", name := "rightOf", desc := "([II)I" } : Jvm.MethodName)) ∈ lw_all := lw_g (lw_at lw_m4 147 rfl) rfl
theorem q919 : (Jvm.Cond.code ({ cls := "CheeseValleys", name := "rightOf", desc := "([II)I" } : Jvm.MethodName) prog_1_method_12_code (3 : Nat) (Option.some Jvm.ClassFile.FieldType.int)) ∈ lw_all := lw_g (lw_at lw_m4 148 rfl) rfl
theorem q920 : (Jvm.Cond.methodLink "CheeseValleys" (74 : Nat) ({ cls := "CheeseValleys", name := "figureAt", desc := "([II)I" } : Jvm.MethodName)) ∈ lw_all := lw_g (lw_at lw_m4 149 rfl) rfl
theorem q921 : (Jvm.Cond.static ({ cls := "CheeseValleys", name := "figureAt", desc := "([II)I" } : Jvm.MethodName)) ∈ lw_all := lw_g (lw_at lw_m4 150 rfl) rfl
theorem q922 : (Jvm.Cond.code ({ cls := "CheeseValleys", name := "figureAt", desc := "([II)I" } : Jvm.MethodName) prog_1_method_11_code (2 : Nat) (Option.some Jvm.ClassFile.FieldType.int)) ∈ lw_all := lw_g (lw_at lw_m4 151 rfl) rfl
theorem q923 : (Jvm.Cond.methodLink "CheeseValleys" (80 : Nat) ({ cls := "java/util/ArrayList", name := "<init>", desc := "(I)V" } : Jvm.MethodName)) ∈ lw_all := lw_g (lw_at lw_m4 152 rfl) rfl
theorem q928 : (Jvm.Cond.methodLink "CheeseValleys" (91 : Nat) ({ cls := "CheeseValleys", name := "setAt", desc := "([II)I" } : Jvm.MethodName)) ∈ lw_all := lw_g (lw_at lw_m4 157 rfl) rfl
theorem q929 : (Jvm.Cond.static ({ cls := "CheeseValleys", name := "setAt", desc := "([II)I" } : Jvm.MethodName)) ∈ lw_all := lw_g (lw_at lw_m4 158 rfl) rfl
theorem q930 : (Jvm.Cond.code ({ cls := "CheeseValleys", name := "setAt", desc := "([II)I" } : Jvm.MethodName) prog_1_method_13_code (2 : Nat) (Option.some Jvm.ClassFile.FieldType.int)) ∈ lw_all := lw_g (lw_at lw_m4 159 rfl) rfl
theorem q931 : (Jvm.Cond.interfaceEntry "CheeseValleys" (94 : Nat)) ∈ lw_tbl := lw_at lw_m4 160 rfl
theorem q932 : (Jvm.Cond.methodLink "CheeseValleys" (94 : Nat) ({ cls := "java/util/List", name := "clear", desc := "()V" } : Jvm.MethodName)) ∈ lw_all := lw_g (lw_at lw_m4 161 rfl) rfl
theorem q940 : (Jvm.Cond.interfaceEntry "CheeseValleys" (97 : Nat)) ∈ lw_tbl := lw_at lw_m4 169 rfl
theorem q941 : (Jvm.Cond.methodLink "CheeseValleys" (97 : Nat) ({ cls := "java/util/List", name := "addAll", desc := "(Ljava/util/Collection;)Z" } : Jvm.MethodName)) ∈ lw_all := lw_g (lw_at lw_m4 170 rfl) rfl
theorem q967 : (Jvm.Cond.instanceMethod ({ cls := "CheeseValleys", name := "way", desc := "(IIIIII)I" } : Jvm.MethodName)) ∈ lw_all := lw_g (lw_at lw_m4 196 rfl) rfl
theorem q968 : (Jvm.Cond.selects "CheeseValleys" ({ cls := "CheeseValleys", name := "way", desc := "(IIIIII)I" } : Jvm.MethodName) ({ cls := "CheeseValleys", name := "way", desc := "(IIIIII)I" } : Jvm.MethodName)) ∈ lw_all := lw_g (lw_at lw_m4 197 rfl) rfl
theorem q969 : (Jvm.Cond.code ({ cls := "CheeseValleys", name := "way", desc := "(IIIIII)I" } : Jvm.MethodName) prog_1_method_62_code (7 : Nat) (Option.some Jvm.ClassFile.FieldType.int)) ∈ lw_all := lw_g (lw_at lw_m4 198 rfl) rfl
theorem q970 : (Jvm.Cond.classLink "CheeseValleys" (325 : Nat) "CheeseValleys$Going") ∈ lw_all := lw_g (lw_at lw_m4 199 rfl) rfl
theorem q972 : (Jvm.Cond.methodLink "CheeseValleys" (327 : Nat) ({ cls := "CheeseValleys$Going", name := "<init>", desc := "(LCheeseValleys;IIIIII)V" } : Jvm.MethodName)) ∈ lw_all := lw_g (lw_at lw_m4 201 rfl) rfl
theorem q992 : (Jvm.Cond.constantLong "CheeseValleys" (330 : Nat) (20 : Int64)) ∈ lw_all := lw_g (lw_at lw_m4 221 rfl) rfl
theorem q993 : (Jvm.Cond.constantLong "CheeseValleys" (332 : Nat) (4 : Int64)) ∈ lw_all := lw_g (lw_at lw_m4 222 rfl) rfl
theorem q995 : (Jvm.Cond.instanceMethod ({ cls := "CheeseValleys", name := "copy", desc := "(IIIII)I" } : Jvm.MethodName)) ∈ lw_all := lw_g (lw_at lw_m4 224 rfl) rfl
theorem q996 : (Jvm.Cond.selects "CheeseValleys" ({ cls := "CheeseValleys", name := "copy", desc := "(IIIII)I" } : Jvm.MethodName) ({ cls := "CheeseValleys", name := "copy", desc := "(IIIII)I" } : Jvm.MethodName)) ∈ lw_all := lw_g (lw_at lw_m4 225 rfl) rfl
theorem q997 : (Jvm.Cond.code ({ cls := "CheeseValleys", name := "copy", desc := "(IIIII)I" } : Jvm.MethodName) prog_1_method_63_code (6 : Nat) (Option.some Jvm.ClassFile.FieldType.int)) ∈ lw_all := lw_g (lw_at lw_m4 226 rfl) rfl
theorem q998 : (Jvm.Cond.classLink "CheeseValleys" (334 : Nat) "CheeseValleys$Copying") ∈ lw_all := lw_g (lw_at lw_m4 227 rfl) rfl
theorem q1000 : (Jvm.Cond.methodLink "CheeseValleys" (336 : Nat) ({ cls := "CheeseValleys$Copying", name := "<init>", desc := "(LCheeseValleys;IIIII)V" } : Jvm.MethodName)) ∈ lw_all := lw_g (lw_at lw_m4 229 rfl) rfl
theorem q1024 : (Jvm.Cond.methodLink "CheeseValleys" (337 : Nat) ({ cls := "CheeseValleys$Copying", name := "tried", desc := "()I" } : Jvm.MethodName)) ∈ lw_all := lw_g (lw_at lw_m5 13 rfl) rfl
theorem q1028 : (Jvm.Cond.instanceMethod ({ cls := "CheeseValleys", name := "tell", desc := "(I)I" } : Jvm.MethodName)) ∈ lw_all := lw_g (lw_at lw_m5 17 rfl) rfl
theorem q1029 : (Jvm.Cond.selects "CheeseValleys" ({ cls := "CheeseValleys", name := "tell", desc := "(I)I" } : Jvm.MethodName) ({ cls := "CheeseValleys", name := "tell", desc := "(I)I" } : Jvm.MethodName)) ∈ lw_all := lw_g (lw_at lw_m5 18 rfl) rfl
theorem q1030 : (Jvm.Cond.code ({ cls := "CheeseValleys", name := "tell", desc := "(I)I" } : Jvm.MethodName) prog_1_method_64_code (2 : Nat) (Option.some Jvm.ClassFile.FieldType.int)) ∈ lw_all := lw_g (lw_at lw_m5 19 rfl) rfl
theorem q1031 : (Jvm.Cond.methodLink "CheeseValleys" (338 : Nat) ({ cls := "CheeseValleys$Pass", name := "said", desc := "()I" } : Jvm.MethodName)) ∈ lw_all := lw_g (lw_at lw_m5 20 rfl) rfl
theorem q1062 : (Jvm.Cond.instanceMethod ({ cls := "CheeseValleys", name := "mark", desc := "(I)I" } : Jvm.MethodName)) ∈ lw_all := lw_g (lw_at lw_m5 51 rfl) rfl
theorem q1063 : (Jvm.Cond.selects "CheeseValleys" ({ cls := "CheeseValleys", name := "mark", desc := "(I)I" } : Jvm.MethodName) ({ cls := "CheeseValleys", name := "mark", desc := "(I)I" } : Jvm.MethodName)) ∈ lw_all := lw_g (lw_at lw_m5 52 rfl) rfl
theorem q1064 : (Jvm.Cond.code ({ cls := "CheeseValleys", name := "mark", desc := "(I)I" } : Jvm.MethodName) prog_1_method_65_code (3 : Nat) (Option.some Jvm.ClassFile.FieldType.int)) ∈ lw_all := lw_g (lw_at lw_m5 53 rfl) rfl
theorem q1065 : (Jvm.Cond.classLink "CheeseValleys" (341 : Nat) "CheeseValleys$Marked") ∈ lw_all := lw_g (lw_at lw_m5 54 rfl) rfl
theorem q1066 : (Jvm.Cond.interfaceEntry "CheeseValleys" (343 : Nat)) ∈ lw_tbl := lw_at lw_m5 55 rfl
theorem q1067 : (Jvm.Cond.methodLink "CheeseValleys" (343 : Nat) ({ cls := "CheeseValleys$Marked", name := "marked", desc := "()I" } : Jvm.MethodName)) ∈ lw_all := lw_g (lw_at lw_m5 56 rfl) rfl
theorem q1108 : (Jvm.Cond.instanceMethod ({ cls := "CheeseValleys", name := "as", desc := "(II)I" } : Jvm.MethodName)) ∈ lw_all := lw_g (lw_at lw_m5 97 rfl) rfl
theorem q1109 : (Jvm.Cond.selects "CheeseValleys" ({ cls := "CheeseValleys", name := "as", desc := "(II)I" } : Jvm.MethodName) ({ cls := "CheeseValleys", name := "as", desc := "(II)I" } : Jvm.MethodName)) ∈ lw_all := lw_g (lw_at lw_m5 98 rfl) rfl
theorem q1110 : (Jvm.Cond.code ({ cls := "CheeseValleys", name := "as", desc := "(II)I" } : Jvm.MethodName) prog_1_method_66_code (3 : Nat) (Option.some Jvm.ClassFile.FieldType.int)) ∈ lw_all := lw_g (lw_at lw_m5 99 rfl) rfl
theorem q1111 : (Jvm.Cond.classLink "CheeseValleys" (346 : Nat) "CheeseValleys$Taking") ∈ lw_all := lw_g (lw_at lw_m5 100 rfl) rfl
theorem q1113 : (Jvm.Cond.methodLink "CheeseValleys" (348 : Nat) ({ cls := "CheeseValleys$Taking", name := "<init>", desc := "(LCheeseValleys;LCheeseValleys$Pass;I)V" } : Jvm.MethodName)) ∈ lw_all := lw_g (lw_at lw_m5 102 rfl) rfl
theorem q1128 : (Jvm.Cond.methodLink "CheeseValleys" (351 : Nat) ({ cls := "CheeseValleys$Taking", name := "tried", desc := "()I" } : Jvm.MethodName)) ∈ lw_all := lw_g (lw_at lw_m5 117 rfl) rfl
theorem q1132 : (Jvm.Cond.instanceMethod ({ cls := "CheeseValleys", name := "trace", desc := "()I" } : Jvm.MethodName)) ∈ lw_all := lw_g (lw_at lw_m5 121 rfl) rfl
theorem q1133 : (Jvm.Cond.selects "CheeseValleys" ({ cls := "CheeseValleys", name := "trace", desc := "()I" } : Jvm.MethodName) ({ cls := "CheeseValleys", name := "trace", desc := "()I" } : Jvm.MethodName)) ∈ lw_all := lw_g (lw_at lw_m5 122 rfl) rfl
theorem q1134 : (Jvm.Cond.code ({ cls := "CheeseValleys", name := "trace", desc := "()I" } : Jvm.MethodName) prog_1_method_67_code (1 : Nat) (Option.some Jvm.ClassFile.FieldType.int)) ∈ lw_all := lw_g (lw_at lw_m5 123 rfl) rfl
theorem q1136 : (Jvm.Cond.instanceMethod ({ cls := "CheeseValleys", name := "fault", desc := "()I" } : Jvm.MethodName)) ∈ lw_all := lw_g (lw_at lw_m5 125 rfl) rfl
theorem q1137 : (Jvm.Cond.selects "CheeseValleys" ({ cls := "CheeseValleys", name := "fault", desc := "()I" } : Jvm.MethodName) ({ cls := "CheeseValleys", name := "fault", desc := "()I" } : Jvm.MethodName)) ∈ lw_all := lw_g (lw_at lw_m5 126 rfl) rfl
theorem q1138 : (Jvm.Cond.code ({ cls := "CheeseValleys", name := "fault", desc := "()I" } : Jvm.MethodName) prog_1_method_68_code (1 : Nat) (Option.some Jvm.ClassFile.FieldType.int)) ∈ lw_all := lw_g (lw_at lw_m5 127 rfl) rfl
theorem q1140 : (Jvm.Cond.instanceMethod ({ cls := "CheeseValleys", name := "many", desc := "(I)I" } : Jvm.MethodName)) ∈ lw_all := lw_g (lw_at lw_m5 129 rfl) rfl
theorem q1141 : (Jvm.Cond.selects "CheeseValleys" ({ cls := "CheeseValleys", name := "many", desc := "(I)I" } : Jvm.MethodName) ({ cls := "CheeseValleys", name := "many", desc := "(I)I" } : Jvm.MethodName)) ∈ lw_all := lw_g (lw_at lw_m5 130 rfl) rfl
theorem q1142 : (Jvm.Cond.code ({ cls := "CheeseValleys", name := "many", desc := "(I)I" } : Jvm.MethodName) prog_1_method_69_code (2 : Nat) (Option.some Jvm.ClassFile.FieldType.int)) ∈ lw_all := lw_g (lw_at lw_m5 131 rfl) rfl
theorem q1143 : (Jvm.Cond.methodLink "CheeseValleys" (355 : Nat) ({ cls := "java/lang/Integer", name := "bitCount", desc := "(I)I" } : Jvm.MethodName)) ∈ lw_all := lw_g (lw_at lw_m5 132 rfl) rfl
theorem q1496 : (Jvm.Cond.castable "CheeseValleys" "java/lang/Object") ∈ lw_tbl := lw_at lw_m7 5 rfl
theorem in_X0 : ∀ w ∈ wsX00, w ∈ lw_all := lw_in wsX00 [139, 141, 143, 145, 147, 149, 151, 153, 155, 157, 159, 161, 163, 165] (by decide +kernel) (by decide +kernel)
