/-! CheeseValleys$Act -/
set_option maxRecDepth 100000
def RX2 : String := "CheeseValleys$Act"
abbrev cX2_init : ByteArray := prog_2_method_1_code
def yX2_init : MethodName := ⟨RX2, "<init>", "(LCheeseValleys;)V"⟩
def dkwX2_init_0 : List UInt8 := [42, 43, 181, 0, 3, 42, 183, 0, 9, 177]
abbrev dktX2_init_0 : List UInt8 := dkwX2_init_0 ++ []
theorem dksX2_init_0 : cX2_init.data.toList.drop 0 = dktX2_init_0 := by decide +kernel
theorem dX2_init_0 : decode cX2_init 0 = .ok (.aload_n 0, 1) := dk_42 (dk_at dksX2_init_0 0 rfl rfl)
theorem dX2_init_1 : decode cX2_init 1 = .ok (.aload_n 1, 1) := dk_43 (dk_at dksX2_init_0 1 rfl rfl)
theorem dX2_init_2 : decode cX2_init 2 = .ok (.putfield 3, 3) := dk_181 0 3 (dk_at dksX2_init_0 2 rfl rfl)
theorem dX2_init_5 : decode cX2_init 5 = .ok (.aload_n 0, 1) := dk_42 (dk_at dksX2_init_0 5 rfl rfl)
theorem dX2_init_6 : decode cX2_init 6 = .ok (.invokespecial 9, 3) := dk_183 0 9 (dk_at dksX2_init_0 6 rfl rfl)
theorem dX2_init_9 : decode cX2_init 9 = .ok (.return_, 1) := dk_177 (dk_at dksX2_init_0 9 rfl rfl)
abbrev cX2_tried : ByteArray := prog_2_method_3_code
def yX2_tried : MethodName := ⟨RX2, "tried", "()I"⟩
def dkwX2_tried_2 : List UInt8 := [6, 182, 0, 25, 172]
abbrev dktX2_tried_2 : List UInt8 := dkwX2_tried_2 ++ []
def dkwX2_tried_1 : List UInt8 := [42, 180, 0, 3, 5, 182, 0, 25, 172, 76, 42, 180, 0, 3, 7, 182, 0, 25, 172, 76, 42, 180, 0, 3]
abbrev dktX2_tried_1 : List UInt8 := dkwX2_tried_1 ++ dktX2_tried_2
def dkwX2_tried_0 : List UInt8 := [42, 180, 0, 3, 3, 181, 0, 15, 42, 182, 0, 19, 172, 76, 42, 180, 0, 3, 4, 182, 0, 25, 172, 76]
abbrev dktX2_tried_0 : List UInt8 := dkwX2_tried_0 ++ dktX2_tried_1
theorem dksX2_tried_0 : cX2_tried.data.toList.drop 0 = dktX2_tried_0 := by decide +kernel
theorem dksX2_tried_1 : cX2_tried.data.toList.drop 24 = dktX2_tried_1 := dk_seg dksX2_tried_0 24 rfl rfl
theorem dksX2_tried_2 : cX2_tried.data.toList.drop 48 = dktX2_tried_2 := dk_seg dksX2_tried_1 24 rfl rfl
theorem dX2_tried_0 : decode cX2_tried 0 = .ok (.aload_n 0, 1) := dk_42 (dk_at dksX2_tried_0 0 rfl rfl)
theorem dX2_tried_1 : decode cX2_tried 1 = .ok (.getfield 3, 3) := dk_180 0 3 (dk_at dksX2_tried_0 1 rfl rfl)
theorem dX2_tried_4 : decode cX2_tried 4 = .ok (.iconst 0, 1) := dk_3 (dk_at dksX2_tried_0 4 rfl rfl)
theorem dX2_tried_5 : decode cX2_tried 5 = .ok (.putfield 15, 3) := dk_181 0 15 (dk_at dksX2_tried_0 5 rfl rfl)
theorem dX2_tried_8 : decode cX2_tried 8 = .ok (.aload_n 0, 1) := dk_42 (dk_at dksX2_tried_0 8 rfl rfl)
theorem dX2_tried_9 : decode cX2_tried 9 = .ok (.invokevirtual 19, 3) := dk_182 0 19 (dk_at dksX2_tried_0 9 rfl rfl)
theorem dX2_tried_12 : decode cX2_tried 12 = .ok (.ireturn, 1) := dk_172 (dk_at dksX2_tried_0 12 rfl rfl)
theorem dX2_tried_13 : decode cX2_tried 13 = .ok (.astore_n 1, 1) := dk_76 (dk_at dksX2_tried_0 13 rfl rfl)
theorem dX2_tried_14 : decode cX2_tried 14 = .ok (.aload_n 0, 1) := dk_42 (dk_at dksX2_tried_0 14 rfl rfl)
theorem dX2_tried_15 : decode cX2_tried 15 = .ok (.getfield 3, 3) := dk_180 0 3 (dk_at dksX2_tried_0 15 rfl rfl)
theorem dX2_tried_18 : decode cX2_tried 18 = .ok (.iconst 1, 1) := dk_4 (dk_at dksX2_tried_0 18 rfl rfl)
theorem dX2_tried_19 : decode cX2_tried 19 = .ok (.invokevirtual 25, 3) := dk_182 0 25 (dk_at dksX2_tried_0 19 rfl rfl)
theorem dX2_tried_22 : decode cX2_tried 22 = .ok (.ireturn, 1) := dk_172 (dk_at dksX2_tried_0 22 rfl rfl)
theorem dX2_tried_23 : decode cX2_tried 23 = .ok (.astore_n 1, 1) := dk_76 (dk_at dksX2_tried_0 23 rfl rfl)
theorem dX2_tried_24 : decode cX2_tried 24 = .ok (.aload_n 0, 1) := dk_42 (dk_at dksX2_tried_1 0 rfl rfl)
theorem dX2_tried_25 : decode cX2_tried 25 = .ok (.getfield 3, 3) := dk_180 0 3 (dk_at dksX2_tried_1 1 rfl rfl)
theorem dX2_tried_28 : decode cX2_tried 28 = .ok (.iconst 2, 1) := dk_5 (dk_at dksX2_tried_1 4 rfl rfl)
theorem dX2_tried_29 : decode cX2_tried 29 = .ok (.invokevirtual 25, 3) := dk_182 0 25 (dk_at dksX2_tried_1 5 rfl rfl)
theorem dX2_tried_32 : decode cX2_tried 32 = .ok (.ireturn, 1) := dk_172 (dk_at dksX2_tried_1 8 rfl rfl)
theorem dX2_tried_33 : decode cX2_tried 33 = .ok (.astore_n 1, 1) := dk_76 (dk_at dksX2_tried_1 9 rfl rfl)
theorem dX2_tried_34 : decode cX2_tried 34 = .ok (.aload_n 0, 1) := dk_42 (dk_at dksX2_tried_1 10 rfl rfl)
theorem dX2_tried_35 : decode cX2_tried 35 = .ok (.getfield 3, 3) := dk_180 0 3 (dk_at dksX2_tried_1 11 rfl rfl)
theorem dX2_tried_38 : decode cX2_tried 38 = .ok (.iconst 4, 1) := dk_7 (dk_at dksX2_tried_1 14 rfl rfl)
theorem dX2_tried_39 : decode cX2_tried 39 = .ok (.invokevirtual 25, 3) := dk_182 0 25 (dk_at dksX2_tried_1 15 rfl rfl)
theorem dX2_tried_42 : decode cX2_tried 42 = .ok (.ireturn, 1) := dk_172 (dk_at dksX2_tried_1 18 rfl rfl)
theorem dX2_tried_43 : decode cX2_tried 43 = .ok (.astore_n 1, 1) := dk_76 (dk_at dksX2_tried_1 19 rfl rfl)
theorem dX2_tried_44 : decode cX2_tried 44 = .ok (.aload_n 0, 1) := dk_42 (dk_at dksX2_tried_1 20 rfl rfl)
theorem dX2_tried_45 : decode cX2_tried 45 = .ok (.getfield 3, 3) := dk_180 0 3 (dk_at dksX2_tried_1 21 rfl rfl)
theorem dX2_tried_48 : decode cX2_tried 48 = .ok (.iconst 3, 1) := dk_6 (dk_at dksX2_tried_2 0 rfl rfl)
theorem dX2_tried_49 : decode cX2_tried 49 = .ok (.invokevirtual 25, 3) := dk_182 0 25 (dk_at dksX2_tried_2 1 rfl rfl)
theorem dX2_tried_52 : decode cX2_tried 52 = .ok (.ireturn, 1) := dk_172 (dk_at dksX2_tried_2 4 rfl rfl)
theorem q57 : (Jvm.Cond.initialized "CheeseValleys$Act") ∈ lw_all := lw_g (lw_at lw_m1 6 rfl) rfl
theorem q136 : (Jvm.Cond.fieldLinkNest "CheeseValleys$Act" (15 : Nat) "CheeseValleys" "fault" "I" "CheeseValleys") ∈ lw_tbl := lw_at lw_m1 85 rfl
theorem q796 : (Jvm.Cond.instanceMethod ({ cls := "CheeseValleys$Act", name := "<init>", desc := "(LCheeseValleys;)V" } : Jvm.MethodName)) ∈ lw_all := lw_g (lw_at lw_m4 25 rfl) rfl
theorem q797 : (Jvm.Cond.code ({ cls := "CheeseValleys$Act", name := "<init>", desc := "(LCheeseValleys;)V" } : Jvm.MethodName) prog_2_method_1_code (2 : Nat) (Option.none : Option Jvm.ClassFile.FieldType)) ∈ lw_all := lw_g (lw_at lw_m4 26 rfl) rfl
theorem q798 : (Jvm.Cond.methodLink "CheeseValleys$Act" (9 : Nat) ({ cls := "java/lang/Object", name := "<init>", desc := "()V" } : Jvm.MethodName)) ∈ lw_all := lw_g (lw_at lw_m4 27 rfl) rfl
theorem q807 : (Jvm.Cond.fieldLink "CheeseValleys$Act" (3 : Nat) "CheeseValleys$Act" "this$0" "LCheeseValleys;") ∈ lw_all := lw_g (lw_at lw_m4 36 rfl) rfl
theorem q821 : (Jvm.Cond.soleField "CheeseValleys$Act" "this$0") ∈ lw_all := lw_g (lw_at lw_m4 50 rfl) rfl
theorem q829 : (Jvm.Cond.declares ({ cls := "CheeseValleys$Act", name := "tried", desc := "()I" } : Jvm.MethodName)) ∈ lw_tbl := lw_at lw_m4 58 rfl
theorem q832 : (Jvm.Cond.instanceMethod ({ cls := "CheeseValleys$Act", name := "tried", desc := "()I" } : Jvm.MethodName)) ∈ lw_all := lw_g (lw_at lw_m4 61 rfl) rfl
theorem q833 : (Jvm.Cond.codeWith ({ cls := "CheeseValleys$Act", name := "tried", desc := "()I" } : Jvm.MethodName) prog_2_method_3_code (2 : Nat) (Option.some Jvm.ClassFile.FieldType.int) [((8 : Nat), (12 : Nat), (13 : Nat), (23 : Nat)), ((8 : Nat), (12 : Nat), (23 : Nat), (29 : Nat)), ((8 : Nat), (12 : Nat), (23 : Nat), (31 : Nat)), ((8 : Nat), (12 : Nat), (33 : Nat), (33 : Nat)), ((8 : Nat), (12 : Nat), (43 : Nat), (35 : Nat))]) ∈ lw_all := lw_g (lw_at lw_m4 62 rfl) rfl
theorem q834 : (Jvm.Cond.classLink "CheeseValleys$Act" (23 : Nat) "java/lang/NullPointerException") ∈ lw_all := lw_g (lw_at lw_m4 63 rfl) rfl
theorem q835 : (Jvm.Cond.classLink "CheeseValleys$Act" (29 : Nat) "java/lang/ClassCastException") ∈ lw_all := lw_g (lw_at lw_m4 64 rfl) rfl
theorem q836 : (Jvm.Cond.classLink "CheeseValleys$Act" (31 : Nat) "java/lang/ArrayStoreException") ∈ lw_all := lw_g (lw_at lw_m4 65 rfl) rfl
theorem q850 : (Jvm.Cond.classLink "CheeseValleys$Act" (33 : Nat) "java/lang/NegativeArraySizeException") ∈ lw_all := lw_g (lw_at lw_m4 79 rfl) rfl
theorem q851 : (Jvm.Cond.classLink "CheeseValleys$Act" (35 : Nat) "java/lang/IndexOutOfBoundsException") ∈ lw_all := lw_g (lw_at lw_m4 80 rfl) rfl
theorem q852 : (Jvm.Cond.methodLink "CheeseValleys$Act" (19 : Nat) ({ cls := "CheeseValleys$Act", name := "done", desc := "()I" } : Jvm.MethodName)) ∈ lw_all := lw_g (lw_at lw_m4 81 rfl) rfl
theorem q853 : (Jvm.Cond.declares ({ cls := "CheeseValleys$Act", name := "done", desc := "()I" } : Jvm.MethodName)) ∈ lw_tbl := lw_at lw_m4 82 rfl
theorem q854 : (Jvm.Cond.sameMethod "CheeseValleys$Act" "CheeseValleys$Act" "done" "()I") ∈ lw_all := lw_g (lw_at lw_m4 83 rfl) rfl
theorem q965 : (Jvm.Cond.methodLinkNest "CheeseValleys$Act" (25 : Nat) ({ cls := "CheeseValleys", name := "fails", desc := "(I)I" } : Jvm.MethodName) "CheeseValleys") ∈ lw_tbl := lw_at lw_m4 194 rfl

/-! CheeseValleys$Looking -/
set_option maxRecDepth 100000
def RX3 : String := "CheeseValleys$Looking"
abbrev cX3_init : ByteArray := prog_6_method_1_code
def yX3_init : MethodName := ⟨RX3, "<init>", "(LCheeseValleys;IIII)V"⟩
def dkwX3_init_1 : List UInt8 := [181, 0, 20, 42, 21, 5, 181, 0, 23, 177]
abbrev dktX3_init_1 : List UInt8 := dkwX3_init_1 ++ []
def dkwX3_init_0 : List UInt8 := [42, 43, 181, 0, 1, 42, 43, 183, 0, 7, 42, 28, 181, 0, 13, 42, 29, 181, 0, 17, 42, 21, 4]
abbrev dktX3_init_0 : List UInt8 := dkwX3_init_0 ++ dktX3_init_1
theorem dksX3_init_0 : cX3_init.data.toList.drop 0 = dktX3_init_0 := by decide +kernel
theorem dksX3_init_1 : cX3_init.data.toList.drop 23 = dktX3_init_1 := dk_seg dksX3_init_0 23 rfl rfl
theorem dX3_init_0 : decode cX3_init 0 = .ok (.aload_n 0, 1) := dk_42 (dk_at dksX3_init_0 0 rfl rfl)
theorem dX3_init_1 : decode cX3_init 1 = .ok (.aload_n 1, 1) := dk_43 (dk_at dksX3_init_0 1 rfl rfl)
theorem dX3_init_2 : decode cX3_init 2 = .ok (.putfield 1, 3) := dk_181 0 1 (dk_at dksX3_init_0 2 rfl rfl)
theorem dX3_init_5 : decode cX3_init 5 = .ok (.aload_n 0, 1) := dk_42 (dk_at dksX3_init_0 5 rfl rfl)
theorem dX3_init_6 : decode cX3_init 6 = .ok (.aload_n 1, 1) := dk_43 (dk_at dksX3_init_0 6 rfl rfl)
theorem dX3_init_7 : decode cX3_init 7 = .ok (.invokespecial 7, 3) := dk_183 0 7 (dk_at dksX3_init_0 7 rfl rfl)
theorem dX3_init_10 : decode cX3_init 10 = .ok (.aload_n 0, 1) := dk_42 (dk_at dksX3_init_0 10 rfl rfl)
theorem dX3_init_11 : decode cX3_init 11 = .ok (.iload_n 2, 1) := dk_28 (dk_at dksX3_init_0 11 rfl rfl)
theorem dX3_init_12 : decode cX3_init 12 = .ok (.putfield 13, 3) := dk_181 0 13 (dk_at dksX3_init_0 12 rfl rfl)
theorem dX3_init_15 : decode cX3_init 15 = .ok (.aload_n 0, 1) := dk_42 (dk_at dksX3_init_0 15 rfl rfl)
theorem dX3_init_16 : decode cX3_init 16 = .ok (.iload_n 3, 1) := dk_29 (dk_at dksX3_init_0 16 rfl rfl)
theorem dX3_init_17 : decode cX3_init 17 = .ok (.putfield 17, 3) := dk_181 0 17 (dk_at dksX3_init_0 17 rfl rfl)
theorem dX3_init_20 : decode cX3_init 20 = .ok (.aload_n 0, 1) := dk_42 (dk_at dksX3_init_0 20 rfl rfl)
theorem dX3_init_21 : decode cX3_init 21 = .ok (.iload 4, 2) := dk_21 4 (dk_at dksX3_init_0 21 rfl rfl)
theorem dX3_init_23 : decode cX3_init 23 = .ok (.putfield 20, 3) := dk_181 0 20 (dk_at dksX3_init_1 0 rfl rfl)
theorem dX3_init_26 : decode cX3_init 26 = .ok (.aload_n 0, 1) := dk_42 (dk_at dksX3_init_1 3 rfl rfl)
theorem dX3_init_27 : decode cX3_init 27 = .ok (.iload 5, 2) := dk_21 5 (dk_at dksX3_init_1 4 rfl rfl)
theorem dX3_init_29 : decode cX3_init 29 = .ok (.putfield 23, 3) := dk_181 0 23 (dk_at dksX3_init_1 6 rfl rfl)
theorem dX3_init_32 : decode cX3_init 32 = .ok (.return_, 1) := dk_177 (dk_at dksX3_init_1 9 rfl rfl)
abbrev cX3_done : ByteArray := prog_6_method_3_code
def yX3_done : MethodName := ⟨RX3, "done", "()I"⟩
def dkwX3_done_1 : List UInt8 := [184, 0, 32, 182, 0, 36, 172]
abbrev dktX3_done_1 : List UInt8 := dkwX3_done_1 ++ []
def dkwX3_done_0 : List UInt8 := [42, 42, 180, 0, 1, 42, 180, 0, 13, 182, 0, 26, 42, 180, 0, 17, 42, 180, 0, 20, 42, 180, 0, 23]
abbrev dktX3_done_0 : List UInt8 := dkwX3_done_0 ++ dktX3_done_1
theorem dksX3_done_0 : cX3_done.data.toList.drop 0 = dktX3_done_0 := by decide +kernel
theorem dksX3_done_1 : cX3_done.data.toList.drop 24 = dktX3_done_1 := dk_seg dksX3_done_0 24 rfl rfl
theorem dX3_done_0 : decode cX3_done 0 = .ok (.aload_n 0, 1) := dk_42 (dk_at dksX3_done_0 0 rfl rfl)
theorem dX3_done_1 : decode cX3_done 1 = .ok (.aload_n 0, 1) := dk_42 (dk_at dksX3_done_0 1 rfl rfl)
theorem dX3_done_2 : decode cX3_done 2 = .ok (.getfield 1, 3) := dk_180 0 1 (dk_at dksX3_done_0 2 rfl rfl)
theorem dX3_done_5 : decode cX3_done 5 = .ok (.aload_n 0, 1) := dk_42 (dk_at dksX3_done_0 5 rfl rfl)
theorem dX3_done_6 : decode cX3_done 6 = .ok (.getfield 13, 3) := dk_180 0 13 (dk_at dksX3_done_0 6 rfl rfl)
theorem dX3_done_9 : decode cX3_done 9 = .ok (.invokevirtual 26, 3) := dk_182 0 26 (dk_at dksX3_done_0 9 rfl rfl)
theorem dX3_done_12 : decode cX3_done 12 = .ok (.aload_n 0, 1) := dk_42 (dk_at dksX3_done_0 12 rfl rfl)
theorem dX3_done_13 : decode cX3_done 13 = .ok (.getfield 17, 3) := dk_180 0 17 (dk_at dksX3_done_0 13 rfl rfl)
theorem dX3_done_16 : decode cX3_done 16 = .ok (.aload_n 0, 1) := dk_42 (dk_at dksX3_done_0 16 rfl rfl)
theorem dX3_done_17 : decode cX3_done 17 = .ok (.getfield 20, 3) := dk_180 0 20 (dk_at dksX3_done_0 17 rfl rfl)
theorem dX3_done_20 : decode cX3_done 20 = .ok (.aload_n 0, 1) := dk_42 (dk_at dksX3_done_0 20 rfl rfl)
theorem dX3_done_21 : decode cX3_done 21 = .ok (.getfield 23, 3) := dk_180 0 23 (dk_at dksX3_done_0 21 rfl rfl)
theorem dX3_done_24 : decode cX3_done 24 = .ok (.invokestatic 32, 3) := dk_184 0 32 (dk_at dksX3_done_1 0 rfl rfl)
theorem dX3_done_27 : decode cX3_done 27 = .ok (.invokevirtual 36, 3) := dk_182 0 36 (dk_at dksX3_done_1 3 rfl rfl)
theorem dX3_done_30 : decode cX3_done 30 = .ok (.ireturn, 1) := dk_172 (dk_at dksX3_done_1 6 rfl rfl)
theorem q58 : (Jvm.Cond.initialized "CheeseValleys$Looking") ∈ lw_all := lw_g (lw_at lw_m1 7 rfl) rfl
theorem q793 : (Jvm.Cond.instanceMethod ({ cls := "CheeseValleys$Looking", name := "<init>", desc := "(LCheeseValleys;IIII)V" } : Jvm.MethodName)) ∈ lw_all := lw_g (lw_at lw_m4 22 rfl) rfl
theorem q794 : (Jvm.Cond.code ({ cls := "CheeseValleys$Looking", name := "<init>", desc := "(LCheeseValleys;IIII)V" } : Jvm.MethodName) prog_6_method_1_code (6 : Nat) (Option.none : Option Jvm.ClassFile.FieldType)) ∈ lw_all := lw_g (lw_at lw_m4 23 rfl) rfl
theorem q795 : (Jvm.Cond.methodLinkNest "CheeseValleys$Looking" (7 : Nat) ({ cls := "CheeseValleys$Act", name := "<init>", desc := "(LCheeseValleys;)V" } : Jvm.MethodName) "CheeseValleys") ∈ lw_tbl := lw_at lw_m4 24 rfl
theorem q800 : (Jvm.Cond.fieldLink "CheeseValleys$Looking" (13 : Nat) "CheeseValleys$Looking" "sheet" "I") ∈ lw_all := lw_g (lw_at lw_m4 29 rfl) rfl
theorem q802 : (Jvm.Cond.fieldLink "CheeseValleys$Looking" (17 : Nat) "CheeseValleys$Looking" "lane" "I") ∈ lw_all := lw_g (lw_at lw_m4 31 rfl) rfl
theorem q804 : (Jvm.Cond.fieldLink "CheeseValleys$Looking" (20 : Nat) "CheeseValleys$Looking" "i" "I") ∈ lw_all := lw_g (lw_at lw_m4 33 rfl) rfl
theorem q805 : (Jvm.Cond.fieldLink "CheeseValleys$Looking" (23 : Nat) "CheeseValleys$Looking" "n" "I") ∈ lw_all := lw_g (lw_at lw_m4 34 rfl) rfl
theorem q806 : (Jvm.Cond.fieldLink "CheeseValleys$Looking" (1 : Nat) "CheeseValleys$Looking" "this$0" "LCheeseValleys;") ∈ lw_all := lw_g (lw_at lw_m4 35 rfl) rfl
theorem q811 : (Jvm.Cond.soleField "CheeseValleys$Looking" "sheet") ∈ lw_all := lw_g (lw_at lw_m4 40 rfl) rfl
theorem q813 : (Jvm.Cond.soleField "CheeseValleys$Looking" "lane") ∈ lw_all := lw_g (lw_at lw_m4 42 rfl) rfl
theorem q815 : (Jvm.Cond.soleField "CheeseValleys$Looking" "i") ∈ lw_all := lw_g (lw_at lw_m4 44 rfl) rfl
theorem q817 : (Jvm.Cond.soleField "CheeseValleys$Looking" "n") ∈ lw_all := lw_g (lw_at lw_m4 46 rfl) rfl
theorem q819 : (Jvm.Cond.soleField "CheeseValleys$Looking" "this$0") ∈ lw_all := lw_g (lw_at lw_m4 48 rfl) rfl
theorem q828 : (Jvm.Cond.sameMethod "CheeseValleys$Looking" "CheeseValleys$Act" "tried" "()I") ∈ lw_all := lw_g (lw_at lw_m4 57 rfl) rfl
theorem q861 : (Jvm.Cond.instanceMethod ({ cls := "CheeseValleys$Looking", name := "done", desc := "()I" } : Jvm.MethodName)) ∈ lw_all := lw_g (lw_at lw_m4 90 rfl) rfl
theorem q862 : (Jvm.Cond.code ({ cls := "CheeseValleys$Looking", name := "done", desc := "()I" } : Jvm.MethodName) prog_6_method_3_code (1 : Nat) (Option.some Jvm.ClassFile.FieldType.int)) ∈ lw_all := lw_g (lw_at lw_m4 91 rfl) rfl
theorem q863 : (Jvm.Cond.methodLinkNest "CheeseValleys$Looking" (26 : Nat) ({ cls := "CheeseValleys", name := "rowIn", desc := "(I)Ljava/lang/Object;" } : Jvm.MethodName) "CheeseValleys") ∈ lw_tbl := lw_at lw_m4 92 rfl
theorem q864 : (Jvm.Cond.methodLinkNest "CheeseValleys$Looking" (32 : Nat) ({ cls := "CheeseValleys", name := "cellsOf", desc := "(Ljava/lang/Object;III)[I" } : Jvm.MethodName) "CheeseValleys") ∈ lw_tbl := lw_at lw_m4 93 rfl
theorem q885 : (Jvm.Cond.methodLink "CheeseValleys$Looking" (36 : Nat) ({ cls := "CheeseValleys$Looking", name := "lookAt", desc := "([I)I" } : Jvm.MethodName)) ∈ lw_all := lw_g (lw_at lw_m4 114 rfl) rfl
theorem q886 : (Jvm.Cond.declares ({ cls := "CheeseValleys$Looking", name := "lookAt", desc := "([I)I" } : Jvm.MethodName)) ∈ lw_tbl := lw_at lw_m4 115 rfl
theorem q887 : (Jvm.Cond.sameMethod "CheeseValleys$Looking" "CheeseValleys$Looking" "lookAt" "([I)I") ∈ lw_all := lw_g (lw_at lw_m4 116 rfl) rfl

/-! CheeseValleys$Laying -/
set_option maxRecDepth 100000
def RX4 : String := "CheeseValleys$Laying"
def TX4 : u_T := fun k => match k with
  | 0 => ("CheeseValleys$Looking", "sheet", "I", true)
  | 1 => ("CheeseValleys$Looking", "lane", "I", true)
  | 2 => ("CheeseValleys$Looking", "i", "I", true)
  | 3 => ("CheeseValleys$Looking", "n", "I", true)
  | 4 => ("CheeseValleys$Looking", "this$0", "LCheeseValleys;", true)
  | 5 => ("CheeseValleys$Act", "this$0", "LCheeseValleys;", true)
  | _ => ("CheeseValleys$Laying", "this$0", "LCheeseValleys;", true)
def tyX4 : Nat → FieldType := fun k => match k with
  | 0 => .int
  | 1 => .int
  | 2 => .int
  | 3 => .int
  | 4 => .object "CheeseValleys"
  | 5 => .object "CheeseValleys"
  | _ => .object "CheeseValleys"
abbrev wsX40 : List Cond := u_ws RX4 TX4 7
-- two fields of one name: no nmX4
theorem tyX4_ok : ∀ k, k < 7 → parseFieldDescriptor (TX4 k).2.2.1 = some (tyX4 k) := by decide +kernel
abbrev cX4_init : ByteArray := prog_5_method_1_code
def yX4_init : MethodName := ⟨RX4, "<init>", "(LCheeseValleys;IIII)V"⟩
def dkwX4_init_0 : List UInt8 := [42, 43, 181, 0, 1, 42, 43, 28, 29, 21, 4, 21, 5, 183, 0, 7, 177]
abbrev dktX4_init_0 : List UInt8 := dkwX4_init_0 ++ []
theorem dksX4_init_0 : cX4_init.data.toList.drop 0 = dktX4_init_0 := by decide +kernel
theorem dX4_init_0 : decode cX4_init 0 = .ok (.aload_n 0, 1) := dk_42 (dk_at dksX4_init_0 0 rfl rfl)
theorem dX4_init_1 : decode cX4_init 1 = .ok (.aload_n 1, 1) := dk_43 (dk_at dksX4_init_0 1 rfl rfl)
theorem dX4_init_2 : decode cX4_init 2 = .ok (.putfield 1, 3) := dk_181 0 1 (dk_at dksX4_init_0 2 rfl rfl)
theorem dX4_init_5 : decode cX4_init 5 = .ok (.aload_n 0, 1) := dk_42 (dk_at dksX4_init_0 5 rfl rfl)
theorem dX4_init_6 : decode cX4_init 6 = .ok (.aload_n 1, 1) := dk_43 (dk_at dksX4_init_0 6 rfl rfl)
theorem dX4_init_7 : decode cX4_init 7 = .ok (.iload_n 2, 1) := dk_28 (dk_at dksX4_init_0 7 rfl rfl)
theorem dX4_init_8 : decode cX4_init 8 = .ok (.iload_n 3, 1) := dk_29 (dk_at dksX4_init_0 8 rfl rfl)
theorem dX4_init_9 : decode cX4_init 9 = .ok (.iload 4, 2) := dk_21 4 (dk_at dksX4_init_0 9 rfl rfl)
theorem dX4_init_11 : decode cX4_init 11 = .ok (.iload 5, 2) := dk_21 5 (dk_at dksX4_init_0 11 rfl rfl)
theorem dX4_init_13 : decode cX4_init 13 = .ok (.invokespecial 7, 3) := dk_183 0 7 (dk_at dksX4_init_0 13 rfl rfl)
theorem dX4_init_16 : decode cX4_init 16 = .ok (.return_, 1) := dk_177 (dk_at dksX4_init_0 16 rfl rfl)
abbrev cX4_lookAt : ByteArray := prog_5_method_2_code
def yX4_lookAt : MethodName := ⟨RX4, "lookAt", "([I)I"⟩
def dkwX4_lookAt_0 : List UInt8 := [42, 180, 0, 1, 43, 182, 0, 13, 172]
abbrev dktX4_lookAt_0 : List UInt8 := dkwX4_lookAt_0 ++ []
theorem dksX4_lookAt_0 : cX4_lookAt.data.toList.drop 0 = dktX4_lookAt_0 := by decide +kernel
theorem dX4_lookAt_0 : decode cX4_lookAt 0 = .ok (.aload_n 0, 1) := dk_42 (dk_at dksX4_lookAt_0 0 rfl rfl)
theorem dX4_lookAt_1 : decode cX4_lookAt 1 = .ok (.getfield 1, 3) := dk_180 0 1 (dk_at dksX4_lookAt_0 1 rfl rfl)
theorem dX4_lookAt_4 : decode cX4_lookAt 4 = .ok (.aload_n 1, 1) := dk_43 (dk_at dksX4_lookAt_0 4 rfl rfl)
theorem dX4_lookAt_5 : decode cX4_lookAt 5 = .ok (.invokevirtual 13, 3) := dk_182 0 13 (dk_at dksX4_lookAt_0 5 rfl rfl)
theorem dX4_lookAt_8 : decode cX4_lookAt 8 = .ok (.ireturn, 1) := dk_172 (dk_at dksX4_lookAt_0 8 rfl rfl)
theorem q59 : (Jvm.Cond.initialized "CheeseValleys$Laying") ∈ lw_all := lw_g (lw_at lw_m1 8 rfl) rfl
theorem q421 : (Jvm.Cond.selects "CheeseValleys$Laying" ({ cls := "java/lang/Object", name := "getClass", desc := "()Ljava/lang/Class;" } : Jvm.MethodName) ({ cls := "java/lang/Object", name := "getClass", desc := "()Ljava/lang/Class;" } : Jvm.MethodName)) ∈ lw_all := lw_g (lw_at lw_m2 130 rfl) rfl
theorem q788 : (Jvm.Cond.instantiable "CheeseValleys$Laying" (7 : Nat)) ∈ lw_all := lw_g (lw_at lw_m4 17 rfl) rfl
theorem q790 : (Jvm.Cond.instanceMethod ({ cls := "CheeseValleys$Laying", name := "<init>", desc := "(LCheeseValleys;IIII)V" } : Jvm.MethodName)) ∈ lw_all := lw_g (lw_at lw_m4 19 rfl) rfl
theorem q791 : (Jvm.Cond.code ({ cls := "CheeseValleys$Laying", name := "<init>", desc := "(LCheeseValleys;IIII)V" } : Jvm.MethodName) prog_5_method_1_code (6 : Nat) (Option.none : Option Jvm.ClassFile.FieldType)) ∈ lw_all := lw_g (lw_at lw_m4 20 rfl) rfl
theorem q792 : (Jvm.Cond.methodLink "CheeseValleys$Laying" (7 : Nat) ({ cls := "CheeseValleys$Looking", name := "<init>", desc := "(LCheeseValleys;IIII)V" } : Jvm.MethodName)) ∈ lw_all := lw_g (lw_at lw_m4 21 rfl) rfl
theorem q799 : (Jvm.Cond.fieldLink "CheeseValleys$Laying" (1 : Nat) "CheeseValleys$Laying" "this$0" "LCheeseValleys;") ∈ lw_all := lw_g (lw_at lw_m4 28 rfl) rfl
theorem q808 : (Jvm.Cond.laysFinal "CheeseValleys$Laying" "CheeseValleys$Laying" "this$0" "LCheeseValleys;") ∈ lw_all := lw_g (lw_at lw_m4 37 rfl) rfl
theorem q809 : (Jvm.Cond.soleField "CheeseValleys$Laying" "this$0") ∈ lw_all := lw_g (lw_at lw_m4 38 rfl) rfl
theorem q810 : (Jvm.Cond.laysFinal "CheeseValleys$Laying" "CheeseValleys$Looking" "sheet" "I") ∈ lw_all := lw_g (lw_at lw_m4 39 rfl) rfl
theorem q812 : (Jvm.Cond.laysFinal "CheeseValleys$Laying" "CheeseValleys$Looking" "lane" "I") ∈ lw_all := lw_g (lw_at lw_m4 41 rfl) rfl
theorem q814 : (Jvm.Cond.laysFinal "CheeseValleys$Laying" "CheeseValleys$Looking" "i" "I") ∈ lw_all := lw_g (lw_at lw_m4 43 rfl) rfl
theorem q816 : (Jvm.Cond.laysFinal "CheeseValleys$Laying" "CheeseValleys$Looking" "n" "I") ∈ lw_all := lw_g (lw_at lw_m4 45 rfl) rfl
theorem q818 : (Jvm.Cond.laysFinal "CheeseValleys$Laying" "CheeseValleys$Looking" "this$0" "LCheeseValleys;") ∈ lw_all := lw_g (lw_at lw_m4 47 rfl) rfl
theorem q820 : (Jvm.Cond.laysFinal "CheeseValleys$Laying" "CheeseValleys$Act" "this$0" "LCheeseValleys;") ∈ lw_all := lw_g (lw_at lw_m4 49 rfl) rfl
theorem q822 : (Jvm.Cond.superclass "CheeseValleys$Laying" "CheeseValleys$Looking") ∈ lw_all := lw_g (lw_at lw_m4 51 rfl) rfl
theorem q831 : (Jvm.Cond.selects "CheeseValleys$Laying" ({ cls := "CheeseValleys$Looking", name := "tried", desc := "()I" } : Jvm.MethodName) ({ cls := "CheeseValleys$Act", name := "tried", desc := "()I" } : Jvm.MethodName)) ∈ lw_all := lw_g (lw_at lw_m4 60 rfl) rfl
theorem q904 : (Jvm.Cond.selects "CheeseValleys$Laying" ({ cls := "CheeseValleys$Looking", name := "lookAt", desc := "([I)I" } : Jvm.MethodName) ({ cls := "CheeseValleys$Laying", name := "lookAt", desc := "([I)I" } : Jvm.MethodName)) ∈ lw_all := lw_g (lw_at lw_m4 133 rfl) rfl
theorem q905 : (Jvm.Cond.instanceMethod ({ cls := "CheeseValleys$Laying", name := "lookAt", desc := "([I)I" } : Jvm.MethodName)) ∈ lw_all := lw_g (lw_at lw_m4 134 rfl) rfl
theorem q906 : (Jvm.Cond.code ({ cls := "CheeseValleys$Laying", name := "lookAt", desc := "([I)I" } : Jvm.MethodName) prog_5_method_2_code (2 : Nat) (Option.some Jvm.ClassFile.FieldType.int)) ∈ lw_all := lw_g (lw_at lw_m4 135 rfl) rfl
theorem q907 : (Jvm.Cond.methodLinkNest "CheeseValleys$Laying" (13 : Nat) ({ cls := "CheeseValleys", name := "newLand", desc := "([I)I" } : Jvm.MethodName) "CheeseValleys") ∈ lw_tbl := lw_at lw_m4 136 rfl
theorem q959 : (Jvm.Cond.selects "CheeseValleys$Laying" ({ cls := "CheeseValleys$Act", name := "done", desc := "()I" } : Jvm.MethodName) ({ cls := "CheeseValleys$Looking", name := "done", desc := "()I" } : Jvm.MethodName)) ∈ lw_all := lw_g (lw_at lw_m4 188 rfl) rfl
theorem q1499 : (Jvm.Cond.castable "CheeseValleys$Laying" "java/lang/Object") ∈ lw_tbl := lw_at lw_m7 8 rfl
theorem in_X4 : ∀ w ∈ wsX40, w ∈ lw_all := lw_in wsX40 [810, 812, 814, 816, 818, 820, 808] (by decide +kernel) (by decide +kernel)

/-! CheeseValleys$Pass -/
set_option maxRecDepth 100000
def RX5 : String := "CheeseValleys$Pass"
def TX5 : u_T := fun k => match k with
  | 0 => ("CheeseValleys$Pass", "number", "I", true)
  | 1 => ("CheeseValleys$Pass", "from", "I", true)
  | 2 => ("CheeseValleys$Pass", "to", "I", true)
  | 3 => ("CheeseValleys$Pass", "length", "I", true)
  | 4 => ("CheeseValleys$Pass", "high", "I", false)
  | 5 => ("CheeseValleys$Pass", "isShut", "Z", false)
  | _ => ("CheeseValleys$Pass", "this$0", "LCheeseValleys;", true)
def tyX5 : Nat → FieldType := fun k => match k with
  | 0 => .int
  | 1 => .int
  | 2 => .int
  | 3 => .int
  | 4 => .int
  | 5 => .boolean
  | _ => .object "CheeseValleys"
abbrev wsX50 : List Cond := u_ws RX5 TX5 7
theorem nmX5 : ∀ a, a < 7 → ∀ b, b < 7 → a ≠ b → (TX5 a).2.1 ≠ (TX5 b).2.1 := by decide +kernel
theorem tyX5_ok : ∀ k, k < 7 → parseFieldDescriptor (TX5 k).2.2.1 = some (tyX5 k) := by decide +kernel
abbrev cX5_kind : ByteArray := prog_8_method_3_code
def yX5_kind : MethodName := ⟨RX5, "kind", "()I"⟩
theorem dX5_kind_0 : decode cX5_kind 0 = .ok (.iconst 0, 1) := by decide +kernel
theorem dX5_kind_1 : decode cX5_kind 1 = .ok (.ireturn, 1) := by decide +kernel
abbrev cX5_lasts : ByteArray := prog_8_method_4_code
def yX5_lasts : MethodName := ⟨RX5, "lasts", "()I"⟩
theorem dX5_lasts_0 : decode cX5_lasts 0 = .ok (.aload_n 0, 1) := by decide +kernel
theorem dX5_lasts_1 : decode cX5_lasts 1 = .ok (.getfield 25, 3) := by decide +kernel
theorem dX5_lasts_4 : decode cX5_lasts 4 = .ok (.ireturn, 1) := by decide +kernel
abbrev cX5_isOpen : ByteArray := prog_8_method_6_code
def yX5_isOpen : MethodName := ⟨RX5, "isOpen", "(I)Z"⟩
def dkwX5_isOpen_1 : List UInt8 := [167, 0, 4, 3, 172]
abbrev dktX5_isOpen_1 : List UInt8 := dkwX5_isOpen_1 ++ []
def dkwX5_isOpen_0 : List UInt8 := [42, 180, 0, 31, 154, 0, 23, 42, 42, 180, 0, 3, 180, 0, 35, 27, 46, 182, 0, 39, 153, 0, 7, 4]
abbrev dktX5_isOpen_0 : List UInt8 := dkwX5_isOpen_0 ++ dktX5_isOpen_1
theorem dksX5_isOpen_0 : cX5_isOpen.data.toList.drop 0 = dktX5_isOpen_0 := by decide +kernel
theorem dksX5_isOpen_1 : cX5_isOpen.data.toList.drop 24 = dktX5_isOpen_1 := dk_seg dksX5_isOpen_0 24 rfl rfl
theorem dX5_isOpen_0 : decode cX5_isOpen 0 = .ok (.aload_n 0, 1) := dk_42 (dk_at dksX5_isOpen_0 0 rfl rfl)
theorem dX5_isOpen_1 : decode cX5_isOpen 1 = .ok (.getfield 31, 3) := dk_180 0 31 (dk_at dksX5_isOpen_0 1 rfl rfl)
theorem dX5_isOpen_4 : decode cX5_isOpen 4 = .ok (.ifCond .ne 23, 3) := dk_154 0 23 (dk_at dksX5_isOpen_0 4 rfl rfl)
theorem dX5_isOpen_7 : decode cX5_isOpen 7 = .ok (.aload_n 0, 1) := dk_42 (dk_at dksX5_isOpen_0 7 rfl rfl)
theorem dX5_isOpen_8 : decode cX5_isOpen 8 = .ok (.aload_n 0, 1) := dk_42 (dk_at dksX5_isOpen_0 8 rfl rfl)
theorem dX5_isOpen_9 : decode cX5_isOpen 9 = .ok (.getfield 3, 3) := dk_180 0 3 (dk_at dksX5_isOpen_0 9 rfl rfl)
theorem dX5_isOpen_12 : decode cX5_isOpen 12 = .ok (.getfield 35, 3) := dk_180 0 35 (dk_at dksX5_isOpen_0 12 rfl rfl)
theorem dX5_isOpen_15 : decode cX5_isOpen 15 = .ok (.iload_n 1, 1) := dk_27 (dk_at dksX5_isOpen_0 15 rfl rfl)
theorem dX5_isOpen_16 : decode cX5_isOpen 16 = .ok (.iaload, 1) := dk_46 (dk_at dksX5_isOpen_0 16 rfl rfl)
theorem dX5_isOpen_17 : decode cX5_isOpen 17 = .ok (.invokevirtual 39, 3) := dk_182 0 39 (dk_at dksX5_isOpen_0 17 rfl rfl)
theorem dX5_isOpen_20 : decode cX5_isOpen 20 = .ok (.ifCond .eq 7, 3) := dk_153 0 7 (dk_at dksX5_isOpen_0 20 rfl rfl)
theorem dX5_isOpen_23 : decode cX5_isOpen 23 = .ok (.iconst 1, 1) := dk_4 (dk_at dksX5_isOpen_0 23 rfl rfl)
theorem dX5_isOpen_24 : decode cX5_isOpen 24 = .ok (.goto 4, 3) := dk_167 0 4 (dk_at dksX5_isOpen_1 0 rfl rfl)
theorem dX5_isOpen_27 : decode cX5_isOpen 27 = .ok (.iconst 0, 1) := dk_3 (dk_at dksX5_isOpen_1 3 rfl rfl)
theorem dX5_isOpen_28 : decode cX5_isOpen 28 = .ok (.ireturn, 1) := dk_172 (dk_at dksX5_isOpen_1 4 rfl rfl)
abbrev cX5_isOver : ByteArray := prog_8_method_5_code
def yX5_isOver : MethodName := ⟨RX5, "isOver", "(I)Z"⟩
def dkwX5_isOver_0 : List UInt8 := [42, 180, 0, 28, 27, 164, 0, 7, 4, 167, 0, 4, 3, 172]
abbrev dktX5_isOver_0 : List UInt8 := dkwX5_isOver_0 ++ []
theorem dksX5_isOver_0 : cX5_isOver.data.toList.drop 0 = dktX5_isOver_0 := by decide +kernel
theorem dX5_isOver_0 : decode cX5_isOver 0 = .ok (.aload_n 0, 1) := dk_42 (dk_at dksX5_isOver_0 0 rfl rfl)
theorem dX5_isOver_1 : decode cX5_isOver 1 = .ok (.getfield 28, 3) := dk_180 0 28 (dk_at dksX5_isOver_0 1 rfl rfl)
theorem dX5_isOver_4 : decode cX5_isOver 4 = .ok (.iload_n 1, 1) := dk_27 (dk_at dksX5_isOver_0 4 rfl rfl)
theorem dX5_isOver_5 : decode cX5_isOver 5 = .ok (.if_icmp .le 7, 3) := dk_164 0 7 (dk_at dksX5_isOver_0 5 rfl rfl)
theorem dX5_isOver_8 : decode cX5_isOver 8 = .ok (.iconst 1, 1) := dk_4 (dk_at dksX5_isOver_0 8 rfl rfl)
theorem dX5_isOver_9 : decode cX5_isOver 9 = .ok (.goto 4, 3) := dk_167 0 4 (dk_at dksX5_isOver_0 9 rfl rfl)
theorem dX5_isOver_12 : decode cX5_isOver 12 = .ok (.iconst 0, 1) := dk_3 (dk_at dksX5_isOver_0 12 rfl rfl)
theorem dX5_isOver_13 : decode cX5_isOver 13 = .ok (.ireturn, 1) := dk_172 (dk_at dksX5_isOver_0 13 rfl rfl)
abbrev cX5_beyond : ByteArray := prog_8_method_7_code
def yX5_beyond : MethodName := ⟨RX5, "beyond", "(I)I"⟩
def dkwX5_beyond_1 : List UInt8 := [180, 0, 19, 167, 0, 5, 16, 247, 172]
abbrev dktX5_beyond_1 : List UInt8 := dkwX5_beyond_1 ++ []
def dkwX5_beyond_0 : List UInt8 := [27, 42, 180, 0, 19, 160, 0, 10, 42, 180, 0, 22, 167, 0, 20, 27, 42, 180, 0, 22, 160, 0, 10, 42]
abbrev dktX5_beyond_0 : List UInt8 := dkwX5_beyond_0 ++ dktX5_beyond_1
theorem dksX5_beyond_0 : cX5_beyond.data.toList.drop 0 = dktX5_beyond_0 := by decide +kernel
theorem dksX5_beyond_1 : cX5_beyond.data.toList.drop 24 = dktX5_beyond_1 := dk_seg dksX5_beyond_0 24 rfl rfl
theorem dX5_beyond_0 : decode cX5_beyond 0 = .ok (.iload_n 1, 1) := dk_27 (dk_at dksX5_beyond_0 0 rfl rfl)
theorem dX5_beyond_1 : decode cX5_beyond 1 = .ok (.aload_n 0, 1) := dk_42 (dk_at dksX5_beyond_0 1 rfl rfl)
theorem dX5_beyond_2 : decode cX5_beyond 2 = .ok (.getfield 19, 3) := dk_180 0 19 (dk_at dksX5_beyond_0 2 rfl rfl)
theorem dX5_beyond_5 : decode cX5_beyond 5 = .ok (.if_icmp .ne 10, 3) := dk_160 0 10 (dk_at dksX5_beyond_0 5 rfl rfl)
theorem dX5_beyond_8 : decode cX5_beyond 8 = .ok (.aload_n 0, 1) := dk_42 (dk_at dksX5_beyond_0 8 rfl rfl)
theorem dX5_beyond_9 : decode cX5_beyond 9 = .ok (.getfield 22, 3) := dk_180 0 22 (dk_at dksX5_beyond_0 9 rfl rfl)
theorem dX5_beyond_12 : decode cX5_beyond 12 = .ok (.goto 20, 3) := dk_167 0 20 (dk_at dksX5_beyond_0 12 rfl rfl)
theorem dX5_beyond_15 : decode cX5_beyond 15 = .ok (.iload_n 1, 1) := dk_27 (dk_at dksX5_beyond_0 15 rfl rfl)
theorem dX5_beyond_16 : decode cX5_beyond 16 = .ok (.aload_n 0, 1) := dk_42 (dk_at dksX5_beyond_0 16 rfl rfl)
theorem dX5_beyond_17 : decode cX5_beyond 17 = .ok (.getfield 22, 3) := dk_180 0 22 (dk_at dksX5_beyond_0 17 rfl rfl)
theorem dX5_beyond_20 : decode cX5_beyond 20 = .ok (.if_icmp .ne 10, 3) := dk_160 0 10 (dk_at dksX5_beyond_0 20 rfl rfl)
theorem dX5_beyond_23 : decode cX5_beyond 23 = .ok (.aload_n 0, 1) := dk_42 (dk_at dksX5_beyond_0 23 rfl rfl)
theorem dX5_beyond_24 : decode cX5_beyond 24 = .ok (.getfield 19, 3) := dk_180 0 19 (dk_at dksX5_beyond_1 0 rfl rfl)
theorem dX5_beyond_27 : decode cX5_beyond 27 = .ok (.goto 5, 3) := dk_167 0 5 (dk_at dksX5_beyond_1 3 rfl rfl)
theorem dX5_beyond_30 : decode cX5_beyond 30 = .ok (.bipush (-9), 2) := dk_16 247 (dk_at dksX5_beyond_1 6 rfl rfl)
theorem dX5_beyond_32 : decode cX5_beyond 32 = .ok (.ireturn, 1) := dk_172 (dk_at dksX5_beyond_1 8 rfl rfl)
abbrev cX5_init : ByteArray := prog_8_method_1_code
def yX5_init : MethodName := ⟨RX5, "<init>", "(LCheeseValleys;IIIII)V"⟩
def dkwX5_init_1 : List UInt8 := [181, 0, 22, 42, 21, 5, 181, 0, 25, 42, 21, 6, 181, 0, 28, 177]
abbrev dktX5_init_1 : List UInt8 := dkwX5_init_1 ++ []
def dkwX5_init_0 : List UInt8 := [42, 43, 181, 0, 3, 42, 183, 0, 9, 42, 28, 181, 0, 15, 42, 29, 181, 0, 19, 42, 21, 4]
abbrev dktX5_init_0 : List UInt8 := dkwX5_init_0 ++ dktX5_init_1
theorem dksX5_init_0 : cX5_init.data.toList.drop 0 = dktX5_init_0 := by decide +kernel
theorem dksX5_init_1 : cX5_init.data.toList.drop 22 = dktX5_init_1 := dk_seg dksX5_init_0 22 rfl rfl
theorem dX5_init_0 : decode cX5_init 0 = .ok (.aload_n 0, 1) := dk_42 (dk_at dksX5_init_0 0 rfl rfl)
theorem dX5_init_1 : decode cX5_init 1 = .ok (.aload_n 1, 1) := dk_43 (dk_at dksX5_init_0 1 rfl rfl)
theorem dX5_init_2 : decode cX5_init 2 = .ok (.putfield 3, 3) := dk_181 0 3 (dk_at dksX5_init_0 2 rfl rfl)
theorem dX5_init_5 : decode cX5_init 5 = .ok (.aload_n 0, 1) := dk_42 (dk_at dksX5_init_0 5 rfl rfl)
theorem dX5_init_6 : decode cX5_init 6 = .ok (.invokespecial 9, 3) := dk_183 0 9 (dk_at dksX5_init_0 6 rfl rfl)
theorem dX5_init_9 : decode cX5_init 9 = .ok (.aload_n 0, 1) := dk_42 (dk_at dksX5_init_0 9 rfl rfl)
theorem dX5_init_10 : decode cX5_init 10 = .ok (.iload_n 2, 1) := dk_28 (dk_at dksX5_init_0 10 rfl rfl)
theorem dX5_init_11 : decode cX5_init 11 = .ok (.putfield 15, 3) := dk_181 0 15 (dk_at dksX5_init_0 11 rfl rfl)
theorem dX5_init_14 : decode cX5_init 14 = .ok (.aload_n 0, 1) := dk_42 (dk_at dksX5_init_0 14 rfl rfl)
theorem dX5_init_15 : decode cX5_init 15 = .ok (.iload_n 3, 1) := dk_29 (dk_at dksX5_init_0 15 rfl rfl)
theorem dX5_init_16 : decode cX5_init 16 = .ok (.putfield 19, 3) := dk_181 0 19 (dk_at dksX5_init_0 16 rfl rfl)
theorem dX5_init_19 : decode cX5_init 19 = .ok (.aload_n 0, 1) := dk_42 (dk_at dksX5_init_0 19 rfl rfl)
theorem dX5_init_20 : decode cX5_init 20 = .ok (.iload 4, 2) := dk_21 4 (dk_at dksX5_init_0 20 rfl rfl)
theorem dX5_init_22 : decode cX5_init 22 = .ok (.putfield 22, 3) := dk_181 0 22 (dk_at dksX5_init_1 0 rfl rfl)
theorem dX5_init_25 : decode cX5_init 25 = .ok (.aload_n 0, 1) := dk_42 (dk_at dksX5_init_1 3 rfl rfl)
theorem dX5_init_26 : decode cX5_init 26 = .ok (.iload 5, 2) := dk_21 5 (dk_at dksX5_init_1 4 rfl rfl)
theorem dX5_init_28 : decode cX5_init 28 = .ok (.putfield 25, 3) := dk_181 0 25 (dk_at dksX5_init_1 6 rfl rfl)
theorem dX5_init_31 : decode cX5_init 31 = .ok (.aload_n 0, 1) := dk_42 (dk_at dksX5_init_1 9 rfl rfl)
theorem dX5_init_32 : decode cX5_init 32 = .ok (.iload 6, 2) := dk_21 6 (dk_at dksX5_init_1 10 rfl rfl)
theorem dX5_init_34 : decode cX5_init 34 = .ok (.putfield 28, 3) := dk_181 0 28 (dk_at dksX5_init_1 12 rfl rfl)
theorem dX5_init_37 : decode cX5_init 37 = .ok (.return_, 1) := dk_177 (dk_at dksX5_init_1 15 rfl rfl)
abbrev cX5_tracedBy : ByteArray := prog_8_method_8_code
def yX5_tracedBy : MethodName := ⟨RX5, "tracedBy", "(I)I"⟩
def dkwX5_tracedBy_0 : List UInt8 := [42, 180, 0, 3, 16, 31, 42, 180, 0, 3, 180, 0, 43, 104, 27, 96, 181, 0, 43, 3, 172]
abbrev dktX5_tracedBy_0 : List UInt8 := dkwX5_tracedBy_0 ++ []
theorem dksX5_tracedBy_0 : cX5_tracedBy.data.toList.drop 0 = dktX5_tracedBy_0 := by decide +kernel
theorem dX5_tracedBy_0 : decode cX5_tracedBy 0 = .ok (.aload_n 0, 1) := dk_42 (dk_at dksX5_tracedBy_0 0 rfl rfl)
theorem dX5_tracedBy_1 : decode cX5_tracedBy 1 = .ok (.getfield 3, 3) := dk_180 0 3 (dk_at dksX5_tracedBy_0 1 rfl rfl)
theorem dX5_tracedBy_4 : decode cX5_tracedBy 4 = .ok (.bipush 31, 2) := dk_16 31 (dk_at dksX5_tracedBy_0 4 rfl rfl)
theorem dX5_tracedBy_6 : decode cX5_tracedBy 6 = .ok (.aload_n 0, 1) := dk_42 (dk_at dksX5_tracedBy_0 6 rfl rfl)
theorem dX5_tracedBy_7 : decode cX5_tracedBy 7 = .ok (.getfield 3, 3) := dk_180 0 3 (dk_at dksX5_tracedBy_0 7 rfl rfl)
theorem dX5_tracedBy_10 : decode cX5_tracedBy 10 = .ok (.getfield 43, 3) := dk_180 0 43 (dk_at dksX5_tracedBy_0 10 rfl rfl)
theorem dX5_tracedBy_13 : decode cX5_tracedBy 13 = .ok (.imul, 1) := dk_104 (dk_at dksX5_tracedBy_0 13 rfl rfl)
theorem dX5_tracedBy_14 : decode cX5_tracedBy 14 = .ok (.iload_n 1, 1) := dk_27 (dk_at dksX5_tracedBy_0 14 rfl rfl)
theorem dX5_tracedBy_15 : decode cX5_tracedBy 15 = .ok (.iadd, 1) := dk_96 (dk_at dksX5_tracedBy_0 15 rfl rfl)
theorem dX5_tracedBy_16 : decode cX5_tracedBy 16 = .ok (.putfield 43, 3) := dk_181 0 43 (dk_at dksX5_tracedBy_0 16 rfl rfl)
theorem dX5_tracedBy_19 : decode cX5_tracedBy 19 = .ok (.iconst 0, 1) := dk_3 (dk_at dksX5_tracedBy_0 19 rfl rfl)
theorem dX5_tracedBy_20 : decode cX5_tracedBy 20 = .ok (.ireturn, 1) := dk_172 (dk_at dksX5_tracedBy_0 20 rfl rfl)
abbrev cX5_said : ByteArray := prog_8_method_9_code
def yX5_said : MethodName := ⟨RX5, "said", "()I"⟩
def dkwX5_said_0 : List UInt8 := [42, 4, 182, 0, 46, 42, 180, 0, 28, 96, 172]
abbrev dktX5_said_0 : List UInt8 := dkwX5_said_0 ++ []
theorem dksX5_said_0 : cX5_said.data.toList.drop 0 = dktX5_said_0 := by decide +kernel
theorem dX5_said_0 : decode cX5_said 0 = .ok (.aload_n 0, 1) := dk_42 (dk_at dksX5_said_0 0 rfl rfl)
theorem dX5_said_1 : decode cX5_said 1 = .ok (.iconst 1, 1) := dk_4 (dk_at dksX5_said_0 1 rfl rfl)
theorem dX5_said_2 : decode cX5_said 2 = .ok (.invokevirtual 46, 3) := dk_182 0 46 (dk_at dksX5_said_0 2 rfl rfl)
theorem dX5_said_5 : decode cX5_said 5 = .ok (.aload_n 0, 1) := dk_42 (dk_at dksX5_said_0 5 rfl rfl)
theorem dX5_said_6 : decode cX5_said 6 = .ok (.getfield 28, 3) := dk_180 0 28 (dk_at dksX5_said_0 6 rfl rfl)
theorem dX5_said_9 : decode cX5_said 9 = .ok (.iadd, 1) := dk_96 (dk_at dksX5_said_0 9 rfl rfl)
theorem dX5_said_10 : decode cX5_said 10 = .ok (.ireturn, 1) := dk_172 (dk_at dksX5_said_0 10 rfl rfl)
abbrev cX5_number : ByteArray := prog_8_method_2_code
def yX5_number : MethodName := ⟨RX5, "number", "()I"⟩
theorem dX5_number_0 : decode cX5_number 0 = .ok (.aload_n 0, 1) := by decide +kernel
theorem dX5_number_1 : decode cX5_number 1 = .ok (.getfield 15, 3) := by decide +kernel
theorem dX5_number_4 : decode cX5_number 4 = .ok (.ireturn, 1) := by decide +kernel
theorem q74 : (Jvm.Cond.initialized "CheeseValleys$Pass") ∈ lw_all := lw_g (lw_at lw_m1 23 rfl) rfl
theorem q122 : (Jvm.Cond.fieldLinkNest "CheeseValleys$Pass" (43 : Nat) "CheeseValleys" "trace" "I" "CheeseValleys") ∈ lw_tbl := lw_at lw_m1 71 rfl
theorem q125 : (Jvm.Cond.fieldLinkNest "CheeseValleys$Pass" (35 : Nat) "CheeseValleys" "snowOn" "[I" "CheeseValleys") ∈ lw_tbl := lw_at lw_m1 74 rfl
theorem q210 : (Jvm.Cond.instanceMethod ({ cls := "CheeseValleys$Pass", name := "kind", desc := "()I" } : Jvm.MethodName)) ∈ lw_all := lw_g (lw_at lw_m1 159 rfl) rfl
theorem q211 : (Jvm.Cond.selects "CheeseValleys$Pass" ({ cls := "CheeseValleys$Pass", name := "kind", desc := "()I" } : Jvm.MethodName) ({ cls := "CheeseValleys$Pass", name := "kind", desc := "()I" } : Jvm.MethodName)) ∈ lw_all := lw_g (lw_at lw_m1 160 rfl) rfl
theorem q212 : (Jvm.Cond.sameMethod "CheeseValleys$Pass" "CheeseValleys$Pass" "kind" "()I") ∈ lw_all := lw_g (lw_at lw_m1 161 rfl) rfl
theorem q219 : (Jvm.Cond.code ({ cls := "CheeseValleys$Pass", name := "kind", desc := "()I" } : Jvm.MethodName) prog_8_method_3_code (1 : Nat) (Option.some Jvm.ClassFile.FieldType.int)) ∈ lw_all := lw_g (lw_at lw_m1 168 rfl) rfl
theorem q221 : (Jvm.Cond.instanceMethod ({ cls := "CheeseValleys$Pass", name := "lasts", desc := "()I" } : Jvm.MethodName)) ∈ lw_all := lw_g (lw_at lw_m1 170 rfl) rfl
theorem q222 : (Jvm.Cond.selects "CheeseValleys$Pass" ({ cls := "CheeseValleys$Pass", name := "lasts", desc := "()I" } : Jvm.MethodName) ({ cls := "CheeseValleys$Pass", name := "lasts", desc := "()I" } : Jvm.MethodName)) ∈ lw_all := lw_g (lw_at lw_m1 171 rfl) rfl
theorem q223 : (Jvm.Cond.sameMethod "CheeseValleys$Pass" "CheeseValleys$Pass" "lasts" "()I") ∈ lw_all := lw_g (lw_at lw_m1 172 rfl) rfl
theorem q242 : (Jvm.Cond.code ({ cls := "CheeseValleys$Pass", name := "lasts", desc := "()I" } : Jvm.MethodName) prog_8_method_4_code (1 : Nat) (Option.some Jvm.ClassFile.FieldType.int)) ∈ lw_all := lw_g (lw_at lw_m1 191 rfl) rfl
theorem q279 : (Jvm.Cond.instanceMethod ({ cls := "CheeseValleys$Pass", name := "isOpen", desc := "(I)Z" } : Jvm.MethodName)) ∈ lw_all := lw_g (lw_at lw_m1 228 rfl) rfl
theorem q280 : (Jvm.Cond.selects "CheeseValleys$Pass" ({ cls := "CheeseValleys$Pass", name := "isOpen", desc := "(I)Z" } : Jvm.MethodName) ({ cls := "CheeseValleys$Pass", name := "isOpen", desc := "(I)Z" } : Jvm.MethodName)) ∈ lw_all := lw_g (lw_at lw_m1 229 rfl) rfl
theorem q281 : (Jvm.Cond.sameMethod "CheeseValleys$Pass" "CheeseValleys$Pass" "isOpen" "(I)Z") ∈ lw_all := lw_g (lw_at lw_m1 230 rfl) rfl
theorem q284 : (Jvm.Cond.code ({ cls := "CheeseValleys$Pass", name := "isOpen", desc := "(I)Z" } : Jvm.MethodName) prog_8_method_6_code (2 : Nat) (Option.some Jvm.ClassFile.FieldType.boolean)) ∈ lw_all := lw_g (lw_at lw_m1 233 rfl) rfl
theorem q285 : (Jvm.Cond.methodLink "CheeseValleys$Pass" (39 : Nat) ({ cls := "CheeseValleys$Pass", name := "isOver", desc := "(I)Z" } : Jvm.MethodName)) ∈ lw_all := lw_g (lw_at lw_m1 234 rfl) rfl
theorem q286 : (Jvm.Cond.instanceMethod ({ cls := "CheeseValleys$Pass", name := "isOver", desc := "(I)Z" } : Jvm.MethodName)) ∈ lw_all := lw_g (lw_at lw_m1 235 rfl) rfl
theorem q287 : (Jvm.Cond.selects "CheeseValleys$Pass" ({ cls := "CheeseValleys$Pass", name := "isOver", desc := "(I)Z" } : Jvm.MethodName) ({ cls := "CheeseValleys$Pass", name := "isOver", desc := "(I)Z" } : Jvm.MethodName)) ∈ lw_all := lw_g (lw_at lw_m1 236 rfl) rfl
theorem q288 : (Jvm.Cond.sameMethod "CheeseValleys$Pass" "CheeseValleys$Pass" "isOver" "(I)Z") ∈ lw_all := lw_g (lw_at lw_m1 237 rfl) rfl
theorem q293 : (Jvm.Cond.code ({ cls := "CheeseValleys$Pass", name := "isOver", desc := "(I)Z" } : Jvm.MethodName) prog_8_method_5_code (2 : Nat) (Option.some Jvm.ClassFile.FieldType.boolean)) ∈ lw_all := lw_g (lw_at lw_m2 2 rfl) rfl
theorem q324 : (Jvm.Cond.instanceMethod ({ cls := "CheeseValleys$Pass", name := "beyond", desc := "(I)I" } : Jvm.MethodName)) ∈ lw_all := lw_g (lw_at lw_m2 33 rfl) rfl
theorem q325 : (Jvm.Cond.selects "CheeseValleys$Pass" ({ cls := "CheeseValleys$Pass", name := "beyond", desc := "(I)I" } : Jvm.MethodName) ({ cls := "CheeseValleys$Pass", name := "beyond", desc := "(I)I" } : Jvm.MethodName)) ∈ lw_all := lw_g (lw_at lw_m2 34 rfl) rfl
theorem q326 : (Jvm.Cond.sameMethod "CheeseValleys$Pass" "CheeseValleys$Pass" "beyond" "(I)I") ∈ lw_all := lw_g (lw_at lw_m2 35 rfl) rfl
theorem q329 : (Jvm.Cond.code ({ cls := "CheeseValleys$Pass", name := "beyond", desc := "(I)I" } : Jvm.MethodName) prog_8_method_7_code (2 : Nat) (Option.some Jvm.ClassFile.FieldType.int)) ∈ lw_all := lw_g (lw_at lw_m2 38 rfl) rfl
theorem q422 : (Jvm.Cond.selects "CheeseValleys$Pass" ({ cls := "java/lang/Object", name := "getClass", desc := "()Ljava/lang/Class;" } : Jvm.MethodName) ({ cls := "java/lang/Object", name := "getClass", desc := "()Ljava/lang/Class;" } : Jvm.MethodName)) ∈ lw_all := lw_g (lw_at lw_m2 131 rfl) rfl
theorem q487 : (Jvm.Cond.instantiable "CheeseValleys$Pass" (7 : Nat)) ∈ lw_all := lw_g (lw_at lw_m2 196 rfl) rfl
theorem q489 : (Jvm.Cond.instanceMethod ({ cls := "CheeseValleys$Pass", name := "<init>", desc := "(LCheeseValleys;IIIII)V" } : Jvm.MethodName)) ∈ lw_all := lw_g (lw_at lw_m2 198 rfl) rfl
theorem q490 : (Jvm.Cond.code ({ cls := "CheeseValleys$Pass", name := "<init>", desc := "(LCheeseValleys;IIIII)V" } : Jvm.MethodName) prog_8_method_1_code (7 : Nat) (Option.none : Option Jvm.ClassFile.FieldType)) ∈ lw_all := lw_g (lw_at lw_m2 199 rfl) rfl
theorem q491 : (Jvm.Cond.methodLink "CheeseValleys$Pass" (9 : Nat) ({ cls := "java/lang/Object", name := "<init>", desc := "()V" } : Jvm.MethodName)) ∈ lw_all := lw_g (lw_at lw_m2 200 rfl) rfl
theorem q492 : (Jvm.Cond.fieldLink "CheeseValleys$Pass" (15 : Nat) "CheeseValleys$Pass" "number" "I") ∈ lw_all := lw_g (lw_at lw_m2 201 rfl) rfl
theorem q498 : (Jvm.Cond.fieldLink "CheeseValleys$Pass" (19 : Nat) "CheeseValleys$Pass" "from" "I") ∈ lw_all := lw_g (lw_at lw_m2 207 rfl) rfl
theorem q500 : (Jvm.Cond.fieldLink "CheeseValleys$Pass" (22 : Nat) "CheeseValleys$Pass" "to" "I") ∈ lw_all := lw_g (lw_at lw_m2 209 rfl) rfl
theorem q502 : (Jvm.Cond.fieldLink "CheeseValleys$Pass" (25 : Nat) "CheeseValleys$Pass" "length" "I") ∈ lw_all := lw_g (lw_at lw_m2 211 rfl) rfl
theorem q504 : (Jvm.Cond.fieldLink "CheeseValleys$Pass" (28 : Nat) "CheeseValleys$Pass" "high" "I") ∈ lw_all := lw_g (lw_at lw_m2 213 rfl) rfl
theorem q506 : (Jvm.Cond.fieldLink "CheeseValleys$Pass" (31 : Nat) "CheeseValleys$Pass" "isShut" "Z") ∈ lw_all := lw_g (lw_at lw_m2 215 rfl) rfl
theorem q508 : (Jvm.Cond.fieldLink "CheeseValleys$Pass" (3 : Nat) "CheeseValleys$Pass" "this$0" "LCheeseValleys;") ∈ lw_all := lw_g (lw_at lw_m2 217 rfl) rfl
theorem q509 : (Jvm.Cond.laysFinal "CheeseValleys$Pass" "CheeseValleys$Pass" "number" "I") ∈ lw_all := lw_g (lw_at lw_m2 218 rfl) rfl
theorem q510 : (Jvm.Cond.soleField "CheeseValleys$Pass" "number") ∈ lw_all := lw_g (lw_at lw_m2 219 rfl) rfl
theorem q511 : (Jvm.Cond.laysFinal "CheeseValleys$Pass" "CheeseValleys$Pass" "from" "I") ∈ lw_all := lw_g (lw_at lw_m2 220 rfl) rfl
theorem q512 : (Jvm.Cond.soleField "CheeseValleys$Pass" "from") ∈ lw_all := lw_g (lw_at lw_m2 221 rfl) rfl
theorem q513 : (Jvm.Cond.laysFinal "CheeseValleys$Pass" "CheeseValleys$Pass" "to" "I") ∈ lw_all := lw_g (lw_at lw_m2 222 rfl) rfl
theorem q514 : (Jvm.Cond.soleField "CheeseValleys$Pass" "to") ∈ lw_all := lw_g (lw_at lw_m2 223 rfl) rfl
theorem q515 : (Jvm.Cond.laysFinal "CheeseValleys$Pass" "CheeseValleys$Pass" "length" "I") ∈ lw_all := lw_g (lw_at lw_m2 224 rfl) rfl
theorem q516 : (Jvm.Cond.soleField "CheeseValleys$Pass" "length") ∈ lw_all := lw_g (lw_at lw_m2 225 rfl) rfl
theorem q517 : (Jvm.Cond.lays "CheeseValleys$Pass" "CheeseValleys$Pass" "high" "I") ∈ lw_all := lw_g (lw_at lw_m2 226 rfl) rfl
theorem q518 : (Jvm.Cond.soleField "CheeseValleys$Pass" "high") ∈ lw_all := lw_g (lw_at lw_m2 227 rfl) rfl
theorem q519 : (Jvm.Cond.lays "CheeseValleys$Pass" "CheeseValleys$Pass" "isShut" "Z") ∈ lw_all := lw_g (lw_at lw_m2 228 rfl) rfl
theorem q520 : (Jvm.Cond.soleField "CheeseValleys$Pass" "isShut") ∈ lw_all := lw_g (lw_at lw_m2 229 rfl) rfl
theorem q521 : (Jvm.Cond.laysFinal "CheeseValleys$Pass" "CheeseValleys$Pass" "this$0" "LCheeseValleys;") ∈ lw_all := lw_g (lw_at lw_m2 230 rfl) rfl
theorem q522 : (Jvm.Cond.soleField "CheeseValleys$Pass" "this$0") ∈ lw_all := lw_g (lw_at lw_m2 231 rfl) rfl
theorem q523 : (Jvm.Cond.superclass "CheeseValleys$Pass" "java/lang/Object") ∈ lw_all := lw_g (lw_at lw_m2 232 rfl) rfl
theorem q1032 : (Jvm.Cond.instanceMethod ({ cls := "CheeseValleys$Pass", name := "said", desc := "()I" } : Jvm.MethodName)) ∈ lw_all := lw_g (lw_at lw_m5 21 rfl) rfl
theorem q1033 : (Jvm.Cond.selects "CheeseValleys$Pass" ({ cls := "CheeseValleys$Pass", name := "said", desc := "()I" } : Jvm.MethodName) ({ cls := "CheeseValleys$Pass", name := "said", desc := "()I" } : Jvm.MethodName)) ∈ lw_all := lw_g (lw_at lw_m5 22 rfl) rfl
theorem q1034 : (Jvm.Cond.sameMethod "CheeseValleys$Pass" "CheeseValleys$Pass" "said" "()I") ∈ lw_all := lw_g (lw_at lw_m5 23 rfl) rfl
theorem q1040 : (Jvm.Cond.declares ({ cls := "CheeseValleys$Pass", name := "tracedBy", desc := "(I)I" } : Jvm.MethodName)) ∈ lw_tbl := lw_at lw_m5 29 rfl
theorem q1043 : (Jvm.Cond.instanceMethod ({ cls := "CheeseValleys$Pass", name := "tracedBy", desc := "(I)I" } : Jvm.MethodName)) ∈ lw_all := lw_g (lw_at lw_m5 32 rfl) rfl
theorem q1044 : (Jvm.Cond.code ({ cls := "CheeseValleys$Pass", name := "tracedBy", desc := "(I)I" } : Jvm.MethodName) prog_8_method_8_code (2 : Nat) (Option.some Jvm.ClassFile.FieldType.int)) ∈ lw_all := lw_g (lw_at lw_m5 33 rfl) rfl
theorem q1059 : (Jvm.Cond.code ({ cls := "CheeseValleys$Pass", name := "said", desc := "()I" } : Jvm.MethodName) prog_8_method_9_code (1 : Nat) (Option.some Jvm.ClassFile.FieldType.int)) ∈ lw_all := lw_g (lw_at lw_m5 48 rfl) rfl
theorem q1060 : (Jvm.Cond.methodLink "CheeseValleys$Pass" (46 : Nat) ({ cls := "CheeseValleys$Pass", name := "tracedBy", desc := "(I)I" } : Jvm.MethodName)) ∈ lw_all := lw_g (lw_at lw_m5 49 rfl) rfl
theorem q1070 : (Jvm.Cond.castable "CheeseValleys$Pass" "CheeseValleys$Marked") ∈ lw_tbl := lw_at lw_m5 59 rfl
theorem q1071 : (Jvm.Cond.unhidden "CheeseValleys$Pass" "marked" "()I") ∈ lw_tbl := lw_at lw_m5 60 rfl
theorem q1079 : (Jvm.Cond.selects "CheeseValleys$Pass" ({ cls := "CheeseValleys$Marked", name := "tracedBy", desc := "(I)I" } : Jvm.MethodName) ({ cls := "CheeseValleys$Pass", name := "tracedBy", desc := "(I)I" } : Jvm.MethodName)) ∈ lw_all := lw_g (lw_at lw_m5 68 rfl) rfl
theorem q1080 : (Jvm.Cond.unhidden "CheeseValleys$Pass" "tracedBy" "(I)I") ∈ lw_tbl := lw_at lw_m5 69 rfl
theorem q1081 : (Jvm.Cond.publicMethod ({ cls := "CheeseValleys$Pass", name := "tracedBy", desc := "(I)I" } : Jvm.MethodName)) ∈ lw_tbl := lw_at lw_m5 70 rfl
theorem q1092 : (Jvm.Cond.selects "CheeseValleys$Pass" ({ cls := "CheeseValleys$Marked", name := "number", desc := "()I" } : Jvm.MethodName) ({ cls := "CheeseValleys$Pass", name := "number", desc := "()I" } : Jvm.MethodName)) ∈ lw_all := lw_g (lw_at lw_m5 81 rfl) rfl
theorem q1093 : (Jvm.Cond.unhidden "CheeseValleys$Pass" "number" "()I") ∈ lw_tbl := lw_at lw_m5 82 rfl
theorem q1094 : (Jvm.Cond.instanceMethod ({ cls := "CheeseValleys$Pass", name := "number", desc := "()I" } : Jvm.MethodName)) ∈ lw_all := lw_g (lw_at lw_m5 83 rfl) rfl
theorem q1095 : (Jvm.Cond.publicMethod ({ cls := "CheeseValleys$Pass", name := "number", desc := "()I" } : Jvm.MethodName)) ∈ lw_tbl := lw_at lw_m5 84 rfl
theorem q1096 : (Jvm.Cond.code ({ cls := "CheeseValleys$Pass", name := "number", desc := "()I" } : Jvm.MethodName) prog_8_method_2_code (1 : Nat) (Option.some Jvm.ClassFile.FieldType.int)) ∈ lw_all := lw_g (lw_at lw_m5 85 rfl) rfl
theorem q1487 : (Jvm.Cond.sameMethod "CheeseValleys$Pass" "CheeseValleys$Pass" "tracedBy" "(I)I") ∈ lw_all := lw_g (lw_at lw_m6 236 rfl) rfl
theorem q1488 : (Jvm.Cond.selects "CheeseValleys$Pass" ({ cls := "CheeseValleys$Pass", name := "tracedBy", desc := "(I)I" } : Jvm.MethodName) ({ cls := "CheeseValleys$Pass", name := "tracedBy", desc := "(I)I" } : Jvm.MethodName)) ∈ lw_all := lw_g (lw_at lw_m6 237 rfl) rfl
theorem q1506 : (Jvm.Cond.castable "CheeseValleys$Pass" "java/lang/Object") ∈ lw_tbl := lw_at lw_m7 15 rfl
theorem in_X5 : ∀ w ∈ wsX50, w ∈ lw_all := lw_in wsX50 [509, 511, 513, 515, 517, 519, 521] (by decide +kernel) (by decide +kernel)

/-! CheeseValleys$Steep -/
set_option maxRecDepth 100000
def RX6 : String := "CheeseValleys$Steep"
def TX6 : u_T := fun k => match k with
  | 0 => ("CheeseValleys$Pass", "number", "I", true)
  | 1 => ("CheeseValleys$Pass", "from", "I", true)
  | 2 => ("CheeseValleys$Pass", "to", "I", true)
  | 3 => ("CheeseValleys$Pass", "length", "I", true)
  | 4 => ("CheeseValleys$Pass", "high", "I", false)
  | 5 => ("CheeseValleys$Pass", "isShut", "Z", false)
  | 6 => ("CheeseValleys$Pass", "this$0", "LCheeseValleys;", true)
  | _ => ("CheeseValleys$Steep", "this$0", "LCheeseValleys;", true)
def tyX6 : Nat → FieldType := fun k => match k with
  | 0 => .int
  | 1 => .int
  | 2 => .int
  | 3 => .int
  | 4 => .int
  | 5 => .boolean
  | 6 => .object "CheeseValleys"
  | _ => .object "CheeseValleys"
abbrev wsX60 : List Cond := u_ws RX6 TX6 8
-- two fields of one name: no nmX6
theorem tyX6_ok : ∀ k, k < 8 → parseFieldDescriptor (TX6 k).2.2.1 = some (tyX6 k) := by decide +kernel
abbrev cX6_kind : ByteArray := prog_11_method_2_code
def yX6_kind : MethodName := ⟨RX6, "kind", "()I"⟩
theorem dX6_kind_0 : decode cX6_kind 0 = .ok (.iconst 1, 1) := by decide +kernel
theorem dX6_kind_1 : decode cX6_kind 1 = .ok (.ireturn, 1) := by decide +kernel
abbrev cX6_lasts : ByteArray := prog_11_method_3_code
def yX6_lasts : MethodName := ⟨RX6, "lasts", "()I"⟩
def dkwX6_lasts_0 : List UInt8 := [42, 182, 0, 13, 4, 96, 172]
abbrev dktX6_lasts_0 : List UInt8 := dkwX6_lasts_0 ++ []
theorem dksX6_lasts_0 : cX6_lasts.data.toList.drop 0 = dktX6_lasts_0 := by decide +kernel
theorem dX6_lasts_0 : decode cX6_lasts 0 = .ok (.aload_n 0, 1) := dk_42 (dk_at dksX6_lasts_0 0 rfl rfl)
theorem dX6_lasts_1 : decode cX6_lasts 1 = .ok (.invokevirtual 13, 3) := dk_182 0 13 (dk_at dksX6_lasts_0 1 rfl rfl)
theorem dX6_lasts_4 : decode cX6_lasts 4 = .ok (.iconst 1, 1) := dk_4 (dk_at dksX6_lasts_0 4 rfl rfl)
theorem dX6_lasts_5 : decode cX6_lasts 5 = .ok (.iadd, 1) := dk_96 (dk_at dksX6_lasts_0 5 rfl rfl)
theorem dX6_lasts_6 : decode cX6_lasts 6 = .ok (.ireturn, 1) := dk_172 (dk_at dksX6_lasts_0 6 rfl rfl)
abbrev cX6_plainlyLasts : ByteArray := prog_11_method_4_code
def yX6_plainlyLasts : MethodName := ⟨RX6, "plainlyLasts", "()I"⟩
theorem dX6_plainlyLasts_0 : decode cX6_plainlyLasts 0 = .ok (.aload_n 0, 1) := by decide +kernel
theorem dX6_plainlyLasts_1 : decode cX6_plainlyLasts 1 = .ok (.invokespecial 17, 3) := by decide +kernel
theorem dX6_plainlyLasts_4 : decode cX6_plainlyLasts 4 = .ok (.ireturn, 1) := by decide +kernel
abbrev cX6_init : ByteArray := prog_11_method_1_code
def yX6_init : MethodName := ⟨RX6, "<init>", "(LCheeseValleys;IIIII)V"⟩
def dkwX6_init_0 : List UInt8 := [42, 43, 181, 0, 1, 42, 43, 28, 29, 21, 4, 21, 5, 21, 6, 183, 0, 7, 177]
abbrev dktX6_init_0 : List UInt8 := dkwX6_init_0 ++ []
theorem dksX6_init_0 : cX6_init.data.toList.drop 0 = dktX6_init_0 := by decide +kernel
theorem dX6_init_0 : decode cX6_init 0 = .ok (.aload_n 0, 1) := dk_42 (dk_at dksX6_init_0 0 rfl rfl)
theorem dX6_init_1 : decode cX6_init 1 = .ok (.aload_n 1, 1) := dk_43 (dk_at dksX6_init_0 1 rfl rfl)
theorem dX6_init_2 : decode cX6_init 2 = .ok (.putfield 1, 3) := dk_181 0 1 (dk_at dksX6_init_0 2 rfl rfl)
theorem dX6_init_5 : decode cX6_init 5 = .ok (.aload_n 0, 1) := dk_42 (dk_at dksX6_init_0 5 rfl rfl)
theorem dX6_init_6 : decode cX6_init 6 = .ok (.aload_n 1, 1) := dk_43 (dk_at dksX6_init_0 6 rfl rfl)
theorem dX6_init_7 : decode cX6_init 7 = .ok (.iload_n 2, 1) := dk_28 (dk_at dksX6_init_0 7 rfl rfl)
theorem dX6_init_8 : decode cX6_init 8 = .ok (.iload_n 3, 1) := dk_29 (dk_at dksX6_init_0 8 rfl rfl)
theorem dX6_init_9 : decode cX6_init 9 = .ok (.iload 4, 2) := dk_21 4 (dk_at dksX6_init_0 9 rfl rfl)
theorem dX6_init_11 : decode cX6_init 11 = .ok (.iload 5, 2) := dk_21 5 (dk_at dksX6_init_0 11 rfl rfl)
theorem dX6_init_13 : decode cX6_init 13 = .ok (.iload 6, 2) := dk_21 6 (dk_at dksX6_init_0 13 rfl rfl)
theorem dX6_init_15 : decode cX6_init 15 = .ok (.invokespecial 7, 3) := dk_183 0 7 (dk_at dksX6_init_0 15 rfl rfl)
theorem dX6_init_18 : decode cX6_init 18 = .ok (.return_, 1) := dk_177 (dk_at dksX6_init_0 18 rfl rfl)
abbrev cX6_said : ByteArray := prog_11_method_5_code
def yX6_said : MethodName := ⟨RX6, "said", "()I"⟩
def dkwX6_said_0 : List UInt8 := [42, 5, 182, 0, 20, 42, 183, 0, 24, 96, 16, 100, 96, 172]
abbrev dktX6_said_0 : List UInt8 := dkwX6_said_0 ++ []
theorem dksX6_said_0 : cX6_said.data.toList.drop 0 = dktX6_said_0 := by decide +kernel
theorem dX6_said_0 : decode cX6_said 0 = .ok (.aload_n 0, 1) := dk_42 (dk_at dksX6_said_0 0 rfl rfl)
theorem dX6_said_1 : decode cX6_said 1 = .ok (.iconst 2, 1) := dk_5 (dk_at dksX6_said_0 1 rfl rfl)
theorem dX6_said_2 : decode cX6_said 2 = .ok (.invokevirtual 20, 3) := dk_182 0 20 (dk_at dksX6_said_0 2 rfl rfl)
theorem dX6_said_5 : decode cX6_said 5 = .ok (.aload_n 0, 1) := dk_42 (dk_at dksX6_said_0 5 rfl rfl)
theorem dX6_said_6 : decode cX6_said 6 = .ok (.invokespecial 24, 3) := dk_183 0 24 (dk_at dksX6_said_0 6 rfl rfl)
theorem dX6_said_9 : decode cX6_said 9 = .ok (.iadd, 1) := dk_96 (dk_at dksX6_said_0 9 rfl rfl)
theorem dX6_said_10 : decode cX6_said 10 = .ok (.bipush 100, 2) := dk_16 100 (dk_at dksX6_said_0 10 rfl rfl)
theorem dX6_said_12 : decode cX6_said 12 = .ok (.iadd, 1) := dk_96 (dk_at dksX6_said_0 12 rfl rfl)
theorem dX6_said_13 : decode cX6_said 13 = .ok (.ireturn, 1) := dk_172 (dk_at dksX6_said_0 13 rfl rfl)
abbrev cX6_plainly : ByteArray := prog_11_method_6_code
def yX6_plainly : MethodName := ⟨RX6, "plainly", "()I"⟩
theorem dX6_plainly_0 : decode cX6_plainly 0 = .ok (.aload_n 0, 1) := by decide +kernel
theorem dX6_plainly_1 : decode cX6_plainly 1 = .ok (.invokespecial 24, 3) := by decide +kernel
theorem dX6_plainly_4 : decode cX6_plainly 4 = .ok (.ireturn, 1) := by decide +kernel
theorem q75 : (Jvm.Cond.initialized "CheeseValleys$Steep") ∈ lw_all := lw_g (lw_at lw_m1 24 rfl) rfl
theorem q213 : (Jvm.Cond.selects "CheeseValleys$Steep" ({ cls := "CheeseValleys$Pass", name := "kind", desc := "()I" } : Jvm.MethodName) ({ cls := "CheeseValleys$Steep", name := "kind", desc := "()I" } : Jvm.MethodName)) ∈ lw_all := lw_g (lw_at lw_m1 162 rfl) rfl
theorem q214 : (Jvm.Cond.instanceMethod ({ cls := "CheeseValleys$Steep", name := "kind", desc := "()I" } : Jvm.MethodName)) ∈ lw_all := lw_g (lw_at lw_m1 163 rfl) rfl
theorem q215 : (Jvm.Cond.code ({ cls := "CheeseValleys$Steep", name := "kind", desc := "()I" } : Jvm.MethodName) prog_11_method_2_code (1 : Nat) (Option.some Jvm.ClassFile.FieldType.int)) ∈ lw_all := lw_g (lw_at lw_m1 164 rfl) rfl
theorem q224 : (Jvm.Cond.selects "CheeseValleys$Steep" ({ cls := "CheeseValleys$Pass", name := "lasts", desc := "()I" } : Jvm.MethodName) ({ cls := "CheeseValleys$Steep", name := "lasts", desc := "()I" } : Jvm.MethodName)) ∈ lw_all := lw_g (lw_at lw_m1 173 rfl) rfl
theorem q225 : (Jvm.Cond.instanceMethod ({ cls := "CheeseValleys$Steep", name := "lasts", desc := "()I" } : Jvm.MethodName)) ∈ lw_all := lw_g (lw_at lw_m1 174 rfl) rfl
theorem q226 : (Jvm.Cond.code ({ cls := "CheeseValleys$Steep", name := "lasts", desc := "()I" } : Jvm.MethodName) prog_11_method_3_code (1 : Nat) (Option.some Jvm.ClassFile.FieldType.int)) ∈ lw_all := lw_g (lw_at lw_m1 175 rfl) rfl
theorem q227 : (Jvm.Cond.methodLink "CheeseValleys$Steep" (13 : Nat) ({ cls := "CheeseValleys$Steep", name := "plainlyLasts", desc := "()I" } : Jvm.MethodName)) ∈ lw_all := lw_g (lw_at lw_m1 176 rfl) rfl
theorem q228 : (Jvm.Cond.instanceMethod ({ cls := "CheeseValleys$Steep", name := "plainlyLasts", desc := "()I" } : Jvm.MethodName)) ∈ lw_all := lw_g (lw_at lw_m1 177 rfl) rfl
theorem q229 : (Jvm.Cond.selects "CheeseValleys$Steep" ({ cls := "CheeseValleys$Steep", name := "plainlyLasts", desc := "()I" } : Jvm.MethodName) ({ cls := "CheeseValleys$Steep", name := "plainlyLasts", desc := "()I" } : Jvm.MethodName)) ∈ lw_all := lw_g (lw_at lw_m1 178 rfl) rfl
theorem q230 : (Jvm.Cond.sameMethod "CheeseValleys$Steep" "CheeseValleys$Steep" "plainlyLasts" "()I") ∈ lw_all := lw_g (lw_at lw_m1 179 rfl) rfl
theorem q232 : (Jvm.Cond.code ({ cls := "CheeseValleys$Steep", name := "plainlyLasts", desc := "()I" } : Jvm.MethodName) prog_11_method_4_code (1 : Nat) (Option.some Jvm.ClassFile.FieldType.int)) ∈ lw_all := lw_g (lw_at lw_m1 181 rfl) rfl
theorem q233 : (Jvm.Cond.methodLink "CheeseValleys$Steep" (17 : Nat) ({ cls := "CheeseValleys$Pass", name := "lasts", desc := "()I" } : Jvm.MethodName)) ∈ lw_all := lw_g (lw_at lw_m1 182 rfl) rfl
theorem q234 : (Jvm.Cond.superclass "CheeseValleys$Steep" "CheeseValleys$Pass") ∈ lw_all := lw_g (lw_at lw_m1 183 rfl) rfl
theorem q240 : (Jvm.Cond.declares ({ cls := "CheeseValleys$Steep", name := "plainlyLasts", desc := "()I" } : Jvm.MethodName)) ∈ lw_tbl := lw_at lw_m1 189 rfl
theorem q282 : (Jvm.Cond.selects "CheeseValleys$Steep" ({ cls := "CheeseValleys$Pass", name := "isOpen", desc := "(I)Z" } : Jvm.MethodName) ({ cls := "CheeseValleys$Pass", name := "isOpen", desc := "(I)Z" } : Jvm.MethodName)) ∈ lw_all := lw_g (lw_at lw_m1 231 rfl) rfl
theorem q289 : (Jvm.Cond.selects "CheeseValleys$Steep" ({ cls := "CheeseValleys$Pass", name := "isOver", desc := "(I)Z" } : Jvm.MethodName) ({ cls := "CheeseValleys$Pass", name := "isOver", desc := "(I)Z" } : Jvm.MethodName)) ∈ lw_all := lw_g (lw_at lw_m1 238 rfl) rfl
theorem q327 : (Jvm.Cond.selects "CheeseValleys$Steep" ({ cls := "CheeseValleys$Pass", name := "beyond", desc := "(I)I" } : Jvm.MethodName) ({ cls := "CheeseValleys$Pass", name := "beyond", desc := "(I)I" } : Jvm.MethodName)) ∈ lw_all := lw_g (lw_at lw_m2 36 rfl) rfl
theorem q425 : (Jvm.Cond.selects "CheeseValleys$Steep" ({ cls := "java/lang/Object", name := "getClass", desc := "()Ljava/lang/Class;" } : Jvm.MethodName) ({ cls := "java/lang/Object", name := "getClass", desc := "()Ljava/lang/Class;" } : Jvm.MethodName)) ∈ lw_all := lw_g (lw_at lw_m2 134 rfl) rfl
theorem q495 : (Jvm.Cond.sameField "CheeseValleys$Steep" "CheeseValleys$Pass" "number" "I") ∈ lw_all := lw_g (lw_at lw_m2 204 rfl) rfl
theorem q525 : (Jvm.Cond.instantiable "CheeseValleys$Steep" (8 : Nat)) ∈ lw_all := lw_g (lw_at lw_m2 234 rfl) rfl
theorem q527 : (Jvm.Cond.instanceMethod ({ cls := "CheeseValleys$Steep", name := "<init>", desc := "(LCheeseValleys;IIIII)V" } : Jvm.MethodName)) ∈ lw_all := lw_g (lw_at lw_m2 236 rfl) rfl
theorem q528 : (Jvm.Cond.code ({ cls := "CheeseValleys$Steep", name := "<init>", desc := "(LCheeseValleys;IIIII)V" } : Jvm.MethodName) prog_11_method_1_code (7 : Nat) (Option.none : Option Jvm.ClassFile.FieldType)) ∈ lw_all := lw_g (lw_at lw_m2 237 rfl) rfl
theorem q529 : (Jvm.Cond.methodLink "CheeseValleys$Steep" (7 : Nat) ({ cls := "CheeseValleys$Pass", name := "<init>", desc := "(LCheeseValleys;IIIII)V" } : Jvm.MethodName)) ∈ lw_all := lw_g (lw_at lw_m2 238 rfl) rfl
theorem q530 : (Jvm.Cond.fieldLink "CheeseValleys$Steep" (1 : Nat) "CheeseValleys$Steep" "this$0" "LCheeseValleys;") ∈ lw_all := lw_g (lw_at lw_m2 239 rfl) rfl
theorem q531 : (Jvm.Cond.laysFinal "CheeseValleys$Steep" "CheeseValleys$Steep" "this$0" "LCheeseValleys;") ∈ lw_all := lw_g (lw_at lw_m3 0 rfl) rfl
theorem q532 : (Jvm.Cond.soleField "CheeseValleys$Steep" "this$0") ∈ lw_all := lw_g (lw_at lw_m3 1 rfl) rfl
theorem q533 : (Jvm.Cond.laysFinal "CheeseValleys$Steep" "CheeseValleys$Pass" "number" "I") ∈ lw_all := lw_g (lw_at lw_m3 2 rfl) rfl
theorem q534 : (Jvm.Cond.laysFinal "CheeseValleys$Steep" "CheeseValleys$Pass" "from" "I") ∈ lw_all := lw_g (lw_at lw_m3 3 rfl) rfl
theorem q535 : (Jvm.Cond.laysFinal "CheeseValleys$Steep" "CheeseValleys$Pass" "to" "I") ∈ lw_all := lw_g (lw_at lw_m3 4 rfl) rfl
theorem q536 : (Jvm.Cond.laysFinal "CheeseValleys$Steep" "CheeseValleys$Pass" "length" "I") ∈ lw_all := lw_g (lw_at lw_m3 5 rfl) rfl
theorem q537 : (Jvm.Cond.lays "CheeseValleys$Steep" "CheeseValleys$Pass" "high" "I") ∈ lw_all := lw_g (lw_at lw_m3 6 rfl) rfl
theorem q538 : (Jvm.Cond.lays "CheeseValleys$Steep" "CheeseValleys$Pass" "isShut" "Z") ∈ lw_all := lw_g (lw_at lw_m3 7 rfl) rfl
theorem q539 : (Jvm.Cond.laysFinal "CheeseValleys$Steep" "CheeseValleys$Pass" "this$0" "LCheeseValleys;") ∈ lw_all := lw_g (lw_at lw_m3 8 rfl) rfl
theorem q1035 : (Jvm.Cond.selects "CheeseValleys$Steep" ({ cls := "CheeseValleys$Pass", name := "said", desc := "()I" } : Jvm.MethodName) ({ cls := "CheeseValleys$Steep", name := "said", desc := "()I" } : Jvm.MethodName)) ∈ lw_all := lw_g (lw_at lw_m5 24 rfl) rfl
theorem q1036 : (Jvm.Cond.instanceMethod ({ cls := "CheeseValleys$Steep", name := "said", desc := "()I" } : Jvm.MethodName)) ∈ lw_all := lw_g (lw_at lw_m5 25 rfl) rfl
theorem q1037 : (Jvm.Cond.code ({ cls := "CheeseValleys$Steep", name := "said", desc := "()I" } : Jvm.MethodName) prog_11_method_5_code (1 : Nat) (Option.some Jvm.ClassFile.FieldType.int)) ∈ lw_all := lw_g (lw_at lw_m5 26 rfl) rfl
theorem q1038 : (Jvm.Cond.methodLink "CheeseValleys$Steep" (20 : Nat) ({ cls := "CheeseValleys$Steep", name := "tracedBy", desc := "(I)I" } : Jvm.MethodName)) ∈ lw_all := lw_g (lw_at lw_m5 27 rfl) rfl
theorem q1039 : (Jvm.Cond.sameMethod "CheeseValleys$Steep" "CheeseValleys$Pass" "tracedBy" "(I)I") ∈ lw_all := lw_g (lw_at lw_m5 28 rfl) rfl
theorem q1041 : (Jvm.Cond.selects "CheeseValleys$Steep" ({ cls := "CheeseValleys$Steep", name := "tracedBy", desc := "(I)I" } : Jvm.MethodName) ({ cls := "CheeseValleys$Pass", name := "tracedBy", desc := "(I)I" } : Jvm.MethodName)) ∈ lw_all := lw_g (lw_at lw_m5 30 rfl) rfl
theorem q1045 : (Jvm.Cond.methodLink "CheeseValleys$Steep" (24 : Nat) ({ cls := "CheeseValleys$Pass", name := "said", desc := "()I" } : Jvm.MethodName)) ∈ lw_all := lw_g (lw_at lw_m5 34 rfl) rfl
theorem q1055 : (Jvm.Cond.declares ({ cls := "CheeseValleys$Steep", name := "plainly", desc := "()I" } : Jvm.MethodName)) ∈ lw_tbl := lw_at lw_m5 44 rfl
theorem q1057 : (Jvm.Cond.instanceMethod ({ cls := "CheeseValleys$Steep", name := "plainly", desc := "()I" } : Jvm.MethodName)) ∈ lw_all := lw_g (lw_at lw_m5 46 rfl) rfl
theorem q1058 : (Jvm.Cond.code ({ cls := "CheeseValleys$Steep", name := "plainly", desc := "()I" } : Jvm.MethodName) prog_11_method_6_code (1 : Nat) (Option.some Jvm.ClassFile.FieldType.int)) ∈ lw_all := lw_g (lw_at lw_m5 47 rfl) rfl
theorem q1082 : (Jvm.Cond.castable "CheeseValleys$Steep" "CheeseValleys$Marked") ∈ lw_tbl := lw_at lw_m5 71 rfl
theorem q1083 : (Jvm.Cond.selects "CheeseValleys$Steep" ({ cls := "CheeseValleys$Marked", name := "tracedBy", desc := "(I)I" } : Jvm.MethodName) ({ cls := "CheeseValleys$Pass", name := "tracedBy", desc := "(I)I" } : Jvm.MethodName)) ∈ lw_all := lw_g (lw_at lw_m5 72 rfl) rfl
theorem q1084 : (Jvm.Cond.unhidden "CheeseValleys$Steep" "tracedBy" "(I)I") ∈ lw_tbl := lw_at lw_m5 73 rfl
theorem q1097 : (Jvm.Cond.selects "CheeseValleys$Steep" ({ cls := "CheeseValleys$Marked", name := "number", desc := "()I" } : Jvm.MethodName) ({ cls := "CheeseValleys$Pass", name := "number", desc := "()I" } : Jvm.MethodName)) ∈ lw_all := lw_g (lw_at lw_m5 86 rfl) rfl
theorem q1098 : (Jvm.Cond.unhidden "CheeseValleys$Steep" "number" "()I") ∈ lw_tbl := lw_at lw_m5 87 rfl
theorem q1101 : (Jvm.Cond.unhidden "CheeseValleys$Steep" "marked" "()I") ∈ lw_tbl := lw_at lw_m5 90 rfl
theorem q1486 : (Jvm.Cond.sameMethod "CheeseValleys$Steep" "CheeseValleys$Steep" "said" "()I") ∈ lw_all := lw_g (lw_at lw_m6 235 rfl) rfl
theorem q1489 : (Jvm.Cond.selects "CheeseValleys$Steep" ({ cls := "CheeseValleys$Pass", name := "tracedBy", desc := "(I)I" } : Jvm.MethodName) ({ cls := "CheeseValleys$Pass", name := "tracedBy", desc := "(I)I" } : Jvm.MethodName)) ∈ lw_all := lw_g (lw_at lw_m6 238 rfl) rfl
theorem q1492 : (Jvm.Cond.castable "CheeseValleys$Steep" "CheeseValleys$Pass") ∈ lw_tbl := lw_at lw_m7 1 rfl
theorem q1507 : (Jvm.Cond.castable "CheeseValleys$Steep" "java/lang/Object") ∈ lw_tbl := lw_at lw_m7 16 rfl
theorem in_X6 : ∀ w ∈ wsX60, w ∈ lw_all := lw_in wsX60 [533, 534, 535, 536, 537, 538, 539, 531] (by decide +kernel) (by decide +kernel)

/-! CheeseValleys$Tunnel -/
set_option maxRecDepth 100000
def RX7 : String := "CheeseValleys$Tunnel"
def TX7 : u_T := fun k => match k with
  | 0 => ("CheeseValleys$Pass", "number", "I", true)
  | 1 => ("CheeseValleys$Pass", "from", "I", true)
  | 2 => ("CheeseValleys$Pass", "to", "I", true)
  | 3 => ("CheeseValleys$Pass", "length", "I", true)
  | 4 => ("CheeseValleys$Pass", "high", "I", false)
  | 5 => ("CheeseValleys$Pass", "isShut", "Z", false)
  | 6 => ("CheeseValleys$Pass", "this$0", "LCheeseValleys;", true)
  | 7 => ("CheeseValleys$Steep", "this$0", "LCheeseValleys;", true)
  | _ => ("CheeseValleys$Tunnel", "this$0", "LCheeseValleys;", true)
def tyX7 : Nat → FieldType := fun k => match k with
  | 0 => .int
  | 1 => .int
  | 2 => .int
  | 3 => .int
  | 4 => .int
  | 5 => .boolean
  | 6 => .object "CheeseValleys"
  | 7 => .object "CheeseValleys"
  | _ => .object "CheeseValleys"
abbrev wsX70 : List Cond := u_ws RX7 TX7 9
-- two fields of one name: no nmX7
theorem tyX7_ok : ∀ k, k < 9 → parseFieldDescriptor (TX7 k).2.2.1 = some (tyX7 k) := by decide +kernel
abbrev cX7_kind : ByteArray := prog_13_method_2_code
def yX7_kind : MethodName := ⟨RX7, "kind", "()I"⟩
theorem dX7_kind_0 : decode cX7_kind 0 = .ok (.iconst 2, 1) := by decide +kernel
theorem dX7_kind_1 : decode cX7_kind 1 = .ok (.ireturn, 1) := by decide +kernel
abbrev cX7_lasts : ByteArray := prog_13_method_3_code
def yX7_lasts : MethodName := ⟨RX7, "lasts", "()I"⟩
def dkwX7_lasts_0 : List UInt8 := [42, 182, 0, 13, 4, 96, 5, 108, 172]
abbrev dktX7_lasts_0 : List UInt8 := dkwX7_lasts_0 ++ []
theorem dksX7_lasts_0 : cX7_lasts.data.toList.drop 0 = dktX7_lasts_0 := by decide +kernel
theorem dX7_lasts_0 : decode cX7_lasts 0 = .ok (.aload_n 0, 1) := dk_42 (dk_at dksX7_lasts_0 0 rfl rfl)
theorem dX7_lasts_1 : decode cX7_lasts 1 = .ok (.invokevirtual 13, 3) := dk_182 0 13 (dk_at dksX7_lasts_0 1 rfl rfl)
theorem dX7_lasts_4 : decode cX7_lasts 4 = .ok (.iconst 1, 1) := dk_4 (dk_at dksX7_lasts_0 4 rfl rfl)
theorem dX7_lasts_5 : decode cX7_lasts 5 = .ok (.iadd, 1) := dk_96 (dk_at dksX7_lasts_0 5 rfl rfl)
theorem dX7_lasts_6 : decode cX7_lasts 6 = .ok (.iconst 2, 1) := dk_5 (dk_at dksX7_lasts_0 6 rfl rfl)
theorem dX7_lasts_7 : decode cX7_lasts 7 = .ok (.idiv, 1) := dk_108 (dk_at dksX7_lasts_0 7 rfl rfl)
theorem dX7_lasts_8 : decode cX7_lasts 8 = .ok (.ireturn, 1) := dk_172 (dk_at dksX7_lasts_0 8 rfl rfl)
abbrev cX7_isOver : ByteArray := prog_13_method_4_code
def yX7_isOver : MethodName := ⟨RX7, "isOver", "(I)Z"⟩
theorem dX7_isOver_0 : decode cX7_isOver 0 = .ok (.iconst 1, 1) := by decide +kernel
theorem dX7_isOver_1 : decode cX7_isOver 1 = .ok (.ireturn, 1) := by decide +kernel
abbrev cX7_init : ByteArray := prog_13_method_1_code
def yX7_init : MethodName := ⟨RX7, "<init>", "(LCheeseValleys;IIIII)V"⟩
def dkwX7_init_0 : List UInt8 := [42, 43, 181, 0, 1, 42, 43, 28, 29, 21, 4, 21, 5, 21, 6, 183, 0, 7, 177]
abbrev dktX7_init_0 : List UInt8 := dkwX7_init_0 ++ []
theorem dksX7_init_0 : cX7_init.data.toList.drop 0 = dktX7_init_0 := by decide +kernel
theorem dX7_init_0 : decode cX7_init 0 = .ok (.aload_n 0, 1) := dk_42 (dk_at dksX7_init_0 0 rfl rfl)
theorem dX7_init_1 : decode cX7_init 1 = .ok (.aload_n 1, 1) := dk_43 (dk_at dksX7_init_0 1 rfl rfl)
theorem dX7_init_2 : decode cX7_init 2 = .ok (.putfield 1, 3) := dk_181 0 1 (dk_at dksX7_init_0 2 rfl rfl)
theorem dX7_init_5 : decode cX7_init 5 = .ok (.aload_n 0, 1) := dk_42 (dk_at dksX7_init_0 5 rfl rfl)
theorem dX7_init_6 : decode cX7_init 6 = .ok (.aload_n 1, 1) := dk_43 (dk_at dksX7_init_0 6 rfl rfl)
theorem dX7_init_7 : decode cX7_init 7 = .ok (.iload_n 2, 1) := dk_28 (dk_at dksX7_init_0 7 rfl rfl)
theorem dX7_init_8 : decode cX7_init 8 = .ok (.iload_n 3, 1) := dk_29 (dk_at dksX7_init_0 8 rfl rfl)
theorem dX7_init_9 : decode cX7_init 9 = .ok (.iload 4, 2) := dk_21 4 (dk_at dksX7_init_0 9 rfl rfl)
theorem dX7_init_11 : decode cX7_init 11 = .ok (.iload 5, 2) := dk_21 5 (dk_at dksX7_init_0 11 rfl rfl)
theorem dX7_init_13 : decode cX7_init 13 = .ok (.iload 6, 2) := dk_21 6 (dk_at dksX7_init_0 13 rfl rfl)
theorem dX7_init_15 : decode cX7_init 15 = .ok (.invokespecial 7, 3) := dk_183 0 7 (dk_at dksX7_init_0 15 rfl rfl)
theorem dX7_init_18 : decode cX7_init 18 = .ok (.return_, 1) := dk_177 (dk_at dksX7_init_0 18 rfl rfl)
abbrev cX7_said : ByteArray := prog_13_method_5_code
def yX7_said : MethodName := ⟨RX7, "said", "()I"⟩
def dkwX7_said_0 : List UInt8 := [42, 6, 182, 0, 17, 42, 183, 0, 21, 96, 42, 182, 0, 24, 96, 172]
abbrev dktX7_said_0 : List UInt8 := dkwX7_said_0 ++ []
theorem dksX7_said_0 : cX7_said.data.toList.drop 0 = dktX7_said_0 := by decide +kernel
theorem dX7_said_0 : decode cX7_said 0 = .ok (.aload_n 0, 1) := dk_42 (dk_at dksX7_said_0 0 rfl rfl)
theorem dX7_said_1 : decode cX7_said 1 = .ok (.iconst 3, 1) := dk_6 (dk_at dksX7_said_0 1 rfl rfl)
theorem dX7_said_2 : decode cX7_said 2 = .ok (.invokevirtual 17, 3) := dk_182 0 17 (dk_at dksX7_said_0 2 rfl rfl)
theorem dX7_said_5 : decode cX7_said 5 = .ok (.aload_n 0, 1) := dk_42 (dk_at dksX7_said_0 5 rfl rfl)
theorem dX7_said_6 : decode cX7_said 6 = .ok (.invokespecial 21, 3) := dk_183 0 21 (dk_at dksX7_said_0 6 rfl rfl)
theorem dX7_said_9 : decode cX7_said 9 = .ok (.iadd, 1) := dk_96 (dk_at dksX7_said_0 9 rfl rfl)
theorem dX7_said_10 : decode cX7_said 10 = .ok (.aload_n 0, 1) := dk_42 (dk_at dksX7_said_0 10 rfl rfl)
theorem dX7_said_11 : decode cX7_said 11 = .ok (.invokevirtual 24, 3) := dk_182 0 24 (dk_at dksX7_said_0 11 rfl rfl)
theorem dX7_said_14 : decode cX7_said 14 = .ok (.iadd, 1) := dk_96 (dk_at dksX7_said_0 14 rfl rfl)
theorem dX7_said_15 : decode cX7_said 15 = .ok (.ireturn, 1) := dk_172 (dk_at dksX7_said_0 15 rfl rfl)
abbrev cX7_marked : ByteArray := prog_13_method_6_code
def yX7_marked : MethodName := ⟨RX7, "marked", "()I"⟩
def dkwX7_marked_0 : List UInt8 := [42, 8, 182, 0, 17, 16, 80, 96, 172]
abbrev dktX7_marked_0 : List UInt8 := dkwX7_marked_0 ++ []
theorem dksX7_marked_0 : cX7_marked.data.toList.drop 0 = dktX7_marked_0 := by decide +kernel
theorem dX7_marked_0 : decode cX7_marked 0 = .ok (.aload_n 0, 1) := dk_42 (dk_at dksX7_marked_0 0 rfl rfl)
theorem dX7_marked_1 : decode cX7_marked 1 = .ok (.iconst 5, 1) := dk_8 (dk_at dksX7_marked_0 1 rfl rfl)
theorem dX7_marked_2 : decode cX7_marked 2 = .ok (.invokevirtual 17, 3) := dk_182 0 17 (dk_at dksX7_marked_0 2 rfl rfl)
theorem dX7_marked_5 : decode cX7_marked 5 = .ok (.bipush 80, 2) := dk_16 80 (dk_at dksX7_marked_0 5 rfl rfl)
theorem dX7_marked_7 : decode cX7_marked 7 = .ok (.iadd, 1) := dk_96 (dk_at dksX7_marked_0 7 rfl rfl)
theorem dX7_marked_8 : decode cX7_marked 8 = .ok (.ireturn, 1) := dk_172 (dk_at dksX7_marked_0 8 rfl rfl)
theorem q76 : (Jvm.Cond.initialized "CheeseValleys$Tunnel") ∈ lw_all := lw_g (lw_at lw_m1 25 rfl) rfl
theorem q216 : (Jvm.Cond.selects "CheeseValleys$Tunnel" ({ cls := "CheeseValleys$Pass", name := "kind", desc := "()I" } : Jvm.MethodName) ({ cls := "CheeseValleys$Tunnel", name := "kind", desc := "()I" } : Jvm.MethodName)) ∈ lw_all := lw_g (lw_at lw_m1 165 rfl) rfl
theorem q217 : (Jvm.Cond.instanceMethod ({ cls := "CheeseValleys$Tunnel", name := "kind", desc := "()I" } : Jvm.MethodName)) ∈ lw_all := lw_g (lw_at lw_m1 166 rfl) rfl
theorem q218 : (Jvm.Cond.code ({ cls := "CheeseValleys$Tunnel", name := "kind", desc := "()I" } : Jvm.MethodName) prog_13_method_2_code (1 : Nat) (Option.some Jvm.ClassFile.FieldType.int)) ∈ lw_all := lw_g (lw_at lw_m1 167 rfl) rfl
theorem q231 : (Jvm.Cond.selects "CheeseValleys$Tunnel" ({ cls := "CheeseValleys$Steep", name := "plainlyLasts", desc := "()I" } : Jvm.MethodName) ({ cls := "CheeseValleys$Steep", name := "plainlyLasts", desc := "()I" } : Jvm.MethodName)) ∈ lw_all := lw_g (lw_at lw_m1 180 rfl) rfl
theorem q235 : (Jvm.Cond.selects "CheeseValleys$Tunnel" ({ cls := "CheeseValleys$Pass", name := "lasts", desc := "()I" } : Jvm.MethodName) ({ cls := "CheeseValleys$Tunnel", name := "lasts", desc := "()I" } : Jvm.MethodName)) ∈ lw_all := lw_g (lw_at lw_m1 184 rfl) rfl
theorem q236 : (Jvm.Cond.instanceMethod ({ cls := "CheeseValleys$Tunnel", name := "lasts", desc := "()I" } : Jvm.MethodName)) ∈ lw_all := lw_g (lw_at lw_m1 185 rfl) rfl
theorem q237 : (Jvm.Cond.code ({ cls := "CheeseValleys$Tunnel", name := "lasts", desc := "()I" } : Jvm.MethodName) prog_13_method_3_code (1 : Nat) (Option.some Jvm.ClassFile.FieldType.int)) ∈ lw_all := lw_g (lw_at lw_m1 186 rfl) rfl
theorem q238 : (Jvm.Cond.methodLink "CheeseValleys$Tunnel" (13 : Nat) ({ cls := "CheeseValleys$Tunnel", name := "plainlyLasts", desc := "()I" } : Jvm.MethodName)) ∈ lw_all := lw_g (lw_at lw_m1 187 rfl) rfl
theorem q239 : (Jvm.Cond.sameMethod "CheeseValleys$Tunnel" "CheeseValleys$Steep" "plainlyLasts" "()I") ∈ lw_all := lw_g (lw_at lw_m1 188 rfl) rfl
theorem q241 : (Jvm.Cond.selects "CheeseValleys$Tunnel" ({ cls := "CheeseValleys$Tunnel", name := "plainlyLasts", desc := "()I" } : Jvm.MethodName) ({ cls := "CheeseValleys$Steep", name := "plainlyLasts", desc := "()I" } : Jvm.MethodName)) ∈ lw_all := lw_g (lw_at lw_m1 190 rfl) rfl
theorem q283 : (Jvm.Cond.selects "CheeseValleys$Tunnel" ({ cls := "CheeseValleys$Pass", name := "isOpen", desc := "(I)Z" } : Jvm.MethodName) ({ cls := "CheeseValleys$Pass", name := "isOpen", desc := "(I)Z" } : Jvm.MethodName)) ∈ lw_all := lw_g (lw_at lw_m1 232 rfl) rfl
theorem q290 : (Jvm.Cond.selects "CheeseValleys$Tunnel" ({ cls := "CheeseValleys$Pass", name := "isOver", desc := "(I)Z" } : Jvm.MethodName) ({ cls := "CheeseValleys$Tunnel", name := "isOver", desc := "(I)Z" } : Jvm.MethodName)) ∈ lw_all := lw_g (lw_at lw_m1 239 rfl) rfl
theorem q291 : (Jvm.Cond.instanceMethod ({ cls := "CheeseValleys$Tunnel", name := "isOver", desc := "(I)Z" } : Jvm.MethodName)) ∈ lw_all := lw_g (lw_at lw_m2 0 rfl) rfl
theorem q292 : (Jvm.Cond.code ({ cls := "CheeseValleys$Tunnel", name := "isOver", desc := "(I)Z" } : Jvm.MethodName) prog_13_method_4_code (2 : Nat) (Option.some Jvm.ClassFile.FieldType.boolean)) ∈ lw_all := lw_g (lw_at lw_m2 1 rfl) rfl
theorem q328 : (Jvm.Cond.selects "CheeseValleys$Tunnel" ({ cls := "CheeseValleys$Pass", name := "beyond", desc := "(I)I" } : Jvm.MethodName) ({ cls := "CheeseValleys$Pass", name := "beyond", desc := "(I)I" } : Jvm.MethodName)) ∈ lw_all := lw_g (lw_at lw_m2 37 rfl) rfl
theorem q427 : (Jvm.Cond.selects "CheeseValleys$Tunnel" ({ cls := "java/lang/Object", name := "getClass", desc := "()Ljava/lang/Class;" } : Jvm.MethodName) ({ cls := "java/lang/Object", name := "getClass", desc := "()Ljava/lang/Class;" } : Jvm.MethodName)) ∈ lw_all := lw_g (lw_at lw_m2 136 rfl) rfl
theorem q497 : (Jvm.Cond.sameField "CheeseValleys$Tunnel" "CheeseValleys$Pass" "number" "I") ∈ lw_all := lw_g (lw_at lw_m2 206 rfl) rfl
theorem q541 : (Jvm.Cond.instantiable "CheeseValleys$Tunnel" (9 : Nat)) ∈ lw_all := lw_g (lw_at lw_m3 10 rfl) rfl
theorem q543 : (Jvm.Cond.instanceMethod ({ cls := "CheeseValleys$Tunnel", name := "<init>", desc := "(LCheeseValleys;IIIII)V" } : Jvm.MethodName)) ∈ lw_all := lw_g (lw_at lw_m3 12 rfl) rfl
theorem q544 : (Jvm.Cond.code ({ cls := "CheeseValleys$Tunnel", name := "<init>", desc := "(LCheeseValleys;IIIII)V" } : Jvm.MethodName) prog_13_method_1_code (7 : Nat) (Option.none : Option Jvm.ClassFile.FieldType)) ∈ lw_all := lw_g (lw_at lw_m3 13 rfl) rfl
theorem q545 : (Jvm.Cond.methodLink "CheeseValleys$Tunnel" (7 : Nat) ({ cls := "CheeseValleys$Steep", name := "<init>", desc := "(LCheeseValleys;IIIII)V" } : Jvm.MethodName)) ∈ lw_all := lw_g (lw_at lw_m3 14 rfl) rfl
theorem q546 : (Jvm.Cond.fieldLink "CheeseValleys$Tunnel" (1 : Nat) "CheeseValleys$Tunnel" "this$0" "LCheeseValleys;") ∈ lw_all := lw_g (lw_at lw_m3 15 rfl) rfl
theorem q547 : (Jvm.Cond.laysFinal "CheeseValleys$Tunnel" "CheeseValleys$Tunnel" "this$0" "LCheeseValleys;") ∈ lw_all := lw_g (lw_at lw_m3 16 rfl) rfl
theorem q548 : (Jvm.Cond.soleField "CheeseValleys$Tunnel" "this$0") ∈ lw_all := lw_g (lw_at lw_m3 17 rfl) rfl
theorem q549 : (Jvm.Cond.laysFinal "CheeseValleys$Tunnel" "CheeseValleys$Steep" "this$0" "LCheeseValleys;") ∈ lw_all := lw_g (lw_at lw_m3 18 rfl) rfl
theorem q550 : (Jvm.Cond.laysFinal "CheeseValleys$Tunnel" "CheeseValleys$Pass" "number" "I") ∈ lw_all := lw_g (lw_at lw_m3 19 rfl) rfl
theorem q551 : (Jvm.Cond.laysFinal "CheeseValleys$Tunnel" "CheeseValleys$Pass" "from" "I") ∈ lw_all := lw_g (lw_at lw_m3 20 rfl) rfl
theorem q552 : (Jvm.Cond.laysFinal "CheeseValleys$Tunnel" "CheeseValleys$Pass" "to" "I") ∈ lw_all := lw_g (lw_at lw_m3 21 rfl) rfl
theorem q553 : (Jvm.Cond.laysFinal "CheeseValleys$Tunnel" "CheeseValleys$Pass" "length" "I") ∈ lw_all := lw_g (lw_at lw_m3 22 rfl) rfl
theorem q554 : (Jvm.Cond.lays "CheeseValleys$Tunnel" "CheeseValleys$Pass" "high" "I") ∈ lw_all := lw_g (lw_at lw_m3 23 rfl) rfl
theorem q555 : (Jvm.Cond.lays "CheeseValleys$Tunnel" "CheeseValleys$Pass" "isShut" "Z") ∈ lw_all := lw_g (lw_at lw_m3 24 rfl) rfl
theorem q556 : (Jvm.Cond.laysFinal "CheeseValleys$Tunnel" "CheeseValleys$Pass" "this$0" "LCheeseValleys;") ∈ lw_all := lw_g (lw_at lw_m3 25 rfl) rfl
theorem q557 : (Jvm.Cond.superclass "CheeseValleys$Tunnel" "CheeseValleys$Steep") ∈ lw_all := lw_g (lw_at lw_m3 26 rfl) rfl
theorem q1042 : (Jvm.Cond.selects "CheeseValleys$Tunnel" ({ cls := "CheeseValleys$Steep", name := "tracedBy", desc := "(I)I" } : Jvm.MethodName) ({ cls := "CheeseValleys$Pass", name := "tracedBy", desc := "(I)I" } : Jvm.MethodName)) ∈ lw_all := lw_g (lw_at lw_m5 31 rfl) rfl
theorem q1046 : (Jvm.Cond.selects "CheeseValleys$Tunnel" ({ cls := "CheeseValleys$Pass", name := "said", desc := "()I" } : Jvm.MethodName) ({ cls := "CheeseValleys$Tunnel", name := "said", desc := "()I" } : Jvm.MethodName)) ∈ lw_all := lw_g (lw_at lw_m5 35 rfl) rfl
theorem q1047 : (Jvm.Cond.instanceMethod ({ cls := "CheeseValleys$Tunnel", name := "said", desc := "()I" } : Jvm.MethodName)) ∈ lw_all := lw_g (lw_at lw_m5 36 rfl) rfl
theorem q1048 : (Jvm.Cond.code ({ cls := "CheeseValleys$Tunnel", name := "said", desc := "()I" } : Jvm.MethodName) prog_13_method_5_code (1 : Nat) (Option.some Jvm.ClassFile.FieldType.int)) ∈ lw_all := lw_g (lw_at lw_m5 37 rfl) rfl
theorem q1049 : (Jvm.Cond.methodLink "CheeseValleys$Tunnel" (17 : Nat) ({ cls := "CheeseValleys$Tunnel", name := "tracedBy", desc := "(I)I" } : Jvm.MethodName)) ∈ lw_all := lw_g (lw_at lw_m5 38 rfl) rfl
theorem q1050 : (Jvm.Cond.sameMethod "CheeseValleys$Tunnel" "CheeseValleys$Pass" "tracedBy" "(I)I") ∈ lw_all := lw_g (lw_at lw_m5 39 rfl) rfl
theorem q1051 : (Jvm.Cond.selects "CheeseValleys$Tunnel" ({ cls := "CheeseValleys$Tunnel", name := "tracedBy", desc := "(I)I" } : Jvm.MethodName) ({ cls := "CheeseValleys$Pass", name := "tracedBy", desc := "(I)I" } : Jvm.MethodName)) ∈ lw_all := lw_g (lw_at lw_m5 40 rfl) rfl
theorem q1052 : (Jvm.Cond.methodLink "CheeseValleys$Tunnel" (21 : Nat) ({ cls := "CheeseValleys$Steep", name := "said", desc := "()I" } : Jvm.MethodName)) ∈ lw_all := lw_g (lw_at lw_m5 41 rfl) rfl
theorem q1053 : (Jvm.Cond.methodLink "CheeseValleys$Tunnel" (24 : Nat) ({ cls := "CheeseValleys$Tunnel", name := "plainly", desc := "()I" } : Jvm.MethodName)) ∈ lw_all := lw_g (lw_at lw_m5 42 rfl) rfl
theorem q1054 : (Jvm.Cond.sameMethod "CheeseValleys$Tunnel" "CheeseValleys$Steep" "plainly" "()I") ∈ lw_all := lw_g (lw_at lw_m5 43 rfl) rfl
theorem q1056 : (Jvm.Cond.selects "CheeseValleys$Tunnel" ({ cls := "CheeseValleys$Tunnel", name := "plainly", desc := "()I" } : Jvm.MethodName) ({ cls := "CheeseValleys$Steep", name := "plainly", desc := "()I" } : Jvm.MethodName)) ∈ lw_all := lw_g (lw_at lw_m5 45 rfl) rfl
theorem q1085 : (Jvm.Cond.castable "CheeseValleys$Tunnel" "CheeseValleys$Marked") ∈ lw_tbl := lw_at lw_m5 74 rfl
theorem q1086 : (Jvm.Cond.selects "CheeseValleys$Tunnel" ({ cls := "CheeseValleys$Marked", name := "tracedBy", desc := "(I)I" } : Jvm.MethodName) ({ cls := "CheeseValleys$Pass", name := "tracedBy", desc := "(I)I" } : Jvm.MethodName)) ∈ lw_all := lw_g (lw_at lw_m5 75 rfl) rfl
theorem q1087 : (Jvm.Cond.unhidden "CheeseValleys$Tunnel" "tracedBy" "(I)I") ∈ lw_tbl := lw_at lw_m5 76 rfl
theorem q1099 : (Jvm.Cond.selects "CheeseValleys$Tunnel" ({ cls := "CheeseValleys$Marked", name := "number", desc := "()I" } : Jvm.MethodName) ({ cls := "CheeseValleys$Pass", name := "number", desc := "()I" } : Jvm.MethodName)) ∈ lw_all := lw_g (lw_at lw_m5 88 rfl) rfl
theorem q1100 : (Jvm.Cond.unhidden "CheeseValleys$Tunnel" "number" "()I") ∈ lw_tbl := lw_at lw_m5 89 rfl
theorem q1102 : (Jvm.Cond.selects "CheeseValleys$Tunnel" ({ cls := "CheeseValleys$Marked", name := "marked", desc := "()I" } : Jvm.MethodName) ({ cls := "CheeseValleys$Tunnel", name := "marked", desc := "()I" } : Jvm.MethodName)) ∈ lw_all := lw_g (lw_at lw_m5 91 rfl) rfl
theorem q1103 : (Jvm.Cond.unhidden "CheeseValleys$Tunnel" "marked" "()I") ∈ lw_tbl := lw_at lw_m5 92 rfl
theorem q1104 : (Jvm.Cond.instanceMethod ({ cls := "CheeseValleys$Tunnel", name := "marked", desc := "()I" } : Jvm.MethodName)) ∈ lw_all := lw_g (lw_at lw_m5 93 rfl) rfl
theorem q1105 : (Jvm.Cond.publicMethod ({ cls := "CheeseValleys$Tunnel", name := "marked", desc := "()I" } : Jvm.MethodName)) ∈ lw_tbl := lw_at lw_m5 94 rfl
theorem q1106 : (Jvm.Cond.code ({ cls := "CheeseValleys$Tunnel", name := "marked", desc := "()I" } : Jvm.MethodName) prog_13_method_6_code (1 : Nat) (Option.some Jvm.ClassFile.FieldType.int)) ∈ lw_all := lw_g (lw_at lw_m5 95 rfl) rfl
theorem q1490 : (Jvm.Cond.selects "CheeseValleys$Tunnel" ({ cls := "CheeseValleys$Pass", name := "tracedBy", desc := "(I)I" } : Jvm.MethodName) ({ cls := "CheeseValleys$Pass", name := "tracedBy", desc := "(I)I" } : Jvm.MethodName)) ∈ lw_all := lw_g (lw_at lw_m6 239 rfl) rfl
theorem q1493 : (Jvm.Cond.castable "CheeseValleys$Tunnel" "CheeseValleys$Pass") ∈ lw_tbl := lw_at lw_m7 2 rfl
theorem q1494 : (Jvm.Cond.castable "CheeseValleys$Tunnel" "CheeseValleys$Steep") ∈ lw_tbl := lw_at lw_m7 3 rfl
theorem q1508 : (Jvm.Cond.castable "CheeseValleys$Tunnel" "java/lang/Object") ∈ lw_tbl := lw_at lw_m7 17 rfl
theorem in_X7 : ∀ w ∈ wsX70, w ∈ lw_all := lw_in wsX70 [550, 551, 552, 553, 554, 555, 556, 549, 547] (by decide +kernel) (by decide +kernel)

/-! CheeseValleys$Going -/
set_option maxRecDepth 100000
def RX8 : String := "CheeseValleys$Going"
def TX8 : u_T := fun k => match k with
  | 0 => ("CheeseValleys$Looking", "sheet", "I", true)
  | 1 => ("CheeseValleys$Looking", "lane", "I", true)
  | 2 => ("CheeseValleys$Looking", "i", "I", true)
  | 3 => ("CheeseValleys$Looking", "n", "I", true)
  | 4 => ("CheeseValleys$Looking", "this$0", "LCheeseValleys;", true)
  | 5 => ("CheeseValleys$Act", "this$0", "LCheeseValleys;", true)
  | 6 => ("CheeseValleys$Going", "day", "I", true)
  | 7 => ("CheeseValleys$Going", "what", "I", true)
  | _ => ("CheeseValleys$Going", "this$0", "LCheeseValleys;", true)
def tyX8 : Nat → FieldType := fun k => match k with
  | 0 => .int
  | 1 => .int
  | 2 => .int
  | 3 => .int
  | 4 => .object "CheeseValleys"
  | 5 => .object "CheeseValleys"
  | 6 => .int
  | 7 => .int
  | _ => .object "CheeseValleys"
abbrev wsX80 : List Cond := u_ws RX8 TX8 9
-- two fields of one name: no nmX8
theorem tyX8_ok : ∀ k, k < 9 → parseFieldDescriptor (TX8 k).2.2.1 = some (tyX8 k) := by decide +kernel
abbrev cX8_lookAt : ByteArray := prog_4_method_2_code
def yX8_lookAt : MethodName := ⟨RX8, "lookAt", "([I)I"⟩
def dkwX8_lookAt_1 : List UInt8 := [180, 0, 13, 42, 180, 0, 17, 182, 0, 26, 172]
abbrev dktX8_lookAt_1 : List UInt8 := dkwX8_lookAt_1 ++ []
def dkwX8_lookAt_0 : List UInt8 := [42, 180, 0, 1, 43, 182, 0, 20, 61, 28, 156, 0, 7, 28, 167, 0, 19, 42, 180, 0, 1, 43, 42]
abbrev dktX8_lookAt_0 : List UInt8 := dkwX8_lookAt_0 ++ dktX8_lookAt_1
theorem dksX8_lookAt_0 : cX8_lookAt.data.toList.drop 0 = dktX8_lookAt_0 := by decide +kernel
theorem dksX8_lookAt_1 : cX8_lookAt.data.toList.drop 23 = dktX8_lookAt_1 := dk_seg dksX8_lookAt_0 23 rfl rfl
theorem dX8_lookAt_0 : decode cX8_lookAt 0 = .ok (.aload_n 0, 1) := dk_42 (dk_at dksX8_lookAt_0 0 rfl rfl)
theorem dX8_lookAt_1 : decode cX8_lookAt 1 = .ok (.getfield 1, 3) := dk_180 0 1 (dk_at dksX8_lookAt_0 1 rfl rfl)
theorem dX8_lookAt_4 : decode cX8_lookAt 4 = .ok (.aload_n 1, 1) := dk_43 (dk_at dksX8_lookAt_0 4 rfl rfl)
theorem dX8_lookAt_5 : decode cX8_lookAt 5 = .ok (.invokevirtual 20, 3) := dk_182 0 20 (dk_at dksX8_lookAt_0 5 rfl rfl)
theorem dX8_lookAt_8 : decode cX8_lookAt 8 = .ok (.istore_n 2, 1) := dk_61 (dk_at dksX8_lookAt_0 8 rfl rfl)
theorem dX8_lookAt_9 : decode cX8_lookAt 9 = .ok (.iload_n 2, 1) := dk_28 (dk_at dksX8_lookAt_0 9 rfl rfl)
theorem dX8_lookAt_10 : decode cX8_lookAt 10 = .ok (.ifCond .ge 7, 3) := dk_156 0 7 (dk_at dksX8_lookAt_0 10 rfl rfl)
theorem dX8_lookAt_13 : decode cX8_lookAt 13 = .ok (.iload_n 2, 1) := dk_28 (dk_at dksX8_lookAt_0 13 rfl rfl)
theorem dX8_lookAt_14 : decode cX8_lookAt 14 = .ok (.goto 19, 3) := dk_167 0 19 (dk_at dksX8_lookAt_0 14 rfl rfl)
theorem dX8_lookAt_17 : decode cX8_lookAt 17 = .ok (.aload_n 0, 1) := dk_42 (dk_at dksX8_lookAt_0 17 rfl rfl)
theorem dX8_lookAt_18 : decode cX8_lookAt 18 = .ok (.getfield 1, 3) := dk_180 0 1 (dk_at dksX8_lookAt_0 18 rfl rfl)
theorem dX8_lookAt_21 : decode cX8_lookAt 21 = .ok (.aload_n 1, 1) := dk_43 (dk_at dksX8_lookAt_0 21 rfl rfl)
theorem dX8_lookAt_22 : decode cX8_lookAt 22 = .ok (.aload_n 0, 1) := dk_42 (dk_at dksX8_lookAt_0 22 rfl rfl)
theorem dX8_lookAt_23 : decode cX8_lookAt 23 = .ok (.getfield 13, 3) := dk_180 0 13 (dk_at dksX8_lookAt_1 0 rfl rfl)
theorem dX8_lookAt_26 : decode cX8_lookAt 26 = .ok (.aload_n 0, 1) := dk_42 (dk_at dksX8_lookAt_1 3 rfl rfl)
theorem dX8_lookAt_27 : decode cX8_lookAt 27 = .ok (.getfield 17, 3) := dk_180 0 17 (dk_at dksX8_lookAt_1 4 rfl rfl)
theorem dX8_lookAt_30 : decode cX8_lookAt 30 = .ok (.invokevirtual 26, 3) := dk_182 0 26 (dk_at dksX8_lookAt_1 7 rfl rfl)
theorem dX8_lookAt_33 : decode cX8_lookAt 33 = .ok (.ireturn, 1) := dk_172 (dk_at dksX8_lookAt_1 10 rfl rfl)
abbrev cX8_init : ByteArray := prog_4_method_1_code
def yX8_init : MethodName := ⟨RX8, "<init>", "(LCheeseValleys;IIIIII)V"⟩
def dkwX8_init_1 : List UInt8 := [21, 7, 181, 0, 17, 177]
abbrev dktX8_init_1 : List UInt8 := dkwX8_init_1 ++ []
def dkwX8_init_0 : List UInt8 := [42, 43, 181, 0, 1, 42, 43, 28, 29, 21, 4, 21, 5, 183, 0, 7, 42, 21, 6, 181, 0, 13, 42]
abbrev dktX8_init_0 : List UInt8 := dkwX8_init_0 ++ dktX8_init_1
theorem dksX8_init_0 : cX8_init.data.toList.drop 0 = dktX8_init_0 := by decide +kernel
theorem dksX8_init_1 : cX8_init.data.toList.drop 23 = dktX8_init_1 := dk_seg dksX8_init_0 23 rfl rfl
theorem dX8_init_0 : decode cX8_init 0 = .ok (.aload_n 0, 1) := dk_42 (dk_at dksX8_init_0 0 rfl rfl)
theorem dX8_init_1 : decode cX8_init 1 = .ok (.aload_n 1, 1) := dk_43 (dk_at dksX8_init_0 1 rfl rfl)
theorem dX8_init_2 : decode cX8_init 2 = .ok (.putfield 1, 3) := dk_181 0 1 (dk_at dksX8_init_0 2 rfl rfl)
theorem dX8_init_5 : decode cX8_init 5 = .ok (.aload_n 0, 1) := dk_42 (dk_at dksX8_init_0 5 rfl rfl)
theorem dX8_init_6 : decode cX8_init 6 = .ok (.aload_n 1, 1) := dk_43 (dk_at dksX8_init_0 6 rfl rfl)
theorem dX8_init_7 : decode cX8_init 7 = .ok (.iload_n 2, 1) := dk_28 (dk_at dksX8_init_0 7 rfl rfl)
theorem dX8_init_8 : decode cX8_init 8 = .ok (.iload_n 3, 1) := dk_29 (dk_at dksX8_init_0 8 rfl rfl)
theorem dX8_init_9 : decode cX8_init 9 = .ok (.iload 4, 2) := dk_21 4 (dk_at dksX8_init_0 9 rfl rfl)
theorem dX8_init_11 : decode cX8_init 11 = .ok (.iload 5, 2) := dk_21 5 (dk_at dksX8_init_0 11 rfl rfl)
theorem dX8_init_13 : decode cX8_init 13 = .ok (.invokespecial 7, 3) := dk_183 0 7 (dk_at dksX8_init_0 13 rfl rfl)
theorem dX8_init_16 : decode cX8_init 16 = .ok (.aload_n 0, 1) := dk_42 (dk_at dksX8_init_0 16 rfl rfl)
theorem dX8_init_17 : decode cX8_init 17 = .ok (.iload 6, 2) := dk_21 6 (dk_at dksX8_init_0 17 rfl rfl)
theorem dX8_init_19 : decode cX8_init 19 = .ok (.putfield 13, 3) := dk_181 0 13 (dk_at dksX8_init_0 19 rfl rfl)
theorem dX8_init_22 : decode cX8_init 22 = .ok (.aload_n 0, 1) := dk_42 (dk_at dksX8_init_0 22 rfl rfl)
theorem dX8_init_23 : decode cX8_init 23 = .ok (.iload 7, 2) := dk_21 7 (dk_at dksX8_init_1 0 rfl rfl)
theorem dX8_init_25 : decode cX8_init 25 = .ok (.putfield 17, 3) := dk_181 0 17 (dk_at dksX8_init_1 2 rfl rfl)
theorem dX8_init_28 : decode cX8_init 28 = .ok (.return_, 1) := dk_177 (dk_at dksX8_init_1 5 rfl rfl)
theorem q79 : (Jvm.Cond.initialized "CheeseValleys$Going") ∈ lw_all := lw_g (lw_at lw_m1 28 rfl) rfl
theorem q420 : (Jvm.Cond.selects "CheeseValleys$Going" ({ cls := "java/lang/Object", name := "getClass", desc := "()Ljava/lang/Class;" } : Jvm.MethodName) ({ cls := "java/lang/Object", name := "getClass", desc := "()Ljava/lang/Class;" } : Jvm.MethodName)) ∈ lw_all := lw_g (lw_at lw_m2 129 rfl) rfl
theorem q830 : (Jvm.Cond.selects "CheeseValleys$Going" ({ cls := "CheeseValleys$Looking", name := "tried", desc := "()I" } : Jvm.MethodName) ({ cls := "CheeseValleys$Act", name := "tried", desc := "()I" } : Jvm.MethodName)) ∈ lw_all := lw_g (lw_at lw_m4 59 rfl) rfl
theorem q860 : (Jvm.Cond.selects "CheeseValleys$Going" ({ cls := "CheeseValleys$Act", name := "done", desc := "()I" } : Jvm.MethodName) ({ cls := "CheeseValleys$Looking", name := "done", desc := "()I" } : Jvm.MethodName)) ∈ lw_all := lw_g (lw_at lw_m4 89 rfl) rfl
theorem q888 : (Jvm.Cond.selects "CheeseValleys$Going" ({ cls := "CheeseValleys$Looking", name := "lookAt", desc := "([I)I" } : Jvm.MethodName) ({ cls := "CheeseValleys$Going", name := "lookAt", desc := "([I)I" } : Jvm.MethodName)) ∈ lw_all := lw_g (lw_at lw_m4 117 rfl) rfl
theorem q889 : (Jvm.Cond.instanceMethod ({ cls := "CheeseValleys$Going", name := "lookAt", desc := "([I)I" } : Jvm.MethodName)) ∈ lw_all := lw_g (lw_at lw_m4 118 rfl) rfl
theorem q890 : (Jvm.Cond.code ({ cls := "CheeseValleys$Going", name := "lookAt", desc := "([I)I" } : Jvm.MethodName) prog_4_method_2_code (3 : Nat) (Option.some Jvm.ClassFile.FieldType.int)) ∈ lw_all := lw_g (lw_at lw_m4 119 rfl) rfl
theorem q891 : (Jvm.Cond.methodLinkNest "CheeseValleys$Going" (20 : Nat) ({ cls := "CheeseValleys", name := "stepsBarred", desc := "([I)I" } : Jvm.MethodName) "CheeseValleys") ∈ lw_tbl := lw_at lw_m4 120 rfl
theorem q896 : (Jvm.Cond.methodLinkNest "CheeseValleys$Going" (26 : Nat) ({ cls := "CheeseValleys", name := "wayBy", desc := "([III)I" } : Jvm.MethodName) "CheeseValleys") ∈ lw_tbl := lw_at lw_m4 125 rfl
theorem q971 : (Jvm.Cond.instantiable "CheeseValleys$Going" (9 : Nat)) ∈ lw_all := lw_g (lw_at lw_m4 200 rfl) rfl
theorem q973 : (Jvm.Cond.instanceMethod ({ cls := "CheeseValleys$Going", name := "<init>", desc := "(LCheeseValleys;IIIIII)V" } : Jvm.MethodName)) ∈ lw_all := lw_g (lw_at lw_m4 202 rfl) rfl
theorem q974 : (Jvm.Cond.code ({ cls := "CheeseValleys$Going", name := "<init>", desc := "(LCheeseValleys;IIIIII)V" } : Jvm.MethodName) prog_4_method_1_code (8 : Nat) (Option.none : Option Jvm.ClassFile.FieldType)) ∈ lw_all := lw_g (lw_at lw_m4 203 rfl) rfl
theorem q975 : (Jvm.Cond.methodLink "CheeseValleys$Going" (7 : Nat) ({ cls := "CheeseValleys$Looking", name := "<init>", desc := "(LCheeseValleys;IIII)V" } : Jvm.MethodName)) ∈ lw_all := lw_g (lw_at lw_m4 204 rfl) rfl
theorem q976 : (Jvm.Cond.fieldLink "CheeseValleys$Going" (13 : Nat) "CheeseValleys$Going" "day" "I") ∈ lw_all := lw_g (lw_at lw_m4 205 rfl) rfl
theorem q977 : (Jvm.Cond.fieldLink "CheeseValleys$Going" (17 : Nat) "CheeseValleys$Going" "what" "I") ∈ lw_all := lw_g (lw_at lw_m4 206 rfl) rfl
theorem q978 : (Jvm.Cond.fieldLink "CheeseValleys$Going" (1 : Nat) "CheeseValleys$Going" "this$0" "LCheeseValleys;") ∈ lw_all := lw_g (lw_at lw_m4 207 rfl) rfl
theorem q979 : (Jvm.Cond.laysFinal "CheeseValleys$Going" "CheeseValleys$Going" "day" "I") ∈ lw_all := lw_g (lw_at lw_m4 208 rfl) rfl
theorem q980 : (Jvm.Cond.soleField "CheeseValleys$Going" "day") ∈ lw_all := lw_g (lw_at lw_m4 209 rfl) rfl
theorem q981 : (Jvm.Cond.laysFinal "CheeseValleys$Going" "CheeseValleys$Going" "what" "I") ∈ lw_all := lw_g (lw_at lw_m4 210 rfl) rfl
theorem q982 : (Jvm.Cond.soleField "CheeseValleys$Going" "what") ∈ lw_all := lw_g (lw_at lw_m4 211 rfl) rfl
theorem q983 : (Jvm.Cond.laysFinal "CheeseValleys$Going" "CheeseValleys$Going" "this$0" "LCheeseValleys;") ∈ lw_all := lw_g (lw_at lw_m4 212 rfl) rfl
theorem q984 : (Jvm.Cond.soleField "CheeseValleys$Going" "this$0") ∈ lw_all := lw_g (lw_at lw_m4 213 rfl) rfl
theorem q985 : (Jvm.Cond.laysFinal "CheeseValleys$Going" "CheeseValleys$Looking" "sheet" "I") ∈ lw_all := lw_g (lw_at lw_m4 214 rfl) rfl
theorem q986 : (Jvm.Cond.laysFinal "CheeseValleys$Going" "CheeseValleys$Looking" "lane" "I") ∈ lw_all := lw_g (lw_at lw_m4 215 rfl) rfl
theorem q987 : (Jvm.Cond.laysFinal "CheeseValleys$Going" "CheeseValleys$Looking" "i" "I") ∈ lw_all := lw_g (lw_at lw_m4 216 rfl) rfl
theorem q988 : (Jvm.Cond.laysFinal "CheeseValleys$Going" "CheeseValleys$Looking" "n" "I") ∈ lw_all := lw_g (lw_at lw_m4 217 rfl) rfl
theorem q989 : (Jvm.Cond.laysFinal "CheeseValleys$Going" "CheeseValleys$Looking" "this$0" "LCheeseValleys;") ∈ lw_all := lw_g (lw_at lw_m4 218 rfl) rfl
theorem q990 : (Jvm.Cond.laysFinal "CheeseValleys$Going" "CheeseValleys$Act" "this$0" "LCheeseValleys;") ∈ lw_all := lw_g (lw_at lw_m4 219 rfl) rfl
theorem q991 : (Jvm.Cond.superclass "CheeseValleys$Going" "CheeseValleys$Looking") ∈ lw_all := lw_g (lw_at lw_m4 220 rfl) rfl
theorem q1509 : (Jvm.Cond.castable "CheeseValleys$Going" "java/lang/Object") ∈ lw_tbl := lw_at lw_m7 18 rfl
theorem in_X8 : ∀ w ∈ wsX80, w ∈ lw_all := lw_in wsX80 [985, 986, 987, 988, 989, 990, 979, 981, 983] (by decide +kernel) (by decide +kernel)

/-! CheeseValleys$Reading -/
set_option maxRecDepth 100000
def RX9 : String := "CheeseValleys$Reading"
def TX9 : u_T := fun k => match k with
  | 0 => ("CheeseValleys$Reading", "day", "I", true)
  | _ => ("CheeseValleys$Reading", "done", "I", true)
def tyX9 : Nat → FieldType := fun k => match k with
  | 0 => .int
  | _ => .int
abbrev wsX90 : List Cond := u_ws RX9 TX9 2
theorem nmX9 : ∀ a, a < 2 → ∀ b, b < 2 → a ≠ b → (TX9 a).2.1 ≠ (TX9 b).2.1 := by decide +kernel
theorem tyX9_ok : ∀ k, k < 2 → parseFieldDescriptor (TX9 k).2.2.1 = some (tyX9 k) := by decide +kernel
abbrev cX9_init : ByteArray := prog_9_method_1_code
def yX9_init : MethodName := ⟨RX9, "<init>", "(II)V"⟩
def dkwX9_init_0 : List UInt8 := [42, 183, 0, 1, 42, 27, 181, 0, 7, 42, 28, 181, 0, 13, 177]
abbrev dktX9_init_0 : List UInt8 := dkwX9_init_0 ++ []
theorem dksX9_init_0 : cX9_init.data.toList.drop 0 = dktX9_init_0 := by decide +kernel
theorem dX9_init_0 : decode cX9_init 0 = .ok (.aload_n 0, 1) := dk_42 (dk_at dksX9_init_0 0 rfl rfl)
theorem dX9_init_1 : decode cX9_init 1 = .ok (.invokespecial 1, 3) := dk_183 0 1 (dk_at dksX9_init_0 1 rfl rfl)
theorem dX9_init_4 : decode cX9_init 4 = .ok (.aload_n 0, 1) := dk_42 (dk_at dksX9_init_0 4 rfl rfl)
theorem dX9_init_5 : decode cX9_init 5 = .ok (.iload_n 1, 1) := dk_27 (dk_at dksX9_init_0 5 rfl rfl)
theorem dX9_init_6 : decode cX9_init 6 = .ok (.putfield 7, 3) := dk_181 0 7 (dk_at dksX9_init_0 6 rfl rfl)
theorem dX9_init_9 : decode cX9_init 9 = .ok (.aload_n 0, 1) := dk_42 (dk_at dksX9_init_0 9 rfl rfl)
theorem dX9_init_10 : decode cX9_init 10 = .ok (.iload_n 2, 1) := dk_28 (dk_at dksX9_init_0 10 rfl rfl)
theorem dX9_init_11 : decode cX9_init 11 = .ok (.putfield 13, 3) := dk_181 0 13 (dk_at dksX9_init_0 11 rfl rfl)
theorem dX9_init_14 : decode cX9_init 14 = .ok (.return_, 1) := dk_177 (dk_at dksX9_init_0 14 rfl rfl)
theorem q80 : (Jvm.Cond.initialized "CheeseValleys$Reading") ∈ lw_all := lw_g (lw_at lw_m1 29 rfl) rfl
theorem q367 : (Jvm.Cond.instantiable "CheeseValleys$Reading" (2 : Nat)) ∈ lw_all := lw_g (lw_at lw_m2 76 rfl) rfl
theorem q369 : (Jvm.Cond.instanceMethod ({ cls := "CheeseValleys$Reading", name := "<init>", desc := "(II)V" } : Jvm.MethodName)) ∈ lw_all := lw_g (lw_at lw_m2 78 rfl) rfl
theorem q370 : (Jvm.Cond.code ({ cls := "CheeseValleys$Reading", name := "<init>", desc := "(II)V" } : Jvm.MethodName) prog_9_method_1_code (3 : Nat) (Option.none : Option Jvm.ClassFile.FieldType)) ∈ lw_all := lw_g (lw_at lw_m2 79 rfl) rfl
theorem q371 : (Jvm.Cond.methodLink "CheeseValleys$Reading" (1 : Nat) ({ cls := "java/lang/Object", name := "<init>", desc := "()V" } : Jvm.MethodName)) ∈ lw_all := lw_g (lw_at lw_m2 80 rfl) rfl
theorem q372 : (Jvm.Cond.fieldLink "CheeseValleys$Reading" (7 : Nat) "CheeseValleys$Reading" "day" "I") ∈ lw_all := lw_g (lw_at lw_m2 81 rfl) rfl
theorem q374 : (Jvm.Cond.fieldLink "CheeseValleys$Reading" (13 : Nat) "CheeseValleys$Reading" "done" "I") ∈ lw_all := lw_g (lw_at lw_m2 83 rfl) rfl
theorem q376 : (Jvm.Cond.laysFinal "CheeseValleys$Reading" "CheeseValleys$Reading" "day" "I") ∈ lw_all := lw_g (lw_at lw_m2 85 rfl) rfl
theorem q377 : (Jvm.Cond.soleField "CheeseValleys$Reading" "day") ∈ lw_all := lw_g (lw_at lw_m2 86 rfl) rfl
theorem q378 : (Jvm.Cond.laysFinal "CheeseValleys$Reading" "CheeseValleys$Reading" "done" "I") ∈ lw_all := lw_g (lw_at lw_m2 87 rfl) rfl
theorem q379 : (Jvm.Cond.soleField "CheeseValleys$Reading" "done") ∈ lw_all := lw_g (lw_at lw_m2 88 rfl) rfl
theorem q380 : (Jvm.Cond.superclass "CheeseValleys$Reading" "java/lang/Object") ∈ lw_all := lw_g (lw_at lw_m2 89 rfl) rfl
theorem q423 : (Jvm.Cond.selects "CheeseValleys$Reading" ({ cls := "java/lang/Object", name := "getClass", desc := "()Ljava/lang/Class;" } : Jvm.MethodName) ({ cls := "java/lang/Object", name := "getClass", desc := "()Ljava/lang/Class;" } : Jvm.MethodName)) ∈ lw_all := lw_g (lw_at lw_m2 132 rfl) rfl
theorem q1510 : (Jvm.Cond.castable "CheeseValleys$Reading" "java/lang/Object") ∈ lw_tbl := lw_at lw_m7 19 rfl
theorem in_X9 : ∀ w ∈ wsX90, w ∈ lw_all := lw_in wsX90 [376, 378] (by decide +kernel) (by decide +kernel)

/-! CheeseValleys$Sheet -/
set_option maxRecDepth 100000
def RX10 : String := "CheeseValleys$Sheet"
def TX10 : u_T := fun k => match k with
  | _ => ("CheeseValleys$Sheet", "row", "Ljava/lang/Object;", true)
def tyX10 : Nat → FieldType := fun k => match k with
  | _ => .object "java/lang/Object"
abbrev wsX100 : List Cond := u_ws RX10 TX10 1
theorem nmX10 : ∀ a, a < 1 → ∀ b, b < 1 → a ≠ b → (TX10 a).2.1 ≠ (TX10 b).2.1 := by decide +kernel
theorem tyX10_ok : ∀ k, k < 1 → parseFieldDescriptor (TX10 k).2.2.1 = some (tyX10 k) := by decide +kernel
abbrev cX10_init : ByteArray := prog_10_method_1_code
def yX10_init : MethodName := ⟨RX10, "<init>", "(Ljava/lang/Object;)V"⟩
def dkwX10_init_0 : List UInt8 := [42, 183, 0, 1, 42, 43, 181, 0, 7, 177]
abbrev dktX10_init_0 : List UInt8 := dkwX10_init_0 ++ []
theorem dksX10_init_0 : cX10_init.data.toList.drop 0 = dktX10_init_0 := by decide +kernel
theorem dX10_init_0 : decode cX10_init 0 = .ok (.aload_n 0, 1) := dk_42 (dk_at dksX10_init_0 0 rfl rfl)
theorem dX10_init_1 : decode cX10_init 1 = .ok (.invokespecial 1, 3) := dk_183 0 1 (dk_at dksX10_init_0 1 rfl rfl)
theorem dX10_init_4 : decode cX10_init 4 = .ok (.aload_n 0, 1) := dk_42 (dk_at dksX10_init_0 4 rfl rfl)
theorem dX10_init_5 : decode cX10_init 5 = .ok (.aload_n 1, 1) := dk_43 (dk_at dksX10_init_0 5 rfl rfl)
theorem dX10_init_6 : decode cX10_init 6 = .ok (.putfield 7, 3) := dk_181 0 7 (dk_at dksX10_init_0 6 rfl rfl)
theorem dX10_init_9 : decode cX10_init 9 = .ok (.return_, 1) := dk_177 (dk_at dksX10_init_0 9 rfl rfl)
theorem q81 : (Jvm.Cond.initialized "CheeseValleys$Sheet") ∈ lw_all := lw_g (lw_at lw_m1 30 rfl) rfl
theorem q424 : (Jvm.Cond.selects "CheeseValleys$Sheet" ({ cls := "java/lang/Object", name := "getClass", desc := "()Ljava/lang/Class;" } : Jvm.MethodName) ({ cls := "java/lang/Object", name := "getClass", desc := "()Ljava/lang/Class;" } : Jvm.MethodName)) ∈ lw_all := lw_g (lw_at lw_m2 133 rfl) rfl
theorem q678 : (Jvm.Cond.instantiable "CheeseValleys$Sheet" (1 : Nat)) ∈ lw_all := lw_g (lw_at lw_m3 147 rfl) rfl
theorem q683 : (Jvm.Cond.instanceMethod ({ cls := "CheeseValleys$Sheet", name := "<init>", desc := "(Ljava/lang/Object;)V" } : Jvm.MethodName)) ∈ lw_all := lw_g (lw_at lw_m3 152 rfl) rfl
theorem q684 : (Jvm.Cond.code ({ cls := "CheeseValleys$Sheet", name := "<init>", desc := "(Ljava/lang/Object;)V" } : Jvm.MethodName) prog_10_method_1_code (2 : Nat) (Option.none : Option Jvm.ClassFile.FieldType)) ∈ lw_all := lw_g (lw_at lw_m3 153 rfl) rfl
theorem q685 : (Jvm.Cond.methodLink "CheeseValleys$Sheet" (1 : Nat) ({ cls := "java/lang/Object", name := "<init>", desc := "()V" } : Jvm.MethodName)) ∈ lw_all := lw_g (lw_at lw_m3 154 rfl) rfl
theorem q686 : (Jvm.Cond.fieldLink "CheeseValleys$Sheet" (7 : Nat) "CheeseValleys$Sheet" "row" "Ljava/lang/Object;") ∈ lw_all := lw_g (lw_at lw_m3 155 rfl) rfl
theorem q688 : (Jvm.Cond.laysFinal "CheeseValleys$Sheet" "CheeseValleys$Sheet" "row" "Ljava/lang/Object;") ∈ lw_all := lw_g (lw_at lw_m3 157 rfl) rfl
theorem q689 : (Jvm.Cond.soleField "CheeseValleys$Sheet" "row") ∈ lw_all := lw_g (lw_at lw_m3 158 rfl) rfl
theorem q690 : (Jvm.Cond.superclass "CheeseValleys$Sheet" "java/lang/Object") ∈ lw_all := lw_g (lw_at lw_m3 159 rfl) rfl
theorem q1495 : (Jvm.Cond.castable "CheeseValleys$Sheet" "java/lang/Object") ∈ lw_tbl := lw_at lw_m7 4 rfl
theorem in_X10 : ∀ w ∈ wsX100, w ∈ lw_all := lw_in wsX100 [688] (by decide +kernel) (by decide +kernel)

/-! CheeseValleys$Copying -/
set_option maxRecDepth 100000
def RX11 : String := "CheeseValleys$Copying"
def TX11 : u_T := fun k => match k with
  | 0 => ("CheeseValleys$Act", "this$0", "LCheeseValleys;", true)
  | 1 => ("CheeseValleys$Copying", "from", "I", true)
  | 2 => ("CheeseValleys$Copying", "i", "I", true)
  | 3 => ("CheeseValleys$Copying", "to", "I", true)
  | 4 => ("CheeseValleys$Copying", "j", "I", true)
  | 5 => ("CheeseValleys$Copying", "n", "I", true)
  | _ => ("CheeseValleys$Copying", "this$0", "LCheeseValleys;", true)
def tyX11 : Nat → FieldType := fun k => match k with
  | 0 => .object "CheeseValleys"
  | 1 => .int
  | 2 => .int
  | 3 => .int
  | 4 => .int
  | 5 => .int
  | _ => .object "CheeseValleys"
abbrev wsX110 : List Cond := u_ws RX11 TX11 7
-- two fields of one name: no nmX11
theorem tyX11_ok : ∀ k, k < 7 → parseFieldDescriptor (TX11 k).2.2.1 = some (tyX11 k) := by decide +kernel
abbrev cX11_done : ByteArray := prog_3_method_2_code
def yX11_done : MethodName := ⟨RX11, "done", "()I"⟩
def dkwX11_done_1 : List UInt8 := [182, 0, 29, 42, 180, 0, 23, 42, 180, 0, 26, 184, 0, 35, 42, 180, 0, 26, 172]
abbrev dktX11_done_1 : List UInt8 := dkwX11_done_1 ++ []
def dkwX11_done_0 : List UInt8 := [42, 180, 0, 1, 42, 180, 0, 13, 182, 0, 29, 42, 180, 0, 17, 42, 180, 0, 1, 42, 180, 0, 20]
abbrev dktX11_done_0 : List UInt8 := dkwX11_done_0 ++ dktX11_done_1
theorem dksX11_done_0 : cX11_done.data.toList.drop 0 = dktX11_done_0 := by decide +kernel
theorem dksX11_done_1 : cX11_done.data.toList.drop 23 = dktX11_done_1 := dk_seg dksX11_done_0 23 rfl rfl
theorem dX11_done_0 : decode cX11_done 0 = .ok (.aload_n 0, 1) := dk_42 (dk_at dksX11_done_0 0 rfl rfl)
theorem dX11_done_1 : decode cX11_done 1 = .ok (.getfield 1, 3) := dk_180 0 1 (dk_at dksX11_done_0 1 rfl rfl)
theorem dX11_done_4 : decode cX11_done 4 = .ok (.aload_n 0, 1) := dk_42 (dk_at dksX11_done_0 4 rfl rfl)
theorem dX11_done_5 : decode cX11_done 5 = .ok (.getfield 13, 3) := dk_180 0 13 (dk_at dksX11_done_0 5 rfl rfl)
theorem dX11_done_8 : decode cX11_done 8 = .ok (.invokevirtual 29, 3) := dk_182 0 29 (dk_at dksX11_done_0 8 rfl rfl)
theorem dX11_done_11 : decode cX11_done 11 = .ok (.aload_n 0, 1) := dk_42 (dk_at dksX11_done_0 11 rfl rfl)
theorem dX11_done_12 : decode cX11_done 12 = .ok (.getfield 17, 3) := dk_180 0 17 (dk_at dksX11_done_0 12 rfl rfl)
theorem dX11_done_15 : decode cX11_done 15 = .ok (.aload_n 0, 1) := dk_42 (dk_at dksX11_done_0 15 rfl rfl)
theorem dX11_done_16 : decode cX11_done 16 = .ok (.getfield 1, 3) := dk_180 0 1 (dk_at dksX11_done_0 16 rfl rfl)
theorem dX11_done_19 : decode cX11_done 19 = .ok (.aload_n 0, 1) := dk_42 (dk_at dksX11_done_0 19 rfl rfl)
theorem dX11_done_20 : decode cX11_done 20 = .ok (.getfield 20, 3) := dk_180 0 20 (dk_at dksX11_done_0 20 rfl rfl)
theorem dX11_done_23 : decode cX11_done 23 = .ok (.invokevirtual 29, 3) := dk_182 0 29 (dk_at dksX11_done_1 0 rfl rfl)
theorem dX11_done_26 : decode cX11_done 26 = .ok (.aload_n 0, 1) := dk_42 (dk_at dksX11_done_1 3 rfl rfl)
theorem dX11_done_27 : decode cX11_done 27 = .ok (.getfield 23, 3) := dk_180 0 23 (dk_at dksX11_done_1 4 rfl rfl)
theorem dX11_done_30 : decode cX11_done 30 = .ok (.aload_n 0, 1) := dk_42 (dk_at dksX11_done_1 7 rfl rfl)
theorem dX11_done_31 : decode cX11_done 31 = .ok (.getfield 26, 3) := dk_180 0 26 (dk_at dksX11_done_1 8 rfl rfl)
theorem dX11_done_34 : decode cX11_done 34 = .ok (.invokestatic 35, 3) := dk_184 0 35 (dk_at dksX11_done_1 11 rfl rfl)
theorem dX11_done_37 : decode cX11_done 37 = .ok (.aload_n 0, 1) := dk_42 (dk_at dksX11_done_1 14 rfl rfl)
theorem dX11_done_38 : decode cX11_done 38 = .ok (.getfield 26, 3) := dk_180 0 26 (dk_at dksX11_done_1 15 rfl rfl)
theorem dX11_done_41 : decode cX11_done 41 = .ok (.ireturn, 1) := dk_172 (dk_at dksX11_done_1 18 rfl rfl)
abbrev cX11_init : ByteArray := prog_3_method_1_code
def yX11_init : MethodName := ⟨RX11, "<init>", "(LCheeseValleys;IIIII)V"⟩
def dkwX11_init_1 : List UInt8 := [181, 0, 20, 42, 21, 5, 181, 0, 23, 42, 21, 6, 181, 0, 26, 177]
abbrev dktX11_init_1 : List UInt8 := dkwX11_init_1 ++ []
def dkwX11_init_0 : List UInt8 := [42, 43, 181, 0, 1, 42, 43, 183, 0, 7, 42, 28, 181, 0, 13, 42, 29, 181, 0, 17, 42, 21, 4]
abbrev dktX11_init_0 : List UInt8 := dkwX11_init_0 ++ dktX11_init_1
theorem dksX11_init_0 : cX11_init.data.toList.drop 0 = dktX11_init_0 := by decide +kernel
theorem dksX11_init_1 : cX11_init.data.toList.drop 23 = dktX11_init_1 := dk_seg dksX11_init_0 23 rfl rfl
theorem dX11_init_0 : decode cX11_init 0 = .ok (.aload_n 0, 1) := dk_42 (dk_at dksX11_init_0 0 rfl rfl)
theorem dX11_init_1 : decode cX11_init 1 = .ok (.aload_n 1, 1) := dk_43 (dk_at dksX11_init_0 1 rfl rfl)
theorem dX11_init_2 : decode cX11_init 2 = .ok (.putfield 1, 3) := dk_181 0 1 (dk_at dksX11_init_0 2 rfl rfl)
theorem dX11_init_5 : decode cX11_init 5 = .ok (.aload_n 0, 1) := dk_42 (dk_at dksX11_init_0 5 rfl rfl)
theorem dX11_init_6 : decode cX11_init 6 = .ok (.aload_n 1, 1) := dk_43 (dk_at dksX11_init_0 6 rfl rfl)
theorem dX11_init_7 : decode cX11_init 7 = .ok (.invokespecial 7, 3) := dk_183 0 7 (dk_at dksX11_init_0 7 rfl rfl)
theorem dX11_init_10 : decode cX11_init 10 = .ok (.aload_n 0, 1) := dk_42 (dk_at dksX11_init_0 10 rfl rfl)
theorem dX11_init_11 : decode cX11_init 11 = .ok (.iload_n 2, 1) := dk_28 (dk_at dksX11_init_0 11 rfl rfl)
theorem dX11_init_12 : decode cX11_init 12 = .ok (.putfield 13, 3) := dk_181 0 13 (dk_at dksX11_init_0 12 rfl rfl)
theorem dX11_init_15 : decode cX11_init 15 = .ok (.aload_n 0, 1) := dk_42 (dk_at dksX11_init_0 15 rfl rfl)
theorem dX11_init_16 : decode cX11_init 16 = .ok (.iload_n 3, 1) := dk_29 (dk_at dksX11_init_0 16 rfl rfl)
theorem dX11_init_17 : decode cX11_init 17 = .ok (.putfield 17, 3) := dk_181 0 17 (dk_at dksX11_init_0 17 rfl rfl)
theorem dX11_init_20 : decode cX11_init 20 = .ok (.aload_n 0, 1) := dk_42 (dk_at dksX11_init_0 20 rfl rfl)
theorem dX11_init_21 : decode cX11_init 21 = .ok (.iload 4, 2) := dk_21 4 (dk_at dksX11_init_0 21 rfl rfl)
theorem dX11_init_23 : decode cX11_init 23 = .ok (.putfield 20, 3) := dk_181 0 20 (dk_at dksX11_init_1 0 rfl rfl)
theorem dX11_init_26 : decode cX11_init 26 = .ok (.aload_n 0, 1) := dk_42 (dk_at dksX11_init_1 3 rfl rfl)
theorem dX11_init_27 : decode cX11_init 27 = .ok (.iload 5, 2) := dk_21 5 (dk_at dksX11_init_1 4 rfl rfl)
theorem dX11_init_29 : decode cX11_init 29 = .ok (.putfield 23, 3) := dk_181 0 23 (dk_at dksX11_init_1 6 rfl rfl)
theorem dX11_init_32 : decode cX11_init 32 = .ok (.aload_n 0, 1) := dk_42 (dk_at dksX11_init_1 9 rfl rfl)
theorem dX11_init_33 : decode cX11_init 33 = .ok (.iload 6, 2) := dk_21 6 (dk_at dksX11_init_1 10 rfl rfl)
theorem dX11_init_35 : decode cX11_init 35 = .ok (.putfield 26, 3) := dk_181 0 26 (dk_at dksX11_init_1 12 rfl rfl)
theorem dX11_init_38 : decode cX11_init 38 = .ok (.return_, 1) := dk_177 (dk_at dksX11_init_1 15 rfl rfl)
theorem q82 : (Jvm.Cond.initialized "CheeseValleys$Copying") ∈ lw_all := lw_g (lw_at lw_m1 31 rfl) rfl
theorem q419 : (Jvm.Cond.selects "CheeseValleys$Copying" ({ cls := "java/lang/Object", name := "getClass", desc := "()Ljava/lang/Class;" } : Jvm.MethodName) ({ cls := "java/lang/Object", name := "getClass", desc := "()Ljava/lang/Class;" } : Jvm.MethodName)) ∈ lw_all := lw_g (lw_at lw_m2 128 rfl) rfl
theorem q855 : (Jvm.Cond.selects "CheeseValleys$Copying" ({ cls := "CheeseValleys$Act", name := "done", desc := "()I" } : Jvm.MethodName) ({ cls := "CheeseValleys$Copying", name := "done", desc := "()I" } : Jvm.MethodName)) ∈ lw_all := lw_g (lw_at lw_m4 84 rfl) rfl
theorem q856 : (Jvm.Cond.instanceMethod ({ cls := "CheeseValleys$Copying", name := "done", desc := "()I" } : Jvm.MethodName)) ∈ lw_all := lw_g (lw_at lw_m4 85 rfl) rfl
theorem q857 : (Jvm.Cond.code ({ cls := "CheeseValleys$Copying", name := "done", desc := "()I" } : Jvm.MethodName) prog_3_method_2_code (1 : Nat) (Option.some Jvm.ClassFile.FieldType.int)) ∈ lw_all := lw_g (lw_at lw_m4 86 rfl) rfl
theorem q858 : (Jvm.Cond.methodLinkNest "CheeseValleys$Copying" (29 : Nat) ({ cls := "CheeseValleys", name := "rowIn", desc := "(I)Ljava/lang/Object;" } : Jvm.MethodName) "CheeseValleys") ∈ lw_tbl := lw_at lw_m4 87 rfl
theorem q859 : (Jvm.Cond.methodLink "CheeseValleys$Copying" (35 : Nat) ({ cls := "java/lang/System", name := "arraycopy", desc := "(Ljava/lang/Object;ILjava/lang/Object;II)V" } : Jvm.MethodName)) ∈ lw_all := lw_g (lw_at lw_m4 88 rfl) rfl
theorem q999 : (Jvm.Cond.instantiable "CheeseValleys$Copying" (7 : Nat)) ∈ lw_all := lw_g (lw_at lw_m4 228 rfl) rfl
theorem q1001 : (Jvm.Cond.instanceMethod ({ cls := "CheeseValleys$Copying", name := "<init>", desc := "(LCheeseValleys;IIIII)V" } : Jvm.MethodName)) ∈ lw_all := lw_g (lw_at lw_m4 230 rfl) rfl
theorem q1002 : (Jvm.Cond.code ({ cls := "CheeseValleys$Copying", name := "<init>", desc := "(LCheeseValleys;IIIII)V" } : Jvm.MethodName) prog_3_method_1_code (7 : Nat) (Option.none : Option Jvm.ClassFile.FieldType)) ∈ lw_all := lw_g (lw_at lw_m4 231 rfl) rfl
theorem q1003 : (Jvm.Cond.methodLinkNest "CheeseValleys$Copying" (7 : Nat) ({ cls := "CheeseValleys$Act", name := "<init>", desc := "(LCheeseValleys;)V" } : Jvm.MethodName) "CheeseValleys") ∈ lw_tbl := lw_at lw_m4 232 rfl
theorem q1004 : (Jvm.Cond.fieldLink "CheeseValleys$Copying" (13 : Nat) "CheeseValleys$Copying" "from" "I") ∈ lw_all := lw_g (lw_at lw_m4 233 rfl) rfl
theorem q1005 : (Jvm.Cond.fieldLink "CheeseValleys$Copying" (17 : Nat) "CheeseValleys$Copying" "i" "I") ∈ lw_all := lw_g (lw_at lw_m4 234 rfl) rfl
theorem q1006 : (Jvm.Cond.fieldLink "CheeseValleys$Copying" (20 : Nat) "CheeseValleys$Copying" "to" "I") ∈ lw_all := lw_g (lw_at lw_m4 235 rfl) rfl
theorem q1007 : (Jvm.Cond.fieldLink "CheeseValleys$Copying" (23 : Nat) "CheeseValleys$Copying" "j" "I") ∈ lw_all := lw_g (lw_at lw_m4 236 rfl) rfl
theorem q1008 : (Jvm.Cond.fieldLink "CheeseValleys$Copying" (26 : Nat) "CheeseValleys$Copying" "n" "I") ∈ lw_all := lw_g (lw_at lw_m4 237 rfl) rfl
theorem q1009 : (Jvm.Cond.fieldLink "CheeseValleys$Copying" (1 : Nat) "CheeseValleys$Copying" "this$0" "LCheeseValleys;") ∈ lw_all := lw_g (lw_at lw_m4 238 rfl) rfl
theorem q1010 : (Jvm.Cond.laysFinal "CheeseValleys$Copying" "CheeseValleys$Copying" "from" "I") ∈ lw_all := lw_g (lw_at lw_m4 239 rfl) rfl
theorem q1011 : (Jvm.Cond.soleField "CheeseValleys$Copying" "from") ∈ lw_all := lw_g (lw_at lw_m5 0 rfl) rfl
theorem q1012 : (Jvm.Cond.laysFinal "CheeseValleys$Copying" "CheeseValleys$Copying" "i" "I") ∈ lw_all := lw_g (lw_at lw_m5 1 rfl) rfl
theorem q1013 : (Jvm.Cond.soleField "CheeseValleys$Copying" "i") ∈ lw_all := lw_g (lw_at lw_m5 2 rfl) rfl
theorem q1014 : (Jvm.Cond.laysFinal "CheeseValleys$Copying" "CheeseValleys$Copying" "to" "I") ∈ lw_all := lw_g (lw_at lw_m5 3 rfl) rfl
theorem q1015 : (Jvm.Cond.soleField "CheeseValleys$Copying" "to") ∈ lw_all := lw_g (lw_at lw_m5 4 rfl) rfl
theorem q1016 : (Jvm.Cond.laysFinal "CheeseValleys$Copying" "CheeseValleys$Copying" "j" "I") ∈ lw_all := lw_g (lw_at lw_m5 5 rfl) rfl
theorem q1017 : (Jvm.Cond.soleField "CheeseValleys$Copying" "j") ∈ lw_all := lw_g (lw_at lw_m5 6 rfl) rfl
theorem q1018 : (Jvm.Cond.laysFinal "CheeseValleys$Copying" "CheeseValleys$Copying" "n" "I") ∈ lw_all := lw_g (lw_at lw_m5 7 rfl) rfl
theorem q1019 : (Jvm.Cond.soleField "CheeseValleys$Copying" "n") ∈ lw_all := lw_g (lw_at lw_m5 8 rfl) rfl
theorem q1020 : (Jvm.Cond.laysFinal "CheeseValleys$Copying" "CheeseValleys$Copying" "this$0" "LCheeseValleys;") ∈ lw_all := lw_g (lw_at lw_m5 9 rfl) rfl
theorem q1021 : (Jvm.Cond.soleField "CheeseValleys$Copying" "this$0") ∈ lw_all := lw_g (lw_at lw_m5 10 rfl) rfl
theorem q1022 : (Jvm.Cond.laysFinal "CheeseValleys$Copying" "CheeseValleys$Act" "this$0" "LCheeseValleys;") ∈ lw_all := lw_g (lw_at lw_m5 11 rfl) rfl
theorem q1023 : (Jvm.Cond.superclass "CheeseValleys$Copying" "CheeseValleys$Act") ∈ lw_all := lw_g (lw_at lw_m5 12 rfl) rfl
theorem q1025 : (Jvm.Cond.sameMethod "CheeseValleys$Copying" "CheeseValleys$Act" "tried" "()I") ∈ lw_all := lw_g (lw_at lw_m5 14 rfl) rfl
theorem q1026 : (Jvm.Cond.selects "CheeseValleys$Copying" ({ cls := "CheeseValleys$Copying", name := "tried", desc := "()I" } : Jvm.MethodName) ({ cls := "CheeseValleys$Act", name := "tried", desc := "()I" } : Jvm.MethodName)) ∈ lw_all := lw_g (lw_at lw_m5 15 rfl) rfl
theorem q1511 : (Jvm.Cond.castable "CheeseValleys$Copying" "java/lang/Object") ∈ lw_tbl := lw_at lw_m7 20 rfl
theorem in_X11 : ∀ w ∈ wsX110, w ∈ lw_all := lw_in wsX110 [1022, 1010, 1012, 1014, 1016, 1018, 1020] (by decide +kernel) (by decide +kernel)

/-! CheeseValleys$Taking -/
set_option maxRecDepth 100000
def RX12 : String := "CheeseValleys$Taking"
def TX12 : u_T := fun k => match k with
  | 0 => ("CheeseValleys$Act", "this$0", "LCheeseValleys;", true)
  | 1 => ("CheeseValleys$Taking", "one", "LCheeseValleys$Pass;", true)
  | 2 => ("CheeseValleys$Taking", "kind", "I", true)
  | _ => ("CheeseValleys$Taking", "this$0", "LCheeseValleys;", true)
def tyX12 : Nat → FieldType := fun k => match k with
  | 0 => .object "CheeseValleys"
  | 1 => .object "CheeseValleys$Pass"
  | 2 => .int
  | _ => .object "CheeseValleys"
abbrev wsX120 : List Cond := u_ws RX12 TX12 4
-- two fields of one name: no nmX12
theorem tyX12_ok : ∀ k, k < 4 → parseFieldDescriptor (TX12 k).2.2.1 = some (tyX12 k) := by decide +kernel
abbrev cX12_done : ByteArray := prog_12_method_2_code
def yX12_done : MethodName := ⟨RX12, "done", "()I"⟩
def dkwX12_done_2 : List UInt8 := [180, 0, 31, 60, 27, 156, 0, 7, 3, 167, 0, 4, 4, 172]
abbrev dktX12_done_2 : List UInt8 := dkwX12_done_2 ++ []
def dkwX12_done_1 : List UInt8 := [160, 0, 16, 42, 180, 0, 13, 192, 0, 26, 180, 0, 28, 167, 0, 13, 42, 180, 0, 13, 192, 0, 29]
abbrev dktX12_done_1 : List UInt8 := dkwX12_done_1 ++ dktX12_done_2
def dkwX12_done_0 : List UInt8 := [42, 180, 0, 17, 154, 0, 13, 42, 180, 0, 13, 180, 0, 21, 167, 0, 34, 42, 180, 0, 17, 4]
abbrev dktX12_done_0 : List UInt8 := dkwX12_done_0 ++ dktX12_done_1
theorem dksX12_done_0 : cX12_done.data.toList.drop 0 = dktX12_done_0 := by decide +kernel
theorem dksX12_done_1 : cX12_done.data.toList.drop 22 = dktX12_done_1 := dk_seg dksX12_done_0 22 rfl rfl
theorem dksX12_done_2 : cX12_done.data.toList.drop 45 = dktX12_done_2 := dk_seg dksX12_done_1 23 rfl rfl
theorem dX12_done_0 : decode cX12_done 0 = .ok (.aload_n 0, 1) := dk_42 (dk_at dksX12_done_0 0 rfl rfl)
theorem dX12_done_1 : decode cX12_done 1 = .ok (.getfield 17, 3) := dk_180 0 17 (dk_at dksX12_done_0 1 rfl rfl)
theorem dX12_done_4 : decode cX12_done 4 = .ok (.ifCond .ne 13, 3) := dk_154 0 13 (dk_at dksX12_done_0 4 rfl rfl)
theorem dX12_done_7 : decode cX12_done 7 = .ok (.aload_n 0, 1) := dk_42 (dk_at dksX12_done_0 7 rfl rfl)
theorem dX12_done_8 : decode cX12_done 8 = .ok (.getfield 13, 3) := dk_180 0 13 (dk_at dksX12_done_0 8 rfl rfl)
theorem dX12_done_11 : decode cX12_done 11 = .ok (.getfield 21, 3) := dk_180 0 21 (dk_at dksX12_done_0 11 rfl rfl)
theorem dX12_done_14 : decode cX12_done 14 = .ok (.goto 34, 3) := dk_167 0 34 (dk_at dksX12_done_0 14 rfl rfl)
theorem dX12_done_17 : decode cX12_done 17 = .ok (.aload_n 0, 1) := dk_42 (dk_at dksX12_done_0 17 rfl rfl)
theorem dX12_done_18 : decode cX12_done 18 = .ok (.getfield 17, 3) := dk_180 0 17 (dk_at dksX12_done_0 18 rfl rfl)
theorem dX12_done_21 : decode cX12_done 21 = .ok (.iconst 1, 1) := dk_4 (dk_at dksX12_done_0 21 rfl rfl)
theorem dX12_done_22 : decode cX12_done 22 = .ok (.if_icmp .ne 16, 3) := dk_160 0 16 (dk_at dksX12_done_1 0 rfl rfl)
theorem dX12_done_25 : decode cX12_done 25 = .ok (.aload_n 0, 1) := dk_42 (dk_at dksX12_done_1 3 rfl rfl)
theorem dX12_done_26 : decode cX12_done 26 = .ok (.getfield 13, 3) := dk_180 0 13 (dk_at dksX12_done_1 4 rfl rfl)
theorem dX12_done_29 : decode cX12_done 29 = .ok (.checkcast 26, 3) := dk_192 0 26 (dk_at dksX12_done_1 7 rfl rfl)
theorem dX12_done_32 : decode cX12_done 32 = .ok (.getfield 28, 3) := dk_180 0 28 (dk_at dksX12_done_1 10 rfl rfl)
theorem dX12_done_35 : decode cX12_done 35 = .ok (.goto 13, 3) := dk_167 0 13 (dk_at dksX12_done_1 13 rfl rfl)
theorem dX12_done_38 : decode cX12_done 38 = .ok (.aload_n 0, 1) := dk_42 (dk_at dksX12_done_1 16 rfl rfl)
theorem dX12_done_39 : decode cX12_done 39 = .ok (.getfield 13, 3) := dk_180 0 13 (dk_at dksX12_done_1 17 rfl rfl)
theorem dX12_done_42 : decode cX12_done 42 = .ok (.checkcast 29, 3) := dk_192 0 29 (dk_at dksX12_done_1 20 rfl rfl)
theorem dX12_done_45 : decode cX12_done 45 = .ok (.getfield 31, 3) := dk_180 0 31 (dk_at dksX12_done_2 0 rfl rfl)
theorem dX12_done_48 : decode cX12_done 48 = .ok (.istore_n 1, 1) := dk_60 (dk_at dksX12_done_2 3 rfl rfl)
theorem dX12_done_49 : decode cX12_done 49 = .ok (.iload_n 1, 1) := dk_27 (dk_at dksX12_done_2 4 rfl rfl)
theorem dX12_done_50 : decode cX12_done 50 = .ok (.ifCond .ge 7, 3) := dk_156 0 7 (dk_at dksX12_done_2 5 rfl rfl)
theorem dX12_done_53 : decode cX12_done 53 = .ok (.iconst 0, 1) := dk_3 (dk_at dksX12_done_2 8 rfl rfl)
theorem dX12_done_54 : decode cX12_done 54 = .ok (.goto 4, 3) := dk_167 0 4 (dk_at dksX12_done_2 9 rfl rfl)
theorem dX12_done_57 : decode cX12_done 57 = .ok (.iconst 1, 1) := dk_4 (dk_at dksX12_done_2 12 rfl rfl)
theorem dX12_done_58 : decode cX12_done 58 = .ok (.ireturn, 1) := dk_172 (dk_at dksX12_done_2 13 rfl rfl)
abbrev cX12_init : ByteArray := prog_12_method_1_code
def yX12_init : MethodName := ⟨RX12, "<init>", "(LCheeseValleys;LCheeseValleys$Pass;I)V"⟩
def dkwX12_init_0 : List UInt8 := [42, 43, 181, 0, 1, 42, 43, 183, 0, 7, 42, 44, 181, 0, 13, 42, 29, 181, 0, 17, 177]
abbrev dktX12_init_0 : List UInt8 := dkwX12_init_0 ++ []
theorem dksX12_init_0 : cX12_init.data.toList.drop 0 = dktX12_init_0 := by decide +kernel
theorem dX12_init_0 : decode cX12_init 0 = .ok (.aload_n 0, 1) := dk_42 (dk_at dksX12_init_0 0 rfl rfl)
theorem dX12_init_1 : decode cX12_init 1 = .ok (.aload_n 1, 1) := dk_43 (dk_at dksX12_init_0 1 rfl rfl)
theorem dX12_init_2 : decode cX12_init 2 = .ok (.putfield 1, 3) := dk_181 0 1 (dk_at dksX12_init_0 2 rfl rfl)
theorem dX12_init_5 : decode cX12_init 5 = .ok (.aload_n 0, 1) := dk_42 (dk_at dksX12_init_0 5 rfl rfl)
theorem dX12_init_6 : decode cX12_init 6 = .ok (.aload_n 1, 1) := dk_43 (dk_at dksX12_init_0 6 rfl rfl)
theorem dX12_init_7 : decode cX12_init 7 = .ok (.invokespecial 7, 3) := dk_183 0 7 (dk_at dksX12_init_0 7 rfl rfl)
theorem dX12_init_10 : decode cX12_init 10 = .ok (.aload_n 0, 1) := dk_42 (dk_at dksX12_init_0 10 rfl rfl)
theorem dX12_init_11 : decode cX12_init 11 = .ok (.aload_n 2, 1) := dk_44 (dk_at dksX12_init_0 11 rfl rfl)
theorem dX12_init_12 : decode cX12_init 12 = .ok (.putfield 13, 3) := dk_181 0 13 (dk_at dksX12_init_0 12 rfl rfl)
theorem dX12_init_15 : decode cX12_init 15 = .ok (.aload_n 0, 1) := dk_42 (dk_at dksX12_init_0 15 rfl rfl)
theorem dX12_init_16 : decode cX12_init 16 = .ok (.iload_n 3, 1) := dk_29 (dk_at dksX12_init_0 16 rfl rfl)
theorem dX12_init_17 : decode cX12_init 17 = .ok (.putfield 17, 3) := dk_181 0 17 (dk_at dksX12_init_0 17 rfl rfl)
theorem dX12_init_20 : decode cX12_init 20 = .ok (.return_, 1) := dk_177 (dk_at dksX12_init_0 20 rfl rfl)
theorem q83 : (Jvm.Cond.initialized "CheeseValleys$Taking") ∈ lw_all := lw_g (lw_at lw_m1 32 rfl) rfl
theorem q426 : (Jvm.Cond.selects "CheeseValleys$Taking" ({ cls := "java/lang/Object", name := "getClass", desc := "()Ljava/lang/Class;" } : Jvm.MethodName) ({ cls := "java/lang/Object", name := "getClass", desc := "()Ljava/lang/Class;" } : Jvm.MethodName)) ∈ lw_all := lw_g (lw_at lw_m2 135 rfl) rfl
theorem q493 : (Jvm.Cond.fieldLink "CheeseValleys$Taking" (21 : Nat) "CheeseValleys$Pass" "number" "I") ∈ lw_all := lw_g (lw_at lw_m2 202 rfl) rfl
theorem q494 : (Jvm.Cond.fieldLink "CheeseValleys$Taking" (28 : Nat) "CheeseValleys$Steep" "number" "I") ∈ lw_all := lw_g (lw_at lw_m2 203 rfl) rfl
theorem q496 : (Jvm.Cond.fieldLink "CheeseValleys$Taking" (31 : Nat) "CheeseValleys$Tunnel" "number" "I") ∈ lw_all := lw_g (lw_at lw_m2 205 rfl) rfl
theorem q960 : (Jvm.Cond.selects "CheeseValleys$Taking" ({ cls := "CheeseValleys$Act", name := "done", desc := "()I" } : Jvm.MethodName) ({ cls := "CheeseValleys$Taking", name := "done", desc := "()I" } : Jvm.MethodName)) ∈ lw_all := lw_g (lw_at lw_m4 189 rfl) rfl
theorem q961 : (Jvm.Cond.instanceMethod ({ cls := "CheeseValleys$Taking", name := "done", desc := "()I" } : Jvm.MethodName)) ∈ lw_all := lw_g (lw_at lw_m4 190 rfl) rfl
theorem q962 : (Jvm.Cond.code ({ cls := "CheeseValleys$Taking", name := "done", desc := "()I" } : Jvm.MethodName) prog_12_method_2_code (2 : Nat) (Option.some Jvm.ClassFile.FieldType.int)) ∈ lw_all := lw_g (lw_at lw_m4 191 rfl) rfl
theorem q963 : (Jvm.Cond.classLink "CheeseValleys$Taking" (26 : Nat) "CheeseValleys$Steep") ∈ lw_all := lw_g (lw_at lw_m4 192 rfl) rfl
theorem q964 : (Jvm.Cond.classLink "CheeseValleys$Taking" (29 : Nat) "CheeseValleys$Tunnel") ∈ lw_all := lw_g (lw_at lw_m4 193 rfl) rfl
theorem q1112 : (Jvm.Cond.instantiable "CheeseValleys$Taking" (4 : Nat)) ∈ lw_all := lw_g (lw_at lw_m5 101 rfl) rfl
theorem q1114 : (Jvm.Cond.instanceMethod ({ cls := "CheeseValleys$Taking", name := "<init>", desc := "(LCheeseValleys;LCheeseValleys$Pass;I)V" } : Jvm.MethodName)) ∈ lw_all := lw_g (lw_at lw_m5 103 rfl) rfl
theorem q1115 : (Jvm.Cond.code ({ cls := "CheeseValleys$Taking", name := "<init>", desc := "(LCheeseValleys;LCheeseValleys$Pass;I)V" } : Jvm.MethodName) prog_12_method_1_code (4 : Nat) (Option.none : Option Jvm.ClassFile.FieldType)) ∈ lw_all := lw_g (lw_at lw_m5 104 rfl) rfl
theorem q1116 : (Jvm.Cond.methodLinkNest "CheeseValleys$Taking" (7 : Nat) ({ cls := "CheeseValleys$Act", name := "<init>", desc := "(LCheeseValleys;)V" } : Jvm.MethodName) "CheeseValleys") ∈ lw_tbl := lw_at lw_m5 105 rfl
theorem q1117 : (Jvm.Cond.fieldLink "CheeseValleys$Taking" (13 : Nat) "CheeseValleys$Taking" "one" "LCheeseValleys$Pass;") ∈ lw_all := lw_g (lw_at lw_m5 106 rfl) rfl
theorem q1118 : (Jvm.Cond.fieldLink "CheeseValleys$Taking" (17 : Nat) "CheeseValleys$Taking" "kind" "I") ∈ lw_all := lw_g (lw_at lw_m5 107 rfl) rfl
theorem q1119 : (Jvm.Cond.fieldLink "CheeseValleys$Taking" (1 : Nat) "CheeseValleys$Taking" "this$0" "LCheeseValleys;") ∈ lw_all := lw_g (lw_at lw_m5 108 rfl) rfl
theorem q1120 : (Jvm.Cond.laysFinal "CheeseValleys$Taking" "CheeseValleys$Taking" "one" "LCheeseValleys$Pass;") ∈ lw_all := lw_g (lw_at lw_m5 109 rfl) rfl
theorem q1121 : (Jvm.Cond.soleField "CheeseValleys$Taking" "one") ∈ lw_all := lw_g (lw_at lw_m5 110 rfl) rfl
theorem q1122 : (Jvm.Cond.laysFinal "CheeseValleys$Taking" "CheeseValleys$Taking" "kind" "I") ∈ lw_all := lw_g (lw_at lw_m5 111 rfl) rfl
theorem q1123 : (Jvm.Cond.soleField "CheeseValleys$Taking" "kind") ∈ lw_all := lw_g (lw_at lw_m5 112 rfl) rfl
theorem q1124 : (Jvm.Cond.laysFinal "CheeseValleys$Taking" "CheeseValleys$Taking" "this$0" "LCheeseValleys;") ∈ lw_all := lw_g (lw_at lw_m5 113 rfl) rfl
theorem q1125 : (Jvm.Cond.soleField "CheeseValleys$Taking" "this$0") ∈ lw_all := lw_g (lw_at lw_m5 114 rfl) rfl
theorem q1126 : (Jvm.Cond.laysFinal "CheeseValleys$Taking" "CheeseValleys$Act" "this$0" "LCheeseValleys;") ∈ lw_all := lw_g (lw_at lw_m5 115 rfl) rfl
theorem q1127 : (Jvm.Cond.superclass "CheeseValleys$Taking" "CheeseValleys$Act") ∈ lw_all := lw_g (lw_at lw_m5 116 rfl) rfl
theorem q1129 : (Jvm.Cond.sameMethod "CheeseValleys$Taking" "CheeseValleys$Act" "tried" "()I") ∈ lw_all := lw_g (lw_at lw_m5 118 rfl) rfl
theorem q1130 : (Jvm.Cond.selects "CheeseValleys$Taking" ({ cls := "CheeseValleys$Taking", name := "tried", desc := "()I" } : Jvm.MethodName) ({ cls := "CheeseValleys$Act", name := "tried", desc := "()I" } : Jvm.MethodName)) ∈ lw_all := lw_g (lw_at lw_m5 119 rfl) rfl
theorem q1512 : (Jvm.Cond.castable "CheeseValleys$Taking" "java/lang/Object") ∈ lw_tbl := lw_at lw_m7 21 rfl
theorem in_X12 : ∀ w ∈ wsX120, w ∈ lw_all := lw_in wsX120 [1126, 1120, 1122, 1124] (by decide +kernel) (by decide +kernel)

/-! CheeseValleys$Marked -/
set_option maxRecDepth 100000
def RX13 : String := "CheeseValleys$Marked"
abbrev cX13_marked : ByteArray := prog_7_method_3_code
def yX13_marked : MethodName := ⟨RX13, "marked", "()I"⟩
def dkwX13_marked_0 : List UInt8 := [42, 7, 185, 0, 1, 2, 0, 42, 185, 0, 7, 1, 0, 96, 172]
abbrev dktX13_marked_0 : List UInt8 := dkwX13_marked_0 ++ []
theorem dksX13_marked_0 : cX13_marked.data.toList.drop 0 = dktX13_marked_0 := by decide +kernel
theorem dX13_marked_0 : decode cX13_marked 0 = .ok (.aload_n 0, 1) := dk_42 (dk_at dksX13_marked_0 0 rfl rfl)
theorem dX13_marked_1 : decode cX13_marked 1 = .ok (.iconst 4, 1) := dk_7 (dk_at dksX13_marked_0 1 rfl rfl)
theorem dX13_marked_2 : decode cX13_marked 2 = .ok (.invokeinterface 1 2, 5) := by decide +kernel
theorem dX13_marked_7 : decode cX13_marked 7 = .ok (.aload_n 0, 1) := dk_42 (dk_at dksX13_marked_0 7 rfl rfl)
theorem dX13_marked_8 : decode cX13_marked 8 = .ok (.invokeinterface 7 1, 5) := by decide +kernel
theorem dX13_marked_13 : decode cX13_marked 13 = .ok (.iadd, 1) := dk_96 (dk_at dksX13_marked_0 13 rfl rfl)
theorem dX13_marked_14 : decode cX13_marked 14 = .ok (.ireturn, 1) := dk_172 (dk_at dksX13_marked_0 14 rfl rfl)
theorem q1068 : (Jvm.Cond.interfaceMethod "CheeseValleys$Marked" "CheeseValleys$Marked" "marked" "()I") ∈ lw_tbl := lw_at lw_m5 57 rfl
theorem q1069 : (Jvm.Cond.declares ({ cls := "CheeseValleys$Marked", name := "marked", desc := "()I" } : Jvm.MethodName)) ∈ lw_tbl := lw_at lw_m5 58 rfl
theorem q1072 : (Jvm.Cond.instanceMethod ({ cls := "CheeseValleys$Marked", name := "marked", desc := "()I" } : Jvm.MethodName)) ∈ lw_all := lw_g (lw_at lw_m5 61 rfl) rfl
theorem q1073 : (Jvm.Cond.publicMethod ({ cls := "CheeseValleys$Marked", name := "marked", desc := "()I" } : Jvm.MethodName)) ∈ lw_tbl := lw_at lw_m5 62 rfl
theorem q1074 : (Jvm.Cond.code ({ cls := "CheeseValleys$Marked", name := "marked", desc := "()I" } : Jvm.MethodName) prog_7_method_3_code (1 : Nat) (Option.some Jvm.ClassFile.FieldType.int)) ∈ lw_all := lw_g (lw_at lw_m5 63 rfl) rfl
theorem q1075 : (Jvm.Cond.interfaceEntry "CheeseValleys$Marked" (1 : Nat)) ∈ lw_tbl := lw_at lw_m5 64 rfl
theorem q1076 : (Jvm.Cond.methodLink "CheeseValleys$Marked" (1 : Nat) ({ cls := "CheeseValleys$Marked", name := "tracedBy", desc := "(I)I" } : Jvm.MethodName)) ∈ lw_all := lw_g (lw_at lw_m5 65 rfl) rfl
theorem q1077 : (Jvm.Cond.interfaceMethod "CheeseValleys$Marked" "CheeseValleys$Marked" "tracedBy" "(I)I") ∈ lw_tbl := lw_at lw_m5 66 rfl
theorem q1078 : (Jvm.Cond.declares ({ cls := "CheeseValleys$Marked", name := "tracedBy", desc := "(I)I" } : Jvm.MethodName)) ∈ lw_tbl := lw_at lw_m5 67 rfl
theorem q1088 : (Jvm.Cond.interfaceEntry "CheeseValleys$Marked" (7 : Nat)) ∈ lw_tbl := lw_at lw_m5 77 rfl
theorem q1089 : (Jvm.Cond.methodLink "CheeseValleys$Marked" (7 : Nat) ({ cls := "CheeseValleys$Marked", name := "number", desc := "()I" } : Jvm.MethodName)) ∈ lw_all := lw_g (lw_at lw_m5 78 rfl) rfl
theorem q1090 : (Jvm.Cond.interfaceMethod "CheeseValleys$Marked" "CheeseValleys$Marked" "number" "()I") ∈ lw_tbl := lw_at lw_m5 79 rfl
theorem q1091 : (Jvm.Cond.declares ({ cls := "CheeseValleys$Marked", name := "number", desc := "()I" } : Jvm.MethodName)) ∈ lw_tbl := lw_at lw_m5 80 rfl
