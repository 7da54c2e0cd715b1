/-! SlideParkModel -/
set_option maxRecDepth 100000
def RX4 : String := "SlideParkModel"
def TX4 : u_T := fun k => match k with
  | 0 => ("SlideParkModel", "s", "[I", true)
  | 1 => ("SlideParkModel", "before", "[I", true)
  | 2 => ("SlideParkModel", "saved", "[I", true)
  | 3 => ("SlideParkModel", "isSaved", "Z", false)
  | 4 => ("SlideParkModel", "past", "[I", true)
  | 5 => ("SlideParkModel", "pastMany", "I", false)
  | 6 => ("SlideParkModel", "thrown", "I", false)
  | 7 => ("SlideParkModel", "output", "[C", true)
  | 8 => ("SlideParkModel", "outputMany", "I", false)
  | 9 => ("SlideParkModel", "input", "[C", true)
  | 10 => ("SlideParkModel", "length", "I", false)
  | 11 => ("SlideParkModel", "at", "I", false)
  | 12 => ("SlideParkModel", "isWrong", "Z", false)
  | 13 => ("SlideParkModel", "errorAt", "I", false)
  | 14 => ("SlideParkModel", "failedAt", "I", false)
  | 15 => ("SlideParkModel", "commands", "[I", true)
  | _ => ("SlideParkModel", "commandMany", "I", false)
def tyX4 : Nat → FieldType := fun k => match k with
  | 0 => .array .int
  | 1 => .array .int
  | 2 => .array .int
  | 3 => .boolean
  | 4 => .array .int
  | 5 => .int
  | 6 => .int
  | 7 => .array .char
  | 8 => .int
  | 9 => .array .char
  | 10 => .int
  | 11 => .int
  | 12 => .boolean
  | 13 => .int
  | 14 => .int
  | 15 => .array .int
  | _ => .int
abbrev wsX40 : List Cond := u_ws RX4 TX4 17
set_option maxRecDepth 100000 in
theorem nmX4 : ∀ a, a < 17 → ∀ b, b < 17 → a ≠ b → (TX4 a).2.1 ≠ (TX4 b).2.1 := by decide +kernel
set_option maxRecDepth 100000 in
theorem tyX4_ok : ∀ k, k < 17 → parseFieldDescriptor (TX4 k).2.2.1 = some (tyX4 k) := by decide +kernel
abbrev cX4_init : ByteArray := prog_14_method_1_code
def yX4_init : MethodName := ⟨RX4, "<init>", "()V"⟩
def dkwX4_init_3 : List UInt8 := [17, 0, 240, 188, 10, 181, 0, 36, 177]
abbrev dktX4_init_3 : List UInt8 := dkwX4_init_3 ++ []
def dkwX4_init_2 : List UInt8 := [181, 0, 22, 42, 16, 60, 188, 5, 181, 0, 26, 42, 2, 181, 0, 29, 42, 2, 181, 0, 33, 42]
abbrev dktX4_init_2 : List UInt8 := dkwX4_init_2 ++ dktX4_init_3
def dkwX4_init_1 : List UInt8 := [17, 0, 158, 188, 10, 181, 0, 16, 42, 17, 4, 240, 188, 10, 181, 0, 19, 42, 17, 0, 180, 188, 5]
abbrev dktX4_init_1 : List UInt8 := dkwX4_init_1 ++ dktX4_init_2
def dkwX4_init_0 : List UInt8 := [42, 183, 0, 3, 42, 17, 0, 158, 188, 10, 181, 0, 9, 42, 17, 0, 158, 188, 10, 181, 0, 13, 42]
abbrev dktX4_init_0 : List UInt8 := dkwX4_init_0 ++ dktX4_init_1
theorem dksX4_init_0 : cX4_init.data.toList.drop 0 = dktX4_init_0 := by decide +kernel
theorem dksX4_init_1 : cX4_init.data.toList.drop 23 = dktX4_init_1 := dk_seg dksX4_init_0 23 rfl rfl
theorem dksX4_init_2 : cX4_init.data.toList.drop 46 = dktX4_init_2 := dk_seg dksX4_init_1 23 rfl rfl
theorem dksX4_init_3 : cX4_init.data.toList.drop 68 = dktX4_init_3 := dk_seg dksX4_init_2 22 rfl rfl
theorem dX4_init_0 : decode cX4_init 0 = .ok (.aload_n 0, 1) := dk_42 (dk_at dksX4_init_0 0 rfl rfl)
theorem dX4_init_1 : decode cX4_init 1 = .ok (.invokespecial 3, 3) := dk_183 0 3 (dk_at dksX4_init_0 1 rfl rfl)
theorem dX4_init_4 : decode cX4_init 4 = .ok (.aload_n 0, 1) := dk_42 (dk_at dksX4_init_0 4 rfl rfl)
theorem dX4_init_5 : decode cX4_init 5 = .ok (.sipush 158, 3) := dk_17 0 158 (dk_at dksX4_init_0 5 rfl rfl)
theorem dX4_init_8 : decode cX4_init 8 = .ok (.newarray .int, 2) := dk_188_10 (dk_at dksX4_init_0 8 rfl rfl)
theorem dX4_init_10 : decode cX4_init 10 = .ok (.putfield 9, 3) := dk_181 0 9 (dk_at dksX4_init_0 10 rfl rfl)
theorem dX4_init_13 : decode cX4_init 13 = .ok (.aload_n 0, 1) := dk_42 (dk_at dksX4_init_0 13 rfl rfl)
theorem dX4_init_14 : decode cX4_init 14 = .ok (.sipush 158, 3) := dk_17 0 158 (dk_at dksX4_init_0 14 rfl rfl)
theorem dX4_init_17 : decode cX4_init 17 = .ok (.newarray .int, 2) := dk_188_10 (dk_at dksX4_init_0 17 rfl rfl)
theorem dX4_init_19 : decode cX4_init 19 = .ok (.putfield 13, 3) := dk_181 0 13 (dk_at dksX4_init_0 19 rfl rfl)
theorem dX4_init_22 : decode cX4_init 22 = .ok (.aload_n 0, 1) := dk_42 (dk_at dksX4_init_0 22 rfl rfl)
theorem dX4_init_23 : decode cX4_init 23 = .ok (.sipush 158, 3) := dk_17 0 158 (dk_at dksX4_init_1 0 rfl rfl)
theorem dX4_init_26 : decode cX4_init 26 = .ok (.newarray .int, 2) := dk_188_10 (dk_at dksX4_init_1 3 rfl rfl)
theorem dX4_init_28 : decode cX4_init 28 = .ok (.putfield 16, 3) := dk_181 0 16 (dk_at dksX4_init_1 5 rfl rfl)
theorem dX4_init_31 : decode cX4_init 31 = .ok (.aload_n 0, 1) := dk_42 (dk_at dksX4_init_1 8 rfl rfl)
theorem dX4_init_32 : decode cX4_init 32 = .ok (.sipush 1264, 3) := dk_17 4 240 (dk_at dksX4_init_1 9 rfl rfl)
theorem dX4_init_35 : decode cX4_init 35 = .ok (.newarray .int, 2) := dk_188_10 (dk_at dksX4_init_1 12 rfl rfl)
theorem dX4_init_37 : decode cX4_init 37 = .ok (.putfield 19, 3) := dk_181 0 19 (dk_at dksX4_init_1 14 rfl rfl)
theorem dX4_init_40 : decode cX4_init 40 = .ok (.aload_n 0, 1) := dk_42 (dk_at dksX4_init_1 17 rfl rfl)
theorem dX4_init_41 : decode cX4_init 41 = .ok (.sipush 180, 3) := dk_17 0 180 (dk_at dksX4_init_1 18 rfl rfl)
theorem dX4_init_44 : decode cX4_init 44 = .ok (.newarray .char, 2) := dk_188_5 (dk_at dksX4_init_1 21 rfl rfl)
theorem dX4_init_46 : decode cX4_init 46 = .ok (.putfield 22, 3) := dk_181 0 22 (dk_at dksX4_init_2 0 rfl rfl)
theorem dX4_init_49 : decode cX4_init 49 = .ok (.aload_n 0, 1) := dk_42 (dk_at dksX4_init_2 3 rfl rfl)
theorem dX4_init_50 : decode cX4_init 50 = .ok (.bipush 60, 2) := dk_16 60 (dk_at dksX4_init_2 4 rfl rfl)
theorem dX4_init_52 : decode cX4_init 52 = .ok (.newarray .char, 2) := dk_188_5 (dk_at dksX4_init_2 6 rfl rfl)
theorem dX4_init_54 : decode cX4_init 54 = .ok (.putfield 26, 3) := dk_181 0 26 (dk_at dksX4_init_2 8 rfl rfl)
theorem dX4_init_57 : decode cX4_init 57 = .ok (.aload_n 0, 1) := dk_42 (dk_at dksX4_init_2 11 rfl rfl)
theorem dX4_init_58 : decode cX4_init 58 = .ok (.iconst (-1), 1) := dk_2 (dk_at dksX4_init_2 12 rfl rfl)
theorem dX4_init_59 : decode cX4_init 59 = .ok (.putfield 29, 3) := dk_181 0 29 (dk_at dksX4_init_2 13 rfl rfl)
theorem dX4_init_62 : decode cX4_init 62 = .ok (.aload_n 0, 1) := dk_42 (dk_at dksX4_init_2 16 rfl rfl)
theorem dX4_init_63 : decode cX4_init 63 = .ok (.iconst (-1), 1) := dk_2 (dk_at dksX4_init_2 17 rfl rfl)
theorem dX4_init_64 : decode cX4_init 64 = .ok (.putfield 33, 3) := dk_181 0 33 (dk_at dksX4_init_2 18 rfl rfl)
theorem dX4_init_67 : decode cX4_init 67 = .ok (.aload_n 0, 1) := dk_42 (dk_at dksX4_init_2 21 rfl rfl)
theorem dX4_init_68 : decode cX4_init 68 = .ok (.sipush 240, 3) := dk_17 0 240 (dk_at dksX4_init_3 0 rfl rfl)
theorem dX4_init_71 : decode cX4_init 71 = .ok (.newarray .int, 2) := dk_188_10 (dk_at dksX4_init_3 3 rfl rfl)
theorem dX4_init_73 : decode cX4_init 73 = .ok (.putfield 36, 3) := dk_181 0 36 (dk_at dksX4_init_3 5 rfl rfl)
theorem dX4_init_76 : decode cX4_init 76 = .ok (.return_, 1) := dk_177 (dk_at dksX4_init_3 8 rfl rfl)
abbrev cX4_thrown : ByteArray := prog_14_method_2_code
def yX4_thrown : MethodName := ⟨RX4, "thrown", "()I"⟩
theorem dX4_thrown_0 : decode cX4_thrown 0 = .ok (.aload_n 0, 1) := by decide +kernel
theorem dX4_thrown_1 : decode cX4_thrown 1 = .ok (.getfield 39, 3) := by decide +kernel
theorem dX4_thrown_4 : decode cX4_thrown 4 = .ok (.ireturn, 1) := by decide +kernel
abbrev cX4_buildSlide : ByteArray := prog_14_method_20_code
def yX4_buildSlide : MethodName := ⟨RX4, "buildSlide", "(II)I"⟩
def dkwX4_buildSlide_0 : List UInt8 := [42, 182, 0, 77, 42, 42, 27, 28, 182, 0, 80, 182, 0, 83, 172]
abbrev dktX4_buildSlide_0 : List UInt8 := dkwX4_buildSlide_0 ++ []
theorem dksX4_buildSlide_0 : cX4_buildSlide.data.toList.drop 0 = dktX4_buildSlide_0 := by decide +kernel
theorem dX4_buildSlide_0 : decode cX4_buildSlide 0 = .ok (.aload_n 0, 1) := dk_42 (dk_at dksX4_buildSlide_0 0 rfl rfl)
theorem dX4_buildSlide_1 : decode cX4_buildSlide 1 = .ok (.invokevirtual 77, 3) := dk_182 0 77 (dk_at dksX4_buildSlide_0 1 rfl rfl)
theorem dX4_buildSlide_4 : decode cX4_buildSlide 4 = .ok (.aload_n 0, 1) := dk_42 (dk_at dksX4_buildSlide_0 4 rfl rfl)
theorem dX4_buildSlide_5 : decode cX4_buildSlide 5 = .ok (.aload_n 0, 1) := dk_42 (dk_at dksX4_buildSlide_0 5 rfl rfl)
theorem dX4_buildSlide_6 : decode cX4_buildSlide 6 = .ok (.iload_n 1, 1) := dk_27 (dk_at dksX4_buildSlide_0 6 rfl rfl)
theorem dX4_buildSlide_7 : decode cX4_buildSlide 7 = .ok (.iload_n 2, 1) := dk_28 (dk_at dksX4_buildSlide_0 7 rfl rfl)
theorem dX4_buildSlide_8 : decode cX4_buildSlide 8 = .ok (.invokevirtual 80, 3) := dk_182 0 80 (dk_at dksX4_buildSlide_0 8 rfl rfl)
theorem dX4_buildSlide_11 : decode cX4_buildSlide 11 = .ok (.invokevirtual 83, 3) := dk_182 0 83 (dk_at dksX4_buildSlide_0 11 rfl rfl)
theorem dX4_buildSlide_14 : decode cX4_buildSlide 14 = .ok (.ireturn, 1) := dk_172 (dk_at dksX4_buildSlide_0 14 rfl rfl)
abbrev cX4_keep : ByteArray := prog_14_method_4_code
def yX4_keep : MethodName := ⟨RX4, "keep", "()V"⟩
def dkwX4_keep_0 : List UInt8 := [42, 3, 181, 0, 39, 42, 180, 0, 9, 3, 42, 180, 0, 13, 3, 17, 0, 158, 184, 0, 42, 177]
abbrev dktX4_keep_0 : List UInt8 := dkwX4_keep_0 ++ []
theorem dksX4_keep_0 : cX4_keep.data.toList.drop 0 = dktX4_keep_0 := by decide +kernel
theorem dX4_keep_0 : decode cX4_keep 0 = .ok (.aload_n 0, 1) := dk_42 (dk_at dksX4_keep_0 0 rfl rfl)
theorem dX4_keep_1 : decode cX4_keep 1 = .ok (.iconst 0, 1) := dk_3 (dk_at dksX4_keep_0 1 rfl rfl)
theorem dX4_keep_2 : decode cX4_keep 2 = .ok (.putfield 39, 3) := dk_181 0 39 (dk_at dksX4_keep_0 2 rfl rfl)
theorem dX4_keep_5 : decode cX4_keep 5 = .ok (.aload_n 0, 1) := dk_42 (dk_at dksX4_keep_0 5 rfl rfl)
theorem dX4_keep_6 : decode cX4_keep 6 = .ok (.getfield 9, 3) := dk_180 0 9 (dk_at dksX4_keep_0 6 rfl rfl)
theorem dX4_keep_9 : decode cX4_keep 9 = .ok (.iconst 0, 1) := dk_3 (dk_at dksX4_keep_0 9 rfl rfl)
theorem dX4_keep_10 : decode cX4_keep 10 = .ok (.aload_n 0, 1) := dk_42 (dk_at dksX4_keep_0 10 rfl rfl)
theorem dX4_keep_11 : decode cX4_keep 11 = .ok (.getfield 13, 3) := dk_180 0 13 (dk_at dksX4_keep_0 11 rfl rfl)
theorem dX4_keep_14 : decode cX4_keep 14 = .ok (.iconst 0, 1) := dk_3 (dk_at dksX4_keep_0 14 rfl rfl)
theorem dX4_keep_15 : decode cX4_keep 15 = .ok (.sipush 158, 3) := dk_17 0 158 (dk_at dksX4_keep_0 15 rfl rfl)
theorem dX4_keep_18 : decode cX4_keep 18 = .ok (.invokestatic 42, 3) := dk_184 0 42 (dk_at dksX4_keep_0 18 rfl rfl)
theorem dX4_keep_21 : decode cX4_keep 21 = .ok (.return_, 1) := dk_177 (dk_at dksX4_keep_0 21 rfl rfl)
abbrev cX4_doBuildSlide : ByteArray := prog_14_method_19_code
def yX4_doBuildSlide : MethodName := ⟨RX4, "doBuildSlide", "(II)I"⟩
def dkwX4_doBuildSlide_4 : List UInt8 := [16, 8, 16, 9, 29, 104, 96, 4, 96, 28, 79, 42, 180, 0, 9, 3, 92, 46, 4, 96, 79, 29, 172]
abbrev dktX4_doBuildSlide_4 : List UInt8 := dkwX4_doBuildSlide_4 ++ []
def dkwX4_doBuildSlide_3 : List UInt8 := [132, 4, 1, 167, 255, 230, 42, 180, 0, 9, 16, 8, 16, 9, 29, 104, 96, 27, 79, 42, 180, 0, 9]
abbrev dktX4_doBuildSlide_3 : List UInt8 := dkwX4_doBuildSlide_3 ++ dktX4_doBuildSlide_4
def dkwX4_doBuildSlide_2 : List UInt8 := [21, 4, 16, 9, 162, 0, 25, 42, 180, 0, 9, 16, 8, 16, 9, 29, 104, 96, 21, 4, 96, 3, 79]
abbrev dktX4_doBuildSlide_2 : List UInt8 := dkwX4_doBuildSlide_2 ++ dktX4_doBuildSlide_3
def dkwX4_doBuildSlide_1 : List UInt8 := [154, 0, 9, 42, 4, 182, 0, 74, 172, 29, 7, 160, 0, 9, 42, 5, 182, 0, 74, 172, 3, 54, 4]
abbrev dktX4_doBuildSlide_1 : List UInt8 := dkwX4_doBuildSlide_1 ++ dktX4_doBuildSlide_2
def dkwX4_doBuildSlide_0 : List UInt8 := [42, 180, 0, 9, 3, 46, 62, 27, 4, 16, 9, 184, 0, 51, 153, 0, 13, 28, 4, 16, 9, 184, 0, 51]
abbrev dktX4_doBuildSlide_0 : List UInt8 := dkwX4_doBuildSlide_0 ++ dktX4_doBuildSlide_1
theorem dksX4_doBuildSlide_0 : cX4_doBuildSlide.data.toList.drop 0 = dktX4_doBuildSlide_0 := by decide +kernel
theorem dksX4_doBuildSlide_1 : cX4_doBuildSlide.data.toList.drop 24 = dktX4_doBuildSlide_1 := dk_seg dksX4_doBuildSlide_0 24 rfl rfl
theorem dksX4_doBuildSlide_2 : cX4_doBuildSlide.data.toList.drop 47 = dktX4_doBuildSlide_2 := dk_seg dksX4_doBuildSlide_1 23 rfl rfl
theorem dksX4_doBuildSlide_3 : cX4_doBuildSlide.data.toList.drop 70 = dktX4_doBuildSlide_3 := dk_seg dksX4_doBuildSlide_2 23 rfl rfl
theorem dksX4_doBuildSlide_4 : cX4_doBuildSlide.data.toList.drop 93 = dktX4_doBuildSlide_4 := dk_seg dksX4_doBuildSlide_3 23 rfl rfl
theorem dX4_doBuildSlide_0 : decode cX4_doBuildSlide 0 = .ok (.aload_n 0, 1) := dk_42 (dk_at dksX4_doBuildSlide_0 0 rfl rfl)
theorem dX4_doBuildSlide_1 : decode cX4_doBuildSlide 1 = .ok (.getfield 9, 3) := dk_180 0 9 (dk_at dksX4_doBuildSlide_0 1 rfl rfl)
theorem dX4_doBuildSlide_4 : decode cX4_doBuildSlide 4 = .ok (.iconst 0, 1) := dk_3 (dk_at dksX4_doBuildSlide_0 4 rfl rfl)
theorem dX4_doBuildSlide_5 : decode cX4_doBuildSlide 5 = .ok (.iaload, 1) := dk_46 (dk_at dksX4_doBuildSlide_0 5 rfl rfl)
theorem dX4_doBuildSlide_6 : decode cX4_doBuildSlide 6 = .ok (.istore_n 3, 1) := dk_62 (dk_at dksX4_doBuildSlide_0 6 rfl rfl)
theorem dX4_doBuildSlide_7 : decode cX4_doBuildSlide 7 = .ok (.iload_n 1, 1) := dk_27 (dk_at dksX4_doBuildSlide_0 7 rfl rfl)
theorem dX4_doBuildSlide_8 : decode cX4_doBuildSlide 8 = .ok (.iconst 1, 1) := dk_4 (dk_at dksX4_doBuildSlide_0 8 rfl rfl)
theorem dX4_doBuildSlide_9 : decode cX4_doBuildSlide 9 = .ok (.bipush 9, 2) := dk_16 9 (dk_at dksX4_doBuildSlide_0 9 rfl rfl)
theorem dX4_doBuildSlide_11 : decode cX4_doBuildSlide 11 = .ok (.invokestatic 51, 3) := dk_184 0 51 (dk_at dksX4_doBuildSlide_0 11 rfl rfl)
theorem dX4_doBuildSlide_14 : decode cX4_doBuildSlide 14 = .ok (.ifCond .eq 13, 3) := dk_153 0 13 (dk_at dksX4_doBuildSlide_0 14 rfl rfl)
theorem dX4_doBuildSlide_17 : decode cX4_doBuildSlide 17 = .ok (.iload_n 2, 1) := dk_28 (dk_at dksX4_doBuildSlide_0 17 rfl rfl)
theorem dX4_doBuildSlide_18 : decode cX4_doBuildSlide 18 = .ok (.iconst 1, 1) := dk_4 (dk_at dksX4_doBuildSlide_0 18 rfl rfl)
theorem dX4_doBuildSlide_19 : decode cX4_doBuildSlide 19 = .ok (.bipush 9, 2) := dk_16 9 (dk_at dksX4_doBuildSlide_0 19 rfl rfl)
theorem dX4_doBuildSlide_21 : decode cX4_doBuildSlide 21 = .ok (.invokestatic 51, 3) := dk_184 0 51 (dk_at dksX4_doBuildSlide_0 21 rfl rfl)
theorem dX4_doBuildSlide_24 : decode cX4_doBuildSlide 24 = .ok (.ifCond .ne 9, 3) := dk_154 0 9 (dk_at dksX4_doBuildSlide_1 0 rfl rfl)
theorem dX4_doBuildSlide_27 : decode cX4_doBuildSlide 27 = .ok (.aload_n 0, 1) := dk_42 (dk_at dksX4_doBuildSlide_1 3 rfl rfl)
theorem dX4_doBuildSlide_28 : decode cX4_doBuildSlide 28 = .ok (.iconst 1, 1) := dk_4 (dk_at dksX4_doBuildSlide_1 4 rfl rfl)
theorem dX4_doBuildSlide_29 : decode cX4_doBuildSlide 29 = .ok (.invokevirtual 74, 3) := dk_182 0 74 (dk_at dksX4_doBuildSlide_1 5 rfl rfl)
theorem dX4_doBuildSlide_32 : decode cX4_doBuildSlide 32 = .ok (.ireturn, 1) := dk_172 (dk_at dksX4_doBuildSlide_1 8 rfl rfl)
theorem dX4_doBuildSlide_33 : decode cX4_doBuildSlide 33 = .ok (.iload_n 3, 1) := dk_29 (dk_at dksX4_doBuildSlide_1 9 rfl rfl)
theorem dX4_doBuildSlide_34 : decode cX4_doBuildSlide 34 = .ok (.iconst 4, 1) := dk_7 (dk_at dksX4_doBuildSlide_1 10 rfl rfl)
theorem dX4_doBuildSlide_35 : decode cX4_doBuildSlide 35 = .ok (.if_icmp .ne 9, 3) := dk_160 0 9 (dk_at dksX4_doBuildSlide_1 11 rfl rfl)
theorem dX4_doBuildSlide_38 : decode cX4_doBuildSlide 38 = .ok (.aload_n 0, 1) := dk_42 (dk_at dksX4_doBuildSlide_1 14 rfl rfl)
theorem dX4_doBuildSlide_39 : decode cX4_doBuildSlide 39 = .ok (.iconst 2, 1) := dk_5 (dk_at dksX4_doBuildSlide_1 15 rfl rfl)
theorem dX4_doBuildSlide_40 : decode cX4_doBuildSlide 40 = .ok (.invokevirtual 74, 3) := dk_182 0 74 (dk_at dksX4_doBuildSlide_1 16 rfl rfl)
theorem dX4_doBuildSlide_43 : decode cX4_doBuildSlide 43 = .ok (.ireturn, 1) := dk_172 (dk_at dksX4_doBuildSlide_1 19 rfl rfl)
theorem dX4_doBuildSlide_44 : decode cX4_doBuildSlide 44 = .ok (.iconst 0, 1) := dk_3 (dk_at dksX4_doBuildSlide_1 20 rfl rfl)
theorem dX4_doBuildSlide_45 : decode cX4_doBuildSlide 45 = .ok (.istore 4, 2) := dk_54 4 (dk_at dksX4_doBuildSlide_1 21 rfl rfl)
theorem dX4_doBuildSlide_47 : decode cX4_doBuildSlide 47 = .ok (.iload 4, 2) := dk_21 4 (dk_at dksX4_doBuildSlide_2 0 rfl rfl)
theorem dX4_doBuildSlide_49 : decode cX4_doBuildSlide 49 = .ok (.bipush 9, 2) := dk_16 9 (dk_at dksX4_doBuildSlide_2 2 rfl rfl)
theorem dX4_doBuildSlide_51 : decode cX4_doBuildSlide 51 = .ok (.if_icmp .ge 25, 3) := dk_162 0 25 (dk_at dksX4_doBuildSlide_2 4 rfl rfl)
theorem dX4_doBuildSlide_54 : decode cX4_doBuildSlide 54 = .ok (.aload_n 0, 1) := dk_42 (dk_at dksX4_doBuildSlide_2 7 rfl rfl)
theorem dX4_doBuildSlide_55 : decode cX4_doBuildSlide 55 = .ok (.getfield 9, 3) := dk_180 0 9 (dk_at dksX4_doBuildSlide_2 8 rfl rfl)
theorem dX4_doBuildSlide_58 : decode cX4_doBuildSlide 58 = .ok (.bipush 8, 2) := dk_16 8 (dk_at dksX4_doBuildSlide_2 11 rfl rfl)
theorem dX4_doBuildSlide_60 : decode cX4_doBuildSlide 60 = .ok (.bipush 9, 2) := dk_16 9 (dk_at dksX4_doBuildSlide_2 13 rfl rfl)
theorem dX4_doBuildSlide_62 : decode cX4_doBuildSlide 62 = .ok (.iload_n 3, 1) := dk_29 (dk_at dksX4_doBuildSlide_2 15 rfl rfl)
theorem dX4_doBuildSlide_63 : decode cX4_doBuildSlide 63 = .ok (.imul, 1) := dk_104 (dk_at dksX4_doBuildSlide_2 16 rfl rfl)
theorem dX4_doBuildSlide_64 : decode cX4_doBuildSlide 64 = .ok (.iadd, 1) := dk_96 (dk_at dksX4_doBuildSlide_2 17 rfl rfl)
theorem dX4_doBuildSlide_65 : decode cX4_doBuildSlide 65 = .ok (.iload 4, 2) := dk_21 4 (dk_at dksX4_doBuildSlide_2 18 rfl rfl)
theorem dX4_doBuildSlide_67 : decode cX4_doBuildSlide 67 = .ok (.iadd, 1) := dk_96 (dk_at dksX4_doBuildSlide_2 20 rfl rfl)
theorem dX4_doBuildSlide_68 : decode cX4_doBuildSlide 68 = .ok (.iconst 0, 1) := dk_3 (dk_at dksX4_doBuildSlide_2 21 rfl rfl)
theorem dX4_doBuildSlide_69 : decode cX4_doBuildSlide 69 = .ok (.iastore, 1) := dk_79 (dk_at dksX4_doBuildSlide_2 22 rfl rfl)
theorem dX4_doBuildSlide_70 : decode cX4_doBuildSlide 70 = .ok (.iinc 4 1, 3) := dk_132 4 1 (dk_at dksX4_doBuildSlide_3 0 rfl rfl)
theorem dX4_doBuildSlide_73 : decode cX4_doBuildSlide 73 = .ok (.goto (-26), 3) := dk_167 255 230 (dk_at dksX4_doBuildSlide_3 3 rfl rfl)
theorem dX4_doBuildSlide_76 : decode cX4_doBuildSlide 76 = .ok (.aload_n 0, 1) := dk_42 (dk_at dksX4_doBuildSlide_3 6 rfl rfl)
theorem dX4_doBuildSlide_77 : decode cX4_doBuildSlide 77 = .ok (.getfield 9, 3) := dk_180 0 9 (dk_at dksX4_doBuildSlide_3 7 rfl rfl)
theorem dX4_doBuildSlide_80 : decode cX4_doBuildSlide 80 = .ok (.bipush 8, 2) := dk_16 8 (dk_at dksX4_doBuildSlide_3 10 rfl rfl)
theorem dX4_doBuildSlide_82 : decode cX4_doBuildSlide 82 = .ok (.bipush 9, 2) := dk_16 9 (dk_at dksX4_doBuildSlide_3 12 rfl rfl)
theorem dX4_doBuildSlide_84 : decode cX4_doBuildSlide 84 = .ok (.iload_n 3, 1) := dk_29 (dk_at dksX4_doBuildSlide_3 14 rfl rfl)
theorem dX4_doBuildSlide_85 : decode cX4_doBuildSlide 85 = .ok (.imul, 1) := dk_104 (dk_at dksX4_doBuildSlide_3 15 rfl rfl)
theorem dX4_doBuildSlide_86 : decode cX4_doBuildSlide 86 = .ok (.iadd, 1) := dk_96 (dk_at dksX4_doBuildSlide_3 16 rfl rfl)
theorem dX4_doBuildSlide_87 : decode cX4_doBuildSlide 87 = .ok (.iload_n 1, 1) := dk_27 (dk_at dksX4_doBuildSlide_3 17 rfl rfl)
theorem dX4_doBuildSlide_88 : decode cX4_doBuildSlide 88 = .ok (.iastore, 1) := dk_79 (dk_at dksX4_doBuildSlide_3 18 rfl rfl)
theorem dX4_doBuildSlide_89 : decode cX4_doBuildSlide 89 = .ok (.aload_n 0, 1) := dk_42 (dk_at dksX4_doBuildSlide_3 19 rfl rfl)
theorem dX4_doBuildSlide_90 : decode cX4_doBuildSlide 90 = .ok (.getfield 9, 3) := dk_180 0 9 (dk_at dksX4_doBuildSlide_3 20 rfl rfl)
theorem dX4_doBuildSlide_93 : decode cX4_doBuildSlide 93 = .ok (.bipush 8, 2) := dk_16 8 (dk_at dksX4_doBuildSlide_4 0 rfl rfl)
theorem dX4_doBuildSlide_95 : decode cX4_doBuildSlide 95 = .ok (.bipush 9, 2) := dk_16 9 (dk_at dksX4_doBuildSlide_4 2 rfl rfl)
theorem dX4_doBuildSlide_97 : decode cX4_doBuildSlide 97 = .ok (.iload_n 3, 1) := dk_29 (dk_at dksX4_doBuildSlide_4 4 rfl rfl)
theorem dX4_doBuildSlide_98 : decode cX4_doBuildSlide 98 = .ok (.imul, 1) := dk_104 (dk_at dksX4_doBuildSlide_4 5 rfl rfl)
theorem dX4_doBuildSlide_99 : decode cX4_doBuildSlide 99 = .ok (.iadd, 1) := dk_96 (dk_at dksX4_doBuildSlide_4 6 rfl rfl)
theorem dX4_doBuildSlide_100 : decode cX4_doBuildSlide 100 = .ok (.iconst 1, 1) := dk_4 (dk_at dksX4_doBuildSlide_4 7 rfl rfl)
theorem dX4_doBuildSlide_101 : decode cX4_doBuildSlide 101 = .ok (.iadd, 1) := dk_96 (dk_at dksX4_doBuildSlide_4 8 rfl rfl)
theorem dX4_doBuildSlide_102 : decode cX4_doBuildSlide 102 = .ok (.iload_n 2, 1) := dk_28 (dk_at dksX4_doBuildSlide_4 9 rfl rfl)
theorem dX4_doBuildSlide_103 : decode cX4_doBuildSlide 103 = .ok (.iastore, 1) := dk_79 (dk_at dksX4_doBuildSlide_4 10 rfl rfl)
theorem dX4_doBuildSlide_104 : decode cX4_doBuildSlide 104 = .ok (.aload_n 0, 1) := dk_42 (dk_at dksX4_doBuildSlide_4 11 rfl rfl)
theorem dX4_doBuildSlide_105 : decode cX4_doBuildSlide 105 = .ok (.getfield 9, 3) := dk_180 0 9 (dk_at dksX4_doBuildSlide_4 12 rfl rfl)
theorem dX4_doBuildSlide_108 : decode cX4_doBuildSlide 108 = .ok (.iconst 0, 1) := dk_3 (dk_at dksX4_doBuildSlide_4 15 rfl rfl)
theorem dX4_doBuildSlide_109 : decode cX4_doBuildSlide 109 = .ok (.dup2, 1) := dk_92 (dk_at dksX4_doBuildSlide_4 16 rfl rfl)
theorem dX4_doBuildSlide_110 : decode cX4_doBuildSlide 110 = .ok (.iaload, 1) := dk_46 (dk_at dksX4_doBuildSlide_4 17 rfl rfl)
theorem dX4_doBuildSlide_111 : decode cX4_doBuildSlide 111 = .ok (.iconst 1, 1) := dk_4 (dk_at dksX4_doBuildSlide_4 18 rfl rfl)
theorem dX4_doBuildSlide_112 : decode cX4_doBuildSlide 112 = .ok (.iadd, 1) := dk_96 (dk_at dksX4_doBuildSlide_4 19 rfl rfl)
theorem dX4_doBuildSlide_113 : decode cX4_doBuildSlide 113 = .ok (.iastore, 1) := dk_79 (dk_at dksX4_doBuildSlide_4 20 rfl rfl)
theorem dX4_doBuildSlide_114 : decode cX4_doBuildSlide 114 = .ok (.iload_n 3, 1) := dk_29 (dk_at dksX4_doBuildSlide_4 21 rfl rfl)
theorem dX4_doBuildSlide_115 : decode cX4_doBuildSlide 115 = .ok (.ireturn, 1) := dk_172 (dk_at dksX4_doBuildSlide_4 22 rfl rfl)
abbrev cX4_in : ByteArray := prog_14_method_3_code
def yX4_in : MethodName := ⟨RX4, "in", "(III)Z"⟩
def dkwX4_in_0 : List UInt8 := [26, 27, 161, 0, 12, 26, 28, 163, 0, 7, 4, 167, 0, 4, 3, 172]
abbrev dktX4_in_0 : List UInt8 := dkwX4_in_0 ++ []
theorem dksX4_in_0 : cX4_in.data.toList.drop 0 = dktX4_in_0 := by decide +kernel
theorem dX4_in_0 : decode cX4_in 0 = .ok (.iload_n 0, 1) := dk_26 (dk_at dksX4_in_0 0 rfl rfl)
theorem dX4_in_1 : decode cX4_in 1 = .ok (.iload_n 1, 1) := dk_27 (dk_at dksX4_in_0 1 rfl rfl)
theorem dX4_in_2 : decode cX4_in 2 = .ok (.if_icmp .lt 12, 3) := dk_161 0 12 (dk_at dksX4_in_0 2 rfl rfl)
theorem dX4_in_5 : decode cX4_in 5 = .ok (.iload_n 0, 1) := dk_26 (dk_at dksX4_in_0 5 rfl rfl)
theorem dX4_in_6 : decode cX4_in 6 = .ok (.iload_n 2, 1) := dk_28 (dk_at dksX4_in_0 6 rfl rfl)
theorem dX4_in_7 : decode cX4_in 7 = .ok (.if_icmp .gt 7, 3) := dk_163 0 7 (dk_at dksX4_in_0 7 rfl rfl)
theorem dX4_in_10 : decode cX4_in 10 = .ok (.iconst 1, 1) := dk_4 (dk_at dksX4_in_0 10 rfl rfl)
theorem dX4_in_11 : decode cX4_in 11 = .ok (.goto 4, 3) := dk_167 0 4 (dk_at dksX4_in_0 11 rfl rfl)
theorem dX4_in_14 : decode cX4_in 14 = .ok (.iconst 0, 1) := dk_3 (dk_at dksX4_in_0 14 rfl rfl)
theorem dX4_in_15 : decode cX4_in 15 = .ok (.ireturn, 1) := dk_172 (dk_at dksX4_in_0 15 rfl rfl)
abbrev cX4_fails : ByteArray := prog_14_method_6_code
def yX4_fails : MethodName := ⟨RX4, "fails", "(I)I"⟩
def dkwX4_fails_0 : List UInt8 := [42, 27, 181, 0, 39, 3, 172]
abbrev dktX4_fails_0 : List UInt8 := dkwX4_fails_0 ++ []
theorem dksX4_fails_0 : cX4_fails.data.toList.drop 0 = dktX4_fails_0 := by decide +kernel
theorem dX4_fails_0 : decode cX4_fails 0 = .ok (.aload_n 0, 1) := dk_42 (dk_at dksX4_fails_0 0 rfl rfl)
theorem dX4_fails_1 : decode cX4_fails 1 = .ok (.iload_n 1, 1) := dk_27 (dk_at dksX4_fails_0 1 rfl rfl)
theorem dX4_fails_2 : decode cX4_fails 2 = .ok (.putfield 39, 3) := dk_181 0 39 (dk_at dksX4_fails_0 2 rfl rfl)
theorem dX4_fails_5 : decode cX4_fails 5 = .ok (.iconst 0, 1) := dk_3 (dk_at dksX4_fails_0 5 rfl rfl)
theorem dX4_fails_6 : decode cX4_fails 6 = .ok (.ireturn, 1) := dk_172 (dk_at dksX4_fails_0 6 rfl rfl)
abbrev cX4_ends : ByteArray := prog_14_method_5_code
def yX4_ends : MethodName := ⟨RX4, "ends", "(I)I"⟩
def dkwX4_ends_4 : List UInt8 := [181, 0, 48, 27, 172]
abbrev dktX4_ends_4 : List UInt8 := dkwX4_ends_4 ++ []
def dkwX4_ends_3 : List UInt8 := [180, 0, 19, 17, 0, 158, 42, 180, 0, 48, 104, 17, 0, 158, 184, 0, 42, 42, 89, 180, 0, 48, 4, 96]
abbrev dktX4_ends_3 : List UInt8 := dkwX4_ends_3 ++ dktX4_ends_4
def dkwX4_ends_2 : List UInt8 := [17, 4, 82, 184, 0, 42, 42, 89, 180, 0, 48, 4, 100, 181, 0, 48, 42, 180, 0, 13, 3, 42]
abbrev dktX4_ends_2 : List UInt8 := dkwX4_ends_2 ++ dktX4_ends_3
def dkwX4_ends_1 : List UInt8 := [172, 42, 180, 0, 48, 16, 8, 160, 0, 31, 42, 180, 0, 19, 17, 0, 158, 42, 180, 0, 19, 3]
abbrev dktX4_ends_1 : List UInt8 := dkwX4_ends_1 ++ dktX4_ends_2
def dkwX4_ends_0 : List UInt8 := [42, 180, 0, 39, 158, 0, 21, 42, 180, 0, 13, 3, 42, 180, 0, 9, 3, 17, 0, 158, 184, 0, 42, 3]
abbrev dktX4_ends_0 : List UInt8 := dkwX4_ends_0 ++ dktX4_ends_1
theorem dksX4_ends_0 : cX4_ends.data.toList.drop 0 = dktX4_ends_0 := by decide +kernel
theorem dksX4_ends_1 : cX4_ends.data.toList.drop 24 = dktX4_ends_1 := dk_seg dksX4_ends_0 24 rfl rfl
theorem dksX4_ends_2 : cX4_ends.data.toList.drop 46 = dktX4_ends_2 := dk_seg dksX4_ends_1 22 rfl rfl
theorem dksX4_ends_3 : cX4_ends.data.toList.drop 68 = dktX4_ends_3 := dk_seg dksX4_ends_2 22 rfl rfl
theorem dksX4_ends_4 : cX4_ends.data.toList.drop 92 = dktX4_ends_4 := dk_seg dksX4_ends_3 24 rfl rfl
theorem dX4_ends_0 : decode cX4_ends 0 = .ok (.aload_n 0, 1) := dk_42 (dk_at dksX4_ends_0 0 rfl rfl)
theorem dX4_ends_1 : decode cX4_ends 1 = .ok (.getfield 39, 3) := dk_180 0 39 (dk_at dksX4_ends_0 1 rfl rfl)
theorem dX4_ends_4 : decode cX4_ends 4 = .ok (.ifCond .le 21, 3) := dk_158 0 21 (dk_at dksX4_ends_0 4 rfl rfl)
theorem dX4_ends_7 : decode cX4_ends 7 = .ok (.aload_n 0, 1) := dk_42 (dk_at dksX4_ends_0 7 rfl rfl)
theorem dX4_ends_8 : decode cX4_ends 8 = .ok (.getfield 13, 3) := dk_180 0 13 (dk_at dksX4_ends_0 8 rfl rfl)
theorem dX4_ends_11 : decode cX4_ends 11 = .ok (.iconst 0, 1) := dk_3 (dk_at dksX4_ends_0 11 rfl rfl)
theorem dX4_ends_12 : decode cX4_ends 12 = .ok (.aload_n 0, 1) := dk_42 (dk_at dksX4_ends_0 12 rfl rfl)
theorem dX4_ends_13 : decode cX4_ends 13 = .ok (.getfield 9, 3) := dk_180 0 9 (dk_at dksX4_ends_0 13 rfl rfl)
theorem dX4_ends_16 : decode cX4_ends 16 = .ok (.iconst 0, 1) := dk_3 (dk_at dksX4_ends_0 16 rfl rfl)
theorem dX4_ends_17 : decode cX4_ends 17 = .ok (.sipush 158, 3) := dk_17 0 158 (dk_at dksX4_ends_0 17 rfl rfl)
theorem dX4_ends_20 : decode cX4_ends 20 = .ok (.invokestatic 42, 3) := dk_184 0 42 (dk_at dksX4_ends_0 20 rfl rfl)
theorem dX4_ends_23 : decode cX4_ends 23 = .ok (.iconst 0, 1) := dk_3 (dk_at dksX4_ends_0 23 rfl rfl)
theorem dX4_ends_24 : decode cX4_ends 24 = .ok (.ireturn, 1) := dk_172 (dk_at dksX4_ends_1 0 rfl rfl)
theorem dX4_ends_25 : decode cX4_ends 25 = .ok (.aload_n 0, 1) := dk_42 (dk_at dksX4_ends_1 1 rfl rfl)
theorem dX4_ends_26 : decode cX4_ends 26 = .ok (.getfield 48, 3) := dk_180 0 48 (dk_at dksX4_ends_1 2 rfl rfl)
theorem dX4_ends_29 : decode cX4_ends 29 = .ok (.bipush 8, 2) := dk_16 8 (dk_at dksX4_ends_1 5 rfl rfl)
theorem dX4_ends_31 : decode cX4_ends 31 = .ok (.if_icmp .ne 31, 3) := dk_160 0 31 (dk_at dksX4_ends_1 7 rfl rfl)
theorem dX4_ends_34 : decode cX4_ends 34 = .ok (.aload_n 0, 1) := dk_42 (dk_at dksX4_ends_1 10 rfl rfl)
theorem dX4_ends_35 : decode cX4_ends 35 = .ok (.getfield 19, 3) := dk_180 0 19 (dk_at dksX4_ends_1 11 rfl rfl)
theorem dX4_ends_38 : decode cX4_ends 38 = .ok (.sipush 158, 3) := dk_17 0 158 (dk_at dksX4_ends_1 14 rfl rfl)
theorem dX4_ends_41 : decode cX4_ends 41 = .ok (.aload_n 0, 1) := dk_42 (dk_at dksX4_ends_1 17 rfl rfl)
theorem dX4_ends_42 : decode cX4_ends 42 = .ok (.getfield 19, 3) := dk_180 0 19 (dk_at dksX4_ends_1 18 rfl rfl)
theorem dX4_ends_45 : decode cX4_ends 45 = .ok (.iconst 0, 1) := dk_3 (dk_at dksX4_ends_1 21 rfl rfl)
theorem dX4_ends_46 : decode cX4_ends 46 = .ok (.sipush 1106, 3) := dk_17 4 82 (dk_at dksX4_ends_2 0 rfl rfl)
theorem dX4_ends_49 : decode cX4_ends 49 = .ok (.invokestatic 42, 3) := dk_184 0 42 (dk_at dksX4_ends_2 3 rfl rfl)
theorem dX4_ends_52 : decode cX4_ends 52 = .ok (.aload_n 0, 1) := dk_42 (dk_at dksX4_ends_2 6 rfl rfl)
theorem dX4_ends_53 : decode cX4_ends 53 = .ok (.dup, 1) := dk_89 (dk_at dksX4_ends_2 7 rfl rfl)
theorem dX4_ends_54 : decode cX4_ends 54 = .ok (.getfield 48, 3) := dk_180 0 48 (dk_at dksX4_ends_2 8 rfl rfl)
theorem dX4_ends_57 : decode cX4_ends 57 = .ok (.iconst 1, 1) := dk_4 (dk_at dksX4_ends_2 11 rfl rfl)
theorem dX4_ends_58 : decode cX4_ends 58 = .ok (.isub, 1) := dk_100 (dk_at dksX4_ends_2 12 rfl rfl)
theorem dX4_ends_59 : decode cX4_ends 59 = .ok (.putfield 48, 3) := dk_181 0 48 (dk_at dksX4_ends_2 13 rfl rfl)
theorem dX4_ends_62 : decode cX4_ends 62 = .ok (.aload_n 0, 1) := dk_42 (dk_at dksX4_ends_2 16 rfl rfl)
theorem dX4_ends_63 : decode cX4_ends 63 = .ok (.getfield 13, 3) := dk_180 0 13 (dk_at dksX4_ends_2 17 rfl rfl)
theorem dX4_ends_66 : decode cX4_ends 66 = .ok (.iconst 0, 1) := dk_3 (dk_at dksX4_ends_2 20 rfl rfl)
theorem dX4_ends_67 : decode cX4_ends 67 = .ok (.aload_n 0, 1) := dk_42 (dk_at dksX4_ends_2 21 rfl rfl)
theorem dX4_ends_68 : decode cX4_ends 68 = .ok (.getfield 19, 3) := dk_180 0 19 (dk_at dksX4_ends_3 0 rfl rfl)
theorem dX4_ends_71 : decode cX4_ends 71 = .ok (.sipush 158, 3) := dk_17 0 158 (dk_at dksX4_ends_3 3 rfl rfl)
theorem dX4_ends_74 : decode cX4_ends 74 = .ok (.aload_n 0, 1) := dk_42 (dk_at dksX4_ends_3 6 rfl rfl)
theorem dX4_ends_75 : decode cX4_ends 75 = .ok (.getfield 48, 3) := dk_180 0 48 (dk_at dksX4_ends_3 7 rfl rfl)
theorem dX4_ends_78 : decode cX4_ends 78 = .ok (.imul, 1) := dk_104 (dk_at dksX4_ends_3 10 rfl rfl)
theorem dX4_ends_79 : decode cX4_ends 79 = .ok (.sipush 158, 3) := dk_17 0 158 (dk_at dksX4_ends_3 11 rfl rfl)
theorem dX4_ends_82 : decode cX4_ends 82 = .ok (.invokestatic 42, 3) := dk_184 0 42 (dk_at dksX4_ends_3 14 rfl rfl)
theorem dX4_ends_85 : decode cX4_ends 85 = .ok (.aload_n 0, 1) := dk_42 (dk_at dksX4_ends_3 17 rfl rfl)
theorem dX4_ends_86 : decode cX4_ends 86 = .ok (.dup, 1) := dk_89 (dk_at dksX4_ends_3 18 rfl rfl)
theorem dX4_ends_87 : decode cX4_ends 87 = .ok (.getfield 48, 3) := dk_180 0 48 (dk_at dksX4_ends_3 19 rfl rfl)
theorem dX4_ends_90 : decode cX4_ends 90 = .ok (.iconst 1, 1) := dk_4 (dk_at dksX4_ends_3 22 rfl rfl)
theorem dX4_ends_91 : decode cX4_ends 91 = .ok (.iadd, 1) := dk_96 (dk_at dksX4_ends_3 23 rfl rfl)
theorem dX4_ends_92 : decode cX4_ends 92 = .ok (.putfield 48, 3) := dk_181 0 48 (dk_at dksX4_ends_4 0 rfl rfl)
theorem dX4_ends_95 : decode cX4_ends 95 = .ok (.iload_n 1, 1) := dk_27 (dk_at dksX4_ends_4 3 rfl rfl)
theorem dX4_ends_96 : decode cX4_ends 96 = .ok (.ireturn, 1) := dk_172 (dk_at dksX4_ends_4 4 rfl rfl)
abbrev cX4_addGuest : ByteArray := prog_14_method_22_code
def yX4_addGuest : MethodName := ⟨RX4, "addGuest", "()I"⟩
def dkwX4_addGuest_0 : List UInt8 := [42, 182, 0, 77, 42, 42, 182, 0, 86, 182, 0, 83, 172]
abbrev dktX4_addGuest_0 : List UInt8 := dkwX4_addGuest_0 ++ []
theorem dksX4_addGuest_0 : cX4_addGuest.data.toList.drop 0 = dktX4_addGuest_0 := by decide +kernel
theorem dX4_addGuest_0 : decode cX4_addGuest 0 = .ok (.aload_n 0, 1) := dk_42 (dk_at dksX4_addGuest_0 0 rfl rfl)
theorem dX4_addGuest_1 : decode cX4_addGuest 1 = .ok (.invokevirtual 77, 3) := dk_182 0 77 (dk_at dksX4_addGuest_0 1 rfl rfl)
theorem dX4_addGuest_4 : decode cX4_addGuest 4 = .ok (.aload_n 0, 1) := dk_42 (dk_at dksX4_addGuest_0 4 rfl rfl)
theorem dX4_addGuest_5 : decode cX4_addGuest 5 = .ok (.aload_n 0, 1) := dk_42 (dk_at dksX4_addGuest_0 5 rfl rfl)
theorem dX4_addGuest_6 : decode cX4_addGuest 6 = .ok (.invokevirtual 86, 3) := dk_182 0 86 (dk_at dksX4_addGuest_0 6 rfl rfl)
theorem dX4_addGuest_9 : decode cX4_addGuest 9 = .ok (.invokevirtual 83, 3) := dk_182 0 83 (dk_at dksX4_addGuest_0 9 rfl rfl)
theorem dX4_addGuest_12 : decode cX4_addGuest 12 = .ok (.ireturn, 1) := dk_172 (dk_at dksX4_addGuest_0 12 rfl rfl)
abbrev cX4_doAddGuest : ByteArray := prog_14_method_21_code
def yX4_doAddGuest : MethodName := ⟨RX4, "doAddGuest", "()I"⟩
def dkwX4_doAddGuest_3 : List UInt8 := [172]
abbrev dktX4_doAddGuest_3 : List UInt8 := dkwX4_doAddGuest_3 ++ []
def dkwX4_doAddGuest_2 : List UInt8 := [180, 0, 9, 16, 44, 6, 27, 104, 96, 5, 96, 3, 79, 42, 180, 0, 9, 4, 92, 46, 4, 96, 79, 27]
abbrev dktX4_doAddGuest_2 : List UInt8 := dkwX4_doAddGuest_2 ++ dktX4_doAddGuest_3
def dkwX4_doAddGuest_1 : List UInt8 := [16, 44, 6, 27, 104, 96, 16, 50, 79, 42, 180, 0, 9, 16, 44, 6, 27, 104, 96, 4, 96, 3, 79, 42]
abbrev dktX4_doAddGuest_1 : List UInt8 := dkwX4_doAddGuest_1 ++ dktX4_doAddGuest_2
def dkwX4_doAddGuest_0 : List UInt8 := [42, 180, 0, 9, 4, 46, 60, 27, 16, 10, 160, 0, 9, 42, 4, 182, 0, 74, 172, 42, 180, 0, 9]
abbrev dktX4_doAddGuest_0 : List UInt8 := dkwX4_doAddGuest_0 ++ dktX4_doAddGuest_1
theorem dksX4_doAddGuest_0 : cX4_doAddGuest.data.toList.drop 0 = dktX4_doAddGuest_0 := by decide +kernel
theorem dksX4_doAddGuest_1 : cX4_doAddGuest.data.toList.drop 23 = dktX4_doAddGuest_1 := dk_seg dksX4_doAddGuest_0 23 rfl rfl
theorem dksX4_doAddGuest_2 : cX4_doAddGuest.data.toList.drop 47 = dktX4_doAddGuest_2 := dk_seg dksX4_doAddGuest_1 24 rfl rfl
theorem dksX4_doAddGuest_3 : cX4_doAddGuest.data.toList.drop 71 = dktX4_doAddGuest_3 := dk_seg dksX4_doAddGuest_2 24 rfl rfl
theorem dX4_doAddGuest_0 : decode cX4_doAddGuest 0 = .ok (.aload_n 0, 1) := dk_42 (dk_at dksX4_doAddGuest_0 0 rfl rfl)
theorem dX4_doAddGuest_1 : decode cX4_doAddGuest 1 = .ok (.getfield 9, 3) := dk_180 0 9 (dk_at dksX4_doAddGuest_0 1 rfl rfl)
theorem dX4_doAddGuest_4 : decode cX4_doAddGuest 4 = .ok (.iconst 1, 1) := dk_4 (dk_at dksX4_doAddGuest_0 4 rfl rfl)
theorem dX4_doAddGuest_5 : decode cX4_doAddGuest 5 = .ok (.iaload, 1) := dk_46 (dk_at dksX4_doAddGuest_0 5 rfl rfl)
theorem dX4_doAddGuest_6 : decode cX4_doAddGuest 6 = .ok (.istore_n 1, 1) := dk_60 (dk_at dksX4_doAddGuest_0 6 rfl rfl)
theorem dX4_doAddGuest_7 : decode cX4_doAddGuest 7 = .ok (.iload_n 1, 1) := dk_27 (dk_at dksX4_doAddGuest_0 7 rfl rfl)
theorem dX4_doAddGuest_8 : decode cX4_doAddGuest 8 = .ok (.bipush 10, 2) := dk_16 10 (dk_at dksX4_doAddGuest_0 8 rfl rfl)
theorem dX4_doAddGuest_10 : decode cX4_doAddGuest 10 = .ok (.if_icmp .ne 9, 3) := dk_160 0 9 (dk_at dksX4_doAddGuest_0 10 rfl rfl)
theorem dX4_doAddGuest_13 : decode cX4_doAddGuest 13 = .ok (.aload_n 0, 1) := dk_42 (dk_at dksX4_doAddGuest_0 13 rfl rfl)
theorem dX4_doAddGuest_14 : decode cX4_doAddGuest 14 = .ok (.iconst 1, 1) := dk_4 (dk_at dksX4_doAddGuest_0 14 rfl rfl)
theorem dX4_doAddGuest_15 : decode cX4_doAddGuest 15 = .ok (.invokevirtual 74, 3) := dk_182 0 74 (dk_at dksX4_doAddGuest_0 15 rfl rfl)
theorem dX4_doAddGuest_18 : decode cX4_doAddGuest 18 = .ok (.ireturn, 1) := dk_172 (dk_at dksX4_doAddGuest_0 18 rfl rfl)
theorem dX4_doAddGuest_19 : decode cX4_doAddGuest 19 = .ok (.aload_n 0, 1) := dk_42 (dk_at dksX4_doAddGuest_0 19 rfl rfl)
theorem dX4_doAddGuest_20 : decode cX4_doAddGuest 20 = .ok (.getfield 9, 3) := dk_180 0 9 (dk_at dksX4_doAddGuest_0 20 rfl rfl)
theorem dX4_doAddGuest_23 : decode cX4_doAddGuest 23 = .ok (.bipush 44, 2) := dk_16 44 (dk_at dksX4_doAddGuest_1 0 rfl rfl)
theorem dX4_doAddGuest_25 : decode cX4_doAddGuest 25 = .ok (.iconst 3, 1) := dk_6 (dk_at dksX4_doAddGuest_1 2 rfl rfl)
theorem dX4_doAddGuest_26 : decode cX4_doAddGuest 26 = .ok (.iload_n 1, 1) := dk_27 (dk_at dksX4_doAddGuest_1 3 rfl rfl)
theorem dX4_doAddGuest_27 : decode cX4_doAddGuest 27 = .ok (.imul, 1) := dk_104 (dk_at dksX4_doAddGuest_1 4 rfl rfl)
theorem dX4_doAddGuest_28 : decode cX4_doAddGuest 28 = .ok (.iadd, 1) := dk_96 (dk_at dksX4_doAddGuest_1 5 rfl rfl)
theorem dX4_doAddGuest_29 : decode cX4_doAddGuest 29 = .ok (.bipush 50, 2) := dk_16 50 (dk_at dksX4_doAddGuest_1 6 rfl rfl)
theorem dX4_doAddGuest_31 : decode cX4_doAddGuest 31 = .ok (.iastore, 1) := dk_79 (dk_at dksX4_doAddGuest_1 8 rfl rfl)
theorem dX4_doAddGuest_32 : decode cX4_doAddGuest 32 = .ok (.aload_n 0, 1) := dk_42 (dk_at dksX4_doAddGuest_1 9 rfl rfl)
theorem dX4_doAddGuest_33 : decode cX4_doAddGuest 33 = .ok (.getfield 9, 3) := dk_180 0 9 (dk_at dksX4_doAddGuest_1 10 rfl rfl)
theorem dX4_doAddGuest_36 : decode cX4_doAddGuest 36 = .ok (.bipush 44, 2) := dk_16 44 (dk_at dksX4_doAddGuest_1 13 rfl rfl)
theorem dX4_doAddGuest_38 : decode cX4_doAddGuest 38 = .ok (.iconst 3, 1) := dk_6 (dk_at dksX4_doAddGuest_1 15 rfl rfl)
theorem dX4_doAddGuest_39 : decode cX4_doAddGuest 39 = .ok (.iload_n 1, 1) := dk_27 (dk_at dksX4_doAddGuest_1 16 rfl rfl)
theorem dX4_doAddGuest_40 : decode cX4_doAddGuest 40 = .ok (.imul, 1) := dk_104 (dk_at dksX4_doAddGuest_1 17 rfl rfl)
theorem dX4_doAddGuest_41 : decode cX4_doAddGuest 41 = .ok (.iadd, 1) := dk_96 (dk_at dksX4_doAddGuest_1 18 rfl rfl)
theorem dX4_doAddGuest_42 : decode cX4_doAddGuest 42 = .ok (.iconst 1, 1) := dk_4 (dk_at dksX4_doAddGuest_1 19 rfl rfl)
theorem dX4_doAddGuest_43 : decode cX4_doAddGuest 43 = .ok (.iadd, 1) := dk_96 (dk_at dksX4_doAddGuest_1 20 rfl rfl)
theorem dX4_doAddGuest_44 : decode cX4_doAddGuest 44 = .ok (.iconst 0, 1) := dk_3 (dk_at dksX4_doAddGuest_1 21 rfl rfl)
theorem dX4_doAddGuest_45 : decode cX4_doAddGuest 45 = .ok (.iastore, 1) := dk_79 (dk_at dksX4_doAddGuest_1 22 rfl rfl)
theorem dX4_doAddGuest_46 : decode cX4_doAddGuest 46 = .ok (.aload_n 0, 1) := dk_42 (dk_at dksX4_doAddGuest_1 23 rfl rfl)
theorem dX4_doAddGuest_47 : decode cX4_doAddGuest 47 = .ok (.getfield 9, 3) := dk_180 0 9 (dk_at dksX4_doAddGuest_2 0 rfl rfl)
theorem dX4_doAddGuest_50 : decode cX4_doAddGuest 50 = .ok (.bipush 44, 2) := dk_16 44 (dk_at dksX4_doAddGuest_2 3 rfl rfl)
theorem dX4_doAddGuest_52 : decode cX4_doAddGuest 52 = .ok (.iconst 3, 1) := dk_6 (dk_at dksX4_doAddGuest_2 5 rfl rfl)
theorem dX4_doAddGuest_53 : decode cX4_doAddGuest 53 = .ok (.iload_n 1, 1) := dk_27 (dk_at dksX4_doAddGuest_2 6 rfl rfl)
theorem dX4_doAddGuest_54 : decode cX4_doAddGuest 54 = .ok (.imul, 1) := dk_104 (dk_at dksX4_doAddGuest_2 7 rfl rfl)
theorem dX4_doAddGuest_55 : decode cX4_doAddGuest 55 = .ok (.iadd, 1) := dk_96 (dk_at dksX4_doAddGuest_2 8 rfl rfl)
theorem dX4_doAddGuest_56 : decode cX4_doAddGuest 56 = .ok (.iconst 2, 1) := dk_5 (dk_at dksX4_doAddGuest_2 9 rfl rfl)
theorem dX4_doAddGuest_57 : decode cX4_doAddGuest 57 = .ok (.iadd, 1) := dk_96 (dk_at dksX4_doAddGuest_2 10 rfl rfl)
theorem dX4_doAddGuest_58 : decode cX4_doAddGuest 58 = .ok (.iconst 0, 1) := dk_3 (dk_at dksX4_doAddGuest_2 11 rfl rfl)
theorem dX4_doAddGuest_59 : decode cX4_doAddGuest 59 = .ok (.iastore, 1) := dk_79 (dk_at dksX4_doAddGuest_2 12 rfl rfl)
theorem dX4_doAddGuest_60 : decode cX4_doAddGuest 60 = .ok (.aload_n 0, 1) := dk_42 (dk_at dksX4_doAddGuest_2 13 rfl rfl)
theorem dX4_doAddGuest_61 : decode cX4_doAddGuest 61 = .ok (.getfield 9, 3) := dk_180 0 9 (dk_at dksX4_doAddGuest_2 14 rfl rfl)
theorem dX4_doAddGuest_64 : decode cX4_doAddGuest 64 = .ok (.iconst 1, 1) := dk_4 (dk_at dksX4_doAddGuest_2 17 rfl rfl)
theorem dX4_doAddGuest_65 : decode cX4_doAddGuest 65 = .ok (.dup2, 1) := dk_92 (dk_at dksX4_doAddGuest_2 18 rfl rfl)
theorem dX4_doAddGuest_66 : decode cX4_doAddGuest 66 = .ok (.iaload, 1) := dk_46 (dk_at dksX4_doAddGuest_2 19 rfl rfl)
theorem dX4_doAddGuest_67 : decode cX4_doAddGuest 67 = .ok (.iconst 1, 1) := dk_4 (dk_at dksX4_doAddGuest_2 20 rfl rfl)
theorem dX4_doAddGuest_68 : decode cX4_doAddGuest 68 = .ok (.iadd, 1) := dk_96 (dk_at dksX4_doAddGuest_2 21 rfl rfl)
theorem dX4_doAddGuest_69 : decode cX4_doAddGuest 69 = .ok (.iastore, 1) := dk_79 (dk_at dksX4_doAddGuest_2 22 rfl rfl)
theorem dX4_doAddGuest_70 : decode cX4_doAddGuest 70 = .ok (.iload_n 1, 1) := dk_27 (dk_at dksX4_doAddGuest_2 23 rfl rfl)
theorem dX4_doAddGuest_71 : decode cX4_doAddGuest 71 = .ok (.ireturn, 1) := dk_172 (dk_at dksX4_doAddGuest_3 0 rfl rfl)
abbrev cX4_book : ByteArray := prog_14_method_26_code
def yX4_book : MethodName := ⟨RX4, "book", "(III)I"⟩
def dkwX4_book_0 : List UInt8 := [42, 182, 0, 77, 42, 42, 27, 28, 29, 182, 0, 117, 182, 0, 83, 172]
abbrev dktX4_book_0 : List UInt8 := dkwX4_book_0 ++ []
theorem dksX4_book_0 : cX4_book.data.toList.drop 0 = dktX4_book_0 := by decide +kernel
theorem dX4_book_0 : decode cX4_book 0 = .ok (.aload_n 0, 1) := dk_42 (dk_at dksX4_book_0 0 rfl rfl)
theorem dX4_book_1 : decode cX4_book 1 = .ok (.invokevirtual 77, 3) := dk_182 0 77 (dk_at dksX4_book_0 1 rfl rfl)
theorem dX4_book_4 : decode cX4_book 4 = .ok (.aload_n 0, 1) := dk_42 (dk_at dksX4_book_0 4 rfl rfl)
theorem dX4_book_5 : decode cX4_book 5 = .ok (.aload_n 0, 1) := dk_42 (dk_at dksX4_book_0 5 rfl rfl)
theorem dX4_book_6 : decode cX4_book 6 = .ok (.iload_n 1, 1) := dk_27 (dk_at dksX4_book_0 6 rfl rfl)
theorem dX4_book_7 : decode cX4_book 7 = .ok (.iload_n 2, 1) := dk_28 (dk_at dksX4_book_0 7 rfl rfl)
theorem dX4_book_8 : decode cX4_book 8 = .ok (.iload_n 3, 1) := dk_29 (dk_at dksX4_book_0 8 rfl rfl)
theorem dX4_book_9 : decode cX4_book 9 = .ok (.invokevirtual 117, 3) := dk_182 0 117 (dk_at dksX4_book_0 9 rfl rfl)
theorem dX4_book_12 : decode cX4_book 12 = .ok (.invokevirtual 83, 3) := dk_182 0 83 (dk_at dksX4_book_0 12 rfl rfl)
theorem dX4_book_15 : decode cX4_book 15 = .ok (.ireturn, 1) := dk_172 (dk_at dksX4_book_0 15 rfl rfl)
abbrev cX4_doBook : ByteArray := prog_14_method_25_code
def yX4_doBook : MethodName := ⟨RX4, "doBook", "(III)I"⟩
def dkwX4_doBook_3 : List UInt8 := [182, 0, 110, 153, 0, 9, 42, 7, 182, 0, 74, 172, 42, 27, 28, 29, 182, 0, 113, 172]
abbrev dktX4_doBook_3 : List UInt8 := dkwX4_doBook_3 ++ []
def dkwX4_doBook_2 : List UInt8 := [27, 3, 182, 0, 107, 42, 28, 4, 182, 0, 71, 162, 0, 9, 42, 6, 182, 0, 74, 172, 42, 27, 28, 29]
abbrev dktX4_doBook_2 : List UInt8 := dkwX4_doBook_2 ++ dktX4_doBook_3
def dkwX4_doBook_1 : List UInt8 := [182, 0, 104, 154, 0, 9, 42, 5, 182, 0, 74, 172, 42, 180, 0, 9, 5, 46, 16, 12, 159, 0, 18, 42]
abbrev dktX4_doBook_1 : List UInt8 := dkwX4_doBook_1 ++ dktX4_doBook_2
def dkwX4_doBook_0 : List UInt8 := [42, 27, 182, 0, 97, 153, 0, 11, 42, 28, 182, 0, 101, 154, 0, 9, 42, 4, 182, 0, 74, 172, 42, 29]
abbrev dktX4_doBook_0 : List UInt8 := dkwX4_doBook_0 ++ dktX4_doBook_1
theorem dksX4_doBook_0 : cX4_doBook.data.toList.drop 0 = dktX4_doBook_0 := by decide +kernel
theorem dksX4_doBook_1 : cX4_doBook.data.toList.drop 24 = dktX4_doBook_1 := dk_seg dksX4_doBook_0 24 rfl rfl
theorem dksX4_doBook_2 : cX4_doBook.data.toList.drop 48 = dktX4_doBook_2 := dk_seg dksX4_doBook_1 24 rfl rfl
theorem dksX4_doBook_3 : cX4_doBook.data.toList.drop 72 = dktX4_doBook_3 := dk_seg dksX4_doBook_2 24 rfl rfl
theorem dX4_doBook_0 : decode cX4_doBook 0 = .ok (.aload_n 0, 1) := dk_42 (dk_at dksX4_doBook_0 0 rfl rfl)
theorem dX4_doBook_1 : decode cX4_doBook 1 = .ok (.iload_n 1, 1) := dk_27 (dk_at dksX4_doBook_0 1 rfl rfl)
theorem dX4_doBook_2 : decode cX4_doBook 2 = .ok (.invokevirtual 97, 3) := dk_182 0 97 (dk_at dksX4_doBook_0 2 rfl rfl)
theorem dX4_doBook_5 : decode cX4_doBook 5 = .ok (.ifCond .eq 11, 3) := dk_153 0 11 (dk_at dksX4_doBook_0 5 rfl rfl)
theorem dX4_doBook_8 : decode cX4_doBook 8 = .ok (.aload_n 0, 1) := dk_42 (dk_at dksX4_doBook_0 8 rfl rfl)
theorem dX4_doBook_9 : decode cX4_doBook 9 = .ok (.iload_n 2, 1) := dk_28 (dk_at dksX4_doBook_0 9 rfl rfl)
theorem dX4_doBook_10 : decode cX4_doBook 10 = .ok (.invokevirtual 101, 3) := dk_182 0 101 (dk_at dksX4_doBook_0 10 rfl rfl)
theorem dX4_doBook_13 : decode cX4_doBook 13 = .ok (.ifCond .ne 9, 3) := dk_154 0 9 (dk_at dksX4_doBook_0 13 rfl rfl)
theorem dX4_doBook_16 : decode cX4_doBook 16 = .ok (.aload_n 0, 1) := dk_42 (dk_at dksX4_doBook_0 16 rfl rfl)
theorem dX4_doBook_17 : decode cX4_doBook 17 = .ok (.iconst 1, 1) := dk_4 (dk_at dksX4_doBook_0 17 rfl rfl)
theorem dX4_doBook_18 : decode cX4_doBook 18 = .ok (.invokevirtual 74, 3) := dk_182 0 74 (dk_at dksX4_doBook_0 18 rfl rfl)
theorem dX4_doBook_21 : decode cX4_doBook 21 = .ok (.ireturn, 1) := dk_172 (dk_at dksX4_doBook_0 21 rfl rfl)
theorem dX4_doBook_22 : decode cX4_doBook 22 = .ok (.aload_n 0, 1) := dk_42 (dk_at dksX4_doBook_0 22 rfl rfl)
theorem dX4_doBook_23 : decode cX4_doBook 23 = .ok (.iload_n 3, 1) := dk_29 (dk_at dksX4_doBook_0 23 rfl rfl)
theorem dX4_doBook_24 : decode cX4_doBook 24 = .ok (.invokevirtual 104, 3) := dk_182 0 104 (dk_at dksX4_doBook_1 0 rfl rfl)
theorem dX4_doBook_27 : decode cX4_doBook 27 = .ok (.ifCond .ne 9, 3) := dk_154 0 9 (dk_at dksX4_doBook_1 3 rfl rfl)
theorem dX4_doBook_30 : decode cX4_doBook 30 = .ok (.aload_n 0, 1) := dk_42 (dk_at dksX4_doBook_1 6 rfl rfl)
theorem dX4_doBook_31 : decode cX4_doBook 31 = .ok (.iconst 2, 1) := dk_5 (dk_at dksX4_doBook_1 7 rfl rfl)
theorem dX4_doBook_32 : decode cX4_doBook 32 = .ok (.invokevirtual 74, 3) := dk_182 0 74 (dk_at dksX4_doBook_1 8 rfl rfl)
theorem dX4_doBook_35 : decode cX4_doBook 35 = .ok (.ireturn, 1) := dk_172 (dk_at dksX4_doBook_1 11 rfl rfl)
theorem dX4_doBook_36 : decode cX4_doBook 36 = .ok (.aload_n 0, 1) := dk_42 (dk_at dksX4_doBook_1 12 rfl rfl)
theorem dX4_doBook_37 : decode cX4_doBook 37 = .ok (.getfield 9, 3) := dk_180 0 9 (dk_at dksX4_doBook_1 13 rfl rfl)
theorem dX4_doBook_40 : decode cX4_doBook 40 = .ok (.iconst 2, 1) := dk_5 (dk_at dksX4_doBook_1 16 rfl rfl)
theorem dX4_doBook_41 : decode cX4_doBook 41 = .ok (.iaload, 1) := dk_46 (dk_at dksX4_doBook_1 17 rfl rfl)
theorem dX4_doBook_42 : decode cX4_doBook 42 = .ok (.bipush 12, 2) := dk_16 12 (dk_at dksX4_doBook_1 18 rfl rfl)
theorem dX4_doBook_44 : decode cX4_doBook 44 = .ok (.if_icmp .eq 18, 3) := dk_159 0 18 (dk_at dksX4_doBook_1 20 rfl rfl)
theorem dX4_doBook_47 : decode cX4_doBook 47 = .ok (.aload_n 0, 1) := dk_42 (dk_at dksX4_doBook_1 23 rfl rfl)
theorem dX4_doBook_48 : decode cX4_doBook 48 = .ok (.iload_n 1, 1) := dk_27 (dk_at dksX4_doBook_2 0 rfl rfl)
theorem dX4_doBook_49 : decode cX4_doBook 49 = .ok (.iconst 0, 1) := dk_3 (dk_at dksX4_doBook_2 1 rfl rfl)
theorem dX4_doBook_50 : decode cX4_doBook 50 = .ok (.invokevirtual 107, 3) := dk_182 0 107 (dk_at dksX4_doBook_2 2 rfl rfl)
theorem dX4_doBook_53 : decode cX4_doBook 53 = .ok (.aload_n 0, 1) := dk_42 (dk_at dksX4_doBook_2 5 rfl rfl)
theorem dX4_doBook_54 : decode cX4_doBook 54 = .ok (.iload_n 2, 1) := dk_28 (dk_at dksX4_doBook_2 6 rfl rfl)
theorem dX4_doBook_55 : decode cX4_doBook 55 = .ok (.iconst 1, 1) := dk_4 (dk_at dksX4_doBook_2 7 rfl rfl)
theorem dX4_doBook_56 : decode cX4_doBook 56 = .ok (.invokevirtual 71, 3) := dk_182 0 71 (dk_at dksX4_doBook_2 8 rfl rfl)
theorem dX4_doBook_59 : decode cX4_doBook 59 = .ok (.if_icmp .ge 9, 3) := dk_162 0 9 (dk_at dksX4_doBook_2 11 rfl rfl)
theorem dX4_doBook_62 : decode cX4_doBook 62 = .ok (.aload_n 0, 1) := dk_42 (dk_at dksX4_doBook_2 14 rfl rfl)
theorem dX4_doBook_63 : decode cX4_doBook 63 = .ok (.iconst 3, 1) := dk_6 (dk_at dksX4_doBook_2 15 rfl rfl)
theorem dX4_doBook_64 : decode cX4_doBook 64 = .ok (.invokevirtual 74, 3) := dk_182 0 74 (dk_at dksX4_doBook_2 16 rfl rfl)
theorem dX4_doBook_67 : decode cX4_doBook 67 = .ok (.ireturn, 1) := dk_172 (dk_at dksX4_doBook_2 19 rfl rfl)
theorem dX4_doBook_68 : decode cX4_doBook 68 = .ok (.aload_n 0, 1) := dk_42 (dk_at dksX4_doBook_2 20 rfl rfl)
theorem dX4_doBook_69 : decode cX4_doBook 69 = .ok (.iload_n 1, 1) := dk_27 (dk_at dksX4_doBook_2 21 rfl rfl)
theorem dX4_doBook_70 : decode cX4_doBook 70 = .ok (.iload_n 2, 1) := dk_28 (dk_at dksX4_doBook_2 22 rfl rfl)
theorem dX4_doBook_71 : decode cX4_doBook 71 = .ok (.iload_n 3, 1) := dk_29 (dk_at dksX4_doBook_2 23 rfl rfl)
theorem dX4_doBook_72 : decode cX4_doBook 72 = .ok (.invokevirtual 110, 3) := dk_182 0 110 (dk_at dksX4_doBook_3 0 rfl rfl)
theorem dX4_doBook_75 : decode cX4_doBook 75 = .ok (.ifCond .eq 9, 3) := dk_153 0 9 (dk_at dksX4_doBook_3 3 rfl rfl)
theorem dX4_doBook_78 : decode cX4_doBook 78 = .ok (.aload_n 0, 1) := dk_42 (dk_at dksX4_doBook_3 6 rfl rfl)
theorem dX4_doBook_79 : decode cX4_doBook 79 = .ok (.iconst 4, 1) := dk_7 (dk_at dksX4_doBook_3 7 rfl rfl)
theorem dX4_doBook_80 : decode cX4_doBook 80 = .ok (.invokevirtual 74, 3) := dk_182 0 74 (dk_at dksX4_doBook_3 8 rfl rfl)
theorem dX4_doBook_83 : decode cX4_doBook 83 = .ok (.ireturn, 1) := dk_172 (dk_at dksX4_doBook_3 11 rfl rfl)
theorem dX4_doBook_84 : decode cX4_doBook 84 = .ok (.aload_n 0, 1) := dk_42 (dk_at dksX4_doBook_3 12 rfl rfl)
theorem dX4_doBook_85 : decode cX4_doBook 85 = .ok (.iload_n 1, 1) := dk_27 (dk_at dksX4_doBook_3 13 rfl rfl)
theorem dX4_doBook_86 : decode cX4_doBook 86 = .ok (.iload_n 2, 1) := dk_28 (dk_at dksX4_doBook_3 14 rfl rfl)
theorem dX4_doBook_87 : decode cX4_doBook 87 = .ok (.iload_n 3, 1) := dk_29 (dk_at dksX4_doBook_3 15 rfl rfl)
theorem dX4_doBook_88 : decode cX4_doBook 88 = .ok (.invokevirtual 113, 3) := dk_182 0 113 (dk_at dksX4_doBook_3 16 rfl rfl)
theorem dX4_doBook_91 : decode cX4_doBook 91 = .ok (.ireturn, 1) := dk_172 (dk_at dksX4_doBook_3 19 rfl rfl)
abbrev cX4_isGuest : ByteArray := prog_14_method_9_code
def yX4_isGuest : MethodName := ⟨RX4, "isGuest", "(I)Z"⟩
def dkwX4_isGuest_0 : List UInt8 := [27, 3, 42, 180, 0, 9, 4, 46, 4, 100, 184, 0, 51, 172]
abbrev dktX4_isGuest_0 : List UInt8 := dkwX4_isGuest_0 ++ []
theorem dksX4_isGuest_0 : cX4_isGuest.data.toList.drop 0 = dktX4_isGuest_0 := by decide +kernel
theorem dX4_isGuest_0 : decode cX4_isGuest 0 = .ok (.iload_n 1, 1) := dk_27 (dk_at dksX4_isGuest_0 0 rfl rfl)
theorem dX4_isGuest_1 : decode cX4_isGuest 1 = .ok (.iconst 0, 1) := dk_3 (dk_at dksX4_isGuest_0 1 rfl rfl)
theorem dX4_isGuest_2 : decode cX4_isGuest 2 = .ok (.aload_n 0, 1) := dk_42 (dk_at dksX4_isGuest_0 2 rfl rfl)
theorem dX4_isGuest_3 : decode cX4_isGuest 3 = .ok (.getfield 9, 3) := dk_180 0 9 (dk_at dksX4_isGuest_0 3 rfl rfl)
theorem dX4_isGuest_6 : decode cX4_isGuest 6 = .ok (.iconst 1, 1) := dk_4 (dk_at dksX4_isGuest_0 6 rfl rfl)
theorem dX4_isGuest_7 : decode cX4_isGuest 7 = .ok (.iaload, 1) := dk_46 (dk_at dksX4_isGuest_0 7 rfl rfl)
theorem dX4_isGuest_8 : decode cX4_isGuest 8 = .ok (.iconst 1, 1) := dk_4 (dk_at dksX4_isGuest_0 8 rfl rfl)
theorem dX4_isGuest_9 : decode cX4_isGuest 9 = .ok (.isub, 1) := dk_100 (dk_at dksX4_isGuest_0 9 rfl rfl)
theorem dX4_isGuest_10 : decode cX4_isGuest 10 = .ok (.invokestatic 51, 3) := dk_184 0 51 (dk_at dksX4_isGuest_0 10 rfl rfl)
theorem dX4_isGuest_13 : decode cX4_isGuest 13 = .ok (.ireturn, 1) := dk_172 (dk_at dksX4_isGuest_0 13 rfl rfl)
abbrev cX4_isSlide : ByteArray := prog_14_method_8_code
def yX4_isSlide : MethodName := ⟨RX4, "isSlide", "(I)Z"⟩
def dkwX4_isSlide_0 : List UInt8 := [27, 3, 42, 180, 0, 9, 3, 46, 4, 100, 184, 0, 51, 172]
abbrev dktX4_isSlide_0 : List UInt8 := dkwX4_isSlide_0 ++ []
theorem dksX4_isSlide_0 : cX4_isSlide.data.toList.drop 0 = dktX4_isSlide_0 := by decide +kernel
theorem dX4_isSlide_0 : decode cX4_isSlide 0 = .ok (.iload_n 1, 1) := dk_27 (dk_at dksX4_isSlide_0 0 rfl rfl)
theorem dX4_isSlide_1 : decode cX4_isSlide 1 = .ok (.iconst 0, 1) := dk_3 (dk_at dksX4_isSlide_0 1 rfl rfl)
theorem dX4_isSlide_2 : decode cX4_isSlide 2 = .ok (.aload_n 0, 1) := dk_42 (dk_at dksX4_isSlide_0 2 rfl rfl)
theorem dX4_isSlide_3 : decode cX4_isSlide 3 = .ok (.getfield 9, 3) := dk_180 0 9 (dk_at dksX4_isSlide_0 3 rfl rfl)
theorem dX4_isSlide_6 : decode cX4_isSlide 6 = .ok (.iconst 0, 1) := dk_3 (dk_at dksX4_isSlide_0 6 rfl rfl)
theorem dX4_isSlide_7 : decode cX4_isSlide 7 = .ok (.iaload, 1) := dk_46 (dk_at dksX4_isSlide_0 7 rfl rfl)
theorem dX4_isSlide_8 : decode cX4_isSlide 8 = .ok (.iconst 1, 1) := dk_4 (dk_at dksX4_isSlide_0 8 rfl rfl)
theorem dX4_isSlide_9 : decode cX4_isSlide 9 = .ok (.isub, 1) := dk_100 (dk_at dksX4_isSlide_0 9 rfl rfl)
theorem dX4_isSlide_10 : decode cX4_isSlide 10 = .ok (.invokestatic 51, 3) := dk_184 0 51 (dk_at dksX4_isSlide_0 10 rfl rfl)
theorem dX4_isSlide_13 : decode cX4_isSlide 13 = .ok (.ireturn, 1) := dk_172 (dk_at dksX4_isSlide_0 13 rfl rfl)
abbrev cX4_isStart : ByteArray := prog_14_method_17_code
def yX4_isStart : MethodName := ⟨RX4, "isStart", "(I)Z"⟩
def dkwX4_isStart_0 : List UInt8 := [27, 42, 180, 0, 9, 6, 46, 42, 180, 0, 9, 6, 46, 16, 120, 96, 184, 0, 51, 172]
abbrev dktX4_isStart_0 : List UInt8 := dkwX4_isStart_0 ++ []
theorem dksX4_isStart_0 : cX4_isStart.data.toList.drop 0 = dktX4_isStart_0 := by decide +kernel
theorem dX4_isStart_0 : decode cX4_isStart 0 = .ok (.iload_n 1, 1) := dk_27 (dk_at dksX4_isStart_0 0 rfl rfl)
theorem dX4_isStart_1 : decode cX4_isStart 1 = .ok (.aload_n 0, 1) := dk_42 (dk_at dksX4_isStart_0 1 rfl rfl)
theorem dX4_isStart_2 : decode cX4_isStart 2 = .ok (.getfield 9, 3) := dk_180 0 9 (dk_at dksX4_isStart_0 2 rfl rfl)
theorem dX4_isStart_5 : decode cX4_isStart 5 = .ok (.iconst 3, 1) := dk_6 (dk_at dksX4_isStart_0 5 rfl rfl)
theorem dX4_isStart_6 : decode cX4_isStart 6 = .ok (.iaload, 1) := dk_46 (dk_at dksX4_isStart_0 6 rfl rfl)
theorem dX4_isStart_7 : decode cX4_isStart 7 = .ok (.aload_n 0, 1) := dk_42 (dk_at dksX4_isStart_0 7 rfl rfl)
theorem dX4_isStart_8 : decode cX4_isStart 8 = .ok (.getfield 9, 3) := dk_180 0 9 (dk_at dksX4_isStart_0 8 rfl rfl)
theorem dX4_isStart_11 : decode cX4_isStart 11 = .ok (.iconst 3, 1) := dk_6 (dk_at dksX4_isStart_0 11 rfl rfl)
theorem dX4_isStart_12 : decode cX4_isStart 12 = .ok (.iaload, 1) := dk_46 (dk_at dksX4_isStart_0 12 rfl rfl)
theorem dX4_isStart_13 : decode cX4_isStart 13 = .ok (.bipush 120, 2) := dk_16 120 (dk_at dksX4_isStart_0 13 rfl rfl)
theorem dX4_isStart_15 : decode cX4_isStart 15 = .ok (.iadd, 1) := dk_96 (dk_at dksX4_isStart_0 15 rfl rfl)
theorem dX4_isStart_16 : decode cX4_isStart 16 = .ok (.invokestatic 51, 3) := dk_184 0 51 (dk_at dksX4_isStart_0 16 rfl rfl)
theorem dX4_isStart_19 : decode cX4_isStart 19 = .ok (.ireturn, 1) := dk_172 (dk_at dksX4_isStart_0 19 rfl rfl)
abbrev cX4_guest : ByteArray := prog_14_method_13_code
def yX4_guest : MethodName := ⟨RX4, "guest", "(II)I"⟩
def dkwX4_guest_0 : List UInt8 := [42, 180, 0, 9, 16, 44, 6, 27, 104, 96, 28, 96, 46, 172]
abbrev dktX4_guest_0 : List UInt8 := dkwX4_guest_0 ++ []
theorem dksX4_guest_0 : cX4_guest.data.toList.drop 0 = dktX4_guest_0 := by decide +kernel
theorem dX4_guest_0 : decode cX4_guest 0 = .ok (.aload_n 0, 1) := dk_42 (dk_at dksX4_guest_0 0 rfl rfl)
theorem dX4_guest_1 : decode cX4_guest 1 = .ok (.getfield 9, 3) := dk_180 0 9 (dk_at dksX4_guest_0 1 rfl rfl)
theorem dX4_guest_4 : decode cX4_guest 4 = .ok (.bipush 44, 2) := dk_16 44 (dk_at dksX4_guest_0 4 rfl rfl)
theorem dX4_guest_6 : decode cX4_guest 6 = .ok (.iconst 3, 1) := dk_6 (dk_at dksX4_guest_0 6 rfl rfl)
theorem dX4_guest_7 : decode cX4_guest 7 = .ok (.iload_n 1, 1) := dk_27 (dk_at dksX4_guest_0 7 rfl rfl)
theorem dX4_guest_8 : decode cX4_guest 8 = .ok (.imul, 1) := dk_104 (dk_at dksX4_guest_0 8 rfl rfl)
theorem dX4_guest_9 : decode cX4_guest 9 = .ok (.iadd, 1) := dk_96 (dk_at dksX4_guest_0 9 rfl rfl)
theorem dX4_guest_10 : decode cX4_guest 10 = .ok (.iload_n 2, 1) := dk_28 (dk_at dksX4_guest_0 10 rfl rfl)
theorem dX4_guest_11 : decode cX4_guest 11 = .ok (.iadd, 1) := dk_96 (dk_at dksX4_guest_0 11 rfl rfl)
theorem dX4_guest_12 : decode cX4_guest 12 = .ok (.iaload, 1) := dk_46 (dk_at dksX4_guest_0 12 rfl rfl)
theorem dX4_guest_13 : decode cX4_guest 13 = .ok (.ireturn, 1) := dk_172 (dk_at dksX4_guest_0 13 rfl rfl)
abbrev cX4_slide : ByteArray := prog_14_method_11_code
def yX4_slide : MethodName := ⟨RX4, "slide", "(II)I"⟩
def dkwX4_slide_0 : List UInt8 := [42, 180, 0, 9, 16, 8, 16, 9, 27, 104, 96, 28, 96, 46, 172]
abbrev dktX4_slide_0 : List UInt8 := dkwX4_slide_0 ++ []
theorem dksX4_slide_0 : cX4_slide.data.toList.drop 0 = dktX4_slide_0 := by decide +kernel
theorem dX4_slide_0 : decode cX4_slide 0 = .ok (.aload_n 0, 1) := dk_42 (dk_at dksX4_slide_0 0 rfl rfl)
theorem dX4_slide_1 : decode cX4_slide 1 = .ok (.getfield 9, 3) := dk_180 0 9 (dk_at dksX4_slide_0 1 rfl rfl)
theorem dX4_slide_4 : decode cX4_slide 4 = .ok (.bipush 8, 2) := dk_16 8 (dk_at dksX4_slide_0 4 rfl rfl)
theorem dX4_slide_6 : decode cX4_slide 6 = .ok (.bipush 9, 2) := dk_16 9 (dk_at dksX4_slide_0 6 rfl rfl)
theorem dX4_slide_8 : decode cX4_slide 8 = .ok (.iload_n 1, 1) := dk_27 (dk_at dksX4_slide_0 8 rfl rfl)
theorem dX4_slide_9 : decode cX4_slide 9 = .ok (.imul, 1) := dk_104 (dk_at dksX4_slide_0 9 rfl rfl)
theorem dX4_slide_10 : decode cX4_slide 10 = .ok (.iadd, 1) := dk_96 (dk_at dksX4_slide_0 10 rfl rfl)
theorem dX4_slide_11 : decode cX4_slide 11 = .ok (.iload_n 2, 1) := dk_28 (dk_at dksX4_slide_0 11 rfl rfl)
theorem dX4_slide_12 : decode cX4_slide 12 = .ok (.iadd, 1) := dk_96 (dk_at dksX4_slide_0 12 rfl rfl)
theorem dX4_slide_13 : decode cX4_slide 13 = .ok (.iaload, 1) := dk_46 (dk_at dksX4_slide_0 13 rfl rfl)
theorem dX4_slide_14 : decode cX4_slide 14 = .ok (.ireturn, 1) := dk_172 (dk_at dksX4_slide_0 14 rfl rfl)
abbrev cX4_clashes : ByteArray := prog_14_method_23_code
def yX4_clashes : MethodName := ⟨RX4, "clashes", "(III)Z"⟩
def dkwX4_clashes_4 : List UInt8 := [54, 4, 132, 6, 1, 167, 255, 175, 21, 4, 172]
abbrev dktX4_clashes_4 : List UInt8 := dkwX4_clashes_4 ++ []
def dkwX4_clashes_3 : List UInt8 := [182, 0, 67, 21, 5, 162, 0, 17, 29, 42, 21, 6, 182, 0, 90, 162, 0, 7, 4, 167, 0, 4, 3]
abbrev dktX4_clashes_3 : List UInt8 := dkwX4_clashes_3 ++ dktX4_clashes_4
def dkwX4_clashes_2 : List UInt8 := [160, 0, 7, 4, 167, 0, 4, 3, 54, 7, 21, 4, 154, 0, 29, 21, 7, 153, 0, 28, 42, 21, 6]
abbrev dktX4_clashes_2 : List UInt8 := dkwX4_clashes_2 ++ dktX4_clashes_3
def dkwX4_clashes_1 : List UInt8 := [162, 0, 76, 42, 21, 6, 4, 182, 0, 64, 28, 159, 0, 14, 42, 21, 6, 3, 182, 0, 64, 27]
abbrev dktX4_clashes_1 : List UInt8 := dkwX4_clashes_1 ++ dktX4_clashes_2
def dkwX4_clashes_0 : List UInt8 := [3, 54, 4, 29, 42, 28, 3, 182, 0, 71, 96, 54, 5, 3, 54, 6, 21, 6, 42, 180, 0, 9, 5, 46]
abbrev dktX4_clashes_0 : List UInt8 := dkwX4_clashes_0 ++ dktX4_clashes_1
theorem dksX4_clashes_0 : cX4_clashes.data.toList.drop 0 = dktX4_clashes_0 := by decide +kernel
theorem dksX4_clashes_1 : cX4_clashes.data.toList.drop 24 = dktX4_clashes_1 := dk_seg dksX4_clashes_0 24 rfl rfl
theorem dksX4_clashes_2 : cX4_clashes.data.toList.drop 46 = dktX4_clashes_2 := dk_seg dksX4_clashes_1 22 rfl rfl
theorem dksX4_clashes_3 : cX4_clashes.data.toList.drop 69 = dktX4_clashes_3 := dk_seg dksX4_clashes_2 23 rfl rfl
theorem dksX4_clashes_4 : cX4_clashes.data.toList.drop 92 = dktX4_clashes_4 := dk_seg dksX4_clashes_3 23 rfl rfl
theorem dX4_clashes_0 : decode cX4_clashes 0 = .ok (.iconst 0, 1) := dk_3 (dk_at dksX4_clashes_0 0 rfl rfl)
theorem dX4_clashes_1 : decode cX4_clashes 1 = .ok (.istore 4, 2) := dk_54 4 (dk_at dksX4_clashes_0 1 rfl rfl)
theorem dX4_clashes_3 : decode cX4_clashes 3 = .ok (.iload_n 3, 1) := dk_29 (dk_at dksX4_clashes_0 3 rfl rfl)
theorem dX4_clashes_4 : decode cX4_clashes 4 = .ok (.aload_n 0, 1) := dk_42 (dk_at dksX4_clashes_0 4 rfl rfl)
theorem dX4_clashes_5 : decode cX4_clashes 5 = .ok (.iload_n 2, 1) := dk_28 (dk_at dksX4_clashes_0 5 rfl rfl)
theorem dX4_clashes_6 : decode cX4_clashes 6 = .ok (.iconst 0, 1) := dk_3 (dk_at dksX4_clashes_0 6 rfl rfl)
theorem dX4_clashes_7 : decode cX4_clashes 7 = .ok (.invokevirtual 71, 3) := dk_182 0 71 (dk_at dksX4_clashes_0 7 rfl rfl)
theorem dX4_clashes_10 : decode cX4_clashes 10 = .ok (.iadd, 1) := dk_96 (dk_at dksX4_clashes_0 10 rfl rfl)
theorem dX4_clashes_11 : decode cX4_clashes 11 = .ok (.istore 5, 2) := dk_54 5 (dk_at dksX4_clashes_0 11 rfl rfl)
theorem dX4_clashes_13 : decode cX4_clashes 13 = .ok (.iconst 0, 1) := dk_3 (dk_at dksX4_clashes_0 13 rfl rfl)
theorem dX4_clashes_14 : decode cX4_clashes 14 = .ok (.istore 6, 2) := dk_54 6 (dk_at dksX4_clashes_0 14 rfl rfl)
theorem dX4_clashes_16 : decode cX4_clashes 16 = .ok (.iload 6, 2) := dk_21 6 (dk_at dksX4_clashes_0 16 rfl rfl)
theorem dX4_clashes_18 : decode cX4_clashes 18 = .ok (.aload_n 0, 1) := dk_42 (dk_at dksX4_clashes_0 18 rfl rfl)
theorem dX4_clashes_19 : decode cX4_clashes 19 = .ok (.getfield 9, 3) := dk_180 0 9 (dk_at dksX4_clashes_0 19 rfl rfl)
theorem dX4_clashes_22 : decode cX4_clashes 22 = .ok (.iconst 2, 1) := dk_5 (dk_at dksX4_clashes_0 22 rfl rfl)
theorem dX4_clashes_23 : decode cX4_clashes 23 = .ok (.iaload, 1) := dk_46 (dk_at dksX4_clashes_0 23 rfl rfl)
theorem dX4_clashes_24 : decode cX4_clashes 24 = .ok (.if_icmp .ge 76, 3) := dk_162 0 76 (dk_at dksX4_clashes_1 0 rfl rfl)
theorem dX4_clashes_27 : decode cX4_clashes 27 = .ok (.aload_n 0, 1) := dk_42 (dk_at dksX4_clashes_1 3 rfl rfl)
theorem dX4_clashes_28 : decode cX4_clashes 28 = .ok (.iload 6, 2) := dk_21 6 (dk_at dksX4_clashes_1 4 rfl rfl)
theorem dX4_clashes_30 : decode cX4_clashes 30 = .ok (.iconst 1, 1) := dk_4 (dk_at dksX4_clashes_1 6 rfl rfl)
theorem dX4_clashes_31 : decode cX4_clashes 31 = .ok (.invokevirtual 64, 3) := dk_182 0 64 (dk_at dksX4_clashes_1 7 rfl rfl)
theorem dX4_clashes_34 : decode cX4_clashes 34 = .ok (.iload_n 2, 1) := dk_28 (dk_at dksX4_clashes_1 10 rfl rfl)
theorem dX4_clashes_35 : decode cX4_clashes 35 = .ok (.if_icmp .eq 14, 3) := dk_159 0 14 (dk_at dksX4_clashes_1 11 rfl rfl)
theorem dX4_clashes_38 : decode cX4_clashes 38 = .ok (.aload_n 0, 1) := dk_42 (dk_at dksX4_clashes_1 14 rfl rfl)
theorem dX4_clashes_39 : decode cX4_clashes 39 = .ok (.iload 6, 2) := dk_21 6 (dk_at dksX4_clashes_1 15 rfl rfl)
theorem dX4_clashes_41 : decode cX4_clashes 41 = .ok (.iconst 0, 1) := dk_3 (dk_at dksX4_clashes_1 17 rfl rfl)
theorem dX4_clashes_42 : decode cX4_clashes 42 = .ok (.invokevirtual 64, 3) := dk_182 0 64 (dk_at dksX4_clashes_1 18 rfl rfl)
theorem dX4_clashes_45 : decode cX4_clashes 45 = .ok (.iload_n 1, 1) := dk_27 (dk_at dksX4_clashes_1 21 rfl rfl)
theorem dX4_clashes_46 : decode cX4_clashes 46 = .ok (.if_icmp .ne 7, 3) := dk_160 0 7 (dk_at dksX4_clashes_2 0 rfl rfl)
theorem dX4_clashes_49 : decode cX4_clashes 49 = .ok (.iconst 1, 1) := dk_4 (dk_at dksX4_clashes_2 3 rfl rfl)
theorem dX4_clashes_50 : decode cX4_clashes 50 = .ok (.goto 4, 3) := dk_167 0 4 (dk_at dksX4_clashes_2 4 rfl rfl)
theorem dX4_clashes_53 : decode cX4_clashes 53 = .ok (.iconst 0, 1) := dk_3 (dk_at dksX4_clashes_2 7 rfl rfl)
theorem dX4_clashes_54 : decode cX4_clashes 54 = .ok (.istore 7, 2) := dk_54 7 (dk_at dksX4_clashes_2 8 rfl rfl)
theorem dX4_clashes_56 : decode cX4_clashes 56 = .ok (.iload 4, 2) := dk_21 4 (dk_at dksX4_clashes_2 10 rfl rfl)
theorem dX4_clashes_58 : decode cX4_clashes 58 = .ok (.ifCond .ne 29, 3) := dk_154 0 29 (dk_at dksX4_clashes_2 12 rfl rfl)
theorem dX4_clashes_61 : decode cX4_clashes 61 = .ok (.iload 7, 2) := dk_21 7 (dk_at dksX4_clashes_2 15 rfl rfl)
theorem dX4_clashes_63 : decode cX4_clashes 63 = .ok (.ifCond .eq 28, 3) := dk_153 0 28 (dk_at dksX4_clashes_2 17 rfl rfl)
theorem dX4_clashes_66 : decode cX4_clashes 66 = .ok (.aload_n 0, 1) := dk_42 (dk_at dksX4_clashes_2 20 rfl rfl)
theorem dX4_clashes_67 : decode cX4_clashes 67 = .ok (.iload 6, 2) := dk_21 6 (dk_at dksX4_clashes_2 21 rfl rfl)
theorem dX4_clashes_69 : decode cX4_clashes 69 = .ok (.invokevirtual 67, 3) := dk_182 0 67 (dk_at dksX4_clashes_3 0 rfl rfl)
theorem dX4_clashes_72 : decode cX4_clashes 72 = .ok (.iload 5, 2) := dk_21 5 (dk_at dksX4_clashes_3 3 rfl rfl)
theorem dX4_clashes_74 : decode cX4_clashes 74 = .ok (.if_icmp .ge 17, 3) := dk_162 0 17 (dk_at dksX4_clashes_3 5 rfl rfl)
theorem dX4_clashes_77 : decode cX4_clashes 77 = .ok (.iload_n 3, 1) := dk_29 (dk_at dksX4_clashes_3 8 rfl rfl)
theorem dX4_clashes_78 : decode cX4_clashes 78 = .ok (.aload_n 0, 1) := dk_42 (dk_at dksX4_clashes_3 9 rfl rfl)
theorem dX4_clashes_79 : decode cX4_clashes 79 = .ok (.iload 6, 2) := dk_21 6 (dk_at dksX4_clashes_3 10 rfl rfl)
theorem dX4_clashes_81 : decode cX4_clashes 81 = .ok (.invokevirtual 90, 3) := dk_182 0 90 (dk_at dksX4_clashes_3 12 rfl rfl)
theorem dX4_clashes_84 : decode cX4_clashes 84 = .ok (.if_icmp .ge 7, 3) := dk_162 0 7 (dk_at dksX4_clashes_3 15 rfl rfl)
theorem dX4_clashes_87 : decode cX4_clashes 87 = .ok (.iconst 1, 1) := dk_4 (dk_at dksX4_clashes_3 18 rfl rfl)
theorem dX4_clashes_88 : decode cX4_clashes 88 = .ok (.goto 4, 3) := dk_167 0 4 (dk_at dksX4_clashes_3 19 rfl rfl)
theorem dX4_clashes_91 : decode cX4_clashes 91 = .ok (.iconst 0, 1) := dk_3 (dk_at dksX4_clashes_3 22 rfl rfl)
theorem dX4_clashes_92 : decode cX4_clashes 92 = .ok (.istore 4, 2) := dk_54 4 (dk_at dksX4_clashes_4 0 rfl rfl)
theorem dX4_clashes_94 : decode cX4_clashes 94 = .ok (.iinc 6 1, 3) := dk_132 6 1 (dk_at dksX4_clashes_4 2 rfl rfl)
theorem dX4_clashes_97 : decode cX4_clashes 97 = .ok (.goto (-81), 3) := dk_167 255 175 (dk_at dksX4_clashes_4 5 rfl rfl)
theorem dX4_clashes_100 : decode cX4_clashes 100 = .ok (.iload 4, 2) := dk_21 4 (dk_at dksX4_clashes_4 8 rfl rfl)
theorem dX4_clashes_102 : decode cX4_clashes 102 = .ok (.ireturn, 1) := dk_172 (dk_at dksX4_clashes_4 10 rfl rfl)
abbrev cX4_booking : ByteArray := prog_14_method_14_code
def yX4_booking : MethodName := ⟨RX4, "booking", "(II)I"⟩
def dkwX4_booking_0 : List UInt8 := [42, 180, 0, 9, 16, 74, 6, 27, 104, 96, 28, 96, 46, 172]
abbrev dktX4_booking_0 : List UInt8 := dkwX4_booking_0 ++ []
theorem dksX4_booking_0 : cX4_booking.data.toList.drop 0 = dktX4_booking_0 := by decide +kernel
theorem dX4_booking_0 : decode cX4_booking 0 = .ok (.aload_n 0, 1) := dk_42 (dk_at dksX4_booking_0 0 rfl rfl)
theorem dX4_booking_1 : decode cX4_booking 1 = .ok (.getfield 9, 3) := dk_180 0 9 (dk_at dksX4_booking_0 1 rfl rfl)
theorem dX4_booking_4 : decode cX4_booking 4 = .ok (.bipush 74, 2) := dk_16 74 (dk_at dksX4_booking_0 4 rfl rfl)
theorem dX4_booking_6 : decode cX4_booking 6 = .ok (.iconst 3, 1) := dk_6 (dk_at dksX4_booking_0 6 rfl rfl)
theorem dX4_booking_7 : decode cX4_booking 7 = .ok (.iload_n 1, 1) := dk_27 (dk_at dksX4_booking_0 7 rfl rfl)
theorem dX4_booking_8 : decode cX4_booking 8 = .ok (.imul, 1) := dk_104 (dk_at dksX4_booking_0 8 rfl rfl)
theorem dX4_booking_9 : decode cX4_booking 9 = .ok (.iadd, 1) := dk_96 (dk_at dksX4_booking_0 9 rfl rfl)
theorem dX4_booking_10 : decode cX4_booking 10 = .ok (.iload_n 2, 1) := dk_28 (dk_at dksX4_booking_0 10 rfl rfl)
theorem dX4_booking_11 : decode cX4_booking 11 = .ok (.iadd, 1) := dk_96 (dk_at dksX4_booking_0 11 rfl rfl)
theorem dX4_booking_12 : decode cX4_booking 12 = .ok (.iaload, 1) := dk_46 (dk_at dksX4_booking_0 12 rfl rfl)
theorem dX4_booking_13 : decode cX4_booking 13 = .ok (.ireturn, 1) := dk_172 (dk_at dksX4_booking_0 13 rfl rfl)
abbrev cX4_startOf : ByteArray := prog_14_method_15_code
def yX4_startOf : MethodName := ⟨RX4, "startOf", "(I)I"⟩
def dkwX4_startOf_0 : List UInt8 := [42, 27, 5, 182, 0, 64, 172]
abbrev dktX4_startOf_0 : List UInt8 := dkwX4_startOf_0 ++ []
theorem dksX4_startOf_0 : cX4_startOf.data.toList.drop 0 = dktX4_startOf_0 := by decide +kernel
theorem dX4_startOf_0 : decode cX4_startOf 0 = .ok (.aload_n 0, 1) := dk_42 (dk_at dksX4_startOf_0 0 rfl rfl)
theorem dX4_startOf_1 : decode cX4_startOf 1 = .ok (.iload_n 1, 1) := dk_27 (dk_at dksX4_startOf_0 1 rfl rfl)
theorem dX4_startOf_2 : decode cX4_startOf 2 = .ok (.iconst 2, 1) := dk_5 (dk_at dksX4_startOf_0 2 rfl rfl)
theorem dX4_startOf_3 : decode cX4_startOf 3 = .ok (.invokevirtual 64, 3) := dk_182 0 64 (dk_at dksX4_startOf_0 3 rfl rfl)
theorem dX4_startOf_6 : decode cX4_startOf 6 = .ok (.ireturn, 1) := dk_172 (dk_at dksX4_startOf_0 6 rfl rfl)
abbrev cX4_endOf : ByteArray := prog_14_method_16_code
def yX4_endOf : MethodName := ⟨RX4, "endOf", "(I)I"⟩
def dkwX4_endOf_0 : List UInt8 := [42, 27, 182, 0, 67, 42, 42, 27, 4, 182, 0, 64, 3, 182, 0, 71, 96, 172]
abbrev dktX4_endOf_0 : List UInt8 := dkwX4_endOf_0 ++ []
theorem dksX4_endOf_0 : cX4_endOf.data.toList.drop 0 = dktX4_endOf_0 := by decide +kernel
theorem dX4_endOf_0 : decode cX4_endOf 0 = .ok (.aload_n 0, 1) := dk_42 (dk_at dksX4_endOf_0 0 rfl rfl)
theorem dX4_endOf_1 : decode cX4_endOf 1 = .ok (.iload_n 1, 1) := dk_27 (dk_at dksX4_endOf_0 1 rfl rfl)
theorem dX4_endOf_2 : decode cX4_endOf 2 = .ok (.invokevirtual 67, 3) := dk_182 0 67 (dk_at dksX4_endOf_0 2 rfl rfl)
theorem dX4_endOf_5 : decode cX4_endOf 5 = .ok (.aload_n 0, 1) := dk_42 (dk_at dksX4_endOf_0 5 rfl rfl)
theorem dX4_endOf_6 : decode cX4_endOf 6 = .ok (.aload_n 0, 1) := dk_42 (dk_at dksX4_endOf_0 6 rfl rfl)
theorem dX4_endOf_7 : decode cX4_endOf 7 = .ok (.iload_n 1, 1) := dk_27 (dk_at dksX4_endOf_0 7 rfl rfl)
theorem dX4_endOf_8 : decode cX4_endOf 8 = .ok (.iconst 1, 1) := dk_4 (dk_at dksX4_endOf_0 8 rfl rfl)
theorem dX4_endOf_9 : decode cX4_endOf 9 = .ok (.invokevirtual 64, 3) := dk_182 0 64 (dk_at dksX4_endOf_0 9 rfl rfl)
theorem dX4_endOf_12 : decode cX4_endOf 12 = .ok (.iconst 0, 1) := dk_3 (dk_at dksX4_endOf_0 12 rfl rfl)
theorem dX4_endOf_13 : decode cX4_endOf 13 = .ok (.invokevirtual 71, 3) := dk_182 0 71 (dk_at dksX4_endOf_0 13 rfl rfl)
theorem dX4_endOf_16 : decode cX4_endOf 16 = .ok (.iadd, 1) := dk_96 (dk_at dksX4_endOf_0 16 rfl rfl)
theorem dX4_endOf_17 : decode cX4_endOf 17 = .ok (.ireturn, 1) := dk_172 (dk_at dksX4_endOf_0 17 rfl rfl)
abbrev cX4_makes : ByteArray := prog_14_method_24_code
def yX4_makes : MethodName := ⟨RX4, "makes", "(III)I"⟩
def dkwX4_makes_3 : List UInt8 := [79, 21, 4, 172]
abbrev dktX4_makes_3 : List UInt8 := dkwX4_makes_3 ++ []
def dkwX4_makes_2 : List UInt8 := [42, 180, 0, 9, 16, 74, 6, 21, 4, 104, 96, 5, 96, 29, 79, 42, 180, 0, 9, 5, 92, 46, 4, 96]
abbrev dktX4_makes_2 : List UInt8 := dkwX4_makes_2 ++ dktX4_makes_3
def dkwX4_makes_1 : List UInt8 := [16, 74, 6, 21, 4, 104, 96, 27, 79, 42, 180, 0, 9, 16, 74, 6, 21, 4, 104, 96, 4, 96, 28, 79]
abbrev dktX4_makes_1 : List UInt8 := dkwX4_makes_1 ++ dktX4_makes_2
def dkwX4_makes_0 : List UInt8 := [42, 180, 0, 9, 5, 46, 54, 4, 42, 27, 42, 28, 4, 182, 0, 71, 182, 0, 93, 42, 180, 0, 9]
abbrev dktX4_makes_0 : List UInt8 := dkwX4_makes_0 ++ dktX4_makes_1
theorem dksX4_makes_0 : cX4_makes.data.toList.drop 0 = dktX4_makes_0 := by decide +kernel
theorem dksX4_makes_1 : cX4_makes.data.toList.drop 23 = dktX4_makes_1 := dk_seg dksX4_makes_0 23 rfl rfl
theorem dksX4_makes_2 : cX4_makes.data.toList.drop 47 = dktX4_makes_2 := dk_seg dksX4_makes_1 24 rfl rfl
theorem dksX4_makes_3 : cX4_makes.data.toList.drop 71 = dktX4_makes_3 := dk_seg dksX4_makes_2 24 rfl rfl
theorem dX4_makes_0 : decode cX4_makes 0 = .ok (.aload_n 0, 1) := dk_42 (dk_at dksX4_makes_0 0 rfl rfl)
theorem dX4_makes_1 : decode cX4_makes 1 = .ok (.getfield 9, 3) := dk_180 0 9 (dk_at dksX4_makes_0 1 rfl rfl)
theorem dX4_makes_4 : decode cX4_makes 4 = .ok (.iconst 2, 1) := dk_5 (dk_at dksX4_makes_0 4 rfl rfl)
theorem dX4_makes_5 : decode cX4_makes 5 = .ok (.iaload, 1) := dk_46 (dk_at dksX4_makes_0 5 rfl rfl)
theorem dX4_makes_6 : decode cX4_makes 6 = .ok (.istore 4, 2) := dk_54 4 (dk_at dksX4_makes_0 6 rfl rfl)
theorem dX4_makes_8 : decode cX4_makes 8 = .ok (.aload_n 0, 1) := dk_42 (dk_at dksX4_makes_0 8 rfl rfl)
theorem dX4_makes_9 : decode cX4_makes 9 = .ok (.iload_n 1, 1) := dk_27 (dk_at dksX4_makes_0 9 rfl rfl)
theorem dX4_makes_10 : decode cX4_makes 10 = .ok (.aload_n 0, 1) := dk_42 (dk_at dksX4_makes_0 10 rfl rfl)
theorem dX4_makes_11 : decode cX4_makes 11 = .ok (.iload_n 2, 1) := dk_28 (dk_at dksX4_makes_0 11 rfl rfl)
theorem dX4_makes_12 : decode cX4_makes 12 = .ok (.iconst 1, 1) := dk_4 (dk_at dksX4_makes_0 12 rfl rfl)
theorem dX4_makes_13 : decode cX4_makes 13 = .ok (.invokevirtual 71, 3) := dk_182 0 71 (dk_at dksX4_makes_0 13 rfl rfl)
theorem dX4_makes_16 : decode cX4_makes 16 = .ok (.invokevirtual 93, 3) := dk_182 0 93 (dk_at dksX4_makes_0 16 rfl rfl)
theorem dX4_makes_19 : decode cX4_makes 19 = .ok (.aload_n 0, 1) := dk_42 (dk_at dksX4_makes_0 19 rfl rfl)
theorem dX4_makes_20 : decode cX4_makes 20 = .ok (.getfield 9, 3) := dk_180 0 9 (dk_at dksX4_makes_0 20 rfl rfl)
theorem dX4_makes_23 : decode cX4_makes 23 = .ok (.bipush 74, 2) := dk_16 74 (dk_at dksX4_makes_1 0 rfl rfl)
theorem dX4_makes_25 : decode cX4_makes 25 = .ok (.iconst 3, 1) := dk_6 (dk_at dksX4_makes_1 2 rfl rfl)
theorem dX4_makes_26 : decode cX4_makes 26 = .ok (.iload 4, 2) := dk_21 4 (dk_at dksX4_makes_1 3 rfl rfl)
theorem dX4_makes_28 : decode cX4_makes 28 = .ok (.imul, 1) := dk_104 (dk_at dksX4_makes_1 5 rfl rfl)
theorem dX4_makes_29 : decode cX4_makes 29 = .ok (.iadd, 1) := dk_96 (dk_at dksX4_makes_1 6 rfl rfl)
theorem dX4_makes_30 : decode cX4_makes 30 = .ok (.iload_n 1, 1) := dk_27 (dk_at dksX4_makes_1 7 rfl rfl)
theorem dX4_makes_31 : decode cX4_makes 31 = .ok (.iastore, 1) := dk_79 (dk_at dksX4_makes_1 8 rfl rfl)
theorem dX4_makes_32 : decode cX4_makes 32 = .ok (.aload_n 0, 1) := dk_42 (dk_at dksX4_makes_1 9 rfl rfl)
theorem dX4_makes_33 : decode cX4_makes 33 = .ok (.getfield 9, 3) := dk_180 0 9 (dk_at dksX4_makes_1 10 rfl rfl)
theorem dX4_makes_36 : decode cX4_makes 36 = .ok (.bipush 74, 2) := dk_16 74 (dk_at dksX4_makes_1 13 rfl rfl)
theorem dX4_makes_38 : decode cX4_makes 38 = .ok (.iconst 3, 1) := dk_6 (dk_at dksX4_makes_1 15 rfl rfl)
theorem dX4_makes_39 : decode cX4_makes 39 = .ok (.iload 4, 2) := dk_21 4 (dk_at dksX4_makes_1 16 rfl rfl)
theorem dX4_makes_41 : decode cX4_makes 41 = .ok (.imul, 1) := dk_104 (dk_at dksX4_makes_1 18 rfl rfl)
theorem dX4_makes_42 : decode cX4_makes 42 = .ok (.iadd, 1) := dk_96 (dk_at dksX4_makes_1 19 rfl rfl)
theorem dX4_makes_43 : decode cX4_makes 43 = .ok (.iconst 1, 1) := dk_4 (dk_at dksX4_makes_1 20 rfl rfl)
theorem dX4_makes_44 : decode cX4_makes 44 = .ok (.iadd, 1) := dk_96 (dk_at dksX4_makes_1 21 rfl rfl)
theorem dX4_makes_45 : decode cX4_makes 45 = .ok (.iload_n 2, 1) := dk_28 (dk_at dksX4_makes_1 22 rfl rfl)
theorem dX4_makes_46 : decode cX4_makes 46 = .ok (.iastore, 1) := dk_79 (dk_at dksX4_makes_1 23 rfl rfl)
theorem dX4_makes_47 : decode cX4_makes 47 = .ok (.aload_n 0, 1) := dk_42 (dk_at dksX4_makes_2 0 rfl rfl)
theorem dX4_makes_48 : decode cX4_makes 48 = .ok (.getfield 9, 3) := dk_180 0 9 (dk_at dksX4_makes_2 1 rfl rfl)
theorem dX4_makes_51 : decode cX4_makes 51 = .ok (.bipush 74, 2) := dk_16 74 (dk_at dksX4_makes_2 4 rfl rfl)
theorem dX4_makes_53 : decode cX4_makes 53 = .ok (.iconst 3, 1) := dk_6 (dk_at dksX4_makes_2 6 rfl rfl)
theorem dX4_makes_54 : decode cX4_makes 54 = .ok (.iload 4, 2) := dk_21 4 (dk_at dksX4_makes_2 7 rfl rfl)
theorem dX4_makes_56 : decode cX4_makes 56 = .ok (.imul, 1) := dk_104 (dk_at dksX4_makes_2 9 rfl rfl)
theorem dX4_makes_57 : decode cX4_makes 57 = .ok (.iadd, 1) := dk_96 (dk_at dksX4_makes_2 10 rfl rfl)
theorem dX4_makes_58 : decode cX4_makes 58 = .ok (.iconst 2, 1) := dk_5 (dk_at dksX4_makes_2 11 rfl rfl)
theorem dX4_makes_59 : decode cX4_makes 59 = .ok (.iadd, 1) := dk_96 (dk_at dksX4_makes_2 12 rfl rfl)
theorem dX4_makes_60 : decode cX4_makes 60 = .ok (.iload_n 3, 1) := dk_29 (dk_at dksX4_makes_2 13 rfl rfl)
theorem dX4_makes_61 : decode cX4_makes 61 = .ok (.iastore, 1) := dk_79 (dk_at dksX4_makes_2 14 rfl rfl)
theorem dX4_makes_62 : decode cX4_makes 62 = .ok (.aload_n 0, 1) := dk_42 (dk_at dksX4_makes_2 15 rfl rfl)
theorem dX4_makes_63 : decode cX4_makes 63 = .ok (.getfield 9, 3) := dk_180 0 9 (dk_at dksX4_makes_2 16 rfl rfl)
theorem dX4_makes_66 : decode cX4_makes 66 = .ok (.iconst 2, 1) := dk_5 (dk_at dksX4_makes_2 19 rfl rfl)
theorem dX4_makes_67 : decode cX4_makes 67 = .ok (.dup2, 1) := dk_92 (dk_at dksX4_makes_2 20 rfl rfl)
theorem dX4_makes_68 : decode cX4_makes 68 = .ok (.iaload, 1) := dk_46 (dk_at dksX4_makes_2 21 rfl rfl)
theorem dX4_makes_69 : decode cX4_makes 69 = .ok (.iconst 1, 1) := dk_4 (dk_at dksX4_makes_2 22 rfl rfl)
theorem dX4_makes_70 : decode cX4_makes 70 = .ok (.iadd, 1) := dk_96 (dk_at dksX4_makes_2 23 rfl rfl)
theorem dX4_makes_71 : decode cX4_makes 71 = .ok (.iastore, 1) := dk_79 (dk_at dksX4_makes_3 0 rfl rfl)
theorem dX4_makes_72 : decode cX4_makes 72 = .ok (.iload 4, 2) := dk_21 4 (dk_at dksX4_makes_3 1 rfl rfl)
theorem dX4_makes_74 : decode cX4_makes 74 = .ok (.ireturn, 1) := dk_172 (dk_at dksX4_makes_3 3 rfl rfl)
abbrev cX4_pays : ByteArray := prog_14_method_18_code
def yX4_pays : MethodName := ⟨RX4, "pays", "(II)V"⟩
def dkwX4_pays_1 : List UInt8 := [96, 79, 177]
abbrev dktX4_pays_1 : List UInt8 := dkwX4_pays_1 ++ []
def dkwX4_pays_0 : List UInt8 := [42, 180, 0, 9, 16, 44, 6, 27, 104, 96, 92, 46, 28, 100, 79, 42, 180, 0, 9, 16, 7, 92, 46, 28]
abbrev dktX4_pays_0 : List UInt8 := dkwX4_pays_0 ++ dktX4_pays_1
theorem dksX4_pays_0 : cX4_pays.data.toList.drop 0 = dktX4_pays_0 := by decide +kernel
theorem dksX4_pays_1 : cX4_pays.data.toList.drop 24 = dktX4_pays_1 := dk_seg dksX4_pays_0 24 rfl rfl
theorem dX4_pays_0 : decode cX4_pays 0 = .ok (.aload_n 0, 1) := dk_42 (dk_at dksX4_pays_0 0 rfl rfl)
theorem dX4_pays_1 : decode cX4_pays 1 = .ok (.getfield 9, 3) := dk_180 0 9 (dk_at dksX4_pays_0 1 rfl rfl)
theorem dX4_pays_4 : decode cX4_pays 4 = .ok (.bipush 44, 2) := dk_16 44 (dk_at dksX4_pays_0 4 rfl rfl)
theorem dX4_pays_6 : decode cX4_pays 6 = .ok (.iconst 3, 1) := dk_6 (dk_at dksX4_pays_0 6 rfl rfl)
theorem dX4_pays_7 : decode cX4_pays 7 = .ok (.iload_n 1, 1) := dk_27 (dk_at dksX4_pays_0 7 rfl rfl)
theorem dX4_pays_8 : decode cX4_pays 8 = .ok (.imul, 1) := dk_104 (dk_at dksX4_pays_0 8 rfl rfl)
theorem dX4_pays_9 : decode cX4_pays 9 = .ok (.iadd, 1) := dk_96 (dk_at dksX4_pays_0 9 rfl rfl)
theorem dX4_pays_10 : decode cX4_pays 10 = .ok (.dup2, 1) := dk_92 (dk_at dksX4_pays_0 10 rfl rfl)
theorem dX4_pays_11 : decode cX4_pays 11 = .ok (.iaload, 1) := dk_46 (dk_at dksX4_pays_0 11 rfl rfl)
theorem dX4_pays_12 : decode cX4_pays 12 = .ok (.iload_n 2, 1) := dk_28 (dk_at dksX4_pays_0 12 rfl rfl)
theorem dX4_pays_13 : decode cX4_pays 13 = .ok (.isub, 1) := dk_100 (dk_at dksX4_pays_0 13 rfl rfl)
theorem dX4_pays_14 : decode cX4_pays 14 = .ok (.iastore, 1) := dk_79 (dk_at dksX4_pays_0 14 rfl rfl)
theorem dX4_pays_15 : decode cX4_pays 15 = .ok (.aload_n 0, 1) := dk_42 (dk_at dksX4_pays_0 15 rfl rfl)
theorem dX4_pays_16 : decode cX4_pays 16 = .ok (.getfield 9, 3) := dk_180 0 9 (dk_at dksX4_pays_0 16 rfl rfl)
theorem dX4_pays_19 : decode cX4_pays 19 = .ok (.bipush 7, 2) := dk_16 7 (dk_at dksX4_pays_0 19 rfl rfl)
theorem dX4_pays_21 : decode cX4_pays 21 = .ok (.dup2, 1) := dk_92 (dk_at dksX4_pays_0 21 rfl rfl)
theorem dX4_pays_22 : decode cX4_pays 22 = .ok (.iaload, 1) := dk_46 (dk_at dksX4_pays_0 22 rfl rfl)
theorem dX4_pays_23 : decode cX4_pays 23 = .ok (.iload_n 2, 1) := dk_28 (dk_at dksX4_pays_0 23 rfl rfl)
theorem dX4_pays_24 : decode cX4_pays 24 = .ok (.iadd, 1) := dk_96 (dk_at dksX4_pays_1 0 rfl rfl)
theorem dX4_pays_25 : decode cX4_pays 25 = .ok (.iastore, 1) := dk_79 (dk_at dksX4_pays_1 1 rfl rfl)
theorem dX4_pays_26 : decode cX4_pays 26 = .ok (.return_, 1) := dk_177 (dk_at dksX4_pays_1 2 rfl rfl)
abbrev cX4_cancel : ByteArray := prog_14_method_29_code
def yX4_cancel : MethodName := ⟨RX4, "cancel", "(I)I"⟩
def dkwX4_cancel_0 : List UInt8 := [42, 182, 0, 77, 42, 42, 27, 182, 0, 127, 182, 0, 83, 172]
abbrev dktX4_cancel_0 : List UInt8 := dkwX4_cancel_0 ++ []
theorem dksX4_cancel_0 : cX4_cancel.data.toList.drop 0 = dktX4_cancel_0 := by decide +kernel
theorem dX4_cancel_0 : decode cX4_cancel 0 = .ok (.aload_n 0, 1) := dk_42 (dk_at dksX4_cancel_0 0 rfl rfl)
theorem dX4_cancel_1 : decode cX4_cancel 1 = .ok (.invokevirtual 77, 3) := dk_182 0 77 (dk_at dksX4_cancel_0 1 rfl rfl)
theorem dX4_cancel_4 : decode cX4_cancel 4 = .ok (.aload_n 0, 1) := dk_42 (dk_at dksX4_cancel_0 4 rfl rfl)
theorem dX4_cancel_5 : decode cX4_cancel 5 = .ok (.aload_n 0, 1) := dk_42 (dk_at dksX4_cancel_0 5 rfl rfl)
theorem dX4_cancel_6 : decode cX4_cancel 6 = .ok (.iload_n 1, 1) := dk_27 (dk_at dksX4_cancel_0 6 rfl rfl)
theorem dX4_cancel_7 : decode cX4_cancel 7 = .ok (.invokevirtual 127, 3) := dk_182 0 127 (dk_at dksX4_cancel_0 7 rfl rfl)
theorem dX4_cancel_10 : decode cX4_cancel 10 = .ok (.invokevirtual 83, 3) := dk_182 0 83 (dk_at dksX4_cancel_0 10 rfl rfl)
theorem dX4_cancel_13 : decode cX4_cancel 13 = .ok (.ireturn, 1) := dk_172 (dk_at dksX4_cancel_0 13 rfl rfl)
abbrev cX4_doCancel : ByteArray := prog_14_method_28_code
def yX4_doCancel : MethodName := ⟨RX4, "doCancel", "(I)I"⟩
def dkwX4_doCancel_3 : List UInt8 := [27, 182, 0, 123, 42, 28, 3, 182, 0, 107, 172]
abbrev dktX4_doCancel_3 : List UInt8 := dkwX4_doCancel_3 ++ []
def dkwX4_doCancel_2 : List UInt8 := [4, 182, 0, 71, 62, 42, 28, 29, 116, 182, 0, 93, 42, 180, 0, 9, 16, 6, 92, 46, 29, 96, 79, 42]
abbrev dktX4_doCancel_2 : List UInt8 := dkwX4_doCancel_2 ++ dktX4_doCancel_3
def dkwX4_doCancel_1 : List UInt8 := [46, 163, 0, 9, 42, 5, 182, 0, 74, 172, 42, 27, 3, 182, 0, 64, 61, 42, 42, 27, 4, 182, 0, 64]
abbrev dktX4_doCancel_1 : List UInt8 := dkwX4_doCancel_1 ++ dktX4_doCancel_2
def dkwX4_doCancel_0 : List UInt8 := [42, 27, 182, 0, 120, 154, 0, 9, 42, 4, 182, 0, 74, 172, 42, 27, 182, 0, 67, 42, 180, 0, 9, 6]
abbrev dktX4_doCancel_0 : List UInt8 := dkwX4_doCancel_0 ++ dktX4_doCancel_1
theorem dksX4_doCancel_0 : cX4_doCancel.data.toList.drop 0 = dktX4_doCancel_0 := by decide +kernel
theorem dksX4_doCancel_1 : cX4_doCancel.data.toList.drop 24 = dktX4_doCancel_1 := dk_seg dksX4_doCancel_0 24 rfl rfl
theorem dksX4_doCancel_2 : cX4_doCancel.data.toList.drop 48 = dktX4_doCancel_2 := dk_seg dksX4_doCancel_1 24 rfl rfl
theorem dksX4_doCancel_3 : cX4_doCancel.data.toList.drop 72 = dktX4_doCancel_3 := dk_seg dksX4_doCancel_2 24 rfl rfl
theorem dX4_doCancel_0 : decode cX4_doCancel 0 = .ok (.aload_n 0, 1) := dk_42 (dk_at dksX4_doCancel_0 0 rfl rfl)
theorem dX4_doCancel_1 : decode cX4_doCancel 1 = .ok (.iload_n 1, 1) := dk_27 (dk_at dksX4_doCancel_0 1 rfl rfl)
theorem dX4_doCancel_2 : decode cX4_doCancel 2 = .ok (.invokevirtual 120, 3) := dk_182 0 120 (dk_at dksX4_doCancel_0 2 rfl rfl)
theorem dX4_doCancel_5 : decode cX4_doCancel 5 = .ok (.ifCond .ne 9, 3) := dk_154 0 9 (dk_at dksX4_doCancel_0 5 rfl rfl)
theorem dX4_doCancel_8 : decode cX4_doCancel 8 = .ok (.aload_n 0, 1) := dk_42 (dk_at dksX4_doCancel_0 8 rfl rfl)
theorem dX4_doCancel_9 : decode cX4_doCancel 9 = .ok (.iconst 1, 1) := dk_4 (dk_at dksX4_doCancel_0 9 rfl rfl)
theorem dX4_doCancel_10 : decode cX4_doCancel 10 = .ok (.invokevirtual 74, 3) := dk_182 0 74 (dk_at dksX4_doCancel_0 10 rfl rfl)
theorem dX4_doCancel_13 : decode cX4_doCancel 13 = .ok (.ireturn, 1) := dk_172 (dk_at dksX4_doCancel_0 13 rfl rfl)
theorem dX4_doCancel_14 : decode cX4_doCancel 14 = .ok (.aload_n 0, 1) := dk_42 (dk_at dksX4_doCancel_0 14 rfl rfl)
theorem dX4_doCancel_15 : decode cX4_doCancel 15 = .ok (.iload_n 1, 1) := dk_27 (dk_at dksX4_doCancel_0 15 rfl rfl)
theorem dX4_doCancel_16 : decode cX4_doCancel 16 = .ok (.invokevirtual 67, 3) := dk_182 0 67 (dk_at dksX4_doCancel_0 16 rfl rfl)
theorem dX4_doCancel_19 : decode cX4_doCancel 19 = .ok (.aload_n 0, 1) := dk_42 (dk_at dksX4_doCancel_0 19 rfl rfl)
theorem dX4_doCancel_20 : decode cX4_doCancel 20 = .ok (.getfield 9, 3) := dk_180 0 9 (dk_at dksX4_doCancel_0 20 rfl rfl)
theorem dX4_doCancel_23 : decode cX4_doCancel 23 = .ok (.iconst 3, 1) := dk_6 (dk_at dksX4_doCancel_0 23 rfl rfl)
theorem dX4_doCancel_24 : decode cX4_doCancel 24 = .ok (.iaload, 1) := dk_46 (dk_at dksX4_doCancel_1 0 rfl rfl)
theorem dX4_doCancel_25 : decode cX4_doCancel 25 = .ok (.if_icmp .gt 9, 3) := dk_163 0 9 (dk_at dksX4_doCancel_1 1 rfl rfl)
theorem dX4_doCancel_28 : decode cX4_doCancel 28 = .ok (.aload_n 0, 1) := dk_42 (dk_at dksX4_doCancel_1 4 rfl rfl)
theorem dX4_doCancel_29 : decode cX4_doCancel 29 = .ok (.iconst 2, 1) := dk_5 (dk_at dksX4_doCancel_1 5 rfl rfl)
theorem dX4_doCancel_30 : decode cX4_doCancel 30 = .ok (.invokevirtual 74, 3) := dk_182 0 74 (dk_at dksX4_doCancel_1 6 rfl rfl)
theorem dX4_doCancel_33 : decode cX4_doCancel 33 = .ok (.ireturn, 1) := dk_172 (dk_at dksX4_doCancel_1 9 rfl rfl)
theorem dX4_doCancel_34 : decode cX4_doCancel 34 = .ok (.aload_n 0, 1) := dk_42 (dk_at dksX4_doCancel_1 10 rfl rfl)
theorem dX4_doCancel_35 : decode cX4_doCancel 35 = .ok (.iload_n 1, 1) := dk_27 (dk_at dksX4_doCancel_1 11 rfl rfl)
theorem dX4_doCancel_36 : decode cX4_doCancel 36 = .ok (.iconst 0, 1) := dk_3 (dk_at dksX4_doCancel_1 12 rfl rfl)
theorem dX4_doCancel_37 : decode cX4_doCancel 37 = .ok (.invokevirtual 64, 3) := dk_182 0 64 (dk_at dksX4_doCancel_1 13 rfl rfl)
theorem dX4_doCancel_40 : decode cX4_doCancel 40 = .ok (.istore_n 2, 1) := dk_61 (dk_at dksX4_doCancel_1 16 rfl rfl)
theorem dX4_doCancel_41 : decode cX4_doCancel 41 = .ok (.aload_n 0, 1) := dk_42 (dk_at dksX4_doCancel_1 17 rfl rfl)
theorem dX4_doCancel_42 : decode cX4_doCancel 42 = .ok (.aload_n 0, 1) := dk_42 (dk_at dksX4_doCancel_1 18 rfl rfl)
theorem dX4_doCancel_43 : decode cX4_doCancel 43 = .ok (.iload_n 1, 1) := dk_27 (dk_at dksX4_doCancel_1 19 rfl rfl)
theorem dX4_doCancel_44 : decode cX4_doCancel 44 = .ok (.iconst 1, 1) := dk_4 (dk_at dksX4_doCancel_1 20 rfl rfl)
theorem dX4_doCancel_45 : decode cX4_doCancel 45 = .ok (.invokevirtual 64, 3) := dk_182 0 64 (dk_at dksX4_doCancel_1 21 rfl rfl)
theorem dX4_doCancel_48 : decode cX4_doCancel 48 = .ok (.iconst 1, 1) := dk_4 (dk_at dksX4_doCancel_2 0 rfl rfl)
theorem dX4_doCancel_49 : decode cX4_doCancel 49 = .ok (.invokevirtual 71, 3) := dk_182 0 71 (dk_at dksX4_doCancel_2 1 rfl rfl)
theorem dX4_doCancel_52 : decode cX4_doCancel 52 = .ok (.istore_n 3, 1) := dk_62 (dk_at dksX4_doCancel_2 4 rfl rfl)
theorem dX4_doCancel_53 : decode cX4_doCancel 53 = .ok (.aload_n 0, 1) := dk_42 (dk_at dksX4_doCancel_2 5 rfl rfl)
theorem dX4_doCancel_54 : decode cX4_doCancel 54 = .ok (.iload_n 2, 1) := dk_28 (dk_at dksX4_doCancel_2 6 rfl rfl)
theorem dX4_doCancel_55 : decode cX4_doCancel 55 = .ok (.iload_n 3, 1) := dk_29 (dk_at dksX4_doCancel_2 7 rfl rfl)
theorem dX4_doCancel_56 : decode cX4_doCancel 56 = .ok (.ineg, 1) := dk_116 (dk_at dksX4_doCancel_2 8 rfl rfl)
theorem dX4_doCancel_57 : decode cX4_doCancel 57 = .ok (.invokevirtual 93, 3) := dk_182 0 93 (dk_at dksX4_doCancel_2 9 rfl rfl)
theorem dX4_doCancel_60 : decode cX4_doCancel 60 = .ok (.aload_n 0, 1) := dk_42 (dk_at dksX4_doCancel_2 12 rfl rfl)
theorem dX4_doCancel_61 : decode cX4_doCancel 61 = .ok (.getfield 9, 3) := dk_180 0 9 (dk_at dksX4_doCancel_2 13 rfl rfl)
theorem dX4_doCancel_64 : decode cX4_doCancel 64 = .ok (.bipush 6, 2) := dk_16 6 (dk_at dksX4_doCancel_2 16 rfl rfl)
theorem dX4_doCancel_66 : decode cX4_doCancel 66 = .ok (.dup2, 1) := dk_92 (dk_at dksX4_doCancel_2 18 rfl rfl)
theorem dX4_doCancel_67 : decode cX4_doCancel 67 = .ok (.iaload, 1) := dk_46 (dk_at dksX4_doCancel_2 19 rfl rfl)
theorem dX4_doCancel_68 : decode cX4_doCancel 68 = .ok (.iload_n 3, 1) := dk_29 (dk_at dksX4_doCancel_2 20 rfl rfl)
theorem dX4_doCancel_69 : decode cX4_doCancel 69 = .ok (.iadd, 1) := dk_96 (dk_at dksX4_doCancel_2 21 rfl rfl)
theorem dX4_doCancel_70 : decode cX4_doCancel 70 = .ok (.iastore, 1) := dk_79 (dk_at dksX4_doCancel_2 22 rfl rfl)
theorem dX4_doCancel_71 : decode cX4_doCancel 71 = .ok (.aload_n 0, 1) := dk_42 (dk_at dksX4_doCancel_2 23 rfl rfl)
theorem dX4_doCancel_72 : decode cX4_doCancel 72 = .ok (.iload_n 1, 1) := dk_27 (dk_at dksX4_doCancel_3 0 rfl rfl)
theorem dX4_doCancel_73 : decode cX4_doCancel 73 = .ok (.invokevirtual 123, 3) := dk_182 0 123 (dk_at dksX4_doCancel_3 1 rfl rfl)
theorem dX4_doCancel_76 : decode cX4_doCancel 76 = .ok (.aload_n 0, 1) := dk_42 (dk_at dksX4_doCancel_3 4 rfl rfl)
theorem dX4_doCancel_77 : decode cX4_doCancel 77 = .ok (.iload_n 2, 1) := dk_28 (dk_at dksX4_doCancel_3 5 rfl rfl)
theorem dX4_doCancel_78 : decode cX4_doCancel 78 = .ok (.iconst 0, 1) := dk_3 (dk_at dksX4_doCancel_3 6 rfl rfl)
theorem dX4_doCancel_79 : decode cX4_doCancel 79 = .ok (.invokevirtual 107, 3) := dk_182 0 107 (dk_at dksX4_doCancel_3 7 rfl rfl)
theorem dX4_doCancel_82 : decode cX4_doCancel 82 = .ok (.ireturn, 1) := dk_172 (dk_at dksX4_doCancel_3 10 rfl rfl)
abbrev cX4_isBooking : ByteArray := prog_14_method_10_code
def yX4_isBooking : MethodName := ⟨RX4, "isBooking", "(I)Z"⟩
def dkwX4_isBooking_0 : List UInt8 := [27, 3, 42, 180, 0, 9, 5, 46, 4, 100, 184, 0, 51, 172]
abbrev dktX4_isBooking_0 : List UInt8 := dkwX4_isBooking_0 ++ []
theorem dksX4_isBooking_0 : cX4_isBooking.data.toList.drop 0 = dktX4_isBooking_0 := by decide +kernel
theorem dX4_isBooking_0 : decode cX4_isBooking 0 = .ok (.iload_n 1, 1) := dk_27 (dk_at dksX4_isBooking_0 0 rfl rfl)
theorem dX4_isBooking_1 : decode cX4_isBooking 1 = .ok (.iconst 0, 1) := dk_3 (dk_at dksX4_isBooking_0 1 rfl rfl)
theorem dX4_isBooking_2 : decode cX4_isBooking 2 = .ok (.aload_n 0, 1) := dk_42 (dk_at dksX4_isBooking_0 2 rfl rfl)
theorem dX4_isBooking_3 : decode cX4_isBooking 3 = .ok (.getfield 9, 3) := dk_180 0 9 (dk_at dksX4_isBooking_0 3 rfl rfl)
theorem dX4_isBooking_6 : decode cX4_isBooking 6 = .ok (.iconst 2, 1) := dk_5 (dk_at dksX4_isBooking_0 6 rfl rfl)
theorem dX4_isBooking_7 : decode cX4_isBooking 7 = .ok (.iaload, 1) := dk_46 (dk_at dksX4_isBooking_0 7 rfl rfl)
theorem dX4_isBooking_8 : decode cX4_isBooking 8 = .ok (.iconst 1, 1) := dk_4 (dk_at dksX4_isBooking_0 8 rfl rfl)
theorem dX4_isBooking_9 : decode cX4_isBooking 9 = .ok (.isub, 1) := dk_100 (dk_at dksX4_isBooking_0 9 rfl rfl)
theorem dX4_isBooking_10 : decode cX4_isBooking 10 = .ok (.invokestatic 51, 3) := dk_184 0 51 (dk_at dksX4_isBooking_0 10 rfl rfl)
theorem dX4_isBooking_13 : decode cX4_isBooking 13 = .ok (.ireturn, 1) := dk_172 (dk_at dksX4_isBooking_0 13 rfl rfl)
abbrev cX4_drops : ByteArray := prog_14_method_27_code
def yX4_drops : MethodName := ⟨RX4, "drops", "(I)V"⟩
def dkwX4_drops_1 : List UInt8 := [42, 180, 0, 9, 28, 6, 42, 180, 0, 9, 5, 46, 27, 100, 104, 184, 0, 42, 177]
abbrev dktX4_drops_1 : List UInt8 := dkwX4_drops_1 ++ []
def dkwX4_drops_0 : List UInt8 := [42, 180, 0, 9, 5, 92, 46, 4, 100, 79, 16, 74, 6, 27, 104, 96, 61, 42, 180, 0, 9, 28, 6, 96]
abbrev dktX4_drops_0 : List UInt8 := dkwX4_drops_0 ++ dktX4_drops_1
theorem dksX4_drops_0 : cX4_drops.data.toList.drop 0 = dktX4_drops_0 := by decide +kernel
theorem dksX4_drops_1 : cX4_drops.data.toList.drop 24 = dktX4_drops_1 := dk_seg dksX4_drops_0 24 rfl rfl
theorem dX4_drops_0 : decode cX4_drops 0 = .ok (.aload_n 0, 1) := dk_42 (dk_at dksX4_drops_0 0 rfl rfl)
theorem dX4_drops_1 : decode cX4_drops 1 = .ok (.getfield 9, 3) := dk_180 0 9 (dk_at dksX4_drops_0 1 rfl rfl)
theorem dX4_drops_4 : decode cX4_drops 4 = .ok (.iconst 2, 1) := dk_5 (dk_at dksX4_drops_0 4 rfl rfl)
theorem dX4_drops_5 : decode cX4_drops 5 = .ok (.dup2, 1) := dk_92 (dk_at dksX4_drops_0 5 rfl rfl)
theorem dX4_drops_6 : decode cX4_drops 6 = .ok (.iaload, 1) := dk_46 (dk_at dksX4_drops_0 6 rfl rfl)
theorem dX4_drops_7 : decode cX4_drops 7 = .ok (.iconst 1, 1) := dk_4 (dk_at dksX4_drops_0 7 rfl rfl)
theorem dX4_drops_8 : decode cX4_drops 8 = .ok (.isub, 1) := dk_100 (dk_at dksX4_drops_0 8 rfl rfl)
theorem dX4_drops_9 : decode cX4_drops 9 = .ok (.iastore, 1) := dk_79 (dk_at dksX4_drops_0 9 rfl rfl)
theorem dX4_drops_10 : decode cX4_drops 10 = .ok (.bipush 74, 2) := dk_16 74 (dk_at dksX4_drops_0 10 rfl rfl)
theorem dX4_drops_12 : decode cX4_drops 12 = .ok (.iconst 3, 1) := dk_6 (dk_at dksX4_drops_0 12 rfl rfl)
theorem dX4_drops_13 : decode cX4_drops 13 = .ok (.iload_n 1, 1) := dk_27 (dk_at dksX4_drops_0 13 rfl rfl)
theorem dX4_drops_14 : decode cX4_drops 14 = .ok (.imul, 1) := dk_104 (dk_at dksX4_drops_0 14 rfl rfl)
theorem dX4_drops_15 : decode cX4_drops 15 = .ok (.iadd, 1) := dk_96 (dk_at dksX4_drops_0 15 rfl rfl)
theorem dX4_drops_16 : decode cX4_drops 16 = .ok (.istore_n 2, 1) := dk_61 (dk_at dksX4_drops_0 16 rfl rfl)
theorem dX4_drops_17 : decode cX4_drops 17 = .ok (.aload_n 0, 1) := dk_42 (dk_at dksX4_drops_0 17 rfl rfl)
theorem dX4_drops_18 : decode cX4_drops 18 = .ok (.getfield 9, 3) := dk_180 0 9 (dk_at dksX4_drops_0 18 rfl rfl)
theorem dX4_drops_21 : decode cX4_drops 21 = .ok (.iload_n 2, 1) := dk_28 (dk_at dksX4_drops_0 21 rfl rfl)
theorem dX4_drops_22 : decode cX4_drops 22 = .ok (.iconst 3, 1) := dk_6 (dk_at dksX4_drops_0 22 rfl rfl)
theorem dX4_drops_23 : decode cX4_drops 23 = .ok (.iadd, 1) := dk_96 (dk_at dksX4_drops_0 23 rfl rfl)
theorem dX4_drops_24 : decode cX4_drops 24 = .ok (.aload_n 0, 1) := dk_42 (dk_at dksX4_drops_1 0 rfl rfl)
theorem dX4_drops_25 : decode cX4_drops 25 = .ok (.getfield 9, 3) := dk_180 0 9 (dk_at dksX4_drops_1 1 rfl rfl)
theorem dX4_drops_28 : decode cX4_drops 28 = .ok (.iload_n 2, 1) := dk_28 (dk_at dksX4_drops_1 4 rfl rfl)
theorem dX4_drops_29 : decode cX4_drops 29 = .ok (.iconst 3, 1) := dk_6 (dk_at dksX4_drops_1 5 rfl rfl)
theorem dX4_drops_30 : decode cX4_drops 30 = .ok (.aload_n 0, 1) := dk_42 (dk_at dksX4_drops_1 6 rfl rfl)
theorem dX4_drops_31 : decode cX4_drops 31 = .ok (.getfield 9, 3) := dk_180 0 9 (dk_at dksX4_drops_1 7 rfl rfl)
theorem dX4_drops_34 : decode cX4_drops 34 = .ok (.iconst 2, 1) := dk_5 (dk_at dksX4_drops_1 10 rfl rfl)
theorem dX4_drops_35 : decode cX4_drops 35 = .ok (.iaload, 1) := dk_46 (dk_at dksX4_drops_1 11 rfl rfl)
theorem dX4_drops_36 : decode cX4_drops 36 = .ok (.iload_n 1, 1) := dk_27 (dk_at dksX4_drops_1 12 rfl rfl)
theorem dX4_drops_37 : decode cX4_drops 37 = .ok (.isub, 1) := dk_100 (dk_at dksX4_drops_1 13 rfl rfl)
theorem dX4_drops_38 : decode cX4_drops 38 = .ok (.imul, 1) := dk_104 (dk_at dksX4_drops_1 14 rfl rfl)
theorem dX4_drops_39 : decode cX4_drops 39 = .ok (.invokestatic 42, 3) := dk_184 0 42 (dk_at dksX4_drops_1 15 rfl rfl)
theorem dX4_drops_42 : decode cX4_drops 42 = .ok (.return_, 1) := dk_177 (dk_at dksX4_drops_1 18 rfl rfl)
abbrev cX4_joinQueue : ByteArray := prog_14_method_32_code
def yX4_joinQueue : MethodName := ⟨RX4, "joinQueue", "(II)I"⟩
def dkwX4_joinQueue_0 : List UInt8 := [42, 182, 0, 77, 42, 42, 27, 28, 182, 0, 130, 182, 0, 83, 172]
abbrev dktX4_joinQueue_0 : List UInt8 := dkwX4_joinQueue_0 ++ []
theorem dksX4_joinQueue_0 : cX4_joinQueue.data.toList.drop 0 = dktX4_joinQueue_0 := by decide +kernel
theorem dX4_joinQueue_0 : decode cX4_joinQueue 0 = .ok (.aload_n 0, 1) := dk_42 (dk_at dksX4_joinQueue_0 0 rfl rfl)
theorem dX4_joinQueue_1 : decode cX4_joinQueue 1 = .ok (.invokevirtual 77, 3) := dk_182 0 77 (dk_at dksX4_joinQueue_0 1 rfl rfl)
theorem dX4_joinQueue_4 : decode cX4_joinQueue 4 = .ok (.aload_n 0, 1) := dk_42 (dk_at dksX4_joinQueue_0 4 rfl rfl)
theorem dX4_joinQueue_5 : decode cX4_joinQueue 5 = .ok (.aload_n 0, 1) := dk_42 (dk_at dksX4_joinQueue_0 5 rfl rfl)
theorem dX4_joinQueue_6 : decode cX4_joinQueue 6 = .ok (.iload_n 1, 1) := dk_27 (dk_at dksX4_joinQueue_0 6 rfl rfl)
theorem dX4_joinQueue_7 : decode cX4_joinQueue 7 = .ok (.iload_n 2, 1) := dk_28 (dk_at dksX4_joinQueue_0 7 rfl rfl)
theorem dX4_joinQueue_8 : decode cX4_joinQueue 8 = .ok (.invokevirtual 130, 3) := dk_182 0 130 (dk_at dksX4_joinQueue_0 8 rfl rfl)
theorem dX4_joinQueue_11 : decode cX4_joinQueue 11 = .ok (.invokevirtual 83, 3) := dk_182 0 83 (dk_at dksX4_joinQueue_0 11 rfl rfl)
theorem dX4_joinQueue_14 : decode cX4_joinQueue 14 = .ok (.ireturn, 1) := dk_172 (dk_at dksX4_joinQueue_0 14 rfl rfl)
abbrev cX4_doJoin : ByteArray := prog_14_method_31_code
def yX4_doJoin : MethodName := ⟨RX4, "doJoin", "(II)I"⟩
def dkwX4_doJoin_4 : List UInt8 := [16, 44, 6, 27, 104, 96, 5, 96, 28, 4, 96, 79, 29, 4, 96, 172]
abbrev dktX4_doJoin_4 : List UInt8 := dkwX4_doJoin_4 ++ []
def dkwX4_doJoin_3 : List UInt8 := [7, 96, 29, 96, 27, 79, 42, 180, 0, 9, 21, 4, 6, 96, 92, 46, 4, 96, 79, 42, 180, 0, 9]
abbrev dktX4_doJoin_3 : List UInt8 := dkwX4_doJoin_3 ++ dktX4_doJoin_4
def dkwX4_doJoin_2 : List UInt8 := [160, 0, 9, 42, 6, 182, 0, 74, 172, 16, 8, 16, 9, 28, 104, 96, 54, 4, 42, 180, 0, 9, 21, 4]
abbrev dktX4_doJoin_2 : List UInt8 := dkwX4_doJoin_2 ++ dktX4_doJoin_3
def dkwX4_doJoin_1 : List UInt8 := [5, 182, 0, 107, 158, 0, 9, 42, 5, 182, 0, 74, 172, 42, 28, 6, 182, 0, 71, 62, 29, 8]
abbrev dktX4_doJoin_1 : List UInt8 := dkwX4_doJoin_1 ++ dktX4_doJoin_2
def dkwX4_doJoin_0 : List UInt8 := [42, 27, 182, 0, 97, 153, 0, 11, 42, 28, 182, 0, 101, 154, 0, 9, 42, 4, 182, 0, 74, 172, 42, 27]
abbrev dktX4_doJoin_0 : List UInt8 := dkwX4_doJoin_0 ++ dktX4_doJoin_1
theorem dksX4_doJoin_0 : cX4_doJoin.data.toList.drop 0 = dktX4_doJoin_0 := by decide +kernel
theorem dksX4_doJoin_1 : cX4_doJoin.data.toList.drop 24 = dktX4_doJoin_1 := dk_seg dksX4_doJoin_0 24 rfl rfl
theorem dksX4_doJoin_2 : cX4_doJoin.data.toList.drop 46 = dktX4_doJoin_2 := dk_seg dksX4_doJoin_1 22 rfl rfl
theorem dksX4_doJoin_3 : cX4_doJoin.data.toList.drop 70 = dktX4_doJoin_3 := dk_seg dksX4_doJoin_2 24 rfl rfl
theorem dksX4_doJoin_4 : cX4_doJoin.data.toList.drop 93 = dktX4_doJoin_4 := dk_seg dksX4_doJoin_3 23 rfl rfl
theorem dX4_doJoin_0 : decode cX4_doJoin 0 = .ok (.aload_n 0, 1) := dk_42 (dk_at dksX4_doJoin_0 0 rfl rfl)
theorem dX4_doJoin_1 : decode cX4_doJoin 1 = .ok (.iload_n 1, 1) := dk_27 (dk_at dksX4_doJoin_0 1 rfl rfl)
theorem dX4_doJoin_2 : decode cX4_doJoin 2 = .ok (.invokevirtual 97, 3) := dk_182 0 97 (dk_at dksX4_doJoin_0 2 rfl rfl)
theorem dX4_doJoin_5 : decode cX4_doJoin 5 = .ok (.ifCond .eq 11, 3) := dk_153 0 11 (dk_at dksX4_doJoin_0 5 rfl rfl)
theorem dX4_doJoin_8 : decode cX4_doJoin 8 = .ok (.aload_n 0, 1) := dk_42 (dk_at dksX4_doJoin_0 8 rfl rfl)
theorem dX4_doJoin_9 : decode cX4_doJoin 9 = .ok (.iload_n 2, 1) := dk_28 (dk_at dksX4_doJoin_0 9 rfl rfl)
theorem dX4_doJoin_10 : decode cX4_doJoin 10 = .ok (.invokevirtual 101, 3) := dk_182 0 101 (dk_at dksX4_doJoin_0 10 rfl rfl)
theorem dX4_doJoin_13 : decode cX4_doJoin 13 = .ok (.ifCond .ne 9, 3) := dk_154 0 9 (dk_at dksX4_doJoin_0 13 rfl rfl)
theorem dX4_doJoin_16 : decode cX4_doJoin 16 = .ok (.aload_n 0, 1) := dk_42 (dk_at dksX4_doJoin_0 16 rfl rfl)
theorem dX4_doJoin_17 : decode cX4_doJoin 17 = .ok (.iconst 1, 1) := dk_4 (dk_at dksX4_doJoin_0 17 rfl rfl)
theorem dX4_doJoin_18 : decode cX4_doJoin 18 = .ok (.invokevirtual 74, 3) := dk_182 0 74 (dk_at dksX4_doJoin_0 18 rfl rfl)
theorem dX4_doJoin_21 : decode cX4_doJoin 21 = .ok (.ireturn, 1) := dk_172 (dk_at dksX4_doJoin_0 21 rfl rfl)
theorem dX4_doJoin_22 : decode cX4_doJoin 22 = .ok (.aload_n 0, 1) := dk_42 (dk_at dksX4_doJoin_0 22 rfl rfl)
theorem dX4_doJoin_23 : decode cX4_doJoin 23 = .ok (.iload_n 1, 1) := dk_27 (dk_at dksX4_doJoin_0 23 rfl rfl)
theorem dX4_doJoin_24 : decode cX4_doJoin 24 = .ok (.iconst 2, 1) := dk_5 (dk_at dksX4_doJoin_1 0 rfl rfl)
theorem dX4_doJoin_25 : decode cX4_doJoin 25 = .ok (.invokevirtual 107, 3) := dk_182 0 107 (dk_at dksX4_doJoin_1 1 rfl rfl)
theorem dX4_doJoin_28 : decode cX4_doJoin 28 = .ok (.ifCond .le 9, 3) := dk_158 0 9 (dk_at dksX4_doJoin_1 4 rfl rfl)
theorem dX4_doJoin_31 : decode cX4_doJoin 31 = .ok (.aload_n 0, 1) := dk_42 (dk_at dksX4_doJoin_1 7 rfl rfl)
theorem dX4_doJoin_32 : decode cX4_doJoin 32 = .ok (.iconst 2, 1) := dk_5 (dk_at dksX4_doJoin_1 8 rfl rfl)
theorem dX4_doJoin_33 : decode cX4_doJoin 33 = .ok (.invokevirtual 74, 3) := dk_182 0 74 (dk_at dksX4_doJoin_1 9 rfl rfl)
theorem dX4_doJoin_36 : decode cX4_doJoin 36 = .ok (.ireturn, 1) := dk_172 (dk_at dksX4_doJoin_1 12 rfl rfl)
theorem dX4_doJoin_37 : decode cX4_doJoin 37 = .ok (.aload_n 0, 1) := dk_42 (dk_at dksX4_doJoin_1 13 rfl rfl)
theorem dX4_doJoin_38 : decode cX4_doJoin 38 = .ok (.iload_n 2, 1) := dk_28 (dk_at dksX4_doJoin_1 14 rfl rfl)
theorem dX4_doJoin_39 : decode cX4_doJoin 39 = .ok (.iconst 3, 1) := dk_6 (dk_at dksX4_doJoin_1 15 rfl rfl)
theorem dX4_doJoin_40 : decode cX4_doJoin 40 = .ok (.invokevirtual 71, 3) := dk_182 0 71 (dk_at dksX4_doJoin_1 16 rfl rfl)
theorem dX4_doJoin_43 : decode cX4_doJoin 43 = .ok (.istore_n 3, 1) := dk_62 (dk_at dksX4_doJoin_1 19 rfl rfl)
theorem dX4_doJoin_44 : decode cX4_doJoin 44 = .ok (.iload_n 3, 1) := dk_29 (dk_at dksX4_doJoin_1 20 rfl rfl)
theorem dX4_doJoin_45 : decode cX4_doJoin 45 = .ok (.iconst 5, 1) := dk_8 (dk_at dksX4_doJoin_1 21 rfl rfl)
theorem dX4_doJoin_46 : decode cX4_doJoin 46 = .ok (.if_icmp .ne 9, 3) := dk_160 0 9 (dk_at dksX4_doJoin_2 0 rfl rfl)
theorem dX4_doJoin_49 : decode cX4_doJoin 49 = .ok (.aload_n 0, 1) := dk_42 (dk_at dksX4_doJoin_2 3 rfl rfl)
theorem dX4_doJoin_50 : decode cX4_doJoin 50 = .ok (.iconst 3, 1) := dk_6 (dk_at dksX4_doJoin_2 4 rfl rfl)
theorem dX4_doJoin_51 : decode cX4_doJoin 51 = .ok (.invokevirtual 74, 3) := dk_182 0 74 (dk_at dksX4_doJoin_2 5 rfl rfl)
theorem dX4_doJoin_54 : decode cX4_doJoin 54 = .ok (.ireturn, 1) := dk_172 (dk_at dksX4_doJoin_2 8 rfl rfl)
theorem dX4_doJoin_55 : decode cX4_doJoin 55 = .ok (.bipush 8, 2) := dk_16 8 (dk_at dksX4_doJoin_2 9 rfl rfl)
theorem dX4_doJoin_57 : decode cX4_doJoin 57 = .ok (.bipush 9, 2) := dk_16 9 (dk_at dksX4_doJoin_2 11 rfl rfl)
theorem dX4_doJoin_59 : decode cX4_doJoin 59 = .ok (.iload_n 2, 1) := dk_28 (dk_at dksX4_doJoin_2 13 rfl rfl)
theorem dX4_doJoin_60 : decode cX4_doJoin 60 = .ok (.imul, 1) := dk_104 (dk_at dksX4_doJoin_2 14 rfl rfl)
theorem dX4_doJoin_61 : decode cX4_doJoin 61 = .ok (.iadd, 1) := dk_96 (dk_at dksX4_doJoin_2 15 rfl rfl)
theorem dX4_doJoin_62 : decode cX4_doJoin 62 = .ok (.istore 4, 2) := dk_54 4 (dk_at dksX4_doJoin_2 16 rfl rfl)
theorem dX4_doJoin_64 : decode cX4_doJoin 64 = .ok (.aload_n 0, 1) := dk_42 (dk_at dksX4_doJoin_2 18 rfl rfl)
theorem dX4_doJoin_65 : decode cX4_doJoin 65 = .ok (.getfield 9, 3) := dk_180 0 9 (dk_at dksX4_doJoin_2 19 rfl rfl)
theorem dX4_doJoin_68 : decode cX4_doJoin 68 = .ok (.iload 4, 2) := dk_21 4 (dk_at dksX4_doJoin_2 22 rfl rfl)
theorem dX4_doJoin_70 : decode cX4_doJoin 70 = .ok (.iconst 4, 1) := dk_7 (dk_at dksX4_doJoin_3 0 rfl rfl)
theorem dX4_doJoin_71 : decode cX4_doJoin 71 = .ok (.iadd, 1) := dk_96 (dk_at dksX4_doJoin_3 1 rfl rfl)
theorem dX4_doJoin_72 : decode cX4_doJoin 72 = .ok (.iload_n 3, 1) := dk_29 (dk_at dksX4_doJoin_3 2 rfl rfl)
theorem dX4_doJoin_73 : decode cX4_doJoin 73 = .ok (.iadd, 1) := dk_96 (dk_at dksX4_doJoin_3 3 rfl rfl)
theorem dX4_doJoin_74 : decode cX4_doJoin 74 = .ok (.iload_n 1, 1) := dk_27 (dk_at dksX4_doJoin_3 4 rfl rfl)
theorem dX4_doJoin_75 : decode cX4_doJoin 75 = .ok (.iastore, 1) := dk_79 (dk_at dksX4_doJoin_3 5 rfl rfl)
theorem dX4_doJoin_76 : decode cX4_doJoin 76 = .ok (.aload_n 0, 1) := dk_42 (dk_at dksX4_doJoin_3 6 rfl rfl)
theorem dX4_doJoin_77 : decode cX4_doJoin 77 = .ok (.getfield 9, 3) := dk_180 0 9 (dk_at dksX4_doJoin_3 7 rfl rfl)
theorem dX4_doJoin_80 : decode cX4_doJoin 80 = .ok (.iload 4, 2) := dk_21 4 (dk_at dksX4_doJoin_3 10 rfl rfl)
theorem dX4_doJoin_82 : decode cX4_doJoin 82 = .ok (.iconst 3, 1) := dk_6 (dk_at dksX4_doJoin_3 12 rfl rfl)
theorem dX4_doJoin_83 : decode cX4_doJoin 83 = .ok (.iadd, 1) := dk_96 (dk_at dksX4_doJoin_3 13 rfl rfl)
theorem dX4_doJoin_84 : decode cX4_doJoin 84 = .ok (.dup2, 1) := dk_92 (dk_at dksX4_doJoin_3 14 rfl rfl)
theorem dX4_doJoin_85 : decode cX4_doJoin 85 = .ok (.iaload, 1) := dk_46 (dk_at dksX4_doJoin_3 15 rfl rfl)
theorem dX4_doJoin_86 : decode cX4_doJoin 86 = .ok (.iconst 1, 1) := dk_4 (dk_at dksX4_doJoin_3 16 rfl rfl)
theorem dX4_doJoin_87 : decode cX4_doJoin 87 = .ok (.iadd, 1) := dk_96 (dk_at dksX4_doJoin_3 17 rfl rfl)
theorem dX4_doJoin_88 : decode cX4_doJoin 88 = .ok (.iastore, 1) := dk_79 (dk_at dksX4_doJoin_3 18 rfl rfl)
theorem dX4_doJoin_89 : decode cX4_doJoin 89 = .ok (.aload_n 0, 1) := dk_42 (dk_at dksX4_doJoin_3 19 rfl rfl)
theorem dX4_doJoin_90 : decode cX4_doJoin 90 = .ok (.getfield 9, 3) := dk_180 0 9 (dk_at dksX4_doJoin_3 20 rfl rfl)
theorem dX4_doJoin_93 : decode cX4_doJoin 93 = .ok (.bipush 44, 2) := dk_16 44 (dk_at dksX4_doJoin_4 0 rfl rfl)
theorem dX4_doJoin_95 : decode cX4_doJoin 95 = .ok (.iconst 3, 1) := dk_6 (dk_at dksX4_doJoin_4 2 rfl rfl)
theorem dX4_doJoin_96 : decode cX4_doJoin 96 = .ok (.iload_n 1, 1) := dk_27 (dk_at dksX4_doJoin_4 3 rfl rfl)
theorem dX4_doJoin_97 : decode cX4_doJoin 97 = .ok (.imul, 1) := dk_104 (dk_at dksX4_doJoin_4 4 rfl rfl)
theorem dX4_doJoin_98 : decode cX4_doJoin 98 = .ok (.iadd, 1) := dk_96 (dk_at dksX4_doJoin_4 5 rfl rfl)
theorem dX4_doJoin_99 : decode cX4_doJoin 99 = .ok (.iconst 2, 1) := dk_5 (dk_at dksX4_doJoin_4 6 rfl rfl)
theorem dX4_doJoin_100 : decode cX4_doJoin 100 = .ok (.iadd, 1) := dk_96 (dk_at dksX4_doJoin_4 7 rfl rfl)
theorem dX4_doJoin_101 : decode cX4_doJoin 101 = .ok (.iload_n 2, 1) := dk_28 (dk_at dksX4_doJoin_4 8 rfl rfl)
theorem dX4_doJoin_102 : decode cX4_doJoin 102 = .ok (.iconst 1, 1) := dk_4 (dk_at dksX4_doJoin_4 9 rfl rfl)
theorem dX4_doJoin_103 : decode cX4_doJoin 103 = .ok (.iadd, 1) := dk_96 (dk_at dksX4_doJoin_4 10 rfl rfl)
theorem dX4_doJoin_104 : decode cX4_doJoin 104 = .ok (.iastore, 1) := dk_79 (dk_at dksX4_doJoin_4 11 rfl rfl)
theorem dX4_doJoin_105 : decode cX4_doJoin 105 = .ok (.iload_n 3, 1) := dk_29 (dk_at dksX4_doJoin_4 12 rfl rfl)
theorem dX4_doJoin_106 : decode cX4_doJoin 106 = .ok (.iconst 1, 1) := dk_4 (dk_at dksX4_doJoin_4 13 rfl rfl)
theorem dX4_doJoin_107 : decode cX4_doJoin 107 = .ok (.iadd, 1) := dk_96 (dk_at dksX4_doJoin_4 14 rfl rfl)
theorem dX4_doJoin_108 : decode cX4_doJoin 108 = .ok (.ireturn, 1) := dk_172 (dk_at dksX4_doJoin_4 15 rfl rfl)
abbrev cX4_leaveQueue : ByteArray := prog_14_method_34_code
def yX4_leaveQueue : MethodName := ⟨RX4, "leaveQueue", "(I)I"⟩
def dkwX4_leaveQueue_0 : List UInt8 := [42, 182, 0, 77, 42, 42, 27, 182, 0, 133, 182, 0, 83, 172]
abbrev dktX4_leaveQueue_0 : List UInt8 := dkwX4_leaveQueue_0 ++ []
theorem dksX4_leaveQueue_0 : cX4_leaveQueue.data.toList.drop 0 = dktX4_leaveQueue_0 := by decide +kernel
theorem dX4_leaveQueue_0 : decode cX4_leaveQueue 0 = .ok (.aload_n 0, 1) := dk_42 (dk_at dksX4_leaveQueue_0 0 rfl rfl)
theorem dX4_leaveQueue_1 : decode cX4_leaveQueue 1 = .ok (.invokevirtual 77, 3) := dk_182 0 77 (dk_at dksX4_leaveQueue_0 1 rfl rfl)
theorem dX4_leaveQueue_4 : decode cX4_leaveQueue 4 = .ok (.aload_n 0, 1) := dk_42 (dk_at dksX4_leaveQueue_0 4 rfl rfl)
theorem dX4_leaveQueue_5 : decode cX4_leaveQueue 5 = .ok (.aload_n 0, 1) := dk_42 (dk_at dksX4_leaveQueue_0 5 rfl rfl)
theorem dX4_leaveQueue_6 : decode cX4_leaveQueue 6 = .ok (.iload_n 1, 1) := dk_27 (dk_at dksX4_leaveQueue_0 6 rfl rfl)
theorem dX4_leaveQueue_7 : decode cX4_leaveQueue 7 = .ok (.invokevirtual 133, 3) := dk_182 0 133 (dk_at dksX4_leaveQueue_0 7 rfl rfl)
theorem dX4_leaveQueue_10 : decode cX4_leaveQueue 10 = .ok (.invokevirtual 83, 3) := dk_182 0 83 (dk_at dksX4_leaveQueue_0 10 rfl rfl)
theorem dX4_leaveQueue_13 : decode cX4_leaveQueue 13 = .ok (.ireturn, 1) := dk_172 (dk_at dksX4_leaveQueue_0 13 rfl rfl)
abbrev cX4_doLeave : ByteArray := prog_14_method_33_code
def yX4_doLeave : MethodName := ⟨RX4, "doLeave", "(I)I"⟩
def dkwX4_doLeave_5 : List UInt8 := [96, 21, 4, 79, 42, 180, 0, 9, 16, 44, 6, 27, 104, 96, 5, 96, 3, 79, 28, 172]
abbrev dktX4_doLeave_5 : List UInt8 := dkwX4_doLeave_5 ++ []
def dkwX4_doLeave_4 : List UInt8 := [27, 160, 0, 7, 3, 167, 0, 4, 4, 96, 54, 4, 132, 5, 1, 167, 255, 193, 42, 180, 0, 9, 29, 6]
abbrev dktX4_doLeave_4 : List UInt8 := dkwX4_doLeave_4 ++ dktX4_doLeave_5
def dkwX4_doLeave_3 : List UInt8 := [180, 0, 9, 29, 7, 96, 21, 5, 96, 46, 79, 21, 4, 42, 180, 0, 9, 29, 7, 96, 21, 5, 96, 46]
abbrev dktX4_doLeave_3 : List UInt8 := dkwX4_doLeave_3 ++ dktX4_doLeave_4
def dkwX4_doLeave_2 : List UInt8 := [21, 5, 42, 180, 0, 9, 29, 6, 96, 46, 162, 0, 56, 42, 180, 0, 9, 29, 7, 96, 21, 4, 96, 42]
abbrev dktX4_doLeave_2 : List UInt8 := dkwX4_doLeave_2 ++ dktX4_doLeave_3
def dkwX4_doLeave_1 : List UInt8 := [156, 0, 9, 42, 5, 182, 0, 74, 172, 16, 8, 16, 9, 28, 104, 96, 62, 3, 54, 4, 3, 54, 5]
abbrev dktX4_doLeave_1 : List UInt8 := dkwX4_doLeave_1 ++ dktX4_doLeave_2
def dkwX4_doLeave_0 : List UInt8 := [42, 27, 182, 0, 97, 154, 0, 9, 42, 4, 182, 0, 74, 172, 42, 27, 5, 182, 0, 107, 4, 100, 61, 28]
abbrev dktX4_doLeave_0 : List UInt8 := dkwX4_doLeave_0 ++ dktX4_doLeave_1
theorem dksX4_doLeave_0 : cX4_doLeave.data.toList.drop 0 = dktX4_doLeave_0 := by decide +kernel
theorem dksX4_doLeave_1 : cX4_doLeave.data.toList.drop 24 = dktX4_doLeave_1 := dk_seg dksX4_doLeave_0 24 rfl rfl
theorem dksX4_doLeave_2 : cX4_doLeave.data.toList.drop 47 = dktX4_doLeave_2 := dk_seg dksX4_doLeave_1 23 rfl rfl
theorem dksX4_doLeave_3 : cX4_doLeave.data.toList.drop 71 = dktX4_doLeave_3 := dk_seg dksX4_doLeave_2 24 rfl rfl
theorem dksX4_doLeave_4 : cX4_doLeave.data.toList.drop 95 = dktX4_doLeave_4 := dk_seg dksX4_doLeave_3 24 rfl rfl
theorem dksX4_doLeave_5 : cX4_doLeave.data.toList.drop 119 = dktX4_doLeave_5 := dk_seg dksX4_doLeave_4 24 rfl rfl
theorem dX4_doLeave_0 : decode cX4_doLeave 0 = .ok (.aload_n 0, 1) := dk_42 (dk_at dksX4_doLeave_0 0 rfl rfl)
theorem dX4_doLeave_1 : decode cX4_doLeave 1 = .ok (.iload_n 1, 1) := dk_27 (dk_at dksX4_doLeave_0 1 rfl rfl)
theorem dX4_doLeave_2 : decode cX4_doLeave 2 = .ok (.invokevirtual 97, 3) := dk_182 0 97 (dk_at dksX4_doLeave_0 2 rfl rfl)
theorem dX4_doLeave_5 : decode cX4_doLeave 5 = .ok (.ifCond .ne 9, 3) := dk_154 0 9 (dk_at dksX4_doLeave_0 5 rfl rfl)
theorem dX4_doLeave_8 : decode cX4_doLeave 8 = .ok (.aload_n 0, 1) := dk_42 (dk_at dksX4_doLeave_0 8 rfl rfl)
theorem dX4_doLeave_9 : decode cX4_doLeave 9 = .ok (.iconst 1, 1) := dk_4 (dk_at dksX4_doLeave_0 9 rfl rfl)
theorem dX4_doLeave_10 : decode cX4_doLeave 10 = .ok (.invokevirtual 74, 3) := dk_182 0 74 (dk_at dksX4_doLeave_0 10 rfl rfl)
theorem dX4_doLeave_13 : decode cX4_doLeave 13 = .ok (.ireturn, 1) := dk_172 (dk_at dksX4_doLeave_0 13 rfl rfl)
theorem dX4_doLeave_14 : decode cX4_doLeave 14 = .ok (.aload_n 0, 1) := dk_42 (dk_at dksX4_doLeave_0 14 rfl rfl)
theorem dX4_doLeave_15 : decode cX4_doLeave 15 = .ok (.iload_n 1, 1) := dk_27 (dk_at dksX4_doLeave_0 15 rfl rfl)
theorem dX4_doLeave_16 : decode cX4_doLeave 16 = .ok (.iconst 2, 1) := dk_5 (dk_at dksX4_doLeave_0 16 rfl rfl)
theorem dX4_doLeave_17 : decode cX4_doLeave 17 = .ok (.invokevirtual 107, 3) := dk_182 0 107 (dk_at dksX4_doLeave_0 17 rfl rfl)
theorem dX4_doLeave_20 : decode cX4_doLeave 20 = .ok (.iconst 1, 1) := dk_4 (dk_at dksX4_doLeave_0 20 rfl rfl)
theorem dX4_doLeave_21 : decode cX4_doLeave 21 = .ok (.isub, 1) := dk_100 (dk_at dksX4_doLeave_0 21 rfl rfl)
theorem dX4_doLeave_22 : decode cX4_doLeave 22 = .ok (.istore_n 2, 1) := dk_61 (dk_at dksX4_doLeave_0 22 rfl rfl)
theorem dX4_doLeave_23 : decode cX4_doLeave 23 = .ok (.iload_n 2, 1) := dk_28 (dk_at dksX4_doLeave_0 23 rfl rfl)
theorem dX4_doLeave_24 : decode cX4_doLeave 24 = .ok (.ifCond .ge 9, 3) := dk_156 0 9 (dk_at dksX4_doLeave_1 0 rfl rfl)
theorem dX4_doLeave_27 : decode cX4_doLeave 27 = .ok (.aload_n 0, 1) := dk_42 (dk_at dksX4_doLeave_1 3 rfl rfl)
theorem dX4_doLeave_28 : decode cX4_doLeave 28 = .ok (.iconst 2, 1) := dk_5 (dk_at dksX4_doLeave_1 4 rfl rfl)
theorem dX4_doLeave_29 : decode cX4_doLeave 29 = .ok (.invokevirtual 74, 3) := dk_182 0 74 (dk_at dksX4_doLeave_1 5 rfl rfl)
theorem dX4_doLeave_32 : decode cX4_doLeave 32 = .ok (.ireturn, 1) := dk_172 (dk_at dksX4_doLeave_1 8 rfl rfl)
theorem dX4_doLeave_33 : decode cX4_doLeave 33 = .ok (.bipush 8, 2) := dk_16 8 (dk_at dksX4_doLeave_1 9 rfl rfl)
theorem dX4_doLeave_35 : decode cX4_doLeave 35 = .ok (.bipush 9, 2) := dk_16 9 (dk_at dksX4_doLeave_1 11 rfl rfl)
theorem dX4_doLeave_37 : decode cX4_doLeave 37 = .ok (.iload_n 2, 1) := dk_28 (dk_at dksX4_doLeave_1 13 rfl rfl)
theorem dX4_doLeave_38 : decode cX4_doLeave 38 = .ok (.imul, 1) := dk_104 (dk_at dksX4_doLeave_1 14 rfl rfl)
theorem dX4_doLeave_39 : decode cX4_doLeave 39 = .ok (.iadd, 1) := dk_96 (dk_at dksX4_doLeave_1 15 rfl rfl)
theorem dX4_doLeave_40 : decode cX4_doLeave 40 = .ok (.istore_n 3, 1) := dk_62 (dk_at dksX4_doLeave_1 16 rfl rfl)
theorem dX4_doLeave_41 : decode cX4_doLeave 41 = .ok (.iconst 0, 1) := dk_3 (dk_at dksX4_doLeave_1 17 rfl rfl)
theorem dX4_doLeave_42 : decode cX4_doLeave 42 = .ok (.istore 4, 2) := dk_54 4 (dk_at dksX4_doLeave_1 18 rfl rfl)
theorem dX4_doLeave_44 : decode cX4_doLeave 44 = .ok (.iconst 0, 1) := dk_3 (dk_at dksX4_doLeave_1 20 rfl rfl)
theorem dX4_doLeave_45 : decode cX4_doLeave 45 = .ok (.istore 5, 2) := dk_54 5 (dk_at dksX4_doLeave_1 21 rfl rfl)
theorem dX4_doLeave_47 : decode cX4_doLeave 47 = .ok (.iload 5, 2) := dk_21 5 (dk_at dksX4_doLeave_2 0 rfl rfl)
theorem dX4_doLeave_49 : decode cX4_doLeave 49 = .ok (.aload_n 0, 1) := dk_42 (dk_at dksX4_doLeave_2 2 rfl rfl)
theorem dX4_doLeave_50 : decode cX4_doLeave 50 = .ok (.getfield 9, 3) := dk_180 0 9 (dk_at dksX4_doLeave_2 3 rfl rfl)
theorem dX4_doLeave_53 : decode cX4_doLeave 53 = .ok (.iload_n 3, 1) := dk_29 (dk_at dksX4_doLeave_2 6 rfl rfl)
theorem dX4_doLeave_54 : decode cX4_doLeave 54 = .ok (.iconst 3, 1) := dk_6 (dk_at dksX4_doLeave_2 7 rfl rfl)
theorem dX4_doLeave_55 : decode cX4_doLeave 55 = .ok (.iadd, 1) := dk_96 (dk_at dksX4_doLeave_2 8 rfl rfl)
theorem dX4_doLeave_56 : decode cX4_doLeave 56 = .ok (.iaload, 1) := dk_46 (dk_at dksX4_doLeave_2 9 rfl rfl)
theorem dX4_doLeave_57 : decode cX4_doLeave 57 = .ok (.if_icmp .ge 56, 3) := dk_162 0 56 (dk_at dksX4_doLeave_2 10 rfl rfl)
theorem dX4_doLeave_60 : decode cX4_doLeave 60 = .ok (.aload_n 0, 1) := dk_42 (dk_at dksX4_doLeave_2 13 rfl rfl)
theorem dX4_doLeave_61 : decode cX4_doLeave 61 = .ok (.getfield 9, 3) := dk_180 0 9 (dk_at dksX4_doLeave_2 14 rfl rfl)
theorem dX4_doLeave_64 : decode cX4_doLeave 64 = .ok (.iload_n 3, 1) := dk_29 (dk_at dksX4_doLeave_2 17 rfl rfl)
theorem dX4_doLeave_65 : decode cX4_doLeave 65 = .ok (.iconst 4, 1) := dk_7 (dk_at dksX4_doLeave_2 18 rfl rfl)
theorem dX4_doLeave_66 : decode cX4_doLeave 66 = .ok (.iadd, 1) := dk_96 (dk_at dksX4_doLeave_2 19 rfl rfl)
theorem dX4_doLeave_67 : decode cX4_doLeave 67 = .ok (.iload 4, 2) := dk_21 4 (dk_at dksX4_doLeave_2 20 rfl rfl)
theorem dX4_doLeave_69 : decode cX4_doLeave 69 = .ok (.iadd, 1) := dk_96 (dk_at dksX4_doLeave_2 22 rfl rfl)
theorem dX4_doLeave_70 : decode cX4_doLeave 70 = .ok (.aload_n 0, 1) := dk_42 (dk_at dksX4_doLeave_2 23 rfl rfl)
theorem dX4_doLeave_71 : decode cX4_doLeave 71 = .ok (.getfield 9, 3) := dk_180 0 9 (dk_at dksX4_doLeave_3 0 rfl rfl)
theorem dX4_doLeave_74 : decode cX4_doLeave 74 = .ok (.iload_n 3, 1) := dk_29 (dk_at dksX4_doLeave_3 3 rfl rfl)
theorem dX4_doLeave_75 : decode cX4_doLeave 75 = .ok (.iconst 4, 1) := dk_7 (dk_at dksX4_doLeave_3 4 rfl rfl)
theorem dX4_doLeave_76 : decode cX4_doLeave 76 = .ok (.iadd, 1) := dk_96 (dk_at dksX4_doLeave_3 5 rfl rfl)
theorem dX4_doLeave_77 : decode cX4_doLeave 77 = .ok (.iload 5, 2) := dk_21 5 (dk_at dksX4_doLeave_3 6 rfl rfl)
theorem dX4_doLeave_79 : decode cX4_doLeave 79 = .ok (.iadd, 1) := dk_96 (dk_at dksX4_doLeave_3 8 rfl rfl)
theorem dX4_doLeave_80 : decode cX4_doLeave 80 = .ok (.iaload, 1) := dk_46 (dk_at dksX4_doLeave_3 9 rfl rfl)
theorem dX4_doLeave_81 : decode cX4_doLeave 81 = .ok (.iastore, 1) := dk_79 (dk_at dksX4_doLeave_3 10 rfl rfl)
theorem dX4_doLeave_82 : decode cX4_doLeave 82 = .ok (.iload 4, 2) := dk_21 4 (dk_at dksX4_doLeave_3 11 rfl rfl)
theorem dX4_doLeave_84 : decode cX4_doLeave 84 = .ok (.aload_n 0, 1) := dk_42 (dk_at dksX4_doLeave_3 13 rfl rfl)
theorem dX4_doLeave_85 : decode cX4_doLeave 85 = .ok (.getfield 9, 3) := dk_180 0 9 (dk_at dksX4_doLeave_3 14 rfl rfl)
theorem dX4_doLeave_88 : decode cX4_doLeave 88 = .ok (.iload_n 3, 1) := dk_29 (dk_at dksX4_doLeave_3 17 rfl rfl)
theorem dX4_doLeave_89 : decode cX4_doLeave 89 = .ok (.iconst 4, 1) := dk_7 (dk_at dksX4_doLeave_3 18 rfl rfl)
theorem dX4_doLeave_90 : decode cX4_doLeave 90 = .ok (.iadd, 1) := dk_96 (dk_at dksX4_doLeave_3 19 rfl rfl)
theorem dX4_doLeave_91 : decode cX4_doLeave 91 = .ok (.iload 5, 2) := dk_21 5 (dk_at dksX4_doLeave_3 20 rfl rfl)
theorem dX4_doLeave_93 : decode cX4_doLeave 93 = .ok (.iadd, 1) := dk_96 (dk_at dksX4_doLeave_3 22 rfl rfl)
theorem dX4_doLeave_94 : decode cX4_doLeave 94 = .ok (.iaload, 1) := dk_46 (dk_at dksX4_doLeave_3 23 rfl rfl)
theorem dX4_doLeave_95 : decode cX4_doLeave 95 = .ok (.iload_n 1, 1) := dk_27 (dk_at dksX4_doLeave_4 0 rfl rfl)
theorem dX4_doLeave_96 : decode cX4_doLeave 96 = .ok (.if_icmp .ne 7, 3) := dk_160 0 7 (dk_at dksX4_doLeave_4 1 rfl rfl)
theorem dX4_doLeave_99 : decode cX4_doLeave 99 = .ok (.iconst 0, 1) := dk_3 (dk_at dksX4_doLeave_4 4 rfl rfl)
theorem dX4_doLeave_100 : decode cX4_doLeave 100 = .ok (.goto 4, 3) := dk_167 0 4 (dk_at dksX4_doLeave_4 5 rfl rfl)
theorem dX4_doLeave_103 : decode cX4_doLeave 103 = .ok (.iconst 1, 1) := dk_4 (dk_at dksX4_doLeave_4 8 rfl rfl)
theorem dX4_doLeave_104 : decode cX4_doLeave 104 = .ok (.iadd, 1) := dk_96 (dk_at dksX4_doLeave_4 9 rfl rfl)
theorem dX4_doLeave_105 : decode cX4_doLeave 105 = .ok (.istore 4, 2) := dk_54 4 (dk_at dksX4_doLeave_4 10 rfl rfl)
theorem dX4_doLeave_107 : decode cX4_doLeave 107 = .ok (.iinc 5 1, 3) := dk_132 5 1 (dk_at dksX4_doLeave_4 12 rfl rfl)
theorem dX4_doLeave_110 : decode cX4_doLeave 110 = .ok (.goto (-63), 3) := dk_167 255 193 (dk_at dksX4_doLeave_4 15 rfl rfl)
theorem dX4_doLeave_113 : decode cX4_doLeave 113 = .ok (.aload_n 0, 1) := dk_42 (dk_at dksX4_doLeave_4 18 rfl rfl)
theorem dX4_doLeave_114 : decode cX4_doLeave 114 = .ok (.getfield 9, 3) := dk_180 0 9 (dk_at dksX4_doLeave_4 19 rfl rfl)
theorem dX4_doLeave_117 : decode cX4_doLeave 117 = .ok (.iload_n 3, 1) := dk_29 (dk_at dksX4_doLeave_4 22 rfl rfl)
theorem dX4_doLeave_118 : decode cX4_doLeave 118 = .ok (.iconst 3, 1) := dk_6 (dk_at dksX4_doLeave_4 23 rfl rfl)
theorem dX4_doLeave_119 : decode cX4_doLeave 119 = .ok (.iadd, 1) := dk_96 (dk_at dksX4_doLeave_5 0 rfl rfl)
theorem dX4_doLeave_120 : decode cX4_doLeave 120 = .ok (.iload 4, 2) := dk_21 4 (dk_at dksX4_doLeave_5 1 rfl rfl)
theorem dX4_doLeave_122 : decode cX4_doLeave 122 = .ok (.iastore, 1) := dk_79 (dk_at dksX4_doLeave_5 3 rfl rfl)
theorem dX4_doLeave_123 : decode cX4_doLeave 123 = .ok (.aload_n 0, 1) := dk_42 (dk_at dksX4_doLeave_5 4 rfl rfl)
theorem dX4_doLeave_124 : decode cX4_doLeave 124 = .ok (.getfield 9, 3) := dk_180 0 9 (dk_at dksX4_doLeave_5 5 rfl rfl)
theorem dX4_doLeave_127 : decode cX4_doLeave 127 = .ok (.bipush 44, 2) := dk_16 44 (dk_at dksX4_doLeave_5 8 rfl rfl)
theorem dX4_doLeave_129 : decode cX4_doLeave 129 = .ok (.iconst 3, 1) := dk_6 (dk_at dksX4_doLeave_5 10 rfl rfl)
theorem dX4_doLeave_130 : decode cX4_doLeave 130 = .ok (.iload_n 1, 1) := dk_27 (dk_at dksX4_doLeave_5 11 rfl rfl)
theorem dX4_doLeave_131 : decode cX4_doLeave 131 = .ok (.imul, 1) := dk_104 (dk_at dksX4_doLeave_5 12 rfl rfl)
theorem dX4_doLeave_132 : decode cX4_doLeave 132 = .ok (.iadd, 1) := dk_96 (dk_at dksX4_doLeave_5 13 rfl rfl)
theorem dX4_doLeave_133 : decode cX4_doLeave 133 = .ok (.iconst 2, 1) := dk_5 (dk_at dksX4_doLeave_5 14 rfl rfl)
theorem dX4_doLeave_134 : decode cX4_doLeave 134 = .ok (.iadd, 1) := dk_96 (dk_at dksX4_doLeave_5 15 rfl rfl)
theorem dX4_doLeave_135 : decode cX4_doLeave 135 = .ok (.iconst 0, 1) := dk_3 (dk_at dksX4_doLeave_5 16 rfl rfl)
theorem dX4_doLeave_136 : decode cX4_doLeave 136 = .ok (.iastore, 1) := dk_79 (dk_at dksX4_doLeave_5 17 rfl rfl)
theorem dX4_doLeave_137 : decode cX4_doLeave 137 = .ok (.iload_n 2, 1) := dk_28 (dk_at dksX4_doLeave_5 18 rfl rfl)
theorem dX4_doLeave_138 : decode cX4_doLeave 138 = .ok (.ireturn, 1) := dk_172 (dk_at dksX4_doLeave_5 19 rfl rfl)
abbrev cX4_passMinutes : ByteArray := prog_14_method_40_code
def yX4_passMinutes : MethodName := ⟨RX4, "passMinutes", "(I)I"⟩
def dkwX4_passMinutes_0 : List UInt8 := [42, 182, 0, 77, 42, 42, 27, 182, 0, 154, 182, 0, 83, 172]
abbrev dktX4_passMinutes_0 : List UInt8 := dkwX4_passMinutes_0 ++ []
theorem dksX4_passMinutes_0 : cX4_passMinutes.data.toList.drop 0 = dktX4_passMinutes_0 := by decide +kernel
theorem dX4_passMinutes_0 : decode cX4_passMinutes 0 = .ok (.aload_n 0, 1) := dk_42 (dk_at dksX4_passMinutes_0 0 rfl rfl)
theorem dX4_passMinutes_1 : decode cX4_passMinutes 1 = .ok (.invokevirtual 77, 3) := dk_182 0 77 (dk_at dksX4_passMinutes_0 1 rfl rfl)
theorem dX4_passMinutes_4 : decode cX4_passMinutes 4 = .ok (.aload_n 0, 1) := dk_42 (dk_at dksX4_passMinutes_0 4 rfl rfl)
theorem dX4_passMinutes_5 : decode cX4_passMinutes 5 = .ok (.aload_n 0, 1) := dk_42 (dk_at dksX4_passMinutes_0 5 rfl rfl)
theorem dX4_passMinutes_6 : decode cX4_passMinutes 6 = .ok (.iload_n 1, 1) := dk_27 (dk_at dksX4_passMinutes_0 6 rfl rfl)
theorem dX4_passMinutes_7 : decode cX4_passMinutes 7 = .ok (.invokevirtual 154, 3) := dk_182 0 154 (dk_at dksX4_passMinutes_0 7 rfl rfl)
theorem dX4_passMinutes_10 : decode cX4_passMinutes 10 = .ok (.invokevirtual 83, 3) := dk_182 0 83 (dk_at dksX4_passMinutes_0 10 rfl rfl)
theorem dX4_passMinutes_13 : decode cX4_passMinutes 13 = .ok (.ireturn, 1) := dk_172 (dk_at dksX4_passMinutes_0 13 rfl rfl)
abbrev cX4_doPass : ByteArray := prog_14_method_39_code
def yX4_doPass : MethodName := ⟨RX4, "doPass", "(I)I"⟩
def dkwX4_doPass_1 : List UInt8 := [162, 0, 16, 28, 42, 182, 0, 151, 96, 61, 132, 3, 1, 167, 255, 241, 28, 172]
abbrev dktX4_doPass_1 : List UInt8 := dkwX4_doPass_1 ++ []
def dkwX4_doPass_0 : List UInt8 := [27, 4, 16, 60, 184, 0, 51, 154, 0, 9, 42, 4, 182, 0, 74, 172, 3, 61, 3, 62, 29, 27]
abbrev dktX4_doPass_0 : List UInt8 := dkwX4_doPass_0 ++ dktX4_doPass_1
theorem dksX4_doPass_0 : cX4_doPass.data.toList.drop 0 = dktX4_doPass_0 := by decide +kernel
theorem dksX4_doPass_1 : cX4_doPass.data.toList.drop 22 = dktX4_doPass_1 := dk_seg dksX4_doPass_0 22 rfl rfl
theorem dX4_doPass_0 : decode cX4_doPass 0 = .ok (.iload_n 1, 1) := dk_27 (dk_at dksX4_doPass_0 0 rfl rfl)
theorem dX4_doPass_1 : decode cX4_doPass 1 = .ok (.iconst 1, 1) := dk_4 (dk_at dksX4_doPass_0 1 rfl rfl)
theorem dX4_doPass_2 : decode cX4_doPass 2 = .ok (.bipush 60, 2) := dk_16 60 (dk_at dksX4_doPass_0 2 rfl rfl)
theorem dX4_doPass_4 : decode cX4_doPass 4 = .ok (.invokestatic 51, 3) := dk_184 0 51 (dk_at dksX4_doPass_0 4 rfl rfl)
theorem dX4_doPass_7 : decode cX4_doPass 7 = .ok (.ifCond .ne 9, 3) := dk_154 0 9 (dk_at dksX4_doPass_0 7 rfl rfl)
theorem dX4_doPass_10 : decode cX4_doPass 10 = .ok (.aload_n 0, 1) := dk_42 (dk_at dksX4_doPass_0 10 rfl rfl)
theorem dX4_doPass_11 : decode cX4_doPass 11 = .ok (.iconst 1, 1) := dk_4 (dk_at dksX4_doPass_0 11 rfl rfl)
theorem dX4_doPass_12 : decode cX4_doPass 12 = .ok (.invokevirtual 74, 3) := dk_182 0 74 (dk_at dksX4_doPass_0 12 rfl rfl)
theorem dX4_doPass_15 : decode cX4_doPass 15 = .ok (.ireturn, 1) := dk_172 (dk_at dksX4_doPass_0 15 rfl rfl)
theorem dX4_doPass_16 : decode cX4_doPass 16 = .ok (.iconst 0, 1) := dk_3 (dk_at dksX4_doPass_0 16 rfl rfl)
theorem dX4_doPass_17 : decode cX4_doPass 17 = .ok (.istore_n 2, 1) := dk_61 (dk_at dksX4_doPass_0 17 rfl rfl)
theorem dX4_doPass_18 : decode cX4_doPass 18 = .ok (.iconst 0, 1) := dk_3 (dk_at dksX4_doPass_0 18 rfl rfl)
theorem dX4_doPass_19 : decode cX4_doPass 19 = .ok (.istore_n 3, 1) := dk_62 (dk_at dksX4_doPass_0 19 rfl rfl)
theorem dX4_doPass_20 : decode cX4_doPass 20 = .ok (.iload_n 3, 1) := dk_29 (dk_at dksX4_doPass_0 20 rfl rfl)
theorem dX4_doPass_21 : decode cX4_doPass 21 = .ok (.iload_n 1, 1) := dk_27 (dk_at dksX4_doPass_0 21 rfl rfl)
theorem dX4_doPass_22 : decode cX4_doPass 22 = .ok (.if_icmp .ge 16, 3) := dk_162 0 16 (dk_at dksX4_doPass_1 0 rfl rfl)
theorem dX4_doPass_25 : decode cX4_doPass 25 = .ok (.iload_n 2, 1) := dk_28 (dk_at dksX4_doPass_1 3 rfl rfl)
theorem dX4_doPass_26 : decode cX4_doPass 26 = .ok (.aload_n 0, 1) := dk_42 (dk_at dksX4_doPass_1 4 rfl rfl)
theorem dX4_doPass_27 : decode cX4_doPass 27 = .ok (.invokevirtual 151, 3) := dk_182 0 151 (dk_at dksX4_doPass_1 5 rfl rfl)
theorem dX4_doPass_30 : decode cX4_doPass 30 = .ok (.iadd, 1) := dk_96 (dk_at dksX4_doPass_1 8 rfl rfl)
theorem dX4_doPass_31 : decode cX4_doPass 31 = .ok (.istore_n 2, 1) := dk_61 (dk_at dksX4_doPass_1 9 rfl rfl)
theorem dX4_doPass_32 : decode cX4_doPass 32 = .ok (.iinc 3 1, 3) := dk_132 3 1 (dk_at dksX4_doPass_1 10 rfl rfl)
theorem dX4_doPass_35 : decode cX4_doPass 35 = .ok (.goto (-15), 3) := dk_167 255 241 (dk_at dksX4_doPass_1 13 rfl rfl)
theorem dX4_doPass_38 : decode cX4_doPass 38 = .ok (.iload_n 2, 1) := dk_28 (dk_at dksX4_doPass_1 16 rfl rfl)
theorem dX4_doPass_39 : decode cX4_doPass 39 = .ok (.ireturn, 1) := dk_172 (dk_at dksX4_doPass_1 17 rfl rfl)
abbrev cX4_passesOne : ByteArray := prog_14_method_38_code
def yX4_passesOne : MethodName := ⟨RX4, "passesOne", "()I"⟩
def dkwX4_passesOne_6 : List UInt8 := [167, 0, 4, 4, 96, 61, 167, 255, 193, 27, 172]
abbrev dktX4_passesOne_6 : List UInt8 := dkwX4_passesOne_6 ++ []
def dkwX4_passesOne_5 : List UInt8 := [28, 182, 0, 148, 27, 29, 153, 0, 7, 4, 167, 0, 4, 3, 96, 60, 28, 29, 153, 0, 7, 3]
abbrev dktX4_passesOne_5 : List UInt8 := dkwX4_passesOne_5 ++ dktX4_passesOne_6
def dkwX4_passesOne_4 : List UInt8 := [28, 182, 0, 90, 42, 180, 0, 9, 6, 46, 160, 0, 7, 4, 167, 0, 4, 3, 62, 29, 153, 0, 8, 42]
abbrev dktX4_passesOne_4 : List UInt8 := dkwX4_passesOne_4 ++ dktX4_passesOne_5
def dkwX4_passesOne_3 : List UInt8 := [182, 0, 139, 132, 1, 1, 167, 255, 214, 3, 60, 3, 61, 28, 42, 180, 0, 9, 5, 46, 162, 0, 59, 42]
abbrev dktX4_passesOne_3 : List UInt8 := dkwX4_passesOne_3 ++ dktX4_passesOne_4
def dkwX4_passesOne_2 : List UInt8 := [180, 0, 9, 6, 46, 4, 100, 182, 0, 145, 156, 0, 16, 42, 27, 42, 27, 5, 182, 0, 71, 4, 100]
abbrev dktX4_passesOne_2 : List UInt8 := dkwX4_passesOne_2 ++ dktX4_passesOne_3
def dkwX4_passesOne_1 : List UInt8 := [180, 0, 9, 6, 92, 46, 4, 96, 79, 3, 60, 27, 42, 180, 0, 9, 3, 46, 162, 0, 38, 42, 27, 42]
abbrev dktX4_passesOne_1 : List UInt8 := dkwX4_passesOne_1 ++ dktX4_passesOne_2
def dkwX4_passesOne_0 : List UInt8 := [3, 60, 27, 42, 180, 0, 9, 3, 46, 162, 0, 14, 42, 27, 182, 0, 142, 132, 1, 1, 167, 255, 238, 42]
abbrev dktX4_passesOne_0 : List UInt8 := dkwX4_passesOne_0 ++ dktX4_passesOne_1
theorem dksX4_passesOne_0 : cX4_passesOne.data.toList.drop 0 = dktX4_passesOne_0 := by decide +kernel
theorem dksX4_passesOne_1 : cX4_passesOne.data.toList.drop 24 = dktX4_passesOne_1 := dk_seg dksX4_passesOne_0 24 rfl rfl
theorem dksX4_passesOne_2 : cX4_passesOne.data.toList.drop 48 = dktX4_passesOne_2 := dk_seg dksX4_passesOne_1 24 rfl rfl
theorem dksX4_passesOne_3 : cX4_passesOne.data.toList.drop 71 = dktX4_passesOne_3 := dk_seg dksX4_passesOne_2 23 rfl rfl
theorem dksX4_passesOne_4 : cX4_passesOne.data.toList.drop 95 = dktX4_passesOne_4 := dk_seg dksX4_passesOne_3 24 rfl rfl
theorem dksX4_passesOne_5 : cX4_passesOne.data.toList.drop 119 = dktX4_passesOne_5 := dk_seg dksX4_passesOne_4 24 rfl rfl
theorem dksX4_passesOne_6 : cX4_passesOne.data.toList.drop 141 = dktX4_passesOne_6 := dk_seg dksX4_passesOne_5 22 rfl rfl
theorem dX4_passesOne_0 : decode cX4_passesOne 0 = .ok (.iconst 0, 1) := dk_3 (dk_at dksX4_passesOne_0 0 rfl rfl)
theorem dX4_passesOne_1 : decode cX4_passesOne 1 = .ok (.istore_n 1, 1) := dk_60 (dk_at dksX4_passesOne_0 1 rfl rfl)
theorem dX4_passesOne_2 : decode cX4_passesOne 2 = .ok (.iload_n 1, 1) := dk_27 (dk_at dksX4_passesOne_0 2 rfl rfl)
theorem dX4_passesOne_3 : decode cX4_passesOne 3 = .ok (.aload_n 0, 1) := dk_42 (dk_at dksX4_passesOne_0 3 rfl rfl)
theorem dX4_passesOne_4 : decode cX4_passesOne 4 = .ok (.getfield 9, 3) := dk_180 0 9 (dk_at dksX4_passesOne_0 4 rfl rfl)
theorem dX4_passesOne_7 : decode cX4_passesOne 7 = .ok (.iconst 0, 1) := dk_3 (dk_at dksX4_passesOne_0 7 rfl rfl)
theorem dX4_passesOne_8 : decode cX4_passesOne 8 = .ok (.iaload, 1) := dk_46 (dk_at dksX4_passesOne_0 8 rfl rfl)
theorem dX4_passesOne_9 : decode cX4_passesOne 9 = .ok (.if_icmp .ge 14, 3) := dk_162 0 14 (dk_at dksX4_passesOne_0 9 rfl rfl)
theorem dX4_passesOne_12 : decode cX4_passesOne 12 = .ok (.aload_n 0, 1) := dk_42 (dk_at dksX4_passesOne_0 12 rfl rfl)
theorem dX4_passesOne_13 : decode cX4_passesOne 13 = .ok (.iload_n 1, 1) := dk_27 (dk_at dksX4_passesOne_0 13 rfl rfl)
theorem dX4_passesOne_14 : decode cX4_passesOne 14 = .ok (.invokevirtual 142, 3) := dk_182 0 142 (dk_at dksX4_passesOne_0 14 rfl rfl)
theorem dX4_passesOne_17 : decode cX4_passesOne 17 = .ok (.iinc 1 1, 3) := dk_132 1 1 (dk_at dksX4_passesOne_0 17 rfl rfl)
theorem dX4_passesOne_20 : decode cX4_passesOne 20 = .ok (.goto (-18), 3) := dk_167 255 238 (dk_at dksX4_passesOne_0 20 rfl rfl)
theorem dX4_passesOne_23 : decode cX4_passesOne 23 = .ok (.aload_n 0, 1) := dk_42 (dk_at dksX4_passesOne_0 23 rfl rfl)
theorem dX4_passesOne_24 : decode cX4_passesOne 24 = .ok (.getfield 9, 3) := dk_180 0 9 (dk_at dksX4_passesOne_1 0 rfl rfl)
theorem dX4_passesOne_27 : decode cX4_passesOne 27 = .ok (.iconst 3, 1) := dk_6 (dk_at dksX4_passesOne_1 3 rfl rfl)
theorem dX4_passesOne_28 : decode cX4_passesOne 28 = .ok (.dup2, 1) := dk_92 (dk_at dksX4_passesOne_1 4 rfl rfl)
theorem dX4_passesOne_29 : decode cX4_passesOne 29 = .ok (.iaload, 1) := dk_46 (dk_at dksX4_passesOne_1 5 rfl rfl)
theorem dX4_passesOne_30 : decode cX4_passesOne 30 = .ok (.iconst 1, 1) := dk_4 (dk_at dksX4_passesOne_1 6 rfl rfl)
theorem dX4_passesOne_31 : decode cX4_passesOne 31 = .ok (.iadd, 1) := dk_96 (dk_at dksX4_passesOne_1 7 rfl rfl)
theorem dX4_passesOne_32 : decode cX4_passesOne 32 = .ok (.iastore, 1) := dk_79 (dk_at dksX4_passesOne_1 8 rfl rfl)
theorem dX4_passesOne_33 : decode cX4_passesOne 33 = .ok (.iconst 0, 1) := dk_3 (dk_at dksX4_passesOne_1 9 rfl rfl)
theorem dX4_passesOne_34 : decode cX4_passesOne 34 = .ok (.istore_n 1, 1) := dk_60 (dk_at dksX4_passesOne_1 10 rfl rfl)
theorem dX4_passesOne_35 : decode cX4_passesOne 35 = .ok (.iload_n 1, 1) := dk_27 (dk_at dksX4_passesOne_1 11 rfl rfl)
theorem dX4_passesOne_36 : decode cX4_passesOne 36 = .ok (.aload_n 0, 1) := dk_42 (dk_at dksX4_passesOne_1 12 rfl rfl)
theorem dX4_passesOne_37 : decode cX4_passesOne 37 = .ok (.getfield 9, 3) := dk_180 0 9 (dk_at dksX4_passesOne_1 13 rfl rfl)
theorem dX4_passesOne_40 : decode cX4_passesOne 40 = .ok (.iconst 0, 1) := dk_3 (dk_at dksX4_passesOne_1 16 rfl rfl)
theorem dX4_passesOne_41 : decode cX4_passesOne 41 = .ok (.iaload, 1) := dk_46 (dk_at dksX4_passesOne_1 17 rfl rfl)
theorem dX4_passesOne_42 : decode cX4_passesOne 42 = .ok (.if_icmp .ge 38, 3) := dk_162 0 38 (dk_at dksX4_passesOne_1 18 rfl rfl)
theorem dX4_passesOne_45 : decode cX4_passesOne 45 = .ok (.aload_n 0, 1) := dk_42 (dk_at dksX4_passesOne_1 21 rfl rfl)
theorem dX4_passesOne_46 : decode cX4_passesOne 46 = .ok (.iload_n 1, 1) := dk_27 (dk_at dksX4_passesOne_1 22 rfl rfl)
theorem dX4_passesOne_47 : decode cX4_passesOne 47 = .ok (.aload_n 0, 1) := dk_42 (dk_at dksX4_passesOne_1 23 rfl rfl)
theorem dX4_passesOne_48 : decode cX4_passesOne 48 = .ok (.getfield 9, 3) := dk_180 0 9 (dk_at dksX4_passesOne_2 0 rfl rfl)
theorem dX4_passesOne_51 : decode cX4_passesOne 51 = .ok (.iconst 3, 1) := dk_6 (dk_at dksX4_passesOne_2 3 rfl rfl)
theorem dX4_passesOne_52 : decode cX4_passesOne 52 = .ok (.iaload, 1) := dk_46 (dk_at dksX4_passesOne_2 4 rfl rfl)
theorem dX4_passesOne_53 : decode cX4_passesOne 53 = .ok (.iconst 1, 1) := dk_4 (dk_at dksX4_passesOne_2 5 rfl rfl)
theorem dX4_passesOne_54 : decode cX4_passesOne 54 = .ok (.isub, 1) := dk_100 (dk_at dksX4_passesOne_2 6 rfl rfl)
theorem dX4_passesOne_55 : decode cX4_passesOne 55 = .ok (.invokevirtual 145, 3) := dk_182 0 145 (dk_at dksX4_passesOne_2 7 rfl rfl)
theorem dX4_passesOne_58 : decode cX4_passesOne 58 = .ok (.ifCond .ge 16, 3) := dk_156 0 16 (dk_at dksX4_passesOne_2 10 rfl rfl)
theorem dX4_passesOne_61 : decode cX4_passesOne 61 = .ok (.aload_n 0, 1) := dk_42 (dk_at dksX4_passesOne_2 13 rfl rfl)
theorem dX4_passesOne_62 : decode cX4_passesOne 62 = .ok (.iload_n 1, 1) := dk_27 (dk_at dksX4_passesOne_2 14 rfl rfl)
theorem dX4_passesOne_63 : decode cX4_passesOne 63 = .ok (.aload_n 0, 1) := dk_42 (dk_at dksX4_passesOne_2 15 rfl rfl)
theorem dX4_passesOne_64 : decode cX4_passesOne 64 = .ok (.iload_n 1, 1) := dk_27 (dk_at dksX4_passesOne_2 16 rfl rfl)
theorem dX4_passesOne_65 : decode cX4_passesOne 65 = .ok (.iconst 2, 1) := dk_5 (dk_at dksX4_passesOne_2 17 rfl rfl)
theorem dX4_passesOne_66 : decode cX4_passesOne 66 = .ok (.invokevirtual 71, 3) := dk_182 0 71 (dk_at dksX4_passesOne_2 18 rfl rfl)
theorem dX4_passesOne_69 : decode cX4_passesOne 69 = .ok (.iconst 1, 1) := dk_4 (dk_at dksX4_passesOne_2 21 rfl rfl)
theorem dX4_passesOne_70 : decode cX4_passesOne 70 = .ok (.isub, 1) := dk_100 (dk_at dksX4_passesOne_2 22 rfl rfl)
theorem dX4_passesOne_71 : decode cX4_passesOne 71 = .ok (.invokevirtual 139, 3) := dk_182 0 139 (dk_at dksX4_passesOne_3 0 rfl rfl)
theorem dX4_passesOne_74 : decode cX4_passesOne 74 = .ok (.iinc 1 1, 3) := dk_132 1 1 (dk_at dksX4_passesOne_3 3 rfl rfl)
theorem dX4_passesOne_77 : decode cX4_passesOne 77 = .ok (.goto (-42), 3) := dk_167 255 214 (dk_at dksX4_passesOne_3 6 rfl rfl)
theorem dX4_passesOne_80 : decode cX4_passesOne 80 = .ok (.iconst 0, 1) := dk_3 (dk_at dksX4_passesOne_3 9 rfl rfl)
theorem dX4_passesOne_81 : decode cX4_passesOne 81 = .ok (.istore_n 1, 1) := dk_60 (dk_at dksX4_passesOne_3 10 rfl rfl)
theorem dX4_passesOne_82 : decode cX4_passesOne 82 = .ok (.iconst 0, 1) := dk_3 (dk_at dksX4_passesOne_3 11 rfl rfl)
theorem dX4_passesOne_83 : decode cX4_passesOne 83 = .ok (.istore_n 2, 1) := dk_61 (dk_at dksX4_passesOne_3 12 rfl rfl)
theorem dX4_passesOne_84 : decode cX4_passesOne 84 = .ok (.iload_n 2, 1) := dk_28 (dk_at dksX4_passesOne_3 13 rfl rfl)
theorem dX4_passesOne_85 : decode cX4_passesOne 85 = .ok (.aload_n 0, 1) := dk_42 (dk_at dksX4_passesOne_3 14 rfl rfl)
theorem dX4_passesOne_86 : decode cX4_passesOne 86 = .ok (.getfield 9, 3) := dk_180 0 9 (dk_at dksX4_passesOne_3 15 rfl rfl)
theorem dX4_passesOne_89 : decode cX4_passesOne 89 = .ok (.iconst 2, 1) := dk_5 (dk_at dksX4_passesOne_3 18 rfl rfl)
theorem dX4_passesOne_90 : decode cX4_passesOne 90 = .ok (.iaload, 1) := dk_46 (dk_at dksX4_passesOne_3 19 rfl rfl)
theorem dX4_passesOne_91 : decode cX4_passesOne 91 = .ok (.if_icmp .ge 59, 3) := dk_162 0 59 (dk_at dksX4_passesOne_3 20 rfl rfl)
theorem dX4_passesOne_94 : decode cX4_passesOne 94 = .ok (.aload_n 0, 1) := dk_42 (dk_at dksX4_passesOne_3 23 rfl rfl)
theorem dX4_passesOne_95 : decode cX4_passesOne 95 = .ok (.iload_n 2, 1) := dk_28 (dk_at dksX4_passesOne_4 0 rfl rfl)
theorem dX4_passesOne_96 : decode cX4_passesOne 96 = .ok (.invokevirtual 90, 3) := dk_182 0 90 (dk_at dksX4_passesOne_4 1 rfl rfl)
theorem dX4_passesOne_99 : decode cX4_passesOne 99 = .ok (.aload_n 0, 1) := dk_42 (dk_at dksX4_passesOne_4 4 rfl rfl)
theorem dX4_passesOne_100 : decode cX4_passesOne 100 = .ok (.getfield 9, 3) := dk_180 0 9 (dk_at dksX4_passesOne_4 5 rfl rfl)
theorem dX4_passesOne_103 : decode cX4_passesOne 103 = .ok (.iconst 3, 1) := dk_6 (dk_at dksX4_passesOne_4 8 rfl rfl)
theorem dX4_passesOne_104 : decode cX4_passesOne 104 = .ok (.iaload, 1) := dk_46 (dk_at dksX4_passesOne_4 9 rfl rfl)
theorem dX4_passesOne_105 : decode cX4_passesOne 105 = .ok (.if_icmp .ne 7, 3) := dk_160 0 7 (dk_at dksX4_passesOne_4 10 rfl rfl)
theorem dX4_passesOne_108 : decode cX4_passesOne 108 = .ok (.iconst 1, 1) := dk_4 (dk_at dksX4_passesOne_4 13 rfl rfl)
theorem dX4_passesOne_109 : decode cX4_passesOne 109 = .ok (.goto 4, 3) := dk_167 0 4 (dk_at dksX4_passesOne_4 14 rfl rfl)
theorem dX4_passesOne_112 : decode cX4_passesOne 112 = .ok (.iconst 0, 1) := dk_3 (dk_at dksX4_passesOne_4 17 rfl rfl)
theorem dX4_passesOne_113 : decode cX4_passesOne 113 = .ok (.istore_n 3, 1) := dk_62 (dk_at dksX4_passesOne_4 18 rfl rfl)
theorem dX4_passesOne_114 : decode cX4_passesOne 114 = .ok (.iload_n 3, 1) := dk_29 (dk_at dksX4_passesOne_4 19 rfl rfl)
theorem dX4_passesOne_115 : decode cX4_passesOne 115 = .ok (.ifCond .eq 8, 3) := dk_153 0 8 (dk_at dksX4_passesOne_4 20 rfl rfl)
theorem dX4_passesOne_118 : decode cX4_passesOne 118 = .ok (.aload_n 0, 1) := dk_42 (dk_at dksX4_passesOne_4 23 rfl rfl)
theorem dX4_passesOne_119 : decode cX4_passesOne 119 = .ok (.iload_n 2, 1) := dk_28 (dk_at dksX4_passesOne_5 0 rfl rfl)
theorem dX4_passesOne_120 : decode cX4_passesOne 120 = .ok (.invokevirtual 148, 3) := dk_182 0 148 (dk_at dksX4_passesOne_5 1 rfl rfl)
theorem dX4_passesOne_123 : decode cX4_passesOne 123 = .ok (.iload_n 1, 1) := dk_27 (dk_at dksX4_passesOne_5 4 rfl rfl)
theorem dX4_passesOne_124 : decode cX4_passesOne 124 = .ok (.iload_n 3, 1) := dk_29 (dk_at dksX4_passesOne_5 5 rfl rfl)
theorem dX4_passesOne_125 : decode cX4_passesOne 125 = .ok (.ifCond .eq 7, 3) := dk_153 0 7 (dk_at dksX4_passesOne_5 6 rfl rfl)
theorem dX4_passesOne_128 : decode cX4_passesOne 128 = .ok (.iconst 1, 1) := dk_4 (dk_at dksX4_passesOne_5 9 rfl rfl)
theorem dX4_passesOne_129 : decode cX4_passesOne 129 = .ok (.goto 4, 3) := dk_167 0 4 (dk_at dksX4_passesOne_5 10 rfl rfl)
theorem dX4_passesOne_132 : decode cX4_passesOne 132 = .ok (.iconst 0, 1) := dk_3 (dk_at dksX4_passesOne_5 13 rfl rfl)
theorem dX4_passesOne_133 : decode cX4_passesOne 133 = .ok (.iadd, 1) := dk_96 (dk_at dksX4_passesOne_5 14 rfl rfl)
theorem dX4_passesOne_134 : decode cX4_passesOne 134 = .ok (.istore_n 1, 1) := dk_60 (dk_at dksX4_passesOne_5 15 rfl rfl)
theorem dX4_passesOne_135 : decode cX4_passesOne 135 = .ok (.iload_n 2, 1) := dk_28 (dk_at dksX4_passesOne_5 16 rfl rfl)
theorem dX4_passesOne_136 : decode cX4_passesOne 136 = .ok (.iload_n 3, 1) := dk_29 (dk_at dksX4_passesOne_5 17 rfl rfl)
theorem dX4_passesOne_137 : decode cX4_passesOne 137 = .ok (.ifCond .eq 7, 3) := dk_153 0 7 (dk_at dksX4_passesOne_5 18 rfl rfl)
theorem dX4_passesOne_140 : decode cX4_passesOne 140 = .ok (.iconst 0, 1) := dk_3 (dk_at dksX4_passesOne_5 21 rfl rfl)
theorem dX4_passesOne_141 : decode cX4_passesOne 141 = .ok (.goto 4, 3) := dk_167 0 4 (dk_at dksX4_passesOne_6 0 rfl rfl)
theorem dX4_passesOne_144 : decode cX4_passesOne 144 = .ok (.iconst 1, 1) := dk_4 (dk_at dksX4_passesOne_6 3 rfl rfl)
theorem dX4_passesOne_145 : decode cX4_passesOne 145 = .ok (.iadd, 1) := dk_96 (dk_at dksX4_passesOne_6 4 rfl rfl)
theorem dX4_passesOne_146 : decode cX4_passesOne 146 = .ok (.istore_n 2, 1) := dk_61 (dk_at dksX4_passesOne_6 5 rfl rfl)
theorem dX4_passesOne_147 : decode cX4_passesOne 147 = .ok (.goto (-63), 3) := dk_167 255 193 (dk_at dksX4_passesOne_6 6 rfl rfl)
theorem dX4_passesOne_150 : decode cX4_passesOne 150 = .ok (.iload_n 1, 1) := dk_27 (dk_at dksX4_passesOne_6 9 rfl rfl)
theorem dX4_passesOne_151 : decode cX4_passesOne 151 = .ok (.ireturn, 1) := dk_172 (dk_at dksX4_passesOne_6 10 rfl rfl)
abbrev cX4_calls : ByteArray := prog_14_method_35_code
def yX4_calls : MethodName := ⟨RX4, "calls", "(I)V"⟩
def dkwX4_calls_4 : List UInt8 := [42, 28, 27, 42, 180, 0, 9, 6, 46, 182, 0, 113, 54, 5, 177]
abbrev dktX4_calls_4 : List UInt8 := dkwX4_calls_4 ++ []
def dkwX4_calls_3 : List UInt8 := [3, 54, 4, 29, 154, 0, 8, 21, 4, 153, 0, 10, 42, 28, 182, 0, 133, 54, 5, 21, 4, 153, 0, 17]
abbrev dktX4_calls_3 : List UInt8 := dkwX4_calls_3 ++ dktX4_calls_4
def dkwX4_calls_2 : List UInt8 := [16, 12, 162, 0, 22, 42, 28, 27, 42, 180, 0, 9, 6, 46, 182, 0, 110, 154, 0, 7, 4, 167, 0, 4]
abbrev dktX4_calls_2 : List UInt8 := dkwX4_calls_2 ++ dktX4_calls_3
def dkwX4_calls_1 : List UInt8 := [27, 4, 182, 0, 71, 162, 0, 7, 4, 167, 0, 4, 3, 62, 29, 154, 0, 33, 42, 180, 0, 9, 5, 46]
abbrev dktX4_calls_1 : List UInt8 := dkwX4_calls_1 ++ dktX4_calls_2
def dkwX4_calls_0 : List UInt8 := [42, 27, 6, 182, 0, 71, 154, 0, 4, 177, 42, 27, 3, 182, 0, 136, 61, 42, 28, 3, 182, 0, 107, 42]
abbrev dktX4_calls_0 : List UInt8 := dkwX4_calls_0 ++ dktX4_calls_1
theorem dksX4_calls_0 : cX4_calls.data.toList.drop 0 = dktX4_calls_0 := by decide +kernel
theorem dksX4_calls_1 : cX4_calls.data.toList.drop 24 = dktX4_calls_1 := dk_seg dksX4_calls_0 24 rfl rfl
theorem dksX4_calls_2 : cX4_calls.data.toList.drop 48 = dktX4_calls_2 := dk_seg dksX4_calls_1 24 rfl rfl
theorem dksX4_calls_3 : cX4_calls.data.toList.drop 72 = dktX4_calls_3 := dk_seg dksX4_calls_2 24 rfl rfl
theorem dksX4_calls_4 : cX4_calls.data.toList.drop 96 = dktX4_calls_4 := dk_seg dksX4_calls_3 24 rfl rfl
theorem dX4_calls_0 : decode cX4_calls 0 = .ok (.aload_n 0, 1) := dk_42 (dk_at dksX4_calls_0 0 rfl rfl)
theorem dX4_calls_1 : decode cX4_calls 1 = .ok (.iload_n 1, 1) := dk_27 (dk_at dksX4_calls_0 1 rfl rfl)
theorem dX4_calls_2 : decode cX4_calls 2 = .ok (.iconst 3, 1) := dk_6 (dk_at dksX4_calls_0 2 rfl rfl)
theorem dX4_calls_3 : decode cX4_calls 3 = .ok (.invokevirtual 71, 3) := dk_182 0 71 (dk_at dksX4_calls_0 3 rfl rfl)
theorem dX4_calls_6 : decode cX4_calls 6 = .ok (.ifCond .ne 4, 3) := dk_154 0 4 (dk_at dksX4_calls_0 6 rfl rfl)
theorem dX4_calls_9 : decode cX4_calls 9 = .ok (.return_, 1) := dk_177 (dk_at dksX4_calls_0 9 rfl rfl)
theorem dX4_calls_10 : decode cX4_calls 10 = .ok (.aload_n 0, 1) := dk_42 (dk_at dksX4_calls_0 10 rfl rfl)
theorem dX4_calls_11 : decode cX4_calls 11 = .ok (.iload_n 1, 1) := dk_27 (dk_at dksX4_calls_0 11 rfl rfl)
theorem dX4_calls_12 : decode cX4_calls 12 = .ok (.iconst 0, 1) := dk_3 (dk_at dksX4_calls_0 12 rfl rfl)
theorem dX4_calls_13 : decode cX4_calls 13 = .ok (.invokevirtual 136, 3) := dk_182 0 136 (dk_at dksX4_calls_0 13 rfl rfl)
theorem dX4_calls_16 : decode cX4_calls 16 = .ok (.istore_n 2, 1) := dk_61 (dk_at dksX4_calls_0 16 rfl rfl)
theorem dX4_calls_17 : decode cX4_calls 17 = .ok (.aload_n 0, 1) := dk_42 (dk_at dksX4_calls_0 17 rfl rfl)
theorem dX4_calls_18 : decode cX4_calls 18 = .ok (.iload_n 2, 1) := dk_28 (dk_at dksX4_calls_0 18 rfl rfl)
theorem dX4_calls_19 : decode cX4_calls 19 = .ok (.iconst 0, 1) := dk_3 (dk_at dksX4_calls_0 19 rfl rfl)
theorem dX4_calls_20 : decode cX4_calls 20 = .ok (.invokevirtual 107, 3) := dk_182 0 107 (dk_at dksX4_calls_0 20 rfl rfl)
theorem dX4_calls_23 : decode cX4_calls 23 = .ok (.aload_n 0, 1) := dk_42 (dk_at dksX4_calls_0 23 rfl rfl)
theorem dX4_calls_24 : decode cX4_calls 24 = .ok (.iload_n 1, 1) := dk_27 (dk_at dksX4_calls_1 0 rfl rfl)
theorem dX4_calls_25 : decode cX4_calls 25 = .ok (.iconst 1, 1) := dk_4 (dk_at dksX4_calls_1 1 rfl rfl)
theorem dX4_calls_26 : decode cX4_calls 26 = .ok (.invokevirtual 71, 3) := dk_182 0 71 (dk_at dksX4_calls_1 2 rfl rfl)
theorem dX4_calls_29 : decode cX4_calls 29 = .ok (.if_icmp .ge 7, 3) := dk_162 0 7 (dk_at dksX4_calls_1 5 rfl rfl)
theorem dX4_calls_32 : decode cX4_calls 32 = .ok (.iconst 1, 1) := dk_4 (dk_at dksX4_calls_1 8 rfl rfl)
theorem dX4_calls_33 : decode cX4_calls 33 = .ok (.goto 4, 3) := dk_167 0 4 (dk_at dksX4_calls_1 9 rfl rfl)
theorem dX4_calls_36 : decode cX4_calls 36 = .ok (.iconst 0, 1) := dk_3 (dk_at dksX4_calls_1 12 rfl rfl)
theorem dX4_calls_37 : decode cX4_calls 37 = .ok (.istore_n 3, 1) := dk_62 (dk_at dksX4_calls_1 13 rfl rfl)
theorem dX4_calls_38 : decode cX4_calls 38 = .ok (.iload_n 3, 1) := dk_29 (dk_at dksX4_calls_1 14 rfl rfl)
theorem dX4_calls_39 : decode cX4_calls 39 = .ok (.ifCond .ne 33, 3) := dk_154 0 33 (dk_at dksX4_calls_1 15 rfl rfl)
theorem dX4_calls_42 : decode cX4_calls 42 = .ok (.aload_n 0, 1) := dk_42 (dk_at dksX4_calls_1 18 rfl rfl)
theorem dX4_calls_43 : decode cX4_calls 43 = .ok (.getfield 9, 3) := dk_180 0 9 (dk_at dksX4_calls_1 19 rfl rfl)
theorem dX4_calls_46 : decode cX4_calls 46 = .ok (.iconst 2, 1) := dk_5 (dk_at dksX4_calls_1 22 rfl rfl)
theorem dX4_calls_47 : decode cX4_calls 47 = .ok (.iaload, 1) := dk_46 (dk_at dksX4_calls_1 23 rfl rfl)
theorem dX4_calls_48 : decode cX4_calls 48 = .ok (.bipush 12, 2) := dk_16 12 (dk_at dksX4_calls_2 0 rfl rfl)
theorem dX4_calls_50 : decode cX4_calls 50 = .ok (.if_icmp .ge 22, 3) := dk_162 0 22 (dk_at dksX4_calls_2 2 rfl rfl)
theorem dX4_calls_53 : decode cX4_calls 53 = .ok (.aload_n 0, 1) := dk_42 (dk_at dksX4_calls_2 5 rfl rfl)
theorem dX4_calls_54 : decode cX4_calls 54 = .ok (.iload_n 2, 1) := dk_28 (dk_at dksX4_calls_2 6 rfl rfl)
theorem dX4_calls_55 : decode cX4_calls 55 = .ok (.iload_n 1, 1) := dk_27 (dk_at dksX4_calls_2 7 rfl rfl)
theorem dX4_calls_56 : decode cX4_calls 56 = .ok (.aload_n 0, 1) := dk_42 (dk_at dksX4_calls_2 8 rfl rfl)
theorem dX4_calls_57 : decode cX4_calls 57 = .ok (.getfield 9, 3) := dk_180 0 9 (dk_at dksX4_calls_2 9 rfl rfl)
theorem dX4_calls_60 : decode cX4_calls 60 = .ok (.iconst 3, 1) := dk_6 (dk_at dksX4_calls_2 12 rfl rfl)
theorem dX4_calls_61 : decode cX4_calls 61 = .ok (.iaload, 1) := dk_46 (dk_at dksX4_calls_2 13 rfl rfl)
theorem dX4_calls_62 : decode cX4_calls 62 = .ok (.invokevirtual 110, 3) := dk_182 0 110 (dk_at dksX4_calls_2 14 rfl rfl)
theorem dX4_calls_65 : decode cX4_calls 65 = .ok (.ifCond .ne 7, 3) := dk_154 0 7 (dk_at dksX4_calls_2 17 rfl rfl)
theorem dX4_calls_68 : decode cX4_calls 68 = .ok (.iconst 1, 1) := dk_4 (dk_at dksX4_calls_2 20 rfl rfl)
theorem dX4_calls_69 : decode cX4_calls 69 = .ok (.goto 4, 3) := dk_167 0 4 (dk_at dksX4_calls_2 21 rfl rfl)
theorem dX4_calls_72 : decode cX4_calls 72 = .ok (.iconst 0, 1) := dk_3 (dk_at dksX4_calls_3 0 rfl rfl)
theorem dX4_calls_73 : decode cX4_calls 73 = .ok (.istore 4, 2) := dk_54 4 (dk_at dksX4_calls_3 1 rfl rfl)
theorem dX4_calls_75 : decode cX4_calls 75 = .ok (.iload_n 3, 1) := dk_29 (dk_at dksX4_calls_3 3 rfl rfl)
theorem dX4_calls_76 : decode cX4_calls 76 = .ok (.ifCond .ne 8, 3) := dk_154 0 8 (dk_at dksX4_calls_3 4 rfl rfl)
theorem dX4_calls_79 : decode cX4_calls 79 = .ok (.iload 4, 2) := dk_21 4 (dk_at dksX4_calls_3 7 rfl rfl)
theorem dX4_calls_81 : decode cX4_calls 81 = .ok (.ifCond .eq 10, 3) := dk_153 0 10 (dk_at dksX4_calls_3 9 rfl rfl)
theorem dX4_calls_84 : decode cX4_calls 84 = .ok (.aload_n 0, 1) := dk_42 (dk_at dksX4_calls_3 12 rfl rfl)
theorem dX4_calls_85 : decode cX4_calls 85 = .ok (.iload_n 2, 1) := dk_28 (dk_at dksX4_calls_3 13 rfl rfl)
theorem dX4_calls_86 : decode cX4_calls 86 = .ok (.invokevirtual 133, 3) := dk_182 0 133 (dk_at dksX4_calls_3 14 rfl rfl)
theorem dX4_calls_89 : decode cX4_calls 89 = .ok (.istore 5, 2) := dk_54 5 (dk_at dksX4_calls_3 17 rfl rfl)
theorem dX4_calls_91 : decode cX4_calls 91 = .ok (.iload 4, 2) := dk_21 4 (dk_at dksX4_calls_3 19 rfl rfl)
theorem dX4_calls_93 : decode cX4_calls 93 = .ok (.ifCond .eq 17, 3) := dk_153 0 17 (dk_at dksX4_calls_3 21 rfl rfl)
theorem dX4_calls_96 : decode cX4_calls 96 = .ok (.aload_n 0, 1) := dk_42 (dk_at dksX4_calls_4 0 rfl rfl)
theorem dX4_calls_97 : decode cX4_calls 97 = .ok (.iload_n 2, 1) := dk_28 (dk_at dksX4_calls_4 1 rfl rfl)
theorem dX4_calls_98 : decode cX4_calls 98 = .ok (.iload_n 1, 1) := dk_27 (dk_at dksX4_calls_4 2 rfl rfl)
theorem dX4_calls_99 : decode cX4_calls 99 = .ok (.aload_n 0, 1) := dk_42 (dk_at dksX4_calls_4 3 rfl rfl)
theorem dX4_calls_100 : decode cX4_calls 100 = .ok (.getfield 9, 3) := dk_180 0 9 (dk_at dksX4_calls_4 4 rfl rfl)
theorem dX4_calls_103 : decode cX4_calls 103 = .ok (.iconst 3, 1) := dk_6 (dk_at dksX4_calls_4 7 rfl rfl)
theorem dX4_calls_104 : decode cX4_calls 104 = .ok (.iaload, 1) := dk_46 (dk_at dksX4_calls_4 8 rfl rfl)
theorem dX4_calls_105 : decode cX4_calls 105 = .ok (.invokevirtual 113, 3) := dk_182 0 113 (dk_at dksX4_calls_4 9 rfl rfl)
theorem dX4_calls_108 : decode cX4_calls 108 = .ok (.istore 5, 2) := dk_54 5 (dk_at dksX4_calls_4 12 rfl rfl)
theorem dX4_calls_110 : decode cX4_calls 110 = .ok (.return_, 1) := dk_177 (dk_at dksX4_calls_4 14 rfl rfl)
abbrev cX4_queued : ByteArray := prog_14_method_30_code
def yX4_queued : MethodName := ⟨RX4, "queued", "(II)I"⟩
def dkwX4_queued_0 : List UInt8 := [42, 27, 7, 28, 96, 182, 0, 71, 172]
abbrev dktX4_queued_0 : List UInt8 := dkwX4_queued_0 ++ []
theorem dksX4_queued_0 : cX4_queued.data.toList.drop 0 = dktX4_queued_0 := by decide +kernel
theorem dX4_queued_0 : decode cX4_queued 0 = .ok (.aload_n 0, 1) := dk_42 (dk_at dksX4_queued_0 0 rfl rfl)
theorem dX4_queued_1 : decode cX4_queued 1 = .ok (.iload_n 1, 1) := dk_27 (dk_at dksX4_queued_0 1 rfl rfl)
theorem dX4_queued_2 : decode cX4_queued 2 = .ok (.iconst 4, 1) := dk_7 (dk_at dksX4_queued_0 2 rfl rfl)
theorem dX4_queued_3 : decode cX4_queued 3 = .ok (.iload_n 2, 1) := dk_28 (dk_at dksX4_queued_0 3 rfl rfl)
theorem dX4_queued_4 : decode cX4_queued 4 = .ok (.iadd, 1) := dk_96 (dk_at dksX4_queued_0 4 rfl rfl)
theorem dX4_queued_5 : decode cX4_queued 5 = .ok (.invokevirtual 71, 3) := dk_182 0 71 (dk_at dksX4_queued_0 5 rfl rfl)
theorem dX4_queued_8 : decode cX4_queued 8 = .ok (.ireturn, 1) := dk_172 (dk_at dksX4_queued_0 8 rfl rfl)
abbrev cX4_during : ByteArray := prog_14_method_36_code
def yX4_during : MethodName := ⟨RX4, "during", "(II)I"⟩
def dkwX4_during_2 : List UInt8 := [21, 4, 167, 0, 4, 29, 62, 132, 4, 1, 167, 255, 203, 29, 172]
abbrev dktX4_during_2 : List UInt8 := dkwX4_during_2 ++ []
def dkwX4_during_1 : List UInt8 := [160, 0, 29, 28, 42, 21, 4, 182, 0, 67, 42, 21, 4, 182, 0, 90, 4, 100, 184, 0, 51, 153, 0, 8]
abbrev dktX4_during_1 : List UInt8 := dkwX4_during_1 ++ dktX4_during_2
def dkwX4_during_0 : List UInt8 := [2, 62, 3, 54, 4, 21, 4, 42, 180, 0, 9, 5, 46, 162, 0, 48, 42, 21, 4, 4, 182, 0, 64, 27]
abbrev dktX4_during_0 : List UInt8 := dkwX4_during_0 ++ dktX4_during_1
theorem dksX4_during_0 : cX4_during.data.toList.drop 0 = dktX4_during_0 := by decide +kernel
theorem dksX4_during_1 : cX4_during.data.toList.drop 24 = dktX4_during_1 := dk_seg dksX4_during_0 24 rfl rfl
theorem dksX4_during_2 : cX4_during.data.toList.drop 48 = dktX4_during_2 := dk_seg dksX4_during_1 24 rfl rfl
theorem dX4_during_0 : decode cX4_during 0 = .ok (.iconst (-1), 1) := dk_2 (dk_at dksX4_during_0 0 rfl rfl)
theorem dX4_during_1 : decode cX4_during 1 = .ok (.istore_n 3, 1) := dk_62 (dk_at dksX4_during_0 1 rfl rfl)
theorem dX4_during_2 : decode cX4_during 2 = .ok (.iconst 0, 1) := dk_3 (dk_at dksX4_during_0 2 rfl rfl)
theorem dX4_during_3 : decode cX4_during 3 = .ok (.istore 4, 2) := dk_54 4 (dk_at dksX4_during_0 3 rfl rfl)
theorem dX4_during_5 : decode cX4_during 5 = .ok (.iload 4, 2) := dk_21 4 (dk_at dksX4_during_0 5 rfl rfl)
theorem dX4_during_7 : decode cX4_during 7 = .ok (.aload_n 0, 1) := dk_42 (dk_at dksX4_during_0 7 rfl rfl)
theorem dX4_during_8 : decode cX4_during 8 = .ok (.getfield 9, 3) := dk_180 0 9 (dk_at dksX4_during_0 8 rfl rfl)
theorem dX4_during_11 : decode cX4_during 11 = .ok (.iconst 2, 1) := dk_5 (dk_at dksX4_during_0 11 rfl rfl)
theorem dX4_during_12 : decode cX4_during 12 = .ok (.iaload, 1) := dk_46 (dk_at dksX4_during_0 12 rfl rfl)
theorem dX4_during_13 : decode cX4_during 13 = .ok (.if_icmp .ge 48, 3) := dk_162 0 48 (dk_at dksX4_during_0 13 rfl rfl)
theorem dX4_during_16 : decode cX4_during 16 = .ok (.aload_n 0, 1) := dk_42 (dk_at dksX4_during_0 16 rfl rfl)
theorem dX4_during_17 : decode cX4_during 17 = .ok (.iload 4, 2) := dk_21 4 (dk_at dksX4_during_0 17 rfl rfl)
theorem dX4_during_19 : decode cX4_during 19 = .ok (.iconst 1, 1) := dk_4 (dk_at dksX4_during_0 19 rfl rfl)
theorem dX4_during_20 : decode cX4_during 20 = .ok (.invokevirtual 64, 3) := dk_182 0 64 (dk_at dksX4_during_0 20 rfl rfl)
theorem dX4_during_23 : decode cX4_during 23 = .ok (.iload_n 1, 1) := dk_27 (dk_at dksX4_during_0 23 rfl rfl)
theorem dX4_during_24 : decode cX4_during 24 = .ok (.if_icmp .ne 29, 3) := dk_160 0 29 (dk_at dksX4_during_1 0 rfl rfl)
theorem dX4_during_27 : decode cX4_during 27 = .ok (.iload_n 2, 1) := dk_28 (dk_at dksX4_during_1 3 rfl rfl)
theorem dX4_during_28 : decode cX4_during 28 = .ok (.aload_n 0, 1) := dk_42 (dk_at dksX4_during_1 4 rfl rfl)
theorem dX4_during_29 : decode cX4_during 29 = .ok (.iload 4, 2) := dk_21 4 (dk_at dksX4_during_1 5 rfl rfl)
theorem dX4_during_31 : decode cX4_during 31 = .ok (.invokevirtual 67, 3) := dk_182 0 67 (dk_at dksX4_during_1 7 rfl rfl)
theorem dX4_during_34 : decode cX4_during 34 = .ok (.aload_n 0, 1) := dk_42 (dk_at dksX4_during_1 10 rfl rfl)
theorem dX4_during_35 : decode cX4_during 35 = .ok (.iload 4, 2) := dk_21 4 (dk_at dksX4_during_1 11 rfl rfl)
theorem dX4_during_37 : decode cX4_during 37 = .ok (.invokevirtual 90, 3) := dk_182 0 90 (dk_at dksX4_during_1 13 rfl rfl)
theorem dX4_during_40 : decode cX4_during 40 = .ok (.iconst 1, 1) := dk_4 (dk_at dksX4_during_1 16 rfl rfl)
theorem dX4_during_41 : decode cX4_during 41 = .ok (.isub, 1) := dk_100 (dk_at dksX4_during_1 17 rfl rfl)
theorem dX4_during_42 : decode cX4_during 42 = .ok (.invokestatic 51, 3) := dk_184 0 51 (dk_at dksX4_during_1 18 rfl rfl)
theorem dX4_during_45 : decode cX4_during 45 = .ok (.ifCond .eq 8, 3) := dk_153 0 8 (dk_at dksX4_during_1 21 rfl rfl)
theorem dX4_during_48 : decode cX4_during 48 = .ok (.iload 4, 2) := dk_21 4 (dk_at dksX4_during_2 0 rfl rfl)
theorem dX4_during_50 : decode cX4_during 50 = .ok (.goto 4, 3) := dk_167 0 4 (dk_at dksX4_during_2 2 rfl rfl)
theorem dX4_during_53 : decode cX4_during 53 = .ok (.iload_n 3, 1) := dk_29 (dk_at dksX4_during_2 5 rfl rfl)
theorem dX4_during_54 : decode cX4_during 54 = .ok (.istore_n 3, 1) := dk_62 (dk_at dksX4_during_2 6 rfl rfl)
theorem dX4_during_55 : decode cX4_during 55 = .ok (.iinc 4 1, 3) := dk_132 4 1 (dk_at dksX4_during_2 7 rfl rfl)
theorem dX4_during_58 : decode cX4_during 58 = .ok (.goto (-53), 3) := dk_167 255 203 (dk_at dksX4_during_2 10 rfl rfl)
theorem dX4_during_61 : decode cX4_during 61 = .ok (.iload_n 3, 1) := dk_29 (dk_at dksX4_during_2 13 rfl rfl)
theorem dX4_during_62 : decode cX4_during 62 = .ok (.ireturn, 1) := dk_172 (dk_at dksX4_during_2 14 rfl rfl)
abbrev cX4_wets : ByteArray := prog_14_method_12_code
def yX4_wets : MethodName := ⟨RX4, "wets", "(II)V"⟩
def dkwX4_wets_1 : List UInt8 := [177]
abbrev dktX4_wets_1 : List UInt8 := dkwX4_wets_1 ++ []
def dkwX4_wets_0 : List UInt8 := [42, 180, 0, 9, 16, 8, 16, 9, 27, 104, 96, 5, 96, 3, 16, 9, 28, 184, 0, 55, 184, 0, 61, 79]
abbrev dktX4_wets_0 : List UInt8 := dkwX4_wets_0 ++ dktX4_wets_1
theorem dksX4_wets_0 : cX4_wets.data.toList.drop 0 = dktX4_wets_0 := by decide +kernel
theorem dksX4_wets_1 : cX4_wets.data.toList.drop 24 = dktX4_wets_1 := dk_seg dksX4_wets_0 24 rfl rfl
theorem dX4_wets_0 : decode cX4_wets 0 = .ok (.aload_n 0, 1) := dk_42 (dk_at dksX4_wets_0 0 rfl rfl)
theorem dX4_wets_1 : decode cX4_wets 1 = .ok (.getfield 9, 3) := dk_180 0 9 (dk_at dksX4_wets_0 1 rfl rfl)
theorem dX4_wets_4 : decode cX4_wets 4 = .ok (.bipush 8, 2) := dk_16 8 (dk_at dksX4_wets_0 4 rfl rfl)
theorem dX4_wets_6 : decode cX4_wets 6 = .ok (.bipush 9, 2) := dk_16 9 (dk_at dksX4_wets_0 6 rfl rfl)
theorem dX4_wets_8 : decode cX4_wets 8 = .ok (.iload_n 1, 1) := dk_27 (dk_at dksX4_wets_0 8 rfl rfl)
theorem dX4_wets_9 : decode cX4_wets 9 = .ok (.imul, 1) := dk_104 (dk_at dksX4_wets_0 9 rfl rfl)
theorem dX4_wets_10 : decode cX4_wets 10 = .ok (.iadd, 1) := dk_96 (dk_at dksX4_wets_0 10 rfl rfl)
theorem dX4_wets_11 : decode cX4_wets 11 = .ok (.iconst 2, 1) := dk_5 (dk_at dksX4_wets_0 11 rfl rfl)
theorem dX4_wets_12 : decode cX4_wets 12 = .ok (.iadd, 1) := dk_96 (dk_at dksX4_wets_0 12 rfl rfl)
theorem dX4_wets_13 : decode cX4_wets 13 = .ok (.iconst 0, 1) := dk_3 (dk_at dksX4_wets_0 13 rfl rfl)
theorem dX4_wets_14 : decode cX4_wets 14 = .ok (.bipush 9, 2) := dk_16 9 (dk_at dksX4_wets_0 14 rfl rfl)
theorem dX4_wets_16 : decode cX4_wets 16 = .ok (.iload_n 2, 1) := dk_28 (dk_at dksX4_wets_0 16 rfl rfl)
theorem dX4_wets_17 : decode cX4_wets 17 = .ok (.invokestatic 55, 3) := dk_184 0 55 (dk_at dksX4_wets_0 17 rfl rfl)
theorem dX4_wets_20 : decode cX4_wets 20 = .ok (.invokestatic 61, 3) := dk_184 0 61 (dk_at dksX4_wets_0 20 rfl rfl)
theorem dX4_wets_23 : decode cX4_wets 23 = .ok (.iastore, 1) := dk_79 (dk_at dksX4_wets_0 23 rfl rfl)
theorem dX4_wets_24 : decode cX4_wets 24 = .ok (.return_, 1) := dk_177 (dk_at dksX4_wets_1 0 rfl rfl)
abbrev cX4_finishes : ByteArray := prog_14_method_37_code
def yX4_finishes : MethodName := ⟨RX4, "finishes", "(I)V"⟩
def dkwX4_finishes_6 : List UInt8 := [79, 42, 180, 0, 9, 16, 44, 6, 28, 104, 96, 4, 96, 92, 46, 4, 96, 79, 42, 27, 182, 0, 123, 177]
abbrev dktX4_finishes_6 : List UInt8 := dkwX4_finishes_6 ++ []
def dkwX4_finishes_5 : List UInt8 := [180, 0, 9, 6, 46, 79, 42, 180, 0, 9, 7, 16, 16, 42, 180, 0, 9, 7, 46, 4, 96, 184, 0, 55]
abbrev dktX4_finishes_5 : List UInt8 := dkwX4_finishes_5 ++ dktX4_finishes_6
def dkwX4_finishes_4 : List UInt8 := [42, 180, 0, 9, 16, 110, 28, 79, 42, 180, 0, 9, 16, 111, 29, 79, 42, 180, 0, 9, 16, 112, 42]
abbrev dktX4_finishes_4 : List UInt8 := dkwX4_finishes_4 ++ dktX4_finishes_5
def dkwX4_finishes_3 : List UInt8 := [21, 4, 5, 96, 182, 0, 139, 42, 180, 0, 9, 16, 110, 42, 180, 0, 9, 16, 113, 16, 45, 184, 0, 42]
abbrev dktX4_finishes_3 : List UInt8 := dkwX4_finishes_3 ++ dktX4_finishes_4
def dkwX4_finishes_2 : List UInt8 := [180, 0, 9, 16, 6, 92, 46, 21, 5, 96, 79, 42, 180, 0, 9, 8, 92, 46, 4, 96, 79, 42, 29]
abbrev dktX4_finishes_2 : List UInt8 := dkwX4_finishes_2 ++ dktX4_finishes_3
def dkwX4_finishes_1 : List UInt8 := [8, 161, 0, 43, 42, 29, 4, 182, 0, 71, 5, 108, 54, 5, 42, 28, 21, 5, 116, 182, 0, 93, 42]
abbrev dktX4_finishes_1 : List UInt8 := dkwX4_finishes_1 ++ dktX4_finishes_2
def dkwX4_finishes_0 : List UInt8 := [42, 27, 3, 182, 0, 64, 61, 42, 27, 4, 182, 0, 64, 62, 42, 29, 5, 182, 0, 71, 54, 4, 21, 4]
abbrev dktX4_finishes_0 : List UInt8 := dkwX4_finishes_0 ++ dktX4_finishes_1
theorem dksX4_finishes_0 : cX4_finishes.data.toList.drop 0 = dktX4_finishes_0 := by decide +kernel
theorem dksX4_finishes_1 : cX4_finishes.data.toList.drop 24 = dktX4_finishes_1 := dk_seg dksX4_finishes_0 24 rfl rfl
theorem dksX4_finishes_2 : cX4_finishes.data.toList.drop 47 = dktX4_finishes_2 := dk_seg dksX4_finishes_1 23 rfl rfl
theorem dksX4_finishes_3 : cX4_finishes.data.toList.drop 70 = dktX4_finishes_3 := dk_seg dksX4_finishes_2 23 rfl rfl
theorem dksX4_finishes_4 : cX4_finishes.data.toList.drop 94 = dktX4_finishes_4 := dk_seg dksX4_finishes_3 24 rfl rfl
theorem dksX4_finishes_5 : cX4_finishes.data.toList.drop 117 = dktX4_finishes_5 := dk_seg dksX4_finishes_4 23 rfl rfl
theorem dksX4_finishes_6 : cX4_finishes.data.toList.drop 141 = dktX4_finishes_6 := dk_seg dksX4_finishes_5 24 rfl rfl
theorem dX4_finishes_0 : decode cX4_finishes 0 = .ok (.aload_n 0, 1) := dk_42 (dk_at dksX4_finishes_0 0 rfl rfl)
theorem dX4_finishes_1 : decode cX4_finishes 1 = .ok (.iload_n 1, 1) := dk_27 (dk_at dksX4_finishes_0 1 rfl rfl)
theorem dX4_finishes_2 : decode cX4_finishes 2 = .ok (.iconst 0, 1) := dk_3 (dk_at dksX4_finishes_0 2 rfl rfl)
theorem dX4_finishes_3 : decode cX4_finishes 3 = .ok (.invokevirtual 64, 3) := dk_182 0 64 (dk_at dksX4_finishes_0 3 rfl rfl)
theorem dX4_finishes_6 : decode cX4_finishes 6 = .ok (.istore_n 2, 1) := dk_61 (dk_at dksX4_finishes_0 6 rfl rfl)
theorem dX4_finishes_7 : decode cX4_finishes 7 = .ok (.aload_n 0, 1) := dk_42 (dk_at dksX4_finishes_0 7 rfl rfl)
theorem dX4_finishes_8 : decode cX4_finishes 8 = .ok (.iload_n 1, 1) := dk_27 (dk_at dksX4_finishes_0 8 rfl rfl)
theorem dX4_finishes_9 : decode cX4_finishes 9 = .ok (.iconst 1, 1) := dk_4 (dk_at dksX4_finishes_0 9 rfl rfl)
theorem dX4_finishes_10 : decode cX4_finishes 10 = .ok (.invokevirtual 64, 3) := dk_182 0 64 (dk_at dksX4_finishes_0 10 rfl rfl)
theorem dX4_finishes_13 : decode cX4_finishes 13 = .ok (.istore_n 3, 1) := dk_62 (dk_at dksX4_finishes_0 13 rfl rfl)
theorem dX4_finishes_14 : decode cX4_finishes 14 = .ok (.aload_n 0, 1) := dk_42 (dk_at dksX4_finishes_0 14 rfl rfl)
theorem dX4_finishes_15 : decode cX4_finishes 15 = .ok (.iload_n 3, 1) := dk_29 (dk_at dksX4_finishes_0 15 rfl rfl)
theorem dX4_finishes_16 : decode cX4_finishes 16 = .ok (.iconst 2, 1) := dk_5 (dk_at dksX4_finishes_0 16 rfl rfl)
theorem dX4_finishes_17 : decode cX4_finishes 17 = .ok (.invokevirtual 71, 3) := dk_182 0 71 (dk_at dksX4_finishes_0 17 rfl rfl)
theorem dX4_finishes_20 : decode cX4_finishes 20 = .ok (.istore 4, 2) := dk_54 4 (dk_at dksX4_finishes_0 20 rfl rfl)
theorem dX4_finishes_22 : decode cX4_finishes 22 = .ok (.iload 4, 2) := dk_21 4 (dk_at dksX4_finishes_0 22 rfl rfl)
theorem dX4_finishes_24 : decode cX4_finishes 24 = .ok (.iconst 5, 1) := dk_8 (dk_at dksX4_finishes_1 0 rfl rfl)
theorem dX4_finishes_25 : decode cX4_finishes 25 = .ok (.if_icmp .lt 43, 3) := dk_161 0 43 (dk_at dksX4_finishes_1 1 rfl rfl)
theorem dX4_finishes_28 : decode cX4_finishes 28 = .ok (.aload_n 0, 1) := dk_42 (dk_at dksX4_finishes_1 4 rfl rfl)
theorem dX4_finishes_29 : decode cX4_finishes 29 = .ok (.iload_n 3, 1) := dk_29 (dk_at dksX4_finishes_1 5 rfl rfl)
theorem dX4_finishes_30 : decode cX4_finishes 30 = .ok (.iconst 1, 1) := dk_4 (dk_at dksX4_finishes_1 6 rfl rfl)
theorem dX4_finishes_31 : decode cX4_finishes 31 = .ok (.invokevirtual 71, 3) := dk_182 0 71 (dk_at dksX4_finishes_1 7 rfl rfl)
theorem dX4_finishes_34 : decode cX4_finishes 34 = .ok (.iconst 2, 1) := dk_5 (dk_at dksX4_finishes_1 10 rfl rfl)
theorem dX4_finishes_35 : decode cX4_finishes 35 = .ok (.idiv, 1) := dk_108 (dk_at dksX4_finishes_1 11 rfl rfl)
theorem dX4_finishes_36 : decode cX4_finishes 36 = .ok (.istore 5, 2) := dk_54 5 (dk_at dksX4_finishes_1 12 rfl rfl)
theorem dX4_finishes_38 : decode cX4_finishes 38 = .ok (.aload_n 0, 1) := dk_42 (dk_at dksX4_finishes_1 14 rfl rfl)
theorem dX4_finishes_39 : decode cX4_finishes 39 = .ok (.iload_n 2, 1) := dk_28 (dk_at dksX4_finishes_1 15 rfl rfl)
theorem dX4_finishes_40 : decode cX4_finishes 40 = .ok (.iload 5, 2) := dk_21 5 (dk_at dksX4_finishes_1 16 rfl rfl)
theorem dX4_finishes_42 : decode cX4_finishes 42 = .ok (.ineg, 1) := dk_116 (dk_at dksX4_finishes_1 18 rfl rfl)
theorem dX4_finishes_43 : decode cX4_finishes 43 = .ok (.invokevirtual 93, 3) := dk_182 0 93 (dk_at dksX4_finishes_1 19 rfl rfl)
theorem dX4_finishes_46 : decode cX4_finishes 46 = .ok (.aload_n 0, 1) := dk_42 (dk_at dksX4_finishes_1 22 rfl rfl)
theorem dX4_finishes_47 : decode cX4_finishes 47 = .ok (.getfield 9, 3) := dk_180 0 9 (dk_at dksX4_finishes_2 0 rfl rfl)
theorem dX4_finishes_50 : decode cX4_finishes 50 = .ok (.bipush 6, 2) := dk_16 6 (dk_at dksX4_finishes_2 3 rfl rfl)
theorem dX4_finishes_52 : decode cX4_finishes 52 = .ok (.dup2, 1) := dk_92 (dk_at dksX4_finishes_2 5 rfl rfl)
theorem dX4_finishes_53 : decode cX4_finishes 53 = .ok (.iaload, 1) := dk_46 (dk_at dksX4_finishes_2 6 rfl rfl)
theorem dX4_finishes_54 : decode cX4_finishes 54 = .ok (.iload 5, 2) := dk_21 5 (dk_at dksX4_finishes_2 7 rfl rfl)
theorem dX4_finishes_56 : decode cX4_finishes 56 = .ok (.iadd, 1) := dk_96 (dk_at dksX4_finishes_2 9 rfl rfl)
theorem dX4_finishes_57 : decode cX4_finishes 57 = .ok (.iastore, 1) := dk_79 (dk_at dksX4_finishes_2 10 rfl rfl)
theorem dX4_finishes_58 : decode cX4_finishes 58 = .ok (.aload_n 0, 1) := dk_42 (dk_at dksX4_finishes_2 11 rfl rfl)
theorem dX4_finishes_59 : decode cX4_finishes 59 = .ok (.getfield 9, 3) := dk_180 0 9 (dk_at dksX4_finishes_2 12 rfl rfl)
theorem dX4_finishes_62 : decode cX4_finishes 62 = .ok (.iconst 5, 1) := dk_8 (dk_at dksX4_finishes_2 15 rfl rfl)
theorem dX4_finishes_63 : decode cX4_finishes 63 = .ok (.dup2, 1) := dk_92 (dk_at dksX4_finishes_2 16 rfl rfl)
theorem dX4_finishes_64 : decode cX4_finishes 64 = .ok (.iaload, 1) := dk_46 (dk_at dksX4_finishes_2 17 rfl rfl)
theorem dX4_finishes_65 : decode cX4_finishes 65 = .ok (.iconst 1, 1) := dk_4 (dk_at dksX4_finishes_2 18 rfl rfl)
theorem dX4_finishes_66 : decode cX4_finishes 66 = .ok (.iadd, 1) := dk_96 (dk_at dksX4_finishes_2 19 rfl rfl)
theorem dX4_finishes_67 : decode cX4_finishes 67 = .ok (.iastore, 1) := dk_79 (dk_at dksX4_finishes_2 20 rfl rfl)
theorem dX4_finishes_68 : decode cX4_finishes 68 = .ok (.aload_n 0, 1) := dk_42 (dk_at dksX4_finishes_2 21 rfl rfl)
theorem dX4_finishes_69 : decode cX4_finishes 69 = .ok (.iload_n 3, 1) := dk_29 (dk_at dksX4_finishes_2 22 rfl rfl)
theorem dX4_finishes_70 : decode cX4_finishes 70 = .ok (.iload 4, 2) := dk_21 4 (dk_at dksX4_finishes_3 0 rfl rfl)
theorem dX4_finishes_72 : decode cX4_finishes 72 = .ok (.iconst 2, 1) := dk_5 (dk_at dksX4_finishes_3 2 rfl rfl)
theorem dX4_finishes_73 : decode cX4_finishes 73 = .ok (.iadd, 1) := dk_96 (dk_at dksX4_finishes_3 3 rfl rfl)
theorem dX4_finishes_74 : decode cX4_finishes 74 = .ok (.invokevirtual 139, 3) := dk_182 0 139 (dk_at dksX4_finishes_3 4 rfl rfl)
theorem dX4_finishes_77 : decode cX4_finishes 77 = .ok (.aload_n 0, 1) := dk_42 (dk_at dksX4_finishes_3 7 rfl rfl)
theorem dX4_finishes_78 : decode cX4_finishes 78 = .ok (.getfield 9, 3) := dk_180 0 9 (dk_at dksX4_finishes_3 8 rfl rfl)
theorem dX4_finishes_81 : decode cX4_finishes 81 = .ok (.bipush 110, 2) := dk_16 110 (dk_at dksX4_finishes_3 11 rfl rfl)
theorem dX4_finishes_83 : decode cX4_finishes 83 = .ok (.aload_n 0, 1) := dk_42 (dk_at dksX4_finishes_3 13 rfl rfl)
theorem dX4_finishes_84 : decode cX4_finishes 84 = .ok (.getfield 9, 3) := dk_180 0 9 (dk_at dksX4_finishes_3 14 rfl rfl)
theorem dX4_finishes_87 : decode cX4_finishes 87 = .ok (.bipush 113, 2) := dk_16 113 (dk_at dksX4_finishes_3 17 rfl rfl)
theorem dX4_finishes_89 : decode cX4_finishes 89 = .ok (.bipush 45, 2) := dk_16 45 (dk_at dksX4_finishes_3 19 rfl rfl)
theorem dX4_finishes_91 : decode cX4_finishes 91 = .ok (.invokestatic 42, 3) := dk_184 0 42 (dk_at dksX4_finishes_3 21 rfl rfl)
theorem dX4_finishes_94 : decode cX4_finishes 94 = .ok (.aload_n 0, 1) := dk_42 (dk_at dksX4_finishes_4 0 rfl rfl)
theorem dX4_finishes_95 : decode cX4_finishes 95 = .ok (.getfield 9, 3) := dk_180 0 9 (dk_at dksX4_finishes_4 1 rfl rfl)
theorem dX4_finishes_98 : decode cX4_finishes 98 = .ok (.bipush 110, 2) := dk_16 110 (dk_at dksX4_finishes_4 4 rfl rfl)
theorem dX4_finishes_100 : decode cX4_finishes 100 = .ok (.iload_n 2, 1) := dk_28 (dk_at dksX4_finishes_4 6 rfl rfl)
theorem dX4_finishes_101 : decode cX4_finishes 101 = .ok (.iastore, 1) := dk_79 (dk_at dksX4_finishes_4 7 rfl rfl)
theorem dX4_finishes_102 : decode cX4_finishes 102 = .ok (.aload_n 0, 1) := dk_42 (dk_at dksX4_finishes_4 8 rfl rfl)
theorem dX4_finishes_103 : decode cX4_finishes 103 = .ok (.getfield 9, 3) := dk_180 0 9 (dk_at dksX4_finishes_4 9 rfl rfl)
theorem dX4_finishes_106 : decode cX4_finishes 106 = .ok (.bipush 111, 2) := dk_16 111 (dk_at dksX4_finishes_4 12 rfl rfl)
theorem dX4_finishes_108 : decode cX4_finishes 108 = .ok (.iload_n 3, 1) := dk_29 (dk_at dksX4_finishes_4 14 rfl rfl)
theorem dX4_finishes_109 : decode cX4_finishes 109 = .ok (.iastore, 1) := dk_79 (dk_at dksX4_finishes_4 15 rfl rfl)
theorem dX4_finishes_110 : decode cX4_finishes 110 = .ok (.aload_n 0, 1) := dk_42 (dk_at dksX4_finishes_4 16 rfl rfl)
theorem dX4_finishes_111 : decode cX4_finishes 111 = .ok (.getfield 9, 3) := dk_180 0 9 (dk_at dksX4_finishes_4 17 rfl rfl)
theorem dX4_finishes_114 : decode cX4_finishes 114 = .ok (.bipush 112, 2) := dk_16 112 (dk_at dksX4_finishes_4 20 rfl rfl)
theorem dX4_finishes_116 : decode cX4_finishes 116 = .ok (.aload_n 0, 1) := dk_42 (dk_at dksX4_finishes_4 22 rfl rfl)
theorem dX4_finishes_117 : decode cX4_finishes 117 = .ok (.getfield 9, 3) := dk_180 0 9 (dk_at dksX4_finishes_5 0 rfl rfl)
theorem dX4_finishes_120 : decode cX4_finishes 120 = .ok (.iconst 3, 1) := dk_6 (dk_at dksX4_finishes_5 3 rfl rfl)
theorem dX4_finishes_121 : decode cX4_finishes 121 = .ok (.iaload, 1) := dk_46 (dk_at dksX4_finishes_5 4 rfl rfl)
theorem dX4_finishes_122 : decode cX4_finishes 122 = .ok (.iastore, 1) := dk_79 (dk_at dksX4_finishes_5 5 rfl rfl)
theorem dX4_finishes_123 : decode cX4_finishes 123 = .ok (.aload_n 0, 1) := dk_42 (dk_at dksX4_finishes_5 6 rfl rfl)
theorem dX4_finishes_124 : decode cX4_finishes 124 = .ok (.getfield 9, 3) := dk_180 0 9 (dk_at dksX4_finishes_5 7 rfl rfl)
theorem dX4_finishes_127 : decode cX4_finishes 127 = .ok (.iconst 4, 1) := dk_7 (dk_at dksX4_finishes_5 10 rfl rfl)
theorem dX4_finishes_128 : decode cX4_finishes 128 = .ok (.bipush 16, 2) := dk_16 16 (dk_at dksX4_finishes_5 11 rfl rfl)
theorem dX4_finishes_130 : decode cX4_finishes 130 = .ok (.aload_n 0, 1) := dk_42 (dk_at dksX4_finishes_5 13 rfl rfl)
theorem dX4_finishes_131 : decode cX4_finishes 131 = .ok (.getfield 9, 3) := dk_180 0 9 (dk_at dksX4_finishes_5 14 rfl rfl)
theorem dX4_finishes_134 : decode cX4_finishes 134 = .ok (.iconst 4, 1) := dk_7 (dk_at dksX4_finishes_5 17 rfl rfl)
theorem dX4_finishes_135 : decode cX4_finishes 135 = .ok (.iaload, 1) := dk_46 (dk_at dksX4_finishes_5 18 rfl rfl)
theorem dX4_finishes_136 : decode cX4_finishes 136 = .ok (.iconst 1, 1) := dk_4 (dk_at dksX4_finishes_5 19 rfl rfl)
theorem dX4_finishes_137 : decode cX4_finishes 137 = .ok (.iadd, 1) := dk_96 (dk_at dksX4_finishes_5 20 rfl rfl)
theorem dX4_finishes_138 : decode cX4_finishes 138 = .ok (.invokestatic 55, 3) := dk_184 0 55 (dk_at dksX4_finishes_5 21 rfl rfl)
theorem dX4_finishes_141 : decode cX4_finishes 141 = .ok (.iastore, 1) := dk_79 (dk_at dksX4_finishes_6 0 rfl rfl)
theorem dX4_finishes_142 : decode cX4_finishes 142 = .ok (.aload_n 0, 1) := dk_42 (dk_at dksX4_finishes_6 1 rfl rfl)
theorem dX4_finishes_143 : decode cX4_finishes 143 = .ok (.getfield 9, 3) := dk_180 0 9 (dk_at dksX4_finishes_6 2 rfl rfl)
theorem dX4_finishes_146 : decode cX4_finishes 146 = .ok (.bipush 44, 2) := dk_16 44 (dk_at dksX4_finishes_6 5 rfl rfl)
theorem dX4_finishes_148 : decode cX4_finishes 148 = .ok (.iconst 3, 1) := dk_6 (dk_at dksX4_finishes_6 7 rfl rfl)
theorem dX4_finishes_149 : decode cX4_finishes 149 = .ok (.iload_n 2, 1) := dk_28 (dk_at dksX4_finishes_6 8 rfl rfl)
theorem dX4_finishes_150 : decode cX4_finishes 150 = .ok (.imul, 1) := dk_104 (dk_at dksX4_finishes_6 9 rfl rfl)
theorem dX4_finishes_151 : decode cX4_finishes 151 = .ok (.iadd, 1) := dk_96 (dk_at dksX4_finishes_6 10 rfl rfl)
theorem dX4_finishes_152 : decode cX4_finishes 152 = .ok (.iconst 1, 1) := dk_4 (dk_at dksX4_finishes_6 11 rfl rfl)
theorem dX4_finishes_153 : decode cX4_finishes 153 = .ok (.iadd, 1) := dk_96 (dk_at dksX4_finishes_6 12 rfl rfl)
theorem dX4_finishes_154 : decode cX4_finishes 154 = .ok (.dup2, 1) := dk_92 (dk_at dksX4_finishes_6 13 rfl rfl)
theorem dX4_finishes_155 : decode cX4_finishes 155 = .ok (.iaload, 1) := dk_46 (dk_at dksX4_finishes_6 14 rfl rfl)
theorem dX4_finishes_156 : decode cX4_finishes 156 = .ok (.iconst 1, 1) := dk_4 (dk_at dksX4_finishes_6 15 rfl rfl)
theorem dX4_finishes_157 : decode cX4_finishes 157 = .ok (.iadd, 1) := dk_96 (dk_at dksX4_finishes_6 16 rfl rfl)
theorem dX4_finishes_158 : decode cX4_finishes 158 = .ok (.iastore, 1) := dk_79 (dk_at dksX4_finishes_6 17 rfl rfl)
theorem dX4_finishes_159 : decode cX4_finishes 159 = .ok (.aload_n 0, 1) := dk_42 (dk_at dksX4_finishes_6 18 rfl rfl)
theorem dX4_finishes_160 : decode cX4_finishes 160 = .ok (.iload_n 1, 1) := dk_27 (dk_at dksX4_finishes_6 19 rfl rfl)
theorem dX4_finishes_161 : decode cX4_finishes 161 = .ok (.invokevirtual 123, 3) := dk_182 0 123 (dk_at dksX4_finishes_6 20 rfl rfl)
theorem dX4_finishes_164 : decode cX4_finishes 164 = .ok (.return_, 1) := dk_177 (dk_at dksX4_finishes_6 23 rfl rfl)
abbrev cX4_minute : ByteArray := prog_14_method_41_code
def yX4_minute : MethodName := ⟨RX4, "minute", "()I"⟩
def dkwX4_minute_0 : List UInt8 := [42, 3, 181, 0, 39, 42, 180, 0, 9, 6, 46, 172]
abbrev dktX4_minute_0 : List UInt8 := dkwX4_minute_0 ++ []
theorem dksX4_minute_0 : cX4_minute.data.toList.drop 0 = dktX4_minute_0 := by decide +kernel
theorem dX4_minute_0 : decode cX4_minute 0 = .ok (.aload_n 0, 1) := dk_42 (dk_at dksX4_minute_0 0 rfl rfl)
theorem dX4_minute_1 : decode cX4_minute 1 = .ok (.iconst 0, 1) := dk_3 (dk_at dksX4_minute_0 1 rfl rfl)
theorem dX4_minute_2 : decode cX4_minute 2 = .ok (.putfield 39, 3) := dk_181 0 39 (dk_at dksX4_minute_0 2 rfl rfl)
theorem dX4_minute_5 : decode cX4_minute 5 = .ok (.aload_n 0, 1) := dk_42 (dk_at dksX4_minute_0 5 rfl rfl)
theorem dX4_minute_6 : decode cX4_minute 6 = .ok (.getfield 9, 3) := dk_180 0 9 (dk_at dksX4_minute_0 6 rfl rfl)
theorem dX4_minute_9 : decode cX4_minute 9 = .ok (.iconst 3, 1) := dk_6 (dk_at dksX4_minute_0 9 rfl rfl)
theorem dX4_minute_10 : decode cX4_minute 10 = .ok (.iaload, 1) := dk_46 (dk_at dksX4_minute_0 10 rfl rfl)
theorem dX4_minute_11 : decode cX4_minute 11 = .ok (.ireturn, 1) := dk_172 (dk_at dksX4_minute_0 11 rfl rfl)
abbrev cX4_slideCount : ByteArray := prog_14_method_42_code
def yX4_slideCount : MethodName := ⟨RX4, "slideCount", "()I"⟩
def dkwX4_slideCount_0 : List UInt8 := [42, 3, 181, 0, 39, 42, 180, 0, 9, 3, 46, 172]
abbrev dktX4_slideCount_0 : List UInt8 := dkwX4_slideCount_0 ++ []
theorem dksX4_slideCount_0 : cX4_slideCount.data.toList.drop 0 = dktX4_slideCount_0 := by decide +kernel
theorem dX4_slideCount_0 : decode cX4_slideCount 0 = .ok (.aload_n 0, 1) := dk_42 (dk_at dksX4_slideCount_0 0 rfl rfl)
theorem dX4_slideCount_1 : decode cX4_slideCount 1 = .ok (.iconst 0, 1) := dk_3 (dk_at dksX4_slideCount_0 1 rfl rfl)
theorem dX4_slideCount_2 : decode cX4_slideCount 2 = .ok (.putfield 39, 3) := dk_181 0 39 (dk_at dksX4_slideCount_0 2 rfl rfl)
theorem dX4_slideCount_5 : decode cX4_slideCount 5 = .ok (.aload_n 0, 1) := dk_42 (dk_at dksX4_slideCount_0 5 rfl rfl)
theorem dX4_slideCount_6 : decode cX4_slideCount 6 = .ok (.getfield 9, 3) := dk_180 0 9 (dk_at dksX4_slideCount_0 6 rfl rfl)
theorem dX4_slideCount_9 : decode cX4_slideCount 9 = .ok (.iconst 0, 1) := dk_3 (dk_at dksX4_slideCount_0 9 rfl rfl)
theorem dX4_slideCount_10 : decode cX4_slideCount 10 = .ok (.iaload, 1) := dk_46 (dk_at dksX4_slideCount_0 10 rfl rfl)
theorem dX4_slideCount_11 : decode cX4_slideCount 11 = .ok (.ireturn, 1) := dk_172 (dk_at dksX4_slideCount_0 11 rfl rfl)
abbrev cX4_duration : ByteArray := prog_14_method_43_code
def yX4_duration : MethodName := ⟨RX4, "duration", "(I)I"⟩
def dkwX4_duration_0 : List UInt8 := [42, 42, 27, 182, 0, 101, 182, 0, 157, 153, 0, 12, 42, 27, 3, 182, 0, 71, 167, 0, 4, 3, 172]
abbrev dktX4_duration_0 : List UInt8 := dkwX4_duration_0 ++ []
theorem dksX4_duration_0 : cX4_duration.data.toList.drop 0 = dktX4_duration_0 := by decide +kernel
theorem dX4_duration_0 : decode cX4_duration 0 = .ok (.aload_n 0, 1) := dk_42 (dk_at dksX4_duration_0 0 rfl rfl)
theorem dX4_duration_1 : decode cX4_duration 1 = .ok (.aload_n 0, 1) := dk_42 (dk_at dksX4_duration_0 1 rfl rfl)
theorem dX4_duration_2 : decode cX4_duration 2 = .ok (.iload_n 1, 1) := dk_27 (dk_at dksX4_duration_0 2 rfl rfl)
theorem dX4_duration_3 : decode cX4_duration 3 = .ok (.invokevirtual 101, 3) := dk_182 0 101 (dk_at dksX4_duration_0 3 rfl rfl)
theorem dX4_duration_6 : decode cX4_duration 6 = .ok (.invokevirtual 157, 3) := dk_182 0 157 (dk_at dksX4_duration_0 6 rfl rfl)
theorem dX4_duration_9 : decode cX4_duration 9 = .ok (.ifCond .eq 12, 3) := dk_153 0 12 (dk_at dksX4_duration_0 9 rfl rfl)
theorem dX4_duration_12 : decode cX4_duration 12 = .ok (.aload_n 0, 1) := dk_42 (dk_at dksX4_duration_0 12 rfl rfl)
theorem dX4_duration_13 : decode cX4_duration 13 = .ok (.iload_n 1, 1) := dk_27 (dk_at dksX4_duration_0 13 rfl rfl)
theorem dX4_duration_14 : decode cX4_duration 14 = .ok (.iconst 0, 1) := dk_3 (dk_at dksX4_duration_0 14 rfl rfl)
theorem dX4_duration_15 : decode cX4_duration 15 = .ok (.invokevirtual 71, 3) := dk_182 0 71 (dk_at dksX4_duration_0 15 rfl rfl)
theorem dX4_duration_18 : decode cX4_duration 18 = .ok (.goto 4, 3) := dk_167 0 4 (dk_at dksX4_duration_0 18 rfl rfl)
theorem dX4_duration_21 : decode cX4_duration 21 = .ok (.iconst 0, 1) := dk_3 (dk_at dksX4_duration_0 21 rfl rfl)
theorem dX4_duration_22 : decode cX4_duration 22 = .ok (.ireturn, 1) := dk_172 (dk_at dksX4_duration_0 22 rfl rfl)
abbrev cX4_isThere : ByteArray := prog_14_method_7_code
def yX4_isThere : MethodName := ⟨RX4, "isThere", "(Z)Z"⟩
def dkwX4_isThere_0 : List UInt8 := [42, 27, 153, 0, 7, 3, 167, 0, 4, 4, 181, 0, 39, 27, 172]
abbrev dktX4_isThere_0 : List UInt8 := dkwX4_isThere_0 ++ []
theorem dksX4_isThere_0 : cX4_isThere.data.toList.drop 0 = dktX4_isThere_0 := by decide +kernel
theorem dX4_isThere_0 : decode cX4_isThere 0 = .ok (.aload_n 0, 1) := dk_42 (dk_at dksX4_isThere_0 0 rfl rfl)
theorem dX4_isThere_1 : decode cX4_isThere 1 = .ok (.iload_n 1, 1) := dk_27 (dk_at dksX4_isThere_0 1 rfl rfl)
theorem dX4_isThere_2 : decode cX4_isThere 2 = .ok (.ifCond .eq 7, 3) := dk_153 0 7 (dk_at dksX4_isThere_0 2 rfl rfl)
theorem dX4_isThere_5 : decode cX4_isThere 5 = .ok (.iconst 0, 1) := dk_3 (dk_at dksX4_isThere_0 5 rfl rfl)
theorem dX4_isThere_6 : decode cX4_isThere 6 = .ok (.goto 4, 3) := dk_167 0 4 (dk_at dksX4_isThere_0 6 rfl rfl)
theorem dX4_isThere_9 : decode cX4_isThere 9 = .ok (.iconst 1, 1) := dk_4 (dk_at dksX4_isThere_0 9 rfl rfl)
theorem dX4_isThere_10 : decode cX4_isThere 10 = .ok (.putfield 39, 3) := dk_181 0 39 (dk_at dksX4_isThere_0 10 rfl rfl)
theorem dX4_isThere_13 : decode cX4_isThere 13 = .ok (.iload_n 1, 1) := dk_27 (dk_at dksX4_isThere_0 13 rfl rfl)
theorem dX4_isThere_14 : decode cX4_isThere 14 = .ok (.ireturn, 1) := dk_172 (dk_at dksX4_isThere_0 14 rfl rfl)
abbrev cX4_price : ByteArray := prog_14_method_44_code
def yX4_price : MethodName := ⟨RX4, "price", "(I)I"⟩
def dkwX4_price_0 : List UInt8 := [42, 42, 27, 182, 0, 101, 182, 0, 157, 153, 0, 12, 42, 27, 4, 182, 0, 71, 167, 0, 4, 3, 172]
abbrev dktX4_price_0 : List UInt8 := dkwX4_price_0 ++ []
theorem dksX4_price_0 : cX4_price.data.toList.drop 0 = dktX4_price_0 := by decide +kernel
theorem dX4_price_0 : decode cX4_price 0 = .ok (.aload_n 0, 1) := dk_42 (dk_at dksX4_price_0 0 rfl rfl)
theorem dX4_price_1 : decode cX4_price 1 = .ok (.aload_n 0, 1) := dk_42 (dk_at dksX4_price_0 1 rfl rfl)
theorem dX4_price_2 : decode cX4_price 2 = .ok (.iload_n 1, 1) := dk_27 (dk_at dksX4_price_0 2 rfl rfl)
theorem dX4_price_3 : decode cX4_price 3 = .ok (.invokevirtual 101, 3) := dk_182 0 101 (dk_at dksX4_price_0 3 rfl rfl)
theorem dX4_price_6 : decode cX4_price 6 = .ok (.invokevirtual 157, 3) := dk_182 0 157 (dk_at dksX4_price_0 6 rfl rfl)
theorem dX4_price_9 : decode cX4_price 9 = .ok (.ifCond .eq 12, 3) := dk_153 0 12 (dk_at dksX4_price_0 9 rfl rfl)
theorem dX4_price_12 : decode cX4_price 12 = .ok (.aload_n 0, 1) := dk_42 (dk_at dksX4_price_0 12 rfl rfl)
theorem dX4_price_13 : decode cX4_price 13 = .ok (.iload_n 1, 1) := dk_27 (dk_at dksX4_price_0 13 rfl rfl)
theorem dX4_price_14 : decode cX4_price 14 = .ok (.iconst 1, 1) := dk_4 (dk_at dksX4_price_0 14 rfl rfl)
theorem dX4_price_15 : decode cX4_price 15 = .ok (.invokevirtual 71, 3) := dk_182 0 71 (dk_at dksX4_price_0 15 rfl rfl)
theorem dX4_price_18 : decode cX4_price 18 = .ok (.goto 4, 3) := dk_167 0 4 (dk_at dksX4_price_0 18 rfl rfl)
theorem dX4_price_21 : decode cX4_price 21 = .ok (.iconst 0, 1) := dk_3 (dk_at dksX4_price_0 21 rfl rfl)
theorem dX4_price_22 : decode cX4_price 22 = .ok (.ireturn, 1) := dk_172 (dk_at dksX4_price_0 22 rfl rfl)
abbrev cX4_wetness : ByteArray := prog_14_method_45_code
def yX4_wetness : MethodName := ⟨RX4, "wetness", "(I)I"⟩
def dkwX4_wetness_0 : List UInt8 := [42, 42, 27, 182, 0, 101, 182, 0, 157, 153, 0, 12, 42, 27, 5, 182, 0, 71, 167, 0, 4, 3, 172]
abbrev dktX4_wetness_0 : List UInt8 := dkwX4_wetness_0 ++ []
theorem dksX4_wetness_0 : cX4_wetness.data.toList.drop 0 = dktX4_wetness_0 := by decide +kernel
theorem dX4_wetness_0 : decode cX4_wetness 0 = .ok (.aload_n 0, 1) := dk_42 (dk_at dksX4_wetness_0 0 rfl rfl)
theorem dX4_wetness_1 : decode cX4_wetness 1 = .ok (.aload_n 0, 1) := dk_42 (dk_at dksX4_wetness_0 1 rfl rfl)
theorem dX4_wetness_2 : decode cX4_wetness 2 = .ok (.iload_n 1, 1) := dk_27 (dk_at dksX4_wetness_0 2 rfl rfl)
theorem dX4_wetness_3 : decode cX4_wetness 3 = .ok (.invokevirtual 101, 3) := dk_182 0 101 (dk_at dksX4_wetness_0 3 rfl rfl)
theorem dX4_wetness_6 : decode cX4_wetness 6 = .ok (.invokevirtual 157, 3) := dk_182 0 157 (dk_at dksX4_wetness_0 6 rfl rfl)
theorem dX4_wetness_9 : decode cX4_wetness 9 = .ok (.ifCond .eq 12, 3) := dk_153 0 12 (dk_at dksX4_wetness_0 9 rfl rfl)
theorem dX4_wetness_12 : decode cX4_wetness 12 = .ok (.aload_n 0, 1) := dk_42 (dk_at dksX4_wetness_0 12 rfl rfl)
theorem dX4_wetness_13 : decode cX4_wetness 13 = .ok (.iload_n 1, 1) := dk_27 (dk_at dksX4_wetness_0 13 rfl rfl)
theorem dX4_wetness_14 : decode cX4_wetness 14 = .ok (.iconst 2, 1) := dk_5 (dk_at dksX4_wetness_0 14 rfl rfl)
theorem dX4_wetness_15 : decode cX4_wetness 15 = .ok (.invokevirtual 71, 3) := dk_182 0 71 (dk_at dksX4_wetness_0 15 rfl rfl)
theorem dX4_wetness_18 : decode cX4_wetness 18 = .ok (.goto 4, 3) := dk_167 0 4 (dk_at dksX4_wetness_0 18 rfl rfl)
theorem dX4_wetness_21 : decode cX4_wetness 21 = .ok (.iconst 0, 1) := dk_3 (dk_at dksX4_wetness_0 21 rfl rfl)
theorem dX4_wetness_22 : decode cX4_wetness 22 = .ok (.ireturn, 1) := dk_172 (dk_at dksX4_wetness_0 22 rfl rfl)
abbrev cX4_rider : ByteArray := prog_14_method_46_code
def yX4_rider : MethodName := ⟨RX4, "rider", "(I)I"⟩
def dkwX4_rider_2 : List UInt8 := [181, 0, 39, 42, 180, 0, 39, 158, 0, 7, 3, 167, 0, 9, 42, 28, 3, 182, 0, 64, 172]
abbrev dktX4_rider_2 : List UInt8 := dkwX4_rider_2 ++ []
def dkwX4_rider_1 : List UInt8 := [42, 42, 27, 182, 0, 101, 154, 0, 7, 4, 167, 0, 12, 28, 156, 0, 7, 5, 167, 0, 4, 3]
abbrev dktX4_rider_1 : List UInt8 := dkwX4_rider_1 ++ dktX4_rider_2
def dkwX4_rider_0 : List UInt8 := [42, 27, 182, 0, 101, 153, 0, 17, 42, 27, 42, 180, 0, 9, 6, 46, 182, 0, 145, 167, 0, 4, 2, 61]
abbrev dktX4_rider_0 : List UInt8 := dkwX4_rider_0 ++ dktX4_rider_1
theorem dksX4_rider_0 : cX4_rider.data.toList.drop 0 = dktX4_rider_0 := by decide +kernel
theorem dksX4_rider_1 : cX4_rider.data.toList.drop 24 = dktX4_rider_1 := dk_seg dksX4_rider_0 24 rfl rfl
theorem dksX4_rider_2 : cX4_rider.data.toList.drop 46 = dktX4_rider_2 := dk_seg dksX4_rider_1 22 rfl rfl
theorem dX4_rider_0 : decode cX4_rider 0 = .ok (.aload_n 0, 1) := dk_42 (dk_at dksX4_rider_0 0 rfl rfl)
theorem dX4_rider_1 : decode cX4_rider 1 = .ok (.iload_n 1, 1) := dk_27 (dk_at dksX4_rider_0 1 rfl rfl)
theorem dX4_rider_2 : decode cX4_rider 2 = .ok (.invokevirtual 101, 3) := dk_182 0 101 (dk_at dksX4_rider_0 2 rfl rfl)
theorem dX4_rider_5 : decode cX4_rider 5 = .ok (.ifCond .eq 17, 3) := dk_153 0 17 (dk_at dksX4_rider_0 5 rfl rfl)
theorem dX4_rider_8 : decode cX4_rider 8 = .ok (.aload_n 0, 1) := dk_42 (dk_at dksX4_rider_0 8 rfl rfl)
theorem dX4_rider_9 : decode cX4_rider 9 = .ok (.iload_n 1, 1) := dk_27 (dk_at dksX4_rider_0 9 rfl rfl)
theorem dX4_rider_10 : decode cX4_rider 10 = .ok (.aload_n 0, 1) := dk_42 (dk_at dksX4_rider_0 10 rfl rfl)
theorem dX4_rider_11 : decode cX4_rider 11 = .ok (.getfield 9, 3) := dk_180 0 9 (dk_at dksX4_rider_0 11 rfl rfl)
theorem dX4_rider_14 : decode cX4_rider 14 = .ok (.iconst 3, 1) := dk_6 (dk_at dksX4_rider_0 14 rfl rfl)
theorem dX4_rider_15 : decode cX4_rider 15 = .ok (.iaload, 1) := dk_46 (dk_at dksX4_rider_0 15 rfl rfl)
theorem dX4_rider_16 : decode cX4_rider 16 = .ok (.invokevirtual 145, 3) := dk_182 0 145 (dk_at dksX4_rider_0 16 rfl rfl)
theorem dX4_rider_19 : decode cX4_rider 19 = .ok (.goto 4, 3) := dk_167 0 4 (dk_at dksX4_rider_0 19 rfl rfl)
theorem dX4_rider_22 : decode cX4_rider 22 = .ok (.iconst (-1), 1) := dk_2 (dk_at dksX4_rider_0 22 rfl rfl)
theorem dX4_rider_23 : decode cX4_rider 23 = .ok (.istore_n 2, 1) := dk_61 (dk_at dksX4_rider_0 23 rfl rfl)
theorem dX4_rider_24 : decode cX4_rider 24 = .ok (.aload_n 0, 1) := dk_42 (dk_at dksX4_rider_1 0 rfl rfl)
theorem dX4_rider_25 : decode cX4_rider 25 = .ok (.aload_n 0, 1) := dk_42 (dk_at dksX4_rider_1 1 rfl rfl)
theorem dX4_rider_26 : decode cX4_rider 26 = .ok (.iload_n 1, 1) := dk_27 (dk_at dksX4_rider_1 2 rfl rfl)
theorem dX4_rider_27 : decode cX4_rider 27 = .ok (.invokevirtual 101, 3) := dk_182 0 101 (dk_at dksX4_rider_1 3 rfl rfl)
theorem dX4_rider_30 : decode cX4_rider 30 = .ok (.ifCond .ne 7, 3) := dk_154 0 7 (dk_at dksX4_rider_1 6 rfl rfl)
theorem dX4_rider_33 : decode cX4_rider 33 = .ok (.iconst 1, 1) := dk_4 (dk_at dksX4_rider_1 9 rfl rfl)
theorem dX4_rider_34 : decode cX4_rider 34 = .ok (.goto 12, 3) := dk_167 0 12 (dk_at dksX4_rider_1 10 rfl rfl)
theorem dX4_rider_37 : decode cX4_rider 37 = .ok (.iload_n 2, 1) := dk_28 (dk_at dksX4_rider_1 13 rfl rfl)
theorem dX4_rider_38 : decode cX4_rider 38 = .ok (.ifCond .ge 7, 3) := dk_156 0 7 (dk_at dksX4_rider_1 14 rfl rfl)
theorem dX4_rider_41 : decode cX4_rider 41 = .ok (.iconst 2, 1) := dk_5 (dk_at dksX4_rider_1 17 rfl rfl)
theorem dX4_rider_42 : decode cX4_rider 42 = .ok (.goto 4, 3) := dk_167 0 4 (dk_at dksX4_rider_1 18 rfl rfl)
theorem dX4_rider_45 : decode cX4_rider 45 = .ok (.iconst 0, 1) := dk_3 (dk_at dksX4_rider_1 21 rfl rfl)
theorem dX4_rider_46 : decode cX4_rider 46 = .ok (.putfield 39, 3) := dk_181 0 39 (dk_at dksX4_rider_2 0 rfl rfl)
theorem dX4_rider_49 : decode cX4_rider 49 = .ok (.aload_n 0, 1) := dk_42 (dk_at dksX4_rider_2 3 rfl rfl)
theorem dX4_rider_50 : decode cX4_rider 50 = .ok (.getfield 39, 3) := dk_180 0 39 (dk_at dksX4_rider_2 4 rfl rfl)
theorem dX4_rider_53 : decode cX4_rider 53 = .ok (.ifCond .le 7, 3) := dk_158 0 7 (dk_at dksX4_rider_2 7 rfl rfl)
theorem dX4_rider_56 : decode cX4_rider 56 = .ok (.iconst 0, 1) := dk_3 (dk_at dksX4_rider_2 10 rfl rfl)
theorem dX4_rider_57 : decode cX4_rider 57 = .ok (.goto 9, 3) := dk_167 0 9 (dk_at dksX4_rider_2 11 rfl rfl)
theorem dX4_rider_60 : decode cX4_rider 60 = .ok (.aload_n 0, 1) := dk_42 (dk_at dksX4_rider_2 14 rfl rfl)
theorem dX4_rider_61 : decode cX4_rider 61 = .ok (.iload_n 2, 1) := dk_28 (dk_at dksX4_rider_2 15 rfl rfl)
theorem dX4_rider_62 : decode cX4_rider 62 = .ok (.iconst 0, 1) := dk_3 (dk_at dksX4_rider_2 16 rfl rfl)
theorem dX4_rider_63 : decode cX4_rider 63 = .ok (.invokevirtual 64, 3) := dk_182 0 64 (dk_at dksX4_rider_2 17 rfl rfl)
theorem dX4_rider_66 : decode cX4_rider 66 = .ok (.ireturn, 1) := dk_172 (dk_at dksX4_rider_2 20 rfl rfl)
abbrev cX4_guestCount : ByteArray := prog_14_method_47_code
def yX4_guestCount : MethodName := ⟨RX4, "guestCount", "()I"⟩
def dkwX4_guestCount_0 : List UInt8 := [42, 3, 181, 0, 39, 42, 180, 0, 9, 4, 46, 172]
abbrev dktX4_guestCount_0 : List UInt8 := dkwX4_guestCount_0 ++ []
theorem dksX4_guestCount_0 : cX4_guestCount.data.toList.drop 0 = dktX4_guestCount_0 := by decide +kernel
theorem dX4_guestCount_0 : decode cX4_guestCount 0 = .ok (.aload_n 0, 1) := dk_42 (dk_at dksX4_guestCount_0 0 rfl rfl)
theorem dX4_guestCount_1 : decode cX4_guestCount 1 = .ok (.iconst 0, 1) := dk_3 (dk_at dksX4_guestCount_0 1 rfl rfl)
theorem dX4_guestCount_2 : decode cX4_guestCount 2 = .ok (.putfield 39, 3) := dk_181 0 39 (dk_at dksX4_guestCount_0 2 rfl rfl)
theorem dX4_guestCount_5 : decode cX4_guestCount 5 = .ok (.aload_n 0, 1) := dk_42 (dk_at dksX4_guestCount_0 5 rfl rfl)
theorem dX4_guestCount_6 : decode cX4_guestCount 6 = .ok (.getfield 9, 3) := dk_180 0 9 (dk_at dksX4_guestCount_0 6 rfl rfl)
theorem dX4_guestCount_9 : decode cX4_guestCount 9 = .ok (.iconst 1, 1) := dk_4 (dk_at dksX4_guestCount_0 9 rfl rfl)
theorem dX4_guestCount_10 : decode cX4_guestCount 10 = .ok (.iaload, 1) := dk_46 (dk_at dksX4_guestCount_0 10 rfl rfl)
theorem dX4_guestCount_11 : decode cX4_guestCount 11 = .ok (.ireturn, 1) := dk_172 (dk_at dksX4_guestCount_0 11 rfl rfl)
abbrev cX4_coins : ByteArray := prog_14_method_48_code
def yX4_coins : MethodName := ⟨RX4, "coins", "(I)I"⟩
def dkwX4_coins_0 : List UInt8 := [42, 42, 27, 182, 0, 97, 182, 0, 157, 153, 0, 12, 42, 27, 3, 182, 0, 107, 167, 0, 4, 3, 172]
abbrev dktX4_coins_0 : List UInt8 := dkwX4_coins_0 ++ []
theorem dksX4_coins_0 : cX4_coins.data.toList.drop 0 = dktX4_coins_0 := by decide +kernel
theorem dX4_coins_0 : decode cX4_coins 0 = .ok (.aload_n 0, 1) := dk_42 (dk_at dksX4_coins_0 0 rfl rfl)
theorem dX4_coins_1 : decode cX4_coins 1 = .ok (.aload_n 0, 1) := dk_42 (dk_at dksX4_coins_0 1 rfl rfl)
theorem dX4_coins_2 : decode cX4_coins 2 = .ok (.iload_n 1, 1) := dk_27 (dk_at dksX4_coins_0 2 rfl rfl)
theorem dX4_coins_3 : decode cX4_coins 3 = .ok (.invokevirtual 97, 3) := dk_182 0 97 (dk_at dksX4_coins_0 3 rfl rfl)
theorem dX4_coins_6 : decode cX4_coins 6 = .ok (.invokevirtual 157, 3) := dk_182 0 157 (dk_at dksX4_coins_0 6 rfl rfl)
theorem dX4_coins_9 : decode cX4_coins 9 = .ok (.ifCond .eq 12, 3) := dk_153 0 12 (dk_at dksX4_coins_0 9 rfl rfl)
theorem dX4_coins_12 : decode cX4_coins 12 = .ok (.aload_n 0, 1) := dk_42 (dk_at dksX4_coins_0 12 rfl rfl)
theorem dX4_coins_13 : decode cX4_coins 13 = .ok (.iload_n 1, 1) := dk_27 (dk_at dksX4_coins_0 13 rfl rfl)
theorem dX4_coins_14 : decode cX4_coins 14 = .ok (.iconst 0, 1) := dk_3 (dk_at dksX4_coins_0 14 rfl rfl)
theorem dX4_coins_15 : decode cX4_coins 15 = .ok (.invokevirtual 107, 3) := dk_182 0 107 (dk_at dksX4_coins_0 15 rfl rfl)
theorem dX4_coins_18 : decode cX4_coins 18 = .ok (.goto 4, 3) := dk_167 0 4 (dk_at dksX4_coins_0 18 rfl rfl)
theorem dX4_coins_21 : decode cX4_coins 21 = .ok (.iconst 0, 1) := dk_3 (dk_at dksX4_coins_0 21 rfl rfl)
theorem dX4_coins_22 : decode cX4_coins 22 = .ok (.ireturn, 1) := dk_172 (dk_at dksX4_coins_0 22 rfl rfl)
abbrev cX4_queueOf : ByteArray := prog_14_method_49_code
def yX4_queueOf : MethodName := ⟨RX4, "queueOf", "(I)I"⟩
def dkwX4_queueOf_2 : List UInt8 := [4, 100, 172]
abbrev dktX4_queueOf_2 : List UInt8 := dkwX4_queueOf_2 ++ []
def dkwX4_queueOf_1 : List UInt8 := [167, 0, 4, 3, 181, 0, 39, 42, 180, 0, 39, 158, 0, 7, 3, 167, 0, 11, 42, 27, 5, 182, 0, 107]
abbrev dktX4_queueOf_1 : List UInt8 := dkwX4_queueOf_1 ++ dktX4_queueOf_2
def dkwX4_queueOf_0 : List UInt8 := [42, 42, 27, 182, 0, 97, 154, 0, 7, 4, 167, 0, 17, 42, 27, 5, 182, 0, 107, 154, 0, 7, 5]
abbrev dktX4_queueOf_0 : List UInt8 := dkwX4_queueOf_0 ++ dktX4_queueOf_1
theorem dksX4_queueOf_0 : cX4_queueOf.data.toList.drop 0 = dktX4_queueOf_0 := by decide +kernel
theorem dksX4_queueOf_1 : cX4_queueOf.data.toList.drop 23 = dktX4_queueOf_1 := dk_seg dksX4_queueOf_0 23 rfl rfl
theorem dksX4_queueOf_2 : cX4_queueOf.data.toList.drop 47 = dktX4_queueOf_2 := dk_seg dksX4_queueOf_1 24 rfl rfl
theorem dX4_queueOf_0 : decode cX4_queueOf 0 = .ok (.aload_n 0, 1) := dk_42 (dk_at dksX4_queueOf_0 0 rfl rfl)
theorem dX4_queueOf_1 : decode cX4_queueOf 1 = .ok (.aload_n 0, 1) := dk_42 (dk_at dksX4_queueOf_0 1 rfl rfl)
theorem dX4_queueOf_2 : decode cX4_queueOf 2 = .ok (.iload_n 1, 1) := dk_27 (dk_at dksX4_queueOf_0 2 rfl rfl)
theorem dX4_queueOf_3 : decode cX4_queueOf 3 = .ok (.invokevirtual 97, 3) := dk_182 0 97 (dk_at dksX4_queueOf_0 3 rfl rfl)
theorem dX4_queueOf_6 : decode cX4_queueOf 6 = .ok (.ifCond .ne 7, 3) := dk_154 0 7 (dk_at dksX4_queueOf_0 6 rfl rfl)
theorem dX4_queueOf_9 : decode cX4_queueOf 9 = .ok (.iconst 1, 1) := dk_4 (dk_at dksX4_queueOf_0 9 rfl rfl)
theorem dX4_queueOf_10 : decode cX4_queueOf 10 = .ok (.goto 17, 3) := dk_167 0 17 (dk_at dksX4_queueOf_0 10 rfl rfl)
theorem dX4_queueOf_13 : decode cX4_queueOf 13 = .ok (.aload_n 0, 1) := dk_42 (dk_at dksX4_queueOf_0 13 rfl rfl)
theorem dX4_queueOf_14 : decode cX4_queueOf 14 = .ok (.iload_n 1, 1) := dk_27 (dk_at dksX4_queueOf_0 14 rfl rfl)
theorem dX4_queueOf_15 : decode cX4_queueOf 15 = .ok (.iconst 2, 1) := dk_5 (dk_at dksX4_queueOf_0 15 rfl rfl)
theorem dX4_queueOf_16 : decode cX4_queueOf 16 = .ok (.invokevirtual 107, 3) := dk_182 0 107 (dk_at dksX4_queueOf_0 16 rfl rfl)
theorem dX4_queueOf_19 : decode cX4_queueOf 19 = .ok (.ifCond .ne 7, 3) := dk_154 0 7 (dk_at dksX4_queueOf_0 19 rfl rfl)
theorem dX4_queueOf_22 : decode cX4_queueOf 22 = .ok (.iconst 2, 1) := dk_5 (dk_at dksX4_queueOf_0 22 rfl rfl)
theorem dX4_queueOf_23 : decode cX4_queueOf 23 = .ok (.goto 4, 3) := dk_167 0 4 (dk_at dksX4_queueOf_1 0 rfl rfl)
theorem dX4_queueOf_26 : decode cX4_queueOf 26 = .ok (.iconst 0, 1) := dk_3 (dk_at dksX4_queueOf_1 3 rfl rfl)
theorem dX4_queueOf_27 : decode cX4_queueOf 27 = .ok (.putfield 39, 3) := dk_181 0 39 (dk_at dksX4_queueOf_1 4 rfl rfl)
theorem dX4_queueOf_30 : decode cX4_queueOf 30 = .ok (.aload_n 0, 1) := dk_42 (dk_at dksX4_queueOf_1 7 rfl rfl)
theorem dX4_queueOf_31 : decode cX4_queueOf 31 = .ok (.getfield 39, 3) := dk_180 0 39 (dk_at dksX4_queueOf_1 8 rfl rfl)
theorem dX4_queueOf_34 : decode cX4_queueOf 34 = .ok (.ifCond .le 7, 3) := dk_158 0 7 (dk_at dksX4_queueOf_1 11 rfl rfl)
theorem dX4_queueOf_37 : decode cX4_queueOf 37 = .ok (.iconst 0, 1) := dk_3 (dk_at dksX4_queueOf_1 14 rfl rfl)
theorem dX4_queueOf_38 : decode cX4_queueOf 38 = .ok (.goto 11, 3) := dk_167 0 11 (dk_at dksX4_queueOf_1 15 rfl rfl)
theorem dX4_queueOf_41 : decode cX4_queueOf 41 = .ok (.aload_n 0, 1) := dk_42 (dk_at dksX4_queueOf_1 18 rfl rfl)
theorem dX4_queueOf_42 : decode cX4_queueOf 42 = .ok (.iload_n 1, 1) := dk_27 (dk_at dksX4_queueOf_1 19 rfl rfl)
theorem dX4_queueOf_43 : decode cX4_queueOf 43 = .ok (.iconst 2, 1) := dk_5 (dk_at dksX4_queueOf_1 20 rfl rfl)
theorem dX4_queueOf_44 : decode cX4_queueOf 44 = .ok (.invokevirtual 107, 3) := dk_182 0 107 (dk_at dksX4_queueOf_1 21 rfl rfl)
theorem dX4_queueOf_47 : decode cX4_queueOf 47 = .ok (.iconst 1, 1) := dk_4 (dk_at dksX4_queueOf_2 0 rfl rfl)
theorem dX4_queueOf_48 : decode cX4_queueOf 48 = .ok (.isub, 1) := dk_100 (dk_at dksX4_queueOf_2 1 rfl rfl)
theorem dX4_queueOf_49 : decode cX4_queueOf 49 = .ok (.ireturn, 1) := dk_172 (dk_at dksX4_queueOf_2 2 rfl rfl)
abbrev cX4_queueLength : ByteArray := prog_14_method_50_code
def yX4_queueLength : MethodName := ⟨RX4, "queueLength", "(I)I"⟩
def dkwX4_queueLength_0 : List UInt8 := [42, 42, 27, 182, 0, 101, 182, 0, 157, 153, 0, 12, 42, 27, 6, 182, 0, 71, 167, 0, 4, 3, 172]
abbrev dktX4_queueLength_0 : List UInt8 := dkwX4_queueLength_0 ++ []
theorem dksX4_queueLength_0 : cX4_queueLength.data.toList.drop 0 = dktX4_queueLength_0 := by decide +kernel
theorem dX4_queueLength_0 : decode cX4_queueLength 0 = .ok (.aload_n 0, 1) := dk_42 (dk_at dksX4_queueLength_0 0 rfl rfl)
theorem dX4_queueLength_1 : decode cX4_queueLength 1 = .ok (.aload_n 0, 1) := dk_42 (dk_at dksX4_queueLength_0 1 rfl rfl)
theorem dX4_queueLength_2 : decode cX4_queueLength 2 = .ok (.iload_n 1, 1) := dk_27 (dk_at dksX4_queueLength_0 2 rfl rfl)
theorem dX4_queueLength_3 : decode cX4_queueLength 3 = .ok (.invokevirtual 101, 3) := dk_182 0 101 (dk_at dksX4_queueLength_0 3 rfl rfl)
theorem dX4_queueLength_6 : decode cX4_queueLength 6 = .ok (.invokevirtual 157, 3) := dk_182 0 157 (dk_at dksX4_queueLength_0 6 rfl rfl)
theorem dX4_queueLength_9 : decode cX4_queueLength 9 = .ok (.ifCond .eq 12, 3) := dk_153 0 12 (dk_at dksX4_queueLength_0 9 rfl rfl)
theorem dX4_queueLength_12 : decode cX4_queueLength 12 = .ok (.aload_n 0, 1) := dk_42 (dk_at dksX4_queueLength_0 12 rfl rfl)
theorem dX4_queueLength_13 : decode cX4_queueLength 13 = .ok (.iload_n 1, 1) := dk_27 (dk_at dksX4_queueLength_0 13 rfl rfl)
theorem dX4_queueLength_14 : decode cX4_queueLength 14 = .ok (.iconst 3, 1) := dk_6 (dk_at dksX4_queueLength_0 14 rfl rfl)
theorem dX4_queueLength_15 : decode cX4_queueLength 15 = .ok (.invokevirtual 71, 3) := dk_182 0 71 (dk_at dksX4_queueLength_0 15 rfl rfl)
theorem dX4_queueLength_18 : decode cX4_queueLength 18 = .ok (.goto 4, 3) := dk_167 0 4 (dk_at dksX4_queueLength_0 18 rfl rfl)
theorem dX4_queueLength_21 : decode cX4_queueLength 21 = .ok (.iconst 0, 1) := dk_3 (dk_at dksX4_queueLength_0 21 rfl rfl)
theorem dX4_queueLength_22 : decode cX4_queueLength 22 = .ok (.ireturn, 1) := dk_172 (dk_at dksX4_queueLength_0 22 rfl rfl)
abbrev cX4_queuedGuest : ByteArray := prog_14_method_51_code
def yX4_queuedGuest : MethodName := ⟨RX4, "queuedGuest", "(II)I"⟩
def dkwX4_queuedGuest_2 : List UInt8 := [167, 0, 9, 42, 27, 28, 182, 0, 136, 172]
abbrev dktX4_queuedGuest_2 : List UInt8 := dkwX4_queuedGuest_2 ++ []
def dkwX4_queuedGuest_1 : List UInt8 := [184, 0, 51, 154, 0, 7, 5, 167, 0, 4, 3, 181, 0, 39, 42, 180, 0, 39, 158, 0, 7, 3]
abbrev dktX4_queuedGuest_1 : List UInt8 := dkwX4_queuedGuest_1 ++ dktX4_queuedGuest_2
def dkwX4_queuedGuest_0 : List UInt8 := [42, 42, 27, 182, 0, 101, 154, 0, 7, 4, 167, 0, 24, 28, 3, 42, 27, 6, 182, 0, 71, 4, 100]
abbrev dktX4_queuedGuest_0 : List UInt8 := dkwX4_queuedGuest_0 ++ dktX4_queuedGuest_1
theorem dksX4_queuedGuest_0 : cX4_queuedGuest.data.toList.drop 0 = dktX4_queuedGuest_0 := by decide +kernel
theorem dksX4_queuedGuest_1 : cX4_queuedGuest.data.toList.drop 23 = dktX4_queuedGuest_1 := dk_seg dksX4_queuedGuest_0 23 rfl rfl
theorem dksX4_queuedGuest_2 : cX4_queuedGuest.data.toList.drop 45 = dktX4_queuedGuest_2 := dk_seg dksX4_queuedGuest_1 22 rfl rfl
theorem dX4_queuedGuest_0 : decode cX4_queuedGuest 0 = .ok (.aload_n 0, 1) := dk_42 (dk_at dksX4_queuedGuest_0 0 rfl rfl)
theorem dX4_queuedGuest_1 : decode cX4_queuedGuest 1 = .ok (.aload_n 0, 1) := dk_42 (dk_at dksX4_queuedGuest_0 1 rfl rfl)
theorem dX4_queuedGuest_2 : decode cX4_queuedGuest 2 = .ok (.iload_n 1, 1) := dk_27 (dk_at dksX4_queuedGuest_0 2 rfl rfl)
theorem dX4_queuedGuest_3 : decode cX4_queuedGuest 3 = .ok (.invokevirtual 101, 3) := dk_182 0 101 (dk_at dksX4_queuedGuest_0 3 rfl rfl)
theorem dX4_queuedGuest_6 : decode cX4_queuedGuest 6 = .ok (.ifCond .ne 7, 3) := dk_154 0 7 (dk_at dksX4_queuedGuest_0 6 rfl rfl)
theorem dX4_queuedGuest_9 : decode cX4_queuedGuest 9 = .ok (.iconst 1, 1) := dk_4 (dk_at dksX4_queuedGuest_0 9 rfl rfl)
theorem dX4_queuedGuest_10 : decode cX4_queuedGuest 10 = .ok (.goto 24, 3) := dk_167 0 24 (dk_at dksX4_queuedGuest_0 10 rfl rfl)
theorem dX4_queuedGuest_13 : decode cX4_queuedGuest 13 = .ok (.iload_n 2, 1) := dk_28 (dk_at dksX4_queuedGuest_0 13 rfl rfl)
theorem dX4_queuedGuest_14 : decode cX4_queuedGuest 14 = .ok (.iconst 0, 1) := dk_3 (dk_at dksX4_queuedGuest_0 14 rfl rfl)
theorem dX4_queuedGuest_15 : decode cX4_queuedGuest 15 = .ok (.aload_n 0, 1) := dk_42 (dk_at dksX4_queuedGuest_0 15 rfl rfl)
theorem dX4_queuedGuest_16 : decode cX4_queuedGuest 16 = .ok (.iload_n 1, 1) := dk_27 (dk_at dksX4_queuedGuest_0 16 rfl rfl)
theorem dX4_queuedGuest_17 : decode cX4_queuedGuest 17 = .ok (.iconst 3, 1) := dk_6 (dk_at dksX4_queuedGuest_0 17 rfl rfl)
theorem dX4_queuedGuest_18 : decode cX4_queuedGuest 18 = .ok (.invokevirtual 71, 3) := dk_182 0 71 (dk_at dksX4_queuedGuest_0 18 rfl rfl)
theorem dX4_queuedGuest_21 : decode cX4_queuedGuest 21 = .ok (.iconst 1, 1) := dk_4 (dk_at dksX4_queuedGuest_0 21 rfl rfl)
theorem dX4_queuedGuest_22 : decode cX4_queuedGuest 22 = .ok (.isub, 1) := dk_100 (dk_at dksX4_queuedGuest_0 22 rfl rfl)
theorem dX4_queuedGuest_23 : decode cX4_queuedGuest 23 = .ok (.invokestatic 51, 3) := dk_184 0 51 (dk_at dksX4_queuedGuest_1 0 rfl rfl)
theorem dX4_queuedGuest_26 : decode cX4_queuedGuest 26 = .ok (.ifCond .ne 7, 3) := dk_154 0 7 (dk_at dksX4_queuedGuest_1 3 rfl rfl)
theorem dX4_queuedGuest_29 : decode cX4_queuedGuest 29 = .ok (.iconst 2, 1) := dk_5 (dk_at dksX4_queuedGuest_1 6 rfl rfl)
theorem dX4_queuedGuest_30 : decode cX4_queuedGuest 30 = .ok (.goto 4, 3) := dk_167 0 4 (dk_at dksX4_queuedGuest_1 7 rfl rfl)
theorem dX4_queuedGuest_33 : decode cX4_queuedGuest 33 = .ok (.iconst 0, 1) := dk_3 (dk_at dksX4_queuedGuest_1 10 rfl rfl)
theorem dX4_queuedGuest_34 : decode cX4_queuedGuest 34 = .ok (.putfield 39, 3) := dk_181 0 39 (dk_at dksX4_queuedGuest_1 11 rfl rfl)
theorem dX4_queuedGuest_37 : decode cX4_queuedGuest 37 = .ok (.aload_n 0, 1) := dk_42 (dk_at dksX4_queuedGuest_1 14 rfl rfl)
theorem dX4_queuedGuest_38 : decode cX4_queuedGuest 38 = .ok (.getfield 39, 3) := dk_180 0 39 (dk_at dksX4_queuedGuest_1 15 rfl rfl)
theorem dX4_queuedGuest_41 : decode cX4_queuedGuest 41 = .ok (.ifCond .le 7, 3) := dk_158 0 7 (dk_at dksX4_queuedGuest_1 18 rfl rfl)
theorem dX4_queuedGuest_44 : decode cX4_queuedGuest 44 = .ok (.iconst 0, 1) := dk_3 (dk_at dksX4_queuedGuest_1 21 rfl rfl)
theorem dX4_queuedGuest_45 : decode cX4_queuedGuest 45 = .ok (.goto 9, 3) := dk_167 0 9 (dk_at dksX4_queuedGuest_2 0 rfl rfl)
theorem dX4_queuedGuest_48 : decode cX4_queuedGuest 48 = .ok (.aload_n 0, 1) := dk_42 (dk_at dksX4_queuedGuest_2 3 rfl rfl)
theorem dX4_queuedGuest_49 : decode cX4_queuedGuest 49 = .ok (.iload_n 1, 1) := dk_27 (dk_at dksX4_queuedGuest_2 4 rfl rfl)
theorem dX4_queuedGuest_50 : decode cX4_queuedGuest 50 = .ok (.iload_n 2, 1) := dk_28 (dk_at dksX4_queuedGuest_2 5 rfl rfl)
theorem dX4_queuedGuest_51 : decode cX4_queuedGuest 51 = .ok (.invokevirtual 136, 3) := dk_182 0 136 (dk_at dksX4_queuedGuest_2 6 rfl rfl)
theorem dX4_queuedGuest_54 : decode cX4_queuedGuest 54 = .ok (.ireturn, 1) := dk_172 (dk_at dksX4_queuedGuest_2 9 rfl rfl)
abbrev cX4_bookingCount : ByteArray := prog_14_method_52_code
def yX4_bookingCount : MethodName := ⟨RX4, "bookingCount", "()I"⟩
def dkwX4_bookingCount_0 : List UInt8 := [42, 3, 181, 0, 39, 42, 180, 0, 9, 5, 46, 172]
abbrev dktX4_bookingCount_0 : List UInt8 := dkwX4_bookingCount_0 ++ []
theorem dksX4_bookingCount_0 : cX4_bookingCount.data.toList.drop 0 = dktX4_bookingCount_0 := by decide +kernel
theorem dX4_bookingCount_0 : decode cX4_bookingCount 0 = .ok (.aload_n 0, 1) := dk_42 (dk_at dksX4_bookingCount_0 0 rfl rfl)
theorem dX4_bookingCount_1 : decode cX4_bookingCount 1 = .ok (.iconst 0, 1) := dk_3 (dk_at dksX4_bookingCount_0 1 rfl rfl)
theorem dX4_bookingCount_2 : decode cX4_bookingCount 2 = .ok (.putfield 39, 3) := dk_181 0 39 (dk_at dksX4_bookingCount_0 2 rfl rfl)
theorem dX4_bookingCount_5 : decode cX4_bookingCount 5 = .ok (.aload_n 0, 1) := dk_42 (dk_at dksX4_bookingCount_0 5 rfl rfl)
theorem dX4_bookingCount_6 : decode cX4_bookingCount 6 = .ok (.getfield 9, 3) := dk_180 0 9 (dk_at dksX4_bookingCount_0 6 rfl rfl)
theorem dX4_bookingCount_9 : decode cX4_bookingCount 9 = .ok (.iconst 2, 1) := dk_5 (dk_at dksX4_bookingCount_0 9 rfl rfl)
theorem dX4_bookingCount_10 : decode cX4_bookingCount 10 = .ok (.iaload, 1) := dk_46 (dk_at dksX4_bookingCount_0 10 rfl rfl)
theorem dX4_bookingCount_11 : decode cX4_bookingCount 11 = .ok (.ireturn, 1) := dk_172 (dk_at dksX4_bookingCount_0 11 rfl rfl)
abbrev cX4_bookedGuest : ByteArray := prog_14_method_53_code
def yX4_bookedGuest : MethodName := ⟨RX4, "bookedGuest", "(I)I"⟩
def dkwX4_bookedGuest_0 : List UInt8 := [42, 42, 27, 182, 0, 120, 182, 0, 157, 153, 0, 12, 42, 27, 3, 182, 0, 64, 167, 0, 4, 3, 172]
abbrev dktX4_bookedGuest_0 : List UInt8 := dkwX4_bookedGuest_0 ++ []
theorem dksX4_bookedGuest_0 : cX4_bookedGuest.data.toList.drop 0 = dktX4_bookedGuest_0 := by decide +kernel
theorem dX4_bookedGuest_0 : decode cX4_bookedGuest 0 = .ok (.aload_n 0, 1) := dk_42 (dk_at dksX4_bookedGuest_0 0 rfl rfl)
theorem dX4_bookedGuest_1 : decode cX4_bookedGuest 1 = .ok (.aload_n 0, 1) := dk_42 (dk_at dksX4_bookedGuest_0 1 rfl rfl)
theorem dX4_bookedGuest_2 : decode cX4_bookedGuest 2 = .ok (.iload_n 1, 1) := dk_27 (dk_at dksX4_bookedGuest_0 2 rfl rfl)
theorem dX4_bookedGuest_3 : decode cX4_bookedGuest 3 = .ok (.invokevirtual 120, 3) := dk_182 0 120 (dk_at dksX4_bookedGuest_0 3 rfl rfl)
theorem dX4_bookedGuest_6 : decode cX4_bookedGuest 6 = .ok (.invokevirtual 157, 3) := dk_182 0 157 (dk_at dksX4_bookedGuest_0 6 rfl rfl)
theorem dX4_bookedGuest_9 : decode cX4_bookedGuest 9 = .ok (.ifCond .eq 12, 3) := dk_153 0 12 (dk_at dksX4_bookedGuest_0 9 rfl rfl)
theorem dX4_bookedGuest_12 : decode cX4_bookedGuest 12 = .ok (.aload_n 0, 1) := dk_42 (dk_at dksX4_bookedGuest_0 12 rfl rfl)
theorem dX4_bookedGuest_13 : decode cX4_bookedGuest 13 = .ok (.iload_n 1, 1) := dk_27 (dk_at dksX4_bookedGuest_0 13 rfl rfl)
theorem dX4_bookedGuest_14 : decode cX4_bookedGuest 14 = .ok (.iconst 0, 1) := dk_3 (dk_at dksX4_bookedGuest_0 14 rfl rfl)
theorem dX4_bookedGuest_15 : decode cX4_bookedGuest 15 = .ok (.invokevirtual 64, 3) := dk_182 0 64 (dk_at dksX4_bookedGuest_0 15 rfl rfl)
theorem dX4_bookedGuest_18 : decode cX4_bookedGuest 18 = .ok (.goto 4, 3) := dk_167 0 4 (dk_at dksX4_bookedGuest_0 18 rfl rfl)
theorem dX4_bookedGuest_21 : decode cX4_bookedGuest 21 = .ok (.iconst 0, 1) := dk_3 (dk_at dksX4_bookedGuest_0 21 rfl rfl)
theorem dX4_bookedGuest_22 : decode cX4_bookedGuest 22 = .ok (.ireturn, 1) := dk_172 (dk_at dksX4_bookedGuest_0 22 rfl rfl)
abbrev cX4_bookedSlide : ByteArray := prog_14_method_54_code
def yX4_bookedSlide : MethodName := ⟨RX4, "bookedSlide", "(I)I"⟩
def dkwX4_bookedSlide_0 : List UInt8 := [42, 42, 27, 182, 0, 120, 182, 0, 157, 153, 0, 12, 42, 27, 4, 182, 0, 64, 167, 0, 4, 3, 172]
abbrev dktX4_bookedSlide_0 : List UInt8 := dkwX4_bookedSlide_0 ++ []
theorem dksX4_bookedSlide_0 : cX4_bookedSlide.data.toList.drop 0 = dktX4_bookedSlide_0 := by decide +kernel
theorem dX4_bookedSlide_0 : decode cX4_bookedSlide 0 = .ok (.aload_n 0, 1) := dk_42 (dk_at dksX4_bookedSlide_0 0 rfl rfl)
theorem dX4_bookedSlide_1 : decode cX4_bookedSlide 1 = .ok (.aload_n 0, 1) := dk_42 (dk_at dksX4_bookedSlide_0 1 rfl rfl)
theorem dX4_bookedSlide_2 : decode cX4_bookedSlide 2 = .ok (.iload_n 1, 1) := dk_27 (dk_at dksX4_bookedSlide_0 2 rfl rfl)
theorem dX4_bookedSlide_3 : decode cX4_bookedSlide 3 = .ok (.invokevirtual 120, 3) := dk_182 0 120 (dk_at dksX4_bookedSlide_0 3 rfl rfl)
theorem dX4_bookedSlide_6 : decode cX4_bookedSlide 6 = .ok (.invokevirtual 157, 3) := dk_182 0 157 (dk_at dksX4_bookedSlide_0 6 rfl rfl)
theorem dX4_bookedSlide_9 : decode cX4_bookedSlide 9 = .ok (.ifCond .eq 12, 3) := dk_153 0 12 (dk_at dksX4_bookedSlide_0 9 rfl rfl)
theorem dX4_bookedSlide_12 : decode cX4_bookedSlide 12 = .ok (.aload_n 0, 1) := dk_42 (dk_at dksX4_bookedSlide_0 12 rfl rfl)
theorem dX4_bookedSlide_13 : decode cX4_bookedSlide 13 = .ok (.iload_n 1, 1) := dk_27 (dk_at dksX4_bookedSlide_0 13 rfl rfl)
theorem dX4_bookedSlide_14 : decode cX4_bookedSlide 14 = .ok (.iconst 1, 1) := dk_4 (dk_at dksX4_bookedSlide_0 14 rfl rfl)
theorem dX4_bookedSlide_15 : decode cX4_bookedSlide 15 = .ok (.invokevirtual 64, 3) := dk_182 0 64 (dk_at dksX4_bookedSlide_0 15 rfl rfl)
theorem dX4_bookedSlide_18 : decode cX4_bookedSlide 18 = .ok (.goto 4, 3) := dk_167 0 4 (dk_at dksX4_bookedSlide_0 18 rfl rfl)
theorem dX4_bookedSlide_21 : decode cX4_bookedSlide 21 = .ok (.iconst 0, 1) := dk_3 (dk_at dksX4_bookedSlide_0 21 rfl rfl)
theorem dX4_bookedSlide_22 : decode cX4_bookedSlide 22 = .ok (.ireturn, 1) := dk_172 (dk_at dksX4_bookedSlide_0 22 rfl rfl)
abbrev cX4_start : ByteArray := prog_14_method_55_code
def yX4_start : MethodName := ⟨RX4, "start", "(I)I"⟩
def dkwX4_start_0 : List UInt8 := [42, 42, 27, 182, 0, 120, 182, 0, 157, 153, 0, 11, 42, 27, 182, 0, 67, 167, 0, 4, 3, 172]
abbrev dktX4_start_0 : List UInt8 := dkwX4_start_0 ++ []
theorem dksX4_start_0 : cX4_start.data.toList.drop 0 = dktX4_start_0 := by decide +kernel
theorem dX4_start_0 : decode cX4_start 0 = .ok (.aload_n 0, 1) := dk_42 (dk_at dksX4_start_0 0 rfl rfl)
theorem dX4_start_1 : decode cX4_start 1 = .ok (.aload_n 0, 1) := dk_42 (dk_at dksX4_start_0 1 rfl rfl)
theorem dX4_start_2 : decode cX4_start 2 = .ok (.iload_n 1, 1) := dk_27 (dk_at dksX4_start_0 2 rfl rfl)
theorem dX4_start_3 : decode cX4_start 3 = .ok (.invokevirtual 120, 3) := dk_182 0 120 (dk_at dksX4_start_0 3 rfl rfl)
theorem dX4_start_6 : decode cX4_start 6 = .ok (.invokevirtual 157, 3) := dk_182 0 157 (dk_at dksX4_start_0 6 rfl rfl)
theorem dX4_start_9 : decode cX4_start 9 = .ok (.ifCond .eq 11, 3) := dk_153 0 11 (dk_at dksX4_start_0 9 rfl rfl)
theorem dX4_start_12 : decode cX4_start 12 = .ok (.aload_n 0, 1) := dk_42 (dk_at dksX4_start_0 12 rfl rfl)
theorem dX4_start_13 : decode cX4_start 13 = .ok (.iload_n 1, 1) := dk_27 (dk_at dksX4_start_0 13 rfl rfl)
theorem dX4_start_14 : decode cX4_start 14 = .ok (.invokevirtual 67, 3) := dk_182 0 67 (dk_at dksX4_start_0 14 rfl rfl)
theorem dX4_start_17 : decode cX4_start 17 = .ok (.goto 4, 3) := dk_167 0 4 (dk_at dksX4_start_0 17 rfl rfl)
theorem dX4_start_20 : decode cX4_start 20 = .ok (.iconst 0, 1) := dk_3 (dk_at dksX4_start_0 20 rfl rfl)
theorem dX4_start_21 : decode cX4_start 21 = .ok (.ireturn, 1) := dk_172 (dk_at dksX4_start_0 21 rfl rfl)
abbrev cX4_hasStarted : ByteArray := prog_14_method_56_code
def yX4_hasStarted : MethodName := ⟨RX4, "hasStarted", "(I)Z"⟩
def dkwX4_hasStarted_1 : List UInt8 := [163, 0, 7, 4, 167, 0, 4, 3, 172]
abbrev dktX4_hasStarted_1 : List UInt8 := dkwX4_hasStarted_1 ++ []
def dkwX4_hasStarted_0 : List UInt8 := [42, 42, 27, 182, 0, 120, 182, 0, 157, 153, 0, 21, 42, 27, 182, 0, 67, 42, 180, 0, 9, 6, 46]
abbrev dktX4_hasStarted_0 : List UInt8 := dkwX4_hasStarted_0 ++ dktX4_hasStarted_1
theorem dksX4_hasStarted_0 : cX4_hasStarted.data.toList.drop 0 = dktX4_hasStarted_0 := by decide +kernel
theorem dksX4_hasStarted_1 : cX4_hasStarted.data.toList.drop 23 = dktX4_hasStarted_1 := dk_seg dksX4_hasStarted_0 23 rfl rfl
theorem dX4_hasStarted_0 : decode cX4_hasStarted 0 = .ok (.aload_n 0, 1) := dk_42 (dk_at dksX4_hasStarted_0 0 rfl rfl)
theorem dX4_hasStarted_1 : decode cX4_hasStarted 1 = .ok (.aload_n 0, 1) := dk_42 (dk_at dksX4_hasStarted_0 1 rfl rfl)
theorem dX4_hasStarted_2 : decode cX4_hasStarted 2 = .ok (.iload_n 1, 1) := dk_27 (dk_at dksX4_hasStarted_0 2 rfl rfl)
theorem dX4_hasStarted_3 : decode cX4_hasStarted 3 = .ok (.invokevirtual 120, 3) := dk_182 0 120 (dk_at dksX4_hasStarted_0 3 rfl rfl)
theorem dX4_hasStarted_6 : decode cX4_hasStarted 6 = .ok (.invokevirtual 157, 3) := dk_182 0 157 (dk_at dksX4_hasStarted_0 6 rfl rfl)
theorem dX4_hasStarted_9 : decode cX4_hasStarted 9 = .ok (.ifCond .eq 21, 3) := dk_153 0 21 (dk_at dksX4_hasStarted_0 9 rfl rfl)
theorem dX4_hasStarted_12 : decode cX4_hasStarted 12 = .ok (.aload_n 0, 1) := dk_42 (dk_at dksX4_hasStarted_0 12 rfl rfl)
theorem dX4_hasStarted_13 : decode cX4_hasStarted 13 = .ok (.iload_n 1, 1) := dk_27 (dk_at dksX4_hasStarted_0 13 rfl rfl)
theorem dX4_hasStarted_14 : decode cX4_hasStarted 14 = .ok (.invokevirtual 67, 3) := dk_182 0 67 (dk_at dksX4_hasStarted_0 14 rfl rfl)
theorem dX4_hasStarted_17 : decode cX4_hasStarted 17 = .ok (.aload_n 0, 1) := dk_42 (dk_at dksX4_hasStarted_0 17 rfl rfl)
theorem dX4_hasStarted_18 : decode cX4_hasStarted 18 = .ok (.getfield 9, 3) := dk_180 0 9 (dk_at dksX4_hasStarted_0 18 rfl rfl)
theorem dX4_hasStarted_21 : decode cX4_hasStarted 21 = .ok (.iconst 3, 1) := dk_6 (dk_at dksX4_hasStarted_0 21 rfl rfl)
theorem dX4_hasStarted_22 : decode cX4_hasStarted 22 = .ok (.iaload, 1) := dk_46 (dk_at dksX4_hasStarted_0 22 rfl rfl)
theorem dX4_hasStarted_23 : decode cX4_hasStarted 23 = .ok (.if_icmp .gt 7, 3) := dk_163 0 7 (dk_at dksX4_hasStarted_1 0 rfl rfl)
theorem dX4_hasStarted_26 : decode cX4_hasStarted 26 = .ok (.iconst 1, 1) := dk_4 (dk_at dksX4_hasStarted_1 3 rfl rfl)
theorem dX4_hasStarted_27 : decode cX4_hasStarted 27 = .ok (.goto 4, 3) := dk_167 0 4 (dk_at dksX4_hasStarted_1 4 rfl rfl)
theorem dX4_hasStarted_30 : decode cX4_hasStarted 30 = .ok (.iconst 0, 1) := dk_3 (dk_at dksX4_hasStarted_1 7 rfl rfl)
theorem dX4_hasStarted_31 : decode cX4_hasStarted 31 = .ok (.ireturn, 1) := dk_172 (dk_at dksX4_hasStarted_1 8 rfl rfl)
abbrev cX4_bookingByStart : ByteArray := prog_14_method_58_code
def yX4_bookingByStart : MethodName := ⟨RX4, "bookingByStart", "(I)I"⟩
def dkwX4_bookingByStart_0 : List UInt8 := [42, 42, 27, 182, 0, 120, 182, 0, 157, 153, 0, 11, 42, 27, 182, 0, 161, 167, 0, 4, 3, 172]
abbrev dktX4_bookingByStart_0 : List UInt8 := dkwX4_bookingByStart_0 ++ []
theorem dksX4_bookingByStart_0 : cX4_bookingByStart.data.toList.drop 0 = dktX4_bookingByStart_0 := by decide +kernel
theorem dX4_bookingByStart_0 : decode cX4_bookingByStart 0 = .ok (.aload_n 0, 1) := dk_42 (dk_at dksX4_bookingByStart_0 0 rfl rfl)
theorem dX4_bookingByStart_1 : decode cX4_bookingByStart 1 = .ok (.aload_n 0, 1) := dk_42 (dk_at dksX4_bookingByStart_0 1 rfl rfl)
theorem dX4_bookingByStart_2 : decode cX4_bookingByStart 2 = .ok (.iload_n 1, 1) := dk_27 (dk_at dksX4_bookingByStart_0 2 rfl rfl)
theorem dX4_bookingByStart_3 : decode cX4_bookingByStart 3 = .ok (.invokevirtual 120, 3) := dk_182 0 120 (dk_at dksX4_bookingByStart_0 3 rfl rfl)
theorem dX4_bookingByStart_6 : decode cX4_bookingByStart 6 = .ok (.invokevirtual 157, 3) := dk_182 0 157 (dk_at dksX4_bookingByStart_0 6 rfl rfl)
theorem dX4_bookingByStart_9 : decode cX4_bookingByStart 9 = .ok (.ifCond .eq 11, 3) := dk_153 0 11 (dk_at dksX4_bookingByStart_0 9 rfl rfl)
theorem dX4_bookingByStart_12 : decode cX4_bookingByStart 12 = .ok (.aload_n 0, 1) := dk_42 (dk_at dksX4_bookingByStart_0 12 rfl rfl)
theorem dX4_bookingByStart_13 : decode cX4_bookingByStart 13 = .ok (.iload_n 1, 1) := dk_27 (dk_at dksX4_bookingByStart_0 13 rfl rfl)
theorem dX4_bookingByStart_14 : decode cX4_bookingByStart 14 = .ok (.invokevirtual 161, 3) := dk_182 0 161 (dk_at dksX4_bookingByStart_0 14 rfl rfl)
theorem dX4_bookingByStart_17 : decode cX4_bookingByStart 17 = .ok (.goto 4, 3) := dk_167 0 4 (dk_at dksX4_bookingByStart_0 17 rfl rfl)
theorem dX4_bookingByStart_20 : decode cX4_bookingByStart 20 = .ok (.iconst 0, 1) := dk_3 (dk_at dksX4_bookingByStart_0 20 rfl rfl)
theorem dX4_bookingByStart_21 : decode cX4_bookingByStart 21 = .ok (.ireturn, 1) := dk_172 (dk_at dksX4_bookingByStart_0 21 rfl rfl)
abbrev cX4_ranked : ByteArray := prog_14_method_57_code
def yX4_ranked : MethodName := ⟨RX4, "ranked", "(I)I"⟩
def dkwX4_ranked_4 : List UInt8 := [167, 0, 4, 28, 61, 132, 3, 1, 167, 255, 158, 28, 172]
abbrev dktX4_ranked_4 : List UInt8 := dkwX4_ranked_4 ++ []
def dkwX4_ranked_3 : List UInt8 := [162, 0, 7, 4, 167, 0, 4, 3, 96, 54, 4, 132, 5, 1, 167, 255, 192, 21, 4, 27, 160, 0, 7, 29]
abbrev dktX4_ranked_3 : List UInt8 := dkwX4_ranked_3 ++ dktX4_ranked_4
def dkwX4_ranked_2 : List UInt8 := [21, 6, 157, 0, 24, 21, 6, 154, 0, 23, 42, 21, 5, 4, 182, 0, 64, 42, 29, 4, 182, 0, 64]
abbrev dktX4_ranked_2 : List UInt8 := dkwX4_ranked_2 ++ dktX4_ranked_3
def dkwX4_ranked_1 : List UInt8 := [180, 0, 9, 5, 46, 162, 0, 59, 42, 29, 182, 0, 67, 42, 21, 5, 182, 0, 67, 100, 54, 6, 21, 4]
abbrev dktX4_ranked_1 : List UInt8 := dkwX4_ranked_1 ++ dktX4_ranked_2
def dkwX4_ranked_0 : List UInt8 := [2, 61, 3, 62, 29, 42, 180, 0, 9, 5, 46, 162, 0, 94, 3, 54, 4, 3, 54, 5, 21, 5, 42]
abbrev dktX4_ranked_0 : List UInt8 := dkwX4_ranked_0 ++ dktX4_ranked_1
theorem dksX4_ranked_0 : cX4_ranked.data.toList.drop 0 = dktX4_ranked_0 := by decide +kernel
theorem dksX4_ranked_1 : cX4_ranked.data.toList.drop 23 = dktX4_ranked_1 := dk_seg dksX4_ranked_0 23 rfl rfl
theorem dksX4_ranked_2 : cX4_ranked.data.toList.drop 47 = dktX4_ranked_2 := dk_seg dksX4_ranked_1 24 rfl rfl
theorem dksX4_ranked_3 : cX4_ranked.data.toList.drop 70 = dktX4_ranked_3 := dk_seg dksX4_ranked_2 23 rfl rfl
theorem dksX4_ranked_4 : cX4_ranked.data.toList.drop 94 = dktX4_ranked_4 := dk_seg dksX4_ranked_3 24 rfl rfl
theorem dX4_ranked_0 : decode cX4_ranked 0 = .ok (.iconst (-1), 1) := dk_2 (dk_at dksX4_ranked_0 0 rfl rfl)
theorem dX4_ranked_1 : decode cX4_ranked 1 = .ok (.istore_n 2, 1) := dk_61 (dk_at dksX4_ranked_0 1 rfl rfl)
theorem dX4_ranked_2 : decode cX4_ranked 2 = .ok (.iconst 0, 1) := dk_3 (dk_at dksX4_ranked_0 2 rfl rfl)
theorem dX4_ranked_3 : decode cX4_ranked 3 = .ok (.istore_n 3, 1) := dk_62 (dk_at dksX4_ranked_0 3 rfl rfl)
theorem dX4_ranked_4 : decode cX4_ranked 4 = .ok (.iload_n 3, 1) := dk_29 (dk_at dksX4_ranked_0 4 rfl rfl)
theorem dX4_ranked_5 : decode cX4_ranked 5 = .ok (.aload_n 0, 1) := dk_42 (dk_at dksX4_ranked_0 5 rfl rfl)
theorem dX4_ranked_6 : decode cX4_ranked 6 = .ok (.getfield 9, 3) := dk_180 0 9 (dk_at dksX4_ranked_0 6 rfl rfl)
theorem dX4_ranked_9 : decode cX4_ranked 9 = .ok (.iconst 2, 1) := dk_5 (dk_at dksX4_ranked_0 9 rfl rfl)
theorem dX4_ranked_10 : decode cX4_ranked 10 = .ok (.iaload, 1) := dk_46 (dk_at dksX4_ranked_0 10 rfl rfl)
theorem dX4_ranked_11 : decode cX4_ranked 11 = .ok (.if_icmp .ge 94, 3) := dk_162 0 94 (dk_at dksX4_ranked_0 11 rfl rfl)
theorem dX4_ranked_14 : decode cX4_ranked 14 = .ok (.iconst 0, 1) := dk_3 (dk_at dksX4_ranked_0 14 rfl rfl)
theorem dX4_ranked_15 : decode cX4_ranked 15 = .ok (.istore 4, 2) := dk_54 4 (dk_at dksX4_ranked_0 15 rfl rfl)
theorem dX4_ranked_17 : decode cX4_ranked 17 = .ok (.iconst 0, 1) := dk_3 (dk_at dksX4_ranked_0 17 rfl rfl)
theorem dX4_ranked_18 : decode cX4_ranked 18 = .ok (.istore 5, 2) := dk_54 5 (dk_at dksX4_ranked_0 18 rfl rfl)
theorem dX4_ranked_20 : decode cX4_ranked 20 = .ok (.iload 5, 2) := dk_21 5 (dk_at dksX4_ranked_0 20 rfl rfl)
theorem dX4_ranked_22 : decode cX4_ranked 22 = .ok (.aload_n 0, 1) := dk_42 (dk_at dksX4_ranked_0 22 rfl rfl)
theorem dX4_ranked_23 : decode cX4_ranked 23 = .ok (.getfield 9, 3) := dk_180 0 9 (dk_at dksX4_ranked_1 0 rfl rfl)
theorem dX4_ranked_26 : decode cX4_ranked 26 = .ok (.iconst 2, 1) := dk_5 (dk_at dksX4_ranked_1 3 rfl rfl)
theorem dX4_ranked_27 : decode cX4_ranked 27 = .ok (.iaload, 1) := dk_46 (dk_at dksX4_ranked_1 4 rfl rfl)
theorem dX4_ranked_28 : decode cX4_ranked 28 = .ok (.if_icmp .ge 59, 3) := dk_162 0 59 (dk_at dksX4_ranked_1 5 rfl rfl)
theorem dX4_ranked_31 : decode cX4_ranked 31 = .ok (.aload_n 0, 1) := dk_42 (dk_at dksX4_ranked_1 8 rfl rfl)
theorem dX4_ranked_32 : decode cX4_ranked 32 = .ok (.iload_n 3, 1) := dk_29 (dk_at dksX4_ranked_1 9 rfl rfl)
theorem dX4_ranked_33 : decode cX4_ranked 33 = .ok (.invokevirtual 67, 3) := dk_182 0 67 (dk_at dksX4_ranked_1 10 rfl rfl)
theorem dX4_ranked_36 : decode cX4_ranked 36 = .ok (.aload_n 0, 1) := dk_42 (dk_at dksX4_ranked_1 13 rfl rfl)
theorem dX4_ranked_37 : decode cX4_ranked 37 = .ok (.iload 5, 2) := dk_21 5 (dk_at dksX4_ranked_1 14 rfl rfl)
theorem dX4_ranked_39 : decode cX4_ranked 39 = .ok (.invokevirtual 67, 3) := dk_182 0 67 (dk_at dksX4_ranked_1 16 rfl rfl)
theorem dX4_ranked_42 : decode cX4_ranked 42 = .ok (.isub, 1) := dk_100 (dk_at dksX4_ranked_1 19 rfl rfl)
theorem dX4_ranked_43 : decode cX4_ranked 43 = .ok (.istore 6, 2) := dk_54 6 (dk_at dksX4_ranked_1 20 rfl rfl)
theorem dX4_ranked_45 : decode cX4_ranked 45 = .ok (.iload 4, 2) := dk_21 4 (dk_at dksX4_ranked_1 22 rfl rfl)
theorem dX4_ranked_47 : decode cX4_ranked 47 = .ok (.iload 6, 2) := dk_21 6 (dk_at dksX4_ranked_2 0 rfl rfl)
theorem dX4_ranked_49 : decode cX4_ranked 49 = .ok (.ifCond .gt 24, 3) := dk_157 0 24 (dk_at dksX4_ranked_2 2 rfl rfl)
theorem dX4_ranked_52 : decode cX4_ranked 52 = .ok (.iload 6, 2) := dk_21 6 (dk_at dksX4_ranked_2 5 rfl rfl)
theorem dX4_ranked_54 : decode cX4_ranked 54 = .ok (.ifCond .ne 23, 3) := dk_154 0 23 (dk_at dksX4_ranked_2 7 rfl rfl)
theorem dX4_ranked_57 : decode cX4_ranked 57 = .ok (.aload_n 0, 1) := dk_42 (dk_at dksX4_ranked_2 10 rfl rfl)
theorem dX4_ranked_58 : decode cX4_ranked 58 = .ok (.iload 5, 2) := dk_21 5 (dk_at dksX4_ranked_2 11 rfl rfl)
theorem dX4_ranked_60 : decode cX4_ranked 60 = .ok (.iconst 1, 1) := dk_4 (dk_at dksX4_ranked_2 13 rfl rfl)
theorem dX4_ranked_61 : decode cX4_ranked 61 = .ok (.invokevirtual 64, 3) := dk_182 0 64 (dk_at dksX4_ranked_2 14 rfl rfl)
theorem dX4_ranked_64 : decode cX4_ranked 64 = .ok (.aload_n 0, 1) := dk_42 (dk_at dksX4_ranked_2 17 rfl rfl)
theorem dX4_ranked_65 : decode cX4_ranked 65 = .ok (.iload_n 3, 1) := dk_29 (dk_at dksX4_ranked_2 18 rfl rfl)
theorem dX4_ranked_66 : decode cX4_ranked 66 = .ok (.iconst 1, 1) := dk_4 (dk_at dksX4_ranked_2 19 rfl rfl)
theorem dX4_ranked_67 : decode cX4_ranked 67 = .ok (.invokevirtual 64, 3) := dk_182 0 64 (dk_at dksX4_ranked_2 20 rfl rfl)
theorem dX4_ranked_70 : decode cX4_ranked 70 = .ok (.if_icmp .ge 7, 3) := dk_162 0 7 (dk_at dksX4_ranked_3 0 rfl rfl)
theorem dX4_ranked_73 : decode cX4_ranked 73 = .ok (.iconst 1, 1) := dk_4 (dk_at dksX4_ranked_3 3 rfl rfl)
theorem dX4_ranked_74 : decode cX4_ranked 74 = .ok (.goto 4, 3) := dk_167 0 4 (dk_at dksX4_ranked_3 4 rfl rfl)
theorem dX4_ranked_77 : decode cX4_ranked 77 = .ok (.iconst 0, 1) := dk_3 (dk_at dksX4_ranked_3 7 rfl rfl)
theorem dX4_ranked_78 : decode cX4_ranked 78 = .ok (.iadd, 1) := dk_96 (dk_at dksX4_ranked_3 8 rfl rfl)
theorem dX4_ranked_79 : decode cX4_ranked 79 = .ok (.istore 4, 2) := dk_54 4 (dk_at dksX4_ranked_3 9 rfl rfl)
theorem dX4_ranked_81 : decode cX4_ranked 81 = .ok (.iinc 5 1, 3) := dk_132 5 1 (dk_at dksX4_ranked_3 11 rfl rfl)
theorem dX4_ranked_84 : decode cX4_ranked 84 = .ok (.goto (-64), 3) := dk_167 255 192 (dk_at dksX4_ranked_3 14 rfl rfl)
theorem dX4_ranked_87 : decode cX4_ranked 87 = .ok (.iload 4, 2) := dk_21 4 (dk_at dksX4_ranked_3 17 rfl rfl)
theorem dX4_ranked_89 : decode cX4_ranked 89 = .ok (.iload_n 1, 1) := dk_27 (dk_at dksX4_ranked_3 19 rfl rfl)
theorem dX4_ranked_90 : decode cX4_ranked 90 = .ok (.if_icmp .ne 7, 3) := dk_160 0 7 (dk_at dksX4_ranked_3 20 rfl rfl)
theorem dX4_ranked_93 : decode cX4_ranked 93 = .ok (.iload_n 3, 1) := dk_29 (dk_at dksX4_ranked_3 23 rfl rfl)
theorem dX4_ranked_94 : decode cX4_ranked 94 = .ok (.goto 4, 3) := dk_167 0 4 (dk_at dksX4_ranked_4 0 rfl rfl)
theorem dX4_ranked_97 : decode cX4_ranked 97 = .ok (.iload_n 2, 1) := dk_28 (dk_at dksX4_ranked_4 3 rfl rfl)
theorem dX4_ranked_98 : decode cX4_ranked 98 = .ok (.istore_n 2, 1) := dk_61 (dk_at dksX4_ranked_4 4 rfl rfl)
theorem dX4_ranked_99 : decode cX4_ranked 99 = .ok (.iinc 3 1, 3) := dk_132 3 1 (dk_at dksX4_ranked_4 5 rfl rfl)
theorem dX4_ranked_102 : decode cX4_ranked 102 = .ok (.goto (-98), 3) := dk_167 255 158 (dk_at dksX4_ranked_4 8 rfl rfl)
theorem dX4_ranked_105 : decode cX4_ranked 105 = .ok (.iload_n 2, 1) := dk_28 (dk_at dksX4_ranked_4 11 rfl rfl)
theorem dX4_ranked_106 : decode cX4_ranked 106 = .ok (.ireturn, 1) := dk_172 (dk_at dksX4_ranked_4 12 rfl rfl)
abbrev cX4_isFree : ByteArray := prog_14_method_59_code
def yX4_isFree : MethodName := ⟨RX4, "isFree", "(II)Z"⟩
def dkwX4_isFree_2 : List UInt8 := [4, 167, 0, 4, 3, 172]
abbrev dktX4_isFree_2 : List UInt8 := dkwX4_isFree_2 ++ []
def dkwX4_isFree_1 : List UInt8 := [167, 0, 4, 3, 181, 0, 39, 42, 180, 0, 39, 154, 0, 17, 42, 2, 27, 28, 182, 0, 110, 154, 0, 7]
abbrev dktX4_isFree_1 : List UInt8 := dkwX4_isFree_1 ++ dktX4_isFree_2
def dkwX4_isFree_0 : List UInt8 := [42, 42, 27, 182, 0, 101, 154, 0, 7, 4, 167, 0, 16, 42, 28, 182, 0, 104, 154, 0, 7, 5]
abbrev dktX4_isFree_0 : List UInt8 := dkwX4_isFree_0 ++ dktX4_isFree_1
theorem dksX4_isFree_0 : cX4_isFree.data.toList.drop 0 = dktX4_isFree_0 := by decide +kernel
theorem dksX4_isFree_1 : cX4_isFree.data.toList.drop 22 = dktX4_isFree_1 := dk_seg dksX4_isFree_0 22 rfl rfl
theorem dksX4_isFree_2 : cX4_isFree.data.toList.drop 46 = dktX4_isFree_2 := dk_seg dksX4_isFree_1 24 rfl rfl
theorem dX4_isFree_0 : decode cX4_isFree 0 = .ok (.aload_n 0, 1) := dk_42 (dk_at dksX4_isFree_0 0 rfl rfl)
theorem dX4_isFree_1 : decode cX4_isFree 1 = .ok (.aload_n 0, 1) := dk_42 (dk_at dksX4_isFree_0 1 rfl rfl)
theorem dX4_isFree_2 : decode cX4_isFree 2 = .ok (.iload_n 1, 1) := dk_27 (dk_at dksX4_isFree_0 2 rfl rfl)
theorem dX4_isFree_3 : decode cX4_isFree 3 = .ok (.invokevirtual 101, 3) := dk_182 0 101 (dk_at dksX4_isFree_0 3 rfl rfl)
theorem dX4_isFree_6 : decode cX4_isFree 6 = .ok (.ifCond .ne 7, 3) := dk_154 0 7 (dk_at dksX4_isFree_0 6 rfl rfl)
theorem dX4_isFree_9 : decode cX4_isFree 9 = .ok (.iconst 1, 1) := dk_4 (dk_at dksX4_isFree_0 9 rfl rfl)
theorem dX4_isFree_10 : decode cX4_isFree 10 = .ok (.goto 16, 3) := dk_167 0 16 (dk_at dksX4_isFree_0 10 rfl rfl)
theorem dX4_isFree_13 : decode cX4_isFree 13 = .ok (.aload_n 0, 1) := dk_42 (dk_at dksX4_isFree_0 13 rfl rfl)
theorem dX4_isFree_14 : decode cX4_isFree 14 = .ok (.iload_n 2, 1) := dk_28 (dk_at dksX4_isFree_0 14 rfl rfl)
theorem dX4_isFree_15 : decode cX4_isFree 15 = .ok (.invokevirtual 104, 3) := dk_182 0 104 (dk_at dksX4_isFree_0 15 rfl rfl)
theorem dX4_isFree_18 : decode cX4_isFree 18 = .ok (.ifCond .ne 7, 3) := dk_154 0 7 (dk_at dksX4_isFree_0 18 rfl rfl)
theorem dX4_isFree_21 : decode cX4_isFree 21 = .ok (.iconst 2, 1) := dk_5 (dk_at dksX4_isFree_0 21 rfl rfl)
theorem dX4_isFree_22 : decode cX4_isFree 22 = .ok (.goto 4, 3) := dk_167 0 4 (dk_at dksX4_isFree_1 0 rfl rfl)
theorem dX4_isFree_25 : decode cX4_isFree 25 = .ok (.iconst 0, 1) := dk_3 (dk_at dksX4_isFree_1 3 rfl rfl)
theorem dX4_isFree_26 : decode cX4_isFree 26 = .ok (.putfield 39, 3) := dk_181 0 39 (dk_at dksX4_isFree_1 4 rfl rfl)
theorem dX4_isFree_29 : decode cX4_isFree 29 = .ok (.aload_n 0, 1) := dk_42 (dk_at dksX4_isFree_1 7 rfl rfl)
theorem dX4_isFree_30 : decode cX4_isFree 30 = .ok (.getfield 39, 3) := dk_180 0 39 (dk_at dksX4_isFree_1 8 rfl rfl)
theorem dX4_isFree_33 : decode cX4_isFree 33 = .ok (.ifCond .ne 17, 3) := dk_154 0 17 (dk_at dksX4_isFree_1 11 rfl rfl)
theorem dX4_isFree_36 : decode cX4_isFree 36 = .ok (.aload_n 0, 1) := dk_42 (dk_at dksX4_isFree_1 14 rfl rfl)
theorem dX4_isFree_37 : decode cX4_isFree 37 = .ok (.iconst (-1), 1) := dk_2 (dk_at dksX4_isFree_1 15 rfl rfl)
theorem dX4_isFree_38 : decode cX4_isFree 38 = .ok (.iload_n 1, 1) := dk_27 (dk_at dksX4_isFree_1 16 rfl rfl)
theorem dX4_isFree_39 : decode cX4_isFree 39 = .ok (.iload_n 2, 1) := dk_28 (dk_at dksX4_isFree_1 17 rfl rfl)
theorem dX4_isFree_40 : decode cX4_isFree 40 = .ok (.invokevirtual 110, 3) := dk_182 0 110 (dk_at dksX4_isFree_1 18 rfl rfl)
theorem dX4_isFree_43 : decode cX4_isFree 43 = .ok (.ifCond .ne 7, 3) := dk_154 0 7 (dk_at dksX4_isFree_1 21 rfl rfl)
theorem dX4_isFree_46 : decode cX4_isFree 46 = .ok (.iconst 1, 1) := dk_4 (dk_at dksX4_isFree_2 0 rfl rfl)
theorem dX4_isFree_47 : decode cX4_isFree 47 = .ok (.goto 4, 3) := dk_167 0 4 (dk_at dksX4_isFree_2 1 rfl rfl)
theorem dX4_isFree_50 : decode cX4_isFree 50 = .ok (.iconst 0, 1) := dk_3 (dk_at dksX4_isFree_2 4 rfl rfl)
theorem dX4_isFree_51 : decode cX4_isFree 51 = .ok (.ireturn, 1) := dk_172 (dk_at dksX4_isFree_2 5 rfl rfl)
abbrev cX4_firstFree : ByteArray := prog_14_method_60_code
def yX4_firstFree : MethodName := ⟨RX4, "firstFree", "(II)I"⟩
def dkwX4_firstFree_4 : List UInt8 := [167, 0, 4, 29, 172]
abbrev dktX4_firstFree_4 : List UInt8 := dkwX4_firstFree_4 ++ []
def dkwX4_firstFree_3 : List UInt8 := [182, 0, 104, 153, 0, 7, 3, 167, 0, 4, 6, 181, 0, 39, 42, 180, 0, 39, 158, 0, 7, 3]
abbrev dktX4_firstFree_3 : List UInt8 := dkwX4_firstFree_3 ++ dktX4_firstFree_4
def dkwX4_firstFree_2 : List UInt8 := [153, 0, 19, 42, 2, 27, 29, 182, 0, 110, 153, 0, 9, 132, 3, 1, 167, 255, 235, 42, 42, 29]
abbrev dktX4_firstFree_2 : List UInt8 := dkwX4_firstFree_2 ++ dktX4_firstFree_3
def dkwX4_firstFree_1 : List UInt8 := [167, 0, 4, 3, 181, 0, 39, 42, 180, 0, 39, 158, 0, 5, 3, 172, 28, 62, 42, 29, 182, 0, 104]
abbrev dktX4_firstFree_1 : List UInt8 := dkwX4_firstFree_1 ++ dktX4_firstFree_2
def dkwX4_firstFree_0 : List UInt8 := [42, 42, 27, 182, 0, 101, 154, 0, 7, 4, 167, 0, 16, 42, 28, 182, 0, 104, 154, 0, 7, 5]
abbrev dktX4_firstFree_0 : List UInt8 := dkwX4_firstFree_0 ++ dktX4_firstFree_1
theorem dksX4_firstFree_0 : cX4_firstFree.data.toList.drop 0 = dktX4_firstFree_0 := by decide +kernel
theorem dksX4_firstFree_1 : cX4_firstFree.data.toList.drop 22 = dktX4_firstFree_1 := dk_seg dksX4_firstFree_0 22 rfl rfl
theorem dksX4_firstFree_2 : cX4_firstFree.data.toList.drop 45 = dktX4_firstFree_2 := dk_seg dksX4_firstFree_1 23 rfl rfl
theorem dksX4_firstFree_3 : cX4_firstFree.data.toList.drop 67 = dktX4_firstFree_3 := dk_seg dksX4_firstFree_2 22 rfl rfl
theorem dksX4_firstFree_4 : cX4_firstFree.data.toList.drop 89 = dktX4_firstFree_4 := dk_seg dksX4_firstFree_3 22 rfl rfl
theorem dX4_firstFree_0 : decode cX4_firstFree 0 = .ok (.aload_n 0, 1) := dk_42 (dk_at dksX4_firstFree_0 0 rfl rfl)
theorem dX4_firstFree_1 : decode cX4_firstFree 1 = .ok (.aload_n 0, 1) := dk_42 (dk_at dksX4_firstFree_0 1 rfl rfl)
theorem dX4_firstFree_2 : decode cX4_firstFree 2 = .ok (.iload_n 1, 1) := dk_27 (dk_at dksX4_firstFree_0 2 rfl rfl)
theorem dX4_firstFree_3 : decode cX4_firstFree 3 = .ok (.invokevirtual 101, 3) := dk_182 0 101 (dk_at dksX4_firstFree_0 3 rfl rfl)
theorem dX4_firstFree_6 : decode cX4_firstFree 6 = .ok (.ifCond .ne 7, 3) := dk_154 0 7 (dk_at dksX4_firstFree_0 6 rfl rfl)
theorem dX4_firstFree_9 : decode cX4_firstFree 9 = .ok (.iconst 1, 1) := dk_4 (dk_at dksX4_firstFree_0 9 rfl rfl)
theorem dX4_firstFree_10 : decode cX4_firstFree 10 = .ok (.goto 16, 3) := dk_167 0 16 (dk_at dksX4_firstFree_0 10 rfl rfl)
theorem dX4_firstFree_13 : decode cX4_firstFree 13 = .ok (.aload_n 0, 1) := dk_42 (dk_at dksX4_firstFree_0 13 rfl rfl)
theorem dX4_firstFree_14 : decode cX4_firstFree 14 = .ok (.iload_n 2, 1) := dk_28 (dk_at dksX4_firstFree_0 14 rfl rfl)
theorem dX4_firstFree_15 : decode cX4_firstFree 15 = .ok (.invokevirtual 104, 3) := dk_182 0 104 (dk_at dksX4_firstFree_0 15 rfl rfl)
theorem dX4_firstFree_18 : decode cX4_firstFree 18 = .ok (.ifCond .ne 7, 3) := dk_154 0 7 (dk_at dksX4_firstFree_0 18 rfl rfl)
theorem dX4_firstFree_21 : decode cX4_firstFree 21 = .ok (.iconst 2, 1) := dk_5 (dk_at dksX4_firstFree_0 21 rfl rfl)
theorem dX4_firstFree_22 : decode cX4_firstFree 22 = .ok (.goto 4, 3) := dk_167 0 4 (dk_at dksX4_firstFree_1 0 rfl rfl)
theorem dX4_firstFree_25 : decode cX4_firstFree 25 = .ok (.iconst 0, 1) := dk_3 (dk_at dksX4_firstFree_1 3 rfl rfl)
theorem dX4_firstFree_26 : decode cX4_firstFree 26 = .ok (.putfield 39, 3) := dk_181 0 39 (dk_at dksX4_firstFree_1 4 rfl rfl)
theorem dX4_firstFree_29 : decode cX4_firstFree 29 = .ok (.aload_n 0, 1) := dk_42 (dk_at dksX4_firstFree_1 7 rfl rfl)
theorem dX4_firstFree_30 : decode cX4_firstFree 30 = .ok (.getfield 39, 3) := dk_180 0 39 (dk_at dksX4_firstFree_1 8 rfl rfl)
theorem dX4_firstFree_33 : decode cX4_firstFree 33 = .ok (.ifCond .le 5, 3) := dk_158 0 5 (dk_at dksX4_firstFree_1 11 rfl rfl)
theorem dX4_firstFree_36 : decode cX4_firstFree 36 = .ok (.iconst 0, 1) := dk_3 (dk_at dksX4_firstFree_1 14 rfl rfl)
theorem dX4_firstFree_37 : decode cX4_firstFree 37 = .ok (.ireturn, 1) := dk_172 (dk_at dksX4_firstFree_1 15 rfl rfl)
theorem dX4_firstFree_38 : decode cX4_firstFree 38 = .ok (.iload_n 2, 1) := dk_28 (dk_at dksX4_firstFree_1 16 rfl rfl)
theorem dX4_firstFree_39 : decode cX4_firstFree 39 = .ok (.istore_n 3, 1) := dk_62 (dk_at dksX4_firstFree_1 17 rfl rfl)
theorem dX4_firstFree_40 : decode cX4_firstFree 40 = .ok (.aload_n 0, 1) := dk_42 (dk_at dksX4_firstFree_1 18 rfl rfl)
theorem dX4_firstFree_41 : decode cX4_firstFree 41 = .ok (.iload_n 3, 1) := dk_29 (dk_at dksX4_firstFree_1 19 rfl rfl)
theorem dX4_firstFree_42 : decode cX4_firstFree 42 = .ok (.invokevirtual 104, 3) := dk_182 0 104 (dk_at dksX4_firstFree_1 20 rfl rfl)
theorem dX4_firstFree_45 : decode cX4_firstFree 45 = .ok (.ifCond .eq 19, 3) := dk_153 0 19 (dk_at dksX4_firstFree_2 0 rfl rfl)
theorem dX4_firstFree_48 : decode cX4_firstFree 48 = .ok (.aload_n 0, 1) := dk_42 (dk_at dksX4_firstFree_2 3 rfl rfl)
theorem dX4_firstFree_49 : decode cX4_firstFree 49 = .ok (.iconst (-1), 1) := dk_2 (dk_at dksX4_firstFree_2 4 rfl rfl)
theorem dX4_firstFree_50 : decode cX4_firstFree 50 = .ok (.iload_n 1, 1) := dk_27 (dk_at dksX4_firstFree_2 5 rfl rfl)
theorem dX4_firstFree_51 : decode cX4_firstFree 51 = .ok (.iload_n 3, 1) := dk_29 (dk_at dksX4_firstFree_2 6 rfl rfl)
theorem dX4_firstFree_52 : decode cX4_firstFree 52 = .ok (.invokevirtual 110, 3) := dk_182 0 110 (dk_at dksX4_firstFree_2 7 rfl rfl)
theorem dX4_firstFree_55 : decode cX4_firstFree 55 = .ok (.ifCond .eq 9, 3) := dk_153 0 9 (dk_at dksX4_firstFree_2 10 rfl rfl)
theorem dX4_firstFree_58 : decode cX4_firstFree 58 = .ok (.iinc 3 1, 3) := dk_132 3 1 (dk_at dksX4_firstFree_2 13 rfl rfl)
theorem dX4_firstFree_61 : decode cX4_firstFree 61 = .ok (.goto (-21), 3) := dk_167 255 235 (dk_at dksX4_firstFree_2 16 rfl rfl)
theorem dX4_firstFree_64 : decode cX4_firstFree 64 = .ok (.aload_n 0, 1) := dk_42 (dk_at dksX4_firstFree_2 19 rfl rfl)
theorem dX4_firstFree_65 : decode cX4_firstFree 65 = .ok (.aload_n 0, 1) := dk_42 (dk_at dksX4_firstFree_2 20 rfl rfl)
theorem dX4_firstFree_66 : decode cX4_firstFree 66 = .ok (.iload_n 3, 1) := dk_29 (dk_at dksX4_firstFree_2 21 rfl rfl)
theorem dX4_firstFree_67 : decode cX4_firstFree 67 = .ok (.invokevirtual 104, 3) := dk_182 0 104 (dk_at dksX4_firstFree_3 0 rfl rfl)
theorem dX4_firstFree_70 : decode cX4_firstFree 70 = .ok (.ifCond .eq 7, 3) := dk_153 0 7 (dk_at dksX4_firstFree_3 3 rfl rfl)
theorem dX4_firstFree_73 : decode cX4_firstFree 73 = .ok (.iconst 0, 1) := dk_3 (dk_at dksX4_firstFree_3 6 rfl rfl)
theorem dX4_firstFree_74 : decode cX4_firstFree 74 = .ok (.goto 4, 3) := dk_167 0 4 (dk_at dksX4_firstFree_3 7 rfl rfl)
theorem dX4_firstFree_77 : decode cX4_firstFree 77 = .ok (.iconst 3, 1) := dk_6 (dk_at dksX4_firstFree_3 10 rfl rfl)
theorem dX4_firstFree_78 : decode cX4_firstFree 78 = .ok (.putfield 39, 3) := dk_181 0 39 (dk_at dksX4_firstFree_3 11 rfl rfl)
theorem dX4_firstFree_81 : decode cX4_firstFree 81 = .ok (.aload_n 0, 1) := dk_42 (dk_at dksX4_firstFree_3 14 rfl rfl)
theorem dX4_firstFree_82 : decode cX4_firstFree 82 = .ok (.getfield 39, 3) := dk_180 0 39 (dk_at dksX4_firstFree_3 15 rfl rfl)
theorem dX4_firstFree_85 : decode cX4_firstFree 85 = .ok (.ifCond .le 7, 3) := dk_158 0 7 (dk_at dksX4_firstFree_3 18 rfl rfl)
theorem dX4_firstFree_88 : decode cX4_firstFree 88 = .ok (.iconst 0, 1) := dk_3 (dk_at dksX4_firstFree_3 21 rfl rfl)
theorem dX4_firstFree_89 : decode cX4_firstFree 89 = .ok (.goto 4, 3) := dk_167 0 4 (dk_at dksX4_firstFree_4 0 rfl rfl)
theorem dX4_firstFree_92 : decode cX4_firstFree 92 = .ok (.iload_n 3, 1) := dk_29 (dk_at dksX4_firstFree_4 3 rfl rfl)
theorem dX4_firstFree_93 : decode cX4_firstFree 93 = .ok (.ireturn, 1) := dk_172 (dk_at dksX4_firstFree_4 4 rfl rfl)
abbrev cX4_firstFreeByGaps : ByteArray := prog_14_method_61_code
def yX4_firstFreeByGaps : MethodName := ⟨RX4, "firstFreeByGaps", "(II)I"⟩
def dkwX4_firstFreeByGaps_0 : List UInt8 := [42, 27, 28, 182, 0, 164, 172]
abbrev dktX4_firstFreeByGaps_0 : List UInt8 := dkwX4_firstFreeByGaps_0 ++ []
theorem dksX4_firstFreeByGaps_0 : cX4_firstFreeByGaps.data.toList.drop 0 = dktX4_firstFreeByGaps_0 := by decide +kernel
theorem dX4_firstFreeByGaps_0 : decode cX4_firstFreeByGaps 0 = .ok (.aload_n 0, 1) := dk_42 (dk_at dksX4_firstFreeByGaps_0 0 rfl rfl)
theorem dX4_firstFreeByGaps_1 : decode cX4_firstFreeByGaps 1 = .ok (.iload_n 1, 1) := dk_27 (dk_at dksX4_firstFreeByGaps_0 1 rfl rfl)
theorem dX4_firstFreeByGaps_2 : decode cX4_firstFreeByGaps 2 = .ok (.iload_n 2, 1) := dk_28 (dk_at dksX4_firstFreeByGaps_0 2 rfl rfl)
theorem dX4_firstFreeByGaps_3 : decode cX4_firstFreeByGaps 3 = .ok (.invokevirtual 164, 3) := dk_182 0 164 (dk_at dksX4_firstFreeByGaps_0 3 rfl rfl)
theorem dX4_firstFreeByGaps_6 : decode cX4_firstFreeByGaps 6 = .ok (.ireturn, 1) := dk_172 (dk_at dksX4_firstFreeByGaps_0 6 rfl rfl)
abbrev cX4_mostWatched : ByteArray := prog_14_method_62_code
def yX4_mostWatched : MethodName := ⟨RX4, "mostWatched", "()I"⟩
def dkwX4_mostWatched_4 : List UInt8 := [167, 255, 172, 27, 172]
abbrev dktX4_mostWatched_4 : List UInt8 := dkwX4_mostWatched_4 ++ []
def dkwX4_mostWatched_3 : List UInt8 := [162, 0, 7, 4, 167, 0, 4, 3, 62, 27, 29, 153, 0, 7, 4, 167, 0, 4, 3, 96, 60, 21, 4, 61]
abbrev dktX4_mostWatched_3 : List UInt8 := dkwX4_mostWatched_3 ++ dktX4_mostWatched_4
def dkwX4_mostWatched_2 : List UInt8 := [182, 0, 90, 184, 0, 55, 167, 0, 5, 21, 4, 54, 4, 132, 5, 1, 167, 255, 214, 21, 4, 18, 169]
abbrev dktX4_mostWatched_2 : List UInt8 := dkwX4_mostWatched_2 ++ dktX4_mostWatched_3
def dkwX4_mostWatched_1 : List UInt8 := [42, 180, 0, 9, 5, 46, 162, 0, 37, 42, 21, 5, 182, 0, 67, 28, 161, 0, 17, 21, 4, 42, 21, 5]
abbrev dktX4_mostWatched_1 : List UInt8 := dkwX4_mostWatched_1 ++ dktX4_mostWatched_2
def dkwX4_mostWatched_0 : List UInt8 := [42, 3, 181, 0, 39, 3, 60, 2, 61, 4, 62, 29, 153, 0, 86, 18, 169, 54, 4, 3, 54, 5, 21, 5]
abbrev dktX4_mostWatched_0 : List UInt8 := dkwX4_mostWatched_0 ++ dktX4_mostWatched_1
theorem dksX4_mostWatched_0 : cX4_mostWatched.data.toList.drop 0 = dktX4_mostWatched_0 := by decide +kernel
theorem dksX4_mostWatched_1 : cX4_mostWatched.data.toList.drop 24 = dktX4_mostWatched_1 := dk_seg dksX4_mostWatched_0 24 rfl rfl
theorem dksX4_mostWatched_2 : cX4_mostWatched.data.toList.drop 48 = dktX4_mostWatched_2 := dk_seg dksX4_mostWatched_1 24 rfl rfl
theorem dksX4_mostWatched_3 : cX4_mostWatched.data.toList.drop 71 = dktX4_mostWatched_3 := dk_seg dksX4_mostWatched_2 23 rfl rfl
theorem dksX4_mostWatched_4 : cX4_mostWatched.data.toList.drop 95 = dktX4_mostWatched_4 := dk_seg dksX4_mostWatched_3 24 rfl rfl
theorem dX4_mostWatched_0 : decode cX4_mostWatched 0 = .ok (.aload_n 0, 1) := dk_42 (dk_at dksX4_mostWatched_0 0 rfl rfl)
theorem dX4_mostWatched_1 : decode cX4_mostWatched 1 = .ok (.iconst 0, 1) := dk_3 (dk_at dksX4_mostWatched_0 1 rfl rfl)
theorem dX4_mostWatched_2 : decode cX4_mostWatched 2 = .ok (.putfield 39, 3) := dk_181 0 39 (dk_at dksX4_mostWatched_0 2 rfl rfl)
theorem dX4_mostWatched_5 : decode cX4_mostWatched 5 = .ok (.iconst 0, 1) := dk_3 (dk_at dksX4_mostWatched_0 5 rfl rfl)
theorem dX4_mostWatched_6 : decode cX4_mostWatched 6 = .ok (.istore_n 1, 1) := dk_60 (dk_at dksX4_mostWatched_0 6 rfl rfl)
theorem dX4_mostWatched_7 : decode cX4_mostWatched 7 = .ok (.iconst (-1), 1) := dk_2 (dk_at dksX4_mostWatched_0 7 rfl rfl)
theorem dX4_mostWatched_8 : decode cX4_mostWatched 8 = .ok (.istore_n 2, 1) := dk_61 (dk_at dksX4_mostWatched_0 8 rfl rfl)
theorem dX4_mostWatched_9 : decode cX4_mostWatched 9 = .ok (.iconst 1, 1) := dk_4 (dk_at dksX4_mostWatched_0 9 rfl rfl)
theorem dX4_mostWatched_10 : decode cX4_mostWatched 10 = .ok (.istore_n 3, 1) := dk_62 (dk_at dksX4_mostWatched_0 10 rfl rfl)
theorem dX4_mostWatched_11 : decode cX4_mostWatched 11 = .ok (.iload_n 3, 1) := dk_29 (dk_at dksX4_mostWatched_0 11 rfl rfl)
theorem dX4_mostWatched_12 : decode cX4_mostWatched 12 = .ok (.ifCond .eq 86, 3) := dk_153 0 86 (dk_at dksX4_mostWatched_0 12 rfl rfl)
theorem dX4_mostWatched_15 : decode cX4_mostWatched 15 = .ok (.ldc 169, 2) := dk_18 169 (dk_at dksX4_mostWatched_0 15 rfl rfl)
theorem dX4_mostWatched_17 : decode cX4_mostWatched 17 = .ok (.istore 4, 2) := dk_54 4 (dk_at dksX4_mostWatched_0 17 rfl rfl)
theorem dX4_mostWatched_19 : decode cX4_mostWatched 19 = .ok (.iconst 0, 1) := dk_3 (dk_at dksX4_mostWatched_0 19 rfl rfl)
theorem dX4_mostWatched_20 : decode cX4_mostWatched 20 = .ok (.istore 5, 2) := dk_54 5 (dk_at dksX4_mostWatched_0 20 rfl rfl)
theorem dX4_mostWatched_22 : decode cX4_mostWatched 22 = .ok (.iload 5, 2) := dk_21 5 (dk_at dksX4_mostWatched_0 22 rfl rfl)
theorem dX4_mostWatched_24 : decode cX4_mostWatched 24 = .ok (.aload_n 0, 1) := dk_42 (dk_at dksX4_mostWatched_1 0 rfl rfl)
theorem dX4_mostWatched_25 : decode cX4_mostWatched 25 = .ok (.getfield 9, 3) := dk_180 0 9 (dk_at dksX4_mostWatched_1 1 rfl rfl)
theorem dX4_mostWatched_28 : decode cX4_mostWatched 28 = .ok (.iconst 2, 1) := dk_5 (dk_at dksX4_mostWatched_1 4 rfl rfl)
theorem dX4_mostWatched_29 : decode cX4_mostWatched 29 = .ok (.iaload, 1) := dk_46 (dk_at dksX4_mostWatched_1 5 rfl rfl)
theorem dX4_mostWatched_30 : decode cX4_mostWatched 30 = .ok (.if_icmp .ge 37, 3) := dk_162 0 37 (dk_at dksX4_mostWatched_1 6 rfl rfl)
theorem dX4_mostWatched_33 : decode cX4_mostWatched 33 = .ok (.aload_n 0, 1) := dk_42 (dk_at dksX4_mostWatched_1 9 rfl rfl)
theorem dX4_mostWatched_34 : decode cX4_mostWatched 34 = .ok (.iload 5, 2) := dk_21 5 (dk_at dksX4_mostWatched_1 10 rfl rfl)
theorem dX4_mostWatched_36 : decode cX4_mostWatched 36 = .ok (.invokevirtual 67, 3) := dk_182 0 67 (dk_at dksX4_mostWatched_1 12 rfl rfl)
theorem dX4_mostWatched_39 : decode cX4_mostWatched 39 = .ok (.iload_n 2, 1) := dk_28 (dk_at dksX4_mostWatched_1 15 rfl rfl)
theorem dX4_mostWatched_40 : decode cX4_mostWatched 40 = .ok (.if_icmp .lt 17, 3) := dk_161 0 17 (dk_at dksX4_mostWatched_1 16 rfl rfl)
theorem dX4_mostWatched_43 : decode cX4_mostWatched 43 = .ok (.iload 4, 2) := dk_21 4 (dk_at dksX4_mostWatched_1 19 rfl rfl)
theorem dX4_mostWatched_45 : decode cX4_mostWatched 45 = .ok (.aload_n 0, 1) := dk_42 (dk_at dksX4_mostWatched_1 21 rfl rfl)
theorem dX4_mostWatched_46 : decode cX4_mostWatched 46 = .ok (.iload 5, 2) := dk_21 5 (dk_at dksX4_mostWatched_1 22 rfl rfl)
theorem dX4_mostWatched_48 : decode cX4_mostWatched 48 = .ok (.invokevirtual 90, 3) := dk_182 0 90 (dk_at dksX4_mostWatched_2 0 rfl rfl)
theorem dX4_mostWatched_51 : decode cX4_mostWatched 51 = .ok (.invokestatic 55, 3) := dk_184 0 55 (dk_at dksX4_mostWatched_2 3 rfl rfl)
theorem dX4_mostWatched_54 : decode cX4_mostWatched 54 = .ok (.goto 5, 3) := dk_167 0 5 (dk_at dksX4_mostWatched_2 6 rfl rfl)
theorem dX4_mostWatched_57 : decode cX4_mostWatched 57 = .ok (.iload 4, 2) := dk_21 4 (dk_at dksX4_mostWatched_2 9 rfl rfl)
theorem dX4_mostWatched_59 : decode cX4_mostWatched 59 = .ok (.istore 4, 2) := dk_54 4 (dk_at dksX4_mostWatched_2 11 rfl rfl)
theorem dX4_mostWatched_61 : decode cX4_mostWatched 61 = .ok (.iinc 5 1, 3) := dk_132 5 1 (dk_at dksX4_mostWatched_2 13 rfl rfl)
theorem dX4_mostWatched_64 : decode cX4_mostWatched 64 = .ok (.goto (-42), 3) := dk_167 255 214 (dk_at dksX4_mostWatched_2 16 rfl rfl)
theorem dX4_mostWatched_67 : decode cX4_mostWatched 67 = .ok (.iload 4, 2) := dk_21 4 (dk_at dksX4_mostWatched_2 19 rfl rfl)
theorem dX4_mostWatched_69 : decode cX4_mostWatched 69 = .ok (.ldc 169, 2) := dk_18 169 (dk_at dksX4_mostWatched_2 21 rfl rfl)
theorem dX4_mostWatched_71 : decode cX4_mostWatched 71 = .ok (.if_icmp .ge 7, 3) := dk_162 0 7 (dk_at dksX4_mostWatched_3 0 rfl rfl)
theorem dX4_mostWatched_74 : decode cX4_mostWatched 74 = .ok (.iconst 1, 1) := dk_4 (dk_at dksX4_mostWatched_3 3 rfl rfl)
theorem dX4_mostWatched_75 : decode cX4_mostWatched 75 = .ok (.goto 4, 3) := dk_167 0 4 (dk_at dksX4_mostWatched_3 4 rfl rfl)
theorem dX4_mostWatched_78 : decode cX4_mostWatched 78 = .ok (.iconst 0, 1) := dk_3 (dk_at dksX4_mostWatched_3 7 rfl rfl)
theorem dX4_mostWatched_79 : decode cX4_mostWatched 79 = .ok (.istore_n 3, 1) := dk_62 (dk_at dksX4_mostWatched_3 8 rfl rfl)
theorem dX4_mostWatched_80 : decode cX4_mostWatched 80 = .ok (.iload_n 1, 1) := dk_27 (dk_at dksX4_mostWatched_3 9 rfl rfl)
theorem dX4_mostWatched_81 : decode cX4_mostWatched 81 = .ok (.iload_n 3, 1) := dk_29 (dk_at dksX4_mostWatched_3 10 rfl rfl)
theorem dX4_mostWatched_82 : decode cX4_mostWatched 82 = .ok (.ifCond .eq 7, 3) := dk_153 0 7 (dk_at dksX4_mostWatched_3 11 rfl rfl)
theorem dX4_mostWatched_85 : decode cX4_mostWatched 85 = .ok (.iconst 1, 1) := dk_4 (dk_at dksX4_mostWatched_3 14 rfl rfl)
theorem dX4_mostWatched_86 : decode cX4_mostWatched 86 = .ok (.goto 4, 3) := dk_167 0 4 (dk_at dksX4_mostWatched_3 15 rfl rfl)
theorem dX4_mostWatched_89 : decode cX4_mostWatched 89 = .ok (.iconst 0, 1) := dk_3 (dk_at dksX4_mostWatched_3 18 rfl rfl)
theorem dX4_mostWatched_90 : decode cX4_mostWatched 90 = .ok (.iadd, 1) := dk_96 (dk_at dksX4_mostWatched_3 19 rfl rfl)
theorem dX4_mostWatched_91 : decode cX4_mostWatched 91 = .ok (.istore_n 1, 1) := dk_60 (dk_at dksX4_mostWatched_3 20 rfl rfl)
theorem dX4_mostWatched_92 : decode cX4_mostWatched 92 = .ok (.iload 4, 2) := dk_21 4 (dk_at dksX4_mostWatched_3 21 rfl rfl)
theorem dX4_mostWatched_94 : decode cX4_mostWatched 94 = .ok (.istore_n 2, 1) := dk_61 (dk_at dksX4_mostWatched_3 23 rfl rfl)
theorem dX4_mostWatched_95 : decode cX4_mostWatched 95 = .ok (.goto (-84), 3) := dk_167 255 172 (dk_at dksX4_mostWatched_4 0 rfl rfl)
theorem dX4_mostWatched_98 : decode cX4_mostWatched 98 = .ok (.iload_n 1, 1) := dk_27 (dk_at dksX4_mostWatched_4 3 rfl rfl)
theorem dX4_mostWatched_99 : decode cX4_mostWatched 99 = .ok (.ireturn, 1) := dk_172 (dk_at dksX4_mostWatched_4 4 rfl rfl)
abbrev cX4_mostWatchedByTable : ByteArray := prog_14_method_63_code
def yX4_mostWatchedByTable : MethodName := ⟨RX4, "mostWatchedByTable", "()I"⟩
theorem dX4_mostWatchedByTable_0 : decode cX4_mostWatchedByTable 0 = .ok (.aload_n 0, 1) := by decide +kernel
theorem dX4_mostWatchedByTable_1 : decode cX4_mostWatchedByTable 1 = .ok (.invokevirtual 170, 3) := by decide +kernel
theorem dX4_mostWatchedByTable_4 : decode cX4_mostWatchedByTable 4 = .ok (.ireturn, 1) := by decide +kernel
abbrev cX4_mostAtOnce : ByteArray := prog_14_method_64_code
def yX4_mostAtOnce : MethodName := ⟨RX4, "mostAtOnce", "()I"⟩
def dkwX4_mostAtOnce_3 : List UInt8 := [167, 255, 209, 27, 29, 184, 0, 61, 60, 132, 2, 1, 167, 255, 182, 27, 172]
abbrev dktX4_mostAtOnce_3 : List UInt8 := dkwX4_mostAtOnce_3 ++ []
def dkwX4_mostAtOnce_2 : List UInt8 := [21, 4, 182, 0, 90, 4, 100, 184, 0, 51, 153, 0, 7, 4, 167, 0, 4, 3, 96, 62, 132, 4, 1]
abbrev dktX4_mostAtOnce_2 : List UInt8 := dkwX4_mostAtOnce_2 ++ dktX4_mostAtOnce_3
def dkwX4_mostAtOnce_1 : List UInt8 := [21, 4, 42, 180, 0, 9, 5, 46, 162, 0, 42, 29, 42, 28, 182, 0, 67, 42, 21, 4, 182, 0, 67, 42]
abbrev dktX4_mostAtOnce_1 : List UInt8 := dkwX4_mostAtOnce_1 ++ dktX4_mostAtOnce_2
def dkwX4_mostAtOnce_0 : List UInt8 := [42, 3, 181, 0, 39, 3, 60, 3, 61, 28, 42, 180, 0, 9, 5, 46, 162, 0, 70, 3, 62, 3, 54, 4]
abbrev dktX4_mostAtOnce_0 : List UInt8 := dkwX4_mostAtOnce_0 ++ dktX4_mostAtOnce_1
theorem dksX4_mostAtOnce_0 : cX4_mostAtOnce.data.toList.drop 0 = dktX4_mostAtOnce_0 := by decide +kernel
theorem dksX4_mostAtOnce_1 : cX4_mostAtOnce.data.toList.drop 24 = dktX4_mostAtOnce_1 := dk_seg dksX4_mostAtOnce_0 24 rfl rfl
theorem dksX4_mostAtOnce_2 : cX4_mostAtOnce.data.toList.drop 48 = dktX4_mostAtOnce_2 := dk_seg dksX4_mostAtOnce_1 24 rfl rfl
theorem dksX4_mostAtOnce_3 : cX4_mostAtOnce.data.toList.drop 71 = dktX4_mostAtOnce_3 := dk_seg dksX4_mostAtOnce_2 23 rfl rfl
theorem dX4_mostAtOnce_0 : decode cX4_mostAtOnce 0 = .ok (.aload_n 0, 1) := dk_42 (dk_at dksX4_mostAtOnce_0 0 rfl rfl)
theorem dX4_mostAtOnce_1 : decode cX4_mostAtOnce 1 = .ok (.iconst 0, 1) := dk_3 (dk_at dksX4_mostAtOnce_0 1 rfl rfl)
theorem dX4_mostAtOnce_2 : decode cX4_mostAtOnce 2 = .ok (.putfield 39, 3) := dk_181 0 39 (dk_at dksX4_mostAtOnce_0 2 rfl rfl)
theorem dX4_mostAtOnce_5 : decode cX4_mostAtOnce 5 = .ok (.iconst 0, 1) := dk_3 (dk_at dksX4_mostAtOnce_0 5 rfl rfl)
theorem dX4_mostAtOnce_6 : decode cX4_mostAtOnce 6 = .ok (.istore_n 1, 1) := dk_60 (dk_at dksX4_mostAtOnce_0 6 rfl rfl)
theorem dX4_mostAtOnce_7 : decode cX4_mostAtOnce 7 = .ok (.iconst 0, 1) := dk_3 (dk_at dksX4_mostAtOnce_0 7 rfl rfl)
theorem dX4_mostAtOnce_8 : decode cX4_mostAtOnce 8 = .ok (.istore_n 2, 1) := dk_61 (dk_at dksX4_mostAtOnce_0 8 rfl rfl)
theorem dX4_mostAtOnce_9 : decode cX4_mostAtOnce 9 = .ok (.iload_n 2, 1) := dk_28 (dk_at dksX4_mostAtOnce_0 9 rfl rfl)
theorem dX4_mostAtOnce_10 : decode cX4_mostAtOnce 10 = .ok (.aload_n 0, 1) := dk_42 (dk_at dksX4_mostAtOnce_0 10 rfl rfl)
theorem dX4_mostAtOnce_11 : decode cX4_mostAtOnce 11 = .ok (.getfield 9, 3) := dk_180 0 9 (dk_at dksX4_mostAtOnce_0 11 rfl rfl)
theorem dX4_mostAtOnce_14 : decode cX4_mostAtOnce 14 = .ok (.iconst 2, 1) := dk_5 (dk_at dksX4_mostAtOnce_0 14 rfl rfl)
theorem dX4_mostAtOnce_15 : decode cX4_mostAtOnce 15 = .ok (.iaload, 1) := dk_46 (dk_at dksX4_mostAtOnce_0 15 rfl rfl)
theorem dX4_mostAtOnce_16 : decode cX4_mostAtOnce 16 = .ok (.if_icmp .ge 70, 3) := dk_162 0 70 (dk_at dksX4_mostAtOnce_0 16 rfl rfl)
theorem dX4_mostAtOnce_19 : decode cX4_mostAtOnce 19 = .ok (.iconst 0, 1) := dk_3 (dk_at dksX4_mostAtOnce_0 19 rfl rfl)
theorem dX4_mostAtOnce_20 : decode cX4_mostAtOnce 20 = .ok (.istore_n 3, 1) := dk_62 (dk_at dksX4_mostAtOnce_0 20 rfl rfl)
theorem dX4_mostAtOnce_21 : decode cX4_mostAtOnce 21 = .ok (.iconst 0, 1) := dk_3 (dk_at dksX4_mostAtOnce_0 21 rfl rfl)
theorem dX4_mostAtOnce_22 : decode cX4_mostAtOnce 22 = .ok (.istore 4, 2) := dk_54 4 (dk_at dksX4_mostAtOnce_0 22 rfl rfl)
theorem dX4_mostAtOnce_24 : decode cX4_mostAtOnce 24 = .ok (.iload 4, 2) := dk_21 4 (dk_at dksX4_mostAtOnce_1 0 rfl rfl)
theorem dX4_mostAtOnce_26 : decode cX4_mostAtOnce 26 = .ok (.aload_n 0, 1) := dk_42 (dk_at dksX4_mostAtOnce_1 2 rfl rfl)
theorem dX4_mostAtOnce_27 : decode cX4_mostAtOnce 27 = .ok (.getfield 9, 3) := dk_180 0 9 (dk_at dksX4_mostAtOnce_1 3 rfl rfl)
theorem dX4_mostAtOnce_30 : decode cX4_mostAtOnce 30 = .ok (.iconst 2, 1) := dk_5 (dk_at dksX4_mostAtOnce_1 6 rfl rfl)
theorem dX4_mostAtOnce_31 : decode cX4_mostAtOnce 31 = .ok (.iaload, 1) := dk_46 (dk_at dksX4_mostAtOnce_1 7 rfl rfl)
theorem dX4_mostAtOnce_32 : decode cX4_mostAtOnce 32 = .ok (.if_icmp .ge 42, 3) := dk_162 0 42 (dk_at dksX4_mostAtOnce_1 8 rfl rfl)
theorem dX4_mostAtOnce_35 : decode cX4_mostAtOnce 35 = .ok (.iload_n 3, 1) := dk_29 (dk_at dksX4_mostAtOnce_1 11 rfl rfl)
theorem dX4_mostAtOnce_36 : decode cX4_mostAtOnce 36 = .ok (.aload_n 0, 1) := dk_42 (dk_at dksX4_mostAtOnce_1 12 rfl rfl)
theorem dX4_mostAtOnce_37 : decode cX4_mostAtOnce 37 = .ok (.iload_n 2, 1) := dk_28 (dk_at dksX4_mostAtOnce_1 13 rfl rfl)
theorem dX4_mostAtOnce_38 : decode cX4_mostAtOnce 38 = .ok (.invokevirtual 67, 3) := dk_182 0 67 (dk_at dksX4_mostAtOnce_1 14 rfl rfl)
theorem dX4_mostAtOnce_41 : decode cX4_mostAtOnce 41 = .ok (.aload_n 0, 1) := dk_42 (dk_at dksX4_mostAtOnce_1 17 rfl rfl)
theorem dX4_mostAtOnce_42 : decode cX4_mostAtOnce 42 = .ok (.iload 4, 2) := dk_21 4 (dk_at dksX4_mostAtOnce_1 18 rfl rfl)
theorem dX4_mostAtOnce_44 : decode cX4_mostAtOnce 44 = .ok (.invokevirtual 67, 3) := dk_182 0 67 (dk_at dksX4_mostAtOnce_1 20 rfl rfl)
theorem dX4_mostAtOnce_47 : decode cX4_mostAtOnce 47 = .ok (.aload_n 0, 1) := dk_42 (dk_at dksX4_mostAtOnce_1 23 rfl rfl)
theorem dX4_mostAtOnce_48 : decode cX4_mostAtOnce 48 = .ok (.iload 4, 2) := dk_21 4 (dk_at dksX4_mostAtOnce_2 0 rfl rfl)
theorem dX4_mostAtOnce_50 : decode cX4_mostAtOnce 50 = .ok (.invokevirtual 90, 3) := dk_182 0 90 (dk_at dksX4_mostAtOnce_2 2 rfl rfl)
theorem dX4_mostAtOnce_53 : decode cX4_mostAtOnce 53 = .ok (.iconst 1, 1) := dk_4 (dk_at dksX4_mostAtOnce_2 5 rfl rfl)
theorem dX4_mostAtOnce_54 : decode cX4_mostAtOnce 54 = .ok (.isub, 1) := dk_100 (dk_at dksX4_mostAtOnce_2 6 rfl rfl)
theorem dX4_mostAtOnce_55 : decode cX4_mostAtOnce 55 = .ok (.invokestatic 51, 3) := dk_184 0 51 (dk_at dksX4_mostAtOnce_2 7 rfl rfl)
theorem dX4_mostAtOnce_58 : decode cX4_mostAtOnce 58 = .ok (.ifCond .eq 7, 3) := dk_153 0 7 (dk_at dksX4_mostAtOnce_2 10 rfl rfl)
theorem dX4_mostAtOnce_61 : decode cX4_mostAtOnce 61 = .ok (.iconst 1, 1) := dk_4 (dk_at dksX4_mostAtOnce_2 13 rfl rfl)
theorem dX4_mostAtOnce_62 : decode cX4_mostAtOnce 62 = .ok (.goto 4, 3) := dk_167 0 4 (dk_at dksX4_mostAtOnce_2 14 rfl rfl)
theorem dX4_mostAtOnce_65 : decode cX4_mostAtOnce 65 = .ok (.iconst 0, 1) := dk_3 (dk_at dksX4_mostAtOnce_2 17 rfl rfl)
theorem dX4_mostAtOnce_66 : decode cX4_mostAtOnce 66 = .ok (.iadd, 1) := dk_96 (dk_at dksX4_mostAtOnce_2 18 rfl rfl)
theorem dX4_mostAtOnce_67 : decode cX4_mostAtOnce 67 = .ok (.istore_n 3, 1) := dk_62 (dk_at dksX4_mostAtOnce_2 19 rfl rfl)
theorem dX4_mostAtOnce_68 : decode cX4_mostAtOnce 68 = .ok (.iinc 4 1, 3) := dk_132 4 1 (dk_at dksX4_mostAtOnce_2 20 rfl rfl)
theorem dX4_mostAtOnce_71 : decode cX4_mostAtOnce 71 = .ok (.goto (-47), 3) := dk_167 255 209 (dk_at dksX4_mostAtOnce_3 0 rfl rfl)
theorem dX4_mostAtOnce_74 : decode cX4_mostAtOnce 74 = .ok (.iload_n 1, 1) := dk_27 (dk_at dksX4_mostAtOnce_3 3 rfl rfl)
theorem dX4_mostAtOnce_75 : decode cX4_mostAtOnce 75 = .ok (.iload_n 3, 1) := dk_29 (dk_at dksX4_mostAtOnce_3 4 rfl rfl)
theorem dX4_mostAtOnce_76 : decode cX4_mostAtOnce 76 = .ok (.invokestatic 61, 3) := dk_184 0 61 (dk_at dksX4_mostAtOnce_3 5 rfl rfl)
theorem dX4_mostAtOnce_79 : decode cX4_mostAtOnce 79 = .ok (.istore_n 1, 1) := dk_60 (dk_at dksX4_mostAtOnce_3 8 rfl rfl)
theorem dX4_mostAtOnce_80 : decode cX4_mostAtOnce 80 = .ok (.iinc 2 1, 3) := dk_132 2 1 (dk_at dksX4_mostAtOnce_3 9 rfl rfl)
theorem dX4_mostAtOnce_83 : decode cX4_mostAtOnce 83 = .ok (.goto (-74), 3) := dk_167 255 182 (dk_at dksX4_mostAtOnce_3 12 rfl rfl)
theorem dX4_mostAtOnce_86 : decode cX4_mostAtOnce 86 = .ok (.iload_n 1, 1) := dk_27 (dk_at dksX4_mostAtOnce_3 15 rfl rfl)
theorem dX4_mostAtOnce_87 : decode cX4_mostAtOnce 87 = .ok (.ireturn, 1) := dk_172 (dk_at dksX4_mostAtOnce_3 16 rfl rfl)
abbrev cX4_mostAtOnceBySweep : ByteArray := prog_14_method_65_code
def yX4_mostAtOnceBySweep : MethodName := ⟨RX4, "mostAtOnceBySweep", "()I"⟩
theorem dX4_mostAtOnceBySweep_0 : decode cX4_mostAtOnceBySweep 0 = .ok (.aload_n 0, 1) := by decide +kernel
theorem dX4_mostAtOnceBySweep_1 : decode cX4_mostAtOnceBySweep 1 = .ok (.invokevirtual 173, 3) := by decide +kernel
theorem dX4_mostAtOnceBySweep_4 : decode cX4_mostAtOnceBySweep 4 = .ok (.ireturn, 1) := by decide +kernel
abbrev cX4_finishCount : ByteArray := prog_14_method_67_code
def yX4_finishCount : MethodName := ⟨RX4, "finishCount", "()I"⟩
def dkwX4_finishCount_0 : List UInt8 := [42, 3, 181, 0, 39, 42, 180, 0, 9, 7, 46, 172]
abbrev dktX4_finishCount_0 : List UInt8 := dkwX4_finishCount_0 ++ []
theorem dksX4_finishCount_0 : cX4_finishCount.data.toList.drop 0 = dktX4_finishCount_0 := by decide +kernel
theorem dX4_finishCount_0 : decode cX4_finishCount 0 = .ok (.aload_n 0, 1) := dk_42 (dk_at dksX4_finishCount_0 0 rfl rfl)
theorem dX4_finishCount_1 : decode cX4_finishCount 1 = .ok (.iconst 0, 1) := dk_3 (dk_at dksX4_finishCount_0 1 rfl rfl)
theorem dX4_finishCount_2 : decode cX4_finishCount 2 = .ok (.putfield 39, 3) := dk_181 0 39 (dk_at dksX4_finishCount_0 2 rfl rfl)
theorem dX4_finishCount_5 : decode cX4_finishCount 5 = .ok (.aload_n 0, 1) := dk_42 (dk_at dksX4_finishCount_0 5 rfl rfl)
theorem dX4_finishCount_6 : decode cX4_finishCount 6 = .ok (.getfield 9, 3) := dk_180 0 9 (dk_at dksX4_finishCount_0 6 rfl rfl)
theorem dX4_finishCount_9 : decode cX4_finishCount 9 = .ok (.iconst 4, 1) := dk_7 (dk_at dksX4_finishCount_0 9 rfl rfl)
theorem dX4_finishCount_10 : decode cX4_finishCount 10 = .ok (.iaload, 1) := dk_46 (dk_at dksX4_finishCount_0 10 rfl rfl)
theorem dX4_finishCount_11 : decode cX4_finishCount 11 = .ok (.ireturn, 1) := dk_172 (dk_at dksX4_finishCount_0 11 rfl rfl)
abbrev cX4_finishedGuest : ByteArray := prog_14_method_68_code
def yX4_finishedGuest : MethodName := ⟨RX4, "finishedGuest", "(I)I"⟩
def dkwX4_finishedGuest_0 : List UInt8 := [42, 27, 3, 182, 0, 176, 172]
abbrev dktX4_finishedGuest_0 : List UInt8 := dkwX4_finishedGuest_0 ++ []
theorem dksX4_finishedGuest_0 : cX4_finishedGuest.data.toList.drop 0 = dktX4_finishedGuest_0 := by decide +kernel
theorem dX4_finishedGuest_0 : decode cX4_finishedGuest 0 = .ok (.aload_n 0, 1) := dk_42 (dk_at dksX4_finishedGuest_0 0 rfl rfl)
theorem dX4_finishedGuest_1 : decode cX4_finishedGuest 1 = .ok (.iload_n 1, 1) := dk_27 (dk_at dksX4_finishedGuest_0 1 rfl rfl)
theorem dX4_finishedGuest_2 : decode cX4_finishedGuest 2 = .ok (.iconst 0, 1) := dk_3 (dk_at dksX4_finishedGuest_0 2 rfl rfl)
theorem dX4_finishedGuest_3 : decode cX4_finishedGuest 3 = .ok (.invokevirtual 176, 3) := dk_182 0 176 (dk_at dksX4_finishedGuest_0 3 rfl rfl)
theorem dX4_finishedGuest_6 : decode cX4_finishedGuest 6 = .ok (.ireturn, 1) := dk_172 (dk_at dksX4_finishedGuest_0 6 rfl rfl)
abbrev cX4_finish : ByteArray := prog_14_method_66_code
def yX4_finish : MethodName := ⟨RX4, "finish", "(II)I"⟩
def dkwX4_finish_1 : List UInt8 := [16, 110, 6, 27, 104, 96, 28, 96, 46, 167, 0, 4, 3, 172]
abbrev dktX4_finish_1 : List UInt8 := dkwX4_finish_1 ++ []
def dkwX4_finish_0 : List UInt8 := [42, 27, 3, 42, 180, 0, 9, 7, 46, 4, 100, 184, 0, 51, 182, 0, 157, 153, 0, 19, 42, 180, 0, 9]
abbrev dktX4_finish_0 : List UInt8 := dkwX4_finish_0 ++ dktX4_finish_1
theorem dksX4_finish_0 : cX4_finish.data.toList.drop 0 = dktX4_finish_0 := by decide +kernel
theorem dksX4_finish_1 : cX4_finish.data.toList.drop 24 = dktX4_finish_1 := dk_seg dksX4_finish_0 24 rfl rfl
theorem dX4_finish_0 : decode cX4_finish 0 = .ok (.aload_n 0, 1) := dk_42 (dk_at dksX4_finish_0 0 rfl rfl)
theorem dX4_finish_1 : decode cX4_finish 1 = .ok (.iload_n 1, 1) := dk_27 (dk_at dksX4_finish_0 1 rfl rfl)
theorem dX4_finish_2 : decode cX4_finish 2 = .ok (.iconst 0, 1) := dk_3 (dk_at dksX4_finish_0 2 rfl rfl)
theorem dX4_finish_3 : decode cX4_finish 3 = .ok (.aload_n 0, 1) := dk_42 (dk_at dksX4_finish_0 3 rfl rfl)
theorem dX4_finish_4 : decode cX4_finish 4 = .ok (.getfield 9, 3) := dk_180 0 9 (dk_at dksX4_finish_0 4 rfl rfl)
theorem dX4_finish_7 : decode cX4_finish 7 = .ok (.iconst 4, 1) := dk_7 (dk_at dksX4_finish_0 7 rfl rfl)
theorem dX4_finish_8 : decode cX4_finish 8 = .ok (.iaload, 1) := dk_46 (dk_at dksX4_finish_0 8 rfl rfl)
theorem dX4_finish_9 : decode cX4_finish 9 = .ok (.iconst 1, 1) := dk_4 (dk_at dksX4_finish_0 9 rfl rfl)
theorem dX4_finish_10 : decode cX4_finish 10 = .ok (.isub, 1) := dk_100 (dk_at dksX4_finish_0 10 rfl rfl)
theorem dX4_finish_11 : decode cX4_finish 11 = .ok (.invokestatic 51, 3) := dk_184 0 51 (dk_at dksX4_finish_0 11 rfl rfl)
theorem dX4_finish_14 : decode cX4_finish 14 = .ok (.invokevirtual 157, 3) := dk_182 0 157 (dk_at dksX4_finish_0 14 rfl rfl)
theorem dX4_finish_17 : decode cX4_finish 17 = .ok (.ifCond .eq 19, 3) := dk_153 0 19 (dk_at dksX4_finish_0 17 rfl rfl)
theorem dX4_finish_20 : decode cX4_finish 20 = .ok (.aload_n 0, 1) := dk_42 (dk_at dksX4_finish_0 20 rfl rfl)
theorem dX4_finish_21 : decode cX4_finish 21 = .ok (.getfield 9, 3) := dk_180 0 9 (dk_at dksX4_finish_0 21 rfl rfl)
theorem dX4_finish_24 : decode cX4_finish 24 = .ok (.bipush 110, 2) := dk_16 110 (dk_at dksX4_finish_1 0 rfl rfl)
theorem dX4_finish_26 : decode cX4_finish 26 = .ok (.iconst 3, 1) := dk_6 (dk_at dksX4_finish_1 2 rfl rfl)
theorem dX4_finish_27 : decode cX4_finish 27 = .ok (.iload_n 1, 1) := dk_27 (dk_at dksX4_finish_1 3 rfl rfl)
theorem dX4_finish_28 : decode cX4_finish 28 = .ok (.imul, 1) := dk_104 (dk_at dksX4_finish_1 4 rfl rfl)
theorem dX4_finish_29 : decode cX4_finish 29 = .ok (.iadd, 1) := dk_96 (dk_at dksX4_finish_1 5 rfl rfl)
theorem dX4_finish_30 : decode cX4_finish 30 = .ok (.iload_n 2, 1) := dk_28 (dk_at dksX4_finish_1 6 rfl rfl)
theorem dX4_finish_31 : decode cX4_finish 31 = .ok (.iadd, 1) := dk_96 (dk_at dksX4_finish_1 7 rfl rfl)
theorem dX4_finish_32 : decode cX4_finish 32 = .ok (.iaload, 1) := dk_46 (dk_at dksX4_finish_1 8 rfl rfl)
theorem dX4_finish_33 : decode cX4_finish 33 = .ok (.goto 4, 3) := dk_167 0 4 (dk_at dksX4_finish_1 9 rfl rfl)
theorem dX4_finish_36 : decode cX4_finish 36 = .ok (.iconst 0, 1) := dk_3 (dk_at dksX4_finish_1 12 rfl rfl)
theorem dX4_finish_37 : decode cX4_finish 37 = .ok (.ireturn, 1) := dk_172 (dk_at dksX4_finish_1 13 rfl rfl)
abbrev cX4_finishedSlide : ByteArray := prog_14_method_69_code
def yX4_finishedSlide : MethodName := ⟨RX4, "finishedSlide", "(I)I"⟩
def dkwX4_finishedSlide_0 : List UInt8 := [42, 27, 4, 182, 0, 176, 172]
abbrev dktX4_finishedSlide_0 : List UInt8 := dkwX4_finishedSlide_0 ++ []
theorem dksX4_finishedSlide_0 : cX4_finishedSlide.data.toList.drop 0 = dktX4_finishedSlide_0 := by decide +kernel
theorem dX4_finishedSlide_0 : decode cX4_finishedSlide 0 = .ok (.aload_n 0, 1) := dk_42 (dk_at dksX4_finishedSlide_0 0 rfl rfl)
theorem dX4_finishedSlide_1 : decode cX4_finishedSlide 1 = .ok (.iload_n 1, 1) := dk_27 (dk_at dksX4_finishedSlide_0 1 rfl rfl)
theorem dX4_finishedSlide_2 : decode cX4_finishedSlide 2 = .ok (.iconst 1, 1) := dk_4 (dk_at dksX4_finishedSlide_0 2 rfl rfl)
theorem dX4_finishedSlide_3 : decode cX4_finishedSlide 3 = .ok (.invokevirtual 176, 3) := dk_182 0 176 (dk_at dksX4_finishedSlide_0 3 rfl rfl)
theorem dX4_finishedSlide_6 : decode cX4_finishedSlide 6 = .ok (.ireturn, 1) := dk_172 (dk_at dksX4_finishedSlide_0 6 rfl rfl)
abbrev cX4_finishMinute : ByteArray := prog_14_method_70_code
def yX4_finishMinute : MethodName := ⟨RX4, "finishMinute", "(I)I"⟩
def dkwX4_finishMinute_0 : List UInt8 := [42, 27, 5, 182, 0, 176, 172]
abbrev dktX4_finishMinute_0 : List UInt8 := dkwX4_finishMinute_0 ++ []
theorem dksX4_finishMinute_0 : cX4_finishMinute.data.toList.drop 0 = dktX4_finishMinute_0 := by decide +kernel
theorem dX4_finishMinute_0 : decode cX4_finishMinute 0 = .ok (.aload_n 0, 1) := dk_42 (dk_at dksX4_finishMinute_0 0 rfl rfl)
theorem dX4_finishMinute_1 : decode cX4_finishMinute 1 = .ok (.iload_n 1, 1) := dk_27 (dk_at dksX4_finishMinute_0 1 rfl rfl)
theorem dX4_finishMinute_2 : decode cX4_finishMinute 2 = .ok (.iconst 2, 1) := dk_5 (dk_at dksX4_finishMinute_0 2 rfl rfl)
theorem dX4_finishMinute_3 : decode cX4_finishMinute 3 = .ok (.invokevirtual 176, 3) := dk_182 0 176 (dk_at dksX4_finishMinute_0 3 rfl rfl)
theorem dX4_finishMinute_6 : decode cX4_finishMinute 6 = .ok (.ireturn, 1) := dk_172 (dk_at dksX4_finishMinute_0 6 rfl rfl)
abbrev cX4_photoFinishes : ByteArray := prog_14_method_71_code
def yX4_photoFinishes : MethodName := ⟨RX4, "photoFinishes", "()I"⟩
def dkwX4_photoFinishes_3 : List UInt8 := [132, 2, 1, 167, 255, 193, 27, 172]
abbrev dktX4_photoFinishes_3 : List UInt8 := dkwX4_photoFinishes_3 ++ []
def dkwX4_photoFinishes_2 : List UInt8 := [29, 104, 96, 5, 96, 46, 160, 0, 7, 4, 167, 0, 4, 3, 96, 60, 132, 3, 1, 167, 255, 211]
abbrev dktX4_photoFinishes_2 : List UInt8 := dkwX4_photoFinishes_2 ++ dktX4_photoFinishes_3
def dkwX4_photoFinishes_1 : List UInt8 := [162, 0, 46, 27, 42, 180, 0, 9, 16, 110, 6, 28, 104, 96, 5, 96, 46, 42, 180, 0, 9, 16, 110, 6]
abbrev dktX4_photoFinishes_1 : List UInt8 := dkwX4_photoFinishes_1 ++ dktX4_photoFinishes_2
def dkwX4_photoFinishes_0 : List UInt8 := [42, 3, 181, 0, 39, 3, 60, 3, 61, 28, 42, 180, 0, 9, 7, 46, 162, 0, 59, 3, 62, 29, 28]
abbrev dktX4_photoFinishes_0 : List UInt8 := dkwX4_photoFinishes_0 ++ dktX4_photoFinishes_1
theorem dksX4_photoFinishes_0 : cX4_photoFinishes.data.toList.drop 0 = dktX4_photoFinishes_0 := by decide +kernel
theorem dksX4_photoFinishes_1 : cX4_photoFinishes.data.toList.drop 23 = dktX4_photoFinishes_1 := dk_seg dksX4_photoFinishes_0 23 rfl rfl
theorem dksX4_photoFinishes_2 : cX4_photoFinishes.data.toList.drop 47 = dktX4_photoFinishes_2 := dk_seg dksX4_photoFinishes_1 24 rfl rfl
theorem dksX4_photoFinishes_3 : cX4_photoFinishes.data.toList.drop 69 = dktX4_photoFinishes_3 := dk_seg dksX4_photoFinishes_2 22 rfl rfl
theorem dX4_photoFinishes_0 : decode cX4_photoFinishes 0 = .ok (.aload_n 0, 1) := dk_42 (dk_at dksX4_photoFinishes_0 0 rfl rfl)
theorem dX4_photoFinishes_1 : decode cX4_photoFinishes 1 = .ok (.iconst 0, 1) := dk_3 (dk_at dksX4_photoFinishes_0 1 rfl rfl)
theorem dX4_photoFinishes_2 : decode cX4_photoFinishes 2 = .ok (.putfield 39, 3) := dk_181 0 39 (dk_at dksX4_photoFinishes_0 2 rfl rfl)
theorem dX4_photoFinishes_5 : decode cX4_photoFinishes 5 = .ok (.iconst 0, 1) := dk_3 (dk_at dksX4_photoFinishes_0 5 rfl rfl)
theorem dX4_photoFinishes_6 : decode cX4_photoFinishes 6 = .ok (.istore_n 1, 1) := dk_60 (dk_at dksX4_photoFinishes_0 6 rfl rfl)
theorem dX4_photoFinishes_7 : decode cX4_photoFinishes 7 = .ok (.iconst 0, 1) := dk_3 (dk_at dksX4_photoFinishes_0 7 rfl rfl)
theorem dX4_photoFinishes_8 : decode cX4_photoFinishes 8 = .ok (.istore_n 2, 1) := dk_61 (dk_at dksX4_photoFinishes_0 8 rfl rfl)
theorem dX4_photoFinishes_9 : decode cX4_photoFinishes 9 = .ok (.iload_n 2, 1) := dk_28 (dk_at dksX4_photoFinishes_0 9 rfl rfl)
theorem dX4_photoFinishes_10 : decode cX4_photoFinishes 10 = .ok (.aload_n 0, 1) := dk_42 (dk_at dksX4_photoFinishes_0 10 rfl rfl)
theorem dX4_photoFinishes_11 : decode cX4_photoFinishes 11 = .ok (.getfield 9, 3) := dk_180 0 9 (dk_at dksX4_photoFinishes_0 11 rfl rfl)
theorem dX4_photoFinishes_14 : decode cX4_photoFinishes 14 = .ok (.iconst 4, 1) := dk_7 (dk_at dksX4_photoFinishes_0 14 rfl rfl)
theorem dX4_photoFinishes_15 : decode cX4_photoFinishes 15 = .ok (.iaload, 1) := dk_46 (dk_at dksX4_photoFinishes_0 15 rfl rfl)
theorem dX4_photoFinishes_16 : decode cX4_photoFinishes 16 = .ok (.if_icmp .ge 59, 3) := dk_162 0 59 (dk_at dksX4_photoFinishes_0 16 rfl rfl)
theorem dX4_photoFinishes_19 : decode cX4_photoFinishes 19 = .ok (.iconst 0, 1) := dk_3 (dk_at dksX4_photoFinishes_0 19 rfl rfl)
theorem dX4_photoFinishes_20 : decode cX4_photoFinishes 20 = .ok (.istore_n 3, 1) := dk_62 (dk_at dksX4_photoFinishes_0 20 rfl rfl)
theorem dX4_photoFinishes_21 : decode cX4_photoFinishes 21 = .ok (.iload_n 3, 1) := dk_29 (dk_at dksX4_photoFinishes_0 21 rfl rfl)
theorem dX4_photoFinishes_22 : decode cX4_photoFinishes 22 = .ok (.iload_n 2, 1) := dk_28 (dk_at dksX4_photoFinishes_0 22 rfl rfl)
theorem dX4_photoFinishes_23 : decode cX4_photoFinishes 23 = .ok (.if_icmp .ge 46, 3) := dk_162 0 46 (dk_at dksX4_photoFinishes_1 0 rfl rfl)
theorem dX4_photoFinishes_26 : decode cX4_photoFinishes 26 = .ok (.iload_n 1, 1) := dk_27 (dk_at dksX4_photoFinishes_1 3 rfl rfl)
theorem dX4_photoFinishes_27 : decode cX4_photoFinishes 27 = .ok (.aload_n 0, 1) := dk_42 (dk_at dksX4_photoFinishes_1 4 rfl rfl)
theorem dX4_photoFinishes_28 : decode cX4_photoFinishes 28 = .ok (.getfield 9, 3) := dk_180 0 9 (dk_at dksX4_photoFinishes_1 5 rfl rfl)
theorem dX4_photoFinishes_31 : decode cX4_photoFinishes 31 = .ok (.bipush 110, 2) := dk_16 110 (dk_at dksX4_photoFinishes_1 8 rfl rfl)
theorem dX4_photoFinishes_33 : decode cX4_photoFinishes 33 = .ok (.iconst 3, 1) := dk_6 (dk_at dksX4_photoFinishes_1 10 rfl rfl)
theorem dX4_photoFinishes_34 : decode cX4_photoFinishes 34 = .ok (.iload_n 2, 1) := dk_28 (dk_at dksX4_photoFinishes_1 11 rfl rfl)
theorem dX4_photoFinishes_35 : decode cX4_photoFinishes 35 = .ok (.imul, 1) := dk_104 (dk_at dksX4_photoFinishes_1 12 rfl rfl)
theorem dX4_photoFinishes_36 : decode cX4_photoFinishes 36 = .ok (.iadd, 1) := dk_96 (dk_at dksX4_photoFinishes_1 13 rfl rfl)
theorem dX4_photoFinishes_37 : decode cX4_photoFinishes 37 = .ok (.iconst 2, 1) := dk_5 (dk_at dksX4_photoFinishes_1 14 rfl rfl)
theorem dX4_photoFinishes_38 : decode cX4_photoFinishes 38 = .ok (.iadd, 1) := dk_96 (dk_at dksX4_photoFinishes_1 15 rfl rfl)
theorem dX4_photoFinishes_39 : decode cX4_photoFinishes 39 = .ok (.iaload, 1) := dk_46 (dk_at dksX4_photoFinishes_1 16 rfl rfl)
theorem dX4_photoFinishes_40 : decode cX4_photoFinishes 40 = .ok (.aload_n 0, 1) := dk_42 (dk_at dksX4_photoFinishes_1 17 rfl rfl)
theorem dX4_photoFinishes_41 : decode cX4_photoFinishes 41 = .ok (.getfield 9, 3) := dk_180 0 9 (dk_at dksX4_photoFinishes_1 18 rfl rfl)
theorem dX4_photoFinishes_44 : decode cX4_photoFinishes 44 = .ok (.bipush 110, 2) := dk_16 110 (dk_at dksX4_photoFinishes_1 21 rfl rfl)
theorem dX4_photoFinishes_46 : decode cX4_photoFinishes 46 = .ok (.iconst 3, 1) := dk_6 (dk_at dksX4_photoFinishes_1 23 rfl rfl)
theorem dX4_photoFinishes_47 : decode cX4_photoFinishes 47 = .ok (.iload_n 3, 1) := dk_29 (dk_at dksX4_photoFinishes_2 0 rfl rfl)
theorem dX4_photoFinishes_48 : decode cX4_photoFinishes 48 = .ok (.imul, 1) := dk_104 (dk_at dksX4_photoFinishes_2 1 rfl rfl)
theorem dX4_photoFinishes_49 : decode cX4_photoFinishes 49 = .ok (.iadd, 1) := dk_96 (dk_at dksX4_photoFinishes_2 2 rfl rfl)
theorem dX4_photoFinishes_50 : decode cX4_photoFinishes 50 = .ok (.iconst 2, 1) := dk_5 (dk_at dksX4_photoFinishes_2 3 rfl rfl)
theorem dX4_photoFinishes_51 : decode cX4_photoFinishes 51 = .ok (.iadd, 1) := dk_96 (dk_at dksX4_photoFinishes_2 4 rfl rfl)
theorem dX4_photoFinishes_52 : decode cX4_photoFinishes 52 = .ok (.iaload, 1) := dk_46 (dk_at dksX4_photoFinishes_2 5 rfl rfl)
theorem dX4_photoFinishes_53 : decode cX4_photoFinishes 53 = .ok (.if_icmp .ne 7, 3) := dk_160 0 7 (dk_at dksX4_photoFinishes_2 6 rfl rfl)
theorem dX4_photoFinishes_56 : decode cX4_photoFinishes 56 = .ok (.iconst 1, 1) := dk_4 (dk_at dksX4_photoFinishes_2 9 rfl rfl)
theorem dX4_photoFinishes_57 : decode cX4_photoFinishes 57 = .ok (.goto 4, 3) := dk_167 0 4 (dk_at dksX4_photoFinishes_2 10 rfl rfl)
theorem dX4_photoFinishes_60 : decode cX4_photoFinishes 60 = .ok (.iconst 0, 1) := dk_3 (dk_at dksX4_photoFinishes_2 13 rfl rfl)
theorem dX4_photoFinishes_61 : decode cX4_photoFinishes 61 = .ok (.iadd, 1) := dk_96 (dk_at dksX4_photoFinishes_2 14 rfl rfl)
theorem dX4_photoFinishes_62 : decode cX4_photoFinishes 62 = .ok (.istore_n 1, 1) := dk_60 (dk_at dksX4_photoFinishes_2 15 rfl rfl)
theorem dX4_photoFinishes_63 : decode cX4_photoFinishes 63 = .ok (.iinc 3 1, 3) := dk_132 3 1 (dk_at dksX4_photoFinishes_2 16 rfl rfl)
theorem dX4_photoFinishes_66 : decode cX4_photoFinishes 66 = .ok (.goto (-45), 3) := dk_167 255 211 (dk_at dksX4_photoFinishes_2 19 rfl rfl)
theorem dX4_photoFinishes_69 : decode cX4_photoFinishes 69 = .ok (.iinc 2 1, 3) := dk_132 2 1 (dk_at dksX4_photoFinishes_3 0 rfl rfl)
theorem dX4_photoFinishes_72 : decode cX4_photoFinishes 72 = .ok (.goto (-63), 3) := dk_167 255 193 (dk_at dksX4_photoFinishes_3 3 rfl rfl)
theorem dX4_photoFinishes_75 : decode cX4_photoFinishes 75 = .ok (.iload_n 1, 1) := dk_27 (dk_at dksX4_photoFinishes_3 6 rfl rfl)
theorem dX4_photoFinishes_76 : decode cX4_photoFinishes 76 = .ok (.ireturn, 1) := dk_172 (dk_at dksX4_photoFinishes_3 7 rfl rfl)
abbrev cX4_photoFinishesByRuns : ByteArray := prog_14_method_72_code
def yX4_photoFinishesByRuns : MethodName := ⟨RX4, "photoFinishesByRuns", "()I"⟩
theorem dX4_photoFinishesByRuns_0 : decode cX4_photoFinishesByRuns 0 = .ok (.aload_n 0, 1) := by decide +kernel
theorem dX4_photoFinishesByRuns_1 : decode cX4_photoFinishesByRuns 1 = .ok (.invokevirtual 179, 3) := by decide +kernel
theorem dX4_photoFinishesByRuns_4 : decode cX4_photoFinishesByRuns 4 = .ok (.ireturn, 1) := by decide +kernel
abbrev cX4_splashes : ByteArray := prog_14_method_73_code
def yX4_splashes : MethodName := ⟨RX4, "splashes", "()I"⟩
def dkwX4_splashes_0 : List UInt8 := [42, 3, 181, 0, 39, 42, 180, 0, 9, 8, 46, 172]
abbrev dktX4_splashes_0 : List UInt8 := dkwX4_splashes_0 ++ []
theorem dksX4_splashes_0 : cX4_splashes.data.toList.drop 0 = dktX4_splashes_0 := by decide +kernel
theorem dX4_splashes_0 : decode cX4_splashes 0 = .ok (.aload_n 0, 1) := dk_42 (dk_at dksX4_splashes_0 0 rfl rfl)
theorem dX4_splashes_1 : decode cX4_splashes 1 = .ok (.iconst 0, 1) := dk_3 (dk_at dksX4_splashes_0 1 rfl rfl)
theorem dX4_splashes_2 : decode cX4_splashes 2 = .ok (.putfield 39, 3) := dk_181 0 39 (dk_at dksX4_splashes_0 2 rfl rfl)
theorem dX4_splashes_5 : decode cX4_splashes 5 = .ok (.aload_n 0, 1) := dk_42 (dk_at dksX4_splashes_0 5 rfl rfl)
theorem dX4_splashes_6 : decode cX4_splashes 6 = .ok (.getfield 9, 3) := dk_180 0 9 (dk_at dksX4_splashes_0 6 rfl rfl)
theorem dX4_splashes_9 : decode cX4_splashes 9 = .ok (.iconst 5, 1) := dk_8 (dk_at dksX4_splashes_0 9 rfl rfl)
theorem dX4_splashes_10 : decode cX4_splashes 10 = .ok (.iaload, 1) := dk_46 (dk_at dksX4_splashes_0 10 rfl rfl)
theorem dX4_splashes_11 : decode cX4_splashes 11 = .ok (.ireturn, 1) := dk_172 (dk_at dksX4_splashes_0 11 rfl rfl)
abbrev cX4_refundedCoins : ByteArray := prog_14_method_74_code
def yX4_refundedCoins : MethodName := ⟨RX4, "refundedCoins", "()I"⟩
def dkwX4_refundedCoins_0 : List UInt8 := [42, 3, 181, 0, 39, 42, 180, 0, 9, 16, 6, 46, 172]
abbrev dktX4_refundedCoins_0 : List UInt8 := dkwX4_refundedCoins_0 ++ []
theorem dksX4_refundedCoins_0 : cX4_refundedCoins.data.toList.drop 0 = dktX4_refundedCoins_0 := by decide +kernel
theorem dX4_refundedCoins_0 : decode cX4_refundedCoins 0 = .ok (.aload_n 0, 1) := dk_42 (dk_at dksX4_refundedCoins_0 0 rfl rfl)
theorem dX4_refundedCoins_1 : decode cX4_refundedCoins 1 = .ok (.iconst 0, 1) := dk_3 (dk_at dksX4_refundedCoins_0 1 rfl rfl)
theorem dX4_refundedCoins_2 : decode cX4_refundedCoins 2 = .ok (.putfield 39, 3) := dk_181 0 39 (dk_at dksX4_refundedCoins_0 2 rfl rfl)
theorem dX4_refundedCoins_5 : decode cX4_refundedCoins 5 = .ok (.aload_n 0, 1) := dk_42 (dk_at dksX4_refundedCoins_0 5 rfl rfl)
theorem dX4_refundedCoins_6 : decode cX4_refundedCoins 6 = .ok (.getfield 9, 3) := dk_180 0 9 (dk_at dksX4_refundedCoins_0 6 rfl rfl)
theorem dX4_refundedCoins_9 : decode cX4_refundedCoins 9 = .ok (.bipush 6, 2) := dk_16 6 (dk_at dksX4_refundedCoins_0 9 rfl rfl)
theorem dX4_refundedCoins_11 : decode cX4_refundedCoins 11 = .ok (.iaload, 1) := dk_46 (dk_at dksX4_refundedCoins_0 11 rfl rfl)
theorem dX4_refundedCoins_12 : decode cX4_refundedCoins 12 = .ok (.ireturn, 1) := dk_172 (dk_at dksX4_refundedCoins_0 12 rfl rfl)
abbrev cX4_officeCoins : ByteArray := prog_14_method_75_code
def yX4_officeCoins : MethodName := ⟨RX4, "officeCoins", "()I"⟩
def dkwX4_officeCoins_0 : List UInt8 := [42, 3, 181, 0, 39, 42, 180, 0, 9, 16, 7, 46, 172]
abbrev dktX4_officeCoins_0 : List UInt8 := dkwX4_officeCoins_0 ++ []
theorem dksX4_officeCoins_0 : cX4_officeCoins.data.toList.drop 0 = dktX4_officeCoins_0 := by decide +kernel
theorem dX4_officeCoins_0 : decode cX4_officeCoins 0 = .ok (.aload_n 0, 1) := dk_42 (dk_at dksX4_officeCoins_0 0 rfl rfl)
theorem dX4_officeCoins_1 : decode cX4_officeCoins 1 = .ok (.iconst 0, 1) := dk_3 (dk_at dksX4_officeCoins_0 1 rfl rfl)
theorem dX4_officeCoins_2 : decode cX4_officeCoins 2 = .ok (.putfield 39, 3) := dk_181 0 39 (dk_at dksX4_officeCoins_0 2 rfl rfl)
theorem dX4_officeCoins_5 : decode cX4_officeCoins 5 = .ok (.aload_n 0, 1) := dk_42 (dk_at dksX4_officeCoins_0 5 rfl rfl)
theorem dX4_officeCoins_6 : decode cX4_officeCoins 6 = .ok (.getfield 9, 3) := dk_180 0 9 (dk_at dksX4_officeCoins_0 6 rfl rfl)
theorem dX4_officeCoins_9 : decode cX4_officeCoins 9 = .ok (.bipush 7, 2) := dk_16 7 (dk_at dksX4_officeCoins_0 9 rfl rfl)
theorem dX4_officeCoins_11 : decode cX4_officeCoins 11 = .ok (.iaload, 1) := dk_46 (dk_at dksX4_officeCoins_0 11 rfl rfl)
theorem dX4_officeCoins_12 : decode cX4_officeCoins 12 = .ok (.ireturn, 1) := dk_172 (dk_at dksX4_officeCoins_0 12 rfl rfl)
abbrev cX4_rides : ByteArray := prog_14_method_76_code
def yX4_rides : MethodName := ⟨RX4, "rides", "(I)I"⟩
def dkwX4_rides_0 : List UInt8 := [42, 42, 27, 182, 0, 97, 182, 0, 157, 153, 0, 12, 42, 27, 4, 182, 0, 107, 167, 0, 4, 3, 172]
abbrev dktX4_rides_0 : List UInt8 := dkwX4_rides_0 ++ []
theorem dksX4_rides_0 : cX4_rides.data.toList.drop 0 = dktX4_rides_0 := by decide +kernel
theorem dX4_rides_0 : decode cX4_rides 0 = .ok (.aload_n 0, 1) := dk_42 (dk_at dksX4_rides_0 0 rfl rfl)
theorem dX4_rides_1 : decode cX4_rides 1 = .ok (.aload_n 0, 1) := dk_42 (dk_at dksX4_rides_0 1 rfl rfl)
theorem dX4_rides_2 : decode cX4_rides 2 = .ok (.iload_n 1, 1) := dk_27 (dk_at dksX4_rides_0 2 rfl rfl)
theorem dX4_rides_3 : decode cX4_rides 3 = .ok (.invokevirtual 97, 3) := dk_182 0 97 (dk_at dksX4_rides_0 3 rfl rfl)
theorem dX4_rides_6 : decode cX4_rides 6 = .ok (.invokevirtual 157, 3) := dk_182 0 157 (dk_at dksX4_rides_0 6 rfl rfl)
theorem dX4_rides_9 : decode cX4_rides 9 = .ok (.ifCond .eq 12, 3) := dk_153 0 12 (dk_at dksX4_rides_0 9 rfl rfl)
theorem dX4_rides_12 : decode cX4_rides 12 = .ok (.aload_n 0, 1) := dk_42 (dk_at dksX4_rides_0 12 rfl rfl)
theorem dX4_rides_13 : decode cX4_rides 13 = .ok (.iload_n 1, 1) := dk_27 (dk_at dksX4_rides_0 13 rfl rfl)
theorem dX4_rides_14 : decode cX4_rides 14 = .ok (.iconst 1, 1) := dk_4 (dk_at dksX4_rides_0 14 rfl rfl)
theorem dX4_rides_15 : decode cX4_rides 15 = .ok (.invokevirtual 107, 3) := dk_182 0 107 (dk_at dksX4_rides_0 15 rfl rfl)
theorem dX4_rides_18 : decode cX4_rides 18 = .ok (.goto 4, 3) := dk_167 0 4 (dk_at dksX4_rides_0 18 rfl rfl)
theorem dX4_rides_21 : decode cX4_rides 21 = .ok (.iconst 0, 1) := dk_3 (dk_at dksX4_rides_0 21 rfl rfl)
theorem dX4_rides_22 : decode cX4_rides 22 = .ok (.ireturn, 1) := dk_172 (dk_at dksX4_rides_0 22 rfl rfl)
abbrev cX4_guestByRides : ByteArray := prog_14_method_77_code
def yX4_guestByRides : MethodName := ⟨RX4, "guestByRides", "(I)I"⟩
def dkwX4_guestByRides_6 : List UInt8 := [167, 255, 131, 28, 172]
abbrev dktX4_guestByRides_6 : List UInt8 := dkwX4_guestByRides_6 ++ []
def dkwX4_guestByRides_5 : List UInt8 := [132, 6, 1, 167, 255, 171, 21, 5, 27, 160, 0, 8, 21, 4, 167, 0, 4, 28, 61, 132, 4, 1]
abbrev dktX4_guestByRides_5 : List UInt8 := dkwX4_guestByRides_5 ++ dktX4_guestByRides_6
def dkwX4_guestByRides_4 : List UInt8 := [157, 0, 15, 21, 8, 154, 0, 14, 21, 6, 21, 4, 162, 0, 7, 4, 167, 0, 4, 3, 96, 54, 5]
abbrev dktX4_guestByRides_4 : List UInt8 := dkwX4_guestByRides_4 ++ dktX4_guestByRides_5
def dkwX4_guestByRides_3 : List UInt8 := [42, 21, 4, 3, 182, 0, 107, 100, 54, 8, 21, 5, 21, 7, 157, 0, 25, 21, 7, 154, 0, 24, 21, 8]
abbrev dktX4_guestByRides_3 : List UInt8 := dkwX4_guestByRides_3 ++ dktX4_guestByRides_4
def dkwX4_guestByRides_2 : List UInt8 := [42, 21, 6, 4, 182, 0, 107, 42, 21, 4, 4, 182, 0, 107, 100, 54, 7, 42, 21, 6, 3, 182, 0, 107]
abbrev dktX4_guestByRides_2 : List UInt8 := dkwX4_guestByRides_2 ++ dktX4_guestByRides_3
def dkwX4_guestByRides_1 : List UInt8 := [162, 0, 120, 29, 153, 0, 116, 3, 54, 5, 3, 54, 6, 21, 6, 42, 180, 0, 9, 4, 46, 162, 0, 80]
abbrev dktX4_guestByRides_1 : List UInt8 := dkwX4_guestByRides_1 ++ dktX4_guestByRides_2
def dkwX4_guestByRides_0 : List UInt8 := [3, 61, 42, 42, 27, 182, 0, 97, 182, 0, 157, 62, 3, 54, 4, 21, 4, 42, 180, 0, 9, 4, 46]
abbrev dktX4_guestByRides_0 : List UInt8 := dkwX4_guestByRides_0 ++ dktX4_guestByRides_1
theorem dksX4_guestByRides_0 : cX4_guestByRides.data.toList.drop 0 = dktX4_guestByRides_0 := by decide +kernel
theorem dksX4_guestByRides_1 : cX4_guestByRides.data.toList.drop 23 = dktX4_guestByRides_1 := dk_seg dksX4_guestByRides_0 23 rfl rfl
theorem dksX4_guestByRides_2 : cX4_guestByRides.data.toList.drop 47 = dktX4_guestByRides_2 := dk_seg dksX4_guestByRides_1 24 rfl rfl
theorem dksX4_guestByRides_3 : cX4_guestByRides.data.toList.drop 71 = dktX4_guestByRides_3 := dk_seg dksX4_guestByRides_2 24 rfl rfl
theorem dksX4_guestByRides_4 : cX4_guestByRides.data.toList.drop 95 = dktX4_guestByRides_4 := dk_seg dksX4_guestByRides_3 24 rfl rfl
theorem dksX4_guestByRides_5 : cX4_guestByRides.data.toList.drop 118 = dktX4_guestByRides_5 := dk_seg dksX4_guestByRides_4 23 rfl rfl
theorem dksX4_guestByRides_6 : cX4_guestByRides.data.toList.drop 140 = dktX4_guestByRides_6 := dk_seg dksX4_guestByRides_5 22 rfl rfl
theorem dX4_guestByRides_0 : decode cX4_guestByRides 0 = .ok (.iconst 0, 1) := dk_3 (dk_at dksX4_guestByRides_0 0 rfl rfl)
theorem dX4_guestByRides_1 : decode cX4_guestByRides 1 = .ok (.istore_n 2, 1) := dk_61 (dk_at dksX4_guestByRides_0 1 rfl rfl)
theorem dX4_guestByRides_2 : decode cX4_guestByRides 2 = .ok (.aload_n 0, 1) := dk_42 (dk_at dksX4_guestByRides_0 2 rfl rfl)
theorem dX4_guestByRides_3 : decode cX4_guestByRides 3 = .ok (.aload_n 0, 1) := dk_42 (dk_at dksX4_guestByRides_0 3 rfl rfl)
theorem dX4_guestByRides_4 : decode cX4_guestByRides 4 = .ok (.iload_n 1, 1) := dk_27 (dk_at dksX4_guestByRides_0 4 rfl rfl)
theorem dX4_guestByRides_5 : decode cX4_guestByRides 5 = .ok (.invokevirtual 97, 3) := dk_182 0 97 (dk_at dksX4_guestByRides_0 5 rfl rfl)
theorem dX4_guestByRides_8 : decode cX4_guestByRides 8 = .ok (.invokevirtual 157, 3) := dk_182 0 157 (dk_at dksX4_guestByRides_0 8 rfl rfl)
theorem dX4_guestByRides_11 : decode cX4_guestByRides 11 = .ok (.istore_n 3, 1) := dk_62 (dk_at dksX4_guestByRides_0 11 rfl rfl)
theorem dX4_guestByRides_12 : decode cX4_guestByRides 12 = .ok (.iconst 0, 1) := dk_3 (dk_at dksX4_guestByRides_0 12 rfl rfl)
theorem dX4_guestByRides_13 : decode cX4_guestByRides 13 = .ok (.istore 4, 2) := dk_54 4 (dk_at dksX4_guestByRides_0 13 rfl rfl)
theorem dX4_guestByRides_15 : decode cX4_guestByRides 15 = .ok (.iload 4, 2) := dk_21 4 (dk_at dksX4_guestByRides_0 15 rfl rfl)
theorem dX4_guestByRides_17 : decode cX4_guestByRides 17 = .ok (.aload_n 0, 1) := dk_42 (dk_at dksX4_guestByRides_0 17 rfl rfl)
theorem dX4_guestByRides_18 : decode cX4_guestByRides 18 = .ok (.getfield 9, 3) := dk_180 0 9 (dk_at dksX4_guestByRides_0 18 rfl rfl)
theorem dX4_guestByRides_21 : decode cX4_guestByRides 21 = .ok (.iconst 1, 1) := dk_4 (dk_at dksX4_guestByRides_0 21 rfl rfl)
theorem dX4_guestByRides_22 : decode cX4_guestByRides 22 = .ok (.iaload, 1) := dk_46 (dk_at dksX4_guestByRides_0 22 rfl rfl)
theorem dX4_guestByRides_23 : decode cX4_guestByRides 23 = .ok (.if_icmp .ge 120, 3) := dk_162 0 120 (dk_at dksX4_guestByRides_1 0 rfl rfl)
theorem dX4_guestByRides_26 : decode cX4_guestByRides 26 = .ok (.iload_n 3, 1) := dk_29 (dk_at dksX4_guestByRides_1 3 rfl rfl)
theorem dX4_guestByRides_27 : decode cX4_guestByRides 27 = .ok (.ifCond .eq 116, 3) := dk_153 0 116 (dk_at dksX4_guestByRides_1 4 rfl rfl)
theorem dX4_guestByRides_30 : decode cX4_guestByRides 30 = .ok (.iconst 0, 1) := dk_3 (dk_at dksX4_guestByRides_1 7 rfl rfl)
theorem dX4_guestByRides_31 : decode cX4_guestByRides 31 = .ok (.istore 5, 2) := dk_54 5 (dk_at dksX4_guestByRides_1 8 rfl rfl)
theorem dX4_guestByRides_33 : decode cX4_guestByRides 33 = .ok (.iconst 0, 1) := dk_3 (dk_at dksX4_guestByRides_1 10 rfl rfl)
theorem dX4_guestByRides_34 : decode cX4_guestByRides 34 = .ok (.istore 6, 2) := dk_54 6 (dk_at dksX4_guestByRides_1 11 rfl rfl)
theorem dX4_guestByRides_36 : decode cX4_guestByRides 36 = .ok (.iload 6, 2) := dk_21 6 (dk_at dksX4_guestByRides_1 13 rfl rfl)
theorem dX4_guestByRides_38 : decode cX4_guestByRides 38 = .ok (.aload_n 0, 1) := dk_42 (dk_at dksX4_guestByRides_1 15 rfl rfl)
theorem dX4_guestByRides_39 : decode cX4_guestByRides 39 = .ok (.getfield 9, 3) := dk_180 0 9 (dk_at dksX4_guestByRides_1 16 rfl rfl)
theorem dX4_guestByRides_42 : decode cX4_guestByRides 42 = .ok (.iconst 1, 1) := dk_4 (dk_at dksX4_guestByRides_1 19 rfl rfl)
theorem dX4_guestByRides_43 : decode cX4_guestByRides 43 = .ok (.iaload, 1) := dk_46 (dk_at dksX4_guestByRides_1 20 rfl rfl)
theorem dX4_guestByRides_44 : decode cX4_guestByRides 44 = .ok (.if_icmp .ge 80, 3) := dk_162 0 80 (dk_at dksX4_guestByRides_1 21 rfl rfl)
theorem dX4_guestByRides_47 : decode cX4_guestByRides 47 = .ok (.aload_n 0, 1) := dk_42 (dk_at dksX4_guestByRides_2 0 rfl rfl)
theorem dX4_guestByRides_48 : decode cX4_guestByRides 48 = .ok (.iload 6, 2) := dk_21 6 (dk_at dksX4_guestByRides_2 1 rfl rfl)
theorem dX4_guestByRides_50 : decode cX4_guestByRides 50 = .ok (.iconst 1, 1) := dk_4 (dk_at dksX4_guestByRides_2 3 rfl rfl)
theorem dX4_guestByRides_51 : decode cX4_guestByRides 51 = .ok (.invokevirtual 107, 3) := dk_182 0 107 (dk_at dksX4_guestByRides_2 4 rfl rfl)
theorem dX4_guestByRides_54 : decode cX4_guestByRides 54 = .ok (.aload_n 0, 1) := dk_42 (dk_at dksX4_guestByRides_2 7 rfl rfl)
theorem dX4_guestByRides_55 : decode cX4_guestByRides 55 = .ok (.iload 4, 2) := dk_21 4 (dk_at dksX4_guestByRides_2 8 rfl rfl)
theorem dX4_guestByRides_57 : decode cX4_guestByRides 57 = .ok (.iconst 1, 1) := dk_4 (dk_at dksX4_guestByRides_2 10 rfl rfl)
theorem dX4_guestByRides_58 : decode cX4_guestByRides 58 = .ok (.invokevirtual 107, 3) := dk_182 0 107 (dk_at dksX4_guestByRides_2 11 rfl rfl)
theorem dX4_guestByRides_61 : decode cX4_guestByRides 61 = .ok (.isub, 1) := dk_100 (dk_at dksX4_guestByRides_2 14 rfl rfl)
theorem dX4_guestByRides_62 : decode cX4_guestByRides 62 = .ok (.istore 7, 2) := dk_54 7 (dk_at dksX4_guestByRides_2 15 rfl rfl)
theorem dX4_guestByRides_64 : decode cX4_guestByRides 64 = .ok (.aload_n 0, 1) := dk_42 (dk_at dksX4_guestByRides_2 17 rfl rfl)
theorem dX4_guestByRides_65 : decode cX4_guestByRides 65 = .ok (.iload 6, 2) := dk_21 6 (dk_at dksX4_guestByRides_2 18 rfl rfl)
theorem dX4_guestByRides_67 : decode cX4_guestByRides 67 = .ok (.iconst 0, 1) := dk_3 (dk_at dksX4_guestByRides_2 20 rfl rfl)
theorem dX4_guestByRides_68 : decode cX4_guestByRides 68 = .ok (.invokevirtual 107, 3) := dk_182 0 107 (dk_at dksX4_guestByRides_2 21 rfl rfl)
theorem dX4_guestByRides_71 : decode cX4_guestByRides 71 = .ok (.aload_n 0, 1) := dk_42 (dk_at dksX4_guestByRides_3 0 rfl rfl)
theorem dX4_guestByRides_72 : decode cX4_guestByRides 72 = .ok (.iload 4, 2) := dk_21 4 (dk_at dksX4_guestByRides_3 1 rfl rfl)
theorem dX4_guestByRides_74 : decode cX4_guestByRides 74 = .ok (.iconst 0, 1) := dk_3 (dk_at dksX4_guestByRides_3 3 rfl rfl)
theorem dX4_guestByRides_75 : decode cX4_guestByRides 75 = .ok (.invokevirtual 107, 3) := dk_182 0 107 (dk_at dksX4_guestByRides_3 4 rfl rfl)
theorem dX4_guestByRides_78 : decode cX4_guestByRides 78 = .ok (.isub, 1) := dk_100 (dk_at dksX4_guestByRides_3 7 rfl rfl)
theorem dX4_guestByRides_79 : decode cX4_guestByRides 79 = .ok (.istore 8, 2) := dk_54 8 (dk_at dksX4_guestByRides_3 8 rfl rfl)
theorem dX4_guestByRides_81 : decode cX4_guestByRides 81 = .ok (.iload 5, 2) := dk_21 5 (dk_at dksX4_guestByRides_3 10 rfl rfl)
theorem dX4_guestByRides_83 : decode cX4_guestByRides 83 = .ok (.iload 7, 2) := dk_21 7 (dk_at dksX4_guestByRides_3 12 rfl rfl)
theorem dX4_guestByRides_85 : decode cX4_guestByRides 85 = .ok (.ifCond .gt 25, 3) := dk_157 0 25 (dk_at dksX4_guestByRides_3 14 rfl rfl)
theorem dX4_guestByRides_88 : decode cX4_guestByRides 88 = .ok (.iload 7, 2) := dk_21 7 (dk_at dksX4_guestByRides_3 17 rfl rfl)
theorem dX4_guestByRides_90 : decode cX4_guestByRides 90 = .ok (.ifCond .ne 24, 3) := dk_154 0 24 (dk_at dksX4_guestByRides_3 19 rfl rfl)
theorem dX4_guestByRides_93 : decode cX4_guestByRides 93 = .ok (.iload 8, 2) := dk_21 8 (dk_at dksX4_guestByRides_3 22 rfl rfl)
theorem dX4_guestByRides_95 : decode cX4_guestByRides 95 = .ok (.ifCond .gt 15, 3) := dk_157 0 15 (dk_at dksX4_guestByRides_4 0 rfl rfl)
theorem dX4_guestByRides_98 : decode cX4_guestByRides 98 = .ok (.iload 8, 2) := dk_21 8 (dk_at dksX4_guestByRides_4 3 rfl rfl)
theorem dX4_guestByRides_100 : decode cX4_guestByRides 100 = .ok (.ifCond .ne 14, 3) := dk_154 0 14 (dk_at dksX4_guestByRides_4 5 rfl rfl)
theorem dX4_guestByRides_103 : decode cX4_guestByRides 103 = .ok (.iload 6, 2) := dk_21 6 (dk_at dksX4_guestByRides_4 8 rfl rfl)
theorem dX4_guestByRides_105 : decode cX4_guestByRides 105 = .ok (.iload 4, 2) := dk_21 4 (dk_at dksX4_guestByRides_4 10 rfl rfl)
theorem dX4_guestByRides_107 : decode cX4_guestByRides 107 = .ok (.if_icmp .ge 7, 3) := dk_162 0 7 (dk_at dksX4_guestByRides_4 12 rfl rfl)
theorem dX4_guestByRides_110 : decode cX4_guestByRides 110 = .ok (.iconst 1, 1) := dk_4 (dk_at dksX4_guestByRides_4 15 rfl rfl)
theorem dX4_guestByRides_111 : decode cX4_guestByRides 111 = .ok (.goto 4, 3) := dk_167 0 4 (dk_at dksX4_guestByRides_4 16 rfl rfl)
theorem dX4_guestByRides_114 : decode cX4_guestByRides 114 = .ok (.iconst 0, 1) := dk_3 (dk_at dksX4_guestByRides_4 19 rfl rfl)
theorem dX4_guestByRides_115 : decode cX4_guestByRides 115 = .ok (.iadd, 1) := dk_96 (dk_at dksX4_guestByRides_4 20 rfl rfl)
theorem dX4_guestByRides_116 : decode cX4_guestByRides 116 = .ok (.istore 5, 2) := dk_54 5 (dk_at dksX4_guestByRides_4 21 rfl rfl)
theorem dX4_guestByRides_118 : decode cX4_guestByRides 118 = .ok (.iinc 6 1, 3) := dk_132 6 1 (dk_at dksX4_guestByRides_5 0 rfl rfl)
theorem dX4_guestByRides_121 : decode cX4_guestByRides 121 = .ok (.goto (-85), 3) := dk_167 255 171 (dk_at dksX4_guestByRides_5 3 rfl rfl)
theorem dX4_guestByRides_124 : decode cX4_guestByRides 124 = .ok (.iload 5, 2) := dk_21 5 (dk_at dksX4_guestByRides_5 6 rfl rfl)
theorem dX4_guestByRides_126 : decode cX4_guestByRides 126 = .ok (.iload_n 1, 1) := dk_27 (dk_at dksX4_guestByRides_5 8 rfl rfl)
theorem dX4_guestByRides_127 : decode cX4_guestByRides 127 = .ok (.if_icmp .ne 8, 3) := dk_160 0 8 (dk_at dksX4_guestByRides_5 9 rfl rfl)
theorem dX4_guestByRides_130 : decode cX4_guestByRides 130 = .ok (.iload 4, 2) := dk_21 4 (dk_at dksX4_guestByRides_5 12 rfl rfl)
theorem dX4_guestByRides_132 : decode cX4_guestByRides 132 = .ok (.goto 4, 3) := dk_167 0 4 (dk_at dksX4_guestByRides_5 14 rfl rfl)
theorem dX4_guestByRides_135 : decode cX4_guestByRides 135 = .ok (.iload_n 2, 1) := dk_28 (dk_at dksX4_guestByRides_5 17 rfl rfl)
theorem dX4_guestByRides_136 : decode cX4_guestByRides 136 = .ok (.istore_n 2, 1) := dk_61 (dk_at dksX4_guestByRides_5 18 rfl rfl)
theorem dX4_guestByRides_137 : decode cX4_guestByRides 137 = .ok (.iinc 4 1, 3) := dk_132 4 1 (dk_at dksX4_guestByRides_5 19 rfl rfl)
theorem dX4_guestByRides_140 : decode cX4_guestByRides 140 = .ok (.goto (-125), 3) := dk_167 255 131 (dk_at dksX4_guestByRides_6 0 rfl rfl)
theorem dX4_guestByRides_143 : decode cX4_guestByRides 143 = .ok (.iload_n 2, 1) := dk_28 (dk_at dksX4_guestByRides_6 3 rfl rfl)
theorem dX4_guestByRides_144 : decode cX4_guestByRides 144 = .ok (.ireturn, 1) := dk_172 (dk_at dksX4_guestByRides_6 4 rfl rfl)
abbrev cX4_slideByWetness : ByteArray := prog_14_method_78_code
def yX4_slideByWetness : MethodName := ⟨RX4, "slideByWetness", "(I)I"⟩
def dkwX4_slideByWetness_4 : List UInt8 := [167, 255, 198, 21, 5, 27, 160, 0, 8, 21, 4, 167, 0, 4, 28, 61, 132, 4, 1, 167, 255, 158, 28, 172]
abbrev dktX4_slideByWetness_4 : List UInt8 := dkwX4_slideByWetness_4 ++ []
def dkwX4_slideByWetness_3 : List UInt8 := [21, 7, 154, 0, 14, 21, 6, 21, 4, 162, 0, 7, 4, 167, 0, 4, 3, 96, 54, 5, 132, 6, 1]
abbrev dktX4_slideByWetness_3 : List UInt8 := dkwX4_slideByWetness_3 ++ dktX4_slideByWetness_4
def dkwX4_slideByWetness_2 : List UInt8 := [42, 21, 6, 5, 182, 0, 71, 42, 21, 4, 5, 182, 0, 71, 100, 54, 7, 21, 5, 21, 7, 157, 0, 15]
abbrev dktX4_slideByWetness_2 : List UInt8 := dkwX4_slideByWetness_2 ++ dktX4_slideByWetness_3
def dkwX4_slideByWetness_1 : List UInt8 := [162, 0, 93, 29, 153, 0, 89, 3, 54, 5, 3, 54, 6, 21, 6, 42, 180, 0, 9, 3, 46, 162, 0, 53]
abbrev dktX4_slideByWetness_1 : List UInt8 := dkwX4_slideByWetness_1 ++ dktX4_slideByWetness_2
def dkwX4_slideByWetness_0 : List UInt8 := [3, 61, 42, 42, 27, 182, 0, 101, 182, 0, 157, 62, 3, 54, 4, 21, 4, 42, 180, 0, 9, 3, 46]
abbrev dktX4_slideByWetness_0 : List UInt8 := dkwX4_slideByWetness_0 ++ dktX4_slideByWetness_1
theorem dksX4_slideByWetness_0 : cX4_slideByWetness.data.toList.drop 0 = dktX4_slideByWetness_0 := by decide +kernel
theorem dksX4_slideByWetness_1 : cX4_slideByWetness.data.toList.drop 23 = dktX4_slideByWetness_1 := dk_seg dksX4_slideByWetness_0 23 rfl rfl
theorem dksX4_slideByWetness_2 : cX4_slideByWetness.data.toList.drop 47 = dktX4_slideByWetness_2 := dk_seg dksX4_slideByWetness_1 24 rfl rfl
theorem dksX4_slideByWetness_3 : cX4_slideByWetness.data.toList.drop 71 = dktX4_slideByWetness_3 := dk_seg dksX4_slideByWetness_2 24 rfl rfl
theorem dksX4_slideByWetness_4 : cX4_slideByWetness.data.toList.drop 94 = dktX4_slideByWetness_4 := dk_seg dksX4_slideByWetness_3 23 rfl rfl
theorem dX4_slideByWetness_0 : decode cX4_slideByWetness 0 = .ok (.iconst 0, 1) := dk_3 (dk_at dksX4_slideByWetness_0 0 rfl rfl)
theorem dX4_slideByWetness_1 : decode cX4_slideByWetness 1 = .ok (.istore_n 2, 1) := dk_61 (dk_at dksX4_slideByWetness_0 1 rfl rfl)
theorem dX4_slideByWetness_2 : decode cX4_slideByWetness 2 = .ok (.aload_n 0, 1) := dk_42 (dk_at dksX4_slideByWetness_0 2 rfl rfl)
theorem dX4_slideByWetness_3 : decode cX4_slideByWetness 3 = .ok (.aload_n 0, 1) := dk_42 (dk_at dksX4_slideByWetness_0 3 rfl rfl)
theorem dX4_slideByWetness_4 : decode cX4_slideByWetness 4 = .ok (.iload_n 1, 1) := dk_27 (dk_at dksX4_slideByWetness_0 4 rfl rfl)
theorem dX4_slideByWetness_5 : decode cX4_slideByWetness 5 = .ok (.invokevirtual 101, 3) := dk_182 0 101 (dk_at dksX4_slideByWetness_0 5 rfl rfl)
theorem dX4_slideByWetness_8 : decode cX4_slideByWetness 8 = .ok (.invokevirtual 157, 3) := dk_182 0 157 (dk_at dksX4_slideByWetness_0 8 rfl rfl)
theorem dX4_slideByWetness_11 : decode cX4_slideByWetness 11 = .ok (.istore_n 3, 1) := dk_62 (dk_at dksX4_slideByWetness_0 11 rfl rfl)
theorem dX4_slideByWetness_12 : decode cX4_slideByWetness 12 = .ok (.iconst 0, 1) := dk_3 (dk_at dksX4_slideByWetness_0 12 rfl rfl)
theorem dX4_slideByWetness_13 : decode cX4_slideByWetness 13 = .ok (.istore 4, 2) := dk_54 4 (dk_at dksX4_slideByWetness_0 13 rfl rfl)
theorem dX4_slideByWetness_15 : decode cX4_slideByWetness 15 = .ok (.iload 4, 2) := dk_21 4 (dk_at dksX4_slideByWetness_0 15 rfl rfl)
theorem dX4_slideByWetness_17 : decode cX4_slideByWetness 17 = .ok (.aload_n 0, 1) := dk_42 (dk_at dksX4_slideByWetness_0 17 rfl rfl)
theorem dX4_slideByWetness_18 : decode cX4_slideByWetness 18 = .ok (.getfield 9, 3) := dk_180 0 9 (dk_at dksX4_slideByWetness_0 18 rfl rfl)
theorem dX4_slideByWetness_21 : decode cX4_slideByWetness 21 = .ok (.iconst 0, 1) := dk_3 (dk_at dksX4_slideByWetness_0 21 rfl rfl)
theorem dX4_slideByWetness_22 : decode cX4_slideByWetness 22 = .ok (.iaload, 1) := dk_46 (dk_at dksX4_slideByWetness_0 22 rfl rfl)
theorem dX4_slideByWetness_23 : decode cX4_slideByWetness 23 = .ok (.if_icmp .ge 93, 3) := dk_162 0 93 (dk_at dksX4_slideByWetness_1 0 rfl rfl)
theorem dX4_slideByWetness_26 : decode cX4_slideByWetness 26 = .ok (.iload_n 3, 1) := dk_29 (dk_at dksX4_slideByWetness_1 3 rfl rfl)
theorem dX4_slideByWetness_27 : decode cX4_slideByWetness 27 = .ok (.ifCond .eq 89, 3) := dk_153 0 89 (dk_at dksX4_slideByWetness_1 4 rfl rfl)
theorem dX4_slideByWetness_30 : decode cX4_slideByWetness 30 = .ok (.iconst 0, 1) := dk_3 (dk_at dksX4_slideByWetness_1 7 rfl rfl)
theorem dX4_slideByWetness_31 : decode cX4_slideByWetness 31 = .ok (.istore 5, 2) := dk_54 5 (dk_at dksX4_slideByWetness_1 8 rfl rfl)
theorem dX4_slideByWetness_33 : decode cX4_slideByWetness 33 = .ok (.iconst 0, 1) := dk_3 (dk_at dksX4_slideByWetness_1 10 rfl rfl)
theorem dX4_slideByWetness_34 : decode cX4_slideByWetness 34 = .ok (.istore 6, 2) := dk_54 6 (dk_at dksX4_slideByWetness_1 11 rfl rfl)
theorem dX4_slideByWetness_36 : decode cX4_slideByWetness 36 = .ok (.iload 6, 2) := dk_21 6 (dk_at dksX4_slideByWetness_1 13 rfl rfl)
theorem dX4_slideByWetness_38 : decode cX4_slideByWetness 38 = .ok (.aload_n 0, 1) := dk_42 (dk_at dksX4_slideByWetness_1 15 rfl rfl)
theorem dX4_slideByWetness_39 : decode cX4_slideByWetness 39 = .ok (.getfield 9, 3) := dk_180 0 9 (dk_at dksX4_slideByWetness_1 16 rfl rfl)
theorem dX4_slideByWetness_42 : decode cX4_slideByWetness 42 = .ok (.iconst 0, 1) := dk_3 (dk_at dksX4_slideByWetness_1 19 rfl rfl)
theorem dX4_slideByWetness_43 : decode cX4_slideByWetness 43 = .ok (.iaload, 1) := dk_46 (dk_at dksX4_slideByWetness_1 20 rfl rfl)
theorem dX4_slideByWetness_44 : decode cX4_slideByWetness 44 = .ok (.if_icmp .ge 53, 3) := dk_162 0 53 (dk_at dksX4_slideByWetness_1 21 rfl rfl)
theorem dX4_slideByWetness_47 : decode cX4_slideByWetness 47 = .ok (.aload_n 0, 1) := dk_42 (dk_at dksX4_slideByWetness_2 0 rfl rfl)
theorem dX4_slideByWetness_48 : decode cX4_slideByWetness 48 = .ok (.iload 6, 2) := dk_21 6 (dk_at dksX4_slideByWetness_2 1 rfl rfl)
theorem dX4_slideByWetness_50 : decode cX4_slideByWetness 50 = .ok (.iconst 2, 1) := dk_5 (dk_at dksX4_slideByWetness_2 3 rfl rfl)
theorem dX4_slideByWetness_51 : decode cX4_slideByWetness 51 = .ok (.invokevirtual 71, 3) := dk_182 0 71 (dk_at dksX4_slideByWetness_2 4 rfl rfl)
theorem dX4_slideByWetness_54 : decode cX4_slideByWetness 54 = .ok (.aload_n 0, 1) := dk_42 (dk_at dksX4_slideByWetness_2 7 rfl rfl)
theorem dX4_slideByWetness_55 : decode cX4_slideByWetness 55 = .ok (.iload 4, 2) := dk_21 4 (dk_at dksX4_slideByWetness_2 8 rfl rfl)
theorem dX4_slideByWetness_57 : decode cX4_slideByWetness 57 = .ok (.iconst 2, 1) := dk_5 (dk_at dksX4_slideByWetness_2 10 rfl rfl)
theorem dX4_slideByWetness_58 : decode cX4_slideByWetness 58 = .ok (.invokevirtual 71, 3) := dk_182 0 71 (dk_at dksX4_slideByWetness_2 11 rfl rfl)
theorem dX4_slideByWetness_61 : decode cX4_slideByWetness 61 = .ok (.isub, 1) := dk_100 (dk_at dksX4_slideByWetness_2 14 rfl rfl)
theorem dX4_slideByWetness_62 : decode cX4_slideByWetness 62 = .ok (.istore 7, 2) := dk_54 7 (dk_at dksX4_slideByWetness_2 15 rfl rfl)
theorem dX4_slideByWetness_64 : decode cX4_slideByWetness 64 = .ok (.iload 5, 2) := dk_21 5 (dk_at dksX4_slideByWetness_2 17 rfl rfl)
theorem dX4_slideByWetness_66 : decode cX4_slideByWetness 66 = .ok (.iload 7, 2) := dk_21 7 (dk_at dksX4_slideByWetness_2 19 rfl rfl)
theorem dX4_slideByWetness_68 : decode cX4_slideByWetness 68 = .ok (.ifCond .gt 15, 3) := dk_157 0 15 (dk_at dksX4_slideByWetness_2 21 rfl rfl)
theorem dX4_slideByWetness_71 : decode cX4_slideByWetness 71 = .ok (.iload 7, 2) := dk_21 7 (dk_at dksX4_slideByWetness_3 0 rfl rfl)
theorem dX4_slideByWetness_73 : decode cX4_slideByWetness 73 = .ok (.ifCond .ne 14, 3) := dk_154 0 14 (dk_at dksX4_slideByWetness_3 2 rfl rfl)
theorem dX4_slideByWetness_76 : decode cX4_slideByWetness 76 = .ok (.iload 6, 2) := dk_21 6 (dk_at dksX4_slideByWetness_3 5 rfl rfl)
theorem dX4_slideByWetness_78 : decode cX4_slideByWetness 78 = .ok (.iload 4, 2) := dk_21 4 (dk_at dksX4_slideByWetness_3 7 rfl rfl)
theorem dX4_slideByWetness_80 : decode cX4_slideByWetness 80 = .ok (.if_icmp .ge 7, 3) := dk_162 0 7 (dk_at dksX4_slideByWetness_3 9 rfl rfl)
theorem dX4_slideByWetness_83 : decode cX4_slideByWetness 83 = .ok (.iconst 1, 1) := dk_4 (dk_at dksX4_slideByWetness_3 12 rfl rfl)
theorem dX4_slideByWetness_84 : decode cX4_slideByWetness 84 = .ok (.goto 4, 3) := dk_167 0 4 (dk_at dksX4_slideByWetness_3 13 rfl rfl)
theorem dX4_slideByWetness_87 : decode cX4_slideByWetness 87 = .ok (.iconst 0, 1) := dk_3 (dk_at dksX4_slideByWetness_3 16 rfl rfl)
theorem dX4_slideByWetness_88 : decode cX4_slideByWetness 88 = .ok (.iadd, 1) := dk_96 (dk_at dksX4_slideByWetness_3 17 rfl rfl)
theorem dX4_slideByWetness_89 : decode cX4_slideByWetness 89 = .ok (.istore 5, 2) := dk_54 5 (dk_at dksX4_slideByWetness_3 18 rfl rfl)
theorem dX4_slideByWetness_91 : decode cX4_slideByWetness 91 = .ok (.iinc 6 1, 3) := dk_132 6 1 (dk_at dksX4_slideByWetness_3 20 rfl rfl)
theorem dX4_slideByWetness_94 : decode cX4_slideByWetness 94 = .ok (.goto (-58), 3) := dk_167 255 198 (dk_at dksX4_slideByWetness_4 0 rfl rfl)
theorem dX4_slideByWetness_97 : decode cX4_slideByWetness 97 = .ok (.iload 5, 2) := dk_21 5 (dk_at dksX4_slideByWetness_4 3 rfl rfl)
theorem dX4_slideByWetness_99 : decode cX4_slideByWetness 99 = .ok (.iload_n 1, 1) := dk_27 (dk_at dksX4_slideByWetness_4 5 rfl rfl)
theorem dX4_slideByWetness_100 : decode cX4_slideByWetness 100 = .ok (.if_icmp .ne 8, 3) := dk_160 0 8 (dk_at dksX4_slideByWetness_4 6 rfl rfl)
theorem dX4_slideByWetness_103 : decode cX4_slideByWetness 103 = .ok (.iload 4, 2) := dk_21 4 (dk_at dksX4_slideByWetness_4 9 rfl rfl)
theorem dX4_slideByWetness_105 : decode cX4_slideByWetness 105 = .ok (.goto 4, 3) := dk_167 0 4 (dk_at dksX4_slideByWetness_4 11 rfl rfl)
theorem dX4_slideByWetness_108 : decode cX4_slideByWetness 108 = .ok (.iload_n 2, 1) := dk_28 (dk_at dksX4_slideByWetness_4 14 rfl rfl)
theorem dX4_slideByWetness_109 : decode cX4_slideByWetness 109 = .ok (.istore_n 2, 1) := dk_61 (dk_at dksX4_slideByWetness_4 15 rfl rfl)
theorem dX4_slideByWetness_110 : decode cX4_slideByWetness 110 = .ok (.iinc 4 1, 3) := dk_132 4 1 (dk_at dksX4_slideByWetness_4 16 rfl rfl)
theorem dX4_slideByWetness_113 : decode cX4_slideByWetness 113 = .ok (.goto (-98), 3) := dk_167 255 158 (dk_at dksX4_slideByWetness_4 19 rfl rfl)
theorem dX4_slideByWetness_116 : decode cX4_slideByWetness 116 = .ok (.iload_n 2, 1) := dk_28 (dk_at dksX4_slideByWetness_4 22 rfl rfl)
theorem dX4_slideByWetness_117 : decode cX4_slideByWetness 117 = .ok (.ireturn, 1) := dk_172 (dk_at dksX4_slideByWetness_4 23 rfl rfl)
abbrev cX4_meanCoins : ByteArray := prog_14_method_79_code
def yX4_meanCoins : MethodName := ⟨RX4, "meanCoins", "()D"⟩
def dkwX4_meanCoins_2 : List UInt8 := [135, 27, 135, 111, 167, 0, 4, 14, 175]
abbrev dktX4_meanCoins_2 : List UInt8 := dkwX4_meanCoins_2 ++ []
def dkwX4_meanCoins_1 : List UInt8 := [61, 132, 3, 1, 167, 255, 239, 42, 27, 158, 0, 7, 4, 167, 0, 4, 3, 182, 0, 157, 153, 0, 11, 28]
abbrev dktX4_meanCoins_1 : List UInt8 := dkwX4_meanCoins_1 ++ dktX4_meanCoins_2
def dkwX4_meanCoins_0 : List UInt8 := [42, 180, 0, 9, 4, 46, 60, 3, 61, 3, 62, 29, 27, 162, 0, 18, 28, 42, 29, 3, 182, 0, 107, 96]
abbrev dktX4_meanCoins_0 : List UInt8 := dkwX4_meanCoins_0 ++ dktX4_meanCoins_1
theorem dksX4_meanCoins_0 : cX4_meanCoins.data.toList.drop 0 = dktX4_meanCoins_0 := by decide +kernel
theorem dksX4_meanCoins_1 : cX4_meanCoins.data.toList.drop 24 = dktX4_meanCoins_1 := dk_seg dksX4_meanCoins_0 24 rfl rfl
theorem dksX4_meanCoins_2 : cX4_meanCoins.data.toList.drop 48 = dktX4_meanCoins_2 := dk_seg dksX4_meanCoins_1 24 rfl rfl
theorem dX4_meanCoins_0 : decode cX4_meanCoins 0 = .ok (.aload_n 0, 1) := dk_42 (dk_at dksX4_meanCoins_0 0 rfl rfl)
theorem dX4_meanCoins_1 : decode cX4_meanCoins 1 = .ok (.getfield 9, 3) := dk_180 0 9 (dk_at dksX4_meanCoins_0 1 rfl rfl)
theorem dX4_meanCoins_4 : decode cX4_meanCoins 4 = .ok (.iconst 1, 1) := dk_4 (dk_at dksX4_meanCoins_0 4 rfl rfl)
theorem dX4_meanCoins_5 : decode cX4_meanCoins 5 = .ok (.iaload, 1) := dk_46 (dk_at dksX4_meanCoins_0 5 rfl rfl)
theorem dX4_meanCoins_6 : decode cX4_meanCoins 6 = .ok (.istore_n 1, 1) := dk_60 (dk_at dksX4_meanCoins_0 6 rfl rfl)
theorem dX4_meanCoins_7 : decode cX4_meanCoins 7 = .ok (.iconst 0, 1) := dk_3 (dk_at dksX4_meanCoins_0 7 rfl rfl)
theorem dX4_meanCoins_8 : decode cX4_meanCoins 8 = .ok (.istore_n 2, 1) := dk_61 (dk_at dksX4_meanCoins_0 8 rfl rfl)
theorem dX4_meanCoins_9 : decode cX4_meanCoins 9 = .ok (.iconst 0, 1) := dk_3 (dk_at dksX4_meanCoins_0 9 rfl rfl)
theorem dX4_meanCoins_10 : decode cX4_meanCoins 10 = .ok (.istore_n 3, 1) := dk_62 (dk_at dksX4_meanCoins_0 10 rfl rfl)
theorem dX4_meanCoins_11 : decode cX4_meanCoins 11 = .ok (.iload_n 3, 1) := dk_29 (dk_at dksX4_meanCoins_0 11 rfl rfl)
theorem dX4_meanCoins_12 : decode cX4_meanCoins 12 = .ok (.iload_n 1, 1) := dk_27 (dk_at dksX4_meanCoins_0 12 rfl rfl)
theorem dX4_meanCoins_13 : decode cX4_meanCoins 13 = .ok (.if_icmp .ge 18, 3) := dk_162 0 18 (dk_at dksX4_meanCoins_0 13 rfl rfl)
theorem dX4_meanCoins_16 : decode cX4_meanCoins 16 = .ok (.iload_n 2, 1) := dk_28 (dk_at dksX4_meanCoins_0 16 rfl rfl)
theorem dX4_meanCoins_17 : decode cX4_meanCoins 17 = .ok (.aload_n 0, 1) := dk_42 (dk_at dksX4_meanCoins_0 17 rfl rfl)
theorem dX4_meanCoins_18 : decode cX4_meanCoins 18 = .ok (.iload_n 3, 1) := dk_29 (dk_at dksX4_meanCoins_0 18 rfl rfl)
theorem dX4_meanCoins_19 : decode cX4_meanCoins 19 = .ok (.iconst 0, 1) := dk_3 (dk_at dksX4_meanCoins_0 19 rfl rfl)
theorem dX4_meanCoins_20 : decode cX4_meanCoins 20 = .ok (.invokevirtual 107, 3) := dk_182 0 107 (dk_at dksX4_meanCoins_0 20 rfl rfl)
theorem dX4_meanCoins_23 : decode cX4_meanCoins 23 = .ok (.iadd, 1) := dk_96 (dk_at dksX4_meanCoins_0 23 rfl rfl)
theorem dX4_meanCoins_24 : decode cX4_meanCoins 24 = .ok (.istore_n 2, 1) := dk_61 (dk_at dksX4_meanCoins_1 0 rfl rfl)
theorem dX4_meanCoins_25 : decode cX4_meanCoins 25 = .ok (.iinc 3 1, 3) := dk_132 3 1 (dk_at dksX4_meanCoins_1 1 rfl rfl)
theorem dX4_meanCoins_28 : decode cX4_meanCoins 28 = .ok (.goto (-17), 3) := dk_167 255 239 (dk_at dksX4_meanCoins_1 4 rfl rfl)
theorem dX4_meanCoins_31 : decode cX4_meanCoins 31 = .ok (.aload_n 0, 1) := dk_42 (dk_at dksX4_meanCoins_1 7 rfl rfl)
theorem dX4_meanCoins_32 : decode cX4_meanCoins 32 = .ok (.iload_n 1, 1) := dk_27 (dk_at dksX4_meanCoins_1 8 rfl rfl)
theorem dX4_meanCoins_33 : decode cX4_meanCoins 33 = .ok (.ifCond .le 7, 3) := dk_158 0 7 (dk_at dksX4_meanCoins_1 9 rfl rfl)
theorem dX4_meanCoins_36 : decode cX4_meanCoins 36 = .ok (.iconst 1, 1) := dk_4 (dk_at dksX4_meanCoins_1 12 rfl rfl)
theorem dX4_meanCoins_37 : decode cX4_meanCoins 37 = .ok (.goto 4, 3) := dk_167 0 4 (dk_at dksX4_meanCoins_1 13 rfl rfl)
theorem dX4_meanCoins_40 : decode cX4_meanCoins 40 = .ok (.iconst 0, 1) := dk_3 (dk_at dksX4_meanCoins_1 16 rfl rfl)
theorem dX4_meanCoins_41 : decode cX4_meanCoins 41 = .ok (.invokevirtual 157, 3) := dk_182 0 157 (dk_at dksX4_meanCoins_1 17 rfl rfl)
theorem dX4_meanCoins_44 : decode cX4_meanCoins 44 = .ok (.ifCond .eq 11, 3) := dk_153 0 11 (dk_at dksX4_meanCoins_1 20 rfl rfl)
theorem dX4_meanCoins_47 : decode cX4_meanCoins 47 = .ok (.iload_n 2, 1) := dk_28 (dk_at dksX4_meanCoins_1 23 rfl rfl)
theorem dX4_meanCoins_48 : decode cX4_meanCoins 48 = .ok (.i2d, 1) := dk_135 (dk_at dksX4_meanCoins_2 0 rfl rfl)
theorem dX4_meanCoins_49 : decode cX4_meanCoins 49 = .ok (.iload_n 1, 1) := dk_27 (dk_at dksX4_meanCoins_2 1 rfl rfl)
theorem dX4_meanCoins_50 : decode cX4_meanCoins 50 = .ok (.i2d, 1) := dk_135 (dk_at dksX4_meanCoins_2 2 rfl rfl)
theorem dX4_meanCoins_51 : decode cX4_meanCoins 51 = .ok (.ddiv, 1) := dk_111 (dk_at dksX4_meanCoins_2 3 rfl rfl)
theorem dX4_meanCoins_52 : decode cX4_meanCoins 52 = .ok (.goto 4, 3) := dk_167 0 4 (dk_at dksX4_meanCoins_2 4 rfl rfl)
theorem dX4_meanCoins_55 : decode cX4_meanCoins 55 = .ok (.dconst 0, 1) := dk_14 (dk_at dksX4_meanCoins_2 7 rfl rfl)
theorem dX4_meanCoins_56 : decode cX4_meanCoins 56 = .ok (.dreturn, 1) := dk_175 (dk_at dksX4_meanCoins_2 8 rfl rfl)
abbrev cX4_busyShare : ByteArray := prog_14_method_80_code
def yX4_busyShare : MethodName := ⟨RX4, "busyShare", "()F"⟩
def dkwX4_busyShare_2 : List UInt8 := [158, 0, 7, 4, 167, 0, 4, 3, 182, 0, 157, 153, 0, 11, 28, 134, 27, 134, 110, 167, 0, 4, 11, 174]
abbrev dktX4_busyShare_2 : List UInt8 := dkwX4_busyShare_2 ++ []
def dkwX4_busyShare_1 : List UInt8 := [46, 182, 0, 145, 155, 0, 7, 4, 167, 0, 4, 3, 96, 61, 132, 3, 1, 167, 255, 226, 42, 27]
abbrev dktX4_busyShare_1 : List UInt8 := dkwX4_busyShare_1 ++ dktX4_busyShare_2
def dkwX4_busyShare_0 : List UInt8 := [42, 180, 0, 9, 3, 46, 60, 3, 61, 3, 62, 29, 27, 162, 0, 31, 28, 42, 29, 42, 180, 0, 9, 6]
abbrev dktX4_busyShare_0 : List UInt8 := dkwX4_busyShare_0 ++ dktX4_busyShare_1
theorem dksX4_busyShare_0 : cX4_busyShare.data.toList.drop 0 = dktX4_busyShare_0 := by decide +kernel
theorem dksX4_busyShare_1 : cX4_busyShare.data.toList.drop 24 = dktX4_busyShare_1 := dk_seg dksX4_busyShare_0 24 rfl rfl
theorem dksX4_busyShare_2 : cX4_busyShare.data.toList.drop 46 = dktX4_busyShare_2 := dk_seg dksX4_busyShare_1 22 rfl rfl
theorem dX4_busyShare_0 : decode cX4_busyShare 0 = .ok (.aload_n 0, 1) := dk_42 (dk_at dksX4_busyShare_0 0 rfl rfl)
theorem dX4_busyShare_1 : decode cX4_busyShare 1 = .ok (.getfield 9, 3) := dk_180 0 9 (dk_at dksX4_busyShare_0 1 rfl rfl)
theorem dX4_busyShare_4 : decode cX4_busyShare 4 = .ok (.iconst 0, 1) := dk_3 (dk_at dksX4_busyShare_0 4 rfl rfl)
theorem dX4_busyShare_5 : decode cX4_busyShare 5 = .ok (.iaload, 1) := dk_46 (dk_at dksX4_busyShare_0 5 rfl rfl)
theorem dX4_busyShare_6 : decode cX4_busyShare 6 = .ok (.istore_n 1, 1) := dk_60 (dk_at dksX4_busyShare_0 6 rfl rfl)
theorem dX4_busyShare_7 : decode cX4_busyShare 7 = .ok (.iconst 0, 1) := dk_3 (dk_at dksX4_busyShare_0 7 rfl rfl)
theorem dX4_busyShare_8 : decode cX4_busyShare 8 = .ok (.istore_n 2, 1) := dk_61 (dk_at dksX4_busyShare_0 8 rfl rfl)
theorem dX4_busyShare_9 : decode cX4_busyShare 9 = .ok (.iconst 0, 1) := dk_3 (dk_at dksX4_busyShare_0 9 rfl rfl)
theorem dX4_busyShare_10 : decode cX4_busyShare 10 = .ok (.istore_n 3, 1) := dk_62 (dk_at dksX4_busyShare_0 10 rfl rfl)
theorem dX4_busyShare_11 : decode cX4_busyShare 11 = .ok (.iload_n 3, 1) := dk_29 (dk_at dksX4_busyShare_0 11 rfl rfl)
theorem dX4_busyShare_12 : decode cX4_busyShare 12 = .ok (.iload_n 1, 1) := dk_27 (dk_at dksX4_busyShare_0 12 rfl rfl)
theorem dX4_busyShare_13 : decode cX4_busyShare 13 = .ok (.if_icmp .ge 31, 3) := dk_162 0 31 (dk_at dksX4_busyShare_0 13 rfl rfl)
theorem dX4_busyShare_16 : decode cX4_busyShare 16 = .ok (.iload_n 2, 1) := dk_28 (dk_at dksX4_busyShare_0 16 rfl rfl)
theorem dX4_busyShare_17 : decode cX4_busyShare 17 = .ok (.aload_n 0, 1) := dk_42 (dk_at dksX4_busyShare_0 17 rfl rfl)
theorem dX4_busyShare_18 : decode cX4_busyShare 18 = .ok (.iload_n 3, 1) := dk_29 (dk_at dksX4_busyShare_0 18 rfl rfl)
theorem dX4_busyShare_19 : decode cX4_busyShare 19 = .ok (.aload_n 0, 1) := dk_42 (dk_at dksX4_busyShare_0 19 rfl rfl)
theorem dX4_busyShare_20 : decode cX4_busyShare 20 = .ok (.getfield 9, 3) := dk_180 0 9 (dk_at dksX4_busyShare_0 20 rfl rfl)
theorem dX4_busyShare_23 : decode cX4_busyShare 23 = .ok (.iconst 3, 1) := dk_6 (dk_at dksX4_busyShare_0 23 rfl rfl)
theorem dX4_busyShare_24 : decode cX4_busyShare 24 = .ok (.iaload, 1) := dk_46 (dk_at dksX4_busyShare_1 0 rfl rfl)
theorem dX4_busyShare_25 : decode cX4_busyShare 25 = .ok (.invokevirtual 145, 3) := dk_182 0 145 (dk_at dksX4_busyShare_1 1 rfl rfl)
theorem dX4_busyShare_28 : decode cX4_busyShare 28 = .ok (.ifCond .lt 7, 3) := dk_155 0 7 (dk_at dksX4_busyShare_1 4 rfl rfl)
theorem dX4_busyShare_31 : decode cX4_busyShare 31 = .ok (.iconst 1, 1) := dk_4 (dk_at dksX4_busyShare_1 7 rfl rfl)
theorem dX4_busyShare_32 : decode cX4_busyShare 32 = .ok (.goto 4, 3) := dk_167 0 4 (dk_at dksX4_busyShare_1 8 rfl rfl)
theorem dX4_busyShare_35 : decode cX4_busyShare 35 = .ok (.iconst 0, 1) := dk_3 (dk_at dksX4_busyShare_1 11 rfl rfl)
theorem dX4_busyShare_36 : decode cX4_busyShare 36 = .ok (.iadd, 1) := dk_96 (dk_at dksX4_busyShare_1 12 rfl rfl)
theorem dX4_busyShare_37 : decode cX4_busyShare 37 = .ok (.istore_n 2, 1) := dk_61 (dk_at dksX4_busyShare_1 13 rfl rfl)
theorem dX4_busyShare_38 : decode cX4_busyShare 38 = .ok (.iinc 3 1, 3) := dk_132 3 1 (dk_at dksX4_busyShare_1 14 rfl rfl)
theorem dX4_busyShare_41 : decode cX4_busyShare 41 = .ok (.goto (-30), 3) := dk_167 255 226 (dk_at dksX4_busyShare_1 17 rfl rfl)
theorem dX4_busyShare_44 : decode cX4_busyShare 44 = .ok (.aload_n 0, 1) := dk_42 (dk_at dksX4_busyShare_1 20 rfl rfl)
theorem dX4_busyShare_45 : decode cX4_busyShare 45 = .ok (.iload_n 1, 1) := dk_27 (dk_at dksX4_busyShare_1 21 rfl rfl)
theorem dX4_busyShare_46 : decode cX4_busyShare 46 = .ok (.ifCond .le 7, 3) := dk_158 0 7 (dk_at dksX4_busyShare_2 0 rfl rfl)
theorem dX4_busyShare_49 : decode cX4_busyShare 49 = .ok (.iconst 1, 1) := dk_4 (dk_at dksX4_busyShare_2 3 rfl rfl)
theorem dX4_busyShare_50 : decode cX4_busyShare 50 = .ok (.goto 4, 3) := dk_167 0 4 (dk_at dksX4_busyShare_2 4 rfl rfl)
theorem dX4_busyShare_53 : decode cX4_busyShare 53 = .ok (.iconst 0, 1) := dk_3 (dk_at dksX4_busyShare_2 7 rfl rfl)
theorem dX4_busyShare_54 : decode cX4_busyShare 54 = .ok (.invokevirtual 157, 3) := dk_182 0 157 (dk_at dksX4_busyShare_2 8 rfl rfl)
theorem dX4_busyShare_57 : decode cX4_busyShare 57 = .ok (.ifCond .eq 11, 3) := dk_153 0 11 (dk_at dksX4_busyShare_2 11 rfl rfl)
theorem dX4_busyShare_60 : decode cX4_busyShare 60 = .ok (.iload_n 2, 1) := dk_28 (dk_at dksX4_busyShare_2 14 rfl rfl)
theorem dX4_busyShare_61 : decode cX4_busyShare 61 = .ok (.i2f, 1) := dk_134 (dk_at dksX4_busyShare_2 15 rfl rfl)
theorem dX4_busyShare_62 : decode cX4_busyShare 62 = .ok (.iload_n 1, 1) := dk_27 (dk_at dksX4_busyShare_2 16 rfl rfl)
theorem dX4_busyShare_63 : decode cX4_busyShare 63 = .ok (.i2f, 1) := dk_134 (dk_at dksX4_busyShare_2 17 rfl rfl)
theorem dX4_busyShare_64 : decode cX4_busyShare 64 = .ok (.fdiv, 1) := dk_110 (dk_at dksX4_busyShare_2 18 rfl rfl)
theorem dX4_busyShare_65 : decode cX4_busyShare 65 = .ok (.goto 4, 3) := dk_167 0 4 (dk_at dksX4_busyShare_2 19 rfl rfl)
theorem dX4_busyShare_68 : decode cX4_busyShare 68 = .ok (.fconst 0, 1) := dk_11 (dk_at dksX4_busyShare_2 22 rfl rfl)
theorem dX4_busyShare_69 : decode cX4_busyShare 69 = .ok (.freturn, 1) := dk_174 (dk_at dksX4_busyShare_2 23 rfl rfl)
abbrev cX4_isConsistent : ByteArray := prog_14_method_81_code
def yX4_isConsistent : MethodName := ⟨RX4, "isConsistent", "()Z"⟩
def dkwX4_isConsistent_0 : List UInt8 := [42, 3, 181, 0, 39, 4, 172]
abbrev dktX4_isConsistent_0 : List UInt8 := dkwX4_isConsistent_0 ++ []
theorem dksX4_isConsistent_0 : cX4_isConsistent.data.toList.drop 0 = dktX4_isConsistent_0 := by decide +kernel
theorem dX4_isConsistent_0 : decode cX4_isConsistent 0 = .ok (.aload_n 0, 1) := dk_42 (dk_at dksX4_isConsistent_0 0 rfl rfl)
theorem dX4_isConsistent_1 : decode cX4_isConsistent 1 = .ok (.iconst 0, 1) := dk_3 (dk_at dksX4_isConsistent_0 1 rfl rfl)
theorem dX4_isConsistent_2 : decode cX4_isConsistent 2 = .ok (.putfield 39, 3) := dk_181 0 39 (dk_at dksX4_isConsistent_0 2 rfl rfl)
theorem dX4_isConsistent_5 : decode cX4_isConsistent 5 = .ok (.iconst 1, 1) := dk_4 (dk_at dksX4_isConsistent_0 5 rfl rfl)
theorem dX4_isConsistent_6 : decode cX4_isConsistent 6 = .ok (.ireturn, 1) := dk_172 (dk_at dksX4_isConsistent_0 6 rfl rfl)
abbrev cX4_writeSlide : ByteArray := prog_14_method_84_code
def yX4_writeSlide : MethodName := ⟨RX4, "writeSlide", "(I)I"⟩
def dkwX4_writeSlide_5 : List UInt8 := [182, 0, 188, 42, 42, 29, 182, 0, 67, 182, 0, 185, 132, 2, 1, 167, 255, 196, 42, 180, 0, 182, 172]
abbrev dktX4_writeSlide_5 : List UInt8 := dkwX4_writeSlide_5 ++ []
def dkwX4_writeSlide_4 : List UInt8 := [160, 0, 34, 42, 16, 32, 182, 0, 188, 42, 42, 29, 3, 182, 0, 64, 182, 0, 185, 42, 16, 64]
abbrev dktX4_writeSlide_4 : List UInt8 := dkwX4_writeSlide_4 ++ dktX4_writeSlide_5
def dkwX4_writeSlide_3 : List UInt8 := [42, 180, 0, 9, 5, 46, 162, 0, 56, 42, 28, 182, 0, 161, 62, 42, 29, 4, 182, 0, 64, 27]
abbrev dktX4_writeSlide_3 : List UInt8 := dkwX4_writeSlide_3 ++ dktX4_writeSlide_4
def dkwX4_writeSlide_2 : List UInt8 := [16, 99, 182, 0, 188, 42, 42, 27, 5, 182, 0, 71, 182, 0, 185, 42, 16, 119, 182, 0, 188, 3, 61, 28]
abbrev dktX4_writeSlide_2 : List UInt8 := dkwX4_writeSlide_2 ++ dktX4_writeSlide_3
def dkwX4_writeSlide_1 : List UInt8 := [182, 0, 71, 182, 0, 185, 42, 16, 109, 182, 0, 188, 42, 42, 27, 4, 182, 0, 71, 182, 0, 185, 42]
abbrev dktX4_writeSlide_1 : List UInt8 := dkwX4_writeSlide_1 ++ dktX4_writeSlide_2
def dkwX4_writeSlide_0 : List UInt8 := [42, 42, 27, 182, 0, 101, 182, 0, 157, 154, 0, 5, 3, 172, 42, 3, 181, 0, 182, 42, 42, 27, 3]
abbrev dktX4_writeSlide_0 : List UInt8 := dkwX4_writeSlide_0 ++ dktX4_writeSlide_1
theorem dksX4_writeSlide_0 : cX4_writeSlide.data.toList.drop 0 = dktX4_writeSlide_0 := by decide +kernel
theorem dksX4_writeSlide_1 : cX4_writeSlide.data.toList.drop 23 = dktX4_writeSlide_1 := dk_seg dksX4_writeSlide_0 23 rfl rfl
theorem dksX4_writeSlide_2 : cX4_writeSlide.data.toList.drop 46 = dktX4_writeSlide_2 := dk_seg dksX4_writeSlide_1 23 rfl rfl
theorem dksX4_writeSlide_3 : cX4_writeSlide.data.toList.drop 70 = dktX4_writeSlide_3 := dk_seg dksX4_writeSlide_2 24 rfl rfl
theorem dksX4_writeSlide_4 : cX4_writeSlide.data.toList.drop 92 = dktX4_writeSlide_4 := dk_seg dksX4_writeSlide_3 22 rfl rfl
theorem dksX4_writeSlide_5 : cX4_writeSlide.data.toList.drop 114 = dktX4_writeSlide_5 := dk_seg dksX4_writeSlide_4 22 rfl rfl
theorem dX4_writeSlide_0 : decode cX4_writeSlide 0 = .ok (.aload_n 0, 1) := dk_42 (dk_at dksX4_writeSlide_0 0 rfl rfl)
theorem dX4_writeSlide_1 : decode cX4_writeSlide 1 = .ok (.aload_n 0, 1) := dk_42 (dk_at dksX4_writeSlide_0 1 rfl rfl)
theorem dX4_writeSlide_2 : decode cX4_writeSlide 2 = .ok (.iload_n 1, 1) := dk_27 (dk_at dksX4_writeSlide_0 2 rfl rfl)
theorem dX4_writeSlide_3 : decode cX4_writeSlide 3 = .ok (.invokevirtual 101, 3) := dk_182 0 101 (dk_at dksX4_writeSlide_0 3 rfl rfl)
theorem dX4_writeSlide_6 : decode cX4_writeSlide 6 = .ok (.invokevirtual 157, 3) := dk_182 0 157 (dk_at dksX4_writeSlide_0 6 rfl rfl)
theorem dX4_writeSlide_9 : decode cX4_writeSlide 9 = .ok (.ifCond .ne 5, 3) := dk_154 0 5 (dk_at dksX4_writeSlide_0 9 rfl rfl)
theorem dX4_writeSlide_12 : decode cX4_writeSlide 12 = .ok (.iconst 0, 1) := dk_3 (dk_at dksX4_writeSlide_0 12 rfl rfl)
theorem dX4_writeSlide_13 : decode cX4_writeSlide 13 = .ok (.ireturn, 1) := dk_172 (dk_at dksX4_writeSlide_0 13 rfl rfl)
theorem dX4_writeSlide_14 : decode cX4_writeSlide 14 = .ok (.aload_n 0, 1) := dk_42 (dk_at dksX4_writeSlide_0 14 rfl rfl)
theorem dX4_writeSlide_15 : decode cX4_writeSlide 15 = .ok (.iconst 0, 1) := dk_3 (dk_at dksX4_writeSlide_0 15 rfl rfl)
theorem dX4_writeSlide_16 : decode cX4_writeSlide 16 = .ok (.putfield 182, 3) := dk_181 0 182 (dk_at dksX4_writeSlide_0 16 rfl rfl)
theorem dX4_writeSlide_19 : decode cX4_writeSlide 19 = .ok (.aload_n 0, 1) := dk_42 (dk_at dksX4_writeSlide_0 19 rfl rfl)
theorem dX4_writeSlide_20 : decode cX4_writeSlide 20 = .ok (.aload_n 0, 1) := dk_42 (dk_at dksX4_writeSlide_0 20 rfl rfl)
theorem dX4_writeSlide_21 : decode cX4_writeSlide 21 = .ok (.iload_n 1, 1) := dk_27 (dk_at dksX4_writeSlide_0 21 rfl rfl)
theorem dX4_writeSlide_22 : decode cX4_writeSlide 22 = .ok (.iconst 0, 1) := dk_3 (dk_at dksX4_writeSlide_0 22 rfl rfl)
theorem dX4_writeSlide_23 : decode cX4_writeSlide 23 = .ok (.invokevirtual 71, 3) := dk_182 0 71 (dk_at dksX4_writeSlide_1 0 rfl rfl)
theorem dX4_writeSlide_26 : decode cX4_writeSlide 26 = .ok (.invokevirtual 185, 3) := dk_182 0 185 (dk_at dksX4_writeSlide_1 3 rfl rfl)
theorem dX4_writeSlide_29 : decode cX4_writeSlide 29 = .ok (.aload_n 0, 1) := dk_42 (dk_at dksX4_writeSlide_1 6 rfl rfl)
theorem dX4_writeSlide_30 : decode cX4_writeSlide 30 = .ok (.bipush 109, 2) := dk_16 109 (dk_at dksX4_writeSlide_1 7 rfl rfl)
theorem dX4_writeSlide_32 : decode cX4_writeSlide 32 = .ok (.invokevirtual 188, 3) := dk_182 0 188 (dk_at dksX4_writeSlide_1 9 rfl rfl)
theorem dX4_writeSlide_35 : decode cX4_writeSlide 35 = .ok (.aload_n 0, 1) := dk_42 (dk_at dksX4_writeSlide_1 12 rfl rfl)
theorem dX4_writeSlide_36 : decode cX4_writeSlide 36 = .ok (.aload_n 0, 1) := dk_42 (dk_at dksX4_writeSlide_1 13 rfl rfl)
theorem dX4_writeSlide_37 : decode cX4_writeSlide 37 = .ok (.iload_n 1, 1) := dk_27 (dk_at dksX4_writeSlide_1 14 rfl rfl)
theorem dX4_writeSlide_38 : decode cX4_writeSlide 38 = .ok (.iconst 1, 1) := dk_4 (dk_at dksX4_writeSlide_1 15 rfl rfl)
theorem dX4_writeSlide_39 : decode cX4_writeSlide 39 = .ok (.invokevirtual 71, 3) := dk_182 0 71 (dk_at dksX4_writeSlide_1 16 rfl rfl)
theorem dX4_writeSlide_42 : decode cX4_writeSlide 42 = .ok (.invokevirtual 185, 3) := dk_182 0 185 (dk_at dksX4_writeSlide_1 19 rfl rfl)
theorem dX4_writeSlide_45 : decode cX4_writeSlide 45 = .ok (.aload_n 0, 1) := dk_42 (dk_at dksX4_writeSlide_1 22 rfl rfl)
theorem dX4_writeSlide_46 : decode cX4_writeSlide 46 = .ok (.bipush 99, 2) := dk_16 99 (dk_at dksX4_writeSlide_2 0 rfl rfl)
theorem dX4_writeSlide_48 : decode cX4_writeSlide 48 = .ok (.invokevirtual 188, 3) := dk_182 0 188 (dk_at dksX4_writeSlide_2 2 rfl rfl)
theorem dX4_writeSlide_51 : decode cX4_writeSlide 51 = .ok (.aload_n 0, 1) := dk_42 (dk_at dksX4_writeSlide_2 5 rfl rfl)
theorem dX4_writeSlide_52 : decode cX4_writeSlide 52 = .ok (.aload_n 0, 1) := dk_42 (dk_at dksX4_writeSlide_2 6 rfl rfl)
theorem dX4_writeSlide_53 : decode cX4_writeSlide 53 = .ok (.iload_n 1, 1) := dk_27 (dk_at dksX4_writeSlide_2 7 rfl rfl)
theorem dX4_writeSlide_54 : decode cX4_writeSlide 54 = .ok (.iconst 2, 1) := dk_5 (dk_at dksX4_writeSlide_2 8 rfl rfl)
theorem dX4_writeSlide_55 : decode cX4_writeSlide 55 = .ok (.invokevirtual 71, 3) := dk_182 0 71 (dk_at dksX4_writeSlide_2 9 rfl rfl)
theorem dX4_writeSlide_58 : decode cX4_writeSlide 58 = .ok (.invokevirtual 185, 3) := dk_182 0 185 (dk_at dksX4_writeSlide_2 12 rfl rfl)
theorem dX4_writeSlide_61 : decode cX4_writeSlide 61 = .ok (.aload_n 0, 1) := dk_42 (dk_at dksX4_writeSlide_2 15 rfl rfl)
theorem dX4_writeSlide_62 : decode cX4_writeSlide 62 = .ok (.bipush 119, 2) := dk_16 119 (dk_at dksX4_writeSlide_2 16 rfl rfl)
theorem dX4_writeSlide_64 : decode cX4_writeSlide 64 = .ok (.invokevirtual 188, 3) := dk_182 0 188 (dk_at dksX4_writeSlide_2 18 rfl rfl)
theorem dX4_writeSlide_67 : decode cX4_writeSlide 67 = .ok (.iconst 0, 1) := dk_3 (dk_at dksX4_writeSlide_2 21 rfl rfl)
theorem dX4_writeSlide_68 : decode cX4_writeSlide 68 = .ok (.istore_n 2, 1) := dk_61 (dk_at dksX4_writeSlide_2 22 rfl rfl)
theorem dX4_writeSlide_69 : decode cX4_writeSlide 69 = .ok (.iload_n 2, 1) := dk_28 (dk_at dksX4_writeSlide_2 23 rfl rfl)
theorem dX4_writeSlide_70 : decode cX4_writeSlide 70 = .ok (.aload_n 0, 1) := dk_42 (dk_at dksX4_writeSlide_3 0 rfl rfl)
theorem dX4_writeSlide_71 : decode cX4_writeSlide 71 = .ok (.getfield 9, 3) := dk_180 0 9 (dk_at dksX4_writeSlide_3 1 rfl rfl)
theorem dX4_writeSlide_74 : decode cX4_writeSlide 74 = .ok (.iconst 2, 1) := dk_5 (dk_at dksX4_writeSlide_3 4 rfl rfl)
theorem dX4_writeSlide_75 : decode cX4_writeSlide 75 = .ok (.iaload, 1) := dk_46 (dk_at dksX4_writeSlide_3 5 rfl rfl)
theorem dX4_writeSlide_76 : decode cX4_writeSlide 76 = .ok (.if_icmp .ge 56, 3) := dk_162 0 56 (dk_at dksX4_writeSlide_3 6 rfl rfl)
theorem dX4_writeSlide_79 : decode cX4_writeSlide 79 = .ok (.aload_n 0, 1) := dk_42 (dk_at dksX4_writeSlide_3 9 rfl rfl)
theorem dX4_writeSlide_80 : decode cX4_writeSlide 80 = .ok (.iload_n 2, 1) := dk_28 (dk_at dksX4_writeSlide_3 10 rfl rfl)
theorem dX4_writeSlide_81 : decode cX4_writeSlide 81 = .ok (.invokevirtual 161, 3) := dk_182 0 161 (dk_at dksX4_writeSlide_3 11 rfl rfl)
theorem dX4_writeSlide_84 : decode cX4_writeSlide 84 = .ok (.istore_n 3, 1) := dk_62 (dk_at dksX4_writeSlide_3 14 rfl rfl)
theorem dX4_writeSlide_85 : decode cX4_writeSlide 85 = .ok (.aload_n 0, 1) := dk_42 (dk_at dksX4_writeSlide_3 15 rfl rfl)
theorem dX4_writeSlide_86 : decode cX4_writeSlide 86 = .ok (.iload_n 3, 1) := dk_29 (dk_at dksX4_writeSlide_3 16 rfl rfl)
theorem dX4_writeSlide_87 : decode cX4_writeSlide 87 = .ok (.iconst 1, 1) := dk_4 (dk_at dksX4_writeSlide_3 17 rfl rfl)
theorem dX4_writeSlide_88 : decode cX4_writeSlide 88 = .ok (.invokevirtual 64, 3) := dk_182 0 64 (dk_at dksX4_writeSlide_3 18 rfl rfl)
theorem dX4_writeSlide_91 : decode cX4_writeSlide 91 = .ok (.iload_n 1, 1) := dk_27 (dk_at dksX4_writeSlide_3 21 rfl rfl)
theorem dX4_writeSlide_92 : decode cX4_writeSlide 92 = .ok (.if_icmp .ne 34, 3) := dk_160 0 34 (dk_at dksX4_writeSlide_4 0 rfl rfl)
theorem dX4_writeSlide_95 : decode cX4_writeSlide 95 = .ok (.aload_n 0, 1) := dk_42 (dk_at dksX4_writeSlide_4 3 rfl rfl)
theorem dX4_writeSlide_96 : decode cX4_writeSlide 96 = .ok (.bipush 32, 2) := dk_16 32 (dk_at dksX4_writeSlide_4 4 rfl rfl)
theorem dX4_writeSlide_98 : decode cX4_writeSlide 98 = .ok (.invokevirtual 188, 3) := dk_182 0 188 (dk_at dksX4_writeSlide_4 6 rfl rfl)
theorem dX4_writeSlide_101 : decode cX4_writeSlide 101 = .ok (.aload_n 0, 1) := dk_42 (dk_at dksX4_writeSlide_4 9 rfl rfl)
theorem dX4_writeSlide_102 : decode cX4_writeSlide 102 = .ok (.aload_n 0, 1) := dk_42 (dk_at dksX4_writeSlide_4 10 rfl rfl)
theorem dX4_writeSlide_103 : decode cX4_writeSlide 103 = .ok (.iload_n 3, 1) := dk_29 (dk_at dksX4_writeSlide_4 11 rfl rfl)
theorem dX4_writeSlide_104 : decode cX4_writeSlide 104 = .ok (.iconst 0, 1) := dk_3 (dk_at dksX4_writeSlide_4 12 rfl rfl)
theorem dX4_writeSlide_105 : decode cX4_writeSlide 105 = .ok (.invokevirtual 64, 3) := dk_182 0 64 (dk_at dksX4_writeSlide_4 13 rfl rfl)
theorem dX4_writeSlide_108 : decode cX4_writeSlide 108 = .ok (.invokevirtual 185, 3) := dk_182 0 185 (dk_at dksX4_writeSlide_4 16 rfl rfl)
theorem dX4_writeSlide_111 : decode cX4_writeSlide 111 = .ok (.aload_n 0, 1) := dk_42 (dk_at dksX4_writeSlide_4 19 rfl rfl)
theorem dX4_writeSlide_112 : decode cX4_writeSlide 112 = .ok (.bipush 64, 2) := dk_16 64 (dk_at dksX4_writeSlide_4 20 rfl rfl)
theorem dX4_writeSlide_114 : decode cX4_writeSlide 114 = .ok (.invokevirtual 188, 3) := dk_182 0 188 (dk_at dksX4_writeSlide_5 0 rfl rfl)
theorem dX4_writeSlide_117 : decode cX4_writeSlide 117 = .ok (.aload_n 0, 1) := dk_42 (dk_at dksX4_writeSlide_5 3 rfl rfl)
theorem dX4_writeSlide_118 : decode cX4_writeSlide 118 = .ok (.aload_n 0, 1) := dk_42 (dk_at dksX4_writeSlide_5 4 rfl rfl)
theorem dX4_writeSlide_119 : decode cX4_writeSlide 119 = .ok (.iload_n 3, 1) := dk_29 (dk_at dksX4_writeSlide_5 5 rfl rfl)
theorem dX4_writeSlide_120 : decode cX4_writeSlide 120 = .ok (.invokevirtual 67, 3) := dk_182 0 67 (dk_at dksX4_writeSlide_5 6 rfl rfl)
theorem dX4_writeSlide_123 : decode cX4_writeSlide 123 = .ok (.invokevirtual 185, 3) := dk_182 0 185 (dk_at dksX4_writeSlide_5 9 rfl rfl)
theorem dX4_writeSlide_126 : decode cX4_writeSlide 126 = .ok (.iinc 2 1, 3) := dk_132 2 1 (dk_at dksX4_writeSlide_5 12 rfl rfl)
theorem dX4_writeSlide_129 : decode cX4_writeSlide 129 = .ok (.goto (-60), 3) := dk_167 255 196 (dk_at dksX4_writeSlide_5 15 rfl rfl)
theorem dX4_writeSlide_132 : decode cX4_writeSlide 132 = .ok (.aload_n 0, 1) := dk_42 (dk_at dksX4_writeSlide_5 18 rfl rfl)
theorem dX4_writeSlide_133 : decode cX4_writeSlide 133 = .ok (.getfield 182, 3) := dk_180 0 182 (dk_at dksX4_writeSlide_5 19 rfl rfl)
theorem dX4_writeSlide_136 : decode cX4_writeSlide 136 = .ok (.ireturn, 1) := dk_172 (dk_at dksX4_writeSlide_5 22 rfl rfl)
abbrev cX4_saysNumber : ByteArray := prog_14_method_83_code
def yX4_saysNumber : MethodName := ⟨RX4, "saysNumber", "(I)V"⟩
def dkwX4_saysNumber_1 : List UInt8 := [182, 0, 188, 177]
abbrev dktX4_saysNumber_1 : List UInt8 := dkwX4_saysNumber_1 ++ []
def dkwX4_saysNumber_0 : List UInt8 := [27, 16, 9, 164, 0, 11, 42, 27, 16, 10, 108, 182, 0, 185, 42, 16, 48, 27, 16, 10, 112, 96, 146]
abbrev dktX4_saysNumber_0 : List UInt8 := dkwX4_saysNumber_0 ++ dktX4_saysNumber_1
theorem dksX4_saysNumber_0 : cX4_saysNumber.data.toList.drop 0 = dktX4_saysNumber_0 := by decide +kernel
theorem dksX4_saysNumber_1 : cX4_saysNumber.data.toList.drop 23 = dktX4_saysNumber_1 := dk_seg dksX4_saysNumber_0 23 rfl rfl
theorem dX4_saysNumber_0 : decode cX4_saysNumber 0 = .ok (.iload_n 1, 1) := dk_27 (dk_at dksX4_saysNumber_0 0 rfl rfl)
theorem dX4_saysNumber_1 : decode cX4_saysNumber 1 = .ok (.bipush 9, 2) := dk_16 9 (dk_at dksX4_saysNumber_0 1 rfl rfl)
theorem dX4_saysNumber_3 : decode cX4_saysNumber 3 = .ok (.if_icmp .le 11, 3) := dk_164 0 11 (dk_at dksX4_saysNumber_0 3 rfl rfl)
theorem dX4_saysNumber_6 : decode cX4_saysNumber 6 = .ok (.aload_n 0, 1) := dk_42 (dk_at dksX4_saysNumber_0 6 rfl rfl)
theorem dX4_saysNumber_7 : decode cX4_saysNumber 7 = .ok (.iload_n 1, 1) := dk_27 (dk_at dksX4_saysNumber_0 7 rfl rfl)
theorem dX4_saysNumber_8 : decode cX4_saysNumber 8 = .ok (.bipush 10, 2) := dk_16 10 (dk_at dksX4_saysNumber_0 8 rfl rfl)
theorem dX4_saysNumber_10 : decode cX4_saysNumber 10 = .ok (.idiv, 1) := dk_108 (dk_at dksX4_saysNumber_0 10 rfl rfl)
theorem dX4_saysNumber_11 : decode cX4_saysNumber 11 = .ok (.invokevirtual 185, 3) := dk_182 0 185 (dk_at dksX4_saysNumber_0 11 rfl rfl)
theorem dX4_saysNumber_14 : decode cX4_saysNumber 14 = .ok (.aload_n 0, 1) := dk_42 (dk_at dksX4_saysNumber_0 14 rfl rfl)
theorem dX4_saysNumber_15 : decode cX4_saysNumber 15 = .ok (.bipush 48, 2) := dk_16 48 (dk_at dksX4_saysNumber_0 15 rfl rfl)
theorem dX4_saysNumber_17 : decode cX4_saysNumber 17 = .ok (.iload_n 1, 1) := dk_27 (dk_at dksX4_saysNumber_0 17 rfl rfl)
theorem dX4_saysNumber_18 : decode cX4_saysNumber 18 = .ok (.bipush 10, 2) := dk_16 10 (dk_at dksX4_saysNumber_0 18 rfl rfl)
theorem dX4_saysNumber_20 : decode cX4_saysNumber 20 = .ok (.irem, 1) := dk_112 (dk_at dksX4_saysNumber_0 20 rfl rfl)
theorem dX4_saysNumber_21 : decode cX4_saysNumber 21 = .ok (.iadd, 1) := dk_96 (dk_at dksX4_saysNumber_0 21 rfl rfl)
theorem dX4_saysNumber_22 : decode cX4_saysNumber 22 = .ok (.i2c, 1) := dk_146 (dk_at dksX4_saysNumber_0 22 rfl rfl)
theorem dX4_saysNumber_23 : decode cX4_saysNumber 23 = .ok (.invokevirtual 188, 3) := dk_182 0 188 (dk_at dksX4_saysNumber_1 0 rfl rfl)
theorem dX4_saysNumber_26 : decode cX4_saysNumber 26 = .ok (.return_, 1) := dk_177 (dk_at dksX4_saysNumber_1 3 rfl rfl)
abbrev cX4_says : ByteArray := prog_14_method_82_code
def yX4_says : MethodName := ⟨RX4, "says", "(C)V"⟩
def dkwX4_says_0 : List UInt8 := [42, 180, 0, 22, 42, 180, 0, 182, 27, 85, 42, 89, 180, 0, 182, 4, 96, 181, 0, 182, 177]
abbrev dktX4_says_0 : List UInt8 := dkwX4_says_0 ++ []
theorem dksX4_says_0 : cX4_says.data.toList.drop 0 = dktX4_says_0 := by decide +kernel
theorem dX4_says_0 : decode cX4_says 0 = .ok (.aload_n 0, 1) := dk_42 (dk_at dksX4_says_0 0 rfl rfl)
theorem dX4_says_1 : decode cX4_says 1 = .ok (.getfield 22, 3) := dk_180 0 22 (dk_at dksX4_says_0 1 rfl rfl)
theorem dX4_says_4 : decode cX4_says 4 = .ok (.aload_n 0, 1) := dk_42 (dk_at dksX4_says_0 4 rfl rfl)
theorem dX4_says_5 : decode cX4_says 5 = .ok (.getfield 182, 3) := dk_180 0 182 (dk_at dksX4_says_0 5 rfl rfl)
theorem dX4_says_8 : decode cX4_says 8 = .ok (.iload_n 1, 1) := dk_27 (dk_at dksX4_says_0 8 rfl rfl)
theorem dX4_says_9 : decode cX4_says 9 = .ok (.castore, 1) := dk_85 (dk_at dksX4_says_0 9 rfl rfl)
theorem dX4_says_10 : decode cX4_says 10 = .ok (.aload_n 0, 1) := dk_42 (dk_at dksX4_says_0 10 rfl rfl)
theorem dX4_says_11 : decode cX4_says 11 = .ok (.dup, 1) := dk_89 (dk_at dksX4_says_0 11 rfl rfl)
theorem dX4_says_12 : decode cX4_says 12 = .ok (.getfield 182, 3) := dk_180 0 182 (dk_at dksX4_says_0 12 rfl rfl)
theorem dX4_says_15 : decode cX4_says 15 = .ok (.iconst 1, 1) := dk_4 (dk_at dksX4_says_0 15 rfl rfl)
theorem dX4_says_16 : decode cX4_says 16 = .ok (.iadd, 1) := dk_96 (dk_at dksX4_says_0 16 rfl rfl)
theorem dX4_says_17 : decode cX4_says 17 = .ok (.putfield 182, 3) := dk_181 0 182 (dk_at dksX4_says_0 17 rfl rfl)
theorem dX4_says_20 : decode cX4_says 20 = .ok (.return_, 1) := dk_177 (dk_at dksX4_says_0 20 rfl rfl)
abbrev cX4_outputChar : ByteArray := prog_14_method_85_code
def yX4_outputChar : MethodName := ⟨RX4, "outputChar", "(I)C"⟩
def dkwX4_outputChar_1 : List UInt8 := [167, 0, 5, 16, 32, 172]
abbrev dktX4_outputChar_1 : List UInt8 := dkwX4_outputChar_1 ++ []
def dkwX4_outputChar_0 : List UInt8 := [42, 27, 3, 42, 180, 0, 182, 4, 100, 184, 0, 51, 182, 0, 157, 153, 0, 12, 42, 180, 0, 22, 27, 52]
abbrev dktX4_outputChar_0 : List UInt8 := dkwX4_outputChar_0 ++ dktX4_outputChar_1
theorem dksX4_outputChar_0 : cX4_outputChar.data.toList.drop 0 = dktX4_outputChar_0 := by decide +kernel
theorem dksX4_outputChar_1 : cX4_outputChar.data.toList.drop 24 = dktX4_outputChar_1 := dk_seg dksX4_outputChar_0 24 rfl rfl
theorem dX4_outputChar_0 : decode cX4_outputChar 0 = .ok (.aload_n 0, 1) := dk_42 (dk_at dksX4_outputChar_0 0 rfl rfl)
theorem dX4_outputChar_1 : decode cX4_outputChar 1 = .ok (.iload_n 1, 1) := dk_27 (dk_at dksX4_outputChar_0 1 rfl rfl)
theorem dX4_outputChar_2 : decode cX4_outputChar 2 = .ok (.iconst 0, 1) := dk_3 (dk_at dksX4_outputChar_0 2 rfl rfl)
theorem dX4_outputChar_3 : decode cX4_outputChar 3 = .ok (.aload_n 0, 1) := dk_42 (dk_at dksX4_outputChar_0 3 rfl rfl)
theorem dX4_outputChar_4 : decode cX4_outputChar 4 = .ok (.getfield 182, 3) := dk_180 0 182 (dk_at dksX4_outputChar_0 4 rfl rfl)
theorem dX4_outputChar_7 : decode cX4_outputChar 7 = .ok (.iconst 1, 1) := dk_4 (dk_at dksX4_outputChar_0 7 rfl rfl)
theorem dX4_outputChar_8 : decode cX4_outputChar 8 = .ok (.isub, 1) := dk_100 (dk_at dksX4_outputChar_0 8 rfl rfl)
theorem dX4_outputChar_9 : decode cX4_outputChar 9 = .ok (.invokestatic 51, 3) := dk_184 0 51 (dk_at dksX4_outputChar_0 9 rfl rfl)
theorem dX4_outputChar_12 : decode cX4_outputChar 12 = .ok (.invokevirtual 157, 3) := dk_182 0 157 (dk_at dksX4_outputChar_0 12 rfl rfl)
theorem dX4_outputChar_15 : decode cX4_outputChar 15 = .ok (.ifCond .eq 12, 3) := dk_153 0 12 (dk_at dksX4_outputChar_0 15 rfl rfl)
theorem dX4_outputChar_18 : decode cX4_outputChar 18 = .ok (.aload_n 0, 1) := dk_42 (dk_at dksX4_outputChar_0 18 rfl rfl)
theorem dX4_outputChar_19 : decode cX4_outputChar 19 = .ok (.getfield 22, 3) := dk_180 0 22 (dk_at dksX4_outputChar_0 19 rfl rfl)
theorem dX4_outputChar_22 : decode cX4_outputChar 22 = .ok (.iload_n 1, 1) := dk_27 (dk_at dksX4_outputChar_0 22 rfl rfl)
theorem dX4_outputChar_23 : decode cX4_outputChar 23 = .ok (.caload, 1) := dk_52 (dk_at dksX4_outputChar_0 23 rfl rfl)
theorem dX4_outputChar_24 : decode cX4_outputChar 24 = .ok (.goto 5, 3) := dk_167 0 5 (dk_at dksX4_outputChar_1 0 rfl rfl)
theorem dX4_outputChar_27 : decode cX4_outputChar 27 = .ok (.bipush 32, 2) := dk_16 32 (dk_at dksX4_outputChar_1 3 rfl rfl)
theorem dX4_outputChar_29 : decode cX4_outputChar 29 = .ok (.ireturn, 1) := dk_172 (dk_at dksX4_outputChar_1 5 rfl rfl)
abbrev cX4_feed : ByteArray := prog_14_method_86_code
def yX4_feed : MethodName := ⟨RX4, "feed", "(C)I"⟩
def dkwX4_feed_2 : List UInt8 := [181, 0, 192, 42, 180, 0, 192, 172]
abbrev dktX4_feed_2 : List UInt8 := dkwX4_feed_2 ++ []
def dkwX4_feed_1 : List UInt8 := [158, 0, 5, 3, 172, 42, 180, 0, 26, 42, 180, 0, 192, 27, 85, 42, 89, 180, 0, 192, 4, 96]
abbrev dktX4_feed_1 : List UInt8 := dkwX4_feed_1 ++ dktX4_feed_2
def dkwX4_feed_0 : List UInt8 := [42, 42, 180, 0, 192, 16, 60, 160, 0, 7, 4, 167, 0, 4, 3, 181, 0, 39, 42, 180, 0, 39]
abbrev dktX4_feed_0 : List UInt8 := dkwX4_feed_0 ++ dktX4_feed_1
theorem dksX4_feed_0 : cX4_feed.data.toList.drop 0 = dktX4_feed_0 := by decide +kernel
theorem dksX4_feed_1 : cX4_feed.data.toList.drop 22 = dktX4_feed_1 := dk_seg dksX4_feed_0 22 rfl rfl
theorem dksX4_feed_2 : cX4_feed.data.toList.drop 44 = dktX4_feed_2 := dk_seg dksX4_feed_1 22 rfl rfl
theorem dX4_feed_0 : decode cX4_feed 0 = .ok (.aload_n 0, 1) := dk_42 (dk_at dksX4_feed_0 0 rfl rfl)
theorem dX4_feed_1 : decode cX4_feed 1 = .ok (.aload_n 0, 1) := dk_42 (dk_at dksX4_feed_0 1 rfl rfl)
theorem dX4_feed_2 : decode cX4_feed 2 = .ok (.getfield 192, 3) := dk_180 0 192 (dk_at dksX4_feed_0 2 rfl rfl)
theorem dX4_feed_5 : decode cX4_feed 5 = .ok (.bipush 60, 2) := dk_16 60 (dk_at dksX4_feed_0 5 rfl rfl)
theorem dX4_feed_7 : decode cX4_feed 7 = .ok (.if_icmp .ne 7, 3) := dk_160 0 7 (dk_at dksX4_feed_0 7 rfl rfl)
theorem dX4_feed_10 : decode cX4_feed 10 = .ok (.iconst 1, 1) := dk_4 (dk_at dksX4_feed_0 10 rfl rfl)
theorem dX4_feed_11 : decode cX4_feed 11 = .ok (.goto 4, 3) := dk_167 0 4 (dk_at dksX4_feed_0 11 rfl rfl)
theorem dX4_feed_14 : decode cX4_feed 14 = .ok (.iconst 0, 1) := dk_3 (dk_at dksX4_feed_0 14 rfl rfl)
theorem dX4_feed_15 : decode cX4_feed 15 = .ok (.putfield 39, 3) := dk_181 0 39 (dk_at dksX4_feed_0 15 rfl rfl)
theorem dX4_feed_18 : decode cX4_feed 18 = .ok (.aload_n 0, 1) := dk_42 (dk_at dksX4_feed_0 18 rfl rfl)
theorem dX4_feed_19 : decode cX4_feed 19 = .ok (.getfield 39, 3) := dk_180 0 39 (dk_at dksX4_feed_0 19 rfl rfl)
theorem dX4_feed_22 : decode cX4_feed 22 = .ok (.ifCond .le 5, 3) := dk_158 0 5 (dk_at dksX4_feed_1 0 rfl rfl)
theorem dX4_feed_25 : decode cX4_feed 25 = .ok (.iconst 0, 1) := dk_3 (dk_at dksX4_feed_1 3 rfl rfl)
theorem dX4_feed_26 : decode cX4_feed 26 = .ok (.ireturn, 1) := dk_172 (dk_at dksX4_feed_1 4 rfl rfl)
theorem dX4_feed_27 : decode cX4_feed 27 = .ok (.aload_n 0, 1) := dk_42 (dk_at dksX4_feed_1 5 rfl rfl)
theorem dX4_feed_28 : decode cX4_feed 28 = .ok (.getfield 26, 3) := dk_180 0 26 (dk_at dksX4_feed_1 6 rfl rfl)
theorem dX4_feed_31 : decode cX4_feed 31 = .ok (.aload_n 0, 1) := dk_42 (dk_at dksX4_feed_1 9 rfl rfl)
theorem dX4_feed_32 : decode cX4_feed 32 = .ok (.getfield 192, 3) := dk_180 0 192 (dk_at dksX4_feed_1 10 rfl rfl)
theorem dX4_feed_35 : decode cX4_feed 35 = .ok (.iload_n 1, 1) := dk_27 (dk_at dksX4_feed_1 13 rfl rfl)
theorem dX4_feed_36 : decode cX4_feed 36 = .ok (.castore, 1) := dk_85 (dk_at dksX4_feed_1 14 rfl rfl)
theorem dX4_feed_37 : decode cX4_feed 37 = .ok (.aload_n 0, 1) := dk_42 (dk_at dksX4_feed_1 15 rfl rfl)
theorem dX4_feed_38 : decode cX4_feed 38 = .ok (.dup, 1) := dk_89 (dk_at dksX4_feed_1 16 rfl rfl)
theorem dX4_feed_39 : decode cX4_feed 39 = .ok (.getfield 192, 3) := dk_180 0 192 (dk_at dksX4_feed_1 17 rfl rfl)
theorem dX4_feed_42 : decode cX4_feed 42 = .ok (.iconst 1, 1) := dk_4 (dk_at dksX4_feed_1 20 rfl rfl)
theorem dX4_feed_43 : decode cX4_feed 43 = .ok (.iadd, 1) := dk_96 (dk_at dksX4_feed_1 21 rfl rfl)
theorem dX4_feed_44 : decode cX4_feed 44 = .ok (.putfield 192, 3) := dk_181 0 192 (dk_at dksX4_feed_2 0 rfl rfl)
theorem dX4_feed_47 : decode cX4_feed 47 = .ok (.aload_n 0, 1) := dk_42 (dk_at dksX4_feed_2 3 rfl rfl)
theorem dX4_feed_48 : decode cX4_feed 48 = .ok (.getfield 192, 3) := dk_180 0 192 (dk_at dksX4_feed_2 4 rfl rfl)
theorem dX4_feed_51 : decode cX4_feed 51 = .ok (.ireturn, 1) := dk_172 (dk_at dksX4_feed_2 7 rfl rfl)
abbrev cX4_runCommands : ByteArray := prog_14_method_93_code
def yX4_runCommands : MethodName := ⟨RX4, "runCommands", "()I"⟩
def dkwX4_runCommands_7 : List UInt8 := [167, 255, 218, 42, 42, 180, 0, 223, 182, 0, 83, 172]
abbrev dktX4_runCommands_7 : List UInt8 := dkwX4_runCommands_7 ++ []
def dkwX4_runCommands_6 : List UInt8 := [180, 0, 39, 158, 0, 18, 42, 27, 181, 0, 33, 42, 42, 5, 182, 0, 74, 182, 0, 83, 172, 132, 1, 1]
abbrev dktX4_runCommands_6 : List UInt8 := dkwX4_runCommands_6 ++ dktX4_runCommands_7
def dkwX4_runCommands_5 : List UInt8 := [182, 0, 74, 172, 42, 182, 0, 77, 3, 60, 27, 42, 180, 0, 223, 162, 0, 36, 42, 27, 182, 0, 244, 42]
abbrev dktX4_runCommands_5 : List UInt8 := dkwX4_runCommands_5 ++ dktX4_runCommands_6
def dkwX4_runCommands_4 : List UInt8 := [167, 0, 7, 42, 180, 0, 29, 181, 0, 29, 42, 3, 181, 0, 192, 42, 180, 0, 202, 153, 0, 9, 42, 4]
abbrev dktX4_runCommands_4 : List UInt8 := dkwX4_runCommands_4 ++ dktX4_runCommands_5
def dkwX4_runCommands_3 : List UInt8 := [162, 0, 7, 4, 167, 0, 4, 3, 181, 0, 202, 42, 42, 180, 0, 202, 153, 0, 10, 42, 180, 0, 195]
abbrev dktX4_runCommands_3 : List UInt8 := dkwX4_runCommands_3 ++ dktX4_runCommands_4
def dkwX4_runCommands_2 : List UInt8 := [182, 0, 241, 167, 255, 226, 42, 42, 180, 0, 202, 154, 0, 14, 42, 180, 0, 195, 42, 180, 0, 192]
abbrev dktX4_runCommands_2 : List UInt8 := dkwX4_runCommands_2 ++ dktX4_runCommands_3
def dkwX4_runCommands_1 : List UInt8 := [154, 0, 29, 42, 182, 0, 206, 16, 59, 160, 0, 20, 42, 89, 180, 0, 195, 4, 96, 181, 0, 195, 42]
abbrev dktX4_runCommands_1 : List UInt8 := dkwX4_runCommands_1 ++ dktX4_runCommands_2
def dkwX4_runCommands_0 : List UInt8 := [42, 3, 181, 0, 195, 42, 3, 181, 0, 202, 42, 3, 181, 0, 223, 42, 182, 0, 241, 42, 180, 0, 202]
abbrev dktX4_runCommands_0 : List UInt8 := dkwX4_runCommands_0 ++ dktX4_runCommands_1
theorem dksX4_runCommands_0 : cX4_runCommands.data.toList.drop 0 = dktX4_runCommands_0 := by decide +kernel
theorem dksX4_runCommands_1 : cX4_runCommands.data.toList.drop 23 = dktX4_runCommands_1 := dk_seg dksX4_runCommands_0 23 rfl rfl
theorem dksX4_runCommands_2 : cX4_runCommands.data.toList.drop 46 = dktX4_runCommands_2 := dk_seg dksX4_runCommands_1 23 rfl rfl
theorem dksX4_runCommands_3 : cX4_runCommands.data.toList.drop 68 = dktX4_runCommands_3 := dk_seg dksX4_runCommands_2 22 rfl rfl
theorem dksX4_runCommands_4 : cX4_runCommands.data.toList.drop 91 = dktX4_runCommands_4 := dk_seg dksX4_runCommands_3 23 rfl rfl
theorem dksX4_runCommands_5 : cX4_runCommands.data.toList.drop 115 = dktX4_runCommands_5 := dk_seg dksX4_runCommands_4 24 rfl rfl
theorem dksX4_runCommands_6 : cX4_runCommands.data.toList.drop 139 = dktX4_runCommands_6 := dk_seg dksX4_runCommands_5 24 rfl rfl
theorem dksX4_runCommands_7 : cX4_runCommands.data.toList.drop 163 = dktX4_runCommands_7 := dk_seg dksX4_runCommands_6 24 rfl rfl
theorem dX4_runCommands_0 : decode cX4_runCommands 0 = .ok (.aload_n 0, 1) := dk_42 (dk_at dksX4_runCommands_0 0 rfl rfl)
theorem dX4_runCommands_1 : decode cX4_runCommands 1 = .ok (.iconst 0, 1) := dk_3 (dk_at dksX4_runCommands_0 1 rfl rfl)
theorem dX4_runCommands_2 : decode cX4_runCommands 2 = .ok (.putfield 195, 3) := dk_181 0 195 (dk_at dksX4_runCommands_0 2 rfl rfl)
theorem dX4_runCommands_5 : decode cX4_runCommands 5 = .ok (.aload_n 0, 1) := dk_42 (dk_at dksX4_runCommands_0 5 rfl rfl)
theorem dX4_runCommands_6 : decode cX4_runCommands 6 = .ok (.iconst 0, 1) := dk_3 (dk_at dksX4_runCommands_0 6 rfl rfl)
theorem dX4_runCommands_7 : decode cX4_runCommands 7 = .ok (.putfield 202, 3) := dk_181 0 202 (dk_at dksX4_runCommands_0 7 rfl rfl)
theorem dX4_runCommands_10 : decode cX4_runCommands 10 = .ok (.aload_n 0, 1) := dk_42 (dk_at dksX4_runCommands_0 10 rfl rfl)
theorem dX4_runCommands_11 : decode cX4_runCommands 11 = .ok (.iconst 0, 1) := dk_3 (dk_at dksX4_runCommands_0 11 rfl rfl)
theorem dX4_runCommands_12 : decode cX4_runCommands 12 = .ok (.putfield 223, 3) := dk_181 0 223 (dk_at dksX4_runCommands_0 12 rfl rfl)
theorem dX4_runCommands_15 : decode cX4_runCommands 15 = .ok (.aload_n 0, 1) := dk_42 (dk_at dksX4_runCommands_0 15 rfl rfl)
theorem dX4_runCommands_16 : decode cX4_runCommands 16 = .ok (.invokevirtual 241, 3) := dk_182 0 241 (dk_at dksX4_runCommands_0 16 rfl rfl)
theorem dX4_runCommands_19 : decode cX4_runCommands 19 = .ok (.aload_n 0, 1) := dk_42 (dk_at dksX4_runCommands_0 19 rfl rfl)
theorem dX4_runCommands_20 : decode cX4_runCommands 20 = .ok (.getfield 202, 3) := dk_180 0 202 (dk_at dksX4_runCommands_0 20 rfl rfl)
theorem dX4_runCommands_23 : decode cX4_runCommands 23 = .ok (.ifCond .ne 29, 3) := dk_154 0 29 (dk_at dksX4_runCommands_1 0 rfl rfl)
theorem dX4_runCommands_26 : decode cX4_runCommands 26 = .ok (.aload_n 0, 1) := dk_42 (dk_at dksX4_runCommands_1 3 rfl rfl)
theorem dX4_runCommands_27 : decode cX4_runCommands 27 = .ok (.invokevirtual 206, 3) := dk_182 0 206 (dk_at dksX4_runCommands_1 4 rfl rfl)
theorem dX4_runCommands_30 : decode cX4_runCommands 30 = .ok (.bipush 59, 2) := dk_16 59 (dk_at dksX4_runCommands_1 7 rfl rfl)
theorem dX4_runCommands_32 : decode cX4_runCommands 32 = .ok (.if_icmp .ne 20, 3) := dk_160 0 20 (dk_at dksX4_runCommands_1 9 rfl rfl)
theorem dX4_runCommands_35 : decode cX4_runCommands 35 = .ok (.aload_n 0, 1) := dk_42 (dk_at dksX4_runCommands_1 12 rfl rfl)
theorem dX4_runCommands_36 : decode cX4_runCommands 36 = .ok (.dup, 1) := dk_89 (dk_at dksX4_runCommands_1 13 rfl rfl)
theorem dX4_runCommands_37 : decode cX4_runCommands 37 = .ok (.getfield 195, 3) := dk_180 0 195 (dk_at dksX4_runCommands_1 14 rfl rfl)
theorem dX4_runCommands_40 : decode cX4_runCommands 40 = .ok (.iconst 1, 1) := dk_4 (dk_at dksX4_runCommands_1 17 rfl rfl)
theorem dX4_runCommands_41 : decode cX4_runCommands 41 = .ok (.iadd, 1) := dk_96 (dk_at dksX4_runCommands_1 18 rfl rfl)
theorem dX4_runCommands_42 : decode cX4_runCommands 42 = .ok (.putfield 195, 3) := dk_181 0 195 (dk_at dksX4_runCommands_1 19 rfl rfl)
theorem dX4_runCommands_45 : decode cX4_runCommands 45 = .ok (.aload_n 0, 1) := dk_42 (dk_at dksX4_runCommands_1 22 rfl rfl)
theorem dX4_runCommands_46 : decode cX4_runCommands 46 = .ok (.invokevirtual 241, 3) := dk_182 0 241 (dk_at dksX4_runCommands_2 0 rfl rfl)
theorem dX4_runCommands_49 : decode cX4_runCommands 49 = .ok (.goto (-30), 3) := dk_167 255 226 (dk_at dksX4_runCommands_2 3 rfl rfl)
theorem dX4_runCommands_52 : decode cX4_runCommands 52 = .ok (.aload_n 0, 1) := dk_42 (dk_at dksX4_runCommands_2 6 rfl rfl)
theorem dX4_runCommands_53 : decode cX4_runCommands 53 = .ok (.aload_n 0, 1) := dk_42 (dk_at dksX4_runCommands_2 7 rfl rfl)
theorem dX4_runCommands_54 : decode cX4_runCommands 54 = .ok (.getfield 202, 3) := dk_180 0 202 (dk_at dksX4_runCommands_2 8 rfl rfl)
theorem dX4_runCommands_57 : decode cX4_runCommands 57 = .ok (.ifCond .ne 14, 3) := dk_154 0 14 (dk_at dksX4_runCommands_2 11 rfl rfl)
theorem dX4_runCommands_60 : decode cX4_runCommands 60 = .ok (.aload_n 0, 1) := dk_42 (dk_at dksX4_runCommands_2 14 rfl rfl)
theorem dX4_runCommands_61 : decode cX4_runCommands 61 = .ok (.getfield 195, 3) := dk_180 0 195 (dk_at dksX4_runCommands_2 15 rfl rfl)
theorem dX4_runCommands_64 : decode cX4_runCommands 64 = .ok (.aload_n 0, 1) := dk_42 (dk_at dksX4_runCommands_2 18 rfl rfl)
theorem dX4_runCommands_65 : decode cX4_runCommands 65 = .ok (.getfield 192, 3) := dk_180 0 192 (dk_at dksX4_runCommands_2 19 rfl rfl)
theorem dX4_runCommands_68 : decode cX4_runCommands 68 = .ok (.if_icmp .ge 7, 3) := dk_162 0 7 (dk_at dksX4_runCommands_3 0 rfl rfl)
theorem dX4_runCommands_71 : decode cX4_runCommands 71 = .ok (.iconst 1, 1) := dk_4 (dk_at dksX4_runCommands_3 3 rfl rfl)
theorem dX4_runCommands_72 : decode cX4_runCommands 72 = .ok (.goto 4, 3) := dk_167 0 4 (dk_at dksX4_runCommands_3 4 rfl rfl)
theorem dX4_runCommands_75 : decode cX4_runCommands 75 = .ok (.iconst 0, 1) := dk_3 (dk_at dksX4_runCommands_3 7 rfl rfl)
theorem dX4_runCommands_76 : decode cX4_runCommands 76 = .ok (.putfield 202, 3) := dk_181 0 202 (dk_at dksX4_runCommands_3 8 rfl rfl)
theorem dX4_runCommands_79 : decode cX4_runCommands 79 = .ok (.aload_n 0, 1) := dk_42 (dk_at dksX4_runCommands_3 11 rfl rfl)
theorem dX4_runCommands_80 : decode cX4_runCommands 80 = .ok (.aload_n 0, 1) := dk_42 (dk_at dksX4_runCommands_3 12 rfl rfl)
theorem dX4_runCommands_81 : decode cX4_runCommands 81 = .ok (.getfield 202, 3) := dk_180 0 202 (dk_at dksX4_runCommands_3 13 rfl rfl)
theorem dX4_runCommands_84 : decode cX4_runCommands 84 = .ok (.ifCond .eq 10, 3) := dk_153 0 10 (dk_at dksX4_runCommands_3 16 rfl rfl)
theorem dX4_runCommands_87 : decode cX4_runCommands 87 = .ok (.aload_n 0, 1) := dk_42 (dk_at dksX4_runCommands_3 19 rfl rfl)
theorem dX4_runCommands_88 : decode cX4_runCommands 88 = .ok (.getfield 195, 3) := dk_180 0 195 (dk_at dksX4_runCommands_3 20 rfl rfl)
theorem dX4_runCommands_91 : decode cX4_runCommands 91 = .ok (.goto 7, 3) := dk_167 0 7 (dk_at dksX4_runCommands_4 0 rfl rfl)
theorem dX4_runCommands_94 : decode cX4_runCommands 94 = .ok (.aload_n 0, 1) := dk_42 (dk_at dksX4_runCommands_4 3 rfl rfl)
theorem dX4_runCommands_95 : decode cX4_runCommands 95 = .ok (.getfield 29, 3) := dk_180 0 29 (dk_at dksX4_runCommands_4 4 rfl rfl)
theorem dX4_runCommands_98 : decode cX4_runCommands 98 = .ok (.putfield 29, 3) := dk_181 0 29 (dk_at dksX4_runCommands_4 7 rfl rfl)
theorem dX4_runCommands_101 : decode cX4_runCommands 101 = .ok (.aload_n 0, 1) := dk_42 (dk_at dksX4_runCommands_4 10 rfl rfl)
theorem dX4_runCommands_102 : decode cX4_runCommands 102 = .ok (.iconst 0, 1) := dk_3 (dk_at dksX4_runCommands_4 11 rfl rfl)
theorem dX4_runCommands_103 : decode cX4_runCommands 103 = .ok (.putfield 192, 3) := dk_181 0 192 (dk_at dksX4_runCommands_4 12 rfl rfl)
theorem dX4_runCommands_106 : decode cX4_runCommands 106 = .ok (.aload_n 0, 1) := dk_42 (dk_at dksX4_runCommands_4 15 rfl rfl)
theorem dX4_runCommands_107 : decode cX4_runCommands 107 = .ok (.getfield 202, 3) := dk_180 0 202 (dk_at dksX4_runCommands_4 16 rfl rfl)
theorem dX4_runCommands_110 : decode cX4_runCommands 110 = .ok (.ifCond .eq 9, 3) := dk_153 0 9 (dk_at dksX4_runCommands_4 19 rfl rfl)
theorem dX4_runCommands_113 : decode cX4_runCommands 113 = .ok (.aload_n 0, 1) := dk_42 (dk_at dksX4_runCommands_4 22 rfl rfl)
theorem dX4_runCommands_114 : decode cX4_runCommands 114 = .ok (.iconst 1, 1) := dk_4 (dk_at dksX4_runCommands_4 23 rfl rfl)
theorem dX4_runCommands_115 : decode cX4_runCommands 115 = .ok (.invokevirtual 74, 3) := dk_182 0 74 (dk_at dksX4_runCommands_5 0 rfl rfl)
theorem dX4_runCommands_118 : decode cX4_runCommands 118 = .ok (.ireturn, 1) := dk_172 (dk_at dksX4_runCommands_5 3 rfl rfl)
theorem dX4_runCommands_119 : decode cX4_runCommands 119 = .ok (.aload_n 0, 1) := dk_42 (dk_at dksX4_runCommands_5 4 rfl rfl)
theorem dX4_runCommands_120 : decode cX4_runCommands 120 = .ok (.invokevirtual 77, 3) := dk_182 0 77 (dk_at dksX4_runCommands_5 5 rfl rfl)
theorem dX4_runCommands_123 : decode cX4_runCommands 123 = .ok (.iconst 0, 1) := dk_3 (dk_at dksX4_runCommands_5 8 rfl rfl)
theorem dX4_runCommands_124 : decode cX4_runCommands 124 = .ok (.istore_n 1, 1) := dk_60 (dk_at dksX4_runCommands_5 9 rfl rfl)
theorem dX4_runCommands_125 : decode cX4_runCommands 125 = .ok (.iload_n 1, 1) := dk_27 (dk_at dksX4_runCommands_5 10 rfl rfl)
theorem dX4_runCommands_126 : decode cX4_runCommands 126 = .ok (.aload_n 0, 1) := dk_42 (dk_at dksX4_runCommands_5 11 rfl rfl)
theorem dX4_runCommands_127 : decode cX4_runCommands 127 = .ok (.getfield 223, 3) := dk_180 0 223 (dk_at dksX4_runCommands_5 12 rfl rfl)
theorem dX4_runCommands_130 : decode cX4_runCommands 130 = .ok (.if_icmp .ge 36, 3) := dk_162 0 36 (dk_at dksX4_runCommands_5 15 rfl rfl)
theorem dX4_runCommands_133 : decode cX4_runCommands 133 = .ok (.aload_n 0, 1) := dk_42 (dk_at dksX4_runCommands_5 18 rfl rfl)
theorem dX4_runCommands_134 : decode cX4_runCommands 134 = .ok (.iload_n 1, 1) := dk_27 (dk_at dksX4_runCommands_5 19 rfl rfl)
theorem dX4_runCommands_135 : decode cX4_runCommands 135 = .ok (.invokevirtual 244, 3) := dk_182 0 244 (dk_at dksX4_runCommands_5 20 rfl rfl)
theorem dX4_runCommands_138 : decode cX4_runCommands 138 = .ok (.aload_n 0, 1) := dk_42 (dk_at dksX4_runCommands_5 23 rfl rfl)
theorem dX4_runCommands_139 : decode cX4_runCommands 139 = .ok (.getfield 39, 3) := dk_180 0 39 (dk_at dksX4_runCommands_6 0 rfl rfl)
theorem dX4_runCommands_142 : decode cX4_runCommands 142 = .ok (.ifCond .le 18, 3) := dk_158 0 18 (dk_at dksX4_runCommands_6 3 rfl rfl)
theorem dX4_runCommands_145 : decode cX4_runCommands 145 = .ok (.aload_n 0, 1) := dk_42 (dk_at dksX4_runCommands_6 6 rfl rfl)
theorem dX4_runCommands_146 : decode cX4_runCommands 146 = .ok (.iload_n 1, 1) := dk_27 (dk_at dksX4_runCommands_6 7 rfl rfl)
theorem dX4_runCommands_147 : decode cX4_runCommands 147 = .ok (.putfield 33, 3) := dk_181 0 33 (dk_at dksX4_runCommands_6 8 rfl rfl)
theorem dX4_runCommands_150 : decode cX4_runCommands 150 = .ok (.aload_n 0, 1) := dk_42 (dk_at dksX4_runCommands_6 11 rfl rfl)
theorem dX4_runCommands_151 : decode cX4_runCommands 151 = .ok (.aload_n 0, 1) := dk_42 (dk_at dksX4_runCommands_6 12 rfl rfl)
theorem dX4_runCommands_152 : decode cX4_runCommands 152 = .ok (.iconst 2, 1) := dk_5 (dk_at dksX4_runCommands_6 13 rfl rfl)
theorem dX4_runCommands_153 : decode cX4_runCommands 153 = .ok (.invokevirtual 74, 3) := dk_182 0 74 (dk_at dksX4_runCommands_6 14 rfl rfl)
theorem dX4_runCommands_156 : decode cX4_runCommands 156 = .ok (.invokevirtual 83, 3) := dk_182 0 83 (dk_at dksX4_runCommands_6 17 rfl rfl)
theorem dX4_runCommands_159 : decode cX4_runCommands 159 = .ok (.ireturn, 1) := dk_172 (dk_at dksX4_runCommands_6 20 rfl rfl)
theorem dX4_runCommands_160 : decode cX4_runCommands 160 = .ok (.iinc 1 1, 3) := dk_132 1 1 (dk_at dksX4_runCommands_6 21 rfl rfl)
theorem dX4_runCommands_163 : decode cX4_runCommands 163 = .ok (.goto (-38), 3) := dk_167 255 218 (dk_at dksX4_runCommands_7 0 rfl rfl)
theorem dX4_runCommands_166 : decode cX4_runCommands 166 = .ok (.aload_n 0, 1) := dk_42 (dk_at dksX4_runCommands_7 3 rfl rfl)
theorem dX4_runCommands_167 : decode cX4_runCommands 167 = .ok (.aload_n 0, 1) := dk_42 (dk_at dksX4_runCommands_7 4 rfl rfl)
theorem dX4_runCommands_168 : decode cX4_runCommands 168 = .ok (.getfield 223, 3) := dk_180 0 223 (dk_at dksX4_runCommands_7 5 rfl rfl)
theorem dX4_runCommands_171 : decode cX4_runCommands 171 = .ok (.invokevirtual 83, 3) := dk_182 0 83 (dk_at dksX4_runCommands_7 8 rfl rfl)
theorem dX4_runCommands_174 : decode cX4_runCommands 174 = .ok (.ireturn, 1) := dk_172 (dk_at dksX4_runCommands_7 11 rfl rfl)
abbrev cX4_readCommand : ByteArray := prog_14_method_91_code
def yX4_readCommand : MethodName := ⟨RX4, "readCommand", "()V"⟩
def dkwX4_readCommand_10 : List UInt8 := [160, 0, 11, 42, 5, 182, 0, 229, 167, 0, 4, 4, 79, 167, 0, 9, 42, 18, 240, 182, 0, 215, 177]
abbrev dktX4_readCommand_10 : List UInt8 := dkwX4_readCommand_10 ++ []
def dkwX4_readCommand_9 : List UInt8 := [182, 0, 215, 42, 180, 0, 36, 28, 4, 96, 42, 180, 0, 202, 154, 0, 20, 42, 182, 0, 206, 16, 32]
abbrev dktX4_readCommand_9 : List UInt8 := dkwX4_readCommand_9 ++ dktX4_readCommand_10
def dkwX4_readCommand_8 : List UInt8 := [182, 0, 215, 42, 180, 0, 36, 28, 4, 96, 42, 4, 182, 0, 229, 79, 167, 0, 51, 42, 18, 238]
abbrev dktX4_readCommand_8 : List UInt8 := dkwX4_readCommand_8 ++ dktX4_readCommand_9
def dkwX4_readCommand_7 : List UInt8 := [18, 234, 182, 0, 215, 42, 180, 0, 36, 28, 4, 96, 42, 5, 182, 0, 229, 79, 167, 0, 73, 42, 18, 236]
abbrev dktX4_readCommand_7 : List UInt8 := dkwX4_readCommand_7 ++ dktX4_readCommand_8
def dkwX4_readCommand_6 : List UInt8 := [96, 42, 4, 182, 0, 229, 79, 42, 180, 0, 36, 28, 6, 96, 42, 7, 182, 0, 229, 79, 167, 0, 95, 42]
abbrev dktX4_readCommand_6 : List UInt8 := dkwX4_readCommand_6 ++ dktX4_readCommand_7
def dkwX4_readCommand_5 : List UInt8 := [18, 232, 182, 0, 215, 42, 180, 0, 36, 28, 4, 96, 42, 4, 182, 0, 229, 79, 42, 180, 0, 36, 28, 5]
abbrev dktX4_readCommand_5 : List UInt8 := dkwX4_readCommand_5 ++ dktX4_readCommand_6
def dkwX4_readCommand_4 : List UInt8 := [42, 4, 182, 0, 229, 79, 42, 180, 0, 36, 28, 5, 96, 42, 4, 182, 0, 229, 79, 167, 0, 143, 42]
abbrev dktX4_readCommand_4 : List UInt8 := dkwX4_readCommand_4 ++ dktX4_readCommand_5
def dkwX4_readCommand_3 : List UInt8 := [42, 27, 16, 115, 160, 0, 8, 18, 226, 167, 0, 5, 18, 227, 182, 0, 215, 42, 180, 0, 36, 28, 4, 96]
abbrev dktX4_readCommand_3 : List UInt8 := dkwX4_readCommand_3 ++ dktX4_readCommand_4
def dkwX4_readCommand_2 : List UInt8 := [171, 0, 0, 0, 0, 238, 0, 0, 0, 6, 0, 0, 0, 98, 0, 0, 0, 104, 0, 0, 0, 99, 0, 0, 0, 152, 0, 0, 0, 108, 0, 0, 0, 174, 0, 0, 0, 113, 0, 0, 0, 58, 0, 0, 0, 115, 0, 0, 0, 58, 0, 0, 0, 119, 0, 0, 0, 196]
abbrev dktX4_readCommand_2 : List UInt8 := dkwX4_readCommand_2 ++ dktX4_readCommand_3
def dkwX4_readCommand_1 : List UInt8 := [180, 0, 223, 4, 96, 181, 0, 223, 42, 180, 0, 36, 28, 27, 79, 27]
abbrev dktX4_readCommand_1 : List UInt8 := dkwX4_readCommand_1 ++ dktX4_readCommand_2
def dkwX4_readCommand_0 : List UInt8 := [42, 180, 0, 202, 153, 0, 4, 177, 42, 182, 0, 206, 60, 7, 42, 180, 0, 223, 104, 61, 42, 89]
abbrev dktX4_readCommand_0 : List UInt8 := dkwX4_readCommand_0 ++ dktX4_readCommand_1
theorem dksX4_readCommand_0 : cX4_readCommand.data.toList.drop 0 = dktX4_readCommand_0 := by decide +kernel
theorem dksX4_readCommand_1 : cX4_readCommand.data.toList.drop 22 = dktX4_readCommand_1 := dk_seg dksX4_readCommand_0 22 rfl rfl
theorem dksX4_readCommand_2 : cX4_readCommand.data.toList.drop 38 = dktX4_readCommand_2 := dk_seg dksX4_readCommand_1 16 rfl rfl
theorem dksX4_readCommand_3 : cX4_readCommand.data.toList.drop 96 = dktX4_readCommand_3 := dk_seg dksX4_readCommand_2 58 rfl rfl
theorem dksX4_readCommand_4 : cX4_readCommand.data.toList.drop 120 = dktX4_readCommand_4 := dk_seg dksX4_readCommand_3 24 rfl rfl
theorem dksX4_readCommand_5 : cX4_readCommand.data.toList.drop 143 = dktX4_readCommand_5 := dk_seg dksX4_readCommand_4 23 rfl rfl
theorem dksX4_readCommand_6 : cX4_readCommand.data.toList.drop 167 = dktX4_readCommand_6 := dk_seg dksX4_readCommand_5 24 rfl rfl
theorem dksX4_readCommand_7 : cX4_readCommand.data.toList.drop 191 = dktX4_readCommand_7 := dk_seg dksX4_readCommand_6 24 rfl rfl
theorem dksX4_readCommand_8 : cX4_readCommand.data.toList.drop 215 = dktX4_readCommand_8 := dk_seg dksX4_readCommand_7 24 rfl rfl
theorem dksX4_readCommand_9 : cX4_readCommand.data.toList.drop 237 = dktX4_readCommand_9 := dk_seg dksX4_readCommand_8 22 rfl rfl
theorem dksX4_readCommand_10 : cX4_readCommand.data.toList.drop 260 = dktX4_readCommand_10 := dk_seg dksX4_readCommand_9 23 rfl rfl
theorem dX4_readCommand_0 : decode cX4_readCommand 0 = .ok (.aload_n 0, 1) := dk_42 (dk_at dksX4_readCommand_0 0 rfl rfl)
theorem dX4_readCommand_1 : decode cX4_readCommand 1 = .ok (.getfield 202, 3) := dk_180 0 202 (dk_at dksX4_readCommand_0 1 rfl rfl)
theorem dX4_readCommand_4 : decode cX4_readCommand 4 = .ok (.ifCond .eq 4, 3) := dk_153 0 4 (dk_at dksX4_readCommand_0 4 rfl rfl)
theorem dX4_readCommand_7 : decode cX4_readCommand 7 = .ok (.return_, 1) := dk_177 (dk_at dksX4_readCommand_0 7 rfl rfl)
theorem dX4_readCommand_8 : decode cX4_readCommand 8 = .ok (.aload_n 0, 1) := dk_42 (dk_at dksX4_readCommand_0 8 rfl rfl)
theorem dX4_readCommand_9 : decode cX4_readCommand 9 = .ok (.invokevirtual 206, 3) := dk_182 0 206 (dk_at dksX4_readCommand_0 9 rfl rfl)
theorem dX4_readCommand_12 : decode cX4_readCommand 12 = .ok (.istore_n 1, 1) := dk_60 (dk_at dksX4_readCommand_0 12 rfl rfl)
theorem dX4_readCommand_13 : decode cX4_readCommand 13 = .ok (.iconst 4, 1) := dk_7 (dk_at dksX4_readCommand_0 13 rfl rfl)
theorem dX4_readCommand_14 : decode cX4_readCommand 14 = .ok (.aload_n 0, 1) := dk_42 (dk_at dksX4_readCommand_0 14 rfl rfl)
theorem dX4_readCommand_15 : decode cX4_readCommand 15 = .ok (.getfield 223, 3) := dk_180 0 223 (dk_at dksX4_readCommand_0 15 rfl rfl)
theorem dX4_readCommand_18 : decode cX4_readCommand 18 = .ok (.imul, 1) := dk_104 (dk_at dksX4_readCommand_0 18 rfl rfl)
theorem dX4_readCommand_19 : decode cX4_readCommand 19 = .ok (.istore_n 2, 1) := dk_61 (dk_at dksX4_readCommand_0 19 rfl rfl)
theorem dX4_readCommand_20 : decode cX4_readCommand 20 = .ok (.aload_n 0, 1) := dk_42 (dk_at dksX4_readCommand_0 20 rfl rfl)
theorem dX4_readCommand_21 : decode cX4_readCommand 21 = .ok (.dup, 1) := dk_89 (dk_at dksX4_readCommand_0 21 rfl rfl)
theorem dX4_readCommand_22 : decode cX4_readCommand 22 = .ok (.getfield 223, 3) := dk_180 0 223 (dk_at dksX4_readCommand_1 0 rfl rfl)
theorem dX4_readCommand_25 : decode cX4_readCommand 25 = .ok (.iconst 1, 1) := dk_4 (dk_at dksX4_readCommand_1 3 rfl rfl)
theorem dX4_readCommand_26 : decode cX4_readCommand 26 = .ok (.iadd, 1) := dk_96 (dk_at dksX4_readCommand_1 4 rfl rfl)
theorem dX4_readCommand_27 : decode cX4_readCommand 27 = .ok (.putfield 223, 3) := dk_181 0 223 (dk_at dksX4_readCommand_1 5 rfl rfl)
theorem dX4_readCommand_30 : decode cX4_readCommand 30 = .ok (.aload_n 0, 1) := dk_42 (dk_at dksX4_readCommand_1 8 rfl rfl)
theorem dX4_readCommand_31 : decode cX4_readCommand 31 = .ok (.getfield 36, 3) := dk_180 0 36 (dk_at dksX4_readCommand_1 9 rfl rfl)
theorem dX4_readCommand_34 : decode cX4_readCommand 34 = .ok (.iload_n 2, 1) := dk_28 (dk_at dksX4_readCommand_1 12 rfl rfl)
theorem dX4_readCommand_35 : decode cX4_readCommand 35 = .ok (.iload_n 1, 1) := dk_27 (dk_at dksX4_readCommand_1 13 rfl rfl)
theorem dX4_readCommand_36 : decode cX4_readCommand 36 = .ok (.iastore, 1) := dk_79 (dk_at dksX4_readCommand_1 14 rfl rfl)
theorem dX4_readCommand_37 : decode cX4_readCommand 37 = .ok (.iload_n 1, 1) := dk_27 (dk_at dksX4_readCommand_1 15 rfl rfl)
theorem dX4_readCommand_38 : decode cX4_readCommand 38 = .ok (.lookupswitch 238 #[(98, 104), (99, 152), (108, 174), (113, 58), (115, 58), (119, 196)], 58) := by decide +kernel
theorem dX4_readCommand_96 : decode cX4_readCommand 96 = .ok (.aload_n 0, 1) := dk_42 (dk_at dksX4_readCommand_3 0 rfl rfl)
theorem dX4_readCommand_97 : decode cX4_readCommand 97 = .ok (.iload_n 1, 1) := dk_27 (dk_at dksX4_readCommand_3 1 rfl rfl)
theorem dX4_readCommand_98 : decode cX4_readCommand 98 = .ok (.bipush 115, 2) := dk_16 115 (dk_at dksX4_readCommand_3 2 rfl rfl)
theorem dX4_readCommand_100 : decode cX4_readCommand 100 = .ok (.if_icmp .ne 8, 3) := dk_160 0 8 (dk_at dksX4_readCommand_3 4 rfl rfl)
theorem dX4_readCommand_103 : decode cX4_readCommand 103 = .ok (.ldc 226, 2) := dk_18 226 (dk_at dksX4_readCommand_3 7 rfl rfl)
theorem dX4_readCommand_105 : decode cX4_readCommand 105 = .ok (.goto 5, 3) := dk_167 0 5 (dk_at dksX4_readCommand_3 9 rfl rfl)
theorem dX4_readCommand_108 : decode cX4_readCommand 108 = .ok (.ldc 227, 2) := dk_18 227 (dk_at dksX4_readCommand_3 12 rfl rfl)
theorem dX4_readCommand_110 : decode cX4_readCommand 110 = .ok (.invokevirtual 215, 3) := dk_182 0 215 (dk_at dksX4_readCommand_3 14 rfl rfl)
theorem dX4_readCommand_113 : decode cX4_readCommand 113 = .ok (.aload_n 0, 1) := dk_42 (dk_at dksX4_readCommand_3 17 rfl rfl)
theorem dX4_readCommand_114 : decode cX4_readCommand 114 = .ok (.getfield 36, 3) := dk_180 0 36 (dk_at dksX4_readCommand_3 18 rfl rfl)
theorem dX4_readCommand_117 : decode cX4_readCommand 117 = .ok (.iload_n 2, 1) := dk_28 (dk_at dksX4_readCommand_3 21 rfl rfl)
theorem dX4_readCommand_118 : decode cX4_readCommand 118 = .ok (.iconst 1, 1) := dk_4 (dk_at dksX4_readCommand_3 22 rfl rfl)
theorem dX4_readCommand_119 : decode cX4_readCommand 119 = .ok (.iadd, 1) := dk_96 (dk_at dksX4_readCommand_3 23 rfl rfl)
theorem dX4_readCommand_120 : decode cX4_readCommand 120 = .ok (.aload_n 0, 1) := dk_42 (dk_at dksX4_readCommand_4 0 rfl rfl)
theorem dX4_readCommand_121 : decode cX4_readCommand 121 = .ok (.iconst 1, 1) := dk_4 (dk_at dksX4_readCommand_4 1 rfl rfl)
theorem dX4_readCommand_122 : decode cX4_readCommand 122 = .ok (.invokevirtual 229, 3) := dk_182 0 229 (dk_at dksX4_readCommand_4 2 rfl rfl)
theorem dX4_readCommand_125 : decode cX4_readCommand 125 = .ok (.iastore, 1) := dk_79 (dk_at dksX4_readCommand_4 5 rfl rfl)
theorem dX4_readCommand_126 : decode cX4_readCommand 126 = .ok (.aload_n 0, 1) := dk_42 (dk_at dksX4_readCommand_4 6 rfl rfl)
theorem dX4_readCommand_127 : decode cX4_readCommand 127 = .ok (.getfield 36, 3) := dk_180 0 36 (dk_at dksX4_readCommand_4 7 rfl rfl)
theorem dX4_readCommand_130 : decode cX4_readCommand 130 = .ok (.iload_n 2, 1) := dk_28 (dk_at dksX4_readCommand_4 10 rfl rfl)
theorem dX4_readCommand_131 : decode cX4_readCommand 131 = .ok (.iconst 2, 1) := dk_5 (dk_at dksX4_readCommand_4 11 rfl rfl)
theorem dX4_readCommand_132 : decode cX4_readCommand 132 = .ok (.iadd, 1) := dk_96 (dk_at dksX4_readCommand_4 12 rfl rfl)
theorem dX4_readCommand_133 : decode cX4_readCommand 133 = .ok (.aload_n 0, 1) := dk_42 (dk_at dksX4_readCommand_4 13 rfl rfl)
theorem dX4_readCommand_134 : decode cX4_readCommand 134 = .ok (.iconst 1, 1) := dk_4 (dk_at dksX4_readCommand_4 14 rfl rfl)
theorem dX4_readCommand_135 : decode cX4_readCommand 135 = .ok (.invokevirtual 229, 3) := dk_182 0 229 (dk_at dksX4_readCommand_4 15 rfl rfl)
theorem dX4_readCommand_138 : decode cX4_readCommand 138 = .ok (.iastore, 1) := dk_79 (dk_at dksX4_readCommand_4 18 rfl rfl)
theorem dX4_readCommand_139 : decode cX4_readCommand 139 = .ok (.goto 143, 3) := dk_167 0 143 (dk_at dksX4_readCommand_4 19 rfl rfl)
theorem dX4_readCommand_142 : decode cX4_readCommand 142 = .ok (.aload_n 0, 1) := dk_42 (dk_at dksX4_readCommand_4 22 rfl rfl)
theorem dX4_readCommand_143 : decode cX4_readCommand 143 = .ok (.ldc 232, 2) := dk_18 232 (dk_at dksX4_readCommand_5 0 rfl rfl)
theorem dX4_readCommand_145 : decode cX4_readCommand 145 = .ok (.invokevirtual 215, 3) := dk_182 0 215 (dk_at dksX4_readCommand_5 2 rfl rfl)
theorem dX4_readCommand_148 : decode cX4_readCommand 148 = .ok (.aload_n 0, 1) := dk_42 (dk_at dksX4_readCommand_5 5 rfl rfl)
theorem dX4_readCommand_149 : decode cX4_readCommand 149 = .ok (.getfield 36, 3) := dk_180 0 36 (dk_at dksX4_readCommand_5 6 rfl rfl)
theorem dX4_readCommand_152 : decode cX4_readCommand 152 = .ok (.iload_n 2, 1) := dk_28 (dk_at dksX4_readCommand_5 9 rfl rfl)
theorem dX4_readCommand_153 : decode cX4_readCommand 153 = .ok (.iconst 1, 1) := dk_4 (dk_at dksX4_readCommand_5 10 rfl rfl)
theorem dX4_readCommand_154 : decode cX4_readCommand 154 = .ok (.iadd, 1) := dk_96 (dk_at dksX4_readCommand_5 11 rfl rfl)
theorem dX4_readCommand_155 : decode cX4_readCommand 155 = .ok (.aload_n 0, 1) := dk_42 (dk_at dksX4_readCommand_5 12 rfl rfl)
theorem dX4_readCommand_156 : decode cX4_readCommand 156 = .ok (.iconst 1, 1) := dk_4 (dk_at dksX4_readCommand_5 13 rfl rfl)
theorem dX4_readCommand_157 : decode cX4_readCommand 157 = .ok (.invokevirtual 229, 3) := dk_182 0 229 (dk_at dksX4_readCommand_5 14 rfl rfl)
theorem dX4_readCommand_160 : decode cX4_readCommand 160 = .ok (.iastore, 1) := dk_79 (dk_at dksX4_readCommand_5 17 rfl rfl)
theorem dX4_readCommand_161 : decode cX4_readCommand 161 = .ok (.aload_n 0, 1) := dk_42 (dk_at dksX4_readCommand_5 18 rfl rfl)
theorem dX4_readCommand_162 : decode cX4_readCommand 162 = .ok (.getfield 36, 3) := dk_180 0 36 (dk_at dksX4_readCommand_5 19 rfl rfl)
theorem dX4_readCommand_165 : decode cX4_readCommand 165 = .ok (.iload_n 2, 1) := dk_28 (dk_at dksX4_readCommand_5 22 rfl rfl)
theorem dX4_readCommand_166 : decode cX4_readCommand 166 = .ok (.iconst 2, 1) := dk_5 (dk_at dksX4_readCommand_5 23 rfl rfl)
theorem dX4_readCommand_167 : decode cX4_readCommand 167 = .ok (.iadd, 1) := dk_96 (dk_at dksX4_readCommand_6 0 rfl rfl)
theorem dX4_readCommand_168 : decode cX4_readCommand 168 = .ok (.aload_n 0, 1) := dk_42 (dk_at dksX4_readCommand_6 1 rfl rfl)
theorem dX4_readCommand_169 : decode cX4_readCommand 169 = .ok (.iconst 1, 1) := dk_4 (dk_at dksX4_readCommand_6 2 rfl rfl)
theorem dX4_readCommand_170 : decode cX4_readCommand 170 = .ok (.invokevirtual 229, 3) := dk_182 0 229 (dk_at dksX4_readCommand_6 3 rfl rfl)
theorem dX4_readCommand_173 : decode cX4_readCommand 173 = .ok (.iastore, 1) := dk_79 (dk_at dksX4_readCommand_6 6 rfl rfl)
theorem dX4_readCommand_174 : decode cX4_readCommand 174 = .ok (.aload_n 0, 1) := dk_42 (dk_at dksX4_readCommand_6 7 rfl rfl)
theorem dX4_readCommand_175 : decode cX4_readCommand 175 = .ok (.getfield 36, 3) := dk_180 0 36 (dk_at dksX4_readCommand_6 8 rfl rfl)
theorem dX4_readCommand_178 : decode cX4_readCommand 178 = .ok (.iload_n 2, 1) := dk_28 (dk_at dksX4_readCommand_6 11 rfl rfl)
theorem dX4_readCommand_179 : decode cX4_readCommand 179 = .ok (.iconst 3, 1) := dk_6 (dk_at dksX4_readCommand_6 12 rfl rfl)
theorem dX4_readCommand_180 : decode cX4_readCommand 180 = .ok (.iadd, 1) := dk_96 (dk_at dksX4_readCommand_6 13 rfl rfl)
theorem dX4_readCommand_181 : decode cX4_readCommand 181 = .ok (.aload_n 0, 1) := dk_42 (dk_at dksX4_readCommand_6 14 rfl rfl)
theorem dX4_readCommand_182 : decode cX4_readCommand 182 = .ok (.iconst 4, 1) := dk_7 (dk_at dksX4_readCommand_6 15 rfl rfl)
theorem dX4_readCommand_183 : decode cX4_readCommand 183 = .ok (.invokevirtual 229, 3) := dk_182 0 229 (dk_at dksX4_readCommand_6 16 rfl rfl)
theorem dX4_readCommand_186 : decode cX4_readCommand 186 = .ok (.iastore, 1) := dk_79 (dk_at dksX4_readCommand_6 19 rfl rfl)
theorem dX4_readCommand_187 : decode cX4_readCommand 187 = .ok (.goto 95, 3) := dk_167 0 95 (dk_at dksX4_readCommand_6 20 rfl rfl)
theorem dX4_readCommand_190 : decode cX4_readCommand 190 = .ok (.aload_n 0, 1) := dk_42 (dk_at dksX4_readCommand_6 23 rfl rfl)
theorem dX4_readCommand_191 : decode cX4_readCommand 191 = .ok (.ldc 234, 2) := dk_18 234 (dk_at dksX4_readCommand_7 0 rfl rfl)
theorem dX4_readCommand_193 : decode cX4_readCommand 193 = .ok (.invokevirtual 215, 3) := dk_182 0 215 (dk_at dksX4_readCommand_7 2 rfl rfl)
theorem dX4_readCommand_196 : decode cX4_readCommand 196 = .ok (.aload_n 0, 1) := dk_42 (dk_at dksX4_readCommand_7 5 rfl rfl)
theorem dX4_readCommand_197 : decode cX4_readCommand 197 = .ok (.getfield 36, 3) := dk_180 0 36 (dk_at dksX4_readCommand_7 6 rfl rfl)
theorem dX4_readCommand_200 : decode cX4_readCommand 200 = .ok (.iload_n 2, 1) := dk_28 (dk_at dksX4_readCommand_7 9 rfl rfl)
theorem dX4_readCommand_201 : decode cX4_readCommand 201 = .ok (.iconst 1, 1) := dk_4 (dk_at dksX4_readCommand_7 10 rfl rfl)
theorem dX4_readCommand_202 : decode cX4_readCommand 202 = .ok (.iadd, 1) := dk_96 (dk_at dksX4_readCommand_7 11 rfl rfl)
theorem dX4_readCommand_203 : decode cX4_readCommand 203 = .ok (.aload_n 0, 1) := dk_42 (dk_at dksX4_readCommand_7 12 rfl rfl)
theorem dX4_readCommand_204 : decode cX4_readCommand 204 = .ok (.iconst 2, 1) := dk_5 (dk_at dksX4_readCommand_7 13 rfl rfl)
theorem dX4_readCommand_205 : decode cX4_readCommand 205 = .ok (.invokevirtual 229, 3) := dk_182 0 229 (dk_at dksX4_readCommand_7 14 rfl rfl)
theorem dX4_readCommand_208 : decode cX4_readCommand 208 = .ok (.iastore, 1) := dk_79 (dk_at dksX4_readCommand_7 17 rfl rfl)
theorem dX4_readCommand_209 : decode cX4_readCommand 209 = .ok (.goto 73, 3) := dk_167 0 73 (dk_at dksX4_readCommand_7 18 rfl rfl)
theorem dX4_readCommand_212 : decode cX4_readCommand 212 = .ok (.aload_n 0, 1) := dk_42 (dk_at dksX4_readCommand_7 21 rfl rfl)
theorem dX4_readCommand_213 : decode cX4_readCommand 213 = .ok (.ldc 236, 2) := dk_18 236 (dk_at dksX4_readCommand_7 22 rfl rfl)
theorem dX4_readCommand_215 : decode cX4_readCommand 215 = .ok (.invokevirtual 215, 3) := dk_182 0 215 (dk_at dksX4_readCommand_8 0 rfl rfl)
theorem dX4_readCommand_218 : decode cX4_readCommand 218 = .ok (.aload_n 0, 1) := dk_42 (dk_at dksX4_readCommand_8 3 rfl rfl)
theorem dX4_readCommand_219 : decode cX4_readCommand 219 = .ok (.getfield 36, 3) := dk_180 0 36 (dk_at dksX4_readCommand_8 4 rfl rfl)
theorem dX4_readCommand_222 : decode cX4_readCommand 222 = .ok (.iload_n 2, 1) := dk_28 (dk_at dksX4_readCommand_8 7 rfl rfl)
theorem dX4_readCommand_223 : decode cX4_readCommand 223 = .ok (.iconst 1, 1) := dk_4 (dk_at dksX4_readCommand_8 8 rfl rfl)
theorem dX4_readCommand_224 : decode cX4_readCommand 224 = .ok (.iadd, 1) := dk_96 (dk_at dksX4_readCommand_8 9 rfl rfl)
theorem dX4_readCommand_225 : decode cX4_readCommand 225 = .ok (.aload_n 0, 1) := dk_42 (dk_at dksX4_readCommand_8 10 rfl rfl)
theorem dX4_readCommand_226 : decode cX4_readCommand 226 = .ok (.iconst 1, 1) := dk_4 (dk_at dksX4_readCommand_8 11 rfl rfl)
theorem dX4_readCommand_227 : decode cX4_readCommand 227 = .ok (.invokevirtual 229, 3) := dk_182 0 229 (dk_at dksX4_readCommand_8 12 rfl rfl)
theorem dX4_readCommand_230 : decode cX4_readCommand 230 = .ok (.iastore, 1) := dk_79 (dk_at dksX4_readCommand_8 15 rfl rfl)
theorem dX4_readCommand_231 : decode cX4_readCommand 231 = .ok (.goto 51, 3) := dk_167 0 51 (dk_at dksX4_readCommand_8 16 rfl rfl)
theorem dX4_readCommand_234 : decode cX4_readCommand 234 = .ok (.aload_n 0, 1) := dk_42 (dk_at dksX4_readCommand_8 19 rfl rfl)
theorem dX4_readCommand_235 : decode cX4_readCommand 235 = .ok (.ldc 238, 2) := dk_18 238 (dk_at dksX4_readCommand_8 20 rfl rfl)
theorem dX4_readCommand_237 : decode cX4_readCommand 237 = .ok (.invokevirtual 215, 3) := dk_182 0 215 (dk_at dksX4_readCommand_9 0 rfl rfl)
theorem dX4_readCommand_240 : decode cX4_readCommand 240 = .ok (.aload_n 0, 1) := dk_42 (dk_at dksX4_readCommand_9 3 rfl rfl)
theorem dX4_readCommand_241 : decode cX4_readCommand 241 = .ok (.getfield 36, 3) := dk_180 0 36 (dk_at dksX4_readCommand_9 4 rfl rfl)
theorem dX4_readCommand_244 : decode cX4_readCommand 244 = .ok (.iload_n 2, 1) := dk_28 (dk_at dksX4_readCommand_9 7 rfl rfl)
theorem dX4_readCommand_245 : decode cX4_readCommand 245 = .ok (.iconst 1, 1) := dk_4 (dk_at dksX4_readCommand_9 8 rfl rfl)
theorem dX4_readCommand_246 : decode cX4_readCommand 246 = .ok (.iadd, 1) := dk_96 (dk_at dksX4_readCommand_9 9 rfl rfl)
theorem dX4_readCommand_247 : decode cX4_readCommand 247 = .ok (.aload_n 0, 1) := dk_42 (dk_at dksX4_readCommand_9 10 rfl rfl)
theorem dX4_readCommand_248 : decode cX4_readCommand 248 = .ok (.getfield 202, 3) := dk_180 0 202 (dk_at dksX4_readCommand_9 11 rfl rfl)
theorem dX4_readCommand_251 : decode cX4_readCommand 251 = .ok (.ifCond .ne 20, 3) := dk_154 0 20 (dk_at dksX4_readCommand_9 14 rfl rfl)
theorem dX4_readCommand_254 : decode cX4_readCommand 254 = .ok (.aload_n 0, 1) := dk_42 (dk_at dksX4_readCommand_9 17 rfl rfl)
theorem dX4_readCommand_255 : decode cX4_readCommand 255 = .ok (.invokevirtual 206, 3) := dk_182 0 206 (dk_at dksX4_readCommand_9 18 rfl rfl)
theorem dX4_readCommand_258 : decode cX4_readCommand 258 = .ok (.bipush 32, 2) := dk_16 32 (dk_at dksX4_readCommand_9 21 rfl rfl)
theorem dX4_readCommand_260 : decode cX4_readCommand 260 = .ok (.if_icmp .ne 11, 3) := dk_160 0 11 (dk_at dksX4_readCommand_10 0 rfl rfl)
theorem dX4_readCommand_263 : decode cX4_readCommand 263 = .ok (.aload_n 0, 1) := dk_42 (dk_at dksX4_readCommand_10 3 rfl rfl)
theorem dX4_readCommand_264 : decode cX4_readCommand 264 = .ok (.iconst 2, 1) := dk_5 (dk_at dksX4_readCommand_10 4 rfl rfl)
theorem dX4_readCommand_265 : decode cX4_readCommand 265 = .ok (.invokevirtual 229, 3) := dk_182 0 229 (dk_at dksX4_readCommand_10 5 rfl rfl)
theorem dX4_readCommand_268 : decode cX4_readCommand 268 = .ok (.goto 4, 3) := dk_167 0 4 (dk_at dksX4_readCommand_10 8 rfl rfl)
theorem dX4_readCommand_271 : decode cX4_readCommand 271 = .ok (.iconst 1, 1) := dk_4 (dk_at dksX4_readCommand_10 11 rfl rfl)
theorem dX4_readCommand_272 : decode cX4_readCommand 272 = .ok (.iastore, 1) := dk_79 (dk_at dksX4_readCommand_10 12 rfl rfl)
theorem dX4_readCommand_273 : decode cX4_readCommand 273 = .ok (.goto 9, 3) := dk_167 0 9 (dk_at dksX4_readCommand_10 13 rfl rfl)
theorem dX4_readCommand_276 : decode cX4_readCommand 276 = .ok (.aload_n 0, 1) := dk_42 (dk_at dksX4_readCommand_10 16 rfl rfl)
theorem dX4_readCommand_277 : decode cX4_readCommand 277 = .ok (.ldc 240, 2) := dk_18 240 (dk_at dksX4_readCommand_10 17 rfl rfl)
theorem dX4_readCommand_279 : decode cX4_readCommand 279 = .ok (.invokevirtual 215, 3) := dk_182 0 215 (dk_at dksX4_readCommand_10 19 rfl rfl)
theorem dX4_readCommand_282 : decode cX4_readCommand 282 = .ok (.return_, 1) := dk_177 (dk_at dksX4_readCommand_10 22 rfl rfl)
abbrev cX4_behind : ByteArray := prog_14_method_87_code
def yX4_behind : MethodName := ⟨RX4, "behind", "()I"⟩
def dkwX4_behind_1 : List UInt8 := [172]
abbrev dktX4_behind_1 : List UInt8 := dkwX4_behind_1 ++ []
def dkwX4_behind_0 : List UInt8 := [42, 180, 0, 195, 42, 180, 0, 192, 162, 0, 15, 42, 180, 0, 26, 42, 180, 0, 195, 52, 167, 0, 4, 2]
abbrev dktX4_behind_0 : List UInt8 := dkwX4_behind_0 ++ dktX4_behind_1
theorem dksX4_behind_0 : cX4_behind.data.toList.drop 0 = dktX4_behind_0 := by decide +kernel
theorem dksX4_behind_1 : cX4_behind.data.toList.drop 24 = dktX4_behind_1 := dk_seg dksX4_behind_0 24 rfl rfl
theorem dX4_behind_0 : decode cX4_behind 0 = .ok (.aload_n 0, 1) := dk_42 (dk_at dksX4_behind_0 0 rfl rfl)
theorem dX4_behind_1 : decode cX4_behind 1 = .ok (.getfield 195, 3) := dk_180 0 195 (dk_at dksX4_behind_0 1 rfl rfl)
theorem dX4_behind_4 : decode cX4_behind 4 = .ok (.aload_n 0, 1) := dk_42 (dk_at dksX4_behind_0 4 rfl rfl)
theorem dX4_behind_5 : decode cX4_behind 5 = .ok (.getfield 192, 3) := dk_180 0 192 (dk_at dksX4_behind_0 5 rfl rfl)
theorem dX4_behind_8 : decode cX4_behind 8 = .ok (.if_icmp .ge 15, 3) := dk_162 0 15 (dk_at dksX4_behind_0 8 rfl rfl)
theorem dX4_behind_11 : decode cX4_behind 11 = .ok (.aload_n 0, 1) := dk_42 (dk_at dksX4_behind_0 11 rfl rfl)
theorem dX4_behind_12 : decode cX4_behind 12 = .ok (.getfield 26, 3) := dk_180 0 26 (dk_at dksX4_behind_0 12 rfl rfl)
theorem dX4_behind_15 : decode cX4_behind 15 = .ok (.aload_n 0, 1) := dk_42 (dk_at dksX4_behind_0 15 rfl rfl)
theorem dX4_behind_16 : decode cX4_behind 16 = .ok (.getfield 195, 3) := dk_180 0 195 (dk_at dksX4_behind_0 16 rfl rfl)
theorem dX4_behind_19 : decode cX4_behind 19 = .ok (.caload, 1) := dk_52 (dk_at dksX4_behind_0 19 rfl rfl)
theorem dX4_behind_20 : decode cX4_behind 20 = .ok (.goto 4, 3) := dk_167 0 4 (dk_at dksX4_behind_0 20 rfl rfl)
theorem dX4_behind_23 : decode cX4_behind 23 = .ok (.iconst (-1), 1) := dk_2 (dk_at dksX4_behind_0 23 rfl rfl)
theorem dX4_behind_24 : decode cX4_behind 24 = .ok (.ireturn, 1) := dk_172 (dk_at dksX4_behind_1 0 rfl rfl)
abbrev cX4_skip : ByteArray := prog_14_method_88_code
def yX4_skip : MethodName := ⟨RX4, "skip", "(Ljava/lang/String;)V"⟩
def dkwX4_skip_2 : List UInt8 := [153, 0, 7, 3, 167, 0, 4, 4, 96, 181, 0, 195, 132, 2, 1, 167, 255, 196, 177]
abbrev dktX4_skip_2 : List UInt8 := dkwX4_skip_2 ++ []
def dkwX4_skip_1 : List UInt8 := [182, 0, 209, 159, 0, 7, 4, 167, 0, 4, 3, 181, 0, 202, 42, 89, 180, 0, 195, 42, 180, 0, 202]
abbrev dktX4_skip_1 : List UInt8 := dkwX4_skip_1 ++ dktX4_skip_2
def dkwX4_skip_0 : List UInt8 := [3, 61, 28, 43, 182, 0, 198, 162, 0, 58, 42, 180, 0, 202, 154, 0, 51, 42, 42, 182, 0, 206, 43, 28]
abbrev dktX4_skip_0 : List UInt8 := dkwX4_skip_0 ++ dktX4_skip_1
theorem dksX4_skip_0 : cX4_skip.data.toList.drop 0 = dktX4_skip_0 := by decide +kernel
theorem dksX4_skip_1 : cX4_skip.data.toList.drop 24 = dktX4_skip_1 := dk_seg dksX4_skip_0 24 rfl rfl
theorem dksX4_skip_2 : cX4_skip.data.toList.drop 47 = dktX4_skip_2 := dk_seg dksX4_skip_1 23 rfl rfl
theorem dX4_skip_0 : decode cX4_skip 0 = .ok (.iconst 0, 1) := dk_3 (dk_at dksX4_skip_0 0 rfl rfl)
theorem dX4_skip_1 : decode cX4_skip 1 = .ok (.istore_n 2, 1) := dk_61 (dk_at dksX4_skip_0 1 rfl rfl)
theorem dX4_skip_2 : decode cX4_skip 2 = .ok (.iload_n 2, 1) := dk_28 (dk_at dksX4_skip_0 2 rfl rfl)
theorem dX4_skip_3 : decode cX4_skip 3 = .ok (.aload_n 1, 1) := dk_43 (dk_at dksX4_skip_0 3 rfl rfl)
theorem dX4_skip_4 : decode cX4_skip 4 = .ok (.invokevirtual 198, 3) := dk_182 0 198 (dk_at dksX4_skip_0 4 rfl rfl)
theorem dX4_skip_7 : decode cX4_skip 7 = .ok (.if_icmp .ge 58, 3) := dk_162 0 58 (dk_at dksX4_skip_0 7 rfl rfl)
theorem dX4_skip_10 : decode cX4_skip 10 = .ok (.aload_n 0, 1) := dk_42 (dk_at dksX4_skip_0 10 rfl rfl)
theorem dX4_skip_11 : decode cX4_skip 11 = .ok (.getfield 202, 3) := dk_180 0 202 (dk_at dksX4_skip_0 11 rfl rfl)
theorem dX4_skip_14 : decode cX4_skip 14 = .ok (.ifCond .ne 51, 3) := dk_154 0 51 (dk_at dksX4_skip_0 14 rfl rfl)
theorem dX4_skip_17 : decode cX4_skip 17 = .ok (.aload_n 0, 1) := dk_42 (dk_at dksX4_skip_0 17 rfl rfl)
theorem dX4_skip_18 : decode cX4_skip 18 = .ok (.aload_n 0, 1) := dk_42 (dk_at dksX4_skip_0 18 rfl rfl)
theorem dX4_skip_19 : decode cX4_skip 19 = .ok (.invokevirtual 206, 3) := dk_182 0 206 (dk_at dksX4_skip_0 19 rfl rfl)
theorem dX4_skip_22 : decode cX4_skip 22 = .ok (.aload_n 1, 1) := dk_43 (dk_at dksX4_skip_0 22 rfl rfl)
theorem dX4_skip_23 : decode cX4_skip 23 = .ok (.iload_n 2, 1) := dk_28 (dk_at dksX4_skip_0 23 rfl rfl)
theorem dX4_skip_24 : decode cX4_skip 24 = .ok (.invokevirtual 209, 3) := dk_182 0 209 (dk_at dksX4_skip_1 0 rfl rfl)
theorem dX4_skip_27 : decode cX4_skip 27 = .ok (.if_icmp .eq 7, 3) := dk_159 0 7 (dk_at dksX4_skip_1 3 rfl rfl)
theorem dX4_skip_30 : decode cX4_skip 30 = .ok (.iconst 1, 1) := dk_4 (dk_at dksX4_skip_1 6 rfl rfl)
theorem dX4_skip_31 : decode cX4_skip 31 = .ok (.goto 4, 3) := dk_167 0 4 (dk_at dksX4_skip_1 7 rfl rfl)
theorem dX4_skip_34 : decode cX4_skip 34 = .ok (.iconst 0, 1) := dk_3 (dk_at dksX4_skip_1 10 rfl rfl)
theorem dX4_skip_35 : decode cX4_skip 35 = .ok (.putfield 202, 3) := dk_181 0 202 (dk_at dksX4_skip_1 11 rfl rfl)
theorem dX4_skip_38 : decode cX4_skip 38 = .ok (.aload_n 0, 1) := dk_42 (dk_at dksX4_skip_1 14 rfl rfl)
theorem dX4_skip_39 : decode cX4_skip 39 = .ok (.dup, 1) := dk_89 (dk_at dksX4_skip_1 15 rfl rfl)
theorem dX4_skip_40 : decode cX4_skip 40 = .ok (.getfield 195, 3) := dk_180 0 195 (dk_at dksX4_skip_1 16 rfl rfl)
theorem dX4_skip_43 : decode cX4_skip 43 = .ok (.aload_n 0, 1) := dk_42 (dk_at dksX4_skip_1 19 rfl rfl)
theorem dX4_skip_44 : decode cX4_skip 44 = .ok (.getfield 202, 3) := dk_180 0 202 (dk_at dksX4_skip_1 20 rfl rfl)
theorem dX4_skip_47 : decode cX4_skip 47 = .ok (.ifCond .eq 7, 3) := dk_153 0 7 (dk_at dksX4_skip_2 0 rfl rfl)
theorem dX4_skip_50 : decode cX4_skip 50 = .ok (.iconst 0, 1) := dk_3 (dk_at dksX4_skip_2 3 rfl rfl)
theorem dX4_skip_51 : decode cX4_skip 51 = .ok (.goto 4, 3) := dk_167 0 4 (dk_at dksX4_skip_2 4 rfl rfl)
theorem dX4_skip_54 : decode cX4_skip 54 = .ok (.iconst 1, 1) := dk_4 (dk_at dksX4_skip_2 7 rfl rfl)
theorem dX4_skip_55 : decode cX4_skip 55 = .ok (.iadd, 1) := dk_96 (dk_at dksX4_skip_2 8 rfl rfl)
theorem dX4_skip_56 : decode cX4_skip 56 = .ok (.putfield 195, 3) := dk_181 0 195 (dk_at dksX4_skip_2 9 rfl rfl)
theorem dX4_skip_59 : decode cX4_skip 59 = .ok (.iinc 2 1, 3) := dk_132 2 1 (dk_at dksX4_skip_2 12 rfl rfl)
theorem dX4_skip_62 : decode cX4_skip 62 = .ok (.goto (-60), 3) := dk_167 255 196 (dk_at dksX4_skip_2 15 rfl rfl)
theorem dX4_skip_65 : decode cX4_skip 65 = .ok (.return_, 1) := dk_177 (dk_at dksX4_skip_2 18 rfl rfl)
abbrev cX4_readNumber : ByteArray := prog_14_method_90_code
def yX4_readNumber : MethodName := ⟨RX4, "readNumber", "(I)I"⟩
def dkwX4_readNumber_3 : List UInt8 := [96, 181, 0, 195, 132, 3, 1, 167, 255, 213, 28, 172]
abbrev dktX4_readNumber_3 : List UInt8 := dkwX4_readNumber_3 ++ []
def dkwX4_readNumber_2 : List UInt8 := [16, 10, 28, 104, 42, 180, 0, 26, 42, 180, 0, 195, 52, 96, 16, 48, 100, 61, 42, 89, 180, 0, 195, 4]
abbrev dktX4_readNumber_2 : List UInt8 := dkwX4_readNumber_2 ++ dktX4_readNumber_3
def dkwX4_readNumber_1 : List UInt8 := [167, 0, 4, 3, 181, 0, 202, 3, 61, 3, 62, 29, 27, 162, 0, 44, 42, 182, 0, 219, 153, 0, 37]
abbrev dktX4_readNumber_1 : List UInt8 := dkwX4_readNumber_1 ++ dktX4_readNumber_2
def dkwX4_readNumber_0 : List UInt8 := [42, 18, 213, 182, 0, 215, 42, 42, 180, 0, 202, 154, 0, 10, 42, 182, 0, 219, 154, 0, 7, 4]
abbrev dktX4_readNumber_0 : List UInt8 := dkwX4_readNumber_0 ++ dktX4_readNumber_1
theorem dksX4_readNumber_0 : cX4_readNumber.data.toList.drop 0 = dktX4_readNumber_0 := by decide +kernel
theorem dksX4_readNumber_1 : cX4_readNumber.data.toList.drop 22 = dktX4_readNumber_1 := dk_seg dksX4_readNumber_0 22 rfl rfl
theorem dksX4_readNumber_2 : cX4_readNumber.data.toList.drop 45 = dktX4_readNumber_2 := dk_seg dksX4_readNumber_1 23 rfl rfl
theorem dksX4_readNumber_3 : cX4_readNumber.data.toList.drop 69 = dktX4_readNumber_3 := dk_seg dksX4_readNumber_2 24 rfl rfl
theorem dX4_readNumber_0 : decode cX4_readNumber 0 = .ok (.aload_n 0, 1) := dk_42 (dk_at dksX4_readNumber_0 0 rfl rfl)
theorem dX4_readNumber_1 : decode cX4_readNumber 1 = .ok (.ldc 213, 2) := dk_18 213 (dk_at dksX4_readNumber_0 1 rfl rfl)
theorem dX4_readNumber_3 : decode cX4_readNumber 3 = .ok (.invokevirtual 215, 3) := dk_182 0 215 (dk_at dksX4_readNumber_0 3 rfl rfl)
theorem dX4_readNumber_6 : decode cX4_readNumber 6 = .ok (.aload_n 0, 1) := dk_42 (dk_at dksX4_readNumber_0 6 rfl rfl)
theorem dX4_readNumber_7 : decode cX4_readNumber 7 = .ok (.aload_n 0, 1) := dk_42 (dk_at dksX4_readNumber_0 7 rfl rfl)
theorem dX4_readNumber_8 : decode cX4_readNumber 8 = .ok (.getfield 202, 3) := dk_180 0 202 (dk_at dksX4_readNumber_0 8 rfl rfl)
theorem dX4_readNumber_11 : decode cX4_readNumber 11 = .ok (.ifCond .ne 10, 3) := dk_154 0 10 (dk_at dksX4_readNumber_0 11 rfl rfl)
theorem dX4_readNumber_14 : decode cX4_readNumber 14 = .ok (.aload_n 0, 1) := dk_42 (dk_at dksX4_readNumber_0 14 rfl rfl)
theorem dX4_readNumber_15 : decode cX4_readNumber 15 = .ok (.invokevirtual 219, 3) := dk_182 0 219 (dk_at dksX4_readNumber_0 15 rfl rfl)
theorem dX4_readNumber_18 : decode cX4_readNumber 18 = .ok (.ifCond .ne 7, 3) := dk_154 0 7 (dk_at dksX4_readNumber_0 18 rfl rfl)
theorem dX4_readNumber_21 : decode cX4_readNumber 21 = .ok (.iconst 1, 1) := dk_4 (dk_at dksX4_readNumber_0 21 rfl rfl)
theorem dX4_readNumber_22 : decode cX4_readNumber 22 = .ok (.goto 4, 3) := dk_167 0 4 (dk_at dksX4_readNumber_1 0 rfl rfl)
theorem dX4_readNumber_25 : decode cX4_readNumber 25 = .ok (.iconst 0, 1) := dk_3 (dk_at dksX4_readNumber_1 3 rfl rfl)
theorem dX4_readNumber_26 : decode cX4_readNumber 26 = .ok (.putfield 202, 3) := dk_181 0 202 (dk_at dksX4_readNumber_1 4 rfl rfl)
theorem dX4_readNumber_29 : decode cX4_readNumber 29 = .ok (.iconst 0, 1) := dk_3 (dk_at dksX4_readNumber_1 7 rfl rfl)
theorem dX4_readNumber_30 : decode cX4_readNumber 30 = .ok (.istore_n 2, 1) := dk_61 (dk_at dksX4_readNumber_1 8 rfl rfl)
theorem dX4_readNumber_31 : decode cX4_readNumber 31 = .ok (.iconst 0, 1) := dk_3 (dk_at dksX4_readNumber_1 9 rfl rfl)
theorem dX4_readNumber_32 : decode cX4_readNumber 32 = .ok (.istore_n 3, 1) := dk_62 (dk_at dksX4_readNumber_1 10 rfl rfl)
theorem dX4_readNumber_33 : decode cX4_readNumber 33 = .ok (.iload_n 3, 1) := dk_29 (dk_at dksX4_readNumber_1 11 rfl rfl)
theorem dX4_readNumber_34 : decode cX4_readNumber 34 = .ok (.iload_n 1, 1) := dk_27 (dk_at dksX4_readNumber_1 12 rfl rfl)
theorem dX4_readNumber_35 : decode cX4_readNumber 35 = .ok (.if_icmp .ge 44, 3) := dk_162 0 44 (dk_at dksX4_readNumber_1 13 rfl rfl)
theorem dX4_readNumber_38 : decode cX4_readNumber 38 = .ok (.aload_n 0, 1) := dk_42 (dk_at dksX4_readNumber_1 16 rfl rfl)
theorem dX4_readNumber_39 : decode cX4_readNumber 39 = .ok (.invokevirtual 219, 3) := dk_182 0 219 (dk_at dksX4_readNumber_1 17 rfl rfl)
theorem dX4_readNumber_42 : decode cX4_readNumber 42 = .ok (.ifCond .eq 37, 3) := dk_153 0 37 (dk_at dksX4_readNumber_1 20 rfl rfl)
theorem dX4_readNumber_45 : decode cX4_readNumber 45 = .ok (.bipush 10, 2) := dk_16 10 (dk_at dksX4_readNumber_2 0 rfl rfl)
theorem dX4_readNumber_47 : decode cX4_readNumber 47 = .ok (.iload_n 2, 1) := dk_28 (dk_at dksX4_readNumber_2 2 rfl rfl)
theorem dX4_readNumber_48 : decode cX4_readNumber 48 = .ok (.imul, 1) := dk_104 (dk_at dksX4_readNumber_2 3 rfl rfl)
theorem dX4_readNumber_49 : decode cX4_readNumber 49 = .ok (.aload_n 0, 1) := dk_42 (dk_at dksX4_readNumber_2 4 rfl rfl)
theorem dX4_readNumber_50 : decode cX4_readNumber 50 = .ok (.getfield 26, 3) := dk_180 0 26 (dk_at dksX4_readNumber_2 5 rfl rfl)
theorem dX4_readNumber_53 : decode cX4_readNumber 53 = .ok (.aload_n 0, 1) := dk_42 (dk_at dksX4_readNumber_2 8 rfl rfl)
theorem dX4_readNumber_54 : decode cX4_readNumber 54 = .ok (.getfield 195, 3) := dk_180 0 195 (dk_at dksX4_readNumber_2 9 rfl rfl)
theorem dX4_readNumber_57 : decode cX4_readNumber 57 = .ok (.caload, 1) := dk_52 (dk_at dksX4_readNumber_2 12 rfl rfl)
theorem dX4_readNumber_58 : decode cX4_readNumber 58 = .ok (.iadd, 1) := dk_96 (dk_at dksX4_readNumber_2 13 rfl rfl)
theorem dX4_readNumber_59 : decode cX4_readNumber 59 = .ok (.bipush 48, 2) := dk_16 48 (dk_at dksX4_readNumber_2 14 rfl rfl)
theorem dX4_readNumber_61 : decode cX4_readNumber 61 = .ok (.isub, 1) := dk_100 (dk_at dksX4_readNumber_2 16 rfl rfl)
theorem dX4_readNumber_62 : decode cX4_readNumber 62 = .ok (.istore_n 2, 1) := dk_61 (dk_at dksX4_readNumber_2 17 rfl rfl)
theorem dX4_readNumber_63 : decode cX4_readNumber 63 = .ok (.aload_n 0, 1) := dk_42 (dk_at dksX4_readNumber_2 18 rfl rfl)
theorem dX4_readNumber_64 : decode cX4_readNumber 64 = .ok (.dup, 1) := dk_89 (dk_at dksX4_readNumber_2 19 rfl rfl)
theorem dX4_readNumber_65 : decode cX4_readNumber 65 = .ok (.getfield 195, 3) := dk_180 0 195 (dk_at dksX4_readNumber_2 20 rfl rfl)
theorem dX4_readNumber_68 : decode cX4_readNumber 68 = .ok (.iconst 1, 1) := dk_4 (dk_at dksX4_readNumber_2 23 rfl rfl)
theorem dX4_readNumber_69 : decode cX4_readNumber 69 = .ok (.iadd, 1) := dk_96 (dk_at dksX4_readNumber_3 0 rfl rfl)
theorem dX4_readNumber_70 : decode cX4_readNumber 70 = .ok (.putfield 195, 3) := dk_181 0 195 (dk_at dksX4_readNumber_3 1 rfl rfl)
theorem dX4_readNumber_73 : decode cX4_readNumber 73 = .ok (.iinc 3 1, 3) := dk_132 3 1 (dk_at dksX4_readNumber_3 4 rfl rfl)
theorem dX4_readNumber_76 : decode cX4_readNumber 76 = .ok (.goto (-43), 3) := dk_167 255 213 (dk_at dksX4_readNumber_3 7 rfl rfl)
theorem dX4_readNumber_79 : decode cX4_readNumber 79 = .ok (.iload_n 2, 1) := dk_28 (dk_at dksX4_readNumber_3 10 rfl rfl)
theorem dX4_readNumber_80 : decode cX4_readNumber 80 = .ok (.ireturn, 1) := dk_172 (dk_at dksX4_readNumber_3 11 rfl rfl)
abbrev cX4_isDigit : ByteArray := prog_14_method_89_code
def yX4_isDigit : MethodName := ⟨RX4, "isDigit", "()Z"⟩
def dkwX4_isDigit_1 : List UInt8 := [167, 0, 4, 3, 172]
abbrev dktX4_isDigit_1 : List UInt8 := dkwX4_isDigit_1 ++ []
def dkwX4_isDigit_0 : List UInt8 := [42, 180, 0, 202, 154, 0, 21, 42, 182, 0, 206, 16, 48, 16, 57, 184, 0, 51, 153, 0, 7, 4]
abbrev dktX4_isDigit_0 : List UInt8 := dkwX4_isDigit_0 ++ dktX4_isDigit_1
theorem dksX4_isDigit_0 : cX4_isDigit.data.toList.drop 0 = dktX4_isDigit_0 := by decide +kernel
theorem dksX4_isDigit_1 : cX4_isDigit.data.toList.drop 22 = dktX4_isDigit_1 := dk_seg dksX4_isDigit_0 22 rfl rfl
theorem dX4_isDigit_0 : decode cX4_isDigit 0 = .ok (.aload_n 0, 1) := dk_42 (dk_at dksX4_isDigit_0 0 rfl rfl)
theorem dX4_isDigit_1 : decode cX4_isDigit 1 = .ok (.getfield 202, 3) := dk_180 0 202 (dk_at dksX4_isDigit_0 1 rfl rfl)
theorem dX4_isDigit_4 : decode cX4_isDigit 4 = .ok (.ifCond .ne 21, 3) := dk_154 0 21 (dk_at dksX4_isDigit_0 4 rfl rfl)
theorem dX4_isDigit_7 : decode cX4_isDigit 7 = .ok (.aload_n 0, 1) := dk_42 (dk_at dksX4_isDigit_0 7 rfl rfl)
theorem dX4_isDigit_8 : decode cX4_isDigit 8 = .ok (.invokevirtual 206, 3) := dk_182 0 206 (dk_at dksX4_isDigit_0 8 rfl rfl)
theorem dX4_isDigit_11 : decode cX4_isDigit 11 = .ok (.bipush 48, 2) := dk_16 48 (dk_at dksX4_isDigit_0 11 rfl rfl)
theorem dX4_isDigit_13 : decode cX4_isDigit 13 = .ok (.bipush 57, 2) := dk_16 57 (dk_at dksX4_isDigit_0 13 rfl rfl)
theorem dX4_isDigit_15 : decode cX4_isDigit 15 = .ok (.invokestatic 51, 3) := dk_184 0 51 (dk_at dksX4_isDigit_0 15 rfl rfl)
theorem dX4_isDigit_18 : decode cX4_isDigit 18 = .ok (.ifCond .eq 7, 3) := dk_153 0 7 (dk_at dksX4_isDigit_0 18 rfl rfl)
theorem dX4_isDigit_21 : decode cX4_isDigit 21 = .ok (.iconst 1, 1) := dk_4 (dk_at dksX4_isDigit_0 21 rfl rfl)
theorem dX4_isDigit_22 : decode cX4_isDigit 22 = .ok (.goto 4, 3) := dk_167 0 4 (dk_at dksX4_isDigit_1 0 rfl rfl)
theorem dX4_isDigit_25 : decode cX4_isDigit 25 = .ok (.iconst 0, 1) := dk_3 (dk_at dksX4_isDigit_1 3 rfl rfl)
theorem dX4_isDigit_26 : decode cX4_isDigit 26 = .ok (.ireturn, 1) := dk_172 (dk_at dksX4_isDigit_1 4 rfl rfl)
abbrev cX4_does : ByteArray := prog_14_method_92_code
def yX4_does : MethodName := ⟨RX4, "does", "(I)V"⟩
def dkwX4_does_6 : List UInt8 := [167, 0, 9, 42, 182, 0, 86, 54, 4, 177]
abbrev dktX4_does_6 : List UInt8 := dkwX4_does_6 ++ []
def dkwX4_does_5 : List UInt8 := [54, 4, 167, 0, 29, 42, 28, 182, 0, 133, 54, 4, 167, 0, 19, 42, 28, 182, 0, 154, 54, 4]
abbrev dktX4_does_5 : List UInt8 := dkwX4_does_5 ++ dktX4_does_6
def dkwX4_does_4 : List UInt8 := [29, 42, 180, 0, 36, 7, 27, 104, 6, 96, 46, 182, 0, 117, 54, 4, 167, 0, 39, 42, 28, 182, 0, 127]
abbrev dktX4_does_4 : List UInt8 := dkwX4_does_4 ++ dktX4_does_5
def dkwX4_does_3 : List UInt8 := [42, 28, 29, 182, 0, 80, 54, 4, 167, 0, 71, 42, 28, 29, 182, 0, 130, 54, 4, 167, 0, 60, 42, 28]
abbrev dktX4_does_3 : List UInt8 := dkwX4_does_3 ++ dktX4_does_4
def dkwX4_does_2 : List UInt8 := [171, 0, 0, 0, 0, 131, 0, 0, 0, 6, 0, 0, 0, 98, 0, 0, 0, 80, 0, 0, 0, 99, 0, 0, 0, 101, 0, 0, 0, 108, 0, 0, 0, 111, 0, 0, 0, 113, 0, 0, 0, 69, 0, 0, 0, 115, 0, 0, 0, 58, 0, 0, 0, 119, 0, 0, 0, 121]
abbrev dktX4_does_2 : List UInt8 := dkwX4_does_2 ++ dktX4_does_3
def dkwX4_does_1 : List UInt8 := [180, 0, 36, 7, 27, 104, 46]
abbrev dktX4_does_1 : List UInt8 := dkwX4_does_1 ++ dktX4_does_2
def dkwX4_does_0 : List UInt8 := [42, 180, 0, 36, 7, 27, 104, 4, 96, 46, 61, 42, 180, 0, 36, 7, 27, 104, 5, 96, 46, 62, 42]
abbrev dktX4_does_0 : List UInt8 := dkwX4_does_0 ++ dktX4_does_1
theorem dksX4_does_0 : cX4_does.data.toList.drop 0 = dktX4_does_0 := by decide +kernel
theorem dksX4_does_1 : cX4_does.data.toList.drop 23 = dktX4_does_1 := dk_seg dksX4_does_0 23 rfl rfl
theorem dksX4_does_2 : cX4_does.data.toList.drop 30 = dktX4_does_2 := dk_seg dksX4_does_1 7 rfl rfl
theorem dksX4_does_3 : cX4_does.data.toList.drop 88 = dktX4_does_3 := dk_seg dksX4_does_2 58 rfl rfl
theorem dksX4_does_4 : cX4_does.data.toList.drop 112 = dktX4_does_4 := dk_seg dksX4_does_3 24 rfl rfl
theorem dksX4_does_5 : cX4_does.data.toList.drop 136 = dktX4_does_5 := dk_seg dksX4_does_4 24 rfl rfl
theorem dksX4_does_6 : cX4_does.data.toList.drop 158 = dktX4_does_6 := dk_seg dksX4_does_5 22 rfl rfl
theorem dX4_does_0 : decode cX4_does 0 = .ok (.aload_n 0, 1) := dk_42 (dk_at dksX4_does_0 0 rfl rfl)
theorem dX4_does_1 : decode cX4_does 1 = .ok (.getfield 36, 3) := dk_180 0 36 (dk_at dksX4_does_0 1 rfl rfl)
theorem dX4_does_4 : decode cX4_does 4 = .ok (.iconst 4, 1) := dk_7 (dk_at dksX4_does_0 4 rfl rfl)
theorem dX4_does_5 : decode cX4_does 5 = .ok (.iload_n 1, 1) := dk_27 (dk_at dksX4_does_0 5 rfl rfl)
theorem dX4_does_6 : decode cX4_does 6 = .ok (.imul, 1) := dk_104 (dk_at dksX4_does_0 6 rfl rfl)
theorem dX4_does_7 : decode cX4_does 7 = .ok (.iconst 1, 1) := dk_4 (dk_at dksX4_does_0 7 rfl rfl)
theorem dX4_does_8 : decode cX4_does 8 = .ok (.iadd, 1) := dk_96 (dk_at dksX4_does_0 8 rfl rfl)
theorem dX4_does_9 : decode cX4_does 9 = .ok (.iaload, 1) := dk_46 (dk_at dksX4_does_0 9 rfl rfl)
theorem dX4_does_10 : decode cX4_does 10 = .ok (.istore_n 2, 1) := dk_61 (dk_at dksX4_does_0 10 rfl rfl)
theorem dX4_does_11 : decode cX4_does 11 = .ok (.aload_n 0, 1) := dk_42 (dk_at dksX4_does_0 11 rfl rfl)
theorem dX4_does_12 : decode cX4_does 12 = .ok (.getfield 36, 3) := dk_180 0 36 (dk_at dksX4_does_0 12 rfl rfl)
theorem dX4_does_15 : decode cX4_does 15 = .ok (.iconst 4, 1) := dk_7 (dk_at dksX4_does_0 15 rfl rfl)
theorem dX4_does_16 : decode cX4_does 16 = .ok (.iload_n 1, 1) := dk_27 (dk_at dksX4_does_0 16 rfl rfl)
theorem dX4_does_17 : decode cX4_does 17 = .ok (.imul, 1) := dk_104 (dk_at dksX4_does_0 17 rfl rfl)
theorem dX4_does_18 : decode cX4_does 18 = .ok (.iconst 2, 1) := dk_5 (dk_at dksX4_does_0 18 rfl rfl)
theorem dX4_does_19 : decode cX4_does 19 = .ok (.iadd, 1) := dk_96 (dk_at dksX4_does_0 19 rfl rfl)
theorem dX4_does_20 : decode cX4_does 20 = .ok (.iaload, 1) := dk_46 (dk_at dksX4_does_0 20 rfl rfl)
theorem dX4_does_21 : decode cX4_does 21 = .ok (.istore_n 3, 1) := dk_62 (dk_at dksX4_does_0 21 rfl rfl)
theorem dX4_does_22 : decode cX4_does 22 = .ok (.aload_n 0, 1) := dk_42 (dk_at dksX4_does_0 22 rfl rfl)
theorem dX4_does_23 : decode cX4_does 23 = .ok (.getfield 36, 3) := dk_180 0 36 (dk_at dksX4_does_1 0 rfl rfl)
theorem dX4_does_26 : decode cX4_does 26 = .ok (.iconst 4, 1) := dk_7 (dk_at dksX4_does_1 3 rfl rfl)
theorem dX4_does_27 : decode cX4_does 27 = .ok (.iload_n 1, 1) := dk_27 (dk_at dksX4_does_1 4 rfl rfl)
theorem dX4_does_28 : decode cX4_does 28 = .ok (.imul, 1) := dk_104 (dk_at dksX4_does_1 5 rfl rfl)
theorem dX4_does_29 : decode cX4_does 29 = .ok (.iaload, 1) := dk_46 (dk_at dksX4_does_1 6 rfl rfl)
theorem dX4_does_30 : decode cX4_does 30 = .ok (.lookupswitch 131 #[(98, 80), (99, 101), (108, 111), (113, 69), (115, 58), (119, 121)], 58) := by decide +kernel
theorem dX4_does_88 : decode cX4_does 88 = .ok (.aload_n 0, 1) := dk_42 (dk_at dksX4_does_3 0 rfl rfl)
theorem dX4_does_89 : decode cX4_does 89 = .ok (.iload_n 2, 1) := dk_28 (dk_at dksX4_does_3 1 rfl rfl)
theorem dX4_does_90 : decode cX4_does 90 = .ok (.iload_n 3, 1) := dk_29 (dk_at dksX4_does_3 2 rfl rfl)
theorem dX4_does_91 : decode cX4_does 91 = .ok (.invokevirtual 80, 3) := dk_182 0 80 (dk_at dksX4_does_3 3 rfl rfl)
theorem dX4_does_94 : decode cX4_does 94 = .ok (.istore 4, 2) := dk_54 4 (dk_at dksX4_does_3 6 rfl rfl)
theorem dX4_does_96 : decode cX4_does 96 = .ok (.goto 71, 3) := dk_167 0 71 (dk_at dksX4_does_3 8 rfl rfl)
theorem dX4_does_99 : decode cX4_does 99 = .ok (.aload_n 0, 1) := dk_42 (dk_at dksX4_does_3 11 rfl rfl)
theorem dX4_does_100 : decode cX4_does 100 = .ok (.iload_n 2, 1) := dk_28 (dk_at dksX4_does_3 12 rfl rfl)
theorem dX4_does_101 : decode cX4_does 101 = .ok (.iload_n 3, 1) := dk_29 (dk_at dksX4_does_3 13 rfl rfl)
theorem dX4_does_102 : decode cX4_does 102 = .ok (.invokevirtual 130, 3) := dk_182 0 130 (dk_at dksX4_does_3 14 rfl rfl)
theorem dX4_does_105 : decode cX4_does 105 = .ok (.istore 4, 2) := dk_54 4 (dk_at dksX4_does_3 17 rfl rfl)
theorem dX4_does_107 : decode cX4_does 107 = .ok (.goto 60, 3) := dk_167 0 60 (dk_at dksX4_does_3 19 rfl rfl)
theorem dX4_does_110 : decode cX4_does 110 = .ok (.aload_n 0, 1) := dk_42 (dk_at dksX4_does_3 22 rfl rfl)
theorem dX4_does_111 : decode cX4_does 111 = .ok (.iload_n 2, 1) := dk_28 (dk_at dksX4_does_3 23 rfl rfl)
theorem dX4_does_112 : decode cX4_does 112 = .ok (.iload_n 3, 1) := dk_29 (dk_at dksX4_does_4 0 rfl rfl)
theorem dX4_does_113 : decode cX4_does 113 = .ok (.aload_n 0, 1) := dk_42 (dk_at dksX4_does_4 1 rfl rfl)
theorem dX4_does_114 : decode cX4_does 114 = .ok (.getfield 36, 3) := dk_180 0 36 (dk_at dksX4_does_4 2 rfl rfl)
theorem dX4_does_117 : decode cX4_does 117 = .ok (.iconst 4, 1) := dk_7 (dk_at dksX4_does_4 5 rfl rfl)
theorem dX4_does_118 : decode cX4_does 118 = .ok (.iload_n 1, 1) := dk_27 (dk_at dksX4_does_4 6 rfl rfl)
theorem dX4_does_119 : decode cX4_does 119 = .ok (.imul, 1) := dk_104 (dk_at dksX4_does_4 7 rfl rfl)
theorem dX4_does_120 : decode cX4_does 120 = .ok (.iconst 3, 1) := dk_6 (dk_at dksX4_does_4 8 rfl rfl)
theorem dX4_does_121 : decode cX4_does 121 = .ok (.iadd, 1) := dk_96 (dk_at dksX4_does_4 9 rfl rfl)
theorem dX4_does_122 : decode cX4_does 122 = .ok (.iaload, 1) := dk_46 (dk_at dksX4_does_4 10 rfl rfl)
theorem dX4_does_123 : decode cX4_does 123 = .ok (.invokevirtual 117, 3) := dk_182 0 117 (dk_at dksX4_does_4 11 rfl rfl)
theorem dX4_does_126 : decode cX4_does 126 = .ok (.istore 4, 2) := dk_54 4 (dk_at dksX4_does_4 14 rfl rfl)
theorem dX4_does_128 : decode cX4_does 128 = .ok (.goto 39, 3) := dk_167 0 39 (dk_at dksX4_does_4 16 rfl rfl)
theorem dX4_does_131 : decode cX4_does 131 = .ok (.aload_n 0, 1) := dk_42 (dk_at dksX4_does_4 19 rfl rfl)
theorem dX4_does_132 : decode cX4_does 132 = .ok (.iload_n 2, 1) := dk_28 (dk_at dksX4_does_4 20 rfl rfl)
theorem dX4_does_133 : decode cX4_does 133 = .ok (.invokevirtual 127, 3) := dk_182 0 127 (dk_at dksX4_does_4 21 rfl rfl)
theorem dX4_does_136 : decode cX4_does 136 = .ok (.istore 4, 2) := dk_54 4 (dk_at dksX4_does_5 0 rfl rfl)
theorem dX4_does_138 : decode cX4_does 138 = .ok (.goto 29, 3) := dk_167 0 29 (dk_at dksX4_does_5 2 rfl rfl)
theorem dX4_does_141 : decode cX4_does 141 = .ok (.aload_n 0, 1) := dk_42 (dk_at dksX4_does_5 5 rfl rfl)
theorem dX4_does_142 : decode cX4_does 142 = .ok (.iload_n 2, 1) := dk_28 (dk_at dksX4_does_5 6 rfl rfl)
theorem dX4_does_143 : decode cX4_does 143 = .ok (.invokevirtual 133, 3) := dk_182 0 133 (dk_at dksX4_does_5 7 rfl rfl)
theorem dX4_does_146 : decode cX4_does 146 = .ok (.istore 4, 2) := dk_54 4 (dk_at dksX4_does_5 10 rfl rfl)
theorem dX4_does_148 : decode cX4_does 148 = .ok (.goto 19, 3) := dk_167 0 19 (dk_at dksX4_does_5 12 rfl rfl)
theorem dX4_does_151 : decode cX4_does 151 = .ok (.aload_n 0, 1) := dk_42 (dk_at dksX4_does_5 15 rfl rfl)
theorem dX4_does_152 : decode cX4_does 152 = .ok (.iload_n 2, 1) := dk_28 (dk_at dksX4_does_5 16 rfl rfl)
theorem dX4_does_153 : decode cX4_does 153 = .ok (.invokevirtual 154, 3) := dk_182 0 154 (dk_at dksX4_does_5 17 rfl rfl)
theorem dX4_does_156 : decode cX4_does 156 = .ok (.istore 4, 2) := dk_54 4 (dk_at dksX4_does_5 20 rfl rfl)
theorem dX4_does_158 : decode cX4_does 158 = .ok (.goto 9, 3) := dk_167 0 9 (dk_at dksX4_does_6 0 rfl rfl)
theorem dX4_does_161 : decode cX4_does 161 = .ok (.aload_n 0, 1) := dk_42 (dk_at dksX4_does_6 3 rfl rfl)
theorem dX4_does_162 : decode cX4_does 162 = .ok (.invokevirtual 86, 3) := dk_182 0 86 (dk_at dksX4_does_6 4 rfl rfl)
theorem dX4_does_165 : decode cX4_does 165 = .ok (.istore 4, 2) := dk_54 4 (dk_at dksX4_does_6 7 rfl rfl)
theorem dX4_does_167 : decode cX4_does 167 = .ok (.return_, 1) := dk_177 (dk_at dksX4_does_6 9 rfl rfl)
abbrev cX4_errorPosition : ByteArray := prog_14_method_94_code
def yX4_errorPosition : MethodName := ⟨RX4, "errorPosition", "()I"⟩
def dkwX4_errorPosition_1 : List UInt8 := [167, 0, 4, 3, 172]
abbrev dktX4_errorPosition_1 : List UInt8 := dkwX4_errorPosition_1 ++ []
def dkwX4_errorPosition_0 : List UInt8 := [42, 42, 180, 0, 29, 155, 0, 7, 4, 167, 0, 4, 3, 182, 0, 157, 153, 0, 10, 42, 180, 0, 29]
abbrev dktX4_errorPosition_0 : List UInt8 := dkwX4_errorPosition_0 ++ dktX4_errorPosition_1
theorem dksX4_errorPosition_0 : cX4_errorPosition.data.toList.drop 0 = dktX4_errorPosition_0 := by decide +kernel
theorem dksX4_errorPosition_1 : cX4_errorPosition.data.toList.drop 23 = dktX4_errorPosition_1 := dk_seg dksX4_errorPosition_0 23 rfl rfl
theorem dX4_errorPosition_0 : decode cX4_errorPosition 0 = .ok (.aload_n 0, 1) := dk_42 (dk_at dksX4_errorPosition_0 0 rfl rfl)
theorem dX4_errorPosition_1 : decode cX4_errorPosition 1 = .ok (.aload_n 0, 1) := dk_42 (dk_at dksX4_errorPosition_0 1 rfl rfl)
theorem dX4_errorPosition_2 : decode cX4_errorPosition 2 = .ok (.getfield 29, 3) := dk_180 0 29 (dk_at dksX4_errorPosition_0 2 rfl rfl)
theorem dX4_errorPosition_5 : decode cX4_errorPosition 5 = .ok (.ifCond .lt 7, 3) := dk_155 0 7 (dk_at dksX4_errorPosition_0 5 rfl rfl)
theorem dX4_errorPosition_8 : decode cX4_errorPosition 8 = .ok (.iconst 1, 1) := dk_4 (dk_at dksX4_errorPosition_0 8 rfl rfl)
theorem dX4_errorPosition_9 : decode cX4_errorPosition 9 = .ok (.goto 4, 3) := dk_167 0 4 (dk_at dksX4_errorPosition_0 9 rfl rfl)
theorem dX4_errorPosition_12 : decode cX4_errorPosition 12 = .ok (.iconst 0, 1) := dk_3 (dk_at dksX4_errorPosition_0 12 rfl rfl)
theorem dX4_errorPosition_13 : decode cX4_errorPosition 13 = .ok (.invokevirtual 157, 3) := dk_182 0 157 (dk_at dksX4_errorPosition_0 13 rfl rfl)
theorem dX4_errorPosition_16 : decode cX4_errorPosition 16 = .ok (.ifCond .eq 10, 3) := dk_153 0 10 (dk_at dksX4_errorPosition_0 16 rfl rfl)
theorem dX4_errorPosition_19 : decode cX4_errorPosition 19 = .ok (.aload_n 0, 1) := dk_42 (dk_at dksX4_errorPosition_0 19 rfl rfl)
theorem dX4_errorPosition_20 : decode cX4_errorPosition 20 = .ok (.getfield 29, 3) := dk_180 0 29 (dk_at dksX4_errorPosition_0 20 rfl rfl)
theorem dX4_errorPosition_23 : decode cX4_errorPosition 23 = .ok (.goto 4, 3) := dk_167 0 4 (dk_at dksX4_errorPosition_1 0 rfl rfl)
theorem dX4_errorPosition_26 : decode cX4_errorPosition 26 = .ok (.iconst 0, 1) := dk_3 (dk_at dksX4_errorPosition_1 3 rfl rfl)
theorem dX4_errorPosition_27 : decode cX4_errorPosition 27 = .ok (.ireturn, 1) := dk_172 (dk_at dksX4_errorPosition_1 4 rfl rfl)
abbrev cX4_failedCommand : ByteArray := prog_14_method_95_code
def yX4_failedCommand : MethodName := ⟨RX4, "failedCommand", "()I"⟩
def dkwX4_failedCommand_1 : List UInt8 := [167, 0, 4, 3, 172]
abbrev dktX4_failedCommand_1 : List UInt8 := dkwX4_failedCommand_1 ++ []
def dkwX4_failedCommand_0 : List UInt8 := [42, 42, 180, 0, 33, 155, 0, 7, 4, 167, 0, 4, 3, 182, 0, 157, 153, 0, 10, 42, 180, 0, 33]
abbrev dktX4_failedCommand_0 : List UInt8 := dkwX4_failedCommand_0 ++ dktX4_failedCommand_1
theorem dksX4_failedCommand_0 : cX4_failedCommand.data.toList.drop 0 = dktX4_failedCommand_0 := by decide +kernel
theorem dksX4_failedCommand_1 : cX4_failedCommand.data.toList.drop 23 = dktX4_failedCommand_1 := dk_seg dksX4_failedCommand_0 23 rfl rfl
theorem dX4_failedCommand_0 : decode cX4_failedCommand 0 = .ok (.aload_n 0, 1) := dk_42 (dk_at dksX4_failedCommand_0 0 rfl rfl)
theorem dX4_failedCommand_1 : decode cX4_failedCommand 1 = .ok (.aload_n 0, 1) := dk_42 (dk_at dksX4_failedCommand_0 1 rfl rfl)
theorem dX4_failedCommand_2 : decode cX4_failedCommand 2 = .ok (.getfield 33, 3) := dk_180 0 33 (dk_at dksX4_failedCommand_0 2 rfl rfl)
theorem dX4_failedCommand_5 : decode cX4_failedCommand 5 = .ok (.ifCond .lt 7, 3) := dk_155 0 7 (dk_at dksX4_failedCommand_0 5 rfl rfl)
theorem dX4_failedCommand_8 : decode cX4_failedCommand 8 = .ok (.iconst 1, 1) := dk_4 (dk_at dksX4_failedCommand_0 8 rfl rfl)
theorem dX4_failedCommand_9 : decode cX4_failedCommand 9 = .ok (.goto 4, 3) := dk_167 0 4 (dk_at dksX4_failedCommand_0 9 rfl rfl)
theorem dX4_failedCommand_12 : decode cX4_failedCommand 12 = .ok (.iconst 0, 1) := dk_3 (dk_at dksX4_failedCommand_0 12 rfl rfl)
theorem dX4_failedCommand_13 : decode cX4_failedCommand 13 = .ok (.invokevirtual 157, 3) := dk_182 0 157 (dk_at dksX4_failedCommand_0 13 rfl rfl)
theorem dX4_failedCommand_16 : decode cX4_failedCommand 16 = .ok (.ifCond .eq 10, 3) := dk_153 0 10 (dk_at dksX4_failedCommand_0 16 rfl rfl)
theorem dX4_failedCommand_19 : decode cX4_failedCommand 19 = .ok (.aload_n 0, 1) := dk_42 (dk_at dksX4_failedCommand_0 19 rfl rfl)
theorem dX4_failedCommand_20 : decode cX4_failedCommand 20 = .ok (.getfield 33, 3) := dk_180 0 33 (dk_at dksX4_failedCommand_0 20 rfl rfl)
theorem dX4_failedCommand_23 : decode cX4_failedCommand 23 = .ok (.goto 4, 3) := dk_167 0 4 (dk_at dksX4_failedCommand_1 0 rfl rfl)
theorem dX4_failedCommand_26 : decode cX4_failedCommand 26 = .ok (.iconst 0, 1) := dk_3 (dk_at dksX4_failedCommand_1 3 rfl rfl)
theorem dX4_failedCommand_27 : decode cX4_failedCommand 27 = .ok (.ireturn, 1) := dk_172 (dk_at dksX4_failedCommand_1 4 rfl rfl)
abbrev cX4_undoCount : ByteArray := prog_14_method_96_code
def yX4_undoCount : MethodName := ⟨RX4, "undoCount", "()I"⟩
def dkwX4_undoCount_0 : List UInt8 := [42, 3, 181, 0, 39, 42, 180, 0, 48, 172]
abbrev dktX4_undoCount_0 : List UInt8 := dkwX4_undoCount_0 ++ []
theorem dksX4_undoCount_0 : cX4_undoCount.data.toList.drop 0 = dktX4_undoCount_0 := by decide +kernel
theorem dX4_undoCount_0 : decode cX4_undoCount 0 = .ok (.aload_n 0, 1) := dk_42 (dk_at dksX4_undoCount_0 0 rfl rfl)
theorem dX4_undoCount_1 : decode cX4_undoCount 1 = .ok (.iconst 0, 1) := dk_3 (dk_at dksX4_undoCount_0 1 rfl rfl)
theorem dX4_undoCount_2 : decode cX4_undoCount 2 = .ok (.putfield 39, 3) := dk_181 0 39 (dk_at dksX4_undoCount_0 2 rfl rfl)
theorem dX4_undoCount_5 : decode cX4_undoCount 5 = .ok (.aload_n 0, 1) := dk_42 (dk_at dksX4_undoCount_0 5 rfl rfl)
theorem dX4_undoCount_6 : decode cX4_undoCount 6 = .ok (.getfield 48, 3) := dk_180 0 48 (dk_at dksX4_undoCount_0 6 rfl rfl)
theorem dX4_undoCount_9 : decode cX4_undoCount 9 = .ok (.ireturn, 1) := dk_172 (dk_at dksX4_undoCount_0 9 rfl rfl)
abbrev cX4_undo : ByteArray := prog_14_method_97_code
def yX4_undo : MethodName := ⟨RX4, "undo", "()I"⟩
def dkwX4_undo_2 : List UInt8 := [180, 0, 9, 3, 17, 0, 158, 184, 0, 42, 42, 180, 0, 48, 172]
abbrev dktX4_undo_2 : List UInt8 := dkwX4_undo_2 ++ []
def dkwX4_undo_1 : List UInt8 := [172, 42, 89, 180, 0, 48, 4, 100, 181, 0, 48, 42, 180, 0, 19, 17, 0, 158, 42, 180, 0, 48, 104, 42]
abbrev dktX4_undo_1 : List UInt8 := dkwX4_undo_1 ++ dktX4_undo_2
def dkwX4_undo_0 : List UInt8 := [42, 42, 180, 0, 48, 154, 0, 7, 4, 167, 0, 4, 3, 181, 0, 39, 42, 180, 0, 39, 158, 0, 5, 3]
abbrev dktX4_undo_0 : List UInt8 := dkwX4_undo_0 ++ dktX4_undo_1
theorem dksX4_undo_0 : cX4_undo.data.toList.drop 0 = dktX4_undo_0 := by decide +kernel
theorem dksX4_undo_1 : cX4_undo.data.toList.drop 24 = dktX4_undo_1 := dk_seg dksX4_undo_0 24 rfl rfl
theorem dksX4_undo_2 : cX4_undo.data.toList.drop 48 = dktX4_undo_2 := dk_seg dksX4_undo_1 24 rfl rfl
theorem dX4_undo_0 : decode cX4_undo 0 = .ok (.aload_n 0, 1) := dk_42 (dk_at dksX4_undo_0 0 rfl rfl)
theorem dX4_undo_1 : decode cX4_undo 1 = .ok (.aload_n 0, 1) := dk_42 (dk_at dksX4_undo_0 1 rfl rfl)
theorem dX4_undo_2 : decode cX4_undo 2 = .ok (.getfield 48, 3) := dk_180 0 48 (dk_at dksX4_undo_0 2 rfl rfl)
theorem dX4_undo_5 : decode cX4_undo 5 = .ok (.ifCond .ne 7, 3) := dk_154 0 7 (dk_at dksX4_undo_0 5 rfl rfl)
theorem dX4_undo_8 : decode cX4_undo 8 = .ok (.iconst 1, 1) := dk_4 (dk_at dksX4_undo_0 8 rfl rfl)
theorem dX4_undo_9 : decode cX4_undo 9 = .ok (.goto 4, 3) := dk_167 0 4 (dk_at dksX4_undo_0 9 rfl rfl)
theorem dX4_undo_12 : decode cX4_undo 12 = .ok (.iconst 0, 1) := dk_3 (dk_at dksX4_undo_0 12 rfl rfl)
theorem dX4_undo_13 : decode cX4_undo 13 = .ok (.putfield 39, 3) := dk_181 0 39 (dk_at dksX4_undo_0 13 rfl rfl)
theorem dX4_undo_16 : decode cX4_undo 16 = .ok (.aload_n 0, 1) := dk_42 (dk_at dksX4_undo_0 16 rfl rfl)
theorem dX4_undo_17 : decode cX4_undo 17 = .ok (.getfield 39, 3) := dk_180 0 39 (dk_at dksX4_undo_0 17 rfl rfl)
theorem dX4_undo_20 : decode cX4_undo 20 = .ok (.ifCond .le 5, 3) := dk_158 0 5 (dk_at dksX4_undo_0 20 rfl rfl)
theorem dX4_undo_23 : decode cX4_undo 23 = .ok (.iconst 0, 1) := dk_3 (dk_at dksX4_undo_0 23 rfl rfl)
theorem dX4_undo_24 : decode cX4_undo 24 = .ok (.ireturn, 1) := dk_172 (dk_at dksX4_undo_1 0 rfl rfl)
theorem dX4_undo_25 : decode cX4_undo 25 = .ok (.aload_n 0, 1) := dk_42 (dk_at dksX4_undo_1 1 rfl rfl)
theorem dX4_undo_26 : decode cX4_undo 26 = .ok (.dup, 1) := dk_89 (dk_at dksX4_undo_1 2 rfl rfl)
theorem dX4_undo_27 : decode cX4_undo 27 = .ok (.getfield 48, 3) := dk_180 0 48 (dk_at dksX4_undo_1 3 rfl rfl)
theorem dX4_undo_30 : decode cX4_undo 30 = .ok (.iconst 1, 1) := dk_4 (dk_at dksX4_undo_1 6 rfl rfl)
theorem dX4_undo_31 : decode cX4_undo 31 = .ok (.isub, 1) := dk_100 (dk_at dksX4_undo_1 7 rfl rfl)
theorem dX4_undo_32 : decode cX4_undo 32 = .ok (.putfield 48, 3) := dk_181 0 48 (dk_at dksX4_undo_1 8 rfl rfl)
theorem dX4_undo_35 : decode cX4_undo 35 = .ok (.aload_n 0, 1) := dk_42 (dk_at dksX4_undo_1 11 rfl rfl)
theorem dX4_undo_36 : decode cX4_undo 36 = .ok (.getfield 19, 3) := dk_180 0 19 (dk_at dksX4_undo_1 12 rfl rfl)
theorem dX4_undo_39 : decode cX4_undo 39 = .ok (.sipush 158, 3) := dk_17 0 158 (dk_at dksX4_undo_1 15 rfl rfl)
theorem dX4_undo_42 : decode cX4_undo 42 = .ok (.aload_n 0, 1) := dk_42 (dk_at dksX4_undo_1 18 rfl rfl)
theorem dX4_undo_43 : decode cX4_undo 43 = .ok (.getfield 48, 3) := dk_180 0 48 (dk_at dksX4_undo_1 19 rfl rfl)
theorem dX4_undo_46 : decode cX4_undo 46 = .ok (.imul, 1) := dk_104 (dk_at dksX4_undo_1 22 rfl rfl)
theorem dX4_undo_47 : decode cX4_undo 47 = .ok (.aload_n 0, 1) := dk_42 (dk_at dksX4_undo_1 23 rfl rfl)
theorem dX4_undo_48 : decode cX4_undo 48 = .ok (.getfield 9, 3) := dk_180 0 9 (dk_at dksX4_undo_2 0 rfl rfl)
theorem dX4_undo_51 : decode cX4_undo 51 = .ok (.iconst 0, 1) := dk_3 (dk_at dksX4_undo_2 3 rfl rfl)
theorem dX4_undo_52 : decode cX4_undo 52 = .ok (.sipush 158, 3) := dk_17 0 158 (dk_at dksX4_undo_2 4 rfl rfl)
theorem dX4_undo_55 : decode cX4_undo 55 = .ok (.invokestatic 42, 3) := dk_184 0 42 (dk_at dksX4_undo_2 7 rfl rfl)
theorem dX4_undo_58 : decode cX4_undo 58 = .ok (.aload_n 0, 1) := dk_42 (dk_at dksX4_undo_2 10 rfl rfl)
theorem dX4_undo_59 : decode cX4_undo 59 = .ok (.getfield 48, 3) := dk_180 0 48 (dk_at dksX4_undo_2 11 rfl rfl)
theorem dX4_undo_62 : decode cX4_undo 62 = .ok (.ireturn, 1) := dk_172 (dk_at dksX4_undo_2 14 rfl rfl)
abbrev cX4_save : ByteArray := prog_14_method_98_code
def yX4_save : MethodName := ⟨RX4, "save", "()I"⟩
def dkwX4_save_1 : List UInt8 := [181, 0, 247, 42, 180, 0, 9, 5, 46, 172]
abbrev dktX4_save_1 : List UInt8 := dkwX4_save_1 ++ []
def dkwX4_save_0 : List UInt8 := [42, 3, 181, 0, 39, 42, 180, 0, 9, 3, 42, 180, 0, 16, 3, 17, 0, 158, 184, 0, 42, 42, 4]
abbrev dktX4_save_0 : List UInt8 := dkwX4_save_0 ++ dktX4_save_1
theorem dksX4_save_0 : cX4_save.data.toList.drop 0 = dktX4_save_0 := by decide +kernel
theorem dksX4_save_1 : cX4_save.data.toList.drop 23 = dktX4_save_1 := dk_seg dksX4_save_0 23 rfl rfl
theorem dX4_save_0 : decode cX4_save 0 = .ok (.aload_n 0, 1) := dk_42 (dk_at dksX4_save_0 0 rfl rfl)
theorem dX4_save_1 : decode cX4_save 1 = .ok (.iconst 0, 1) := dk_3 (dk_at dksX4_save_0 1 rfl rfl)
theorem dX4_save_2 : decode cX4_save 2 = .ok (.putfield 39, 3) := dk_181 0 39 (dk_at dksX4_save_0 2 rfl rfl)
theorem dX4_save_5 : decode cX4_save 5 = .ok (.aload_n 0, 1) := dk_42 (dk_at dksX4_save_0 5 rfl rfl)
theorem dX4_save_6 : decode cX4_save 6 = .ok (.getfield 9, 3) := dk_180 0 9 (dk_at dksX4_save_0 6 rfl rfl)
theorem dX4_save_9 : decode cX4_save 9 = .ok (.iconst 0, 1) := dk_3 (dk_at dksX4_save_0 9 rfl rfl)
theorem dX4_save_10 : decode cX4_save 10 = .ok (.aload_n 0, 1) := dk_42 (dk_at dksX4_save_0 10 rfl rfl)
theorem dX4_save_11 : decode cX4_save 11 = .ok (.getfield 16, 3) := dk_180 0 16 (dk_at dksX4_save_0 11 rfl rfl)
theorem dX4_save_14 : decode cX4_save 14 = .ok (.iconst 0, 1) := dk_3 (dk_at dksX4_save_0 14 rfl rfl)
theorem dX4_save_15 : decode cX4_save 15 = .ok (.sipush 158, 3) := dk_17 0 158 (dk_at dksX4_save_0 15 rfl rfl)
theorem dX4_save_18 : decode cX4_save 18 = .ok (.invokestatic 42, 3) := dk_184 0 42 (dk_at dksX4_save_0 18 rfl rfl)
theorem dX4_save_21 : decode cX4_save 21 = .ok (.aload_n 0, 1) := dk_42 (dk_at dksX4_save_0 21 rfl rfl)
theorem dX4_save_22 : decode cX4_save 22 = .ok (.iconst 1, 1) := dk_4 (dk_at dksX4_save_0 22 rfl rfl)
theorem dX4_save_23 : decode cX4_save 23 = .ok (.putfield 247, 3) := dk_181 0 247 (dk_at dksX4_save_1 0 rfl rfl)
theorem dX4_save_26 : decode cX4_save 26 = .ok (.aload_n 0, 1) := dk_42 (dk_at dksX4_save_1 3 rfl rfl)
theorem dX4_save_27 : decode cX4_save 27 = .ok (.getfield 9, 3) := dk_180 0 9 (dk_at dksX4_save_1 4 rfl rfl)
theorem dX4_save_30 : decode cX4_save 30 = .ok (.iconst 2, 1) := dk_5 (dk_at dksX4_save_1 7 rfl rfl)
theorem dX4_save_31 : decode cX4_save 31 = .ok (.iaload, 1) := dk_46 (dk_at dksX4_save_1 8 rfl rfl)
theorem dX4_save_32 : decode cX4_save 32 = .ok (.ireturn, 1) := dk_172 (dk_at dksX4_save_1 9 rfl rfl)
abbrev cX4_restore : ByteArray := prog_14_method_99_code
def yX4_restore : MethodName := ⟨RX4, "restore", "()I"⟩
def dkwX4_restore_2 : List UInt8 := [180, 0, 9, 5, 46, 172]
abbrev dktX4_restore_2 : List UInt8 := dkwX4_restore_2 ++ []
def dkwX4_restore_1 : List UInt8 := [172, 42, 180, 0, 16, 3, 42, 180, 0, 9, 3, 17, 0, 158, 184, 0, 42, 42, 3, 181, 0, 48, 42]
abbrev dktX4_restore_1 : List UInt8 := dkwX4_restore_1 ++ dktX4_restore_2
def dkwX4_restore_0 : List UInt8 := [42, 42, 180, 0, 247, 153, 0, 7, 3, 167, 0, 4, 4, 181, 0, 39, 42, 180, 0, 39, 158, 0, 5, 3]
abbrev dktX4_restore_0 : List UInt8 := dkwX4_restore_0 ++ dktX4_restore_1
theorem dksX4_restore_0 : cX4_restore.data.toList.drop 0 = dktX4_restore_0 := by decide +kernel
theorem dksX4_restore_1 : cX4_restore.data.toList.drop 24 = dktX4_restore_1 := dk_seg dksX4_restore_0 24 rfl rfl
theorem dksX4_restore_2 : cX4_restore.data.toList.drop 47 = dktX4_restore_2 := dk_seg dksX4_restore_1 23 rfl rfl
theorem dX4_restore_0 : decode cX4_restore 0 = .ok (.aload_n 0, 1) := dk_42 (dk_at dksX4_restore_0 0 rfl rfl)
theorem dX4_restore_1 : decode cX4_restore 1 = .ok (.aload_n 0, 1) := dk_42 (dk_at dksX4_restore_0 1 rfl rfl)
theorem dX4_restore_2 : decode cX4_restore 2 = .ok (.getfield 247, 3) := dk_180 0 247 (dk_at dksX4_restore_0 2 rfl rfl)
theorem dX4_restore_5 : decode cX4_restore 5 = .ok (.ifCond .eq 7, 3) := dk_153 0 7 (dk_at dksX4_restore_0 5 rfl rfl)
theorem dX4_restore_8 : decode cX4_restore 8 = .ok (.iconst 0, 1) := dk_3 (dk_at dksX4_restore_0 8 rfl rfl)
theorem dX4_restore_9 : decode cX4_restore 9 = .ok (.goto 4, 3) := dk_167 0 4 (dk_at dksX4_restore_0 9 rfl rfl)
theorem dX4_restore_12 : decode cX4_restore 12 = .ok (.iconst 1, 1) := dk_4 (dk_at dksX4_restore_0 12 rfl rfl)
theorem dX4_restore_13 : decode cX4_restore 13 = .ok (.putfield 39, 3) := dk_181 0 39 (dk_at dksX4_restore_0 13 rfl rfl)
theorem dX4_restore_16 : decode cX4_restore 16 = .ok (.aload_n 0, 1) := dk_42 (dk_at dksX4_restore_0 16 rfl rfl)
theorem dX4_restore_17 : decode cX4_restore 17 = .ok (.getfield 39, 3) := dk_180 0 39 (dk_at dksX4_restore_0 17 rfl rfl)
theorem dX4_restore_20 : decode cX4_restore 20 = .ok (.ifCond .le 5, 3) := dk_158 0 5 (dk_at dksX4_restore_0 20 rfl rfl)
theorem dX4_restore_23 : decode cX4_restore 23 = .ok (.iconst 0, 1) := dk_3 (dk_at dksX4_restore_0 23 rfl rfl)
theorem dX4_restore_24 : decode cX4_restore 24 = .ok (.ireturn, 1) := dk_172 (dk_at dksX4_restore_1 0 rfl rfl)
theorem dX4_restore_25 : decode cX4_restore 25 = .ok (.aload_n 0, 1) := dk_42 (dk_at dksX4_restore_1 1 rfl rfl)
theorem dX4_restore_26 : decode cX4_restore 26 = .ok (.getfield 16, 3) := dk_180 0 16 (dk_at dksX4_restore_1 2 rfl rfl)
theorem dX4_restore_29 : decode cX4_restore 29 = .ok (.iconst 0, 1) := dk_3 (dk_at dksX4_restore_1 5 rfl rfl)
theorem dX4_restore_30 : decode cX4_restore 30 = .ok (.aload_n 0, 1) := dk_42 (dk_at dksX4_restore_1 6 rfl rfl)
theorem dX4_restore_31 : decode cX4_restore 31 = .ok (.getfield 9, 3) := dk_180 0 9 (dk_at dksX4_restore_1 7 rfl rfl)
theorem dX4_restore_34 : decode cX4_restore 34 = .ok (.iconst 0, 1) := dk_3 (dk_at dksX4_restore_1 10 rfl rfl)
theorem dX4_restore_35 : decode cX4_restore 35 = .ok (.sipush 158, 3) := dk_17 0 158 (dk_at dksX4_restore_1 11 rfl rfl)
theorem dX4_restore_38 : decode cX4_restore 38 = .ok (.invokestatic 42, 3) := dk_184 0 42 (dk_at dksX4_restore_1 14 rfl rfl)
theorem dX4_restore_41 : decode cX4_restore 41 = .ok (.aload_n 0, 1) := dk_42 (dk_at dksX4_restore_1 17 rfl rfl)
theorem dX4_restore_42 : decode cX4_restore 42 = .ok (.iconst 0, 1) := dk_3 (dk_at dksX4_restore_1 18 rfl rfl)
theorem dX4_restore_43 : decode cX4_restore 43 = .ok (.putfield 48, 3) := dk_181 0 48 (dk_at dksX4_restore_1 19 rfl rfl)
theorem dX4_restore_46 : decode cX4_restore 46 = .ok (.aload_n 0, 1) := dk_42 (dk_at dksX4_restore_1 22 rfl rfl)
theorem dX4_restore_47 : decode cX4_restore 47 = .ok (.getfield 9, 3) := dk_180 0 9 (dk_at dksX4_restore_2 0 rfl rfl)
theorem dX4_restore_50 : decode cX4_restore 50 = .ok (.iconst 2, 1) := dk_5 (dk_at dksX4_restore_2 3 rfl rfl)
theorem dX4_restore_51 : decode cX4_restore 51 = .ok (.iaload, 1) := dk_46 (dk_at dksX4_restore_2 4 rfl rfl)
theorem dX4_restore_52 : decode cX4_restore 52 = .ok (.ireturn, 1) := dk_172 (dk_at dksX4_restore_2 5 rfl rfl)
theorem q76 : (Jvm.Cond.initialized "SlideParkModel") ∈ lw_all := lw_g (lw_at lw_m1 11 rfl) rfl
theorem q659 : (Jvm.Cond.selects "SlideParkModel" ({ cls := "java/lang/Object", name := "getClass", desc := "()Ljava/lang/Class;" } : Jvm.MethodName) ({ cls := "java/lang/Object", name := "getClass", desc := "()Ljava/lang/Class;" } : Jvm.MethodName)) ∈ lw_all := lw_g (lw_at lw_m3 114 rfl) rfl
theorem q1073 : (Jvm.Cond.selects "SlideParkModel" ({ cls := "java/lang/Object", name := "equals", desc := "(Ljava/lang/Object;)Z" } : Jvm.MethodName) ({ cls := "java/lang/Object", name := "equals", desc := "(Ljava/lang/Object;)Z" } : Jvm.MethodName)) ∈ lw_all := lw_g (lw_at lw_m5 48 rfl) rfl
theorem q1911 : (Jvm.Cond.instantiable "SlideParkModel" (17 : Nat)) ∈ lw_all := lw_g (lw_at lw_m8 166 rfl) rfl
theorem q1913 : (Jvm.Cond.instanceMethod ({ cls := "SlideParkModel", name := "<init>", desc := "()V" } : Jvm.MethodName)) ∈ lw_all := lw_g (lw_at lw_m8 168 rfl) rfl
theorem q1914 : (Jvm.Cond.code ({ cls := "SlideParkModel", name := "<init>", desc := "()V" } : Jvm.MethodName) prog_14_method_1_code (1 : Nat) (Option.none : Option Jvm.ClassFile.FieldType)) ∈ lw_all := lw_g (lw_at lw_m8 169 rfl) rfl
theorem q1915 : (Jvm.Cond.methodLink "SlideParkModel" (3 : Nat) ({ cls := "java/lang/Object", name := "<init>", desc := "()V" } : Jvm.MethodName)) ∈ lw_all := lw_g (lw_at lw_m8 170 rfl) rfl
theorem q1916 : (Jvm.Cond.fieldLink "SlideParkModel" (9 : Nat) "SlideParkModel" "s" "[I") ∈ lw_all := lw_g (lw_at lw_m8 171 rfl) rfl
theorem q1917 : (Jvm.Cond.fieldLink "SlideParkModel" (13 : Nat) "SlideParkModel" "before" "[I") ∈ lw_all := lw_g (lw_at lw_m8 172 rfl) rfl
theorem q1918 : (Jvm.Cond.fieldLink "SlideParkModel" (16 : Nat) "SlideParkModel" "saved" "[I") ∈ lw_all := lw_g (lw_at lw_m8 173 rfl) rfl
theorem q1919 : (Jvm.Cond.fieldLink "SlideParkModel" (247 : Nat) "SlideParkModel" "isSaved" "Z") ∈ lw_all := lw_g (lw_at lw_m8 174 rfl) rfl
theorem q1920 : (Jvm.Cond.fieldLink "SlideParkModel" (19 : Nat) "SlideParkModel" "past" "[I") ∈ lw_all := lw_g (lw_at lw_m8 175 rfl) rfl
theorem q1921 : (Jvm.Cond.fieldLink "SlideParkModel" (48 : Nat) "SlideParkModel" "pastMany" "I") ∈ lw_all := lw_g (lw_at lw_m8 176 rfl) rfl
theorem q1922 : (Jvm.Cond.fieldLink "SlideParkModel" (39 : Nat) "SlideParkModel" "thrown" "I") ∈ lw_all := lw_g (lw_at lw_m8 177 rfl) rfl
theorem q1923 : (Jvm.Cond.fieldLink "SlideParkModel" (22 : Nat) "SlideParkModel" "output" "[C") ∈ lw_all := lw_g (lw_at lw_m8 178 rfl) rfl
theorem q1924 : (Jvm.Cond.fieldLink "SlideParkModel" (182 : Nat) "SlideParkModel" "outputMany" "I") ∈ lw_all := lw_g (lw_at lw_m8 179 rfl) rfl
theorem q1925 : (Jvm.Cond.fieldLink "SlideParkModel" (26 : Nat) "SlideParkModel" "input" "[C") ∈ lw_all := lw_g (lw_at lw_m8 180 rfl) rfl
theorem q1926 : (Jvm.Cond.fieldLink "SlideParkModel" (192 : Nat) "SlideParkModel" "length" "I") ∈ lw_all := lw_g (lw_at lw_m8 181 rfl) rfl
theorem q1927 : (Jvm.Cond.fieldLink "SlideParkModel" (195 : Nat) "SlideParkModel" "at" "I") ∈ lw_all := lw_g (lw_at lw_m8 182 rfl) rfl
theorem q1928 : (Jvm.Cond.fieldLink "SlideParkModel" (202 : Nat) "SlideParkModel" "isWrong" "Z") ∈ lw_all := lw_g (lw_at lw_m8 183 rfl) rfl
theorem q1929 : (Jvm.Cond.fieldLink "SlideParkModel" (29 : Nat) "SlideParkModel" "errorAt" "I") ∈ lw_all := lw_g (lw_at lw_m8 184 rfl) rfl
theorem q1930 : (Jvm.Cond.fieldLink "SlideParkModel" (33 : Nat) "SlideParkModel" "failedAt" "I") ∈ lw_all := lw_g (lw_at lw_m8 185 rfl) rfl
theorem q1931 : (Jvm.Cond.fieldLink "SlideParkModel" (36 : Nat) "SlideParkModel" "commands" "[I") ∈ lw_all := lw_g (lw_at lw_m8 186 rfl) rfl
theorem q1932 : (Jvm.Cond.fieldLink "SlideParkModel" (223 : Nat) "SlideParkModel" "commandMany" "I") ∈ lw_all := lw_g (lw_at lw_m8 187 rfl) rfl
theorem q1933 : (Jvm.Cond.laysFinal "SlideParkModel" "SlideParkModel" "s" "[I") ∈ lw_all := lw_g (lw_at lw_m8 188 rfl) rfl
theorem q1934 : (Jvm.Cond.soleField "SlideParkModel" "s") ∈ lw_all := lw_g (lw_at lw_m8 189 rfl) rfl
theorem q1935 : (Jvm.Cond.laysFinal "SlideParkModel" "SlideParkModel" "before" "[I") ∈ lw_all := lw_g (lw_at lw_m8 190 rfl) rfl
theorem q1936 : (Jvm.Cond.soleField "SlideParkModel" "before") ∈ lw_all := lw_g (lw_at lw_m8 191 rfl) rfl
theorem q1937 : (Jvm.Cond.laysFinal "SlideParkModel" "SlideParkModel" "saved" "[I") ∈ lw_all := lw_g (lw_at lw_m8 192 rfl) rfl
theorem q1938 : (Jvm.Cond.soleField "SlideParkModel" "saved") ∈ lw_all := lw_g (lw_at lw_m8 193 rfl) rfl
theorem q1939 : (Jvm.Cond.lays "SlideParkModel" "SlideParkModel" "isSaved" "Z") ∈ lw_all := lw_g (lw_at lw_m8 194 rfl) rfl
theorem q1940 : (Jvm.Cond.soleField "SlideParkModel" "isSaved") ∈ lw_all := lw_g (lw_at lw_m8 195 rfl) rfl
theorem q1941 : (Jvm.Cond.laysFinal "SlideParkModel" "SlideParkModel" "past" "[I") ∈ lw_all := lw_g (lw_at lw_m8 196 rfl) rfl
theorem q1942 : (Jvm.Cond.soleField "SlideParkModel" "past") ∈ lw_all := lw_g (lw_at lw_m8 197 rfl) rfl
theorem q1943 : (Jvm.Cond.lays "SlideParkModel" "SlideParkModel" "pastMany" "I") ∈ lw_all := lw_g (lw_at lw_m8 198 rfl) rfl
theorem q1944 : (Jvm.Cond.soleField "SlideParkModel" "pastMany") ∈ lw_all := lw_g (lw_at lw_m8 199 rfl) rfl
theorem q1945 : (Jvm.Cond.lays "SlideParkModel" "SlideParkModel" "thrown" "I") ∈ lw_all := lw_g (lw_at lw_m8 200 rfl) rfl
theorem q1946 : (Jvm.Cond.soleField "SlideParkModel" "thrown") ∈ lw_all := lw_g (lw_at lw_m8 201 rfl) rfl
theorem q1947 : (Jvm.Cond.laysFinal "SlideParkModel" "SlideParkModel" "output" "[C") ∈ lw_all := lw_g (lw_at lw_m8 202 rfl) rfl
theorem q1948 : (Jvm.Cond.soleField "SlideParkModel" "output") ∈ lw_all := lw_g (lw_at lw_m8 203 rfl) rfl
theorem q1949 : (Jvm.Cond.lays "SlideParkModel" "SlideParkModel" "outputMany" "I") ∈ lw_all := lw_g (lw_at lw_m8 204 rfl) rfl
theorem q1950 : (Jvm.Cond.soleField "SlideParkModel" "outputMany") ∈ lw_all := lw_g (lw_at lw_m8 205 rfl) rfl
theorem q1951 : (Jvm.Cond.laysFinal "SlideParkModel" "SlideParkModel" "input" "[C") ∈ lw_all := lw_g (lw_at lw_m8 206 rfl) rfl
theorem q1952 : (Jvm.Cond.soleField "SlideParkModel" "input") ∈ lw_all := lw_g (lw_at lw_m8 207 rfl) rfl
theorem q1953 : (Jvm.Cond.lays "SlideParkModel" "SlideParkModel" "length" "I") ∈ lw_all := lw_g (lw_at lw_m8 208 rfl) rfl
theorem q1954 : (Jvm.Cond.soleField "SlideParkModel" "length") ∈ lw_all := lw_g (lw_at lw_m8 209 rfl) rfl
theorem q1955 : (Jvm.Cond.lays "SlideParkModel" "SlideParkModel" "at" "I") ∈ lw_all := lw_g (lw_at lw_m8 210 rfl) rfl
theorem q1956 : (Jvm.Cond.soleField "SlideParkModel" "at") ∈ lw_all := lw_g (lw_at lw_m8 211 rfl) rfl
theorem q1957 : (Jvm.Cond.lays "SlideParkModel" "SlideParkModel" "isWrong" "Z") ∈ lw_all := lw_g (lw_at lw_m8 212 rfl) rfl
theorem q1958 : (Jvm.Cond.soleField "SlideParkModel" "isWrong") ∈ lw_all := lw_g (lw_at lw_m8 213 rfl) rfl
theorem q1959 : (Jvm.Cond.lays "SlideParkModel" "SlideParkModel" "errorAt" "I") ∈ lw_all := lw_g (lw_at lw_m8 214 rfl) rfl
theorem q1960 : (Jvm.Cond.soleField "SlideParkModel" "errorAt") ∈ lw_all := lw_g (lw_at lw_m8 215 rfl) rfl
theorem q1961 : (Jvm.Cond.lays "SlideParkModel" "SlideParkModel" "failedAt" "I") ∈ lw_all := lw_g (lw_at lw_m8 216 rfl) rfl
theorem q1962 : (Jvm.Cond.soleField "SlideParkModel" "failedAt") ∈ lw_all := lw_g (lw_at lw_m8 217 rfl) rfl
theorem q1963 : (Jvm.Cond.laysFinal "SlideParkModel" "SlideParkModel" "commands" "[I") ∈ lw_all := lw_g (lw_at lw_m8 218 rfl) rfl
theorem q1964 : (Jvm.Cond.soleField "SlideParkModel" "commands") ∈ lw_all := lw_g (lw_at lw_m8 219 rfl) rfl
theorem q1965 : (Jvm.Cond.lays "SlideParkModel" "SlideParkModel" "commandMany" "I") ∈ lw_all := lw_g (lw_at lw_m8 220 rfl) rfl
theorem q1966 : (Jvm.Cond.soleField "SlideParkModel" "commandMany") ∈ lw_all := lw_g (lw_at lw_m8 221 rfl) rfl
theorem q1967 : (Jvm.Cond.superclass "SlideParkModel" "java/lang/Object") ∈ lw_all := lw_g (lw_at lw_m8 222 rfl) rfl
theorem q1969 : (Jvm.Cond.instanceMethod ({ cls := "SlideParkModel", name := "thrown", desc := "()I" } : Jvm.MethodName)) ∈ lw_all := lw_g (lw_at lw_m8 224 rfl) rfl
theorem q1970 : (Jvm.Cond.selects "SlideParkModel" ({ cls := "SlideParkModel", name := "thrown", desc := "()I" } : Jvm.MethodName) ({ cls := "SlideParkModel", name := "thrown", desc := "()I" } : Jvm.MethodName)) ∈ lw_all := lw_g (lw_at lw_m8 225 rfl) rfl
theorem q1971 : (Jvm.Cond.code ({ cls := "SlideParkModel", name := "thrown", desc := "()I" } : Jvm.MethodName) prog_14_method_2_code (1 : Nat) (Option.some Jvm.ClassFile.FieldType.int)) ∈ lw_all := lw_g (lw_at lw_m8 226 rfl) rfl
theorem q1973 : (Jvm.Cond.instanceMethod ({ cls := "SlideParkModel", name := "buildSlide", desc := "(II)I" } : Jvm.MethodName)) ∈ lw_all := lw_g (lw_at lw_m8 228 rfl) rfl
theorem q1974 : (Jvm.Cond.selects "SlideParkModel" ({ cls := "SlideParkModel", name := "buildSlide", desc := "(II)I" } : Jvm.MethodName) ({ cls := "SlideParkModel", name := "buildSlide", desc := "(II)I" } : Jvm.MethodName)) ∈ lw_all := lw_g (lw_at lw_m8 229 rfl) rfl
theorem q1975 : (Jvm.Cond.code ({ cls := "SlideParkModel", name := "buildSlide", desc := "(II)I" } : Jvm.MethodName) prog_14_method_20_code (3 : Nat) (Option.some Jvm.ClassFile.FieldType.int)) ∈ lw_all := lw_g (lw_at lw_m8 230 rfl) rfl
theorem q1976 : (Jvm.Cond.methodLink "SlideParkModel" (77 : Nat) ({ cls := "SlideParkModel", name := "keep", desc := "()V" } : Jvm.MethodName)) ∈ lw_all := lw_g (lw_at lw_m8 231 rfl) rfl
theorem q1977 : (Jvm.Cond.privateMethod ({ cls := "SlideParkModel", name := "keep", desc := "()V" } : Jvm.MethodName)) ∈ lw_tbl := lw_at lw_m8 232 rfl
theorem q1978 : (Jvm.Cond.instanceMethod ({ cls := "SlideParkModel", name := "keep", desc := "()V" } : Jvm.MethodName)) ∈ lw_all := lw_g (lw_at lw_m8 233 rfl) rfl
theorem q1979 : (Jvm.Cond.code ({ cls := "SlideParkModel", name := "keep", desc := "()V" } : Jvm.MethodName) prog_14_method_4_code (1 : Nat) (Option.none : Option Jvm.ClassFile.FieldType)) ∈ lw_all := lw_g (lw_at lw_m8 234 rfl) rfl
theorem q1980 : (Jvm.Cond.methodLink "SlideParkModel" (42 : Nat) ({ cls := "java/lang/System", name := "arraycopy", desc := "(Ljava/lang/Object;ILjava/lang/Object;II)V" } : Jvm.MethodName)) ∈ lw_all := lw_g (lw_at lw_m8 235 rfl) rfl
theorem q1981 : (Jvm.Cond.methodLink "SlideParkModel" (80 : Nat) ({ cls := "SlideParkModel", name := "doBuildSlide", desc := "(II)I" } : Jvm.MethodName)) ∈ lw_all := lw_g (lw_at lw_m8 236 rfl) rfl
theorem q1982 : (Jvm.Cond.privateMethod ({ cls := "SlideParkModel", name := "doBuildSlide", desc := "(II)I" } : Jvm.MethodName)) ∈ lw_tbl := lw_at lw_m8 237 rfl
theorem q1983 : (Jvm.Cond.instanceMethod ({ cls := "SlideParkModel", name := "doBuildSlide", desc := "(II)I" } : Jvm.MethodName)) ∈ lw_all := lw_g (lw_at lw_m8 238 rfl) rfl
theorem q1984 : (Jvm.Cond.code ({ cls := "SlideParkModel", name := "doBuildSlide", desc := "(II)I" } : Jvm.MethodName) prog_14_method_19_code (5 : Nat) (Option.some Jvm.ClassFile.FieldType.int)) ∈ lw_all := lw_g (lw_at lw_m8 239 rfl) rfl
theorem q1985 : (Jvm.Cond.methodLink "SlideParkModel" (51 : Nat) ({ cls := "SlideParkModel", name := "in", desc := "(III)Z" } : Jvm.MethodName)) ∈ lw_all := lw_g (lw_at lw_m9 0 rfl) rfl
theorem q1986 : (Jvm.Cond.static ({ cls := "SlideParkModel", name := "in", desc := "(III)Z" } : Jvm.MethodName)) ∈ lw_all := lw_g (lw_at lw_m9 1 rfl) rfl
theorem q1987 : (Jvm.Cond.code ({ cls := "SlideParkModel", name := "in", desc := "(III)Z" } : Jvm.MethodName) prog_14_method_3_code (3 : Nat) (Option.some Jvm.ClassFile.FieldType.boolean)) ∈ lw_all := lw_g (lw_at lw_m9 2 rfl) rfl
theorem q1988 : (Jvm.Cond.methodLink "SlideParkModel" (74 : Nat) ({ cls := "SlideParkModel", name := "fails", desc := "(I)I" } : Jvm.MethodName)) ∈ lw_all := lw_g (lw_at lw_m9 3 rfl) rfl
theorem q1989 : (Jvm.Cond.privateMethod ({ cls := "SlideParkModel", name := "fails", desc := "(I)I" } : Jvm.MethodName)) ∈ lw_tbl := lw_at lw_m9 4 rfl
theorem q1990 : (Jvm.Cond.instanceMethod ({ cls := "SlideParkModel", name := "fails", desc := "(I)I" } : Jvm.MethodName)) ∈ lw_all := lw_g (lw_at lw_m9 5 rfl) rfl
theorem q1991 : (Jvm.Cond.code ({ cls := "SlideParkModel", name := "fails", desc := "(I)I" } : Jvm.MethodName) prog_14_method_6_code (2 : Nat) (Option.some Jvm.ClassFile.FieldType.int)) ∈ lw_all := lw_g (lw_at lw_m9 6 rfl) rfl
theorem q1992 : (Jvm.Cond.methodLink "SlideParkModel" (83 : Nat) ({ cls := "SlideParkModel", name := "ends", desc := "(I)I" } : Jvm.MethodName)) ∈ lw_all := lw_g (lw_at lw_m9 7 rfl) rfl
theorem q1993 : (Jvm.Cond.privateMethod ({ cls := "SlideParkModel", name := "ends", desc := "(I)I" } : Jvm.MethodName)) ∈ lw_tbl := lw_at lw_m9 8 rfl
theorem q1994 : (Jvm.Cond.instanceMethod ({ cls := "SlideParkModel", name := "ends", desc := "(I)I" } : Jvm.MethodName)) ∈ lw_all := lw_g (lw_at lw_m9 9 rfl) rfl
theorem q1995 : (Jvm.Cond.code ({ cls := "SlideParkModel", name := "ends", desc := "(I)I" } : Jvm.MethodName) prog_14_method_5_code (2 : Nat) (Option.some Jvm.ClassFile.FieldType.int)) ∈ lw_all := lw_g (lw_at lw_m9 10 rfl) rfl
theorem q1997 : (Jvm.Cond.instanceMethod ({ cls := "SlideParkModel", name := "addGuest", desc := "()I" } : Jvm.MethodName)) ∈ lw_all := lw_g (lw_at lw_m9 12 rfl) rfl
theorem q1998 : (Jvm.Cond.selects "SlideParkModel" ({ cls := "SlideParkModel", name := "addGuest", desc := "()I" } : Jvm.MethodName) ({ cls := "SlideParkModel", name := "addGuest", desc := "()I" } : Jvm.MethodName)) ∈ lw_all := lw_g (lw_at lw_m9 13 rfl) rfl
theorem q1999 : (Jvm.Cond.code ({ cls := "SlideParkModel", name := "addGuest", desc := "()I" } : Jvm.MethodName) prog_14_method_22_code (1 : Nat) (Option.some Jvm.ClassFile.FieldType.int)) ∈ lw_all := lw_g (lw_at lw_m9 14 rfl) rfl
theorem q2000 : (Jvm.Cond.methodLink "SlideParkModel" (86 : Nat) ({ cls := "SlideParkModel", name := "doAddGuest", desc := "()I" } : Jvm.MethodName)) ∈ lw_all := lw_g (lw_at lw_m9 15 rfl) rfl
theorem q2001 : (Jvm.Cond.privateMethod ({ cls := "SlideParkModel", name := "doAddGuest", desc := "()I" } : Jvm.MethodName)) ∈ lw_tbl := lw_at lw_m9 16 rfl
theorem q2002 : (Jvm.Cond.instanceMethod ({ cls := "SlideParkModel", name := "doAddGuest", desc := "()I" } : Jvm.MethodName)) ∈ lw_all := lw_g (lw_at lw_m9 17 rfl) rfl
theorem q2003 : (Jvm.Cond.code ({ cls := "SlideParkModel", name := "doAddGuest", desc := "()I" } : Jvm.MethodName) prog_14_method_21_code (2 : Nat) (Option.some Jvm.ClassFile.FieldType.int)) ∈ lw_all := lw_g (lw_at lw_m9 18 rfl) rfl
theorem q2005 : (Jvm.Cond.instanceMethod ({ cls := "SlideParkModel", name := "book", desc := "(III)I" } : Jvm.MethodName)) ∈ lw_all := lw_g (lw_at lw_m9 20 rfl) rfl
theorem q2006 : (Jvm.Cond.selects "SlideParkModel" ({ cls := "SlideParkModel", name := "book", desc := "(III)I" } : Jvm.MethodName) ({ cls := "SlideParkModel", name := "book", desc := "(III)I" } : Jvm.MethodName)) ∈ lw_all := lw_g (lw_at lw_m9 21 rfl) rfl
theorem q2007 : (Jvm.Cond.code ({ cls := "SlideParkModel", name := "book", desc := "(III)I" } : Jvm.MethodName) prog_14_method_26_code (4 : Nat) (Option.some Jvm.ClassFile.FieldType.int)) ∈ lw_all := lw_g (lw_at lw_m9 22 rfl) rfl
theorem q2008 : (Jvm.Cond.methodLink "SlideParkModel" (117 : Nat) ({ cls := "SlideParkModel", name := "doBook", desc := "(III)I" } : Jvm.MethodName)) ∈ lw_all := lw_g (lw_at lw_m9 23 rfl) rfl
theorem q2009 : (Jvm.Cond.privateMethod ({ cls := "SlideParkModel", name := "doBook", desc := "(III)I" } : Jvm.MethodName)) ∈ lw_tbl := lw_at lw_m9 24 rfl
theorem q2010 : (Jvm.Cond.instanceMethod ({ cls := "SlideParkModel", name := "doBook", desc := "(III)I" } : Jvm.MethodName)) ∈ lw_all := lw_g (lw_at lw_m9 25 rfl) rfl
theorem q2011 : (Jvm.Cond.code ({ cls := "SlideParkModel", name := "doBook", desc := "(III)I" } : Jvm.MethodName) prog_14_method_25_code (4 : Nat) (Option.some Jvm.ClassFile.FieldType.int)) ∈ lw_all := lw_g (lw_at lw_m9 26 rfl) rfl
theorem q2012 : (Jvm.Cond.methodLink "SlideParkModel" (97 : Nat) ({ cls := "SlideParkModel", name := "isGuest", desc := "(I)Z" } : Jvm.MethodName)) ∈ lw_all := lw_g (lw_at lw_m9 27 rfl) rfl
theorem q2013 : (Jvm.Cond.privateMethod ({ cls := "SlideParkModel", name := "isGuest", desc := "(I)Z" } : Jvm.MethodName)) ∈ lw_tbl := lw_at lw_m9 28 rfl
theorem q2014 : (Jvm.Cond.instanceMethod ({ cls := "SlideParkModel", name := "isGuest", desc := "(I)Z" } : Jvm.MethodName)) ∈ lw_all := lw_g (lw_at lw_m9 29 rfl) rfl
theorem q2015 : (Jvm.Cond.code ({ cls := "SlideParkModel", name := "isGuest", desc := "(I)Z" } : Jvm.MethodName) prog_14_method_9_code (2 : Nat) (Option.some Jvm.ClassFile.FieldType.boolean)) ∈ lw_all := lw_g (lw_at lw_m9 30 rfl) rfl
theorem q2016 : (Jvm.Cond.methodLink "SlideParkModel" (101 : Nat) ({ cls := "SlideParkModel", name := "isSlide", desc := "(I)Z" } : Jvm.MethodName)) ∈ lw_all := lw_g (lw_at lw_m9 31 rfl) rfl
theorem q2017 : (Jvm.Cond.privateMethod ({ cls := "SlideParkModel", name := "isSlide", desc := "(I)Z" } : Jvm.MethodName)) ∈ lw_tbl := lw_at lw_m9 32 rfl
theorem q2018 : (Jvm.Cond.instanceMethod ({ cls := "SlideParkModel", name := "isSlide", desc := "(I)Z" } : Jvm.MethodName)) ∈ lw_all := lw_g (lw_at lw_m9 33 rfl) rfl
theorem q2019 : (Jvm.Cond.code ({ cls := "SlideParkModel", name := "isSlide", desc := "(I)Z" } : Jvm.MethodName) prog_14_method_8_code (2 : Nat) (Option.some Jvm.ClassFile.FieldType.boolean)) ∈ lw_all := lw_g (lw_at lw_m9 34 rfl) rfl
theorem q2020 : (Jvm.Cond.methodLink "SlideParkModel" (104 : Nat) ({ cls := "SlideParkModel", name := "isStart", desc := "(I)Z" } : Jvm.MethodName)) ∈ lw_all := lw_g (lw_at lw_m9 35 rfl) rfl
theorem q2021 : (Jvm.Cond.privateMethod ({ cls := "SlideParkModel", name := "isStart", desc := "(I)Z" } : Jvm.MethodName)) ∈ lw_tbl := lw_at lw_m9 36 rfl
theorem q2022 : (Jvm.Cond.instanceMethod ({ cls := "SlideParkModel", name := "isStart", desc := "(I)Z" } : Jvm.MethodName)) ∈ lw_all := lw_g (lw_at lw_m9 37 rfl) rfl
theorem q2023 : (Jvm.Cond.code ({ cls := "SlideParkModel", name := "isStart", desc := "(I)Z" } : Jvm.MethodName) prog_14_method_17_code (2 : Nat) (Option.some Jvm.ClassFile.FieldType.boolean)) ∈ lw_all := lw_g (lw_at lw_m9 38 rfl) rfl
theorem q2024 : (Jvm.Cond.methodLink "SlideParkModel" (107 : Nat) ({ cls := "SlideParkModel", name := "guest", desc := "(II)I" } : Jvm.MethodName)) ∈ lw_all := lw_g (lw_at lw_m9 39 rfl) rfl
theorem q2025 : (Jvm.Cond.privateMethod ({ cls := "SlideParkModel", name := "guest", desc := "(II)I" } : Jvm.MethodName)) ∈ lw_tbl := lw_at lw_m9 40 rfl
theorem q2026 : (Jvm.Cond.instanceMethod ({ cls := "SlideParkModel", name := "guest", desc := "(II)I" } : Jvm.MethodName)) ∈ lw_all := lw_g (lw_at lw_m9 41 rfl) rfl
theorem q2027 : (Jvm.Cond.code ({ cls := "SlideParkModel", name := "guest", desc := "(II)I" } : Jvm.MethodName) prog_14_method_13_code (3 : Nat) (Option.some Jvm.ClassFile.FieldType.int)) ∈ lw_all := lw_g (lw_at lw_m9 42 rfl) rfl
theorem q2028 : (Jvm.Cond.methodLink "SlideParkModel" (71 : Nat) ({ cls := "SlideParkModel", name := "slide", desc := "(II)I" } : Jvm.MethodName)) ∈ lw_all := lw_g (lw_at lw_m9 43 rfl) rfl
theorem q2029 : (Jvm.Cond.privateMethod ({ cls := "SlideParkModel", name := "slide", desc := "(II)I" } : Jvm.MethodName)) ∈ lw_tbl := lw_at lw_m9 44 rfl
theorem q2030 : (Jvm.Cond.instanceMethod ({ cls := "SlideParkModel", name := "slide", desc := "(II)I" } : Jvm.MethodName)) ∈ lw_all := lw_g (lw_at lw_m9 45 rfl) rfl
theorem q2031 : (Jvm.Cond.code ({ cls := "SlideParkModel", name := "slide", desc := "(II)I" } : Jvm.MethodName) prog_14_method_11_code (3 : Nat) (Option.some Jvm.ClassFile.FieldType.int)) ∈ lw_all := lw_g (lw_at lw_m9 46 rfl) rfl
theorem q2032 : (Jvm.Cond.methodLink "SlideParkModel" (110 : Nat) ({ cls := "SlideParkModel", name := "clashes", desc := "(III)Z" } : Jvm.MethodName)) ∈ lw_all := lw_g (lw_at lw_m9 47 rfl) rfl
theorem q2033 : (Jvm.Cond.privateMethod ({ cls := "SlideParkModel", name := "clashes", desc := "(III)Z" } : Jvm.MethodName)) ∈ lw_tbl := lw_at lw_m9 48 rfl
theorem q2034 : (Jvm.Cond.instanceMethod ({ cls := "SlideParkModel", name := "clashes", desc := "(III)Z" } : Jvm.MethodName)) ∈ lw_all := lw_g (lw_at lw_m9 49 rfl) rfl
theorem q2035 : (Jvm.Cond.code ({ cls := "SlideParkModel", name := "clashes", desc := "(III)Z" } : Jvm.MethodName) prog_14_method_23_code (8 : Nat) (Option.some Jvm.ClassFile.FieldType.boolean)) ∈ lw_all := lw_g (lw_at lw_m9 50 rfl) rfl
theorem q2036 : (Jvm.Cond.methodLink "SlideParkModel" (64 : Nat) ({ cls := "SlideParkModel", name := "booking", desc := "(II)I" } : Jvm.MethodName)) ∈ lw_all := lw_g (lw_at lw_m9 51 rfl) rfl
theorem q2037 : (Jvm.Cond.privateMethod ({ cls := "SlideParkModel", name := "booking", desc := "(II)I" } : Jvm.MethodName)) ∈ lw_tbl := lw_at lw_m9 52 rfl
theorem q2038 : (Jvm.Cond.instanceMethod ({ cls := "SlideParkModel", name := "booking", desc := "(II)I" } : Jvm.MethodName)) ∈ lw_all := lw_g (lw_at lw_m9 53 rfl) rfl
theorem q2039 : (Jvm.Cond.code ({ cls := "SlideParkModel", name := "booking", desc := "(II)I" } : Jvm.MethodName) prog_14_method_14_code (3 : Nat) (Option.some Jvm.ClassFile.FieldType.int)) ∈ lw_all := lw_g (lw_at lw_m9 54 rfl) rfl
theorem q2040 : (Jvm.Cond.methodLink "SlideParkModel" (67 : Nat) ({ cls := "SlideParkModel", name := "startOf", desc := "(I)I" } : Jvm.MethodName)) ∈ lw_all := lw_g (lw_at lw_m9 55 rfl) rfl
theorem q2041 : (Jvm.Cond.privateMethod ({ cls := "SlideParkModel", name := "startOf", desc := "(I)I" } : Jvm.MethodName)) ∈ lw_tbl := lw_at lw_m9 56 rfl
theorem q2042 : (Jvm.Cond.instanceMethod ({ cls := "SlideParkModel", name := "startOf", desc := "(I)I" } : Jvm.MethodName)) ∈ lw_all := lw_g (lw_at lw_m9 57 rfl) rfl
theorem q2043 : (Jvm.Cond.code ({ cls := "SlideParkModel", name := "startOf", desc := "(I)I" } : Jvm.MethodName) prog_14_method_15_code (2 : Nat) (Option.some Jvm.ClassFile.FieldType.int)) ∈ lw_all := lw_g (lw_at lw_m9 58 rfl) rfl
theorem q2044 : (Jvm.Cond.methodLink "SlideParkModel" (90 : Nat) ({ cls := "SlideParkModel", name := "endOf", desc := "(I)I" } : Jvm.MethodName)) ∈ lw_all := lw_g (lw_at lw_m9 59 rfl) rfl
theorem q2045 : (Jvm.Cond.privateMethod ({ cls := "SlideParkModel", name := "endOf", desc := "(I)I" } : Jvm.MethodName)) ∈ lw_tbl := lw_at lw_m9 60 rfl
theorem q2046 : (Jvm.Cond.instanceMethod ({ cls := "SlideParkModel", name := "endOf", desc := "(I)I" } : Jvm.MethodName)) ∈ lw_all := lw_g (lw_at lw_m9 61 rfl) rfl
theorem q2047 : (Jvm.Cond.code ({ cls := "SlideParkModel", name := "endOf", desc := "(I)I" } : Jvm.MethodName) prog_14_method_16_code (2 : Nat) (Option.some Jvm.ClassFile.FieldType.int)) ∈ lw_all := lw_g (lw_at lw_m9 62 rfl) rfl
theorem q2048 : (Jvm.Cond.methodLink "SlideParkModel" (113 : Nat) ({ cls := "SlideParkModel", name := "makes", desc := "(III)I" } : Jvm.MethodName)) ∈ lw_all := lw_g (lw_at lw_m9 63 rfl) rfl
theorem q2049 : (Jvm.Cond.privateMethod ({ cls := "SlideParkModel", name := "makes", desc := "(III)I" } : Jvm.MethodName)) ∈ lw_tbl := lw_at lw_m9 64 rfl
theorem q2050 : (Jvm.Cond.instanceMethod ({ cls := "SlideParkModel", name := "makes", desc := "(III)I" } : Jvm.MethodName)) ∈ lw_all := lw_g (lw_at lw_m9 65 rfl) rfl
theorem q2051 : (Jvm.Cond.code ({ cls := "SlideParkModel", name := "makes", desc := "(III)I" } : Jvm.MethodName) prog_14_method_24_code (5 : Nat) (Option.some Jvm.ClassFile.FieldType.int)) ∈ lw_all := lw_g (lw_at lw_m9 66 rfl) rfl
theorem q2052 : (Jvm.Cond.methodLink "SlideParkModel" (93 : Nat) ({ cls := "SlideParkModel", name := "pays", desc := "(II)V" } : Jvm.MethodName)) ∈ lw_all := lw_g (lw_at lw_m9 67 rfl) rfl
theorem q2053 : (Jvm.Cond.privateMethod ({ cls := "SlideParkModel", name := "pays", desc := "(II)V" } : Jvm.MethodName)) ∈ lw_tbl := lw_at lw_m9 68 rfl
theorem q2054 : (Jvm.Cond.instanceMethod ({ cls := "SlideParkModel", name := "pays", desc := "(II)V" } : Jvm.MethodName)) ∈ lw_all := lw_g (lw_at lw_m9 69 rfl) rfl
theorem q2055 : (Jvm.Cond.code ({ cls := "SlideParkModel", name := "pays", desc := "(II)V" } : Jvm.MethodName) prog_14_method_18_code (3 : Nat) (Option.none : Option Jvm.ClassFile.FieldType)) ∈ lw_all := lw_g (lw_at lw_m9 70 rfl) rfl
theorem q2057 : (Jvm.Cond.instanceMethod ({ cls := "SlideParkModel", name := "cancel", desc := "(I)I" } : Jvm.MethodName)) ∈ lw_all := lw_g (lw_at lw_m9 72 rfl) rfl
theorem q2058 : (Jvm.Cond.selects "SlideParkModel" ({ cls := "SlideParkModel", name := "cancel", desc := "(I)I" } : Jvm.MethodName) ({ cls := "SlideParkModel", name := "cancel", desc := "(I)I" } : Jvm.MethodName)) ∈ lw_all := lw_g (lw_at lw_m9 73 rfl) rfl
theorem q2059 : (Jvm.Cond.code ({ cls := "SlideParkModel", name := "cancel", desc := "(I)I" } : Jvm.MethodName) prog_14_method_29_code (2 : Nat) (Option.some Jvm.ClassFile.FieldType.int)) ∈ lw_all := lw_g (lw_at lw_m9 74 rfl) rfl
theorem q2060 : (Jvm.Cond.methodLink "SlideParkModel" (127 : Nat) ({ cls := "SlideParkModel", name := "doCancel", desc := "(I)I" } : Jvm.MethodName)) ∈ lw_all := lw_g (lw_at lw_m9 75 rfl) rfl
theorem q2061 : (Jvm.Cond.privateMethod ({ cls := "SlideParkModel", name := "doCancel", desc := "(I)I" } : Jvm.MethodName)) ∈ lw_tbl := lw_at lw_m9 76 rfl
theorem q2062 : (Jvm.Cond.instanceMethod ({ cls := "SlideParkModel", name := "doCancel", desc := "(I)I" } : Jvm.MethodName)) ∈ lw_all := lw_g (lw_at lw_m9 77 rfl) rfl
theorem q2063 : (Jvm.Cond.code ({ cls := "SlideParkModel", name := "doCancel", desc := "(I)I" } : Jvm.MethodName) prog_14_method_28_code (4 : Nat) (Option.some Jvm.ClassFile.FieldType.int)) ∈ lw_all := lw_g (lw_at lw_m9 78 rfl) rfl
theorem q2064 : (Jvm.Cond.methodLink "SlideParkModel" (120 : Nat) ({ cls := "SlideParkModel", name := "isBooking", desc := "(I)Z" } : Jvm.MethodName)) ∈ lw_all := lw_g (lw_at lw_m9 79 rfl) rfl
theorem q2065 : (Jvm.Cond.privateMethod ({ cls := "SlideParkModel", name := "isBooking", desc := "(I)Z" } : Jvm.MethodName)) ∈ lw_tbl := lw_at lw_m9 80 rfl
theorem q2066 : (Jvm.Cond.instanceMethod ({ cls := "SlideParkModel", name := "isBooking", desc := "(I)Z" } : Jvm.MethodName)) ∈ lw_all := lw_g (lw_at lw_m9 81 rfl) rfl
theorem q2067 : (Jvm.Cond.code ({ cls := "SlideParkModel", name := "isBooking", desc := "(I)Z" } : Jvm.MethodName) prog_14_method_10_code (2 : Nat) (Option.some Jvm.ClassFile.FieldType.boolean)) ∈ lw_all := lw_g (lw_at lw_m9 82 rfl) rfl
theorem q2068 : (Jvm.Cond.methodLink "SlideParkModel" (123 : Nat) ({ cls := "SlideParkModel", name := "drops", desc := "(I)V" } : Jvm.MethodName)) ∈ lw_all := lw_g (lw_at lw_m9 83 rfl) rfl
theorem q2069 : (Jvm.Cond.privateMethod ({ cls := "SlideParkModel", name := "drops", desc := "(I)V" } : Jvm.MethodName)) ∈ lw_tbl := lw_at lw_m9 84 rfl
theorem q2070 : (Jvm.Cond.instanceMethod ({ cls := "SlideParkModel", name := "drops", desc := "(I)V" } : Jvm.MethodName)) ∈ lw_all := lw_g (lw_at lw_m9 85 rfl) rfl
theorem q2071 : (Jvm.Cond.code ({ cls := "SlideParkModel", name := "drops", desc := "(I)V" } : Jvm.MethodName) prog_14_method_27_code (3 : Nat) (Option.none : Option Jvm.ClassFile.FieldType)) ∈ lw_all := lw_g (lw_at lw_m9 86 rfl) rfl
theorem q2073 : (Jvm.Cond.instanceMethod ({ cls := "SlideParkModel", name := "joinQueue", desc := "(II)I" } : Jvm.MethodName)) ∈ lw_all := lw_g (lw_at lw_m9 88 rfl) rfl
theorem q2074 : (Jvm.Cond.selects "SlideParkModel" ({ cls := "SlideParkModel", name := "joinQueue", desc := "(II)I" } : Jvm.MethodName) ({ cls := "SlideParkModel", name := "joinQueue", desc := "(II)I" } : Jvm.MethodName)) ∈ lw_all := lw_g (lw_at lw_m9 89 rfl) rfl
theorem q2075 : (Jvm.Cond.code ({ cls := "SlideParkModel", name := "joinQueue", desc := "(II)I" } : Jvm.MethodName) prog_14_method_32_code (3 : Nat) (Option.some Jvm.ClassFile.FieldType.int)) ∈ lw_all := lw_g (lw_at lw_m9 90 rfl) rfl
theorem q2076 : (Jvm.Cond.methodLink "SlideParkModel" (130 : Nat) ({ cls := "SlideParkModel", name := "doJoin", desc := "(II)I" } : Jvm.MethodName)) ∈ lw_all := lw_g (lw_at lw_m9 91 rfl) rfl
theorem q2077 : (Jvm.Cond.privateMethod ({ cls := "SlideParkModel", name := "doJoin", desc := "(II)I" } : Jvm.MethodName)) ∈ lw_tbl := lw_at lw_m9 92 rfl
theorem q2078 : (Jvm.Cond.instanceMethod ({ cls := "SlideParkModel", name := "doJoin", desc := "(II)I" } : Jvm.MethodName)) ∈ lw_all := lw_g (lw_at lw_m9 93 rfl) rfl
theorem q2079 : (Jvm.Cond.code ({ cls := "SlideParkModel", name := "doJoin", desc := "(II)I" } : Jvm.MethodName) prog_14_method_31_code (5 : Nat) (Option.some Jvm.ClassFile.FieldType.int)) ∈ lw_all := lw_g (lw_at lw_m9 94 rfl) rfl
theorem q2081 : (Jvm.Cond.instanceMethod ({ cls := "SlideParkModel", name := "leaveQueue", desc := "(I)I" } : Jvm.MethodName)) ∈ lw_all := lw_g (lw_at lw_m9 96 rfl) rfl
theorem q2082 : (Jvm.Cond.selects "SlideParkModel" ({ cls := "SlideParkModel", name := "leaveQueue", desc := "(I)I" } : Jvm.MethodName) ({ cls := "SlideParkModel", name := "leaveQueue", desc := "(I)I" } : Jvm.MethodName)) ∈ lw_all := lw_g (lw_at lw_m9 97 rfl) rfl
theorem q2083 : (Jvm.Cond.code ({ cls := "SlideParkModel", name := "leaveQueue", desc := "(I)I" } : Jvm.MethodName) prog_14_method_34_code (2 : Nat) (Option.some Jvm.ClassFile.FieldType.int)) ∈ lw_all := lw_g (lw_at lw_m9 98 rfl) rfl
theorem q2084 : (Jvm.Cond.methodLink "SlideParkModel" (133 : Nat) ({ cls := "SlideParkModel", name := "doLeave", desc := "(I)I" } : Jvm.MethodName)) ∈ lw_all := lw_g (lw_at lw_m9 99 rfl) rfl
theorem q2085 : (Jvm.Cond.privateMethod ({ cls := "SlideParkModel", name := "doLeave", desc := "(I)I" } : Jvm.MethodName)) ∈ lw_tbl := lw_at lw_m9 100 rfl
theorem q2086 : (Jvm.Cond.instanceMethod ({ cls := "SlideParkModel", name := "doLeave", desc := "(I)I" } : Jvm.MethodName)) ∈ lw_all := lw_g (lw_at lw_m9 101 rfl) rfl
theorem q2087 : (Jvm.Cond.code ({ cls := "SlideParkModel", name := "doLeave", desc := "(I)I" } : Jvm.MethodName) prog_14_method_33_code (6 : Nat) (Option.some Jvm.ClassFile.FieldType.int)) ∈ lw_all := lw_g (lw_at lw_m9 102 rfl) rfl
theorem q2089 : (Jvm.Cond.instanceMethod ({ cls := "SlideParkModel", name := "passMinutes", desc := "(I)I" } : Jvm.MethodName)) ∈ lw_all := lw_g (lw_at lw_m9 104 rfl) rfl
theorem q2090 : (Jvm.Cond.selects "SlideParkModel" ({ cls := "SlideParkModel", name := "passMinutes", desc := "(I)I" } : Jvm.MethodName) ({ cls := "SlideParkModel", name := "passMinutes", desc := "(I)I" } : Jvm.MethodName)) ∈ lw_all := lw_g (lw_at lw_m9 105 rfl) rfl
theorem q2091 : (Jvm.Cond.code ({ cls := "SlideParkModel", name := "passMinutes", desc := "(I)I" } : Jvm.MethodName) prog_14_method_40_code (2 : Nat) (Option.some Jvm.ClassFile.FieldType.int)) ∈ lw_all := lw_g (lw_at lw_m9 106 rfl) rfl
theorem q2092 : (Jvm.Cond.methodLink "SlideParkModel" (154 : Nat) ({ cls := "SlideParkModel", name := "doPass", desc := "(I)I" } : Jvm.MethodName)) ∈ lw_all := lw_g (lw_at lw_m9 107 rfl) rfl
theorem q2093 : (Jvm.Cond.privateMethod ({ cls := "SlideParkModel", name := "doPass", desc := "(I)I" } : Jvm.MethodName)) ∈ lw_tbl := lw_at lw_m9 108 rfl
theorem q2094 : (Jvm.Cond.instanceMethod ({ cls := "SlideParkModel", name := "doPass", desc := "(I)I" } : Jvm.MethodName)) ∈ lw_all := lw_g (lw_at lw_m9 109 rfl) rfl
theorem q2095 : (Jvm.Cond.code ({ cls := "SlideParkModel", name := "doPass", desc := "(I)I" } : Jvm.MethodName) prog_14_method_39_code (4 : Nat) (Option.some Jvm.ClassFile.FieldType.int)) ∈ lw_all := lw_g (lw_at lw_m9 110 rfl) rfl
theorem q2096 : (Jvm.Cond.methodLink "SlideParkModel" (151 : Nat) ({ cls := "SlideParkModel", name := "passesOne", desc := "()I" } : Jvm.MethodName)) ∈ lw_all := lw_g (lw_at lw_m9 111 rfl) rfl
theorem q2097 : (Jvm.Cond.privateMethod ({ cls := "SlideParkModel", name := "passesOne", desc := "()I" } : Jvm.MethodName)) ∈ lw_tbl := lw_at lw_m9 112 rfl
theorem q2098 : (Jvm.Cond.instanceMethod ({ cls := "SlideParkModel", name := "passesOne", desc := "()I" } : Jvm.MethodName)) ∈ lw_all := lw_g (lw_at lw_m9 113 rfl) rfl
theorem q2099 : (Jvm.Cond.code ({ cls := "SlideParkModel", name := "passesOne", desc := "()I" } : Jvm.MethodName) prog_14_method_38_code (4 : Nat) (Option.some Jvm.ClassFile.FieldType.int)) ∈ lw_all := lw_g (lw_at lw_m9 114 rfl) rfl
theorem q2100 : (Jvm.Cond.methodLink "SlideParkModel" (142 : Nat) ({ cls := "SlideParkModel", name := "calls", desc := "(I)V" } : Jvm.MethodName)) ∈ lw_all := lw_g (lw_at lw_m9 115 rfl) rfl
theorem q2101 : (Jvm.Cond.privateMethod ({ cls := "SlideParkModel", name := "calls", desc := "(I)V" } : Jvm.MethodName)) ∈ lw_tbl := lw_at lw_m9 116 rfl
theorem q2102 : (Jvm.Cond.instanceMethod ({ cls := "SlideParkModel", name := "calls", desc := "(I)V" } : Jvm.MethodName)) ∈ lw_all := lw_g (lw_at lw_m9 117 rfl) rfl
theorem q2103 : (Jvm.Cond.code ({ cls := "SlideParkModel", name := "calls", desc := "(I)V" } : Jvm.MethodName) prog_14_method_35_code (6 : Nat) (Option.none : Option Jvm.ClassFile.FieldType)) ∈ lw_all := lw_g (lw_at lw_m9 118 rfl) rfl
theorem q2104 : (Jvm.Cond.methodLink "SlideParkModel" (136 : Nat) ({ cls := "SlideParkModel", name := "queued", desc := "(II)I" } : Jvm.MethodName)) ∈ lw_all := lw_g (lw_at lw_m9 119 rfl) rfl
theorem q2105 : (Jvm.Cond.privateMethod ({ cls := "SlideParkModel", name := "queued", desc := "(II)I" } : Jvm.MethodName)) ∈ lw_tbl := lw_at lw_m9 120 rfl
theorem q2106 : (Jvm.Cond.instanceMethod ({ cls := "SlideParkModel", name := "queued", desc := "(II)I" } : Jvm.MethodName)) ∈ lw_all := lw_g (lw_at lw_m9 121 rfl) rfl
theorem q2107 : (Jvm.Cond.code ({ cls := "SlideParkModel", name := "queued", desc := "(II)I" } : Jvm.MethodName) prog_14_method_30_code (3 : Nat) (Option.some Jvm.ClassFile.FieldType.int)) ∈ lw_all := lw_g (lw_at lw_m9 122 rfl) rfl
theorem q2108 : (Jvm.Cond.methodLink "SlideParkModel" (145 : Nat) ({ cls := "SlideParkModel", name := "during", desc := "(II)I" } : Jvm.MethodName)) ∈ lw_all := lw_g (lw_at lw_m9 123 rfl) rfl
theorem q2109 : (Jvm.Cond.privateMethod ({ cls := "SlideParkModel", name := "during", desc := "(II)I" } : Jvm.MethodName)) ∈ lw_tbl := lw_at lw_m9 124 rfl
theorem q2110 : (Jvm.Cond.instanceMethod ({ cls := "SlideParkModel", name := "during", desc := "(II)I" } : Jvm.MethodName)) ∈ lw_all := lw_g (lw_at lw_m9 125 rfl) rfl
theorem q2111 : (Jvm.Cond.code ({ cls := "SlideParkModel", name := "during", desc := "(II)I" } : Jvm.MethodName) prog_14_method_36_code (5 : Nat) (Option.some Jvm.ClassFile.FieldType.int)) ∈ lw_all := lw_g (lw_at lw_m9 126 rfl) rfl
theorem q2112 : (Jvm.Cond.methodLink "SlideParkModel" (139 : Nat) ({ cls := "SlideParkModel", name := "wets", desc := "(II)V" } : Jvm.MethodName)) ∈ lw_all := lw_g (lw_at lw_m9 127 rfl) rfl
theorem q2113 : (Jvm.Cond.privateMethod ({ cls := "SlideParkModel", name := "wets", desc := "(II)V" } : Jvm.MethodName)) ∈ lw_tbl := lw_at lw_m9 128 rfl
theorem q2114 : (Jvm.Cond.instanceMethod ({ cls := "SlideParkModel", name := "wets", desc := "(II)V" } : Jvm.MethodName)) ∈ lw_all := lw_g (lw_at lw_m9 129 rfl) rfl
theorem q2115 : (Jvm.Cond.code ({ cls := "SlideParkModel", name := "wets", desc := "(II)V" } : Jvm.MethodName) prog_14_method_12_code (3 : Nat) (Option.none : Option Jvm.ClassFile.FieldType)) ∈ lw_all := lw_g (lw_at lw_m9 130 rfl) rfl
theorem q2116 : (Jvm.Cond.methodLink "SlideParkModel" (55 : Nat) ({ cls := "java/lang/Math", name := "min", desc := "(II)I" } : Jvm.MethodName)) ∈ lw_all := lw_g (lw_at lw_m9 131 rfl) rfl
theorem q2117 : (Jvm.Cond.methodLink "SlideParkModel" (61 : Nat) ({ cls := "java/lang/Math", name := "max", desc := "(II)I" } : Jvm.MethodName)) ∈ lw_all := lw_g (lw_at lw_m9 132 rfl) rfl
theorem q2118 : (Jvm.Cond.methodLink "SlideParkModel" (148 : Nat) ({ cls := "SlideParkModel", name := "finishes", desc := "(I)V" } : Jvm.MethodName)) ∈ lw_all := lw_g (lw_at lw_m9 133 rfl) rfl
theorem q2119 : (Jvm.Cond.privateMethod ({ cls := "SlideParkModel", name := "finishes", desc := "(I)V" } : Jvm.MethodName)) ∈ lw_tbl := lw_at lw_m9 134 rfl
theorem q2120 : (Jvm.Cond.instanceMethod ({ cls := "SlideParkModel", name := "finishes", desc := "(I)V" } : Jvm.MethodName)) ∈ lw_all := lw_g (lw_at lw_m9 135 rfl) rfl
theorem q2121 : (Jvm.Cond.code ({ cls := "SlideParkModel", name := "finishes", desc := "(I)V" } : Jvm.MethodName) prog_14_method_37_code (6 : Nat) (Option.none : Option Jvm.ClassFile.FieldType)) ∈ lw_all := lw_g (lw_at lw_m9 136 rfl) rfl
theorem q2123 : (Jvm.Cond.instanceMethod ({ cls := "SlideParkModel", name := "minute", desc := "()I" } : Jvm.MethodName)) ∈ lw_all := lw_g (lw_at lw_m9 138 rfl) rfl
theorem q2124 : (Jvm.Cond.selects "SlideParkModel" ({ cls := "SlideParkModel", name := "minute", desc := "()I" } : Jvm.MethodName) ({ cls := "SlideParkModel", name := "minute", desc := "()I" } : Jvm.MethodName)) ∈ lw_all := lw_g (lw_at lw_m9 139 rfl) rfl
theorem q2125 : (Jvm.Cond.code ({ cls := "SlideParkModel", name := "minute", desc := "()I" } : Jvm.MethodName) prog_14_method_41_code (1 : Nat) (Option.some Jvm.ClassFile.FieldType.int)) ∈ lw_all := lw_g (lw_at lw_m9 140 rfl) rfl
theorem q2127 : (Jvm.Cond.instanceMethod ({ cls := "SlideParkModel", name := "slideCount", desc := "()I" } : Jvm.MethodName)) ∈ lw_all := lw_g (lw_at lw_m9 142 rfl) rfl
theorem q2128 : (Jvm.Cond.selects "SlideParkModel" ({ cls := "SlideParkModel", name := "slideCount", desc := "()I" } : Jvm.MethodName) ({ cls := "SlideParkModel", name := "slideCount", desc := "()I" } : Jvm.MethodName)) ∈ lw_all := lw_g (lw_at lw_m9 143 rfl) rfl
theorem q2129 : (Jvm.Cond.code ({ cls := "SlideParkModel", name := "slideCount", desc := "()I" } : Jvm.MethodName) prog_14_method_42_code (1 : Nat) (Option.some Jvm.ClassFile.FieldType.int)) ∈ lw_all := lw_g (lw_at lw_m9 144 rfl) rfl
theorem q2131 : (Jvm.Cond.instanceMethod ({ cls := "SlideParkModel", name := "duration", desc := "(I)I" } : Jvm.MethodName)) ∈ lw_all := lw_g (lw_at lw_m9 146 rfl) rfl
theorem q2132 : (Jvm.Cond.selects "SlideParkModel" ({ cls := "SlideParkModel", name := "duration", desc := "(I)I" } : Jvm.MethodName) ({ cls := "SlideParkModel", name := "duration", desc := "(I)I" } : Jvm.MethodName)) ∈ lw_all := lw_g (lw_at lw_m9 147 rfl) rfl
theorem q2133 : (Jvm.Cond.code ({ cls := "SlideParkModel", name := "duration", desc := "(I)I" } : Jvm.MethodName) prog_14_method_43_code (2 : Nat) (Option.some Jvm.ClassFile.FieldType.int)) ∈ lw_all := lw_g (lw_at lw_m9 148 rfl) rfl
theorem q2134 : (Jvm.Cond.methodLink "SlideParkModel" (157 : Nat) ({ cls := "SlideParkModel", name := "isThere", desc := "(Z)Z" } : Jvm.MethodName)) ∈ lw_all := lw_g (lw_at lw_m9 149 rfl) rfl
theorem q2135 : (Jvm.Cond.privateMethod ({ cls := "SlideParkModel", name := "isThere", desc := "(Z)Z" } : Jvm.MethodName)) ∈ lw_tbl := lw_at lw_m9 150 rfl
theorem q2136 : (Jvm.Cond.instanceMethod ({ cls := "SlideParkModel", name := "isThere", desc := "(Z)Z" } : Jvm.MethodName)) ∈ lw_all := lw_g (lw_at lw_m9 151 rfl) rfl
theorem q2137 : (Jvm.Cond.code ({ cls := "SlideParkModel", name := "isThere", desc := "(Z)Z" } : Jvm.MethodName) prog_14_method_7_code (2 : Nat) (Option.some Jvm.ClassFile.FieldType.boolean)) ∈ lw_all := lw_g (lw_at lw_m9 152 rfl) rfl
theorem q2139 : (Jvm.Cond.instanceMethod ({ cls := "SlideParkModel", name := "price", desc := "(I)I" } : Jvm.MethodName)) ∈ lw_all := lw_g (lw_at lw_m9 154 rfl) rfl
theorem q2140 : (Jvm.Cond.selects "SlideParkModel" ({ cls := "SlideParkModel", name := "price", desc := "(I)I" } : Jvm.MethodName) ({ cls := "SlideParkModel", name := "price", desc := "(I)I" } : Jvm.MethodName)) ∈ lw_all := lw_g (lw_at lw_m9 155 rfl) rfl
theorem q2141 : (Jvm.Cond.code ({ cls := "SlideParkModel", name := "price", desc := "(I)I" } : Jvm.MethodName) prog_14_method_44_code (2 : Nat) (Option.some Jvm.ClassFile.FieldType.int)) ∈ lw_all := lw_g (lw_at lw_m9 156 rfl) rfl
theorem q2143 : (Jvm.Cond.instanceMethod ({ cls := "SlideParkModel", name := "wetness", desc := "(I)I" } : Jvm.MethodName)) ∈ lw_all := lw_g (lw_at lw_m9 158 rfl) rfl
theorem q2144 : (Jvm.Cond.selects "SlideParkModel" ({ cls := "SlideParkModel", name := "wetness", desc := "(I)I" } : Jvm.MethodName) ({ cls := "SlideParkModel", name := "wetness", desc := "(I)I" } : Jvm.MethodName)) ∈ lw_all := lw_g (lw_at lw_m9 159 rfl) rfl
theorem q2145 : (Jvm.Cond.code ({ cls := "SlideParkModel", name := "wetness", desc := "(I)I" } : Jvm.MethodName) prog_14_method_45_code (2 : Nat) (Option.some Jvm.ClassFile.FieldType.int)) ∈ lw_all := lw_g (lw_at lw_m9 160 rfl) rfl
theorem q2147 : (Jvm.Cond.instanceMethod ({ cls := "SlideParkModel", name := "rider", desc := "(I)I" } : Jvm.MethodName)) ∈ lw_all := lw_g (lw_at lw_m9 162 rfl) rfl
theorem q2148 : (Jvm.Cond.selects "SlideParkModel" ({ cls := "SlideParkModel", name := "rider", desc := "(I)I" } : Jvm.MethodName) ({ cls := "SlideParkModel", name := "rider", desc := "(I)I" } : Jvm.MethodName)) ∈ lw_all := lw_g (lw_at lw_m9 163 rfl) rfl
theorem q2149 : (Jvm.Cond.code ({ cls := "SlideParkModel", name := "rider", desc := "(I)I" } : Jvm.MethodName) prog_14_method_46_code (3 : Nat) (Option.some Jvm.ClassFile.FieldType.int)) ∈ lw_all := lw_g (lw_at lw_m9 164 rfl) rfl
theorem q2151 : (Jvm.Cond.instanceMethod ({ cls := "SlideParkModel", name := "guestCount", desc := "()I" } : Jvm.MethodName)) ∈ lw_all := lw_g (lw_at lw_m9 166 rfl) rfl
theorem q2152 : (Jvm.Cond.selects "SlideParkModel" ({ cls := "SlideParkModel", name := "guestCount", desc := "()I" } : Jvm.MethodName) ({ cls := "SlideParkModel", name := "guestCount", desc := "()I" } : Jvm.MethodName)) ∈ lw_all := lw_g (lw_at lw_m9 167 rfl) rfl
theorem q2153 : (Jvm.Cond.code ({ cls := "SlideParkModel", name := "guestCount", desc := "()I" } : Jvm.MethodName) prog_14_method_47_code (1 : Nat) (Option.some Jvm.ClassFile.FieldType.int)) ∈ lw_all := lw_g (lw_at lw_m9 168 rfl) rfl
theorem q2155 : (Jvm.Cond.instanceMethod ({ cls := "SlideParkModel", name := "coins", desc := "(I)I" } : Jvm.MethodName)) ∈ lw_all := lw_g (lw_at lw_m9 170 rfl) rfl
theorem q2156 : (Jvm.Cond.selects "SlideParkModel" ({ cls := "SlideParkModel", name := "coins", desc := "(I)I" } : Jvm.MethodName) ({ cls := "SlideParkModel", name := "coins", desc := "(I)I" } : Jvm.MethodName)) ∈ lw_all := lw_g (lw_at lw_m9 171 rfl) rfl
theorem q2157 : (Jvm.Cond.code ({ cls := "SlideParkModel", name := "coins", desc := "(I)I" } : Jvm.MethodName) prog_14_method_48_code (2 : Nat) (Option.some Jvm.ClassFile.FieldType.int)) ∈ lw_all := lw_g (lw_at lw_m9 172 rfl) rfl
theorem q2159 : (Jvm.Cond.instanceMethod ({ cls := "SlideParkModel", name := "queueOf", desc := "(I)I" } : Jvm.MethodName)) ∈ lw_all := lw_g (lw_at lw_m9 174 rfl) rfl
theorem q2160 : (Jvm.Cond.selects "SlideParkModel" ({ cls := "SlideParkModel", name := "queueOf", desc := "(I)I" } : Jvm.MethodName) ({ cls := "SlideParkModel", name := "queueOf", desc := "(I)I" } : Jvm.MethodName)) ∈ lw_all := lw_g (lw_at lw_m9 175 rfl) rfl
theorem q2161 : (Jvm.Cond.code ({ cls := "SlideParkModel", name := "queueOf", desc := "(I)I" } : Jvm.MethodName) prog_14_method_49_code (2 : Nat) (Option.some Jvm.ClassFile.FieldType.int)) ∈ lw_all := lw_g (lw_at lw_m9 176 rfl) rfl
theorem q2163 : (Jvm.Cond.instanceMethod ({ cls := "SlideParkModel", name := "queueLength", desc := "(I)I" } : Jvm.MethodName)) ∈ lw_all := lw_g (lw_at lw_m9 178 rfl) rfl
theorem q2164 : (Jvm.Cond.selects "SlideParkModel" ({ cls := "SlideParkModel", name := "queueLength", desc := "(I)I" } : Jvm.MethodName) ({ cls := "SlideParkModel", name := "queueLength", desc := "(I)I" } : Jvm.MethodName)) ∈ lw_all := lw_g (lw_at lw_m9 179 rfl) rfl
theorem q2165 : (Jvm.Cond.code ({ cls := "SlideParkModel", name := "queueLength", desc := "(I)I" } : Jvm.MethodName) prog_14_method_50_code (2 : Nat) (Option.some Jvm.ClassFile.FieldType.int)) ∈ lw_all := lw_g (lw_at lw_m9 180 rfl) rfl
theorem q2167 : (Jvm.Cond.instanceMethod ({ cls := "SlideParkModel", name := "queuedGuest", desc := "(II)I" } : Jvm.MethodName)) ∈ lw_all := lw_g (lw_at lw_m9 182 rfl) rfl
theorem q2168 : (Jvm.Cond.selects "SlideParkModel" ({ cls := "SlideParkModel", name := "queuedGuest", desc := "(II)I" } : Jvm.MethodName) ({ cls := "SlideParkModel", name := "queuedGuest", desc := "(II)I" } : Jvm.MethodName)) ∈ lw_all := lw_g (lw_at lw_m9 183 rfl) rfl
theorem q2169 : (Jvm.Cond.code ({ cls := "SlideParkModel", name := "queuedGuest", desc := "(II)I" } : Jvm.MethodName) prog_14_method_51_code (3 : Nat) (Option.some Jvm.ClassFile.FieldType.int)) ∈ lw_all := lw_g (lw_at lw_m9 184 rfl) rfl
theorem q2171 : (Jvm.Cond.instanceMethod ({ cls := "SlideParkModel", name := "bookingCount", desc := "()I" } : Jvm.MethodName)) ∈ lw_all := lw_g (lw_at lw_m9 186 rfl) rfl
theorem q2172 : (Jvm.Cond.selects "SlideParkModel" ({ cls := "SlideParkModel", name := "bookingCount", desc := "()I" } : Jvm.MethodName) ({ cls := "SlideParkModel", name := "bookingCount", desc := "()I" } : Jvm.MethodName)) ∈ lw_all := lw_g (lw_at lw_m9 187 rfl) rfl
theorem q2173 : (Jvm.Cond.code ({ cls := "SlideParkModel", name := "bookingCount", desc := "()I" } : Jvm.MethodName) prog_14_method_52_code (1 : Nat) (Option.some Jvm.ClassFile.FieldType.int)) ∈ lw_all := lw_g (lw_at lw_m9 188 rfl) rfl
theorem q2175 : (Jvm.Cond.instanceMethod ({ cls := "SlideParkModel", name := "bookedGuest", desc := "(I)I" } : Jvm.MethodName)) ∈ lw_all := lw_g (lw_at lw_m9 190 rfl) rfl
theorem q2176 : (Jvm.Cond.selects "SlideParkModel" ({ cls := "SlideParkModel", name := "bookedGuest", desc := "(I)I" } : Jvm.MethodName) ({ cls := "SlideParkModel", name := "bookedGuest", desc := "(I)I" } : Jvm.MethodName)) ∈ lw_all := lw_g (lw_at lw_m9 191 rfl) rfl
theorem q2177 : (Jvm.Cond.code ({ cls := "SlideParkModel", name := "bookedGuest", desc := "(I)I" } : Jvm.MethodName) prog_14_method_53_code (2 : Nat) (Option.some Jvm.ClassFile.FieldType.int)) ∈ lw_all := lw_g (lw_at lw_m9 192 rfl) rfl
theorem q2179 : (Jvm.Cond.instanceMethod ({ cls := "SlideParkModel", name := "bookedSlide", desc := "(I)I" } : Jvm.MethodName)) ∈ lw_all := lw_g (lw_at lw_m9 194 rfl) rfl
theorem q2180 : (Jvm.Cond.selects "SlideParkModel" ({ cls := "SlideParkModel", name := "bookedSlide", desc := "(I)I" } : Jvm.MethodName) ({ cls := "SlideParkModel", name := "bookedSlide", desc := "(I)I" } : Jvm.MethodName)) ∈ lw_all := lw_g (lw_at lw_m9 195 rfl) rfl
theorem q2181 : (Jvm.Cond.code ({ cls := "SlideParkModel", name := "bookedSlide", desc := "(I)I" } : Jvm.MethodName) prog_14_method_54_code (2 : Nat) (Option.some Jvm.ClassFile.FieldType.int)) ∈ lw_all := lw_g (lw_at lw_m9 196 rfl) rfl
theorem q2183 : (Jvm.Cond.instanceMethod ({ cls := "SlideParkModel", name := "start", desc := "(I)I" } : Jvm.MethodName)) ∈ lw_all := lw_g (lw_at lw_m9 198 rfl) rfl
theorem q2184 : (Jvm.Cond.selects "SlideParkModel" ({ cls := "SlideParkModel", name := "start", desc := "(I)I" } : Jvm.MethodName) ({ cls := "SlideParkModel", name := "start", desc := "(I)I" } : Jvm.MethodName)) ∈ lw_all := lw_g (lw_at lw_m9 199 rfl) rfl
theorem q2185 : (Jvm.Cond.code ({ cls := "SlideParkModel", name := "start", desc := "(I)I" } : Jvm.MethodName) prog_14_method_55_code (2 : Nat) (Option.some Jvm.ClassFile.FieldType.int)) ∈ lw_all := lw_g (lw_at lw_m9 200 rfl) rfl
theorem q2187 : (Jvm.Cond.instanceMethod ({ cls := "SlideParkModel", name := "hasStarted", desc := "(I)Z" } : Jvm.MethodName)) ∈ lw_all := lw_g (lw_at lw_m9 202 rfl) rfl
theorem q2188 : (Jvm.Cond.selects "SlideParkModel" ({ cls := "SlideParkModel", name := "hasStarted", desc := "(I)Z" } : Jvm.MethodName) ({ cls := "SlideParkModel", name := "hasStarted", desc := "(I)Z" } : Jvm.MethodName)) ∈ lw_all := lw_g (lw_at lw_m9 203 rfl) rfl
theorem q2189 : (Jvm.Cond.code ({ cls := "SlideParkModel", name := "hasStarted", desc := "(I)Z" } : Jvm.MethodName) prog_14_method_56_code (2 : Nat) (Option.some Jvm.ClassFile.FieldType.boolean)) ∈ lw_all := lw_g (lw_at lw_m9 204 rfl) rfl
theorem q2191 : (Jvm.Cond.instanceMethod ({ cls := "SlideParkModel", name := "bookingByStart", desc := "(I)I" } : Jvm.MethodName)) ∈ lw_all := lw_g (lw_at lw_m9 206 rfl) rfl
theorem q2192 : (Jvm.Cond.selects "SlideParkModel" ({ cls := "SlideParkModel", name := "bookingByStart", desc := "(I)I" } : Jvm.MethodName) ({ cls := "SlideParkModel", name := "bookingByStart", desc := "(I)I" } : Jvm.MethodName)) ∈ lw_all := lw_g (lw_at lw_m9 207 rfl) rfl
theorem q2193 : (Jvm.Cond.code ({ cls := "SlideParkModel", name := "bookingByStart", desc := "(I)I" } : Jvm.MethodName) prog_14_method_58_code (2 : Nat) (Option.some Jvm.ClassFile.FieldType.int)) ∈ lw_all := lw_g (lw_at lw_m9 208 rfl) rfl
theorem q2194 : (Jvm.Cond.methodLink "SlideParkModel" (161 : Nat) ({ cls := "SlideParkModel", name := "ranked", desc := "(I)I" } : Jvm.MethodName)) ∈ lw_all := lw_g (lw_at lw_m9 209 rfl) rfl
theorem q2195 : (Jvm.Cond.privateMethod ({ cls := "SlideParkModel", name := "ranked", desc := "(I)I" } : Jvm.MethodName)) ∈ lw_tbl := lw_at lw_m9 210 rfl
theorem q2196 : (Jvm.Cond.instanceMethod ({ cls := "SlideParkModel", name := "ranked", desc := "(I)I" } : Jvm.MethodName)) ∈ lw_all := lw_g (lw_at lw_m9 211 rfl) rfl
theorem q2197 : (Jvm.Cond.code ({ cls := "SlideParkModel", name := "ranked", desc := "(I)I" } : Jvm.MethodName) prog_14_method_57_code (7 : Nat) (Option.some Jvm.ClassFile.FieldType.int)) ∈ lw_all := lw_g (lw_at lw_m9 212 rfl) rfl
theorem q2199 : (Jvm.Cond.instanceMethod ({ cls := "SlideParkModel", name := "isFree", desc := "(II)Z" } : Jvm.MethodName)) ∈ lw_all := lw_g (lw_at lw_m9 214 rfl) rfl
theorem q2200 : (Jvm.Cond.selects "SlideParkModel" ({ cls := "SlideParkModel", name := "isFree", desc := "(II)Z" } : Jvm.MethodName) ({ cls := "SlideParkModel", name := "isFree", desc := "(II)Z" } : Jvm.MethodName)) ∈ lw_all := lw_g (lw_at lw_m9 215 rfl) rfl
theorem q2201 : (Jvm.Cond.code ({ cls := "SlideParkModel", name := "isFree", desc := "(II)Z" } : Jvm.MethodName) prog_14_method_59_code (3 : Nat) (Option.some Jvm.ClassFile.FieldType.boolean)) ∈ lw_all := lw_g (lw_at lw_m9 216 rfl) rfl
theorem q2203 : (Jvm.Cond.instanceMethod ({ cls := "SlideParkModel", name := "firstFree", desc := "(II)I" } : Jvm.MethodName)) ∈ lw_all := lw_g (lw_at lw_m9 218 rfl) rfl
theorem q2204 : (Jvm.Cond.selects "SlideParkModel" ({ cls := "SlideParkModel", name := "firstFree", desc := "(II)I" } : Jvm.MethodName) ({ cls := "SlideParkModel", name := "firstFree", desc := "(II)I" } : Jvm.MethodName)) ∈ lw_all := lw_g (lw_at lw_m9 219 rfl) rfl
theorem q2205 : (Jvm.Cond.code ({ cls := "SlideParkModel", name := "firstFree", desc := "(II)I" } : Jvm.MethodName) prog_14_method_60_code (4 : Nat) (Option.some Jvm.ClassFile.FieldType.int)) ∈ lw_all := lw_g (lw_at lw_m9 220 rfl) rfl
theorem q2207 : (Jvm.Cond.instanceMethod ({ cls := "SlideParkModel", name := "firstFreeByGaps", desc := "(II)I" } : Jvm.MethodName)) ∈ lw_all := lw_g (lw_at lw_m9 222 rfl) rfl
theorem q2208 : (Jvm.Cond.selects "SlideParkModel" ({ cls := "SlideParkModel", name := "firstFreeByGaps", desc := "(II)I" } : Jvm.MethodName) ({ cls := "SlideParkModel", name := "firstFreeByGaps", desc := "(II)I" } : Jvm.MethodName)) ∈ lw_all := lw_g (lw_at lw_m9 223 rfl) rfl
theorem q2209 : (Jvm.Cond.code ({ cls := "SlideParkModel", name := "firstFreeByGaps", desc := "(II)I" } : Jvm.MethodName) prog_14_method_61_code (3 : Nat) (Option.some Jvm.ClassFile.FieldType.int)) ∈ lw_all := lw_g (lw_at lw_m9 224 rfl) rfl
theorem q2210 : (Jvm.Cond.methodLink "SlideParkModel" (164 : Nat) ({ cls := "SlideParkModel", name := "firstFree", desc := "(II)I" } : Jvm.MethodName)) ∈ lw_all := lw_g (lw_at lw_m9 225 rfl) rfl
theorem q2212 : (Jvm.Cond.instanceMethod ({ cls := "SlideParkModel", name := "mostWatched", desc := "()I" } : Jvm.MethodName)) ∈ lw_all := lw_g (lw_at lw_m9 227 rfl) rfl
theorem q2213 : (Jvm.Cond.selects "SlideParkModel" ({ cls := "SlideParkModel", name := "mostWatched", desc := "()I" } : Jvm.MethodName) ({ cls := "SlideParkModel", name := "mostWatched", desc := "()I" } : Jvm.MethodName)) ∈ lw_all := lw_g (lw_at lw_m9 228 rfl) rfl
theorem q2214 : (Jvm.Cond.code ({ cls := "SlideParkModel", name := "mostWatched", desc := "()I" } : Jvm.MethodName) prog_14_method_62_code (6 : Nat) (Option.some Jvm.ClassFile.FieldType.int)) ∈ lw_all := lw_g (lw_at lw_m9 229 rfl) rfl
theorem q2215 : (Jvm.Cond.constant "SlideParkModel" (169 : Nat) (2147483647 : Int32)) ∈ lw_all := lw_g (lw_at lw_m9 230 rfl) rfl
theorem q2217 : (Jvm.Cond.instanceMethod ({ cls := "SlideParkModel", name := "mostWatchedByTable", desc := "()I" } : Jvm.MethodName)) ∈ lw_all := lw_g (lw_at lw_m9 232 rfl) rfl
theorem q2218 : (Jvm.Cond.selects "SlideParkModel" ({ cls := "SlideParkModel", name := "mostWatchedByTable", desc := "()I" } : Jvm.MethodName) ({ cls := "SlideParkModel", name := "mostWatchedByTable", desc := "()I" } : Jvm.MethodName)) ∈ lw_all := lw_g (lw_at lw_m9 233 rfl) rfl
theorem q2219 : (Jvm.Cond.code ({ cls := "SlideParkModel", name := "mostWatchedByTable", desc := "()I" } : Jvm.MethodName) prog_14_method_63_code (1 : Nat) (Option.some Jvm.ClassFile.FieldType.int)) ∈ lw_all := lw_g (lw_at lw_m9 234 rfl) rfl
theorem q2220 : (Jvm.Cond.methodLink "SlideParkModel" (170 : Nat) ({ cls := "SlideParkModel", name := "mostWatched", desc := "()I" } : Jvm.MethodName)) ∈ lw_all := lw_g (lw_at lw_m9 235 rfl) rfl
theorem q2222 : (Jvm.Cond.instanceMethod ({ cls := "SlideParkModel", name := "mostAtOnce", desc := "()I" } : Jvm.MethodName)) ∈ lw_all := lw_g (lw_at lw_m9 237 rfl) rfl
theorem q2223 : (Jvm.Cond.selects "SlideParkModel" ({ cls := "SlideParkModel", name := "mostAtOnce", desc := "()I" } : Jvm.MethodName) ({ cls := "SlideParkModel", name := "mostAtOnce", desc := "()I" } : Jvm.MethodName)) ∈ lw_all := lw_g (lw_at lw_m9 238 rfl) rfl
theorem q2224 : (Jvm.Cond.code ({ cls := "SlideParkModel", name := "mostAtOnce", desc := "()I" } : Jvm.MethodName) prog_14_method_64_code (5 : Nat) (Option.some Jvm.ClassFile.FieldType.int)) ∈ lw_all := lw_g (lw_at lw_m9 239 rfl) rfl
theorem q2226 : (Jvm.Cond.instanceMethod ({ cls := "SlideParkModel", name := "mostAtOnceBySweep", desc := "()I" } : Jvm.MethodName)) ∈ lw_all := lw_g (lw_at lw_m10 1 rfl) rfl
theorem q2227 : (Jvm.Cond.selects "SlideParkModel" ({ cls := "SlideParkModel", name := "mostAtOnceBySweep", desc := "()I" } : Jvm.MethodName) ({ cls := "SlideParkModel", name := "mostAtOnceBySweep", desc := "()I" } : Jvm.MethodName)) ∈ lw_all := lw_g (lw_at lw_m10 2 rfl) rfl
theorem q2228 : (Jvm.Cond.code ({ cls := "SlideParkModel", name := "mostAtOnceBySweep", desc := "()I" } : Jvm.MethodName) prog_14_method_65_code (1 : Nat) (Option.some Jvm.ClassFile.FieldType.int)) ∈ lw_all := lw_g (lw_at lw_m10 3 rfl) rfl
theorem q2229 : (Jvm.Cond.methodLink "SlideParkModel" (173 : Nat) ({ cls := "SlideParkModel", name := "mostAtOnce", desc := "()I" } : Jvm.MethodName)) ∈ lw_all := lw_g (lw_at lw_m10 4 rfl) rfl
theorem q2231 : (Jvm.Cond.instanceMethod ({ cls := "SlideParkModel", name := "finishCount", desc := "()I" } : Jvm.MethodName)) ∈ lw_all := lw_g (lw_at lw_m10 6 rfl) rfl
theorem q2232 : (Jvm.Cond.selects "SlideParkModel" ({ cls := "SlideParkModel", name := "finishCount", desc := "()I" } : Jvm.MethodName) ({ cls := "SlideParkModel", name := "finishCount", desc := "()I" } : Jvm.MethodName)) ∈ lw_all := lw_g (lw_at lw_m10 7 rfl) rfl
theorem q2233 : (Jvm.Cond.code ({ cls := "SlideParkModel", name := "finishCount", desc := "()I" } : Jvm.MethodName) prog_14_method_67_code (1 : Nat) (Option.some Jvm.ClassFile.FieldType.int)) ∈ lw_all := lw_g (lw_at lw_m10 8 rfl) rfl
theorem q2235 : (Jvm.Cond.instanceMethod ({ cls := "SlideParkModel", name := "finishedGuest", desc := "(I)I" } : Jvm.MethodName)) ∈ lw_all := lw_g (lw_at lw_m10 10 rfl) rfl
theorem q2236 : (Jvm.Cond.selects "SlideParkModel" ({ cls := "SlideParkModel", name := "finishedGuest", desc := "(I)I" } : Jvm.MethodName) ({ cls := "SlideParkModel", name := "finishedGuest", desc := "(I)I" } : Jvm.MethodName)) ∈ lw_all := lw_g (lw_at lw_m10 11 rfl) rfl
theorem q2237 : (Jvm.Cond.code ({ cls := "SlideParkModel", name := "finishedGuest", desc := "(I)I" } : Jvm.MethodName) prog_14_method_68_code (2 : Nat) (Option.some Jvm.ClassFile.FieldType.int)) ∈ lw_all := lw_g (lw_at lw_m10 12 rfl) rfl
theorem q2238 : (Jvm.Cond.methodLink "SlideParkModel" (176 : Nat) ({ cls := "SlideParkModel", name := "finish", desc := "(II)I" } : Jvm.MethodName)) ∈ lw_all := lw_g (lw_at lw_m10 13 rfl) rfl
theorem q2239 : (Jvm.Cond.privateMethod ({ cls := "SlideParkModel", name := "finish", desc := "(II)I" } : Jvm.MethodName)) ∈ lw_tbl := lw_at lw_m10 14 rfl
theorem q2240 : (Jvm.Cond.instanceMethod ({ cls := "SlideParkModel", name := "finish", desc := "(II)I" } : Jvm.MethodName)) ∈ lw_all := lw_g (lw_at lw_m10 15 rfl) rfl
theorem q2241 : (Jvm.Cond.code ({ cls := "SlideParkModel", name := "finish", desc := "(II)I" } : Jvm.MethodName) prog_14_method_66_code (3 : Nat) (Option.some Jvm.ClassFile.FieldType.int)) ∈ lw_all := lw_g (lw_at lw_m10 16 rfl) rfl
theorem q2243 : (Jvm.Cond.instanceMethod ({ cls := "SlideParkModel", name := "finishedSlide", desc := "(I)I" } : Jvm.MethodName)) ∈ lw_all := lw_g (lw_at lw_m10 18 rfl) rfl
theorem q2244 : (Jvm.Cond.selects "SlideParkModel" ({ cls := "SlideParkModel", name := "finishedSlide", desc := "(I)I" } : Jvm.MethodName) ({ cls := "SlideParkModel", name := "finishedSlide", desc := "(I)I" } : Jvm.MethodName)) ∈ lw_all := lw_g (lw_at lw_m10 19 rfl) rfl
theorem q2245 : (Jvm.Cond.code ({ cls := "SlideParkModel", name := "finishedSlide", desc := "(I)I" } : Jvm.MethodName) prog_14_method_69_code (2 : Nat) (Option.some Jvm.ClassFile.FieldType.int)) ∈ lw_all := lw_g (lw_at lw_m10 20 rfl) rfl
theorem q2247 : (Jvm.Cond.instanceMethod ({ cls := "SlideParkModel", name := "finishMinute", desc := "(I)I" } : Jvm.MethodName)) ∈ lw_all := lw_g (lw_at lw_m10 22 rfl) rfl
theorem q2248 : (Jvm.Cond.selects "SlideParkModel" ({ cls := "SlideParkModel", name := "finishMinute", desc := "(I)I" } : Jvm.MethodName) ({ cls := "SlideParkModel", name := "finishMinute", desc := "(I)I" } : Jvm.MethodName)) ∈ lw_all := lw_g (lw_at lw_m10 23 rfl) rfl
theorem q2249 : (Jvm.Cond.code ({ cls := "SlideParkModel", name := "finishMinute", desc := "(I)I" } : Jvm.MethodName) prog_14_method_70_code (2 : Nat) (Option.some Jvm.ClassFile.FieldType.int)) ∈ lw_all := lw_g (lw_at lw_m10 24 rfl) rfl
theorem q2251 : (Jvm.Cond.instanceMethod ({ cls := "SlideParkModel", name := "photoFinishes", desc := "()I" } : Jvm.MethodName)) ∈ lw_all := lw_g (lw_at lw_m10 26 rfl) rfl
theorem q2252 : (Jvm.Cond.selects "SlideParkModel" ({ cls := "SlideParkModel", name := "photoFinishes", desc := "()I" } : Jvm.MethodName) ({ cls := "SlideParkModel", name := "photoFinishes", desc := "()I" } : Jvm.MethodName)) ∈ lw_all := lw_g (lw_at lw_m10 27 rfl) rfl
theorem q2253 : (Jvm.Cond.code ({ cls := "SlideParkModel", name := "photoFinishes", desc := "()I" } : Jvm.MethodName) prog_14_method_71_code (4 : Nat) (Option.some Jvm.ClassFile.FieldType.int)) ∈ lw_all := lw_g (lw_at lw_m10 28 rfl) rfl
theorem q2255 : (Jvm.Cond.instanceMethod ({ cls := "SlideParkModel", name := "photoFinishesByRuns", desc := "()I" } : Jvm.MethodName)) ∈ lw_all := lw_g (lw_at lw_m10 30 rfl) rfl
theorem q2256 : (Jvm.Cond.selects "SlideParkModel" ({ cls := "SlideParkModel", name := "photoFinishesByRuns", desc := "()I" } : Jvm.MethodName) ({ cls := "SlideParkModel", name := "photoFinishesByRuns", desc := "()I" } : Jvm.MethodName)) ∈ lw_all := lw_g (lw_at lw_m10 31 rfl) rfl
theorem q2257 : (Jvm.Cond.code ({ cls := "SlideParkModel", name := "photoFinishesByRuns", desc := "()I" } : Jvm.MethodName) prog_14_method_72_code (1 : Nat) (Option.some Jvm.ClassFile.FieldType.int)) ∈ lw_all := lw_g (lw_at lw_m10 32 rfl) rfl
theorem q2258 : (Jvm.Cond.methodLink "SlideParkModel" (179 : Nat) ({ cls := "SlideParkModel", name := "photoFinishes", desc := "()I" } : Jvm.MethodName)) ∈ lw_all := lw_g (lw_at lw_m10 33 rfl) rfl
theorem q2260 : (Jvm.Cond.instanceMethod ({ cls := "SlideParkModel", name := "splashes", desc := "()I" } : Jvm.MethodName)) ∈ lw_all := lw_g (lw_at lw_m10 35 rfl) rfl
theorem q2261 : (Jvm.Cond.selects "SlideParkModel" ({ cls := "SlideParkModel", name := "splashes", desc := "()I" } : Jvm.MethodName) ({ cls := "SlideParkModel", name := "splashes", desc := "()I" } : Jvm.MethodName)) ∈ lw_all := lw_g (lw_at lw_m10 36 rfl) rfl
theorem q2262 : (Jvm.Cond.code ({ cls := "SlideParkModel", name := "splashes", desc := "()I" } : Jvm.MethodName) prog_14_method_73_code (1 : Nat) (Option.some Jvm.ClassFile.FieldType.int)) ∈ lw_all := lw_g (lw_at lw_m10 37 rfl) rfl
theorem q2264 : (Jvm.Cond.instanceMethod ({ cls := "SlideParkModel", name := "refundedCoins", desc := "()I" } : Jvm.MethodName)) ∈ lw_all := lw_g (lw_at lw_m10 39 rfl) rfl
theorem q2265 : (Jvm.Cond.selects "SlideParkModel" ({ cls := "SlideParkModel", name := "refundedCoins", desc := "()I" } : Jvm.MethodName) ({ cls := "SlideParkModel", name := "refundedCoins", desc := "()I" } : Jvm.MethodName)) ∈ lw_all := lw_g (lw_at lw_m10 40 rfl) rfl
theorem q2266 : (Jvm.Cond.code ({ cls := "SlideParkModel", name := "refundedCoins", desc := "()I" } : Jvm.MethodName) prog_14_method_74_code (1 : Nat) (Option.some Jvm.ClassFile.FieldType.int)) ∈ lw_all := lw_g (lw_at lw_m10 41 rfl) rfl
theorem q2268 : (Jvm.Cond.instanceMethod ({ cls := "SlideParkModel", name := "officeCoins", desc := "()I" } : Jvm.MethodName)) ∈ lw_all := lw_g (lw_at lw_m10 43 rfl) rfl
theorem q2269 : (Jvm.Cond.selects "SlideParkModel" ({ cls := "SlideParkModel", name := "officeCoins", desc := "()I" } : Jvm.MethodName) ({ cls := "SlideParkModel", name := "officeCoins", desc := "()I" } : Jvm.MethodName)) ∈ lw_all := lw_g (lw_at lw_m10 44 rfl) rfl
theorem q2270 : (Jvm.Cond.code ({ cls := "SlideParkModel", name := "officeCoins", desc := "()I" } : Jvm.MethodName) prog_14_method_75_code (1 : Nat) (Option.some Jvm.ClassFile.FieldType.int)) ∈ lw_all := lw_g (lw_at lw_m10 45 rfl) rfl
theorem q2272 : (Jvm.Cond.instanceMethod ({ cls := "SlideParkModel", name := "rides", desc := "(I)I" } : Jvm.MethodName)) ∈ lw_all := lw_g (lw_at lw_m10 47 rfl) rfl
theorem q2273 : (Jvm.Cond.selects "SlideParkModel" ({ cls := "SlideParkModel", name := "rides", desc := "(I)I" } : Jvm.MethodName) ({ cls := "SlideParkModel", name := "rides", desc := "(I)I" } : Jvm.MethodName)) ∈ lw_all := lw_g (lw_at lw_m10 48 rfl) rfl
theorem q2274 : (Jvm.Cond.code ({ cls := "SlideParkModel", name := "rides", desc := "(I)I" } : Jvm.MethodName) prog_14_method_76_code (2 : Nat) (Option.some Jvm.ClassFile.FieldType.int)) ∈ lw_all := lw_g (lw_at lw_m10 49 rfl) rfl
theorem q2276 : (Jvm.Cond.instanceMethod ({ cls := "SlideParkModel", name := "guestByRides", desc := "(I)I" } : Jvm.MethodName)) ∈ lw_all := lw_g (lw_at lw_m10 51 rfl) rfl
theorem q2277 : (Jvm.Cond.selects "SlideParkModel" ({ cls := "SlideParkModel", name := "guestByRides", desc := "(I)I" } : Jvm.MethodName) ({ cls := "SlideParkModel", name := "guestByRides", desc := "(I)I" } : Jvm.MethodName)) ∈ lw_all := lw_g (lw_at lw_m10 52 rfl) rfl
theorem q2278 : (Jvm.Cond.code ({ cls := "SlideParkModel", name := "guestByRides", desc := "(I)I" } : Jvm.MethodName) prog_14_method_77_code (9 : Nat) (Option.some Jvm.ClassFile.FieldType.int)) ∈ lw_all := lw_g (lw_at lw_m10 53 rfl) rfl
theorem q2280 : (Jvm.Cond.instanceMethod ({ cls := "SlideParkModel", name := "slideByWetness", desc := "(I)I" } : Jvm.MethodName)) ∈ lw_all := lw_g (lw_at lw_m10 55 rfl) rfl
theorem q2281 : (Jvm.Cond.selects "SlideParkModel" ({ cls := "SlideParkModel", name := "slideByWetness", desc := "(I)I" } : Jvm.MethodName) ({ cls := "SlideParkModel", name := "slideByWetness", desc := "(I)I" } : Jvm.MethodName)) ∈ lw_all := lw_g (lw_at lw_m10 56 rfl) rfl
theorem q2282 : (Jvm.Cond.code ({ cls := "SlideParkModel", name := "slideByWetness", desc := "(I)I" } : Jvm.MethodName) prog_14_method_78_code (8 : Nat) (Option.some Jvm.ClassFile.FieldType.int)) ∈ lw_all := lw_g (lw_at lw_m10 57 rfl) rfl
theorem q2284 : (Jvm.Cond.instanceMethod ({ cls := "SlideParkModel", name := "meanCoins", desc := "()D" } : Jvm.MethodName)) ∈ lw_all := lw_g (lw_at lw_m10 59 rfl) rfl
theorem q2285 : (Jvm.Cond.selects "SlideParkModel" ({ cls := "SlideParkModel", name := "meanCoins", desc := "()D" } : Jvm.MethodName) ({ cls := "SlideParkModel", name := "meanCoins", desc := "()D" } : Jvm.MethodName)) ∈ lw_all := lw_g (lw_at lw_m10 60 rfl) rfl
theorem q2286 : (Jvm.Cond.code ({ cls := "SlideParkModel", name := "meanCoins", desc := "()D" } : Jvm.MethodName) prog_14_method_79_code (4 : Nat) (Option.some Jvm.ClassFile.FieldType.double)) ∈ lw_all := lw_g (lw_at lw_m10 61 rfl) rfl
theorem q2288 : (Jvm.Cond.instanceMethod ({ cls := "SlideParkModel", name := "busyShare", desc := "()F" } : Jvm.MethodName)) ∈ lw_all := lw_g (lw_at lw_m10 63 rfl) rfl
theorem q2289 : (Jvm.Cond.selects "SlideParkModel" ({ cls := "SlideParkModel", name := "busyShare", desc := "()F" } : Jvm.MethodName) ({ cls := "SlideParkModel", name := "busyShare", desc := "()F" } : Jvm.MethodName)) ∈ lw_all := lw_g (lw_at lw_m10 64 rfl) rfl
theorem q2290 : (Jvm.Cond.code ({ cls := "SlideParkModel", name := "busyShare", desc := "()F" } : Jvm.MethodName) prog_14_method_80_code (4 : Nat) (Option.some Jvm.ClassFile.FieldType.float)) ∈ lw_all := lw_g (lw_at lw_m10 65 rfl) rfl
theorem q2292 : (Jvm.Cond.instanceMethod ({ cls := "SlideParkModel", name := "isConsistent", desc := "()Z" } : Jvm.MethodName)) ∈ lw_all := lw_g (lw_at lw_m10 67 rfl) rfl
theorem q2293 : (Jvm.Cond.selects "SlideParkModel" ({ cls := "SlideParkModel", name := "isConsistent", desc := "()Z" } : Jvm.MethodName) ({ cls := "SlideParkModel", name := "isConsistent", desc := "()Z" } : Jvm.MethodName)) ∈ lw_all := lw_g (lw_at lw_m10 68 rfl) rfl
theorem q2294 : (Jvm.Cond.code ({ cls := "SlideParkModel", name := "isConsistent", desc := "()Z" } : Jvm.MethodName) prog_14_method_81_code (1 : Nat) (Option.some Jvm.ClassFile.FieldType.boolean)) ∈ lw_all := lw_g (lw_at lw_m10 69 rfl) rfl
theorem q2296 : (Jvm.Cond.instanceMethod ({ cls := "SlideParkModel", name := "writeSlide", desc := "(I)I" } : Jvm.MethodName)) ∈ lw_all := lw_g (lw_at lw_m10 71 rfl) rfl
theorem q2297 : (Jvm.Cond.selects "SlideParkModel" ({ cls := "SlideParkModel", name := "writeSlide", desc := "(I)I" } : Jvm.MethodName) ({ cls := "SlideParkModel", name := "writeSlide", desc := "(I)I" } : Jvm.MethodName)) ∈ lw_all := lw_g (lw_at lw_m10 72 rfl) rfl
theorem q2298 : (Jvm.Cond.code ({ cls := "SlideParkModel", name := "writeSlide", desc := "(I)I" } : Jvm.MethodName) prog_14_method_84_code (4 : Nat) (Option.some Jvm.ClassFile.FieldType.int)) ∈ lw_all := lw_g (lw_at lw_m10 73 rfl) rfl
theorem q2299 : (Jvm.Cond.methodLink "SlideParkModel" (185 : Nat) ({ cls := "SlideParkModel", name := "saysNumber", desc := "(I)V" } : Jvm.MethodName)) ∈ lw_all := lw_g (lw_at lw_m10 74 rfl) rfl
theorem q2300 : (Jvm.Cond.privateMethod ({ cls := "SlideParkModel", name := "saysNumber", desc := "(I)V" } : Jvm.MethodName)) ∈ lw_tbl := lw_at lw_m10 75 rfl
theorem q2301 : (Jvm.Cond.instanceMethod ({ cls := "SlideParkModel", name := "saysNumber", desc := "(I)V" } : Jvm.MethodName)) ∈ lw_all := lw_g (lw_at lw_m10 76 rfl) rfl
theorem q2302 : (Jvm.Cond.code ({ cls := "SlideParkModel", name := "saysNumber", desc := "(I)V" } : Jvm.MethodName) prog_14_method_83_code (2 : Nat) (Option.none : Option Jvm.ClassFile.FieldType)) ∈ lw_all := lw_g (lw_at lw_m10 77 rfl) rfl
theorem q2303 : (Jvm.Cond.methodLink "SlideParkModel" (188 : Nat) ({ cls := "SlideParkModel", name := "says", desc := "(C)V" } : Jvm.MethodName)) ∈ lw_all := lw_g (lw_at lw_m10 78 rfl) rfl
theorem q2304 : (Jvm.Cond.privateMethod ({ cls := "SlideParkModel", name := "says", desc := "(C)V" } : Jvm.MethodName)) ∈ lw_tbl := lw_at lw_m10 79 rfl
theorem q2305 : (Jvm.Cond.instanceMethod ({ cls := "SlideParkModel", name := "says", desc := "(C)V" } : Jvm.MethodName)) ∈ lw_all := lw_g (lw_at lw_m10 80 rfl) rfl
theorem q2306 : (Jvm.Cond.code ({ cls := "SlideParkModel", name := "says", desc := "(C)V" } : Jvm.MethodName) prog_14_method_82_code (2 : Nat) (Option.none : Option Jvm.ClassFile.FieldType)) ∈ lw_all := lw_g (lw_at lw_m10 81 rfl) rfl
theorem q2308 : (Jvm.Cond.instanceMethod ({ cls := "SlideParkModel", name := "outputChar", desc := "(I)C" } : Jvm.MethodName)) ∈ lw_all := lw_g (lw_at lw_m10 83 rfl) rfl
theorem q2309 : (Jvm.Cond.selects "SlideParkModel" ({ cls := "SlideParkModel", name := "outputChar", desc := "(I)C" } : Jvm.MethodName) ({ cls := "SlideParkModel", name := "outputChar", desc := "(I)C" } : Jvm.MethodName)) ∈ lw_all := lw_g (lw_at lw_m10 84 rfl) rfl
theorem q2310 : (Jvm.Cond.code ({ cls := "SlideParkModel", name := "outputChar", desc := "(I)C" } : Jvm.MethodName) prog_14_method_85_code (2 : Nat) (Option.some Jvm.ClassFile.FieldType.char)) ∈ lw_all := lw_g (lw_at lw_m10 85 rfl) rfl
theorem q2312 : (Jvm.Cond.instanceMethod ({ cls := "SlideParkModel", name := "feed", desc := "(C)I" } : Jvm.MethodName)) ∈ lw_all := lw_g (lw_at lw_m10 87 rfl) rfl
theorem q2313 : (Jvm.Cond.selects "SlideParkModel" ({ cls := "SlideParkModel", name := "feed", desc := "(C)I" } : Jvm.MethodName) ({ cls := "SlideParkModel", name := "feed", desc := "(C)I" } : Jvm.MethodName)) ∈ lw_all := lw_g (lw_at lw_m10 88 rfl) rfl
theorem q2314 : (Jvm.Cond.code ({ cls := "SlideParkModel", name := "feed", desc := "(C)I" } : Jvm.MethodName) prog_14_method_86_code (2 : Nat) (Option.some Jvm.ClassFile.FieldType.int)) ∈ lw_all := lw_g (lw_at lw_m10 89 rfl) rfl
theorem q2316 : (Jvm.Cond.instanceMethod ({ cls := "SlideParkModel", name := "runCommands", desc := "()I" } : Jvm.MethodName)) ∈ lw_all := lw_g (lw_at lw_m10 91 rfl) rfl
theorem q2317 : (Jvm.Cond.selects "SlideParkModel" ({ cls := "SlideParkModel", name := "runCommands", desc := "()I" } : Jvm.MethodName) ({ cls := "SlideParkModel", name := "runCommands", desc := "()I" } : Jvm.MethodName)) ∈ lw_all := lw_g (lw_at lw_m10 92 rfl) rfl
theorem q2318 : (Jvm.Cond.code ({ cls := "SlideParkModel", name := "runCommands", desc := "()I" } : Jvm.MethodName) prog_14_method_93_code (2 : Nat) (Option.some Jvm.ClassFile.FieldType.int)) ∈ lw_all := lw_g (lw_at lw_m10 93 rfl) rfl
theorem q2319 : (Jvm.Cond.methodLink "SlideParkModel" (241 : Nat) ({ cls := "SlideParkModel", name := "readCommand", desc := "()V" } : Jvm.MethodName)) ∈ lw_all := lw_g (lw_at lw_m10 94 rfl) rfl
theorem q2320 : (Jvm.Cond.privateMethod ({ cls := "SlideParkModel", name := "readCommand", desc := "()V" } : Jvm.MethodName)) ∈ lw_tbl := lw_at lw_m10 95 rfl
theorem q2321 : (Jvm.Cond.instanceMethod ({ cls := "SlideParkModel", name := "readCommand", desc := "()V" } : Jvm.MethodName)) ∈ lw_all := lw_g (lw_at lw_m10 96 rfl) rfl
theorem q2322 : (Jvm.Cond.code ({ cls := "SlideParkModel", name := "readCommand", desc := "()V" } : Jvm.MethodName) prog_14_method_91_code (3 : Nat) (Option.none : Option Jvm.ClassFile.FieldType)) ∈ lw_all := lw_g (lw_at lw_m10 97 rfl) rfl
theorem q2323 : (Jvm.Cond.methodLink "SlideParkModel" (206 : Nat) ({ cls := "SlideParkModel", name := "behind", desc := "()I" } : Jvm.MethodName)) ∈ lw_all := lw_g (lw_at lw_m10 98 rfl) rfl
theorem q2324 : (Jvm.Cond.privateMethod ({ cls := "SlideParkModel", name := "behind", desc := "()I" } : Jvm.MethodName)) ∈ lw_tbl := lw_at lw_m10 99 rfl
theorem q2325 : (Jvm.Cond.instanceMethod ({ cls := "SlideParkModel", name := "behind", desc := "()I" } : Jvm.MethodName)) ∈ lw_all := lw_g (lw_at lw_m10 100 rfl) rfl
theorem q2326 : (Jvm.Cond.code ({ cls := "SlideParkModel", name := "behind", desc := "()I" } : Jvm.MethodName) prog_14_method_87_code (1 : Nat) (Option.some Jvm.ClassFile.FieldType.int)) ∈ lw_all := lw_g (lw_at lw_m10 101 rfl) rfl
theorem q2327 : (Jvm.Cond.stringRef "SlideParkModel" (226 : Nat) "slide") ∈ lw_tbl := lw_at lw_m10 102 rfl
theorem q2328 : (Jvm.Cond.stringRef "SlideParkModel" (227 : Nat) "queue") ∈ lw_tbl := lw_at lw_m10 103 rfl
theorem q2329 : (Jvm.Cond.methodLink "SlideParkModel" (215 : Nat) ({ cls := "SlideParkModel", name := "skip", desc := "(Ljava/lang/String;)V" } : Jvm.MethodName)) ∈ lw_all := lw_g (lw_at lw_m10 104 rfl) rfl
theorem q2330 : (Jvm.Cond.privateMethod ({ cls := "SlideParkModel", name := "skip", desc := "(Ljava/lang/String;)V" } : Jvm.MethodName)) ∈ lw_tbl := lw_at lw_m10 105 rfl
theorem q2331 : (Jvm.Cond.instanceMethod ({ cls := "SlideParkModel", name := "skip", desc := "(Ljava/lang/String;)V" } : Jvm.MethodName)) ∈ lw_all := lw_g (lw_at lw_m10 106 rfl) rfl
theorem q2332 : (Jvm.Cond.code ({ cls := "SlideParkModel", name := "skip", desc := "(Ljava/lang/String;)V" } : Jvm.MethodName) prog_14_method_88_code (3 : Nat) (Option.none : Option Jvm.ClassFile.FieldType)) ∈ lw_all := lw_g (lw_at lw_m10 107 rfl) rfl
theorem q2333 : (Jvm.Cond.methodLink "SlideParkModel" (198 : Nat) ({ cls := "java/lang/String", name := "length", desc := "()I" } : Jvm.MethodName)) ∈ lw_all := lw_g (lw_at lw_m10 108 rfl) rfl
theorem q2334 : (Jvm.Cond.methodLink "SlideParkModel" (209 : Nat) ({ cls := "java/lang/String", name := "charAt", desc := "(I)C" } : Jvm.MethodName)) ∈ lw_all := lw_g (lw_at lw_m10 109 rfl) rfl
theorem q2335 : (Jvm.Cond.methodLink "SlideParkModel" (229 : Nat) ({ cls := "SlideParkModel", name := "readNumber", desc := "(I)I" } : Jvm.MethodName)) ∈ lw_all := lw_g (lw_at lw_m10 110 rfl) rfl
theorem q2336 : (Jvm.Cond.privateMethod ({ cls := "SlideParkModel", name := "readNumber", desc := "(I)I" } : Jvm.MethodName)) ∈ lw_tbl := lw_at lw_m10 111 rfl
theorem q2337 : (Jvm.Cond.instanceMethod ({ cls := "SlideParkModel", name := "readNumber", desc := "(I)I" } : Jvm.MethodName)) ∈ lw_all := lw_g (lw_at lw_m10 112 rfl) rfl
theorem q2338 : (Jvm.Cond.code ({ cls := "SlideParkModel", name := "readNumber", desc := "(I)I" } : Jvm.MethodName) prog_14_method_90_code (4 : Nat) (Option.some Jvm.ClassFile.FieldType.int)) ∈ lw_all := lw_g (lw_at lw_m10 113 rfl) rfl
theorem q2339 : (Jvm.Cond.stringRef "SlideParkModel" (213 : Nat) " ") ∈ lw_tbl := lw_at lw_m10 114 rfl
theorem q2340 : (Jvm.Cond.methodLink "SlideParkModel" (219 : Nat) ({ cls := "SlideParkModel", name := "isDigit", desc := "()Z" } : Jvm.MethodName)) ∈ lw_all := lw_g (lw_at lw_m10 115 rfl) rfl
theorem q2341 : (Jvm.Cond.privateMethod ({ cls := "SlideParkModel", name := "isDigit", desc := "()Z" } : Jvm.MethodName)) ∈ lw_tbl := lw_at lw_m10 116 rfl
theorem q2342 : (Jvm.Cond.instanceMethod ({ cls := "SlideParkModel", name := "isDigit", desc := "()Z" } : Jvm.MethodName)) ∈ lw_all := lw_g (lw_at lw_m10 117 rfl) rfl
theorem q2343 : (Jvm.Cond.code ({ cls := "SlideParkModel", name := "isDigit", desc := "()Z" } : Jvm.MethodName) prog_14_method_89_code (1 : Nat) (Option.some Jvm.ClassFile.FieldType.boolean)) ∈ lw_all := lw_g (lw_at lw_m10 118 rfl) rfl
theorem q2344 : (Jvm.Cond.stringRef "SlideParkModel" (232 : Nat) "book") ∈ lw_tbl := lw_at lw_m10 119 rfl
theorem q2345 : (Jvm.Cond.stringRef "SlideParkModel" (234 : Nat) "cancel") ∈ lw_tbl := lw_at lw_m10 120 rfl
theorem q2346 : (Jvm.Cond.stringRef "SlideParkModel" (236 : Nat) "leave") ∈ lw_tbl := lw_at lw_m10 121 rfl
theorem q2347 : (Jvm.Cond.stringRef "SlideParkModel" (238 : Nat) "wait") ∈ lw_tbl := lw_at lw_m10 122 rfl
theorem q2348 : (Jvm.Cond.stringRef "SlideParkModel" (240 : Nat) "guest") ∈ lw_tbl := lw_at lw_m10 123 rfl
theorem q2349 : (Jvm.Cond.methodLink "SlideParkModel" (244 : Nat) ({ cls := "SlideParkModel", name := "does", desc := "(I)V" } : Jvm.MethodName)) ∈ lw_all := lw_g (lw_at lw_m10 124 rfl) rfl
theorem q2350 : (Jvm.Cond.privateMethod ({ cls := "SlideParkModel", name := "does", desc := "(I)V" } : Jvm.MethodName)) ∈ lw_tbl := lw_at lw_m10 125 rfl
theorem q2351 : (Jvm.Cond.instanceMethod ({ cls := "SlideParkModel", name := "does", desc := "(I)V" } : Jvm.MethodName)) ∈ lw_all := lw_g (lw_at lw_m10 126 rfl) rfl
theorem q2352 : (Jvm.Cond.code ({ cls := "SlideParkModel", name := "does", desc := "(I)V" } : Jvm.MethodName) prog_14_method_92_code (5 : Nat) (Option.none : Option Jvm.ClassFile.FieldType)) ∈ lw_all := lw_g (lw_at lw_m10 127 rfl) rfl
theorem q2354 : (Jvm.Cond.instanceMethod ({ cls := "SlideParkModel", name := "errorPosition", desc := "()I" } : Jvm.MethodName)) ∈ lw_all := lw_g (lw_at lw_m10 129 rfl) rfl
theorem q2355 : (Jvm.Cond.selects "SlideParkModel" ({ cls := "SlideParkModel", name := "errorPosition", desc := "()I" } : Jvm.MethodName) ({ cls := "SlideParkModel", name := "errorPosition", desc := "()I" } : Jvm.MethodName)) ∈ lw_all := lw_g (lw_at lw_m10 130 rfl) rfl
theorem q2356 : (Jvm.Cond.code ({ cls := "SlideParkModel", name := "errorPosition", desc := "()I" } : Jvm.MethodName) prog_14_method_94_code (1 : Nat) (Option.some Jvm.ClassFile.FieldType.int)) ∈ lw_all := lw_g (lw_at lw_m10 131 rfl) rfl
theorem q2358 : (Jvm.Cond.instanceMethod ({ cls := "SlideParkModel", name := "failedCommand", desc := "()I" } : Jvm.MethodName)) ∈ lw_all := lw_g (lw_at lw_m10 133 rfl) rfl
theorem q2359 : (Jvm.Cond.selects "SlideParkModel" ({ cls := "SlideParkModel", name := "failedCommand", desc := "()I" } : Jvm.MethodName) ({ cls := "SlideParkModel", name := "failedCommand", desc := "()I" } : Jvm.MethodName)) ∈ lw_all := lw_g (lw_at lw_m10 134 rfl) rfl
theorem q2360 : (Jvm.Cond.code ({ cls := "SlideParkModel", name := "failedCommand", desc := "()I" } : Jvm.MethodName) prog_14_method_95_code (1 : Nat) (Option.some Jvm.ClassFile.FieldType.int)) ∈ lw_all := lw_g (lw_at lw_m10 135 rfl) rfl
theorem q2362 : (Jvm.Cond.instanceMethod ({ cls := "SlideParkModel", name := "undoCount", desc := "()I" } : Jvm.MethodName)) ∈ lw_all := lw_g (lw_at lw_m10 137 rfl) rfl
theorem q2363 : (Jvm.Cond.selects "SlideParkModel" ({ cls := "SlideParkModel", name := "undoCount", desc := "()I" } : Jvm.MethodName) ({ cls := "SlideParkModel", name := "undoCount", desc := "()I" } : Jvm.MethodName)) ∈ lw_all := lw_g (lw_at lw_m10 138 rfl) rfl
theorem q2364 : (Jvm.Cond.code ({ cls := "SlideParkModel", name := "undoCount", desc := "()I" } : Jvm.MethodName) prog_14_method_96_code (1 : Nat) (Option.some Jvm.ClassFile.FieldType.int)) ∈ lw_all := lw_g (lw_at lw_m10 139 rfl) rfl
theorem q2366 : (Jvm.Cond.instanceMethod ({ cls := "SlideParkModel", name := "undo", desc := "()I" } : Jvm.MethodName)) ∈ lw_all := lw_g (lw_at lw_m10 141 rfl) rfl
theorem q2367 : (Jvm.Cond.selects "SlideParkModel" ({ cls := "SlideParkModel", name := "undo", desc := "()I" } : Jvm.MethodName) ({ cls := "SlideParkModel", name := "undo", desc := "()I" } : Jvm.MethodName)) ∈ lw_all := lw_g (lw_at lw_m10 142 rfl) rfl
theorem q2368 : (Jvm.Cond.code ({ cls := "SlideParkModel", name := "undo", desc := "()I" } : Jvm.MethodName) prog_14_method_97_code (1 : Nat) (Option.some Jvm.ClassFile.FieldType.int)) ∈ lw_all := lw_g (lw_at lw_m10 143 rfl) rfl
theorem q2370 : (Jvm.Cond.instanceMethod ({ cls := "SlideParkModel", name := "save", desc := "()I" } : Jvm.MethodName)) ∈ lw_all := lw_g (lw_at lw_m10 145 rfl) rfl
theorem q2371 : (Jvm.Cond.selects "SlideParkModel" ({ cls := "SlideParkModel", name := "save", desc := "()I" } : Jvm.MethodName) ({ cls := "SlideParkModel", name := "save", desc := "()I" } : Jvm.MethodName)) ∈ lw_all := lw_g (lw_at lw_m10 146 rfl) rfl
theorem q2372 : (Jvm.Cond.code ({ cls := "SlideParkModel", name := "save", desc := "()I" } : Jvm.MethodName) prog_14_method_98_code (1 : Nat) (Option.some Jvm.ClassFile.FieldType.int)) ∈ lw_all := lw_g (lw_at lw_m10 147 rfl) rfl
theorem q2374 : (Jvm.Cond.instanceMethod ({ cls := "SlideParkModel", name := "restore", desc := "()I" } : Jvm.MethodName)) ∈ lw_all := lw_g (lw_at lw_m10 149 rfl) rfl
theorem q2375 : (Jvm.Cond.selects "SlideParkModel" ({ cls := "SlideParkModel", name := "restore", desc := "()I" } : Jvm.MethodName) ({ cls := "SlideParkModel", name := "restore", desc := "()I" } : Jvm.MethodName)) ∈ lw_all := lw_g (lw_at lw_m10 150 rfl) rfl
theorem q2376 : (Jvm.Cond.code ({ cls := "SlideParkModel", name := "restore", desc := "()I" } : Jvm.MethodName) prog_14_method_99_code (1 : Nat) (Option.some Jvm.ClassFile.FieldType.int)) ∈ lw_all := lw_g (lw_at lw_m10 151 rfl) rfl
theorem q2400 : (Jvm.Cond.castable "SlideParkModel" "java/lang/Object") ∈ lw_tbl := lw_at lw_m10 175 rfl
theorem in_X4 : ∀ w ∈ wsX40, w ∈ lw_all := lw_in wsX40 [1933, 1935, 1937, 1939, 1941, 1943, 1945, 1947, 1949, 1951, 1953, 1955, 1957, 1959, 1961, 1963, 1965] (by decide +kernel) (by decide +kernel)

/-! the law's own entry -/
set_option maxRecDepth 100000
abbrev cL_law : ByteArray := code
def dkwL_law_108 : List UInt8 := [153, 0, 5, 3, 172, 167, 0, 3, 132, 5, 4, 167, 245, 93, 4, 172]
abbrev dktL_law_108 : List UInt8 := dkwL_law_108 ++ []
def dkwL_law_107 : List UInt8 := [182, 0, 158, 21, 6, 159, 0, 5, 3, 172, 21, 6, 154, 0, 15, 45, 3, 47, 21, 7, 133, 148]
abbrev dktL_law_107 : List UInt8 := dkwL_law_107 ++ dktL_law_108
def dkwL_law_106 : List UInt8 := [182, 1, 89, 159, 0, 49, 3, 172, 43, 45, 184, 1, 90, 54, 6, 44, 182, 1, 92, 54, 7, 44]
abbrev dktL_law_106 : List UInt8 := dkwL_law_106 ++ dktL_law_107
def dkwL_law_105 : List UInt8 := [154, 0, 15, 45, 3, 47, 21, 7, 133, 148, 153, 0, 5, 3, 172, 167, 0, 60, 43, 182, 1, 86, 44]
abbrev dktL_law_105 : List UInt8 := dkwL_law_105 ++ dktL_law_106
def dkwL_law_104 : List UInt8 := [184, 1, 83, 54, 6, 44, 182, 1, 85, 54, 7, 44, 182, 0, 158, 21, 6, 159, 0, 5, 3, 172, 21, 6]
abbrev dktL_law_104 : List UInt8 := dkwL_law_104 ++ dktL_law_105
def dkwL_law_103 : List UInt8 := [153, 0, 5, 3, 172, 167, 0, 117, 43, 182, 1, 79, 44, 182, 1, 82, 159, 0, 106, 3, 172, 43, 45]
abbrev dktL_law_103 : List UInt8 := dkwL_law_103 ++ dktL_law_104
def dkwL_law_102 : List UInt8 := [182, 0, 158, 21, 6, 159, 0, 5, 3, 172, 21, 6, 154, 0, 15, 45, 3, 47, 21, 7, 133, 148]
abbrev dktL_law_102 : List UInt8 := dkwL_law_102 ++ dktL_law_103
def dkwL_law_101 : List UInt8 := [21, 5, 4, 96, 46, 45, 184, 1, 76, 54, 6, 44, 42, 21, 5, 4, 96, 46, 182, 1, 78, 54, 7, 44]
abbrev dktL_law_101 : List UInt8 := dkwL_law_101 ++ dktL_law_102
def dkwL_law_100 : List UInt8 := [172, 21, 6, 154, 0, 15, 45, 3, 47, 21, 7, 133, 148, 153, 0, 5, 3, 172, 167, 0, 173, 43, 42]
abbrev dktL_law_100 : List UInt8 := dkwL_law_100 ++ dktL_law_101
def dkwL_law_99 : List UInt8 := [54, 6, 44, 42, 21, 5, 4, 96, 46, 182, 1, 75, 54, 7, 44, 182, 0, 158, 21, 6, 159, 0, 5, 3]
abbrev dktL_law_99 : List UInt8 := dkwL_law_99 ++ dktL_law_100
def dkwL_law_98 : List UInt8 := [21, 7, 133, 148, 153, 0, 5, 3, 172, 167, 0, 229, 43, 42, 21, 5, 4, 96, 46, 45, 184, 1, 73]
abbrev dktL_law_98 : List UInt8 := dkwL_law_98 ++ dktL_law_99
def dkwL_law_97 : List UInt8 := [182, 1, 72, 54, 7, 44, 182, 0, 158, 21, 6, 159, 0, 5, 3, 172, 21, 6, 154, 0, 15, 45, 3, 47]
abbrev dktL_law_97 : List UInt8 := dkwL_law_97 ++ dktL_law_98
def dkwL_law_96 : List UInt8 := [45, 3, 47, 21, 7, 133, 148, 153, 0, 5, 3, 172, 167, 1, 17, 43, 45, 184, 1, 70, 54, 6, 44]
abbrev dktL_law_96 : List UInt8 := dkwL_law_96 ++ dktL_law_97
def dkwL_law_95 : List UInt8 := [54, 6, 44, 182, 1, 69, 54, 7, 44, 182, 0, 158, 21, 6, 159, 0, 5, 3, 172, 21, 6, 154, 0, 15]
abbrev dktL_law_95 : List UInt8 := dkwL_law_95 ++ dktL_law_96
def dkwL_law_94 : List UInt8 := [154, 0, 15, 45, 3, 47, 21, 7, 133, 148, 153, 0, 5, 3, 172, 167, 1, 61, 43, 45, 184, 1, 67]
abbrev dktL_law_94 : List UInt8 := dkwL_law_94 ++ dktL_law_95
def dkwL_law_93 : List UInt8 := [184, 1, 64, 54, 6, 44, 182, 1, 66, 54, 7, 44, 182, 0, 158, 21, 6, 159, 0, 5, 3, 172, 21, 6]
abbrev dktL_law_93 : List UInt8 := dkwL_law_93 ++ dktL_law_94
def dkwL_law_92 : List UInt8 := [3, 172, 21, 6, 154, 0, 15, 45, 3, 47, 21, 7, 133, 148, 153, 0, 5, 3, 172, 167, 1, 105, 43, 45]
abbrev dktL_law_92 : List UInt8 := dkwL_law_92 ++ dktL_law_93
def dkwL_law_91 : List UInt8 := [54, 6, 44, 42, 21, 5, 4, 96, 46, 146, 182, 1, 63, 54, 7, 44, 182, 0, 158, 21, 6, 159, 0, 5]
abbrev dktL_law_91 : List UInt8 := dkwL_law_91 ++ dktL_law_92
def dkwL_law_90 : List UInt8 := [182, 1, 55, 44, 182, 1, 59, 159, 1, 165, 3, 172, 43, 42, 21, 5, 4, 96, 46, 146, 45, 184, 1, 60]
abbrev dktL_law_90 : List UInt8 := dkwL_law_90 ++ dktL_law_91
def dkwL_law_89 : List UInt8 := [49, 25, 4, 3, 49, 151, 153, 0, 11, 23, 7, 23, 7, 149, 154, 0, 5, 3, 172, 167, 1, 176, 43]
abbrev dktL_law_89 : List UInt8 := dkwL_law_89 ++ dktL_law_90
def dkwL_law_88 : List UInt8 := [159, 0, 5, 3, 172, 21, 6, 154, 0, 36, 25, 4, 3, 49, 23, 7, 141, 151, 153, 0, 25, 25, 4, 3]
abbrev dktL_law_88 : List UInt8 := dkwL_law_88 ++ dktL_law_89
def dkwL_law_87 : List UInt8 := [172, 167, 1, 242, 43, 25, 4, 184, 1, 52, 54, 6, 44, 182, 1, 54, 56, 7, 44, 182, 0, 158, 21, 6]
abbrev dktL_law_87 : List UInt8 := dkwL_law_87 ++ dktL_law_88
def dkwL_law_86 : List UInt8 := [153, 0, 25, 25, 4, 3, 49, 25, 4, 3, 49, 151, 153, 0, 11, 24, 7, 24, 7, 151, 154, 0, 5, 3]
abbrev dktL_law_86 : List UInt8 := dkwL_law_86 ++ dktL_law_87
def dkwL_law_85 : List UInt8 := [182, 0, 158, 21, 6, 159, 0, 5, 3, 172, 21, 6, 154, 0, 35, 25, 4, 3, 49, 24, 7, 151]
abbrev dktL_law_85 : List UInt8 := dkwL_law_85 ++ dktL_law_86
def dkwL_law_84 : List UInt8 := [153, 0, 5, 3, 172, 167, 2, 51, 43, 25, 4, 184, 1, 48, 54, 6, 44, 182, 1, 51, 57, 7, 44]
abbrev dktL_law_84 : List UInt8 := dkwL_law_84 ++ dktL_law_85
def dkwL_law_83 : List UInt8 := [182, 0, 158, 21, 6, 159, 0, 5, 3, 172, 21, 6, 154, 0, 15, 45, 3, 47, 21, 7, 133, 148]
abbrev dktL_law_83 : List UInt8 := dkwL_law_83 ++ dktL_law_84
def dkwL_law_82 : List UInt8 := [21, 5, 4, 96, 46, 45, 184, 1, 45, 54, 6, 44, 42, 21, 5, 4, 96, 46, 182, 1, 47, 54, 7, 44]
abbrev dktL_law_82 : List UInt8 := dkwL_law_82 ++ dktL_law_83
def dkwL_law_81 : List UInt8 := [172, 21, 6, 154, 0, 15, 45, 3, 47, 21, 7, 133, 148, 153, 0, 5, 3, 172, 167, 2, 107, 43, 42]
abbrev dktL_law_81 : List UInt8 := dkwL_law_81 ++ dktL_law_82
def dkwL_law_80 : List UInt8 := [54, 6, 44, 42, 21, 5, 4, 96, 46, 182, 1, 44, 54, 7, 44, 182, 0, 158, 21, 6, 159, 0, 5, 3]
abbrev dktL_law_80 : List UInt8 := dkwL_law_80 ++ dktL_law_81
def dkwL_law_79 : List UInt8 := [47, 21, 7, 133, 148, 153, 0, 5, 3, 172, 167, 2, 163, 43, 42, 21, 5, 4, 96, 46, 45, 184, 1, 42]
abbrev dktL_law_79 : List UInt8 := dkwL_law_79 ++ dktL_law_80
def dkwL_law_78 : List UInt8 := [46, 182, 1, 41, 54, 7, 44, 182, 0, 158, 21, 6, 159, 0, 5, 3, 172, 21, 6, 154, 0, 15, 45, 3]
abbrev dktL_law_78 : List UInt8 := dkwL_law_78 ++ dktL_law_79
def dkwL_law_77 : List UInt8 := [159, 2, 221, 3, 172, 43, 42, 21, 5, 4, 96, 46, 45, 184, 1, 39, 54, 6, 44, 42, 21, 5, 4, 96]
abbrev dktL_law_77 : List UInt8 := dkwL_law_77 ++ dktL_law_78
def dkwL_law_76 : List UInt8 := [172, 43, 182, 1, 31, 44, 182, 1, 34, 159, 2, 234, 3, 172, 43, 182, 1, 35, 44, 182, 1, 38]
abbrev dktL_law_76 : List UInt8 := dkwL_law_76 ++ dktL_law_77
def dkwL_law_75 : List UInt8 := [182, 1, 23, 44, 182, 1, 26, 159, 3, 4, 3, 172, 43, 182, 1, 27, 44, 182, 1, 30, 159, 2, 247, 3]
abbrev dktL_law_75 : List UInt8 := dkwL_law_75 ++ dktL_law_76
def dkwL_law_74 : List UInt8 := [153, 0, 5, 3, 172, 167, 3, 28, 43, 182, 1, 19, 44, 182, 1, 22, 159, 3, 17, 3, 172, 43]
abbrev dktL_law_74 : List UInt8 := dkwL_law_74 ++ dktL_law_75
def dkwL_law_73 : List UInt8 := [182, 0, 158, 21, 6, 159, 0, 5, 3, 172, 21, 6, 154, 0, 15, 45, 3, 47, 21, 7, 133, 148]
abbrev dktL_law_73 : List UInt8 := dkwL_law_73 ++ dktL_law_74
def dkwL_law_72 : List UInt8 := [21, 5, 4, 96, 46, 45, 184, 1, 16, 54, 6, 44, 42, 21, 5, 4, 96, 46, 182, 1, 18, 54, 7, 44]
abbrev dktL_law_72 : List UInt8 := dkwL_law_72 ++ dktL_law_73
def dkwL_law_71 : List UInt8 := [172, 21, 6, 154, 0, 15, 45, 3, 47, 21, 7, 133, 148, 153, 0, 5, 3, 172, 167, 3, 84, 43, 42]
abbrev dktL_law_71 : List UInt8 := dkwL_law_71 ++ dktL_law_72
def dkwL_law_70 : List UInt8 := [54, 6, 44, 42, 21, 5, 4, 96, 46, 182, 1, 15, 54, 7, 44, 182, 0, 158, 21, 6, 159, 0, 5, 3]
abbrev dktL_law_70 : List UInt8 := dkwL_law_70 ++ dktL_law_71
def dkwL_law_69 : List UInt8 := [47, 21, 7, 133, 148, 153, 0, 5, 3, 172, 167, 3, 140, 43, 42, 21, 5, 4, 96, 46, 45, 184, 1, 13]
abbrev dktL_law_69 : List UInt8 := dkwL_law_69 ++ dktL_law_70
def dkwL_law_68 : List UInt8 := [46, 182, 1, 12, 54, 7, 44, 182, 0, 158, 21, 6, 159, 0, 5, 3, 172, 21, 6, 154, 0, 15, 45, 3]
abbrev dktL_law_68 : List UInt8 := dkwL_law_68 ++ dktL_law_69
def dkwL_law_67 : List UInt8 := [159, 3, 198, 3, 172, 43, 42, 21, 5, 4, 96, 46, 45, 184, 1, 10, 54, 6, 44, 42, 21, 5, 4, 96]
abbrev dktL_law_67 : List UInt8 := dkwL_law_67 ++ dktL_law_68
def dkwL_law_66 : List UInt8 := [172, 43, 182, 1, 2, 44, 182, 1, 5, 159, 3, 211, 3, 172, 43, 182, 1, 6, 44, 182, 1, 9]
abbrev dktL_law_66 : List UInt8 := dkwL_law_66 ++ dktL_law_67
def dkwL_law_65 : List UInt8 := [182, 0, 250, 44, 182, 0, 253, 159, 3, 237, 3, 172, 43, 182, 0, 254, 44, 182, 1, 1, 159, 3, 224, 3]
abbrev dktL_law_65 : List UInt8 := dkwL_law_65 ++ dktL_law_66
def dkwL_law_64 : List UInt8 := [153, 0, 5, 3, 172, 167, 4, 5, 43, 182, 0, 246, 44, 182, 0, 249, 159, 3, 250, 3, 172, 43]
abbrev dktL_law_64 : List UInt8 := dkwL_law_64 ++ dktL_law_65
def dkwL_law_63 : List UInt8 := [182, 0, 158, 21, 6, 159, 0, 5, 3, 172, 21, 6, 154, 0, 15, 45, 3, 47, 21, 7, 133, 148]
abbrev dktL_law_63 : List UInt8 := dkwL_law_63 ++ dktL_law_64
def dkwL_law_62 : List UInt8 := [184, 0, 243, 54, 6, 44, 42, 21, 5, 4, 96, 46, 42, 21, 5, 5, 96, 46, 182, 0, 245, 54, 7, 44]
abbrev dktL_law_62 : List UInt8 := dkwL_law_62 ++ dktL_law_63
def dkwL_law_61 : List UInt8 := [153, 0, 5, 3, 172, 167, 4, 73, 43, 42, 21, 5, 4, 96, 46, 42, 21, 5, 5, 96, 46, 45]
abbrev dktL_law_61 : List UInt8 := dkwL_law_61 ++ dktL_law_62
def dkwL_law_60 : List UInt8 := [182, 0, 158, 21, 6, 159, 0, 5, 3, 172, 21, 6, 154, 0, 15, 45, 3, 47, 21, 7, 133, 148]
abbrev dktL_law_60 : List UInt8 := dkwL_law_60 ++ dktL_law_61
def dkwL_law_59 : List UInt8 := [184, 0, 240, 54, 6, 44, 42, 21, 5, 4, 96, 46, 42, 21, 5, 5, 96, 46, 182, 0, 242, 54, 7, 44]
abbrev dktL_law_59 : List UInt8 := dkwL_law_59 ++ dktL_law_60
def dkwL_law_58 : List UInt8 := [153, 0, 5, 3, 172, 167, 4, 141, 43, 42, 21, 5, 4, 96, 46, 42, 21, 5, 5, 96, 46, 45]
abbrev dktL_law_58 : List UInt8 := dkwL_law_58 ++ dktL_law_59
def dkwL_law_57 : List UInt8 := [159, 0, 5, 3, 172, 21, 6, 154, 0, 22, 45, 3, 47, 21, 7, 153, 0, 7, 10, 167, 0, 4, 9, 148]
abbrev dktL_law_57 : List UInt8 := dkwL_law_57 ++ dktL_law_58
def dkwL_law_56 : List UInt8 := [21, 5, 4, 96, 46, 42, 21, 5, 5, 96, 46, 182, 0, 239, 54, 7, 44, 182, 0, 158, 21, 6]
abbrev dktL_law_56 : List UInt8 := dkwL_law_56 ++ dktL_law_57
def dkwL_law_55 : List UInt8 := [167, 4, 216, 43, 42, 21, 5, 4, 96, 46, 42, 21, 5, 5, 96, 46, 45, 184, 0, 237, 54, 6, 44, 42]
abbrev dktL_law_55 : List UInt8 := dkwL_law_55 ++ dktL_law_56
def dkwL_law_54 : List UInt8 := [21, 6, 159, 0, 5, 3, 172, 21, 6, 154, 0, 15, 45, 3, 47, 21, 7, 133, 148, 153, 0, 5, 3, 172]
abbrev dktL_law_54 : List UInt8 := dkwL_law_54 ++ dktL_law_55
def dkwL_law_53 : List UInt8 := [96, 46, 45, 184, 0, 234, 54, 6, 44, 42, 21, 5, 4, 96, 46, 182, 0, 236, 54, 7, 44, 182, 0, 158]
abbrev dktL_law_53 : List UInt8 := dkwL_law_53 ++ dktL_law_54
def dkwL_law_52 : List UInt8 := [21, 7, 153, 0, 7, 10, 167, 0, 4, 9, 148, 153, 0, 5, 3, 172, 167, 5, 16, 43, 42, 21, 5, 4]
abbrev dktL_law_52 : List UInt8 := dkwL_law_52 ++ dktL_law_53
def dkwL_law_51 : List UInt8 := [182, 0, 233, 54, 7, 44, 182, 0, 158, 21, 6, 159, 0, 5, 3, 172, 21, 6, 154, 0, 22, 45, 3, 47]
abbrev dktL_law_51 : List UInt8 := dkwL_law_51 ++ dktL_law_52
def dkwL_law_50 : List UInt8 := [167, 5, 79, 43, 42, 21, 5, 4, 96, 46, 45, 184, 0, 231, 54, 6, 44, 42, 21, 5, 4, 96, 46]
abbrev dktL_law_50 : List UInt8 := dkwL_law_50 ++ dktL_law_51
def dkwL_law_49 : List UInt8 := [21, 6, 159, 0, 5, 3, 172, 21, 6, 154, 0, 15, 45, 3, 47, 21, 7, 133, 148, 153, 0, 5, 3, 172]
abbrev dktL_law_49 : List UInt8 := dkwL_law_49 ++ dktL_law_50
def dkwL_law_48 : List UInt8 := [46, 45, 184, 0, 228, 54, 6, 44, 42, 21, 5, 4, 96, 46, 182, 0, 230, 54, 7, 44, 182, 0, 158]
abbrev dktL_law_48 : List UInt8 := dkwL_law_48 ++ dktL_law_49
def dkwL_law_47 : List UInt8 := [154, 0, 15, 45, 3, 47, 21, 7, 133, 148, 153, 0, 5, 3, 172, 167, 5, 135, 43, 42, 21, 5, 4, 96]
abbrev dktL_law_47 : List UInt8 := dkwL_law_47 ++ dktL_law_48
def dkwL_law_46 : List UInt8 := [21, 5, 4, 96, 46, 182, 0, 227, 54, 7, 44, 182, 0, 158, 21, 6, 159, 0, 5, 3, 172, 21, 6]
abbrev dktL_law_46 : List UInt8 := dkwL_law_46 ++ dktL_law_47
def dkwL_law_45 : List UInt8 := [153, 0, 5, 3, 172, 167, 5, 191, 43, 42, 21, 5, 4, 96, 46, 45, 184, 0, 225, 54, 6, 44, 42]
abbrev dktL_law_45 : List UInt8 := dkwL_law_45 ++ dktL_law_46
def dkwL_law_44 : List UInt8 := [182, 0, 158, 21, 6, 159, 0, 5, 3, 172, 21, 6, 154, 0, 15, 45, 3, 47, 21, 7, 133, 148]
abbrev dktL_law_44 : List UInt8 := dkwL_law_44 ++ dktL_law_45
def dkwL_law_43 : List UInt8 := [21, 5, 4, 96, 46, 45, 184, 0, 222, 54, 6, 44, 42, 21, 5, 4, 96, 46, 182, 0, 224, 54, 7, 44]
abbrev dktL_law_43 : List UInt8 := dkwL_law_43 ++ dktL_law_44
def dkwL_law_42 : List UInt8 := [148, 153, 0, 5, 3, 172, 167, 6, 4, 43, 182, 0, 218, 44, 182, 0, 221, 159, 5, 249, 3, 172, 43, 42]
abbrev dktL_law_42 : List UInt8 := dkwL_law_42 ++ dktL_law_43
def dkwL_law_41 : List UInt8 := [54, 7, 44, 182, 0, 158, 21, 6, 159, 0, 5, 3, 172, 21, 6, 154, 0, 15, 45, 3, 47, 21, 7, 133]
abbrev dktL_law_41 : List UInt8 := dkwL_law_41 ++ dktL_law_42
def dkwL_law_40 : List UInt8 := [46, 45, 184, 0, 215, 54, 6, 44, 42, 21, 5, 4, 96, 46, 42, 21, 5, 5, 96, 46, 182, 0, 217]
abbrev dktL_law_40 : List UInt8 := dkwL_law_40 ++ dktL_law_41
def dkwL_law_39 : List UInt8 := [21, 7, 133, 148, 153, 0, 5, 3, 172, 167, 6, 72, 43, 42, 21, 5, 4, 96, 46, 42, 21, 5, 5, 96]
abbrev dktL_law_39 : List UInt8 := dkwL_law_39 ++ dktL_law_40
def dkwL_law_38 : List UInt8 := [182, 0, 214, 54, 7, 44, 182, 0, 158, 21, 6, 159, 0, 5, 3, 172, 21, 6, 154, 0, 15, 45, 3, 47]
abbrev dktL_law_38 : List UInt8 := dkwL_law_38 ++ dktL_law_39
def dkwL_law_37 : List UInt8 := [167, 6, 128, 43, 42, 21, 5, 4, 96, 46, 45, 184, 0, 212, 54, 6, 44, 42, 21, 5, 4, 96, 46]
abbrev dktL_law_37 : List UInt8 := dkwL_law_37 ++ dktL_law_38
def dkwL_law_36 : List UInt8 := [21, 6, 159, 0, 5, 3, 172, 21, 6, 154, 0, 15, 45, 3, 47, 21, 7, 133, 148, 153, 0, 5, 3, 172]
abbrev dktL_law_36 : List UInt8 := dkwL_law_36 ++ dktL_law_37
def dkwL_law_35 : List UInt8 := [46, 45, 184, 0, 209, 54, 6, 44, 42, 21, 5, 4, 96, 46, 182, 0, 211, 54, 7, 44, 182, 0, 158]
abbrev dktL_law_35 : List UInt8 := dkwL_law_35 ++ dktL_law_36
def dkwL_law_34 : List UInt8 := [154, 0, 15, 45, 3, 47, 21, 7, 133, 148, 153, 0, 5, 3, 172, 167, 6, 184, 43, 42, 21, 5, 4, 96]
abbrev dktL_law_34 : List UInt8 := dkwL_law_34 ++ dktL_law_35
def dkwL_law_33 : List UInt8 := [21, 5, 4, 96, 46, 182, 0, 208, 54, 7, 44, 182, 0, 158, 21, 6, 159, 0, 5, 3, 172, 21, 6]
abbrev dktL_law_33 : List UInt8 := dkwL_law_33 ++ dktL_law_34
def dkwL_law_32 : List UInt8 := [182, 0, 205, 159, 6, 242, 3, 172, 43, 42, 21, 5, 4, 96, 46, 45, 184, 0, 206, 54, 6, 44, 42]
abbrev dktL_law_32 : List UInt8 := dkwL_law_32 ++ dktL_law_33
def dkwL_law_31 : List UInt8 := [154, 0, 15, 45, 3, 47, 21, 7, 133, 148, 153, 0, 5, 3, 172, 167, 6, 253, 43, 182, 0, 202, 44]
abbrev dktL_law_31 : List UInt8 := dkwL_law_31 ++ dktL_law_32
def dkwL_law_30 : List UInt8 := [21, 5, 4, 96, 46, 182, 0, 201, 54, 7, 44, 182, 0, 158, 21, 6, 159, 0, 5, 3, 172, 21, 6]
abbrev dktL_law_30 : List UInt8 := dkwL_law_30 ++ dktL_law_31
def dkwL_law_29 : List UInt8 := [153, 0, 5, 3, 172, 167, 7, 53, 43, 42, 21, 5, 4, 96, 46, 45, 184, 0, 199, 54, 6, 44, 42]
abbrev dktL_law_29 : List UInt8 := dkwL_law_29 ++ dktL_law_30
def dkwL_law_28 : List UInt8 := [182, 0, 158, 21, 6, 159, 0, 5, 3, 172, 21, 6, 154, 0, 15, 45, 3, 47, 21, 7, 133, 148]
abbrev dktL_law_28 : List UInt8 := dkwL_law_28 ++ dktL_law_29
def dkwL_law_27 : List UInt8 := [21, 5, 4, 96, 46, 45, 184, 0, 196, 54, 6, 44, 42, 21, 5, 4, 96, 46, 182, 0, 198, 54, 7, 44]
abbrev dktL_law_27 : List UInt8 := dkwL_law_27 ++ dktL_law_28
def dkwL_law_26 : List UInt8 := [172, 21, 6, 154, 0, 15, 45, 3, 47, 21, 7, 133, 148, 153, 0, 5, 3, 172, 167, 7, 109, 43, 42]
abbrev dktL_law_26 : List UInt8 := dkwL_law_26 ++ dktL_law_27
def dkwL_law_25 : List UInt8 := [54, 6, 44, 42, 21, 5, 4, 96, 46, 182, 0, 195, 54, 7, 44, 182, 0, 158, 21, 6, 159, 0, 5, 3]
abbrev dktL_law_25 : List UInt8 := dkwL_law_25 ++ dktL_law_26
def dkwL_law_24 : List UInt8 := [47, 21, 7, 133, 148, 153, 0, 5, 3, 172, 167, 7, 165, 43, 42, 21, 5, 4, 96, 46, 45, 184, 0, 193]
abbrev dktL_law_24 : List UInt8 := dkwL_law_24 ++ dktL_law_25
def dkwL_law_23 : List UInt8 := [46, 182, 0, 192, 54, 7, 44, 182, 0, 158, 21, 6, 159, 0, 5, 3, 172, 21, 6, 154, 0, 15, 45, 3]
abbrev dktL_law_23 : List UInt8 := dkwL_law_23 ++ dktL_law_24
def dkwL_law_22 : List UInt8 := [159, 7, 223, 3, 172, 43, 42, 21, 5, 4, 96, 46, 45, 184, 0, 190, 54, 6, 44, 42, 21, 5, 4, 96]
abbrev dktL_law_22 : List UInt8 := dkwL_law_22 ++ dktL_law_23
def dkwL_law_21 : List UInt8 := [167, 7, 247, 43, 182, 0, 182, 44, 182, 0, 185, 159, 7, 236, 3, 172, 43, 182, 0, 186, 44, 182, 0, 189]
abbrev dktL_law_21 : List UInt8 := dkwL_law_21 ++ dktL_law_22
def dkwL_law_20 : List UInt8 := [21, 6, 159, 0, 5, 3, 172, 21, 6, 154, 0, 15, 45, 3, 47, 21, 7, 133, 148, 153, 0, 5, 3, 172]
abbrev dktL_law_20 : List UInt8 := dkwL_law_20 ++ dktL_law_21
def dkwL_law_19 : List UInt8 := [46, 45, 184, 0, 179, 54, 6, 44, 42, 21, 5, 4, 96, 46, 182, 0, 181, 54, 7, 44, 182, 0, 158]
abbrev dktL_law_19 : List UInt8 := dkwL_law_19 ++ dktL_law_20
def dkwL_law_18 : List UInt8 := [154, 0, 15, 45, 3, 47, 21, 7, 133, 148, 153, 0, 5, 3, 172, 167, 8, 47, 43, 42, 21, 5, 4, 96]
abbrev dktL_law_18 : List UInt8 := dkwL_law_18 ++ dktL_law_19
def dkwL_law_17 : List UInt8 := [21, 5, 4, 96, 46, 182, 0, 178, 54, 7, 44, 182, 0, 158, 21, 6, 159, 0, 5, 3, 172, 21, 6]
abbrev dktL_law_17 : List UInt8 := dkwL_law_17 ++ dktL_law_18
def dkwL_law_16 : List UInt8 := [148, 153, 0, 5, 3, 172, 167, 8, 103, 43, 42, 21, 5, 4, 96, 46, 45, 184, 0, 176, 54, 6, 44, 42]
abbrev dktL_law_16 : List UInt8 := dkwL_law_16 ++ dktL_law_17
def dkwL_law_15 : List UInt8 := [54, 7, 44, 182, 0, 158, 21, 6, 159, 0, 5, 3, 172, 21, 6, 154, 0, 15, 45, 3, 47, 21, 7, 133]
abbrev dktL_law_15 : List UInt8 := dkwL_law_15 ++ dktL_law_16
def dkwL_law_14 : List UInt8 := [46, 45, 184, 0, 173, 54, 6, 44, 42, 21, 5, 4, 96, 46, 42, 21, 5, 5, 96, 46, 182, 0, 175]
abbrev dktL_law_14 : List UInt8 := dkwL_law_14 ++ dktL_law_15
def dkwL_law_13 : List UInt8 := [21, 7, 133, 148, 153, 0, 5, 3, 172, 167, 8, 171, 43, 42, 21, 5, 4, 96, 46, 42, 21, 5, 5, 96]
abbrev dktL_law_13 : List UInt8 := dkwL_law_13 ++ dktL_law_14
def dkwL_law_12 : List UInt8 := [182, 0, 172, 54, 7, 44, 182, 0, 158, 21, 6, 159, 0, 5, 3, 172, 21, 6, 154, 0, 15, 45, 3, 47]
abbrev dktL_law_12 : List UInt8 := dkwL_law_12 ++ dktL_law_13
def dkwL_law_11 : List UInt8 := [167, 8, 227, 43, 42, 21, 5, 4, 96, 46, 45, 184, 0, 169, 54, 6, 44, 42, 21, 5, 4, 96, 46]
abbrev dktL_law_11 : List UInt8 := dkwL_law_11 ++ dktL_law_12
def dkwL_law_10 : List UInt8 := [21, 6, 159, 0, 5, 3, 172, 21, 6, 154, 0, 15, 45, 3, 47, 21, 7, 133, 148, 153, 0, 5, 3, 172]
abbrev dktL_law_10 : List UInt8 := dkwL_law_10 ++ dktL_law_11
def dkwL_law_9 : List UInt8 := [96, 46, 42, 21, 5, 5, 96, 46, 42, 21, 5, 6, 96, 46, 182, 0, 168, 54, 7, 44, 182, 0, 158]
abbrev dktL_law_9 : List UInt8 := dkwL_law_9 ++ dktL_law_10
def dkwL_law_8 : List UInt8 := [46, 42, 21, 5, 5, 96, 46, 42, 21, 5, 6, 96, 46, 45, 184, 0, 165, 54, 6, 44, 42, 21, 5, 4]
abbrev dktL_law_8 : List UInt8 := dkwL_law_8 ++ dktL_law_9
def dkwL_law_7 : List UInt8 := [154, 0, 15, 45, 3, 47, 21, 7, 133, 148, 153, 0, 5, 3, 172, 167, 9, 51, 43, 42, 21, 5, 4, 96]
abbrev dktL_law_7 : List UInt8 := dkwL_law_7 ++ dktL_law_8
def dkwL_law_6 : List UInt8 := [184, 0, 161, 54, 6, 44, 182, 0, 164, 54, 7, 44, 182, 0, 158, 21, 6, 159, 0, 5, 3, 172, 21, 6]
abbrev dktL_law_6 : List UInt8 := dkwL_law_6 ++ dktL_law_7
def dkwL_law_5 : List UInt8 := [21, 6, 154, 0, 15, 45, 3, 47, 21, 7, 133, 148, 153, 0, 5, 3, 172, 167, 9, 95, 43, 45]
abbrev dktL_law_5 : List UInt8 := dkwL_law_5 ++ dktL_law_6
def dkwL_law_4 : List UInt8 := [96, 46, 42, 21, 5, 5, 96, 46, 182, 0, 157, 54, 7, 44, 182, 0, 158, 21, 6, 159, 0, 5, 3, 172]
abbrev dktL_law_4 : List UInt8 := dkwL_law_4 ++ dktL_law_5
def dkwL_law_3 : List UInt8 := [43, 42, 21, 5, 4, 96, 46, 42, 21, 5, 5, 96, 46, 45, 184, 0, 152, 54, 6, 44, 42, 21, 5, 4]
abbrev dktL_law_3 : List UInt8 := dkwL_law_3 ++ dktL_law_4
def dkwL_law_2 : List UInt8 := [170, 0, 0, 0, 0, 0, 10, 144, 0, 0, 0, 0, 0, 0, 0, 55, 0, 0, 0, 240, 0, 0, 1, 52, 0, 0, 1, 96, 0, 0, 1, 176, 0, 0, 1, 232, 0, 0, 2, 44, 0, 0, 2, 100, 0, 0, 2, 156, 0, 0, 2, 169, 0, 0, 2, 182, 0, 0, 2, 238, 0, 0, 3, 38, 0, 0, 3, 94, 0, 0, 3, 150, 0, 0, 3, 163, 0, 0, 3, 219, 0, 0, 4, 19, 0, 0, 4, 75, 0, 0, 4, 143, 0, 0, 4, 156, 0, 0, 4, 212, 0, 0, 5, 12, 0, 0, 5, 68, 0, 0, 5, 131, 0, 0, 5, 187, 0, 0, 6, 6, 0, 0, 6, 74, 0, 0, 6, 142, 0, 0, 6, 155, 0, 0, 6, 168, 0, 0, 6, 181, 0, 0, 6, 194, 0, 0, 6, 207, 0, 0, 7, 7, 0, 0, 7, 63, 0, 0, 7, 119, 0, 0, 7, 132, 0, 0, 7, 145, 0, 0, 7, 158, 0, 0, 7, 171, 0, 0, 7, 184, 0, 0, 7, 240, 0, 0, 8, 40, 0, 0, 8, 96, 0, 0, 8, 161, 0, 0, 8, 227, 0, 0, 8, 240, 0, 0, 9, 42, 0, 0, 9, 86, 0, 0, 9, 130, 0, 0, 9, 174, 0, 0, 9, 230, 0, 0, 10, 30, 0, 0, 10, 43, 0, 0, 10, 87, 0, 0, 10, 100]
abbrev dktL_law_2 : List UInt8 := dkwL_law_2 ++ dktL_law_3
def dkwL_law_1 : List UInt8 := [58, 4, 3, 54, 5, 21, 5, 42, 190, 7, 100, 163, 10, 160, 42, 21, 5, 46, 16, 63, 126]
abbrev dktL_law_1 : List UInt8 := dkwL_law_1 ++ dktL_law_2
def dkwL_law_0 : List UInt8 := [187, 0, 8, 89, 183, 0, 148, 76, 187, 0, 149, 89, 183, 0, 151, 77, 4, 188, 11, 78, 4, 188, 7]
abbrev dktL_law_0 : List UInt8 := dkwL_law_0 ++ dktL_law_1
theorem dksL_law_0 : cL_law.data.toList.drop 0 = dktL_law_0 := by decide +kernel
theorem dksL_law_1 : cL_law.data.toList.drop 23 = dktL_law_1 := dk_seg dksL_law_0 23 rfl rfl
theorem dksL_law_2 : cL_law.data.toList.drop 44 = dktL_law_2 := dk_seg dksL_law_1 21 rfl rfl
theorem dksL_law_3 : cL_law.data.toList.drop 284 = dktL_law_3 := dk_seg dksL_law_2 240 rfl rfl
theorem dksL_law_4 : cL_law.data.toList.drop 308 = dktL_law_4 := dk_seg dksL_law_3 24 rfl rfl
theorem dksL_law_5 : cL_law.data.toList.drop 332 = dktL_law_5 := dk_seg dksL_law_4 24 rfl rfl
theorem dksL_law_6 : cL_law.data.toList.drop 354 = dktL_law_6 := dk_seg dksL_law_5 22 rfl rfl
theorem dksL_law_7 : cL_law.data.toList.drop 378 = dktL_law_7 := dk_seg dksL_law_6 24 rfl rfl
theorem dksL_law_8 : cL_law.data.toList.drop 402 = dktL_law_8 := dk_seg dksL_law_7 24 rfl rfl
theorem dksL_law_9 : cL_law.data.toList.drop 426 = dktL_law_9 := dk_seg dksL_law_8 24 rfl rfl
theorem dksL_law_10 : cL_law.data.toList.drop 449 = dktL_law_10 := dk_seg dksL_law_9 23 rfl rfl
theorem dksL_law_11 : cL_law.data.toList.drop 473 = dktL_law_11 := dk_seg dksL_law_10 24 rfl rfl
theorem dksL_law_12 : cL_law.data.toList.drop 496 = dktL_law_12 := dk_seg dksL_law_11 23 rfl rfl
theorem dksL_law_13 : cL_law.data.toList.drop 520 = dktL_law_13 := dk_seg dksL_law_12 24 rfl rfl
theorem dksL_law_14 : cL_law.data.toList.drop 544 = dktL_law_14 := dk_seg dksL_law_13 24 rfl rfl
theorem dksL_law_15 : cL_law.data.toList.drop 567 = dktL_law_15 := dk_seg dksL_law_14 23 rfl rfl
theorem dksL_law_16 : cL_law.data.toList.drop 591 = dktL_law_16 := dk_seg dksL_law_15 24 rfl rfl
theorem dksL_law_17 : cL_law.data.toList.drop 615 = dktL_law_17 := dk_seg dksL_law_16 24 rfl rfl
theorem dksL_law_18 : cL_law.data.toList.drop 638 = dktL_law_18 := dk_seg dksL_law_17 23 rfl rfl
theorem dksL_law_19 : cL_law.data.toList.drop 662 = dktL_law_19 := dk_seg dksL_law_18 24 rfl rfl
theorem dksL_law_20 : cL_law.data.toList.drop 685 = dktL_law_20 := dk_seg dksL_law_19 23 rfl rfl
theorem dksL_law_21 : cL_law.data.toList.drop 709 = dktL_law_21 := dk_seg dksL_law_20 24 rfl rfl
theorem dksL_law_22 : cL_law.data.toList.drop 733 = dktL_law_22 := dk_seg dksL_law_21 24 rfl rfl
theorem dksL_law_23 : cL_law.data.toList.drop 757 = dktL_law_23 := dk_seg dksL_law_22 24 rfl rfl
theorem dksL_law_24 : cL_law.data.toList.drop 781 = dktL_law_24 := dk_seg dksL_law_23 24 rfl rfl
theorem dksL_law_25 : cL_law.data.toList.drop 805 = dktL_law_25 := dk_seg dksL_law_24 24 rfl rfl
theorem dksL_law_26 : cL_law.data.toList.drop 829 = dktL_law_26 := dk_seg dksL_law_25 24 rfl rfl
theorem dksL_law_27 : cL_law.data.toList.drop 852 = dktL_law_27 := dk_seg dksL_law_26 23 rfl rfl
theorem dksL_law_28 : cL_law.data.toList.drop 876 = dktL_law_28 := dk_seg dksL_law_27 24 rfl rfl
theorem dksL_law_29 : cL_law.data.toList.drop 898 = dktL_law_29 := dk_seg dksL_law_28 22 rfl rfl
theorem dksL_law_30 : cL_law.data.toList.drop 921 = dktL_law_30 := dk_seg dksL_law_29 23 rfl rfl
theorem dksL_law_31 : cL_law.data.toList.drop 944 = dktL_law_31 := dk_seg dksL_law_30 23 rfl rfl
theorem dksL_law_32 : cL_law.data.toList.drop 967 = dktL_law_32 := dk_seg dksL_law_31 23 rfl rfl
theorem dksL_law_33 : cL_law.data.toList.drop 990 = dktL_law_33 := dk_seg dksL_law_32 23 rfl rfl
theorem dksL_law_34 : cL_law.data.toList.drop 1013 = dktL_law_34 := dk_seg dksL_law_33 23 rfl rfl
theorem dksL_law_35 : cL_law.data.toList.drop 1037 = dktL_law_35 := dk_seg dksL_law_34 24 rfl rfl
theorem dksL_law_36 : cL_law.data.toList.drop 1060 = dktL_law_36 := dk_seg dksL_law_35 23 rfl rfl
theorem dksL_law_37 : cL_law.data.toList.drop 1084 = dktL_law_37 := dk_seg dksL_law_36 24 rfl rfl
theorem dksL_law_38 : cL_law.data.toList.drop 1107 = dktL_law_38 := dk_seg dksL_law_37 23 rfl rfl
theorem dksL_law_39 : cL_law.data.toList.drop 1131 = dktL_law_39 := dk_seg dksL_law_38 24 rfl rfl
theorem dksL_law_40 : cL_law.data.toList.drop 1155 = dktL_law_40 := dk_seg dksL_law_39 24 rfl rfl
theorem dksL_law_41 : cL_law.data.toList.drop 1178 = dktL_law_41 := dk_seg dksL_law_40 23 rfl rfl
theorem dksL_law_42 : cL_law.data.toList.drop 1202 = dktL_law_42 := dk_seg dksL_law_41 24 rfl rfl
theorem dksL_law_43 : cL_law.data.toList.drop 1226 = dktL_law_43 := dk_seg dksL_law_42 24 rfl rfl
theorem dksL_law_44 : cL_law.data.toList.drop 1250 = dktL_law_44 := dk_seg dksL_law_43 24 rfl rfl
theorem dksL_law_45 : cL_law.data.toList.drop 1272 = dktL_law_45 := dk_seg dksL_law_44 22 rfl rfl
theorem dksL_law_46 : cL_law.data.toList.drop 1295 = dktL_law_46 := dk_seg dksL_law_45 23 rfl rfl
theorem dksL_law_47 : cL_law.data.toList.drop 1318 = dktL_law_47 := dk_seg dksL_law_46 23 rfl rfl
theorem dksL_law_48 : cL_law.data.toList.drop 1342 = dktL_law_48 := dk_seg dksL_law_47 24 rfl rfl
theorem dksL_law_49 : cL_law.data.toList.drop 1365 = dktL_law_49 := dk_seg dksL_law_48 23 rfl rfl
theorem dksL_law_50 : cL_law.data.toList.drop 1389 = dktL_law_50 := dk_seg dksL_law_49 24 rfl rfl
theorem dksL_law_51 : cL_law.data.toList.drop 1412 = dktL_law_51 := dk_seg dksL_law_50 23 rfl rfl
theorem dksL_law_52 : cL_law.data.toList.drop 1436 = dktL_law_52 := dk_seg dksL_law_51 24 rfl rfl
theorem dksL_law_53 : cL_law.data.toList.drop 1460 = dktL_law_53 := dk_seg dksL_law_52 24 rfl rfl
theorem dksL_law_54 : cL_law.data.toList.drop 1484 = dktL_law_54 := dk_seg dksL_law_53 24 rfl rfl
theorem dksL_law_55 : cL_law.data.toList.drop 1508 = dktL_law_55 := dk_seg dksL_law_54 24 rfl rfl
theorem dksL_law_56 : cL_law.data.toList.drop 1532 = dktL_law_56 := dk_seg dksL_law_55 24 rfl rfl
theorem dksL_law_57 : cL_law.data.toList.drop 1554 = dktL_law_57 := dk_seg dksL_law_56 22 rfl rfl
theorem dksL_law_58 : cL_law.data.toList.drop 1578 = dktL_law_58 := dk_seg dksL_law_57 24 rfl rfl
theorem dksL_law_59 : cL_law.data.toList.drop 1600 = dktL_law_59 := dk_seg dksL_law_58 22 rfl rfl
theorem dksL_law_60 : cL_law.data.toList.drop 1624 = dktL_law_60 := dk_seg dksL_law_59 24 rfl rfl
theorem dksL_law_61 : cL_law.data.toList.drop 1646 = dktL_law_61 := dk_seg dksL_law_60 22 rfl rfl
theorem dksL_law_62 : cL_law.data.toList.drop 1668 = dktL_law_62 := dk_seg dksL_law_61 22 rfl rfl
theorem dksL_law_63 : cL_law.data.toList.drop 1692 = dktL_law_63 := dk_seg dksL_law_62 24 rfl rfl
theorem dksL_law_64 : cL_law.data.toList.drop 1714 = dktL_law_64 := dk_seg dksL_law_63 22 rfl rfl
theorem dksL_law_65 : cL_law.data.toList.drop 1736 = dktL_law_65 := dk_seg dksL_law_64 22 rfl rfl
theorem dksL_law_66 : cL_law.data.toList.drop 1760 = dktL_law_66 := dk_seg dksL_law_65 24 rfl rfl
theorem dksL_law_67 : cL_law.data.toList.drop 1782 = dktL_law_67 := dk_seg dksL_law_66 22 rfl rfl
theorem dksL_law_68 : cL_law.data.toList.drop 1806 = dktL_law_68 := dk_seg dksL_law_67 24 rfl rfl
theorem dksL_law_69 : cL_law.data.toList.drop 1830 = dktL_law_69 := dk_seg dksL_law_68 24 rfl rfl
theorem dksL_law_70 : cL_law.data.toList.drop 1854 = dktL_law_70 := dk_seg dksL_law_69 24 rfl rfl
theorem dksL_law_71 : cL_law.data.toList.drop 1878 = dktL_law_71 := dk_seg dksL_law_70 24 rfl rfl
theorem dksL_law_72 : cL_law.data.toList.drop 1901 = dktL_law_72 := dk_seg dksL_law_71 23 rfl rfl
theorem dksL_law_73 : cL_law.data.toList.drop 1925 = dktL_law_73 := dk_seg dksL_law_72 24 rfl rfl
theorem dksL_law_74 : cL_law.data.toList.drop 1947 = dktL_law_74 := dk_seg dksL_law_73 22 rfl rfl
theorem dksL_law_75 : cL_law.data.toList.drop 1969 = dktL_law_75 := dk_seg dksL_law_74 22 rfl rfl
theorem dksL_law_76 : cL_law.data.toList.drop 1993 = dktL_law_76 := dk_seg dksL_law_75 24 rfl rfl
theorem dksL_law_77 : cL_law.data.toList.drop 2015 = dktL_law_77 := dk_seg dksL_law_76 22 rfl rfl
theorem dksL_law_78 : cL_law.data.toList.drop 2039 = dktL_law_78 := dk_seg dksL_law_77 24 rfl rfl
theorem dksL_law_79 : cL_law.data.toList.drop 2063 = dktL_law_79 := dk_seg dksL_law_78 24 rfl rfl
theorem dksL_law_80 : cL_law.data.toList.drop 2087 = dktL_law_80 := dk_seg dksL_law_79 24 rfl rfl
theorem dksL_law_81 : cL_law.data.toList.drop 2111 = dktL_law_81 := dk_seg dksL_law_80 24 rfl rfl
theorem dksL_law_82 : cL_law.data.toList.drop 2134 = dktL_law_82 := dk_seg dksL_law_81 23 rfl rfl
theorem dksL_law_83 : cL_law.data.toList.drop 2158 = dktL_law_83 := dk_seg dksL_law_82 24 rfl rfl
theorem dksL_law_84 : cL_law.data.toList.drop 2180 = dktL_law_84 := dk_seg dksL_law_83 22 rfl rfl
theorem dksL_law_85 : cL_law.data.toList.drop 2203 = dktL_law_85 := dk_seg dksL_law_84 23 rfl rfl
theorem dksL_law_86 : cL_law.data.toList.drop 2225 = dktL_law_86 := dk_seg dksL_law_85 22 rfl rfl
theorem dksL_law_87 : cL_law.data.toList.drop 2249 = dktL_law_87 := dk_seg dksL_law_86 24 rfl rfl
theorem dksL_law_88 : cL_law.data.toList.drop 2273 = dktL_law_88 := dk_seg dksL_law_87 24 rfl rfl
theorem dksL_law_89 : cL_law.data.toList.drop 2297 = dktL_law_89 := dk_seg dksL_law_88 24 rfl rfl
theorem dksL_law_90 : cL_law.data.toList.drop 2320 = dktL_law_90 := dk_seg dksL_law_89 23 rfl rfl
theorem dksL_law_91 : cL_law.data.toList.drop 2344 = dktL_law_91 := dk_seg dksL_law_90 24 rfl rfl
theorem dksL_law_92 : cL_law.data.toList.drop 2368 = dktL_law_92 := dk_seg dksL_law_91 24 rfl rfl
theorem dksL_law_93 : cL_law.data.toList.drop 2392 = dktL_law_93 := dk_seg dksL_law_92 24 rfl rfl
theorem dksL_law_94 : cL_law.data.toList.drop 2416 = dktL_law_94 := dk_seg dksL_law_93 24 rfl rfl
theorem dksL_law_95 : cL_law.data.toList.drop 2439 = dktL_law_95 := dk_seg dksL_law_94 23 rfl rfl
theorem dksL_law_96 : cL_law.data.toList.drop 2463 = dktL_law_96 := dk_seg dksL_law_95 24 rfl rfl
theorem dksL_law_97 : cL_law.data.toList.drop 2486 = dktL_law_97 := dk_seg dksL_law_96 23 rfl rfl
theorem dksL_law_98 : cL_law.data.toList.drop 2510 = dktL_law_98 := dk_seg dksL_law_97 24 rfl rfl
theorem dksL_law_99 : cL_law.data.toList.drop 2533 = dktL_law_99 := dk_seg dksL_law_98 23 rfl rfl
theorem dksL_law_100 : cL_law.data.toList.drop 2557 = dktL_law_100 := dk_seg dksL_law_99 24 rfl rfl
theorem dksL_law_101 : cL_law.data.toList.drop 2580 = dktL_law_101 := dk_seg dksL_law_100 23 rfl rfl
theorem dksL_law_102 : cL_law.data.toList.drop 2604 = dktL_law_102 := dk_seg dksL_law_101 24 rfl rfl
theorem dksL_law_103 : cL_law.data.toList.drop 2626 = dktL_law_103 := dk_seg dksL_law_102 22 rfl rfl
theorem dksL_law_104 : cL_law.data.toList.drop 2649 = dktL_law_104 := dk_seg dksL_law_103 23 rfl rfl
theorem dksL_law_105 : cL_law.data.toList.drop 2673 = dktL_law_105 := dk_seg dksL_law_104 24 rfl rfl
theorem dksL_law_106 : cL_law.data.toList.drop 2696 = dktL_law_106 := dk_seg dksL_law_105 23 rfl rfl
theorem dksL_law_107 : cL_law.data.toList.drop 2718 = dktL_law_107 := dk_seg dksL_law_106 22 rfl rfl
theorem dksL_law_108 : cL_law.data.toList.drop 2740 = dktL_law_108 := dk_seg dksL_law_107 22 rfl rfl
theorem dL_law_0 : decode cL_law 0 = .ok (.new 8, 3) := dk_187 0 8 (dk_at dksL_law_0 0 rfl rfl)
theorem dL_law_3 : decode cL_law 3 = .ok (.dup, 1) := dk_89 (dk_at dksL_law_0 3 rfl rfl)
theorem dL_law_4 : decode cL_law 4 = .ok (.invokespecial 148, 3) := dk_183 0 148 (dk_at dksL_law_0 4 rfl rfl)
theorem dL_law_7 : decode cL_law 7 = .ok (.astore_n 1, 1) := dk_76 (dk_at dksL_law_0 7 rfl rfl)
theorem dL_law_8 : decode cL_law 8 = .ok (.new 149, 3) := dk_187 0 149 (dk_at dksL_law_0 8 rfl rfl)
theorem dL_law_11 : decode cL_law 11 = .ok (.dup, 1) := dk_89 (dk_at dksL_law_0 11 rfl rfl)
theorem dL_law_12 : decode cL_law 12 = .ok (.invokespecial 151, 3) := dk_183 0 151 (dk_at dksL_law_0 12 rfl rfl)
theorem dL_law_15 : decode cL_law 15 = .ok (.astore_n 2, 1) := dk_77 (dk_at dksL_law_0 15 rfl rfl)
theorem dL_law_16 : decode cL_law 16 = .ok (.iconst 1, 1) := dk_4 (dk_at dksL_law_0 16 rfl rfl)
theorem dL_law_17 : decode cL_law 17 = .ok (.newarray .long, 2) := dk_188_11 (dk_at dksL_law_0 17 rfl rfl)
theorem dL_law_19 : decode cL_law 19 = .ok (.astore_n 3, 1) := dk_78 (dk_at dksL_law_0 19 rfl rfl)
theorem dL_law_20 : decode cL_law 20 = .ok (.iconst 1, 1) := dk_4 (dk_at dksL_law_0 20 rfl rfl)
theorem dL_law_21 : decode cL_law 21 = .ok (.newarray .double, 2) := dk_188_7 (dk_at dksL_law_0 21 rfl rfl)
theorem dL_law_23 : decode cL_law 23 = .ok (.astore 4, 2) := dk_58 4 (dk_at dksL_law_1 0 rfl rfl)
theorem dL_law_25 : decode cL_law 25 = .ok (.iconst 0, 1) := dk_3 (dk_at dksL_law_1 2 rfl rfl)
theorem dL_law_26 : decode cL_law 26 = .ok (.istore 5, 2) := dk_54 5 (dk_at dksL_law_1 3 rfl rfl)
theorem dL_law_28 : decode cL_law 28 = .ok (.iload 5, 2) := dk_21 5 (dk_at dksL_law_1 5 rfl rfl)
theorem dL_law_30 : decode cL_law 30 = .ok (.aload_n 0, 1) := dk_42 (dk_at dksL_law_1 7 rfl rfl)
theorem dL_law_31 : decode cL_law 31 = .ok (.arraylength, 1) := dk_190 (dk_at dksL_law_1 8 rfl rfl)
theorem dL_law_32 : decode cL_law 32 = .ok (.iconst 4, 1) := dk_7 (dk_at dksL_law_1 9 rfl rfl)
theorem dL_law_33 : decode cL_law 33 = .ok (.isub, 1) := dk_100 (dk_at dksL_law_1 10 rfl rfl)
theorem dL_law_34 : decode cL_law 34 = .ok (.if_icmp .gt 2720, 3) := dk_163 10 160 (dk_at dksL_law_1 11 rfl rfl)
theorem dL_law_37 : decode cL_law 37 = .ok (.aload_n 0, 1) := dk_42 (dk_at dksL_law_1 14 rfl rfl)
theorem dL_law_38 : decode cL_law 38 = .ok (.iload 5, 2) := dk_21 5 (dk_at dksL_law_1 15 rfl rfl)
theorem dL_law_40 : decode cL_law 40 = .ok (.iaload, 1) := dk_46 (dk_at dksL_law_1 17 rfl rfl)
theorem dL_law_41 : decode cL_law 41 = .ok (.bipush 63, 2) := dk_16 63 (dk_at dksL_law_1 18 rfl rfl)
theorem dL_law_43 : decode cL_law 43 = .ok (.iand, 1) := dk_126 (dk_at dksL_law_1 20 rfl rfl)
theorem dL_law_44 : decode cL_law 44 = .ok (.tableswitch 2704 0 55 #[240, 308, 352, 432, 488, 556, 612, 668, 681, 694, 750, 806, 862, 918, 931, 987, 1043, 1099, 1167, 1180, 1236, 1292, 1348, 1411, 1467, 1542, 1610, 1678, 1691, 1704, 1717, 1730, 1743, 1799, 1855, 1911, 1924, 1937, 1950, 1963, 1976, 2032, 2088, 2144, 2209, 2275, 2288, 2346, 2390, 2434, 2478, 2534, 2590, 2603, 2647, 2660], 240) := by decide +kernel
theorem dL_law_284 : decode cL_law 284 = .ok (.aload_n 1, 1) := dk_43 (dk_at dksL_law_3 0 rfl rfl)
theorem dL_law_285 : decode cL_law 285 = .ok (.aload_n 0, 1) := dk_42 (dk_at dksL_law_3 1 rfl rfl)
theorem dL_law_286 : decode cL_law 286 = .ok (.iload 5, 2) := dk_21 5 (dk_at dksL_law_3 2 rfl rfl)
theorem dL_law_288 : decode cL_law 288 = .ok (.iconst 1, 1) := dk_4 (dk_at dksL_law_3 4 rfl rfl)
theorem dL_law_289 : decode cL_law 289 = .ok (.iadd, 1) := dk_96 (dk_at dksL_law_3 5 rfl rfl)
theorem dL_law_290 : decode cL_law 290 = .ok (.iaload, 1) := dk_46 (dk_at dksL_law_3 6 rfl rfl)
theorem dL_law_291 : decode cL_law 291 = .ok (.aload_n 0, 1) := dk_42 (dk_at dksL_law_3 7 rfl rfl)
theorem dL_law_292 : decode cL_law 292 = .ok (.iload 5, 2) := dk_21 5 (dk_at dksL_law_3 8 rfl rfl)
theorem dL_law_294 : decode cL_law 294 = .ok (.iconst 2, 1) := dk_5 (dk_at dksL_law_3 10 rfl rfl)
theorem dL_law_295 : decode cL_law 295 = .ok (.iadd, 1) := dk_96 (dk_at dksL_law_3 11 rfl rfl)
theorem dL_law_296 : decode cL_law 296 = .ok (.iaload, 1) := dk_46 (dk_at dksL_law_3 12 rfl rfl)
theorem dL_law_297 : decode cL_law 297 = .ok (.aload_n 3, 1) := dk_45 (dk_at dksL_law_3 13 rfl rfl)
theorem dL_law_298 : decode cL_law 298 = .ok (.invokestatic 152, 3) := dk_184 0 152 (dk_at dksL_law_3 14 rfl rfl)
theorem dL_law_301 : decode cL_law 301 = .ok (.istore 6, 2) := dk_54 6 (dk_at dksL_law_3 17 rfl rfl)
theorem dL_law_303 : decode cL_law 303 = .ok (.aload_n 2, 1) := dk_44 (dk_at dksL_law_3 19 rfl rfl)
theorem dL_law_304 : decode cL_law 304 = .ok (.aload_n 0, 1) := dk_42 (dk_at dksL_law_3 20 rfl rfl)
theorem dL_law_305 : decode cL_law 305 = .ok (.iload 5, 2) := dk_21 5 (dk_at dksL_law_3 21 rfl rfl)
theorem dL_law_307 : decode cL_law 307 = .ok (.iconst 1, 1) := dk_4 (dk_at dksL_law_3 23 rfl rfl)
theorem dL_law_308 : decode cL_law 308 = .ok (.iadd, 1) := dk_96 (dk_at dksL_law_4 0 rfl rfl)
theorem dL_law_309 : decode cL_law 309 = .ok (.iaload, 1) := dk_46 (dk_at dksL_law_4 1 rfl rfl)
theorem dL_law_310 : decode cL_law 310 = .ok (.aload_n 0, 1) := dk_42 (dk_at dksL_law_4 2 rfl rfl)
theorem dL_law_311 : decode cL_law 311 = .ok (.iload 5, 2) := dk_21 5 (dk_at dksL_law_4 3 rfl rfl)
theorem dL_law_313 : decode cL_law 313 = .ok (.iconst 2, 1) := dk_5 (dk_at dksL_law_4 5 rfl rfl)
theorem dL_law_314 : decode cL_law 314 = .ok (.iadd, 1) := dk_96 (dk_at dksL_law_4 6 rfl rfl)
theorem dL_law_315 : decode cL_law 315 = .ok (.iaload, 1) := dk_46 (dk_at dksL_law_4 7 rfl rfl)
theorem dL_law_316 : decode cL_law 316 = .ok (.invokevirtual 157, 3) := dk_182 0 157 (dk_at dksL_law_4 8 rfl rfl)
theorem dL_law_319 : decode cL_law 319 = .ok (.istore 7, 2) := dk_54 7 (dk_at dksL_law_4 11 rfl rfl)
theorem dL_law_321 : decode cL_law 321 = .ok (.aload_n 2, 1) := dk_44 (dk_at dksL_law_4 13 rfl rfl)
theorem dL_law_322 : decode cL_law 322 = .ok (.invokevirtual 158, 3) := dk_182 0 158 (dk_at dksL_law_4 14 rfl rfl)
theorem dL_law_325 : decode cL_law 325 = .ok (.iload 6, 2) := dk_21 6 (dk_at dksL_law_4 17 rfl rfl)
theorem dL_law_327 : decode cL_law 327 = .ok (.if_icmp .eq 5, 3) := dk_159 0 5 (dk_at dksL_law_4 19 rfl rfl)
theorem dL_law_330 : decode cL_law 330 = .ok (.iconst 0, 1) := dk_3 (dk_at dksL_law_4 22 rfl rfl)
theorem dL_law_331 : decode cL_law 331 = .ok (.ireturn, 1) := dk_172 (dk_at dksL_law_4 23 rfl rfl)
theorem dL_law_332 : decode cL_law 332 = .ok (.iload 6, 2) := dk_21 6 (dk_at dksL_law_5 0 rfl rfl)
theorem dL_law_334 : decode cL_law 334 = .ok (.ifCond .ne 15, 3) := dk_154 0 15 (dk_at dksL_law_5 2 rfl rfl)
theorem dL_law_337 : decode cL_law 337 = .ok (.aload_n 3, 1) := dk_45 (dk_at dksL_law_5 5 rfl rfl)
theorem dL_law_338 : decode cL_law 338 = .ok (.iconst 0, 1) := dk_3 (dk_at dksL_law_5 6 rfl rfl)
theorem dL_law_339 : decode cL_law 339 = .ok (.laload, 1) := dk_47 (dk_at dksL_law_5 7 rfl rfl)
theorem dL_law_340 : decode cL_law 340 = .ok (.iload 7, 2) := dk_21 7 (dk_at dksL_law_5 8 rfl rfl)
theorem dL_law_342 : decode cL_law 342 = .ok (.i2l, 1) := dk_133 (dk_at dksL_law_5 10 rfl rfl)
theorem dL_law_343 : decode cL_law 343 = .ok (.lcmp, 1) := dk_148 (dk_at dksL_law_5 11 rfl rfl)
theorem dL_law_344 : decode cL_law 344 = .ok (.ifCond .eq 5, 3) := dk_153 0 5 (dk_at dksL_law_5 12 rfl rfl)
theorem dL_law_347 : decode cL_law 347 = .ok (.iconst 0, 1) := dk_3 (dk_at dksL_law_5 15 rfl rfl)
theorem dL_law_348 : decode cL_law 348 = .ok (.ireturn, 1) := dk_172 (dk_at dksL_law_5 16 rfl rfl)
theorem dL_law_349 : decode cL_law 349 = .ok (.goto 2399, 3) := dk_167 9 95 (dk_at dksL_law_5 17 rfl rfl)
theorem dL_law_352 : decode cL_law 352 = .ok (.aload_n 1, 1) := dk_43 (dk_at dksL_law_5 20 rfl rfl)
theorem dL_law_353 : decode cL_law 353 = .ok (.aload_n 3, 1) := dk_45 (dk_at dksL_law_5 21 rfl rfl)
theorem dL_law_354 : decode cL_law 354 = .ok (.invokestatic 161, 3) := dk_184 0 161 (dk_at dksL_law_6 0 rfl rfl)
theorem dL_law_357 : decode cL_law 357 = .ok (.istore 6, 2) := dk_54 6 (dk_at dksL_law_6 3 rfl rfl)
theorem dL_law_359 : decode cL_law 359 = .ok (.aload_n 2, 1) := dk_44 (dk_at dksL_law_6 5 rfl rfl)
theorem dL_law_360 : decode cL_law 360 = .ok (.invokevirtual 164, 3) := dk_182 0 164 (dk_at dksL_law_6 6 rfl rfl)
theorem dL_law_363 : decode cL_law 363 = .ok (.istore 7, 2) := dk_54 7 (dk_at dksL_law_6 9 rfl rfl)
theorem dL_law_365 : decode cL_law 365 = .ok (.aload_n 2, 1) := dk_44 (dk_at dksL_law_6 11 rfl rfl)
theorem dL_law_366 : decode cL_law 366 = .ok (.invokevirtual 158, 3) := dk_182 0 158 (dk_at dksL_law_6 12 rfl rfl)
theorem dL_law_369 : decode cL_law 369 = .ok (.iload 6, 2) := dk_21 6 (dk_at dksL_law_6 15 rfl rfl)
theorem dL_law_371 : decode cL_law 371 = .ok (.if_icmp .eq 5, 3) := dk_159 0 5 (dk_at dksL_law_6 17 rfl rfl)
theorem dL_law_374 : decode cL_law 374 = .ok (.iconst 0, 1) := dk_3 (dk_at dksL_law_6 20 rfl rfl)
theorem dL_law_375 : decode cL_law 375 = .ok (.ireturn, 1) := dk_172 (dk_at dksL_law_6 21 rfl rfl)
theorem dL_law_376 : decode cL_law 376 = .ok (.iload 6, 2) := dk_21 6 (dk_at dksL_law_6 22 rfl rfl)
theorem dL_law_378 : decode cL_law 378 = .ok (.ifCond .ne 15, 3) := dk_154 0 15 (dk_at dksL_law_7 0 rfl rfl)
theorem dL_law_381 : decode cL_law 381 = .ok (.aload_n 3, 1) := dk_45 (dk_at dksL_law_7 3 rfl rfl)
theorem dL_law_382 : decode cL_law 382 = .ok (.iconst 0, 1) := dk_3 (dk_at dksL_law_7 4 rfl rfl)
theorem dL_law_383 : decode cL_law 383 = .ok (.laload, 1) := dk_47 (dk_at dksL_law_7 5 rfl rfl)
theorem dL_law_384 : decode cL_law 384 = .ok (.iload 7, 2) := dk_21 7 (dk_at dksL_law_7 6 rfl rfl)
theorem dL_law_386 : decode cL_law 386 = .ok (.i2l, 1) := dk_133 (dk_at dksL_law_7 8 rfl rfl)
theorem dL_law_387 : decode cL_law 387 = .ok (.lcmp, 1) := dk_148 (dk_at dksL_law_7 9 rfl rfl)
theorem dL_law_388 : decode cL_law 388 = .ok (.ifCond .eq 5, 3) := dk_153 0 5 (dk_at dksL_law_7 10 rfl rfl)
theorem dL_law_391 : decode cL_law 391 = .ok (.iconst 0, 1) := dk_3 (dk_at dksL_law_7 13 rfl rfl)
theorem dL_law_392 : decode cL_law 392 = .ok (.ireturn, 1) := dk_172 (dk_at dksL_law_7 14 rfl rfl)
theorem dL_law_393 : decode cL_law 393 = .ok (.goto 2355, 3) := dk_167 9 51 (dk_at dksL_law_7 15 rfl rfl)
theorem dL_law_396 : decode cL_law 396 = .ok (.aload_n 1, 1) := dk_43 (dk_at dksL_law_7 18 rfl rfl)
theorem dL_law_397 : decode cL_law 397 = .ok (.aload_n 0, 1) := dk_42 (dk_at dksL_law_7 19 rfl rfl)
theorem dL_law_398 : decode cL_law 398 = .ok (.iload 5, 2) := dk_21 5 (dk_at dksL_law_7 20 rfl rfl)
theorem dL_law_400 : decode cL_law 400 = .ok (.iconst 1, 1) := dk_4 (dk_at dksL_law_7 22 rfl rfl)
theorem dL_law_401 : decode cL_law 401 = .ok (.iadd, 1) := dk_96 (dk_at dksL_law_7 23 rfl rfl)
theorem dL_law_402 : decode cL_law 402 = .ok (.iaload, 1) := dk_46 (dk_at dksL_law_8 0 rfl rfl)
theorem dL_law_403 : decode cL_law 403 = .ok (.aload_n 0, 1) := dk_42 (dk_at dksL_law_8 1 rfl rfl)
theorem dL_law_404 : decode cL_law 404 = .ok (.iload 5, 2) := dk_21 5 (dk_at dksL_law_8 2 rfl rfl)
theorem dL_law_406 : decode cL_law 406 = .ok (.iconst 2, 1) := dk_5 (dk_at dksL_law_8 4 rfl rfl)
theorem dL_law_407 : decode cL_law 407 = .ok (.iadd, 1) := dk_96 (dk_at dksL_law_8 5 rfl rfl)
theorem dL_law_408 : decode cL_law 408 = .ok (.iaload, 1) := dk_46 (dk_at dksL_law_8 6 rfl rfl)
theorem dL_law_409 : decode cL_law 409 = .ok (.aload_n 0, 1) := dk_42 (dk_at dksL_law_8 7 rfl rfl)
theorem dL_law_410 : decode cL_law 410 = .ok (.iload 5, 2) := dk_21 5 (dk_at dksL_law_8 8 rfl rfl)
theorem dL_law_412 : decode cL_law 412 = .ok (.iconst 3, 1) := dk_6 (dk_at dksL_law_8 10 rfl rfl)
theorem dL_law_413 : decode cL_law 413 = .ok (.iadd, 1) := dk_96 (dk_at dksL_law_8 11 rfl rfl)
theorem dL_law_414 : decode cL_law 414 = .ok (.iaload, 1) := dk_46 (dk_at dksL_law_8 12 rfl rfl)
theorem dL_law_415 : decode cL_law 415 = .ok (.aload_n 3, 1) := dk_45 (dk_at dksL_law_8 13 rfl rfl)
theorem dL_law_416 : decode cL_law 416 = .ok (.invokestatic 165, 3) := dk_184 0 165 (dk_at dksL_law_8 14 rfl rfl)
theorem dL_law_419 : decode cL_law 419 = .ok (.istore 6, 2) := dk_54 6 (dk_at dksL_law_8 17 rfl rfl)
theorem dL_law_421 : decode cL_law 421 = .ok (.aload_n 2, 1) := dk_44 (dk_at dksL_law_8 19 rfl rfl)
theorem dL_law_422 : decode cL_law 422 = .ok (.aload_n 0, 1) := dk_42 (dk_at dksL_law_8 20 rfl rfl)
theorem dL_law_423 : decode cL_law 423 = .ok (.iload 5, 2) := dk_21 5 (dk_at dksL_law_8 21 rfl rfl)
theorem dL_law_425 : decode cL_law 425 = .ok (.iconst 1, 1) := dk_4 (dk_at dksL_law_8 23 rfl rfl)
theorem dL_law_426 : decode cL_law 426 = .ok (.iadd, 1) := dk_96 (dk_at dksL_law_9 0 rfl rfl)
theorem dL_law_427 : decode cL_law 427 = .ok (.iaload, 1) := dk_46 (dk_at dksL_law_9 1 rfl rfl)
theorem dL_law_428 : decode cL_law 428 = .ok (.aload_n 0, 1) := dk_42 (dk_at dksL_law_9 2 rfl rfl)
theorem dL_law_429 : decode cL_law 429 = .ok (.iload 5, 2) := dk_21 5 (dk_at dksL_law_9 3 rfl rfl)
theorem dL_law_431 : decode cL_law 431 = .ok (.iconst 2, 1) := dk_5 (dk_at dksL_law_9 5 rfl rfl)
theorem dL_law_432 : decode cL_law 432 = .ok (.iadd, 1) := dk_96 (dk_at dksL_law_9 6 rfl rfl)
theorem dL_law_433 : decode cL_law 433 = .ok (.iaload, 1) := dk_46 (dk_at dksL_law_9 7 rfl rfl)
theorem dL_law_434 : decode cL_law 434 = .ok (.aload_n 0, 1) := dk_42 (dk_at dksL_law_9 8 rfl rfl)
theorem dL_law_435 : decode cL_law 435 = .ok (.iload 5, 2) := dk_21 5 (dk_at dksL_law_9 9 rfl rfl)
theorem dL_law_437 : decode cL_law 437 = .ok (.iconst 3, 1) := dk_6 (dk_at dksL_law_9 11 rfl rfl)
theorem dL_law_438 : decode cL_law 438 = .ok (.iadd, 1) := dk_96 (dk_at dksL_law_9 12 rfl rfl)
theorem dL_law_439 : decode cL_law 439 = .ok (.iaload, 1) := dk_46 (dk_at dksL_law_9 13 rfl rfl)
theorem dL_law_440 : decode cL_law 440 = .ok (.invokevirtual 168, 3) := dk_182 0 168 (dk_at dksL_law_9 14 rfl rfl)
theorem dL_law_443 : decode cL_law 443 = .ok (.istore 7, 2) := dk_54 7 (dk_at dksL_law_9 17 rfl rfl)
theorem dL_law_445 : decode cL_law 445 = .ok (.aload_n 2, 1) := dk_44 (dk_at dksL_law_9 19 rfl rfl)
theorem dL_law_446 : decode cL_law 446 = .ok (.invokevirtual 158, 3) := dk_182 0 158 (dk_at dksL_law_9 20 rfl rfl)
theorem dL_law_449 : decode cL_law 449 = .ok (.iload 6, 2) := dk_21 6 (dk_at dksL_law_10 0 rfl rfl)
theorem dL_law_451 : decode cL_law 451 = .ok (.if_icmp .eq 5, 3) := dk_159 0 5 (dk_at dksL_law_10 2 rfl rfl)
theorem dL_law_454 : decode cL_law 454 = .ok (.iconst 0, 1) := dk_3 (dk_at dksL_law_10 5 rfl rfl)
theorem dL_law_455 : decode cL_law 455 = .ok (.ireturn, 1) := dk_172 (dk_at dksL_law_10 6 rfl rfl)
theorem dL_law_456 : decode cL_law 456 = .ok (.iload 6, 2) := dk_21 6 (dk_at dksL_law_10 7 rfl rfl)
theorem dL_law_458 : decode cL_law 458 = .ok (.ifCond .ne 15, 3) := dk_154 0 15 (dk_at dksL_law_10 9 rfl rfl)
theorem dL_law_461 : decode cL_law 461 = .ok (.aload_n 3, 1) := dk_45 (dk_at dksL_law_10 12 rfl rfl)
theorem dL_law_462 : decode cL_law 462 = .ok (.iconst 0, 1) := dk_3 (dk_at dksL_law_10 13 rfl rfl)
theorem dL_law_463 : decode cL_law 463 = .ok (.laload, 1) := dk_47 (dk_at dksL_law_10 14 rfl rfl)
theorem dL_law_464 : decode cL_law 464 = .ok (.iload 7, 2) := dk_21 7 (dk_at dksL_law_10 15 rfl rfl)
theorem dL_law_466 : decode cL_law 466 = .ok (.i2l, 1) := dk_133 (dk_at dksL_law_10 17 rfl rfl)
theorem dL_law_467 : decode cL_law 467 = .ok (.lcmp, 1) := dk_148 (dk_at dksL_law_10 18 rfl rfl)
theorem dL_law_468 : decode cL_law 468 = .ok (.ifCond .eq 5, 3) := dk_153 0 5 (dk_at dksL_law_10 19 rfl rfl)
theorem dL_law_471 : decode cL_law 471 = .ok (.iconst 0, 1) := dk_3 (dk_at dksL_law_10 22 rfl rfl)
theorem dL_law_472 : decode cL_law 472 = .ok (.ireturn, 1) := dk_172 (dk_at dksL_law_10 23 rfl rfl)
theorem dL_law_473 : decode cL_law 473 = .ok (.goto 2275, 3) := dk_167 8 227 (dk_at dksL_law_11 0 rfl rfl)
theorem dL_law_476 : decode cL_law 476 = .ok (.aload_n 1, 1) := dk_43 (dk_at dksL_law_11 3 rfl rfl)
theorem dL_law_477 : decode cL_law 477 = .ok (.aload_n 0, 1) := dk_42 (dk_at dksL_law_11 4 rfl rfl)
theorem dL_law_478 : decode cL_law 478 = .ok (.iload 5, 2) := dk_21 5 (dk_at dksL_law_11 5 rfl rfl)
theorem dL_law_480 : decode cL_law 480 = .ok (.iconst 1, 1) := dk_4 (dk_at dksL_law_11 7 rfl rfl)
theorem dL_law_481 : decode cL_law 481 = .ok (.iadd, 1) := dk_96 (dk_at dksL_law_11 8 rfl rfl)
theorem dL_law_482 : decode cL_law 482 = .ok (.iaload, 1) := dk_46 (dk_at dksL_law_11 9 rfl rfl)
theorem dL_law_483 : decode cL_law 483 = .ok (.aload_n 3, 1) := dk_45 (dk_at dksL_law_11 10 rfl rfl)
theorem dL_law_484 : decode cL_law 484 = .ok (.invokestatic 169, 3) := dk_184 0 169 (dk_at dksL_law_11 11 rfl rfl)
theorem dL_law_487 : decode cL_law 487 = .ok (.istore 6, 2) := dk_54 6 (dk_at dksL_law_11 14 rfl rfl)
theorem dL_law_489 : decode cL_law 489 = .ok (.aload_n 2, 1) := dk_44 (dk_at dksL_law_11 16 rfl rfl)
theorem dL_law_490 : decode cL_law 490 = .ok (.aload_n 0, 1) := dk_42 (dk_at dksL_law_11 17 rfl rfl)
theorem dL_law_491 : decode cL_law 491 = .ok (.iload 5, 2) := dk_21 5 (dk_at dksL_law_11 18 rfl rfl)
theorem dL_law_493 : decode cL_law 493 = .ok (.iconst 1, 1) := dk_4 (dk_at dksL_law_11 20 rfl rfl)
theorem dL_law_494 : decode cL_law 494 = .ok (.iadd, 1) := dk_96 (dk_at dksL_law_11 21 rfl rfl)
theorem dL_law_495 : decode cL_law 495 = .ok (.iaload, 1) := dk_46 (dk_at dksL_law_11 22 rfl rfl)
theorem dL_law_496 : decode cL_law 496 = .ok (.invokevirtual 172, 3) := dk_182 0 172 (dk_at dksL_law_12 0 rfl rfl)
theorem dL_law_499 : decode cL_law 499 = .ok (.istore 7, 2) := dk_54 7 (dk_at dksL_law_12 3 rfl rfl)
theorem dL_law_501 : decode cL_law 501 = .ok (.aload_n 2, 1) := dk_44 (dk_at dksL_law_12 5 rfl rfl)
theorem dL_law_502 : decode cL_law 502 = .ok (.invokevirtual 158, 3) := dk_182 0 158 (dk_at dksL_law_12 6 rfl rfl)
theorem dL_law_505 : decode cL_law 505 = .ok (.iload 6, 2) := dk_21 6 (dk_at dksL_law_12 9 rfl rfl)
theorem dL_law_507 : decode cL_law 507 = .ok (.if_icmp .eq 5, 3) := dk_159 0 5 (dk_at dksL_law_12 11 rfl rfl)
theorem dL_law_510 : decode cL_law 510 = .ok (.iconst 0, 1) := dk_3 (dk_at dksL_law_12 14 rfl rfl)
theorem dL_law_511 : decode cL_law 511 = .ok (.ireturn, 1) := dk_172 (dk_at dksL_law_12 15 rfl rfl)
theorem dL_law_512 : decode cL_law 512 = .ok (.iload 6, 2) := dk_21 6 (dk_at dksL_law_12 16 rfl rfl)
theorem dL_law_514 : decode cL_law 514 = .ok (.ifCond .ne 15, 3) := dk_154 0 15 (dk_at dksL_law_12 18 rfl rfl)
theorem dL_law_517 : decode cL_law 517 = .ok (.aload_n 3, 1) := dk_45 (dk_at dksL_law_12 21 rfl rfl)
theorem dL_law_518 : decode cL_law 518 = .ok (.iconst 0, 1) := dk_3 (dk_at dksL_law_12 22 rfl rfl)
theorem dL_law_519 : decode cL_law 519 = .ok (.laload, 1) := dk_47 (dk_at dksL_law_12 23 rfl rfl)
theorem dL_law_520 : decode cL_law 520 = .ok (.iload 7, 2) := dk_21 7 (dk_at dksL_law_13 0 rfl rfl)
theorem dL_law_522 : decode cL_law 522 = .ok (.i2l, 1) := dk_133 (dk_at dksL_law_13 2 rfl rfl)
theorem dL_law_523 : decode cL_law 523 = .ok (.lcmp, 1) := dk_148 (dk_at dksL_law_13 3 rfl rfl)
theorem dL_law_524 : decode cL_law 524 = .ok (.ifCond .eq 5, 3) := dk_153 0 5 (dk_at dksL_law_13 4 rfl rfl)
theorem dL_law_527 : decode cL_law 527 = .ok (.iconst 0, 1) := dk_3 (dk_at dksL_law_13 7 rfl rfl)
theorem dL_law_528 : decode cL_law 528 = .ok (.ireturn, 1) := dk_172 (dk_at dksL_law_13 8 rfl rfl)
theorem dL_law_529 : decode cL_law 529 = .ok (.goto 2219, 3) := dk_167 8 171 (dk_at dksL_law_13 9 rfl rfl)
theorem dL_law_532 : decode cL_law 532 = .ok (.aload_n 1, 1) := dk_43 (dk_at dksL_law_13 12 rfl rfl)
theorem dL_law_533 : decode cL_law 533 = .ok (.aload_n 0, 1) := dk_42 (dk_at dksL_law_13 13 rfl rfl)
theorem dL_law_534 : decode cL_law 534 = .ok (.iload 5, 2) := dk_21 5 (dk_at dksL_law_13 14 rfl rfl)
theorem dL_law_536 : decode cL_law 536 = .ok (.iconst 1, 1) := dk_4 (dk_at dksL_law_13 16 rfl rfl)
theorem dL_law_537 : decode cL_law 537 = .ok (.iadd, 1) := dk_96 (dk_at dksL_law_13 17 rfl rfl)
theorem dL_law_538 : decode cL_law 538 = .ok (.iaload, 1) := dk_46 (dk_at dksL_law_13 18 rfl rfl)
theorem dL_law_539 : decode cL_law 539 = .ok (.aload_n 0, 1) := dk_42 (dk_at dksL_law_13 19 rfl rfl)
theorem dL_law_540 : decode cL_law 540 = .ok (.iload 5, 2) := dk_21 5 (dk_at dksL_law_13 20 rfl rfl)
theorem dL_law_542 : decode cL_law 542 = .ok (.iconst 2, 1) := dk_5 (dk_at dksL_law_13 22 rfl rfl)
theorem dL_law_543 : decode cL_law 543 = .ok (.iadd, 1) := dk_96 (dk_at dksL_law_13 23 rfl rfl)
theorem dL_law_544 : decode cL_law 544 = .ok (.iaload, 1) := dk_46 (dk_at dksL_law_14 0 rfl rfl)
theorem dL_law_545 : decode cL_law 545 = .ok (.aload_n 3, 1) := dk_45 (dk_at dksL_law_14 1 rfl rfl)
theorem dL_law_546 : decode cL_law 546 = .ok (.invokestatic 173, 3) := dk_184 0 173 (dk_at dksL_law_14 2 rfl rfl)
theorem dL_law_549 : decode cL_law 549 = .ok (.istore 6, 2) := dk_54 6 (dk_at dksL_law_14 5 rfl rfl)
theorem dL_law_551 : decode cL_law 551 = .ok (.aload_n 2, 1) := dk_44 (dk_at dksL_law_14 7 rfl rfl)
theorem dL_law_552 : decode cL_law 552 = .ok (.aload_n 0, 1) := dk_42 (dk_at dksL_law_14 8 rfl rfl)
theorem dL_law_553 : decode cL_law 553 = .ok (.iload 5, 2) := dk_21 5 (dk_at dksL_law_14 9 rfl rfl)
theorem dL_law_555 : decode cL_law 555 = .ok (.iconst 1, 1) := dk_4 (dk_at dksL_law_14 11 rfl rfl)
theorem dL_law_556 : decode cL_law 556 = .ok (.iadd, 1) := dk_96 (dk_at dksL_law_14 12 rfl rfl)
theorem dL_law_557 : decode cL_law 557 = .ok (.iaload, 1) := dk_46 (dk_at dksL_law_14 13 rfl rfl)
theorem dL_law_558 : decode cL_law 558 = .ok (.aload_n 0, 1) := dk_42 (dk_at dksL_law_14 14 rfl rfl)
theorem dL_law_559 : decode cL_law 559 = .ok (.iload 5, 2) := dk_21 5 (dk_at dksL_law_14 15 rfl rfl)
theorem dL_law_561 : decode cL_law 561 = .ok (.iconst 2, 1) := dk_5 (dk_at dksL_law_14 17 rfl rfl)
theorem dL_law_562 : decode cL_law 562 = .ok (.iadd, 1) := dk_96 (dk_at dksL_law_14 18 rfl rfl)
theorem dL_law_563 : decode cL_law 563 = .ok (.iaload, 1) := dk_46 (dk_at dksL_law_14 19 rfl rfl)
theorem dL_law_564 : decode cL_law 564 = .ok (.invokevirtual 175, 3) := dk_182 0 175 (dk_at dksL_law_14 20 rfl rfl)
theorem dL_law_567 : decode cL_law 567 = .ok (.istore 7, 2) := dk_54 7 (dk_at dksL_law_15 0 rfl rfl)
theorem dL_law_569 : decode cL_law 569 = .ok (.aload_n 2, 1) := dk_44 (dk_at dksL_law_15 2 rfl rfl)
theorem dL_law_570 : decode cL_law 570 = .ok (.invokevirtual 158, 3) := dk_182 0 158 (dk_at dksL_law_15 3 rfl rfl)
theorem dL_law_573 : decode cL_law 573 = .ok (.iload 6, 2) := dk_21 6 (dk_at dksL_law_15 6 rfl rfl)
theorem dL_law_575 : decode cL_law 575 = .ok (.if_icmp .eq 5, 3) := dk_159 0 5 (dk_at dksL_law_15 8 rfl rfl)
theorem dL_law_578 : decode cL_law 578 = .ok (.iconst 0, 1) := dk_3 (dk_at dksL_law_15 11 rfl rfl)
theorem dL_law_579 : decode cL_law 579 = .ok (.ireturn, 1) := dk_172 (dk_at dksL_law_15 12 rfl rfl)
theorem dL_law_580 : decode cL_law 580 = .ok (.iload 6, 2) := dk_21 6 (dk_at dksL_law_15 13 rfl rfl)
theorem dL_law_582 : decode cL_law 582 = .ok (.ifCond .ne 15, 3) := dk_154 0 15 (dk_at dksL_law_15 15 rfl rfl)
theorem dL_law_585 : decode cL_law 585 = .ok (.aload_n 3, 1) := dk_45 (dk_at dksL_law_15 18 rfl rfl)
theorem dL_law_586 : decode cL_law 586 = .ok (.iconst 0, 1) := dk_3 (dk_at dksL_law_15 19 rfl rfl)
theorem dL_law_587 : decode cL_law 587 = .ok (.laload, 1) := dk_47 (dk_at dksL_law_15 20 rfl rfl)
theorem dL_law_588 : decode cL_law 588 = .ok (.iload 7, 2) := dk_21 7 (dk_at dksL_law_15 21 rfl rfl)
theorem dL_law_590 : decode cL_law 590 = .ok (.i2l, 1) := dk_133 (dk_at dksL_law_15 23 rfl rfl)
theorem dL_law_591 : decode cL_law 591 = .ok (.lcmp, 1) := dk_148 (dk_at dksL_law_16 0 rfl rfl)
theorem dL_law_592 : decode cL_law 592 = .ok (.ifCond .eq 5, 3) := dk_153 0 5 (dk_at dksL_law_16 1 rfl rfl)
theorem dL_law_595 : decode cL_law 595 = .ok (.iconst 0, 1) := dk_3 (dk_at dksL_law_16 4 rfl rfl)
theorem dL_law_596 : decode cL_law 596 = .ok (.ireturn, 1) := dk_172 (dk_at dksL_law_16 5 rfl rfl)
theorem dL_law_597 : decode cL_law 597 = .ok (.goto 2151, 3) := dk_167 8 103 (dk_at dksL_law_16 6 rfl rfl)
theorem dL_law_600 : decode cL_law 600 = .ok (.aload_n 1, 1) := dk_43 (dk_at dksL_law_16 9 rfl rfl)
theorem dL_law_601 : decode cL_law 601 = .ok (.aload_n 0, 1) := dk_42 (dk_at dksL_law_16 10 rfl rfl)
theorem dL_law_602 : decode cL_law 602 = .ok (.iload 5, 2) := dk_21 5 (dk_at dksL_law_16 11 rfl rfl)
theorem dL_law_604 : decode cL_law 604 = .ok (.iconst 1, 1) := dk_4 (dk_at dksL_law_16 13 rfl rfl)
theorem dL_law_605 : decode cL_law 605 = .ok (.iadd, 1) := dk_96 (dk_at dksL_law_16 14 rfl rfl)
theorem dL_law_606 : decode cL_law 606 = .ok (.iaload, 1) := dk_46 (dk_at dksL_law_16 15 rfl rfl)
theorem dL_law_607 : decode cL_law 607 = .ok (.aload_n 3, 1) := dk_45 (dk_at dksL_law_16 16 rfl rfl)
theorem dL_law_608 : decode cL_law 608 = .ok (.invokestatic 176, 3) := dk_184 0 176 (dk_at dksL_law_16 17 rfl rfl)
theorem dL_law_611 : decode cL_law 611 = .ok (.istore 6, 2) := dk_54 6 (dk_at dksL_law_16 20 rfl rfl)
theorem dL_law_613 : decode cL_law 613 = .ok (.aload_n 2, 1) := dk_44 (dk_at dksL_law_16 22 rfl rfl)
theorem dL_law_614 : decode cL_law 614 = .ok (.aload_n 0, 1) := dk_42 (dk_at dksL_law_16 23 rfl rfl)
theorem dL_law_615 : decode cL_law 615 = .ok (.iload 5, 2) := dk_21 5 (dk_at dksL_law_17 0 rfl rfl)
theorem dL_law_617 : decode cL_law 617 = .ok (.iconst 1, 1) := dk_4 (dk_at dksL_law_17 2 rfl rfl)
theorem dL_law_618 : decode cL_law 618 = .ok (.iadd, 1) := dk_96 (dk_at dksL_law_17 3 rfl rfl)
theorem dL_law_619 : decode cL_law 619 = .ok (.iaload, 1) := dk_46 (dk_at dksL_law_17 4 rfl rfl)
theorem dL_law_620 : decode cL_law 620 = .ok (.invokevirtual 178, 3) := dk_182 0 178 (dk_at dksL_law_17 5 rfl rfl)
theorem dL_law_623 : decode cL_law 623 = .ok (.istore 7, 2) := dk_54 7 (dk_at dksL_law_17 8 rfl rfl)
theorem dL_law_625 : decode cL_law 625 = .ok (.aload_n 2, 1) := dk_44 (dk_at dksL_law_17 10 rfl rfl)
theorem dL_law_626 : decode cL_law 626 = .ok (.invokevirtual 158, 3) := dk_182 0 158 (dk_at dksL_law_17 11 rfl rfl)
theorem dL_law_629 : decode cL_law 629 = .ok (.iload 6, 2) := dk_21 6 (dk_at dksL_law_17 14 rfl rfl)
theorem dL_law_631 : decode cL_law 631 = .ok (.if_icmp .eq 5, 3) := dk_159 0 5 (dk_at dksL_law_17 16 rfl rfl)
theorem dL_law_634 : decode cL_law 634 = .ok (.iconst 0, 1) := dk_3 (dk_at dksL_law_17 19 rfl rfl)
theorem dL_law_635 : decode cL_law 635 = .ok (.ireturn, 1) := dk_172 (dk_at dksL_law_17 20 rfl rfl)
theorem dL_law_636 : decode cL_law 636 = .ok (.iload 6, 2) := dk_21 6 (dk_at dksL_law_17 21 rfl rfl)
theorem dL_law_638 : decode cL_law 638 = .ok (.ifCond .ne 15, 3) := dk_154 0 15 (dk_at dksL_law_18 0 rfl rfl)
theorem dL_law_641 : decode cL_law 641 = .ok (.aload_n 3, 1) := dk_45 (dk_at dksL_law_18 3 rfl rfl)
theorem dL_law_642 : decode cL_law 642 = .ok (.iconst 0, 1) := dk_3 (dk_at dksL_law_18 4 rfl rfl)
theorem dL_law_643 : decode cL_law 643 = .ok (.laload, 1) := dk_47 (dk_at dksL_law_18 5 rfl rfl)
theorem dL_law_644 : decode cL_law 644 = .ok (.iload 7, 2) := dk_21 7 (dk_at dksL_law_18 6 rfl rfl)
theorem dL_law_646 : decode cL_law 646 = .ok (.i2l, 1) := dk_133 (dk_at dksL_law_18 8 rfl rfl)
theorem dL_law_647 : decode cL_law 647 = .ok (.lcmp, 1) := dk_148 (dk_at dksL_law_18 9 rfl rfl)
theorem dL_law_648 : decode cL_law 648 = .ok (.ifCond .eq 5, 3) := dk_153 0 5 (dk_at dksL_law_18 10 rfl rfl)
theorem dL_law_651 : decode cL_law 651 = .ok (.iconst 0, 1) := dk_3 (dk_at dksL_law_18 13 rfl rfl)
theorem dL_law_652 : decode cL_law 652 = .ok (.ireturn, 1) := dk_172 (dk_at dksL_law_18 14 rfl rfl)
theorem dL_law_653 : decode cL_law 653 = .ok (.goto 2095, 3) := dk_167 8 47 (dk_at dksL_law_18 15 rfl rfl)
theorem dL_law_656 : decode cL_law 656 = .ok (.aload_n 1, 1) := dk_43 (dk_at dksL_law_18 18 rfl rfl)
theorem dL_law_657 : decode cL_law 657 = .ok (.aload_n 0, 1) := dk_42 (dk_at dksL_law_18 19 rfl rfl)
theorem dL_law_658 : decode cL_law 658 = .ok (.iload 5, 2) := dk_21 5 (dk_at dksL_law_18 20 rfl rfl)
theorem dL_law_660 : decode cL_law 660 = .ok (.iconst 1, 1) := dk_4 (dk_at dksL_law_18 22 rfl rfl)
theorem dL_law_661 : decode cL_law 661 = .ok (.iadd, 1) := dk_96 (dk_at dksL_law_18 23 rfl rfl)
theorem dL_law_662 : decode cL_law 662 = .ok (.iaload, 1) := dk_46 (dk_at dksL_law_19 0 rfl rfl)
theorem dL_law_663 : decode cL_law 663 = .ok (.aload_n 3, 1) := dk_45 (dk_at dksL_law_19 1 rfl rfl)
theorem dL_law_664 : decode cL_law 664 = .ok (.invokestatic 179, 3) := dk_184 0 179 (dk_at dksL_law_19 2 rfl rfl)
theorem dL_law_667 : decode cL_law 667 = .ok (.istore 6, 2) := dk_54 6 (dk_at dksL_law_19 5 rfl rfl)
theorem dL_law_669 : decode cL_law 669 = .ok (.aload_n 2, 1) := dk_44 (dk_at dksL_law_19 7 rfl rfl)
theorem dL_law_670 : decode cL_law 670 = .ok (.aload_n 0, 1) := dk_42 (dk_at dksL_law_19 8 rfl rfl)
theorem dL_law_671 : decode cL_law 671 = .ok (.iload 5, 2) := dk_21 5 (dk_at dksL_law_19 9 rfl rfl)
theorem dL_law_673 : decode cL_law 673 = .ok (.iconst 1, 1) := dk_4 (dk_at dksL_law_19 11 rfl rfl)
theorem dL_law_674 : decode cL_law 674 = .ok (.iadd, 1) := dk_96 (dk_at dksL_law_19 12 rfl rfl)
theorem dL_law_675 : decode cL_law 675 = .ok (.iaload, 1) := dk_46 (dk_at dksL_law_19 13 rfl rfl)
theorem dL_law_676 : decode cL_law 676 = .ok (.invokevirtual 181, 3) := dk_182 0 181 (dk_at dksL_law_19 14 rfl rfl)
theorem dL_law_679 : decode cL_law 679 = .ok (.istore 7, 2) := dk_54 7 (dk_at dksL_law_19 17 rfl rfl)
theorem dL_law_681 : decode cL_law 681 = .ok (.aload_n 2, 1) := dk_44 (dk_at dksL_law_19 19 rfl rfl)
theorem dL_law_682 : decode cL_law 682 = .ok (.invokevirtual 158, 3) := dk_182 0 158 (dk_at dksL_law_19 20 rfl rfl)
theorem dL_law_685 : decode cL_law 685 = .ok (.iload 6, 2) := dk_21 6 (dk_at dksL_law_20 0 rfl rfl)
theorem dL_law_687 : decode cL_law 687 = .ok (.if_icmp .eq 5, 3) := dk_159 0 5 (dk_at dksL_law_20 2 rfl rfl)
theorem dL_law_690 : decode cL_law 690 = .ok (.iconst 0, 1) := dk_3 (dk_at dksL_law_20 5 rfl rfl)
theorem dL_law_691 : decode cL_law 691 = .ok (.ireturn, 1) := dk_172 (dk_at dksL_law_20 6 rfl rfl)
theorem dL_law_692 : decode cL_law 692 = .ok (.iload 6, 2) := dk_21 6 (dk_at dksL_law_20 7 rfl rfl)
theorem dL_law_694 : decode cL_law 694 = .ok (.ifCond .ne 15, 3) := dk_154 0 15 (dk_at dksL_law_20 9 rfl rfl)
theorem dL_law_697 : decode cL_law 697 = .ok (.aload_n 3, 1) := dk_45 (dk_at dksL_law_20 12 rfl rfl)
theorem dL_law_698 : decode cL_law 698 = .ok (.iconst 0, 1) := dk_3 (dk_at dksL_law_20 13 rfl rfl)
theorem dL_law_699 : decode cL_law 699 = .ok (.laload, 1) := dk_47 (dk_at dksL_law_20 14 rfl rfl)
theorem dL_law_700 : decode cL_law 700 = .ok (.iload 7, 2) := dk_21 7 (dk_at dksL_law_20 15 rfl rfl)
theorem dL_law_702 : decode cL_law 702 = .ok (.i2l, 1) := dk_133 (dk_at dksL_law_20 17 rfl rfl)
theorem dL_law_703 : decode cL_law 703 = .ok (.lcmp, 1) := dk_148 (dk_at dksL_law_20 18 rfl rfl)
theorem dL_law_704 : decode cL_law 704 = .ok (.ifCond .eq 5, 3) := dk_153 0 5 (dk_at dksL_law_20 19 rfl rfl)
theorem dL_law_707 : decode cL_law 707 = .ok (.iconst 0, 1) := dk_3 (dk_at dksL_law_20 22 rfl rfl)
theorem dL_law_708 : decode cL_law 708 = .ok (.ireturn, 1) := dk_172 (dk_at dksL_law_20 23 rfl rfl)
theorem dL_law_709 : decode cL_law 709 = .ok (.goto 2039, 3) := dk_167 7 247 (dk_at dksL_law_21 0 rfl rfl)
theorem dL_law_712 : decode cL_law 712 = .ok (.aload_n 1, 1) := dk_43 (dk_at dksL_law_21 3 rfl rfl)
theorem dL_law_713 : decode cL_law 713 = .ok (.invokevirtual 182, 3) := dk_182 0 182 (dk_at dksL_law_21 4 rfl rfl)
theorem dL_law_716 : decode cL_law 716 = .ok (.aload_n 2, 1) := dk_44 (dk_at dksL_law_21 7 rfl rfl)
theorem dL_law_717 : decode cL_law 717 = .ok (.invokevirtual 185, 3) := dk_182 0 185 (dk_at dksL_law_21 8 rfl rfl)
theorem dL_law_720 : decode cL_law 720 = .ok (.if_icmp .eq 2028, 3) := dk_159 7 236 (dk_at dksL_law_21 11 rfl rfl)
theorem dL_law_723 : decode cL_law 723 = .ok (.iconst 0, 1) := dk_3 (dk_at dksL_law_21 14 rfl rfl)
theorem dL_law_724 : decode cL_law 724 = .ok (.ireturn, 1) := dk_172 (dk_at dksL_law_21 15 rfl rfl)
theorem dL_law_725 : decode cL_law 725 = .ok (.aload_n 1, 1) := dk_43 (dk_at dksL_law_21 16 rfl rfl)
theorem dL_law_726 : decode cL_law 726 = .ok (.invokevirtual 186, 3) := dk_182 0 186 (dk_at dksL_law_21 17 rfl rfl)
theorem dL_law_729 : decode cL_law 729 = .ok (.aload_n 2, 1) := dk_44 (dk_at dksL_law_21 20 rfl rfl)
theorem dL_law_730 : decode cL_law 730 = .ok (.invokevirtual 189, 3) := dk_182 0 189 (dk_at dksL_law_21 21 rfl rfl)
theorem dL_law_733 : decode cL_law 733 = .ok (.if_icmp .eq 2015, 3) := dk_159 7 223 (dk_at dksL_law_22 0 rfl rfl)
theorem dL_law_736 : decode cL_law 736 = .ok (.iconst 0, 1) := dk_3 (dk_at dksL_law_22 3 rfl rfl)
theorem dL_law_737 : decode cL_law 737 = .ok (.ireturn, 1) := dk_172 (dk_at dksL_law_22 4 rfl rfl)
theorem dL_law_738 : decode cL_law 738 = .ok (.aload_n 1, 1) := dk_43 (dk_at dksL_law_22 5 rfl rfl)
theorem dL_law_739 : decode cL_law 739 = .ok (.aload_n 0, 1) := dk_42 (dk_at dksL_law_22 6 rfl rfl)
theorem dL_law_740 : decode cL_law 740 = .ok (.iload 5, 2) := dk_21 5 (dk_at dksL_law_22 7 rfl rfl)
theorem dL_law_742 : decode cL_law 742 = .ok (.iconst 1, 1) := dk_4 (dk_at dksL_law_22 9 rfl rfl)
theorem dL_law_743 : decode cL_law 743 = .ok (.iadd, 1) := dk_96 (dk_at dksL_law_22 10 rfl rfl)
theorem dL_law_744 : decode cL_law 744 = .ok (.iaload, 1) := dk_46 (dk_at dksL_law_22 11 rfl rfl)
theorem dL_law_745 : decode cL_law 745 = .ok (.aload_n 3, 1) := dk_45 (dk_at dksL_law_22 12 rfl rfl)
theorem dL_law_746 : decode cL_law 746 = .ok (.invokestatic 190, 3) := dk_184 0 190 (dk_at dksL_law_22 13 rfl rfl)
theorem dL_law_749 : decode cL_law 749 = .ok (.istore 6, 2) := dk_54 6 (dk_at dksL_law_22 16 rfl rfl)
theorem dL_law_751 : decode cL_law 751 = .ok (.aload_n 2, 1) := dk_44 (dk_at dksL_law_22 18 rfl rfl)
theorem dL_law_752 : decode cL_law 752 = .ok (.aload_n 0, 1) := dk_42 (dk_at dksL_law_22 19 rfl rfl)
theorem dL_law_753 : decode cL_law 753 = .ok (.iload 5, 2) := dk_21 5 (dk_at dksL_law_22 20 rfl rfl)
theorem dL_law_755 : decode cL_law 755 = .ok (.iconst 1, 1) := dk_4 (dk_at dksL_law_22 22 rfl rfl)
theorem dL_law_756 : decode cL_law 756 = .ok (.iadd, 1) := dk_96 (dk_at dksL_law_22 23 rfl rfl)
theorem dL_law_757 : decode cL_law 757 = .ok (.iaload, 1) := dk_46 (dk_at dksL_law_23 0 rfl rfl)
theorem dL_law_758 : decode cL_law 758 = .ok (.invokevirtual 192, 3) := dk_182 0 192 (dk_at dksL_law_23 1 rfl rfl)
theorem dL_law_761 : decode cL_law 761 = .ok (.istore 7, 2) := dk_54 7 (dk_at dksL_law_23 4 rfl rfl)
theorem dL_law_763 : decode cL_law 763 = .ok (.aload_n 2, 1) := dk_44 (dk_at dksL_law_23 6 rfl rfl)
theorem dL_law_764 : decode cL_law 764 = .ok (.invokevirtual 158, 3) := dk_182 0 158 (dk_at dksL_law_23 7 rfl rfl)
theorem dL_law_767 : decode cL_law 767 = .ok (.iload 6, 2) := dk_21 6 (dk_at dksL_law_23 10 rfl rfl)
theorem dL_law_769 : decode cL_law 769 = .ok (.if_icmp .eq 5, 3) := dk_159 0 5 (dk_at dksL_law_23 12 rfl rfl)
theorem dL_law_772 : decode cL_law 772 = .ok (.iconst 0, 1) := dk_3 (dk_at dksL_law_23 15 rfl rfl)
theorem dL_law_773 : decode cL_law 773 = .ok (.ireturn, 1) := dk_172 (dk_at dksL_law_23 16 rfl rfl)
theorem dL_law_774 : decode cL_law 774 = .ok (.iload 6, 2) := dk_21 6 (dk_at dksL_law_23 17 rfl rfl)
theorem dL_law_776 : decode cL_law 776 = .ok (.ifCond .ne 15, 3) := dk_154 0 15 (dk_at dksL_law_23 19 rfl rfl)
theorem dL_law_779 : decode cL_law 779 = .ok (.aload_n 3, 1) := dk_45 (dk_at dksL_law_23 22 rfl rfl)
theorem dL_law_780 : decode cL_law 780 = .ok (.iconst 0, 1) := dk_3 (dk_at dksL_law_23 23 rfl rfl)
theorem dL_law_781 : decode cL_law 781 = .ok (.laload, 1) := dk_47 (dk_at dksL_law_24 0 rfl rfl)
theorem dL_law_782 : decode cL_law 782 = .ok (.iload 7, 2) := dk_21 7 (dk_at dksL_law_24 1 rfl rfl)
theorem dL_law_784 : decode cL_law 784 = .ok (.i2l, 1) := dk_133 (dk_at dksL_law_24 3 rfl rfl)
theorem dL_law_785 : decode cL_law 785 = .ok (.lcmp, 1) := dk_148 (dk_at dksL_law_24 4 rfl rfl)
theorem dL_law_786 : decode cL_law 786 = .ok (.ifCond .eq 5, 3) := dk_153 0 5 (dk_at dksL_law_24 5 rfl rfl)
theorem dL_law_789 : decode cL_law 789 = .ok (.iconst 0, 1) := dk_3 (dk_at dksL_law_24 8 rfl rfl)
theorem dL_law_790 : decode cL_law 790 = .ok (.ireturn, 1) := dk_172 (dk_at dksL_law_24 9 rfl rfl)
theorem dL_law_791 : decode cL_law 791 = .ok (.goto 1957, 3) := dk_167 7 165 (dk_at dksL_law_24 10 rfl rfl)
theorem dL_law_794 : decode cL_law 794 = .ok (.aload_n 1, 1) := dk_43 (dk_at dksL_law_24 13 rfl rfl)
theorem dL_law_795 : decode cL_law 795 = .ok (.aload_n 0, 1) := dk_42 (dk_at dksL_law_24 14 rfl rfl)
theorem dL_law_796 : decode cL_law 796 = .ok (.iload 5, 2) := dk_21 5 (dk_at dksL_law_24 15 rfl rfl)
theorem dL_law_798 : decode cL_law 798 = .ok (.iconst 1, 1) := dk_4 (dk_at dksL_law_24 17 rfl rfl)
theorem dL_law_799 : decode cL_law 799 = .ok (.iadd, 1) := dk_96 (dk_at dksL_law_24 18 rfl rfl)
theorem dL_law_800 : decode cL_law 800 = .ok (.iaload, 1) := dk_46 (dk_at dksL_law_24 19 rfl rfl)
theorem dL_law_801 : decode cL_law 801 = .ok (.aload_n 3, 1) := dk_45 (dk_at dksL_law_24 20 rfl rfl)
theorem dL_law_802 : decode cL_law 802 = .ok (.invokestatic 193, 3) := dk_184 0 193 (dk_at dksL_law_24 21 rfl rfl)
theorem dL_law_805 : decode cL_law 805 = .ok (.istore 6, 2) := dk_54 6 (dk_at dksL_law_25 0 rfl rfl)
theorem dL_law_807 : decode cL_law 807 = .ok (.aload_n 2, 1) := dk_44 (dk_at dksL_law_25 2 rfl rfl)
theorem dL_law_808 : decode cL_law 808 = .ok (.aload_n 0, 1) := dk_42 (dk_at dksL_law_25 3 rfl rfl)
theorem dL_law_809 : decode cL_law 809 = .ok (.iload 5, 2) := dk_21 5 (dk_at dksL_law_25 4 rfl rfl)
theorem dL_law_811 : decode cL_law 811 = .ok (.iconst 1, 1) := dk_4 (dk_at dksL_law_25 6 rfl rfl)
theorem dL_law_812 : decode cL_law 812 = .ok (.iadd, 1) := dk_96 (dk_at dksL_law_25 7 rfl rfl)
theorem dL_law_813 : decode cL_law 813 = .ok (.iaload, 1) := dk_46 (dk_at dksL_law_25 8 rfl rfl)
theorem dL_law_814 : decode cL_law 814 = .ok (.invokevirtual 195, 3) := dk_182 0 195 (dk_at dksL_law_25 9 rfl rfl)
theorem dL_law_817 : decode cL_law 817 = .ok (.istore 7, 2) := dk_54 7 (dk_at dksL_law_25 12 rfl rfl)
theorem dL_law_819 : decode cL_law 819 = .ok (.aload_n 2, 1) := dk_44 (dk_at dksL_law_25 14 rfl rfl)
theorem dL_law_820 : decode cL_law 820 = .ok (.invokevirtual 158, 3) := dk_182 0 158 (dk_at dksL_law_25 15 rfl rfl)
theorem dL_law_823 : decode cL_law 823 = .ok (.iload 6, 2) := dk_21 6 (dk_at dksL_law_25 18 rfl rfl)
theorem dL_law_825 : decode cL_law 825 = .ok (.if_icmp .eq 5, 3) := dk_159 0 5 (dk_at dksL_law_25 20 rfl rfl)
theorem dL_law_828 : decode cL_law 828 = .ok (.iconst 0, 1) := dk_3 (dk_at dksL_law_25 23 rfl rfl)
theorem dL_law_829 : decode cL_law 829 = .ok (.ireturn, 1) := dk_172 (dk_at dksL_law_26 0 rfl rfl)
theorem dL_law_830 : decode cL_law 830 = .ok (.iload 6, 2) := dk_21 6 (dk_at dksL_law_26 1 rfl rfl)
theorem dL_law_832 : decode cL_law 832 = .ok (.ifCond .ne 15, 3) := dk_154 0 15 (dk_at dksL_law_26 3 rfl rfl)
theorem dL_law_835 : decode cL_law 835 = .ok (.aload_n 3, 1) := dk_45 (dk_at dksL_law_26 6 rfl rfl)
theorem dL_law_836 : decode cL_law 836 = .ok (.iconst 0, 1) := dk_3 (dk_at dksL_law_26 7 rfl rfl)
theorem dL_law_837 : decode cL_law 837 = .ok (.laload, 1) := dk_47 (dk_at dksL_law_26 8 rfl rfl)
theorem dL_law_838 : decode cL_law 838 = .ok (.iload 7, 2) := dk_21 7 (dk_at dksL_law_26 9 rfl rfl)
theorem dL_law_840 : decode cL_law 840 = .ok (.i2l, 1) := dk_133 (dk_at dksL_law_26 11 rfl rfl)
theorem dL_law_841 : decode cL_law 841 = .ok (.lcmp, 1) := dk_148 (dk_at dksL_law_26 12 rfl rfl)
theorem dL_law_842 : decode cL_law 842 = .ok (.ifCond .eq 5, 3) := dk_153 0 5 (dk_at dksL_law_26 13 rfl rfl)
theorem dL_law_845 : decode cL_law 845 = .ok (.iconst 0, 1) := dk_3 (dk_at dksL_law_26 16 rfl rfl)
theorem dL_law_846 : decode cL_law 846 = .ok (.ireturn, 1) := dk_172 (dk_at dksL_law_26 17 rfl rfl)
theorem dL_law_847 : decode cL_law 847 = .ok (.goto 1901, 3) := dk_167 7 109 (dk_at dksL_law_26 18 rfl rfl)
theorem dL_law_850 : decode cL_law 850 = .ok (.aload_n 1, 1) := dk_43 (dk_at dksL_law_26 21 rfl rfl)
theorem dL_law_851 : decode cL_law 851 = .ok (.aload_n 0, 1) := dk_42 (dk_at dksL_law_26 22 rfl rfl)
theorem dL_law_852 : decode cL_law 852 = .ok (.iload 5, 2) := dk_21 5 (dk_at dksL_law_27 0 rfl rfl)
theorem dL_law_854 : decode cL_law 854 = .ok (.iconst 1, 1) := dk_4 (dk_at dksL_law_27 2 rfl rfl)
theorem dL_law_855 : decode cL_law 855 = .ok (.iadd, 1) := dk_96 (dk_at dksL_law_27 3 rfl rfl)
theorem dL_law_856 : decode cL_law 856 = .ok (.iaload, 1) := dk_46 (dk_at dksL_law_27 4 rfl rfl)
theorem dL_law_857 : decode cL_law 857 = .ok (.aload_n 3, 1) := dk_45 (dk_at dksL_law_27 5 rfl rfl)
theorem dL_law_858 : decode cL_law 858 = .ok (.invokestatic 196, 3) := dk_184 0 196 (dk_at dksL_law_27 6 rfl rfl)
theorem dL_law_861 : decode cL_law 861 = .ok (.istore 6, 2) := dk_54 6 (dk_at dksL_law_27 9 rfl rfl)
theorem dL_law_863 : decode cL_law 863 = .ok (.aload_n 2, 1) := dk_44 (dk_at dksL_law_27 11 rfl rfl)
theorem dL_law_864 : decode cL_law 864 = .ok (.aload_n 0, 1) := dk_42 (dk_at dksL_law_27 12 rfl rfl)
theorem dL_law_865 : decode cL_law 865 = .ok (.iload 5, 2) := dk_21 5 (dk_at dksL_law_27 13 rfl rfl)
theorem dL_law_867 : decode cL_law 867 = .ok (.iconst 1, 1) := dk_4 (dk_at dksL_law_27 15 rfl rfl)
theorem dL_law_868 : decode cL_law 868 = .ok (.iadd, 1) := dk_96 (dk_at dksL_law_27 16 rfl rfl)
theorem dL_law_869 : decode cL_law 869 = .ok (.iaload, 1) := dk_46 (dk_at dksL_law_27 17 rfl rfl)
theorem dL_law_870 : decode cL_law 870 = .ok (.invokevirtual 198, 3) := dk_182 0 198 (dk_at dksL_law_27 18 rfl rfl)
theorem dL_law_873 : decode cL_law 873 = .ok (.istore 7, 2) := dk_54 7 (dk_at dksL_law_27 21 rfl rfl)
theorem dL_law_875 : decode cL_law 875 = .ok (.aload_n 2, 1) := dk_44 (dk_at dksL_law_27 23 rfl rfl)
theorem dL_law_876 : decode cL_law 876 = .ok (.invokevirtual 158, 3) := dk_182 0 158 (dk_at dksL_law_28 0 rfl rfl)
theorem dL_law_879 : decode cL_law 879 = .ok (.iload 6, 2) := dk_21 6 (dk_at dksL_law_28 3 rfl rfl)
theorem dL_law_881 : decode cL_law 881 = .ok (.if_icmp .eq 5, 3) := dk_159 0 5 (dk_at dksL_law_28 5 rfl rfl)
theorem dL_law_884 : decode cL_law 884 = .ok (.iconst 0, 1) := dk_3 (dk_at dksL_law_28 8 rfl rfl)
theorem dL_law_885 : decode cL_law 885 = .ok (.ireturn, 1) := dk_172 (dk_at dksL_law_28 9 rfl rfl)
theorem dL_law_886 : decode cL_law 886 = .ok (.iload 6, 2) := dk_21 6 (dk_at dksL_law_28 10 rfl rfl)
theorem dL_law_888 : decode cL_law 888 = .ok (.ifCond .ne 15, 3) := dk_154 0 15 (dk_at dksL_law_28 12 rfl rfl)
theorem dL_law_891 : decode cL_law 891 = .ok (.aload_n 3, 1) := dk_45 (dk_at dksL_law_28 15 rfl rfl)
theorem dL_law_892 : decode cL_law 892 = .ok (.iconst 0, 1) := dk_3 (dk_at dksL_law_28 16 rfl rfl)
theorem dL_law_893 : decode cL_law 893 = .ok (.laload, 1) := dk_47 (dk_at dksL_law_28 17 rfl rfl)
theorem dL_law_894 : decode cL_law 894 = .ok (.iload 7, 2) := dk_21 7 (dk_at dksL_law_28 18 rfl rfl)
theorem dL_law_896 : decode cL_law 896 = .ok (.i2l, 1) := dk_133 (dk_at dksL_law_28 20 rfl rfl)
theorem dL_law_897 : decode cL_law 897 = .ok (.lcmp, 1) := dk_148 (dk_at dksL_law_28 21 rfl rfl)
theorem dL_law_898 : decode cL_law 898 = .ok (.ifCond .eq 5, 3) := dk_153 0 5 (dk_at dksL_law_29 0 rfl rfl)
theorem dL_law_901 : decode cL_law 901 = .ok (.iconst 0, 1) := dk_3 (dk_at dksL_law_29 3 rfl rfl)
theorem dL_law_902 : decode cL_law 902 = .ok (.ireturn, 1) := dk_172 (dk_at dksL_law_29 4 rfl rfl)
theorem dL_law_903 : decode cL_law 903 = .ok (.goto 1845, 3) := dk_167 7 53 (dk_at dksL_law_29 5 rfl rfl)
theorem dL_law_906 : decode cL_law 906 = .ok (.aload_n 1, 1) := dk_43 (dk_at dksL_law_29 8 rfl rfl)
theorem dL_law_907 : decode cL_law 907 = .ok (.aload_n 0, 1) := dk_42 (dk_at dksL_law_29 9 rfl rfl)
theorem dL_law_908 : decode cL_law 908 = .ok (.iload 5, 2) := dk_21 5 (dk_at dksL_law_29 10 rfl rfl)
theorem dL_law_910 : decode cL_law 910 = .ok (.iconst 1, 1) := dk_4 (dk_at dksL_law_29 12 rfl rfl)
theorem dL_law_911 : decode cL_law 911 = .ok (.iadd, 1) := dk_96 (dk_at dksL_law_29 13 rfl rfl)
theorem dL_law_912 : decode cL_law 912 = .ok (.iaload, 1) := dk_46 (dk_at dksL_law_29 14 rfl rfl)
theorem dL_law_913 : decode cL_law 913 = .ok (.aload_n 3, 1) := dk_45 (dk_at dksL_law_29 15 rfl rfl)
theorem dL_law_914 : decode cL_law 914 = .ok (.invokestatic 199, 3) := dk_184 0 199 (dk_at dksL_law_29 16 rfl rfl)
theorem dL_law_917 : decode cL_law 917 = .ok (.istore 6, 2) := dk_54 6 (dk_at dksL_law_29 19 rfl rfl)
theorem dL_law_919 : decode cL_law 919 = .ok (.aload_n 2, 1) := dk_44 (dk_at dksL_law_29 21 rfl rfl)
theorem dL_law_920 : decode cL_law 920 = .ok (.aload_n 0, 1) := dk_42 (dk_at dksL_law_29 22 rfl rfl)
theorem dL_law_921 : decode cL_law 921 = .ok (.iload 5, 2) := dk_21 5 (dk_at dksL_law_30 0 rfl rfl)
theorem dL_law_923 : decode cL_law 923 = .ok (.iconst 1, 1) := dk_4 (dk_at dksL_law_30 2 rfl rfl)
theorem dL_law_924 : decode cL_law 924 = .ok (.iadd, 1) := dk_96 (dk_at dksL_law_30 3 rfl rfl)
theorem dL_law_925 : decode cL_law 925 = .ok (.iaload, 1) := dk_46 (dk_at dksL_law_30 4 rfl rfl)
theorem dL_law_926 : decode cL_law 926 = .ok (.invokevirtual 201, 3) := dk_182 0 201 (dk_at dksL_law_30 5 rfl rfl)
theorem dL_law_929 : decode cL_law 929 = .ok (.istore 7, 2) := dk_54 7 (dk_at dksL_law_30 8 rfl rfl)
theorem dL_law_931 : decode cL_law 931 = .ok (.aload_n 2, 1) := dk_44 (dk_at dksL_law_30 10 rfl rfl)
theorem dL_law_932 : decode cL_law 932 = .ok (.invokevirtual 158, 3) := dk_182 0 158 (dk_at dksL_law_30 11 rfl rfl)
theorem dL_law_935 : decode cL_law 935 = .ok (.iload 6, 2) := dk_21 6 (dk_at dksL_law_30 14 rfl rfl)
theorem dL_law_937 : decode cL_law 937 = .ok (.if_icmp .eq 5, 3) := dk_159 0 5 (dk_at dksL_law_30 16 rfl rfl)
theorem dL_law_940 : decode cL_law 940 = .ok (.iconst 0, 1) := dk_3 (dk_at dksL_law_30 19 rfl rfl)
theorem dL_law_941 : decode cL_law 941 = .ok (.ireturn, 1) := dk_172 (dk_at dksL_law_30 20 rfl rfl)
theorem dL_law_942 : decode cL_law 942 = .ok (.iload 6, 2) := dk_21 6 (dk_at dksL_law_30 21 rfl rfl)
theorem dL_law_944 : decode cL_law 944 = .ok (.ifCond .ne 15, 3) := dk_154 0 15 (dk_at dksL_law_31 0 rfl rfl)
theorem dL_law_947 : decode cL_law 947 = .ok (.aload_n 3, 1) := dk_45 (dk_at dksL_law_31 3 rfl rfl)
theorem dL_law_948 : decode cL_law 948 = .ok (.iconst 0, 1) := dk_3 (dk_at dksL_law_31 4 rfl rfl)
theorem dL_law_949 : decode cL_law 949 = .ok (.laload, 1) := dk_47 (dk_at dksL_law_31 5 rfl rfl)
theorem dL_law_950 : decode cL_law 950 = .ok (.iload 7, 2) := dk_21 7 (dk_at dksL_law_31 6 rfl rfl)
theorem dL_law_952 : decode cL_law 952 = .ok (.i2l, 1) := dk_133 (dk_at dksL_law_31 8 rfl rfl)
theorem dL_law_953 : decode cL_law 953 = .ok (.lcmp, 1) := dk_148 (dk_at dksL_law_31 9 rfl rfl)
theorem dL_law_954 : decode cL_law 954 = .ok (.ifCond .eq 5, 3) := dk_153 0 5 (dk_at dksL_law_31 10 rfl rfl)
theorem dL_law_957 : decode cL_law 957 = .ok (.iconst 0, 1) := dk_3 (dk_at dksL_law_31 13 rfl rfl)
theorem dL_law_958 : decode cL_law 958 = .ok (.ireturn, 1) := dk_172 (dk_at dksL_law_31 14 rfl rfl)
theorem dL_law_959 : decode cL_law 959 = .ok (.goto 1789, 3) := dk_167 6 253 (dk_at dksL_law_31 15 rfl rfl)
theorem dL_law_962 : decode cL_law 962 = .ok (.aload_n 1, 1) := dk_43 (dk_at dksL_law_31 18 rfl rfl)
theorem dL_law_963 : decode cL_law 963 = .ok (.invokevirtual 202, 3) := dk_182 0 202 (dk_at dksL_law_31 19 rfl rfl)
theorem dL_law_966 : decode cL_law 966 = .ok (.aload_n 2, 1) := dk_44 (dk_at dksL_law_31 22 rfl rfl)
theorem dL_law_967 : decode cL_law 967 = .ok (.invokevirtual 205, 3) := dk_182 0 205 (dk_at dksL_law_32 0 rfl rfl)
theorem dL_law_970 : decode cL_law 970 = .ok (.if_icmp .eq 1778, 3) := dk_159 6 242 (dk_at dksL_law_32 3 rfl rfl)
theorem dL_law_973 : decode cL_law 973 = .ok (.iconst 0, 1) := dk_3 (dk_at dksL_law_32 6 rfl rfl)
theorem dL_law_974 : decode cL_law 974 = .ok (.ireturn, 1) := dk_172 (dk_at dksL_law_32 7 rfl rfl)
theorem dL_law_975 : decode cL_law 975 = .ok (.aload_n 1, 1) := dk_43 (dk_at dksL_law_32 8 rfl rfl)
theorem dL_law_976 : decode cL_law 976 = .ok (.aload_n 0, 1) := dk_42 (dk_at dksL_law_32 9 rfl rfl)
theorem dL_law_977 : decode cL_law 977 = .ok (.iload 5, 2) := dk_21 5 (dk_at dksL_law_32 10 rfl rfl)
theorem dL_law_979 : decode cL_law 979 = .ok (.iconst 1, 1) := dk_4 (dk_at dksL_law_32 12 rfl rfl)
theorem dL_law_980 : decode cL_law 980 = .ok (.iadd, 1) := dk_96 (dk_at dksL_law_32 13 rfl rfl)
theorem dL_law_981 : decode cL_law 981 = .ok (.iaload, 1) := dk_46 (dk_at dksL_law_32 14 rfl rfl)
theorem dL_law_982 : decode cL_law 982 = .ok (.aload_n 3, 1) := dk_45 (dk_at dksL_law_32 15 rfl rfl)
theorem dL_law_983 : decode cL_law 983 = .ok (.invokestatic 206, 3) := dk_184 0 206 (dk_at dksL_law_32 16 rfl rfl)
theorem dL_law_986 : decode cL_law 986 = .ok (.istore 6, 2) := dk_54 6 (dk_at dksL_law_32 19 rfl rfl)
theorem dL_law_988 : decode cL_law 988 = .ok (.aload_n 2, 1) := dk_44 (dk_at dksL_law_32 21 rfl rfl)
theorem dL_law_989 : decode cL_law 989 = .ok (.aload_n 0, 1) := dk_42 (dk_at dksL_law_32 22 rfl rfl)
theorem dL_law_990 : decode cL_law 990 = .ok (.iload 5, 2) := dk_21 5 (dk_at dksL_law_33 0 rfl rfl)
theorem dL_law_992 : decode cL_law 992 = .ok (.iconst 1, 1) := dk_4 (dk_at dksL_law_33 2 rfl rfl)
theorem dL_law_993 : decode cL_law 993 = .ok (.iadd, 1) := dk_96 (dk_at dksL_law_33 3 rfl rfl)
theorem dL_law_994 : decode cL_law 994 = .ok (.iaload, 1) := dk_46 (dk_at dksL_law_33 4 rfl rfl)
theorem dL_law_995 : decode cL_law 995 = .ok (.invokevirtual 208, 3) := dk_182 0 208 (dk_at dksL_law_33 5 rfl rfl)
theorem dL_law_998 : decode cL_law 998 = .ok (.istore 7, 2) := dk_54 7 (dk_at dksL_law_33 8 rfl rfl)
theorem dL_law_1000 : decode cL_law 1000 = .ok (.aload_n 2, 1) := dk_44 (dk_at dksL_law_33 10 rfl rfl)
theorem dL_law_1001 : decode cL_law 1001 = .ok (.invokevirtual 158, 3) := dk_182 0 158 (dk_at dksL_law_33 11 rfl rfl)
theorem dL_law_1004 : decode cL_law 1004 = .ok (.iload 6, 2) := dk_21 6 (dk_at dksL_law_33 14 rfl rfl)
theorem dL_law_1006 : decode cL_law 1006 = .ok (.if_icmp .eq 5, 3) := dk_159 0 5 (dk_at dksL_law_33 16 rfl rfl)
theorem dL_law_1009 : decode cL_law 1009 = .ok (.iconst 0, 1) := dk_3 (dk_at dksL_law_33 19 rfl rfl)
theorem dL_law_1010 : decode cL_law 1010 = .ok (.ireturn, 1) := dk_172 (dk_at dksL_law_33 20 rfl rfl)
theorem dL_law_1011 : decode cL_law 1011 = .ok (.iload 6, 2) := dk_21 6 (dk_at dksL_law_33 21 rfl rfl)
theorem dL_law_1013 : decode cL_law 1013 = .ok (.ifCond .ne 15, 3) := dk_154 0 15 (dk_at dksL_law_34 0 rfl rfl)
theorem dL_law_1016 : decode cL_law 1016 = .ok (.aload_n 3, 1) := dk_45 (dk_at dksL_law_34 3 rfl rfl)
theorem dL_law_1017 : decode cL_law 1017 = .ok (.iconst 0, 1) := dk_3 (dk_at dksL_law_34 4 rfl rfl)
theorem dL_law_1018 : decode cL_law 1018 = .ok (.laload, 1) := dk_47 (dk_at dksL_law_34 5 rfl rfl)
theorem dL_law_1019 : decode cL_law 1019 = .ok (.iload 7, 2) := dk_21 7 (dk_at dksL_law_34 6 rfl rfl)
theorem dL_law_1021 : decode cL_law 1021 = .ok (.i2l, 1) := dk_133 (dk_at dksL_law_34 8 rfl rfl)
theorem dL_law_1022 : decode cL_law 1022 = .ok (.lcmp, 1) := dk_148 (dk_at dksL_law_34 9 rfl rfl)
theorem dL_law_1023 : decode cL_law 1023 = .ok (.ifCond .eq 5, 3) := dk_153 0 5 (dk_at dksL_law_34 10 rfl rfl)
theorem dL_law_1026 : decode cL_law 1026 = .ok (.iconst 0, 1) := dk_3 (dk_at dksL_law_34 13 rfl rfl)
theorem dL_law_1027 : decode cL_law 1027 = .ok (.ireturn, 1) := dk_172 (dk_at dksL_law_34 14 rfl rfl)
theorem dL_law_1028 : decode cL_law 1028 = .ok (.goto 1720, 3) := dk_167 6 184 (dk_at dksL_law_34 15 rfl rfl)
theorem dL_law_1031 : decode cL_law 1031 = .ok (.aload_n 1, 1) := dk_43 (dk_at dksL_law_34 18 rfl rfl)
theorem dL_law_1032 : decode cL_law 1032 = .ok (.aload_n 0, 1) := dk_42 (dk_at dksL_law_34 19 rfl rfl)
theorem dL_law_1033 : decode cL_law 1033 = .ok (.iload 5, 2) := dk_21 5 (dk_at dksL_law_34 20 rfl rfl)
theorem dL_law_1035 : decode cL_law 1035 = .ok (.iconst 1, 1) := dk_4 (dk_at dksL_law_34 22 rfl rfl)
theorem dL_law_1036 : decode cL_law 1036 = .ok (.iadd, 1) := dk_96 (dk_at dksL_law_34 23 rfl rfl)
theorem dL_law_1037 : decode cL_law 1037 = .ok (.iaload, 1) := dk_46 (dk_at dksL_law_35 0 rfl rfl)
theorem dL_law_1038 : decode cL_law 1038 = .ok (.aload_n 3, 1) := dk_45 (dk_at dksL_law_35 1 rfl rfl)
theorem dL_law_1039 : decode cL_law 1039 = .ok (.invokestatic 209, 3) := dk_184 0 209 (dk_at dksL_law_35 2 rfl rfl)
theorem dL_law_1042 : decode cL_law 1042 = .ok (.istore 6, 2) := dk_54 6 (dk_at dksL_law_35 5 rfl rfl)
theorem dL_law_1044 : decode cL_law 1044 = .ok (.aload_n 2, 1) := dk_44 (dk_at dksL_law_35 7 rfl rfl)
theorem dL_law_1045 : decode cL_law 1045 = .ok (.aload_n 0, 1) := dk_42 (dk_at dksL_law_35 8 rfl rfl)
theorem dL_law_1046 : decode cL_law 1046 = .ok (.iload 5, 2) := dk_21 5 (dk_at dksL_law_35 9 rfl rfl)
theorem dL_law_1048 : decode cL_law 1048 = .ok (.iconst 1, 1) := dk_4 (dk_at dksL_law_35 11 rfl rfl)
theorem dL_law_1049 : decode cL_law 1049 = .ok (.iadd, 1) := dk_96 (dk_at dksL_law_35 12 rfl rfl)
theorem dL_law_1050 : decode cL_law 1050 = .ok (.iaload, 1) := dk_46 (dk_at dksL_law_35 13 rfl rfl)
theorem dL_law_1051 : decode cL_law 1051 = .ok (.invokevirtual 211, 3) := dk_182 0 211 (dk_at dksL_law_35 14 rfl rfl)
theorem dL_law_1054 : decode cL_law 1054 = .ok (.istore 7, 2) := dk_54 7 (dk_at dksL_law_35 17 rfl rfl)
theorem dL_law_1056 : decode cL_law 1056 = .ok (.aload_n 2, 1) := dk_44 (dk_at dksL_law_35 19 rfl rfl)
theorem dL_law_1057 : decode cL_law 1057 = .ok (.invokevirtual 158, 3) := dk_182 0 158 (dk_at dksL_law_35 20 rfl rfl)
theorem dL_law_1060 : decode cL_law 1060 = .ok (.iload 6, 2) := dk_21 6 (dk_at dksL_law_36 0 rfl rfl)
theorem dL_law_1062 : decode cL_law 1062 = .ok (.if_icmp .eq 5, 3) := dk_159 0 5 (dk_at dksL_law_36 2 rfl rfl)
theorem dL_law_1065 : decode cL_law 1065 = .ok (.iconst 0, 1) := dk_3 (dk_at dksL_law_36 5 rfl rfl)
theorem dL_law_1066 : decode cL_law 1066 = .ok (.ireturn, 1) := dk_172 (dk_at dksL_law_36 6 rfl rfl)
theorem dL_law_1067 : decode cL_law 1067 = .ok (.iload 6, 2) := dk_21 6 (dk_at dksL_law_36 7 rfl rfl)
theorem dL_law_1069 : decode cL_law 1069 = .ok (.ifCond .ne 15, 3) := dk_154 0 15 (dk_at dksL_law_36 9 rfl rfl)
theorem dL_law_1072 : decode cL_law 1072 = .ok (.aload_n 3, 1) := dk_45 (dk_at dksL_law_36 12 rfl rfl)
theorem dL_law_1073 : decode cL_law 1073 = .ok (.iconst 0, 1) := dk_3 (dk_at dksL_law_36 13 rfl rfl)
theorem dL_law_1074 : decode cL_law 1074 = .ok (.laload, 1) := dk_47 (dk_at dksL_law_36 14 rfl rfl)
theorem dL_law_1075 : decode cL_law 1075 = .ok (.iload 7, 2) := dk_21 7 (dk_at dksL_law_36 15 rfl rfl)
theorem dL_law_1077 : decode cL_law 1077 = .ok (.i2l, 1) := dk_133 (dk_at dksL_law_36 17 rfl rfl)
theorem dL_law_1078 : decode cL_law 1078 = .ok (.lcmp, 1) := dk_148 (dk_at dksL_law_36 18 rfl rfl)
theorem dL_law_1079 : decode cL_law 1079 = .ok (.ifCond .eq 5, 3) := dk_153 0 5 (dk_at dksL_law_36 19 rfl rfl)
theorem dL_law_1082 : decode cL_law 1082 = .ok (.iconst 0, 1) := dk_3 (dk_at dksL_law_36 22 rfl rfl)
theorem dL_law_1083 : decode cL_law 1083 = .ok (.ireturn, 1) := dk_172 (dk_at dksL_law_36 23 rfl rfl)
theorem dL_law_1084 : decode cL_law 1084 = .ok (.goto 1664, 3) := dk_167 6 128 (dk_at dksL_law_37 0 rfl rfl)
theorem dL_law_1087 : decode cL_law 1087 = .ok (.aload_n 1, 1) := dk_43 (dk_at dksL_law_37 3 rfl rfl)
theorem dL_law_1088 : decode cL_law 1088 = .ok (.aload_n 0, 1) := dk_42 (dk_at dksL_law_37 4 rfl rfl)
theorem dL_law_1089 : decode cL_law 1089 = .ok (.iload 5, 2) := dk_21 5 (dk_at dksL_law_37 5 rfl rfl)
theorem dL_law_1091 : decode cL_law 1091 = .ok (.iconst 1, 1) := dk_4 (dk_at dksL_law_37 7 rfl rfl)
theorem dL_law_1092 : decode cL_law 1092 = .ok (.iadd, 1) := dk_96 (dk_at dksL_law_37 8 rfl rfl)
theorem dL_law_1093 : decode cL_law 1093 = .ok (.iaload, 1) := dk_46 (dk_at dksL_law_37 9 rfl rfl)
theorem dL_law_1094 : decode cL_law 1094 = .ok (.aload_n 3, 1) := dk_45 (dk_at dksL_law_37 10 rfl rfl)
theorem dL_law_1095 : decode cL_law 1095 = .ok (.invokestatic 212, 3) := dk_184 0 212 (dk_at dksL_law_37 11 rfl rfl)
theorem dL_law_1098 : decode cL_law 1098 = .ok (.istore 6, 2) := dk_54 6 (dk_at dksL_law_37 14 rfl rfl)
theorem dL_law_1100 : decode cL_law 1100 = .ok (.aload_n 2, 1) := dk_44 (dk_at dksL_law_37 16 rfl rfl)
theorem dL_law_1101 : decode cL_law 1101 = .ok (.aload_n 0, 1) := dk_42 (dk_at dksL_law_37 17 rfl rfl)
theorem dL_law_1102 : decode cL_law 1102 = .ok (.iload 5, 2) := dk_21 5 (dk_at dksL_law_37 18 rfl rfl)
theorem dL_law_1104 : decode cL_law 1104 = .ok (.iconst 1, 1) := dk_4 (dk_at dksL_law_37 20 rfl rfl)
theorem dL_law_1105 : decode cL_law 1105 = .ok (.iadd, 1) := dk_96 (dk_at dksL_law_37 21 rfl rfl)
theorem dL_law_1106 : decode cL_law 1106 = .ok (.iaload, 1) := dk_46 (dk_at dksL_law_37 22 rfl rfl)
theorem dL_law_1107 : decode cL_law 1107 = .ok (.invokevirtual 214, 3) := dk_182 0 214 (dk_at dksL_law_38 0 rfl rfl)
theorem dL_law_1110 : decode cL_law 1110 = .ok (.istore 7, 2) := dk_54 7 (dk_at dksL_law_38 3 rfl rfl)
theorem dL_law_1112 : decode cL_law 1112 = .ok (.aload_n 2, 1) := dk_44 (dk_at dksL_law_38 5 rfl rfl)
theorem dL_law_1113 : decode cL_law 1113 = .ok (.invokevirtual 158, 3) := dk_182 0 158 (dk_at dksL_law_38 6 rfl rfl)
theorem dL_law_1116 : decode cL_law 1116 = .ok (.iload 6, 2) := dk_21 6 (dk_at dksL_law_38 9 rfl rfl)
theorem dL_law_1118 : decode cL_law 1118 = .ok (.if_icmp .eq 5, 3) := dk_159 0 5 (dk_at dksL_law_38 11 rfl rfl)
theorem dL_law_1121 : decode cL_law 1121 = .ok (.iconst 0, 1) := dk_3 (dk_at dksL_law_38 14 rfl rfl)
theorem dL_law_1122 : decode cL_law 1122 = .ok (.ireturn, 1) := dk_172 (dk_at dksL_law_38 15 rfl rfl)
theorem dL_law_1123 : decode cL_law 1123 = .ok (.iload 6, 2) := dk_21 6 (dk_at dksL_law_38 16 rfl rfl)
theorem dL_law_1125 : decode cL_law 1125 = .ok (.ifCond .ne 15, 3) := dk_154 0 15 (dk_at dksL_law_38 18 rfl rfl)
theorem dL_law_1128 : decode cL_law 1128 = .ok (.aload_n 3, 1) := dk_45 (dk_at dksL_law_38 21 rfl rfl)
theorem dL_law_1129 : decode cL_law 1129 = .ok (.iconst 0, 1) := dk_3 (dk_at dksL_law_38 22 rfl rfl)
theorem dL_law_1130 : decode cL_law 1130 = .ok (.laload, 1) := dk_47 (dk_at dksL_law_38 23 rfl rfl)
theorem dL_law_1131 : decode cL_law 1131 = .ok (.iload 7, 2) := dk_21 7 (dk_at dksL_law_39 0 rfl rfl)
theorem dL_law_1133 : decode cL_law 1133 = .ok (.i2l, 1) := dk_133 (dk_at dksL_law_39 2 rfl rfl)
theorem dL_law_1134 : decode cL_law 1134 = .ok (.lcmp, 1) := dk_148 (dk_at dksL_law_39 3 rfl rfl)
theorem dL_law_1135 : decode cL_law 1135 = .ok (.ifCond .eq 5, 3) := dk_153 0 5 (dk_at dksL_law_39 4 rfl rfl)
theorem dL_law_1138 : decode cL_law 1138 = .ok (.iconst 0, 1) := dk_3 (dk_at dksL_law_39 7 rfl rfl)
theorem dL_law_1139 : decode cL_law 1139 = .ok (.ireturn, 1) := dk_172 (dk_at dksL_law_39 8 rfl rfl)
theorem dL_law_1140 : decode cL_law 1140 = .ok (.goto 1608, 3) := dk_167 6 72 (dk_at dksL_law_39 9 rfl rfl)
theorem dL_law_1143 : decode cL_law 1143 = .ok (.aload_n 1, 1) := dk_43 (dk_at dksL_law_39 12 rfl rfl)
theorem dL_law_1144 : decode cL_law 1144 = .ok (.aload_n 0, 1) := dk_42 (dk_at dksL_law_39 13 rfl rfl)
theorem dL_law_1145 : decode cL_law 1145 = .ok (.iload 5, 2) := dk_21 5 (dk_at dksL_law_39 14 rfl rfl)
theorem dL_law_1147 : decode cL_law 1147 = .ok (.iconst 1, 1) := dk_4 (dk_at dksL_law_39 16 rfl rfl)
theorem dL_law_1148 : decode cL_law 1148 = .ok (.iadd, 1) := dk_96 (dk_at dksL_law_39 17 rfl rfl)
theorem dL_law_1149 : decode cL_law 1149 = .ok (.iaload, 1) := dk_46 (dk_at dksL_law_39 18 rfl rfl)
theorem dL_law_1150 : decode cL_law 1150 = .ok (.aload_n 0, 1) := dk_42 (dk_at dksL_law_39 19 rfl rfl)
theorem dL_law_1151 : decode cL_law 1151 = .ok (.iload 5, 2) := dk_21 5 (dk_at dksL_law_39 20 rfl rfl)
theorem dL_law_1153 : decode cL_law 1153 = .ok (.iconst 2, 1) := dk_5 (dk_at dksL_law_39 22 rfl rfl)
theorem dL_law_1154 : decode cL_law 1154 = .ok (.iadd, 1) := dk_96 (dk_at dksL_law_39 23 rfl rfl)
theorem dL_law_1155 : decode cL_law 1155 = .ok (.iaload, 1) := dk_46 (dk_at dksL_law_40 0 rfl rfl)
theorem dL_law_1156 : decode cL_law 1156 = .ok (.aload_n 3, 1) := dk_45 (dk_at dksL_law_40 1 rfl rfl)
theorem dL_law_1157 : decode cL_law 1157 = .ok (.invokestatic 215, 3) := dk_184 0 215 (dk_at dksL_law_40 2 rfl rfl)
theorem dL_law_1160 : decode cL_law 1160 = .ok (.istore 6, 2) := dk_54 6 (dk_at dksL_law_40 5 rfl rfl)
theorem dL_law_1162 : decode cL_law 1162 = .ok (.aload_n 2, 1) := dk_44 (dk_at dksL_law_40 7 rfl rfl)
theorem dL_law_1163 : decode cL_law 1163 = .ok (.aload_n 0, 1) := dk_42 (dk_at dksL_law_40 8 rfl rfl)
theorem dL_law_1164 : decode cL_law 1164 = .ok (.iload 5, 2) := dk_21 5 (dk_at dksL_law_40 9 rfl rfl)
theorem dL_law_1166 : decode cL_law 1166 = .ok (.iconst 1, 1) := dk_4 (dk_at dksL_law_40 11 rfl rfl)
theorem dL_law_1167 : decode cL_law 1167 = .ok (.iadd, 1) := dk_96 (dk_at dksL_law_40 12 rfl rfl)
theorem dL_law_1168 : decode cL_law 1168 = .ok (.iaload, 1) := dk_46 (dk_at dksL_law_40 13 rfl rfl)
theorem dL_law_1169 : decode cL_law 1169 = .ok (.aload_n 0, 1) := dk_42 (dk_at dksL_law_40 14 rfl rfl)
theorem dL_law_1170 : decode cL_law 1170 = .ok (.iload 5, 2) := dk_21 5 (dk_at dksL_law_40 15 rfl rfl)
theorem dL_law_1172 : decode cL_law 1172 = .ok (.iconst 2, 1) := dk_5 (dk_at dksL_law_40 17 rfl rfl)
theorem dL_law_1173 : decode cL_law 1173 = .ok (.iadd, 1) := dk_96 (dk_at dksL_law_40 18 rfl rfl)
theorem dL_law_1174 : decode cL_law 1174 = .ok (.iaload, 1) := dk_46 (dk_at dksL_law_40 19 rfl rfl)
theorem dL_law_1175 : decode cL_law 1175 = .ok (.invokevirtual 217, 3) := dk_182 0 217 (dk_at dksL_law_40 20 rfl rfl)
theorem dL_law_1178 : decode cL_law 1178 = .ok (.istore 7, 2) := dk_54 7 (dk_at dksL_law_41 0 rfl rfl)
theorem dL_law_1180 : decode cL_law 1180 = .ok (.aload_n 2, 1) := dk_44 (dk_at dksL_law_41 2 rfl rfl)
theorem dL_law_1181 : decode cL_law 1181 = .ok (.invokevirtual 158, 3) := dk_182 0 158 (dk_at dksL_law_41 3 rfl rfl)
theorem dL_law_1184 : decode cL_law 1184 = .ok (.iload 6, 2) := dk_21 6 (dk_at dksL_law_41 6 rfl rfl)
theorem dL_law_1186 : decode cL_law 1186 = .ok (.if_icmp .eq 5, 3) := dk_159 0 5 (dk_at dksL_law_41 8 rfl rfl)
theorem dL_law_1189 : decode cL_law 1189 = .ok (.iconst 0, 1) := dk_3 (dk_at dksL_law_41 11 rfl rfl)
theorem dL_law_1190 : decode cL_law 1190 = .ok (.ireturn, 1) := dk_172 (dk_at dksL_law_41 12 rfl rfl)
theorem dL_law_1191 : decode cL_law 1191 = .ok (.iload 6, 2) := dk_21 6 (dk_at dksL_law_41 13 rfl rfl)
theorem dL_law_1193 : decode cL_law 1193 = .ok (.ifCond .ne 15, 3) := dk_154 0 15 (dk_at dksL_law_41 15 rfl rfl)
theorem dL_law_1196 : decode cL_law 1196 = .ok (.aload_n 3, 1) := dk_45 (dk_at dksL_law_41 18 rfl rfl)
theorem dL_law_1197 : decode cL_law 1197 = .ok (.iconst 0, 1) := dk_3 (dk_at dksL_law_41 19 rfl rfl)
theorem dL_law_1198 : decode cL_law 1198 = .ok (.laload, 1) := dk_47 (dk_at dksL_law_41 20 rfl rfl)
theorem dL_law_1199 : decode cL_law 1199 = .ok (.iload 7, 2) := dk_21 7 (dk_at dksL_law_41 21 rfl rfl)
theorem dL_law_1201 : decode cL_law 1201 = .ok (.i2l, 1) := dk_133 (dk_at dksL_law_41 23 rfl rfl)
theorem dL_law_1202 : decode cL_law 1202 = .ok (.lcmp, 1) := dk_148 (dk_at dksL_law_42 0 rfl rfl)
theorem dL_law_1203 : decode cL_law 1203 = .ok (.ifCond .eq 5, 3) := dk_153 0 5 (dk_at dksL_law_42 1 rfl rfl)
theorem dL_law_1206 : decode cL_law 1206 = .ok (.iconst 0, 1) := dk_3 (dk_at dksL_law_42 4 rfl rfl)
theorem dL_law_1207 : decode cL_law 1207 = .ok (.ireturn, 1) := dk_172 (dk_at dksL_law_42 5 rfl rfl)
theorem dL_law_1208 : decode cL_law 1208 = .ok (.goto 1540, 3) := dk_167 6 4 (dk_at dksL_law_42 6 rfl rfl)
theorem dL_law_1211 : decode cL_law 1211 = .ok (.aload_n 1, 1) := dk_43 (dk_at dksL_law_42 9 rfl rfl)
theorem dL_law_1212 : decode cL_law 1212 = .ok (.invokevirtual 218, 3) := dk_182 0 218 (dk_at dksL_law_42 10 rfl rfl)
theorem dL_law_1215 : decode cL_law 1215 = .ok (.aload_n 2, 1) := dk_44 (dk_at dksL_law_42 13 rfl rfl)
theorem dL_law_1216 : decode cL_law 1216 = .ok (.invokevirtual 221, 3) := dk_182 0 221 (dk_at dksL_law_42 14 rfl rfl)
theorem dL_law_1219 : decode cL_law 1219 = .ok (.if_icmp .eq 1529, 3) := dk_159 5 249 (dk_at dksL_law_42 17 rfl rfl)
theorem dL_law_1222 : decode cL_law 1222 = .ok (.iconst 0, 1) := dk_3 (dk_at dksL_law_42 20 rfl rfl)
theorem dL_law_1223 : decode cL_law 1223 = .ok (.ireturn, 1) := dk_172 (dk_at dksL_law_42 21 rfl rfl)
theorem dL_law_1224 : decode cL_law 1224 = .ok (.aload_n 1, 1) := dk_43 (dk_at dksL_law_42 22 rfl rfl)
theorem dL_law_1225 : decode cL_law 1225 = .ok (.aload_n 0, 1) := dk_42 (dk_at dksL_law_42 23 rfl rfl)
theorem dL_law_1226 : decode cL_law 1226 = .ok (.iload 5, 2) := dk_21 5 (dk_at dksL_law_43 0 rfl rfl)
theorem dL_law_1228 : decode cL_law 1228 = .ok (.iconst 1, 1) := dk_4 (dk_at dksL_law_43 2 rfl rfl)
theorem dL_law_1229 : decode cL_law 1229 = .ok (.iadd, 1) := dk_96 (dk_at dksL_law_43 3 rfl rfl)
theorem dL_law_1230 : decode cL_law 1230 = .ok (.iaload, 1) := dk_46 (dk_at dksL_law_43 4 rfl rfl)
theorem dL_law_1231 : decode cL_law 1231 = .ok (.aload_n 3, 1) := dk_45 (dk_at dksL_law_43 5 rfl rfl)
theorem dL_law_1232 : decode cL_law 1232 = .ok (.invokestatic 222, 3) := dk_184 0 222 (dk_at dksL_law_43 6 rfl rfl)
theorem dL_law_1235 : decode cL_law 1235 = .ok (.istore 6, 2) := dk_54 6 (dk_at dksL_law_43 9 rfl rfl)
theorem dL_law_1237 : decode cL_law 1237 = .ok (.aload_n 2, 1) := dk_44 (dk_at dksL_law_43 11 rfl rfl)
theorem dL_law_1238 : decode cL_law 1238 = .ok (.aload_n 0, 1) := dk_42 (dk_at dksL_law_43 12 rfl rfl)
theorem dL_law_1239 : decode cL_law 1239 = .ok (.iload 5, 2) := dk_21 5 (dk_at dksL_law_43 13 rfl rfl)
theorem dL_law_1241 : decode cL_law 1241 = .ok (.iconst 1, 1) := dk_4 (dk_at dksL_law_43 15 rfl rfl)
theorem dL_law_1242 : decode cL_law 1242 = .ok (.iadd, 1) := dk_96 (dk_at dksL_law_43 16 rfl rfl)
theorem dL_law_1243 : decode cL_law 1243 = .ok (.iaload, 1) := dk_46 (dk_at dksL_law_43 17 rfl rfl)
theorem dL_law_1244 : decode cL_law 1244 = .ok (.invokevirtual 224, 3) := dk_182 0 224 (dk_at dksL_law_43 18 rfl rfl)
theorem dL_law_1247 : decode cL_law 1247 = .ok (.istore 7, 2) := dk_54 7 (dk_at dksL_law_43 21 rfl rfl)
theorem dL_law_1249 : decode cL_law 1249 = .ok (.aload_n 2, 1) := dk_44 (dk_at dksL_law_43 23 rfl rfl)
theorem dL_law_1250 : decode cL_law 1250 = .ok (.invokevirtual 158, 3) := dk_182 0 158 (dk_at dksL_law_44 0 rfl rfl)
theorem dL_law_1253 : decode cL_law 1253 = .ok (.iload 6, 2) := dk_21 6 (dk_at dksL_law_44 3 rfl rfl)
theorem dL_law_1255 : decode cL_law 1255 = .ok (.if_icmp .eq 5, 3) := dk_159 0 5 (dk_at dksL_law_44 5 rfl rfl)
theorem dL_law_1258 : decode cL_law 1258 = .ok (.iconst 0, 1) := dk_3 (dk_at dksL_law_44 8 rfl rfl)
theorem dL_law_1259 : decode cL_law 1259 = .ok (.ireturn, 1) := dk_172 (dk_at dksL_law_44 9 rfl rfl)
theorem dL_law_1260 : decode cL_law 1260 = .ok (.iload 6, 2) := dk_21 6 (dk_at dksL_law_44 10 rfl rfl)
theorem dL_law_1262 : decode cL_law 1262 = .ok (.ifCond .ne 15, 3) := dk_154 0 15 (dk_at dksL_law_44 12 rfl rfl)
theorem dL_law_1265 : decode cL_law 1265 = .ok (.aload_n 3, 1) := dk_45 (dk_at dksL_law_44 15 rfl rfl)
theorem dL_law_1266 : decode cL_law 1266 = .ok (.iconst 0, 1) := dk_3 (dk_at dksL_law_44 16 rfl rfl)
theorem dL_law_1267 : decode cL_law 1267 = .ok (.laload, 1) := dk_47 (dk_at dksL_law_44 17 rfl rfl)
theorem dL_law_1268 : decode cL_law 1268 = .ok (.iload 7, 2) := dk_21 7 (dk_at dksL_law_44 18 rfl rfl)
theorem dL_law_1270 : decode cL_law 1270 = .ok (.i2l, 1) := dk_133 (dk_at dksL_law_44 20 rfl rfl)
theorem dL_law_1271 : decode cL_law 1271 = .ok (.lcmp, 1) := dk_148 (dk_at dksL_law_44 21 rfl rfl)
theorem dL_law_1272 : decode cL_law 1272 = .ok (.ifCond .eq 5, 3) := dk_153 0 5 (dk_at dksL_law_45 0 rfl rfl)
theorem dL_law_1275 : decode cL_law 1275 = .ok (.iconst 0, 1) := dk_3 (dk_at dksL_law_45 3 rfl rfl)
theorem dL_law_1276 : decode cL_law 1276 = .ok (.ireturn, 1) := dk_172 (dk_at dksL_law_45 4 rfl rfl)
theorem dL_law_1277 : decode cL_law 1277 = .ok (.goto 1471, 3) := dk_167 5 191 (dk_at dksL_law_45 5 rfl rfl)
theorem dL_law_1280 : decode cL_law 1280 = .ok (.aload_n 1, 1) := dk_43 (dk_at dksL_law_45 8 rfl rfl)
theorem dL_law_1281 : decode cL_law 1281 = .ok (.aload_n 0, 1) := dk_42 (dk_at dksL_law_45 9 rfl rfl)
theorem dL_law_1282 : decode cL_law 1282 = .ok (.iload 5, 2) := dk_21 5 (dk_at dksL_law_45 10 rfl rfl)
theorem dL_law_1284 : decode cL_law 1284 = .ok (.iconst 1, 1) := dk_4 (dk_at dksL_law_45 12 rfl rfl)
theorem dL_law_1285 : decode cL_law 1285 = .ok (.iadd, 1) := dk_96 (dk_at dksL_law_45 13 rfl rfl)
theorem dL_law_1286 : decode cL_law 1286 = .ok (.iaload, 1) := dk_46 (dk_at dksL_law_45 14 rfl rfl)
theorem dL_law_1287 : decode cL_law 1287 = .ok (.aload_n 3, 1) := dk_45 (dk_at dksL_law_45 15 rfl rfl)
theorem dL_law_1288 : decode cL_law 1288 = .ok (.invokestatic 225, 3) := dk_184 0 225 (dk_at dksL_law_45 16 rfl rfl)
theorem dL_law_1291 : decode cL_law 1291 = .ok (.istore 6, 2) := dk_54 6 (dk_at dksL_law_45 19 rfl rfl)
theorem dL_law_1293 : decode cL_law 1293 = .ok (.aload_n 2, 1) := dk_44 (dk_at dksL_law_45 21 rfl rfl)
theorem dL_law_1294 : decode cL_law 1294 = .ok (.aload_n 0, 1) := dk_42 (dk_at dksL_law_45 22 rfl rfl)
theorem dL_law_1295 : decode cL_law 1295 = .ok (.iload 5, 2) := dk_21 5 (dk_at dksL_law_46 0 rfl rfl)
theorem dL_law_1297 : decode cL_law 1297 = .ok (.iconst 1, 1) := dk_4 (dk_at dksL_law_46 2 rfl rfl)
theorem dL_law_1298 : decode cL_law 1298 = .ok (.iadd, 1) := dk_96 (dk_at dksL_law_46 3 rfl rfl)
theorem dL_law_1299 : decode cL_law 1299 = .ok (.iaload, 1) := dk_46 (dk_at dksL_law_46 4 rfl rfl)
theorem dL_law_1300 : decode cL_law 1300 = .ok (.invokevirtual 227, 3) := dk_182 0 227 (dk_at dksL_law_46 5 rfl rfl)
theorem dL_law_1303 : decode cL_law 1303 = .ok (.istore 7, 2) := dk_54 7 (dk_at dksL_law_46 8 rfl rfl)
theorem dL_law_1305 : decode cL_law 1305 = .ok (.aload_n 2, 1) := dk_44 (dk_at dksL_law_46 10 rfl rfl)
theorem dL_law_1306 : decode cL_law 1306 = .ok (.invokevirtual 158, 3) := dk_182 0 158 (dk_at dksL_law_46 11 rfl rfl)
theorem dL_law_1309 : decode cL_law 1309 = .ok (.iload 6, 2) := dk_21 6 (dk_at dksL_law_46 14 rfl rfl)
theorem dL_law_1311 : decode cL_law 1311 = .ok (.if_icmp .eq 5, 3) := dk_159 0 5 (dk_at dksL_law_46 16 rfl rfl)
theorem dL_law_1314 : decode cL_law 1314 = .ok (.iconst 0, 1) := dk_3 (dk_at dksL_law_46 19 rfl rfl)
theorem dL_law_1315 : decode cL_law 1315 = .ok (.ireturn, 1) := dk_172 (dk_at dksL_law_46 20 rfl rfl)
theorem dL_law_1316 : decode cL_law 1316 = .ok (.iload 6, 2) := dk_21 6 (dk_at dksL_law_46 21 rfl rfl)
theorem dL_law_1318 : decode cL_law 1318 = .ok (.ifCond .ne 15, 3) := dk_154 0 15 (dk_at dksL_law_47 0 rfl rfl)
theorem dL_law_1321 : decode cL_law 1321 = .ok (.aload_n 3, 1) := dk_45 (dk_at dksL_law_47 3 rfl rfl)
theorem dL_law_1322 : decode cL_law 1322 = .ok (.iconst 0, 1) := dk_3 (dk_at dksL_law_47 4 rfl rfl)
theorem dL_law_1323 : decode cL_law 1323 = .ok (.laload, 1) := dk_47 (dk_at dksL_law_47 5 rfl rfl)
theorem dL_law_1324 : decode cL_law 1324 = .ok (.iload 7, 2) := dk_21 7 (dk_at dksL_law_47 6 rfl rfl)
theorem dL_law_1326 : decode cL_law 1326 = .ok (.i2l, 1) := dk_133 (dk_at dksL_law_47 8 rfl rfl)
theorem dL_law_1327 : decode cL_law 1327 = .ok (.lcmp, 1) := dk_148 (dk_at dksL_law_47 9 rfl rfl)
theorem dL_law_1328 : decode cL_law 1328 = .ok (.ifCond .eq 5, 3) := dk_153 0 5 (dk_at dksL_law_47 10 rfl rfl)
theorem dL_law_1331 : decode cL_law 1331 = .ok (.iconst 0, 1) := dk_3 (dk_at dksL_law_47 13 rfl rfl)
theorem dL_law_1332 : decode cL_law 1332 = .ok (.ireturn, 1) := dk_172 (dk_at dksL_law_47 14 rfl rfl)
theorem dL_law_1333 : decode cL_law 1333 = .ok (.goto 1415, 3) := dk_167 5 135 (dk_at dksL_law_47 15 rfl rfl)
theorem dL_law_1336 : decode cL_law 1336 = .ok (.aload_n 1, 1) := dk_43 (dk_at dksL_law_47 18 rfl rfl)
theorem dL_law_1337 : decode cL_law 1337 = .ok (.aload_n 0, 1) := dk_42 (dk_at dksL_law_47 19 rfl rfl)
theorem dL_law_1338 : decode cL_law 1338 = .ok (.iload 5, 2) := dk_21 5 (dk_at dksL_law_47 20 rfl rfl)
theorem dL_law_1340 : decode cL_law 1340 = .ok (.iconst 1, 1) := dk_4 (dk_at dksL_law_47 22 rfl rfl)
theorem dL_law_1341 : decode cL_law 1341 = .ok (.iadd, 1) := dk_96 (dk_at dksL_law_47 23 rfl rfl)
theorem dL_law_1342 : decode cL_law 1342 = .ok (.iaload, 1) := dk_46 (dk_at dksL_law_48 0 rfl rfl)
theorem dL_law_1343 : decode cL_law 1343 = .ok (.aload_n 3, 1) := dk_45 (dk_at dksL_law_48 1 rfl rfl)
theorem dL_law_1344 : decode cL_law 1344 = .ok (.invokestatic 228, 3) := dk_184 0 228 (dk_at dksL_law_48 2 rfl rfl)
theorem dL_law_1347 : decode cL_law 1347 = .ok (.istore 6, 2) := dk_54 6 (dk_at dksL_law_48 5 rfl rfl)
theorem dL_law_1349 : decode cL_law 1349 = .ok (.aload_n 2, 1) := dk_44 (dk_at dksL_law_48 7 rfl rfl)
theorem dL_law_1350 : decode cL_law 1350 = .ok (.aload_n 0, 1) := dk_42 (dk_at dksL_law_48 8 rfl rfl)
theorem dL_law_1351 : decode cL_law 1351 = .ok (.iload 5, 2) := dk_21 5 (dk_at dksL_law_48 9 rfl rfl)
theorem dL_law_1353 : decode cL_law 1353 = .ok (.iconst 1, 1) := dk_4 (dk_at dksL_law_48 11 rfl rfl)
theorem dL_law_1354 : decode cL_law 1354 = .ok (.iadd, 1) := dk_96 (dk_at dksL_law_48 12 rfl rfl)
theorem dL_law_1355 : decode cL_law 1355 = .ok (.iaload, 1) := dk_46 (dk_at dksL_law_48 13 rfl rfl)
theorem dL_law_1356 : decode cL_law 1356 = .ok (.invokevirtual 230, 3) := dk_182 0 230 (dk_at dksL_law_48 14 rfl rfl)
theorem dL_law_1359 : decode cL_law 1359 = .ok (.istore 7, 2) := dk_54 7 (dk_at dksL_law_48 17 rfl rfl)
theorem dL_law_1361 : decode cL_law 1361 = .ok (.aload_n 2, 1) := dk_44 (dk_at dksL_law_48 19 rfl rfl)
theorem dL_law_1362 : decode cL_law 1362 = .ok (.invokevirtual 158, 3) := dk_182 0 158 (dk_at dksL_law_48 20 rfl rfl)
theorem dL_law_1365 : decode cL_law 1365 = .ok (.iload 6, 2) := dk_21 6 (dk_at dksL_law_49 0 rfl rfl)
theorem dL_law_1367 : decode cL_law 1367 = .ok (.if_icmp .eq 5, 3) := dk_159 0 5 (dk_at dksL_law_49 2 rfl rfl)
theorem dL_law_1370 : decode cL_law 1370 = .ok (.iconst 0, 1) := dk_3 (dk_at dksL_law_49 5 rfl rfl)
theorem dL_law_1371 : decode cL_law 1371 = .ok (.ireturn, 1) := dk_172 (dk_at dksL_law_49 6 rfl rfl)
theorem dL_law_1372 : decode cL_law 1372 = .ok (.iload 6, 2) := dk_21 6 (dk_at dksL_law_49 7 rfl rfl)
theorem dL_law_1374 : decode cL_law 1374 = .ok (.ifCond .ne 15, 3) := dk_154 0 15 (dk_at dksL_law_49 9 rfl rfl)
theorem dL_law_1377 : decode cL_law 1377 = .ok (.aload_n 3, 1) := dk_45 (dk_at dksL_law_49 12 rfl rfl)
theorem dL_law_1378 : decode cL_law 1378 = .ok (.iconst 0, 1) := dk_3 (dk_at dksL_law_49 13 rfl rfl)
theorem dL_law_1379 : decode cL_law 1379 = .ok (.laload, 1) := dk_47 (dk_at dksL_law_49 14 rfl rfl)
theorem dL_law_1380 : decode cL_law 1380 = .ok (.iload 7, 2) := dk_21 7 (dk_at dksL_law_49 15 rfl rfl)
theorem dL_law_1382 : decode cL_law 1382 = .ok (.i2l, 1) := dk_133 (dk_at dksL_law_49 17 rfl rfl)
theorem dL_law_1383 : decode cL_law 1383 = .ok (.lcmp, 1) := dk_148 (dk_at dksL_law_49 18 rfl rfl)
theorem dL_law_1384 : decode cL_law 1384 = .ok (.ifCond .eq 5, 3) := dk_153 0 5 (dk_at dksL_law_49 19 rfl rfl)
theorem dL_law_1387 : decode cL_law 1387 = .ok (.iconst 0, 1) := dk_3 (dk_at dksL_law_49 22 rfl rfl)
theorem dL_law_1388 : decode cL_law 1388 = .ok (.ireturn, 1) := dk_172 (dk_at dksL_law_49 23 rfl rfl)
theorem dL_law_1389 : decode cL_law 1389 = .ok (.goto 1359, 3) := dk_167 5 79 (dk_at dksL_law_50 0 rfl rfl)
theorem dL_law_1392 : decode cL_law 1392 = .ok (.aload_n 1, 1) := dk_43 (dk_at dksL_law_50 3 rfl rfl)
theorem dL_law_1393 : decode cL_law 1393 = .ok (.aload_n 0, 1) := dk_42 (dk_at dksL_law_50 4 rfl rfl)
theorem dL_law_1394 : decode cL_law 1394 = .ok (.iload 5, 2) := dk_21 5 (dk_at dksL_law_50 5 rfl rfl)
theorem dL_law_1396 : decode cL_law 1396 = .ok (.iconst 1, 1) := dk_4 (dk_at dksL_law_50 7 rfl rfl)
theorem dL_law_1397 : decode cL_law 1397 = .ok (.iadd, 1) := dk_96 (dk_at dksL_law_50 8 rfl rfl)
theorem dL_law_1398 : decode cL_law 1398 = .ok (.iaload, 1) := dk_46 (dk_at dksL_law_50 9 rfl rfl)
theorem dL_law_1399 : decode cL_law 1399 = .ok (.aload_n 3, 1) := dk_45 (dk_at dksL_law_50 10 rfl rfl)
theorem dL_law_1400 : decode cL_law 1400 = .ok (.invokestatic 231, 3) := dk_184 0 231 (dk_at dksL_law_50 11 rfl rfl)
theorem dL_law_1403 : decode cL_law 1403 = .ok (.istore 6, 2) := dk_54 6 (dk_at dksL_law_50 14 rfl rfl)
theorem dL_law_1405 : decode cL_law 1405 = .ok (.aload_n 2, 1) := dk_44 (dk_at dksL_law_50 16 rfl rfl)
theorem dL_law_1406 : decode cL_law 1406 = .ok (.aload_n 0, 1) := dk_42 (dk_at dksL_law_50 17 rfl rfl)
theorem dL_law_1407 : decode cL_law 1407 = .ok (.iload 5, 2) := dk_21 5 (dk_at dksL_law_50 18 rfl rfl)
theorem dL_law_1409 : decode cL_law 1409 = .ok (.iconst 1, 1) := dk_4 (dk_at dksL_law_50 20 rfl rfl)
theorem dL_law_1410 : decode cL_law 1410 = .ok (.iadd, 1) := dk_96 (dk_at dksL_law_50 21 rfl rfl)
theorem dL_law_1411 : decode cL_law 1411 = .ok (.iaload, 1) := dk_46 (dk_at dksL_law_50 22 rfl rfl)
theorem dL_law_1412 : decode cL_law 1412 = .ok (.invokevirtual 233, 3) := dk_182 0 233 (dk_at dksL_law_51 0 rfl rfl)
theorem dL_law_1415 : decode cL_law 1415 = .ok (.istore 7, 2) := dk_54 7 (dk_at dksL_law_51 3 rfl rfl)
theorem dL_law_1417 : decode cL_law 1417 = .ok (.aload_n 2, 1) := dk_44 (dk_at dksL_law_51 5 rfl rfl)
theorem dL_law_1418 : decode cL_law 1418 = .ok (.invokevirtual 158, 3) := dk_182 0 158 (dk_at dksL_law_51 6 rfl rfl)
theorem dL_law_1421 : decode cL_law 1421 = .ok (.iload 6, 2) := dk_21 6 (dk_at dksL_law_51 9 rfl rfl)
theorem dL_law_1423 : decode cL_law 1423 = .ok (.if_icmp .eq 5, 3) := dk_159 0 5 (dk_at dksL_law_51 11 rfl rfl)
theorem dL_law_1426 : decode cL_law 1426 = .ok (.iconst 0, 1) := dk_3 (dk_at dksL_law_51 14 rfl rfl)
theorem dL_law_1427 : decode cL_law 1427 = .ok (.ireturn, 1) := dk_172 (dk_at dksL_law_51 15 rfl rfl)
theorem dL_law_1428 : decode cL_law 1428 = .ok (.iload 6, 2) := dk_21 6 (dk_at dksL_law_51 16 rfl rfl)
theorem dL_law_1430 : decode cL_law 1430 = .ok (.ifCond .ne 22, 3) := dk_154 0 22 (dk_at dksL_law_51 18 rfl rfl)
theorem dL_law_1433 : decode cL_law 1433 = .ok (.aload_n 3, 1) := dk_45 (dk_at dksL_law_51 21 rfl rfl)
theorem dL_law_1434 : decode cL_law 1434 = .ok (.iconst 0, 1) := dk_3 (dk_at dksL_law_51 22 rfl rfl)
theorem dL_law_1435 : decode cL_law 1435 = .ok (.laload, 1) := dk_47 (dk_at dksL_law_51 23 rfl rfl)
theorem dL_law_1436 : decode cL_law 1436 = .ok (.iload 7, 2) := dk_21 7 (dk_at dksL_law_52 0 rfl rfl)
theorem dL_law_1438 : decode cL_law 1438 = .ok (.ifCond .eq 7, 3) := dk_153 0 7 (dk_at dksL_law_52 2 rfl rfl)
theorem dL_law_1441 : decode cL_law 1441 = .ok (.lconst 1, 1) := dk_10 (dk_at dksL_law_52 5 rfl rfl)
theorem dL_law_1442 : decode cL_law 1442 = .ok (.goto 4, 3) := dk_167 0 4 (dk_at dksL_law_52 6 rfl rfl)
theorem dL_law_1445 : decode cL_law 1445 = .ok (.lconst 0, 1) := dk_9 (dk_at dksL_law_52 9 rfl rfl)
theorem dL_law_1446 : decode cL_law 1446 = .ok (.lcmp, 1) := dk_148 (dk_at dksL_law_52 10 rfl rfl)
theorem dL_law_1447 : decode cL_law 1447 = .ok (.ifCond .eq 5, 3) := dk_153 0 5 (dk_at dksL_law_52 11 rfl rfl)
theorem dL_law_1450 : decode cL_law 1450 = .ok (.iconst 0, 1) := dk_3 (dk_at dksL_law_52 14 rfl rfl)
theorem dL_law_1451 : decode cL_law 1451 = .ok (.ireturn, 1) := dk_172 (dk_at dksL_law_52 15 rfl rfl)
theorem dL_law_1452 : decode cL_law 1452 = .ok (.goto 1296, 3) := dk_167 5 16 (dk_at dksL_law_52 16 rfl rfl)
theorem dL_law_1455 : decode cL_law 1455 = .ok (.aload_n 1, 1) := dk_43 (dk_at dksL_law_52 19 rfl rfl)
theorem dL_law_1456 : decode cL_law 1456 = .ok (.aload_n 0, 1) := dk_42 (dk_at dksL_law_52 20 rfl rfl)
theorem dL_law_1457 : decode cL_law 1457 = .ok (.iload 5, 2) := dk_21 5 (dk_at dksL_law_52 21 rfl rfl)
theorem dL_law_1459 : decode cL_law 1459 = .ok (.iconst 1, 1) := dk_4 (dk_at dksL_law_52 23 rfl rfl)
theorem dL_law_1460 : decode cL_law 1460 = .ok (.iadd, 1) := dk_96 (dk_at dksL_law_53 0 rfl rfl)
theorem dL_law_1461 : decode cL_law 1461 = .ok (.iaload, 1) := dk_46 (dk_at dksL_law_53 1 rfl rfl)
theorem dL_law_1462 : decode cL_law 1462 = .ok (.aload_n 3, 1) := dk_45 (dk_at dksL_law_53 2 rfl rfl)
theorem dL_law_1463 : decode cL_law 1463 = .ok (.invokestatic 234, 3) := dk_184 0 234 (dk_at dksL_law_53 3 rfl rfl)
theorem dL_law_1466 : decode cL_law 1466 = .ok (.istore 6, 2) := dk_54 6 (dk_at dksL_law_53 6 rfl rfl)
theorem dL_law_1468 : decode cL_law 1468 = .ok (.aload_n 2, 1) := dk_44 (dk_at dksL_law_53 8 rfl rfl)
theorem dL_law_1469 : decode cL_law 1469 = .ok (.aload_n 0, 1) := dk_42 (dk_at dksL_law_53 9 rfl rfl)
theorem dL_law_1470 : decode cL_law 1470 = .ok (.iload 5, 2) := dk_21 5 (dk_at dksL_law_53 10 rfl rfl)
theorem dL_law_1472 : decode cL_law 1472 = .ok (.iconst 1, 1) := dk_4 (dk_at dksL_law_53 12 rfl rfl)
theorem dL_law_1473 : decode cL_law 1473 = .ok (.iadd, 1) := dk_96 (dk_at dksL_law_53 13 rfl rfl)
theorem dL_law_1474 : decode cL_law 1474 = .ok (.iaload, 1) := dk_46 (dk_at dksL_law_53 14 rfl rfl)
theorem dL_law_1475 : decode cL_law 1475 = .ok (.invokevirtual 236, 3) := dk_182 0 236 (dk_at dksL_law_53 15 rfl rfl)
theorem dL_law_1478 : decode cL_law 1478 = .ok (.istore 7, 2) := dk_54 7 (dk_at dksL_law_53 18 rfl rfl)
theorem dL_law_1480 : decode cL_law 1480 = .ok (.aload_n 2, 1) := dk_44 (dk_at dksL_law_53 20 rfl rfl)
theorem dL_law_1481 : decode cL_law 1481 = .ok (.invokevirtual 158, 3) := dk_182 0 158 (dk_at dksL_law_53 21 rfl rfl)
theorem dL_law_1484 : decode cL_law 1484 = .ok (.iload 6, 2) := dk_21 6 (dk_at dksL_law_54 0 rfl rfl)
theorem dL_law_1486 : decode cL_law 1486 = .ok (.if_icmp .eq 5, 3) := dk_159 0 5 (dk_at dksL_law_54 2 rfl rfl)
theorem dL_law_1489 : decode cL_law 1489 = .ok (.iconst 0, 1) := dk_3 (dk_at dksL_law_54 5 rfl rfl)
theorem dL_law_1490 : decode cL_law 1490 = .ok (.ireturn, 1) := dk_172 (dk_at dksL_law_54 6 rfl rfl)
theorem dL_law_1491 : decode cL_law 1491 = .ok (.iload 6, 2) := dk_21 6 (dk_at dksL_law_54 7 rfl rfl)
theorem dL_law_1493 : decode cL_law 1493 = .ok (.ifCond .ne 15, 3) := dk_154 0 15 (dk_at dksL_law_54 9 rfl rfl)
theorem dL_law_1496 : decode cL_law 1496 = .ok (.aload_n 3, 1) := dk_45 (dk_at dksL_law_54 12 rfl rfl)
theorem dL_law_1497 : decode cL_law 1497 = .ok (.iconst 0, 1) := dk_3 (dk_at dksL_law_54 13 rfl rfl)
theorem dL_law_1498 : decode cL_law 1498 = .ok (.laload, 1) := dk_47 (dk_at dksL_law_54 14 rfl rfl)
theorem dL_law_1499 : decode cL_law 1499 = .ok (.iload 7, 2) := dk_21 7 (dk_at dksL_law_54 15 rfl rfl)
theorem dL_law_1501 : decode cL_law 1501 = .ok (.i2l, 1) := dk_133 (dk_at dksL_law_54 17 rfl rfl)
theorem dL_law_1502 : decode cL_law 1502 = .ok (.lcmp, 1) := dk_148 (dk_at dksL_law_54 18 rfl rfl)
theorem dL_law_1503 : decode cL_law 1503 = .ok (.ifCond .eq 5, 3) := dk_153 0 5 (dk_at dksL_law_54 19 rfl rfl)
theorem dL_law_1506 : decode cL_law 1506 = .ok (.iconst 0, 1) := dk_3 (dk_at dksL_law_54 22 rfl rfl)
theorem dL_law_1507 : decode cL_law 1507 = .ok (.ireturn, 1) := dk_172 (dk_at dksL_law_54 23 rfl rfl)
theorem dL_law_1508 : decode cL_law 1508 = .ok (.goto 1240, 3) := dk_167 4 216 (dk_at dksL_law_55 0 rfl rfl)
theorem dL_law_1511 : decode cL_law 1511 = .ok (.aload_n 1, 1) := dk_43 (dk_at dksL_law_55 3 rfl rfl)
theorem dL_law_1512 : decode cL_law 1512 = .ok (.aload_n 0, 1) := dk_42 (dk_at dksL_law_55 4 rfl rfl)
theorem dL_law_1513 : decode cL_law 1513 = .ok (.iload 5, 2) := dk_21 5 (dk_at dksL_law_55 5 rfl rfl)
theorem dL_law_1515 : decode cL_law 1515 = .ok (.iconst 1, 1) := dk_4 (dk_at dksL_law_55 7 rfl rfl)
theorem dL_law_1516 : decode cL_law 1516 = .ok (.iadd, 1) := dk_96 (dk_at dksL_law_55 8 rfl rfl)
theorem dL_law_1517 : decode cL_law 1517 = .ok (.iaload, 1) := dk_46 (dk_at dksL_law_55 9 rfl rfl)
theorem dL_law_1518 : decode cL_law 1518 = .ok (.aload_n 0, 1) := dk_42 (dk_at dksL_law_55 10 rfl rfl)
theorem dL_law_1519 : decode cL_law 1519 = .ok (.iload 5, 2) := dk_21 5 (dk_at dksL_law_55 11 rfl rfl)
theorem dL_law_1521 : decode cL_law 1521 = .ok (.iconst 2, 1) := dk_5 (dk_at dksL_law_55 13 rfl rfl)
theorem dL_law_1522 : decode cL_law 1522 = .ok (.iadd, 1) := dk_96 (dk_at dksL_law_55 14 rfl rfl)
theorem dL_law_1523 : decode cL_law 1523 = .ok (.iaload, 1) := dk_46 (dk_at dksL_law_55 15 rfl rfl)
theorem dL_law_1524 : decode cL_law 1524 = .ok (.aload_n 3, 1) := dk_45 (dk_at dksL_law_55 16 rfl rfl)
theorem dL_law_1525 : decode cL_law 1525 = .ok (.invokestatic 237, 3) := dk_184 0 237 (dk_at dksL_law_55 17 rfl rfl)
theorem dL_law_1528 : decode cL_law 1528 = .ok (.istore 6, 2) := dk_54 6 (dk_at dksL_law_55 20 rfl rfl)
theorem dL_law_1530 : decode cL_law 1530 = .ok (.aload_n 2, 1) := dk_44 (dk_at dksL_law_55 22 rfl rfl)
theorem dL_law_1531 : decode cL_law 1531 = .ok (.aload_n 0, 1) := dk_42 (dk_at dksL_law_55 23 rfl rfl)
theorem dL_law_1532 : decode cL_law 1532 = .ok (.iload 5, 2) := dk_21 5 (dk_at dksL_law_56 0 rfl rfl)
theorem dL_law_1534 : decode cL_law 1534 = .ok (.iconst 1, 1) := dk_4 (dk_at dksL_law_56 2 rfl rfl)
theorem dL_law_1535 : decode cL_law 1535 = .ok (.iadd, 1) := dk_96 (dk_at dksL_law_56 3 rfl rfl)
theorem dL_law_1536 : decode cL_law 1536 = .ok (.iaload, 1) := dk_46 (dk_at dksL_law_56 4 rfl rfl)
theorem dL_law_1537 : decode cL_law 1537 = .ok (.aload_n 0, 1) := dk_42 (dk_at dksL_law_56 5 rfl rfl)
theorem dL_law_1538 : decode cL_law 1538 = .ok (.iload 5, 2) := dk_21 5 (dk_at dksL_law_56 6 rfl rfl)
theorem dL_law_1540 : decode cL_law 1540 = .ok (.iconst 2, 1) := dk_5 (dk_at dksL_law_56 8 rfl rfl)
theorem dL_law_1541 : decode cL_law 1541 = .ok (.iadd, 1) := dk_96 (dk_at dksL_law_56 9 rfl rfl)
theorem dL_law_1542 : decode cL_law 1542 = .ok (.iaload, 1) := dk_46 (dk_at dksL_law_56 10 rfl rfl)
theorem dL_law_1543 : decode cL_law 1543 = .ok (.invokevirtual 239, 3) := dk_182 0 239 (dk_at dksL_law_56 11 rfl rfl)
theorem dL_law_1546 : decode cL_law 1546 = .ok (.istore 7, 2) := dk_54 7 (dk_at dksL_law_56 14 rfl rfl)
theorem dL_law_1548 : decode cL_law 1548 = .ok (.aload_n 2, 1) := dk_44 (dk_at dksL_law_56 16 rfl rfl)
theorem dL_law_1549 : decode cL_law 1549 = .ok (.invokevirtual 158, 3) := dk_182 0 158 (dk_at dksL_law_56 17 rfl rfl)
theorem dL_law_1552 : decode cL_law 1552 = .ok (.iload 6, 2) := dk_21 6 (dk_at dksL_law_56 20 rfl rfl)
theorem dL_law_1554 : decode cL_law 1554 = .ok (.if_icmp .eq 5, 3) := dk_159 0 5 (dk_at dksL_law_57 0 rfl rfl)
theorem dL_law_1557 : decode cL_law 1557 = .ok (.iconst 0, 1) := dk_3 (dk_at dksL_law_57 3 rfl rfl)
theorem dL_law_1558 : decode cL_law 1558 = .ok (.ireturn, 1) := dk_172 (dk_at dksL_law_57 4 rfl rfl)
theorem dL_law_1559 : decode cL_law 1559 = .ok (.iload 6, 2) := dk_21 6 (dk_at dksL_law_57 5 rfl rfl)
theorem dL_law_1561 : decode cL_law 1561 = .ok (.ifCond .ne 22, 3) := dk_154 0 22 (dk_at dksL_law_57 7 rfl rfl)
theorem dL_law_1564 : decode cL_law 1564 = .ok (.aload_n 3, 1) := dk_45 (dk_at dksL_law_57 10 rfl rfl)
theorem dL_law_1565 : decode cL_law 1565 = .ok (.iconst 0, 1) := dk_3 (dk_at dksL_law_57 11 rfl rfl)
theorem dL_law_1566 : decode cL_law 1566 = .ok (.laload, 1) := dk_47 (dk_at dksL_law_57 12 rfl rfl)
theorem dL_law_1567 : decode cL_law 1567 = .ok (.iload 7, 2) := dk_21 7 (dk_at dksL_law_57 13 rfl rfl)
theorem dL_law_1569 : decode cL_law 1569 = .ok (.ifCond .eq 7, 3) := dk_153 0 7 (dk_at dksL_law_57 15 rfl rfl)
theorem dL_law_1572 : decode cL_law 1572 = .ok (.lconst 1, 1) := dk_10 (dk_at dksL_law_57 18 rfl rfl)
theorem dL_law_1573 : decode cL_law 1573 = .ok (.goto 4, 3) := dk_167 0 4 (dk_at dksL_law_57 19 rfl rfl)
theorem dL_law_1576 : decode cL_law 1576 = .ok (.lconst 0, 1) := dk_9 (dk_at dksL_law_57 22 rfl rfl)
theorem dL_law_1577 : decode cL_law 1577 = .ok (.lcmp, 1) := dk_148 (dk_at dksL_law_57 23 rfl rfl)
theorem dL_law_1578 : decode cL_law 1578 = .ok (.ifCond .eq 5, 3) := dk_153 0 5 (dk_at dksL_law_58 0 rfl rfl)
theorem dL_law_1581 : decode cL_law 1581 = .ok (.iconst 0, 1) := dk_3 (dk_at dksL_law_58 3 rfl rfl)
theorem dL_law_1582 : decode cL_law 1582 = .ok (.ireturn, 1) := dk_172 (dk_at dksL_law_58 4 rfl rfl)
theorem dL_law_1583 : decode cL_law 1583 = .ok (.goto 1165, 3) := dk_167 4 141 (dk_at dksL_law_58 5 rfl rfl)
theorem dL_law_1586 : decode cL_law 1586 = .ok (.aload_n 1, 1) := dk_43 (dk_at dksL_law_58 8 rfl rfl)
theorem dL_law_1587 : decode cL_law 1587 = .ok (.aload_n 0, 1) := dk_42 (dk_at dksL_law_58 9 rfl rfl)
theorem dL_law_1588 : decode cL_law 1588 = .ok (.iload 5, 2) := dk_21 5 (dk_at dksL_law_58 10 rfl rfl)
theorem dL_law_1590 : decode cL_law 1590 = .ok (.iconst 1, 1) := dk_4 (dk_at dksL_law_58 12 rfl rfl)
theorem dL_law_1591 : decode cL_law 1591 = .ok (.iadd, 1) := dk_96 (dk_at dksL_law_58 13 rfl rfl)
theorem dL_law_1592 : decode cL_law 1592 = .ok (.iaload, 1) := dk_46 (dk_at dksL_law_58 14 rfl rfl)
theorem dL_law_1593 : decode cL_law 1593 = .ok (.aload_n 0, 1) := dk_42 (dk_at dksL_law_58 15 rfl rfl)
theorem dL_law_1594 : decode cL_law 1594 = .ok (.iload 5, 2) := dk_21 5 (dk_at dksL_law_58 16 rfl rfl)
theorem dL_law_1596 : decode cL_law 1596 = .ok (.iconst 2, 1) := dk_5 (dk_at dksL_law_58 18 rfl rfl)
theorem dL_law_1597 : decode cL_law 1597 = .ok (.iadd, 1) := dk_96 (dk_at dksL_law_58 19 rfl rfl)
theorem dL_law_1598 : decode cL_law 1598 = .ok (.iaload, 1) := dk_46 (dk_at dksL_law_58 20 rfl rfl)
theorem dL_law_1599 : decode cL_law 1599 = .ok (.aload_n 3, 1) := dk_45 (dk_at dksL_law_58 21 rfl rfl)
theorem dL_law_1600 : decode cL_law 1600 = .ok (.invokestatic 240, 3) := dk_184 0 240 (dk_at dksL_law_59 0 rfl rfl)
theorem dL_law_1603 : decode cL_law 1603 = .ok (.istore 6, 2) := dk_54 6 (dk_at dksL_law_59 3 rfl rfl)
theorem dL_law_1605 : decode cL_law 1605 = .ok (.aload_n 2, 1) := dk_44 (dk_at dksL_law_59 5 rfl rfl)
theorem dL_law_1606 : decode cL_law 1606 = .ok (.aload_n 0, 1) := dk_42 (dk_at dksL_law_59 6 rfl rfl)
theorem dL_law_1607 : decode cL_law 1607 = .ok (.iload 5, 2) := dk_21 5 (dk_at dksL_law_59 7 rfl rfl)
theorem dL_law_1609 : decode cL_law 1609 = .ok (.iconst 1, 1) := dk_4 (dk_at dksL_law_59 9 rfl rfl)
theorem dL_law_1610 : decode cL_law 1610 = .ok (.iadd, 1) := dk_96 (dk_at dksL_law_59 10 rfl rfl)
theorem dL_law_1611 : decode cL_law 1611 = .ok (.iaload, 1) := dk_46 (dk_at dksL_law_59 11 rfl rfl)
theorem dL_law_1612 : decode cL_law 1612 = .ok (.aload_n 0, 1) := dk_42 (dk_at dksL_law_59 12 rfl rfl)
theorem dL_law_1613 : decode cL_law 1613 = .ok (.iload 5, 2) := dk_21 5 (dk_at dksL_law_59 13 rfl rfl)
theorem dL_law_1615 : decode cL_law 1615 = .ok (.iconst 2, 1) := dk_5 (dk_at dksL_law_59 15 rfl rfl)
theorem dL_law_1616 : decode cL_law 1616 = .ok (.iadd, 1) := dk_96 (dk_at dksL_law_59 16 rfl rfl)
theorem dL_law_1617 : decode cL_law 1617 = .ok (.iaload, 1) := dk_46 (dk_at dksL_law_59 17 rfl rfl)
theorem dL_law_1618 : decode cL_law 1618 = .ok (.invokevirtual 242, 3) := dk_182 0 242 (dk_at dksL_law_59 18 rfl rfl)
theorem dL_law_1621 : decode cL_law 1621 = .ok (.istore 7, 2) := dk_54 7 (dk_at dksL_law_59 21 rfl rfl)
theorem dL_law_1623 : decode cL_law 1623 = .ok (.aload_n 2, 1) := dk_44 (dk_at dksL_law_59 23 rfl rfl)
theorem dL_law_1624 : decode cL_law 1624 = .ok (.invokevirtual 158, 3) := dk_182 0 158 (dk_at dksL_law_60 0 rfl rfl)
theorem dL_law_1627 : decode cL_law 1627 = .ok (.iload 6, 2) := dk_21 6 (dk_at dksL_law_60 3 rfl rfl)
theorem dL_law_1629 : decode cL_law 1629 = .ok (.if_icmp .eq 5, 3) := dk_159 0 5 (dk_at dksL_law_60 5 rfl rfl)
theorem dL_law_1632 : decode cL_law 1632 = .ok (.iconst 0, 1) := dk_3 (dk_at dksL_law_60 8 rfl rfl)
theorem dL_law_1633 : decode cL_law 1633 = .ok (.ireturn, 1) := dk_172 (dk_at dksL_law_60 9 rfl rfl)
theorem dL_law_1634 : decode cL_law 1634 = .ok (.iload 6, 2) := dk_21 6 (dk_at dksL_law_60 10 rfl rfl)
theorem dL_law_1636 : decode cL_law 1636 = .ok (.ifCond .ne 15, 3) := dk_154 0 15 (dk_at dksL_law_60 12 rfl rfl)
theorem dL_law_1639 : decode cL_law 1639 = .ok (.aload_n 3, 1) := dk_45 (dk_at dksL_law_60 15 rfl rfl)
theorem dL_law_1640 : decode cL_law 1640 = .ok (.iconst 0, 1) := dk_3 (dk_at dksL_law_60 16 rfl rfl)
theorem dL_law_1641 : decode cL_law 1641 = .ok (.laload, 1) := dk_47 (dk_at dksL_law_60 17 rfl rfl)
theorem dL_law_1642 : decode cL_law 1642 = .ok (.iload 7, 2) := dk_21 7 (dk_at dksL_law_60 18 rfl rfl)
theorem dL_law_1644 : decode cL_law 1644 = .ok (.i2l, 1) := dk_133 (dk_at dksL_law_60 20 rfl rfl)
theorem dL_law_1645 : decode cL_law 1645 = .ok (.lcmp, 1) := dk_148 (dk_at dksL_law_60 21 rfl rfl)
theorem dL_law_1646 : decode cL_law 1646 = .ok (.ifCond .eq 5, 3) := dk_153 0 5 (dk_at dksL_law_61 0 rfl rfl)
theorem dL_law_1649 : decode cL_law 1649 = .ok (.iconst 0, 1) := dk_3 (dk_at dksL_law_61 3 rfl rfl)
theorem dL_law_1650 : decode cL_law 1650 = .ok (.ireturn, 1) := dk_172 (dk_at dksL_law_61 4 rfl rfl)
theorem dL_law_1651 : decode cL_law 1651 = .ok (.goto 1097, 3) := dk_167 4 73 (dk_at dksL_law_61 5 rfl rfl)
theorem dL_law_1654 : decode cL_law 1654 = .ok (.aload_n 1, 1) := dk_43 (dk_at dksL_law_61 8 rfl rfl)
theorem dL_law_1655 : decode cL_law 1655 = .ok (.aload_n 0, 1) := dk_42 (dk_at dksL_law_61 9 rfl rfl)
theorem dL_law_1656 : decode cL_law 1656 = .ok (.iload 5, 2) := dk_21 5 (dk_at dksL_law_61 10 rfl rfl)
theorem dL_law_1658 : decode cL_law 1658 = .ok (.iconst 1, 1) := dk_4 (dk_at dksL_law_61 12 rfl rfl)
theorem dL_law_1659 : decode cL_law 1659 = .ok (.iadd, 1) := dk_96 (dk_at dksL_law_61 13 rfl rfl)
theorem dL_law_1660 : decode cL_law 1660 = .ok (.iaload, 1) := dk_46 (dk_at dksL_law_61 14 rfl rfl)
theorem dL_law_1661 : decode cL_law 1661 = .ok (.aload_n 0, 1) := dk_42 (dk_at dksL_law_61 15 rfl rfl)
theorem dL_law_1662 : decode cL_law 1662 = .ok (.iload 5, 2) := dk_21 5 (dk_at dksL_law_61 16 rfl rfl)
theorem dL_law_1664 : decode cL_law 1664 = .ok (.iconst 2, 1) := dk_5 (dk_at dksL_law_61 18 rfl rfl)
theorem dL_law_1665 : decode cL_law 1665 = .ok (.iadd, 1) := dk_96 (dk_at dksL_law_61 19 rfl rfl)
theorem dL_law_1666 : decode cL_law 1666 = .ok (.iaload, 1) := dk_46 (dk_at dksL_law_61 20 rfl rfl)
theorem dL_law_1667 : decode cL_law 1667 = .ok (.aload_n 3, 1) := dk_45 (dk_at dksL_law_61 21 rfl rfl)
theorem dL_law_1668 : decode cL_law 1668 = .ok (.invokestatic 243, 3) := dk_184 0 243 (dk_at dksL_law_62 0 rfl rfl)
theorem dL_law_1671 : decode cL_law 1671 = .ok (.istore 6, 2) := dk_54 6 (dk_at dksL_law_62 3 rfl rfl)
theorem dL_law_1673 : decode cL_law 1673 = .ok (.aload_n 2, 1) := dk_44 (dk_at dksL_law_62 5 rfl rfl)
theorem dL_law_1674 : decode cL_law 1674 = .ok (.aload_n 0, 1) := dk_42 (dk_at dksL_law_62 6 rfl rfl)
theorem dL_law_1675 : decode cL_law 1675 = .ok (.iload 5, 2) := dk_21 5 (dk_at dksL_law_62 7 rfl rfl)
theorem dL_law_1677 : decode cL_law 1677 = .ok (.iconst 1, 1) := dk_4 (dk_at dksL_law_62 9 rfl rfl)
theorem dL_law_1678 : decode cL_law 1678 = .ok (.iadd, 1) := dk_96 (dk_at dksL_law_62 10 rfl rfl)
theorem dL_law_1679 : decode cL_law 1679 = .ok (.iaload, 1) := dk_46 (dk_at dksL_law_62 11 rfl rfl)
theorem dL_law_1680 : decode cL_law 1680 = .ok (.aload_n 0, 1) := dk_42 (dk_at dksL_law_62 12 rfl rfl)
theorem dL_law_1681 : decode cL_law 1681 = .ok (.iload 5, 2) := dk_21 5 (dk_at dksL_law_62 13 rfl rfl)
theorem dL_law_1683 : decode cL_law 1683 = .ok (.iconst 2, 1) := dk_5 (dk_at dksL_law_62 15 rfl rfl)
theorem dL_law_1684 : decode cL_law 1684 = .ok (.iadd, 1) := dk_96 (dk_at dksL_law_62 16 rfl rfl)
theorem dL_law_1685 : decode cL_law 1685 = .ok (.iaload, 1) := dk_46 (dk_at dksL_law_62 17 rfl rfl)
theorem dL_law_1686 : decode cL_law 1686 = .ok (.invokevirtual 245, 3) := dk_182 0 245 (dk_at dksL_law_62 18 rfl rfl)
theorem dL_law_1689 : decode cL_law 1689 = .ok (.istore 7, 2) := dk_54 7 (dk_at dksL_law_62 21 rfl rfl)
theorem dL_law_1691 : decode cL_law 1691 = .ok (.aload_n 2, 1) := dk_44 (dk_at dksL_law_62 23 rfl rfl)
theorem dL_law_1692 : decode cL_law 1692 = .ok (.invokevirtual 158, 3) := dk_182 0 158 (dk_at dksL_law_63 0 rfl rfl)
theorem dL_law_1695 : decode cL_law 1695 = .ok (.iload 6, 2) := dk_21 6 (dk_at dksL_law_63 3 rfl rfl)
theorem dL_law_1697 : decode cL_law 1697 = .ok (.if_icmp .eq 5, 3) := dk_159 0 5 (dk_at dksL_law_63 5 rfl rfl)
theorem dL_law_1700 : decode cL_law 1700 = .ok (.iconst 0, 1) := dk_3 (dk_at dksL_law_63 8 rfl rfl)
theorem dL_law_1701 : decode cL_law 1701 = .ok (.ireturn, 1) := dk_172 (dk_at dksL_law_63 9 rfl rfl)
theorem dL_law_1702 : decode cL_law 1702 = .ok (.iload 6, 2) := dk_21 6 (dk_at dksL_law_63 10 rfl rfl)
theorem dL_law_1704 : decode cL_law 1704 = .ok (.ifCond .ne 15, 3) := dk_154 0 15 (dk_at dksL_law_63 12 rfl rfl)
theorem dL_law_1707 : decode cL_law 1707 = .ok (.aload_n 3, 1) := dk_45 (dk_at dksL_law_63 15 rfl rfl)
theorem dL_law_1708 : decode cL_law 1708 = .ok (.iconst 0, 1) := dk_3 (dk_at dksL_law_63 16 rfl rfl)
theorem dL_law_1709 : decode cL_law 1709 = .ok (.laload, 1) := dk_47 (dk_at dksL_law_63 17 rfl rfl)
theorem dL_law_1710 : decode cL_law 1710 = .ok (.iload 7, 2) := dk_21 7 (dk_at dksL_law_63 18 rfl rfl)
theorem dL_law_1712 : decode cL_law 1712 = .ok (.i2l, 1) := dk_133 (dk_at dksL_law_63 20 rfl rfl)
theorem dL_law_1713 : decode cL_law 1713 = .ok (.lcmp, 1) := dk_148 (dk_at dksL_law_63 21 rfl rfl)
theorem dL_law_1714 : decode cL_law 1714 = .ok (.ifCond .eq 5, 3) := dk_153 0 5 (dk_at dksL_law_64 0 rfl rfl)
theorem dL_law_1717 : decode cL_law 1717 = .ok (.iconst 0, 1) := dk_3 (dk_at dksL_law_64 3 rfl rfl)
theorem dL_law_1718 : decode cL_law 1718 = .ok (.ireturn, 1) := dk_172 (dk_at dksL_law_64 4 rfl rfl)
theorem dL_law_1719 : decode cL_law 1719 = .ok (.goto 1029, 3) := dk_167 4 5 (dk_at dksL_law_64 5 rfl rfl)
theorem dL_law_1722 : decode cL_law 1722 = .ok (.aload_n 1, 1) := dk_43 (dk_at dksL_law_64 8 rfl rfl)
theorem dL_law_1723 : decode cL_law 1723 = .ok (.invokevirtual 246, 3) := dk_182 0 246 (dk_at dksL_law_64 9 rfl rfl)
theorem dL_law_1726 : decode cL_law 1726 = .ok (.aload_n 2, 1) := dk_44 (dk_at dksL_law_64 12 rfl rfl)
theorem dL_law_1727 : decode cL_law 1727 = .ok (.invokevirtual 249, 3) := dk_182 0 249 (dk_at dksL_law_64 13 rfl rfl)
theorem dL_law_1730 : decode cL_law 1730 = .ok (.if_icmp .eq 1018, 3) := dk_159 3 250 (dk_at dksL_law_64 16 rfl rfl)
theorem dL_law_1733 : decode cL_law 1733 = .ok (.iconst 0, 1) := dk_3 (dk_at dksL_law_64 19 rfl rfl)
theorem dL_law_1734 : decode cL_law 1734 = .ok (.ireturn, 1) := dk_172 (dk_at dksL_law_64 20 rfl rfl)
theorem dL_law_1735 : decode cL_law 1735 = .ok (.aload_n 1, 1) := dk_43 (dk_at dksL_law_64 21 rfl rfl)
theorem dL_law_1736 : decode cL_law 1736 = .ok (.invokevirtual 250, 3) := dk_182 0 250 (dk_at dksL_law_65 0 rfl rfl)
theorem dL_law_1739 : decode cL_law 1739 = .ok (.aload_n 2, 1) := dk_44 (dk_at dksL_law_65 3 rfl rfl)
theorem dL_law_1740 : decode cL_law 1740 = .ok (.invokevirtual 253, 3) := dk_182 0 253 (dk_at dksL_law_65 4 rfl rfl)
theorem dL_law_1743 : decode cL_law 1743 = .ok (.if_icmp .eq 1005, 3) := dk_159 3 237 (dk_at dksL_law_65 7 rfl rfl)
theorem dL_law_1746 : decode cL_law 1746 = .ok (.iconst 0, 1) := dk_3 (dk_at dksL_law_65 10 rfl rfl)
theorem dL_law_1747 : decode cL_law 1747 = .ok (.ireturn, 1) := dk_172 (dk_at dksL_law_65 11 rfl rfl)
theorem dL_law_1748 : decode cL_law 1748 = .ok (.aload_n 1, 1) := dk_43 (dk_at dksL_law_65 12 rfl rfl)
theorem dL_law_1749 : decode cL_law 1749 = .ok (.invokevirtual 254, 3) := dk_182 0 254 (dk_at dksL_law_65 13 rfl rfl)
theorem dL_law_1752 : decode cL_law 1752 = .ok (.aload_n 2, 1) := dk_44 (dk_at dksL_law_65 16 rfl rfl)
theorem dL_law_1753 : decode cL_law 1753 = .ok (.invokevirtual 257, 3) := dk_182 1 1 (dk_at dksL_law_65 17 rfl rfl)
theorem dL_law_1756 : decode cL_law 1756 = .ok (.if_icmp .eq 992, 3) := dk_159 3 224 (dk_at dksL_law_65 20 rfl rfl)
theorem dL_law_1759 : decode cL_law 1759 = .ok (.iconst 0, 1) := dk_3 (dk_at dksL_law_65 23 rfl rfl)
theorem dL_law_1760 : decode cL_law 1760 = .ok (.ireturn, 1) := dk_172 (dk_at dksL_law_66 0 rfl rfl)
theorem dL_law_1761 : decode cL_law 1761 = .ok (.aload_n 1, 1) := dk_43 (dk_at dksL_law_66 1 rfl rfl)
theorem dL_law_1762 : decode cL_law 1762 = .ok (.invokevirtual 258, 3) := dk_182 1 2 (dk_at dksL_law_66 2 rfl rfl)
theorem dL_law_1765 : decode cL_law 1765 = .ok (.aload_n 2, 1) := dk_44 (dk_at dksL_law_66 5 rfl rfl)
theorem dL_law_1766 : decode cL_law 1766 = .ok (.invokevirtual 261, 3) := dk_182 1 5 (dk_at dksL_law_66 6 rfl rfl)
theorem dL_law_1769 : decode cL_law 1769 = .ok (.if_icmp .eq 979, 3) := dk_159 3 211 (dk_at dksL_law_66 9 rfl rfl)
theorem dL_law_1772 : decode cL_law 1772 = .ok (.iconst 0, 1) := dk_3 (dk_at dksL_law_66 12 rfl rfl)
theorem dL_law_1773 : decode cL_law 1773 = .ok (.ireturn, 1) := dk_172 (dk_at dksL_law_66 13 rfl rfl)
theorem dL_law_1774 : decode cL_law 1774 = .ok (.aload_n 1, 1) := dk_43 (dk_at dksL_law_66 14 rfl rfl)
theorem dL_law_1775 : decode cL_law 1775 = .ok (.invokevirtual 262, 3) := dk_182 1 6 (dk_at dksL_law_66 15 rfl rfl)
theorem dL_law_1778 : decode cL_law 1778 = .ok (.aload_n 2, 1) := dk_44 (dk_at dksL_law_66 18 rfl rfl)
theorem dL_law_1779 : decode cL_law 1779 = .ok (.invokevirtual 265, 3) := dk_182 1 9 (dk_at dksL_law_66 19 rfl rfl)
theorem dL_law_1782 : decode cL_law 1782 = .ok (.if_icmp .eq 966, 3) := dk_159 3 198 (dk_at dksL_law_67 0 rfl rfl)
theorem dL_law_1785 : decode cL_law 1785 = .ok (.iconst 0, 1) := dk_3 (dk_at dksL_law_67 3 rfl rfl)
theorem dL_law_1786 : decode cL_law 1786 = .ok (.ireturn, 1) := dk_172 (dk_at dksL_law_67 4 rfl rfl)
theorem dL_law_1787 : decode cL_law 1787 = .ok (.aload_n 1, 1) := dk_43 (dk_at dksL_law_67 5 rfl rfl)
theorem dL_law_1788 : decode cL_law 1788 = .ok (.aload_n 0, 1) := dk_42 (dk_at dksL_law_67 6 rfl rfl)
theorem dL_law_1789 : decode cL_law 1789 = .ok (.iload 5, 2) := dk_21 5 (dk_at dksL_law_67 7 rfl rfl)
theorem dL_law_1791 : decode cL_law 1791 = .ok (.iconst 1, 1) := dk_4 (dk_at dksL_law_67 9 rfl rfl)
theorem dL_law_1792 : decode cL_law 1792 = .ok (.iadd, 1) := dk_96 (dk_at dksL_law_67 10 rfl rfl)
theorem dL_law_1793 : decode cL_law 1793 = .ok (.iaload, 1) := dk_46 (dk_at dksL_law_67 11 rfl rfl)
theorem dL_law_1794 : decode cL_law 1794 = .ok (.aload_n 3, 1) := dk_45 (dk_at dksL_law_67 12 rfl rfl)
theorem dL_law_1795 : decode cL_law 1795 = .ok (.invokestatic 266, 3) := dk_184 1 10 (dk_at dksL_law_67 13 rfl rfl)
theorem dL_law_1798 : decode cL_law 1798 = .ok (.istore 6, 2) := dk_54 6 (dk_at dksL_law_67 16 rfl rfl)
theorem dL_law_1800 : decode cL_law 1800 = .ok (.aload_n 2, 1) := dk_44 (dk_at dksL_law_67 18 rfl rfl)
theorem dL_law_1801 : decode cL_law 1801 = .ok (.aload_n 0, 1) := dk_42 (dk_at dksL_law_67 19 rfl rfl)
theorem dL_law_1802 : decode cL_law 1802 = .ok (.iload 5, 2) := dk_21 5 (dk_at dksL_law_67 20 rfl rfl)
theorem dL_law_1804 : decode cL_law 1804 = .ok (.iconst 1, 1) := dk_4 (dk_at dksL_law_67 22 rfl rfl)
theorem dL_law_1805 : decode cL_law 1805 = .ok (.iadd, 1) := dk_96 (dk_at dksL_law_67 23 rfl rfl)
theorem dL_law_1806 : decode cL_law 1806 = .ok (.iaload, 1) := dk_46 (dk_at dksL_law_68 0 rfl rfl)
theorem dL_law_1807 : decode cL_law 1807 = .ok (.invokevirtual 268, 3) := dk_182 1 12 (dk_at dksL_law_68 1 rfl rfl)
theorem dL_law_1810 : decode cL_law 1810 = .ok (.istore 7, 2) := dk_54 7 (dk_at dksL_law_68 4 rfl rfl)
theorem dL_law_1812 : decode cL_law 1812 = .ok (.aload_n 2, 1) := dk_44 (dk_at dksL_law_68 6 rfl rfl)
theorem dL_law_1813 : decode cL_law 1813 = .ok (.invokevirtual 158, 3) := dk_182 0 158 (dk_at dksL_law_68 7 rfl rfl)
theorem dL_law_1816 : decode cL_law 1816 = .ok (.iload 6, 2) := dk_21 6 (dk_at dksL_law_68 10 rfl rfl)
theorem dL_law_1818 : decode cL_law 1818 = .ok (.if_icmp .eq 5, 3) := dk_159 0 5 (dk_at dksL_law_68 12 rfl rfl)
theorem dL_law_1821 : decode cL_law 1821 = .ok (.iconst 0, 1) := dk_3 (dk_at dksL_law_68 15 rfl rfl)
theorem dL_law_1822 : decode cL_law 1822 = .ok (.ireturn, 1) := dk_172 (dk_at dksL_law_68 16 rfl rfl)
theorem dL_law_1823 : decode cL_law 1823 = .ok (.iload 6, 2) := dk_21 6 (dk_at dksL_law_68 17 rfl rfl)
theorem dL_law_1825 : decode cL_law 1825 = .ok (.ifCond .ne 15, 3) := dk_154 0 15 (dk_at dksL_law_68 19 rfl rfl)
theorem dL_law_1828 : decode cL_law 1828 = .ok (.aload_n 3, 1) := dk_45 (dk_at dksL_law_68 22 rfl rfl)
theorem dL_law_1829 : decode cL_law 1829 = .ok (.iconst 0, 1) := dk_3 (dk_at dksL_law_68 23 rfl rfl)
theorem dL_law_1830 : decode cL_law 1830 = .ok (.laload, 1) := dk_47 (dk_at dksL_law_69 0 rfl rfl)
theorem dL_law_1831 : decode cL_law 1831 = .ok (.iload 7, 2) := dk_21 7 (dk_at dksL_law_69 1 rfl rfl)
theorem dL_law_1833 : decode cL_law 1833 = .ok (.i2l, 1) := dk_133 (dk_at dksL_law_69 3 rfl rfl)
theorem dL_law_1834 : decode cL_law 1834 = .ok (.lcmp, 1) := dk_148 (dk_at dksL_law_69 4 rfl rfl)
theorem dL_law_1835 : decode cL_law 1835 = .ok (.ifCond .eq 5, 3) := dk_153 0 5 (dk_at dksL_law_69 5 rfl rfl)
theorem dL_law_1838 : decode cL_law 1838 = .ok (.iconst 0, 1) := dk_3 (dk_at dksL_law_69 8 rfl rfl)
theorem dL_law_1839 : decode cL_law 1839 = .ok (.ireturn, 1) := dk_172 (dk_at dksL_law_69 9 rfl rfl)
theorem dL_law_1840 : decode cL_law 1840 = .ok (.goto 908, 3) := dk_167 3 140 (dk_at dksL_law_69 10 rfl rfl)
theorem dL_law_1843 : decode cL_law 1843 = .ok (.aload_n 1, 1) := dk_43 (dk_at dksL_law_69 13 rfl rfl)
theorem dL_law_1844 : decode cL_law 1844 = .ok (.aload_n 0, 1) := dk_42 (dk_at dksL_law_69 14 rfl rfl)
theorem dL_law_1845 : decode cL_law 1845 = .ok (.iload 5, 2) := dk_21 5 (dk_at dksL_law_69 15 rfl rfl)
theorem dL_law_1847 : decode cL_law 1847 = .ok (.iconst 1, 1) := dk_4 (dk_at dksL_law_69 17 rfl rfl)
theorem dL_law_1848 : decode cL_law 1848 = .ok (.iadd, 1) := dk_96 (dk_at dksL_law_69 18 rfl rfl)
theorem dL_law_1849 : decode cL_law 1849 = .ok (.iaload, 1) := dk_46 (dk_at dksL_law_69 19 rfl rfl)
theorem dL_law_1850 : decode cL_law 1850 = .ok (.aload_n 3, 1) := dk_45 (dk_at dksL_law_69 20 rfl rfl)
theorem dL_law_1851 : decode cL_law 1851 = .ok (.invokestatic 269, 3) := dk_184 1 13 (dk_at dksL_law_69 21 rfl rfl)
theorem dL_law_1854 : decode cL_law 1854 = .ok (.istore 6, 2) := dk_54 6 (dk_at dksL_law_70 0 rfl rfl)
theorem dL_law_1856 : decode cL_law 1856 = .ok (.aload_n 2, 1) := dk_44 (dk_at dksL_law_70 2 rfl rfl)
theorem dL_law_1857 : decode cL_law 1857 = .ok (.aload_n 0, 1) := dk_42 (dk_at dksL_law_70 3 rfl rfl)
theorem dL_law_1858 : decode cL_law 1858 = .ok (.iload 5, 2) := dk_21 5 (dk_at dksL_law_70 4 rfl rfl)
theorem dL_law_1860 : decode cL_law 1860 = .ok (.iconst 1, 1) := dk_4 (dk_at dksL_law_70 6 rfl rfl)
theorem dL_law_1861 : decode cL_law 1861 = .ok (.iadd, 1) := dk_96 (dk_at dksL_law_70 7 rfl rfl)
theorem dL_law_1862 : decode cL_law 1862 = .ok (.iaload, 1) := dk_46 (dk_at dksL_law_70 8 rfl rfl)
theorem dL_law_1863 : decode cL_law 1863 = .ok (.invokevirtual 271, 3) := dk_182 1 15 (dk_at dksL_law_70 9 rfl rfl)
theorem dL_law_1866 : decode cL_law 1866 = .ok (.istore 7, 2) := dk_54 7 (dk_at dksL_law_70 12 rfl rfl)
theorem dL_law_1868 : decode cL_law 1868 = .ok (.aload_n 2, 1) := dk_44 (dk_at dksL_law_70 14 rfl rfl)
theorem dL_law_1869 : decode cL_law 1869 = .ok (.invokevirtual 158, 3) := dk_182 0 158 (dk_at dksL_law_70 15 rfl rfl)
theorem dL_law_1872 : decode cL_law 1872 = .ok (.iload 6, 2) := dk_21 6 (dk_at dksL_law_70 18 rfl rfl)
theorem dL_law_1874 : decode cL_law 1874 = .ok (.if_icmp .eq 5, 3) := dk_159 0 5 (dk_at dksL_law_70 20 rfl rfl)
theorem dL_law_1877 : decode cL_law 1877 = .ok (.iconst 0, 1) := dk_3 (dk_at dksL_law_70 23 rfl rfl)
theorem dL_law_1878 : decode cL_law 1878 = .ok (.ireturn, 1) := dk_172 (dk_at dksL_law_71 0 rfl rfl)
theorem dL_law_1879 : decode cL_law 1879 = .ok (.iload 6, 2) := dk_21 6 (dk_at dksL_law_71 1 rfl rfl)
theorem dL_law_1881 : decode cL_law 1881 = .ok (.ifCond .ne 15, 3) := dk_154 0 15 (dk_at dksL_law_71 3 rfl rfl)
theorem dL_law_1884 : decode cL_law 1884 = .ok (.aload_n 3, 1) := dk_45 (dk_at dksL_law_71 6 rfl rfl)
theorem dL_law_1885 : decode cL_law 1885 = .ok (.iconst 0, 1) := dk_3 (dk_at dksL_law_71 7 rfl rfl)
theorem dL_law_1886 : decode cL_law 1886 = .ok (.laload, 1) := dk_47 (dk_at dksL_law_71 8 rfl rfl)
theorem dL_law_1887 : decode cL_law 1887 = .ok (.iload 7, 2) := dk_21 7 (dk_at dksL_law_71 9 rfl rfl)
theorem dL_law_1889 : decode cL_law 1889 = .ok (.i2l, 1) := dk_133 (dk_at dksL_law_71 11 rfl rfl)
theorem dL_law_1890 : decode cL_law 1890 = .ok (.lcmp, 1) := dk_148 (dk_at dksL_law_71 12 rfl rfl)
theorem dL_law_1891 : decode cL_law 1891 = .ok (.ifCond .eq 5, 3) := dk_153 0 5 (dk_at dksL_law_71 13 rfl rfl)
theorem dL_law_1894 : decode cL_law 1894 = .ok (.iconst 0, 1) := dk_3 (dk_at dksL_law_71 16 rfl rfl)
theorem dL_law_1895 : decode cL_law 1895 = .ok (.ireturn, 1) := dk_172 (dk_at dksL_law_71 17 rfl rfl)
theorem dL_law_1896 : decode cL_law 1896 = .ok (.goto 852, 3) := dk_167 3 84 (dk_at dksL_law_71 18 rfl rfl)
theorem dL_law_1899 : decode cL_law 1899 = .ok (.aload_n 1, 1) := dk_43 (dk_at dksL_law_71 21 rfl rfl)
theorem dL_law_1900 : decode cL_law 1900 = .ok (.aload_n 0, 1) := dk_42 (dk_at dksL_law_71 22 rfl rfl)
theorem dL_law_1901 : decode cL_law 1901 = .ok (.iload 5, 2) := dk_21 5 (dk_at dksL_law_72 0 rfl rfl)
theorem dL_law_1903 : decode cL_law 1903 = .ok (.iconst 1, 1) := dk_4 (dk_at dksL_law_72 2 rfl rfl)
theorem dL_law_1904 : decode cL_law 1904 = .ok (.iadd, 1) := dk_96 (dk_at dksL_law_72 3 rfl rfl)
theorem dL_law_1905 : decode cL_law 1905 = .ok (.iaload, 1) := dk_46 (dk_at dksL_law_72 4 rfl rfl)
theorem dL_law_1906 : decode cL_law 1906 = .ok (.aload_n 3, 1) := dk_45 (dk_at dksL_law_72 5 rfl rfl)
theorem dL_law_1907 : decode cL_law 1907 = .ok (.invokestatic 272, 3) := dk_184 1 16 (dk_at dksL_law_72 6 rfl rfl)
theorem dL_law_1910 : decode cL_law 1910 = .ok (.istore 6, 2) := dk_54 6 (dk_at dksL_law_72 9 rfl rfl)
theorem dL_law_1912 : decode cL_law 1912 = .ok (.aload_n 2, 1) := dk_44 (dk_at dksL_law_72 11 rfl rfl)
theorem dL_law_1913 : decode cL_law 1913 = .ok (.aload_n 0, 1) := dk_42 (dk_at dksL_law_72 12 rfl rfl)
theorem dL_law_1914 : decode cL_law 1914 = .ok (.iload 5, 2) := dk_21 5 (dk_at dksL_law_72 13 rfl rfl)
theorem dL_law_1916 : decode cL_law 1916 = .ok (.iconst 1, 1) := dk_4 (dk_at dksL_law_72 15 rfl rfl)
theorem dL_law_1917 : decode cL_law 1917 = .ok (.iadd, 1) := dk_96 (dk_at dksL_law_72 16 rfl rfl)
theorem dL_law_1918 : decode cL_law 1918 = .ok (.iaload, 1) := dk_46 (dk_at dksL_law_72 17 rfl rfl)
theorem dL_law_1919 : decode cL_law 1919 = .ok (.invokevirtual 274, 3) := dk_182 1 18 (dk_at dksL_law_72 18 rfl rfl)
theorem dL_law_1922 : decode cL_law 1922 = .ok (.istore 7, 2) := dk_54 7 (dk_at dksL_law_72 21 rfl rfl)
theorem dL_law_1924 : decode cL_law 1924 = .ok (.aload_n 2, 1) := dk_44 (dk_at dksL_law_72 23 rfl rfl)
theorem dL_law_1925 : decode cL_law 1925 = .ok (.invokevirtual 158, 3) := dk_182 0 158 (dk_at dksL_law_73 0 rfl rfl)
theorem dL_law_1928 : decode cL_law 1928 = .ok (.iload 6, 2) := dk_21 6 (dk_at dksL_law_73 3 rfl rfl)
theorem dL_law_1930 : decode cL_law 1930 = .ok (.if_icmp .eq 5, 3) := dk_159 0 5 (dk_at dksL_law_73 5 rfl rfl)
theorem dL_law_1933 : decode cL_law 1933 = .ok (.iconst 0, 1) := dk_3 (dk_at dksL_law_73 8 rfl rfl)
theorem dL_law_1934 : decode cL_law 1934 = .ok (.ireturn, 1) := dk_172 (dk_at dksL_law_73 9 rfl rfl)
theorem dL_law_1935 : decode cL_law 1935 = .ok (.iload 6, 2) := dk_21 6 (dk_at dksL_law_73 10 rfl rfl)
theorem dL_law_1937 : decode cL_law 1937 = .ok (.ifCond .ne 15, 3) := dk_154 0 15 (dk_at dksL_law_73 12 rfl rfl)
theorem dL_law_1940 : decode cL_law 1940 = .ok (.aload_n 3, 1) := dk_45 (dk_at dksL_law_73 15 rfl rfl)
theorem dL_law_1941 : decode cL_law 1941 = .ok (.iconst 0, 1) := dk_3 (dk_at dksL_law_73 16 rfl rfl)
theorem dL_law_1942 : decode cL_law 1942 = .ok (.laload, 1) := dk_47 (dk_at dksL_law_73 17 rfl rfl)
theorem dL_law_1943 : decode cL_law 1943 = .ok (.iload 7, 2) := dk_21 7 (dk_at dksL_law_73 18 rfl rfl)
theorem dL_law_1945 : decode cL_law 1945 = .ok (.i2l, 1) := dk_133 (dk_at dksL_law_73 20 rfl rfl)
theorem dL_law_1946 : decode cL_law 1946 = .ok (.lcmp, 1) := dk_148 (dk_at dksL_law_73 21 rfl rfl)
theorem dL_law_1947 : decode cL_law 1947 = .ok (.ifCond .eq 5, 3) := dk_153 0 5 (dk_at dksL_law_74 0 rfl rfl)
theorem dL_law_1950 : decode cL_law 1950 = .ok (.iconst 0, 1) := dk_3 (dk_at dksL_law_74 3 rfl rfl)
theorem dL_law_1951 : decode cL_law 1951 = .ok (.ireturn, 1) := dk_172 (dk_at dksL_law_74 4 rfl rfl)
theorem dL_law_1952 : decode cL_law 1952 = .ok (.goto 796, 3) := dk_167 3 28 (dk_at dksL_law_74 5 rfl rfl)
theorem dL_law_1955 : decode cL_law 1955 = .ok (.aload_n 1, 1) := dk_43 (dk_at dksL_law_74 8 rfl rfl)
theorem dL_law_1956 : decode cL_law 1956 = .ok (.invokevirtual 275, 3) := dk_182 1 19 (dk_at dksL_law_74 9 rfl rfl)
theorem dL_law_1959 : decode cL_law 1959 = .ok (.aload_n 2, 1) := dk_44 (dk_at dksL_law_74 12 rfl rfl)
theorem dL_law_1960 : decode cL_law 1960 = .ok (.invokevirtual 278, 3) := dk_182 1 22 (dk_at dksL_law_74 13 rfl rfl)
theorem dL_law_1963 : decode cL_law 1963 = .ok (.if_icmp .eq 785, 3) := dk_159 3 17 (dk_at dksL_law_74 16 rfl rfl)
theorem dL_law_1966 : decode cL_law 1966 = .ok (.iconst 0, 1) := dk_3 (dk_at dksL_law_74 19 rfl rfl)
theorem dL_law_1967 : decode cL_law 1967 = .ok (.ireturn, 1) := dk_172 (dk_at dksL_law_74 20 rfl rfl)
theorem dL_law_1968 : decode cL_law 1968 = .ok (.aload_n 1, 1) := dk_43 (dk_at dksL_law_74 21 rfl rfl)
theorem dL_law_1969 : decode cL_law 1969 = .ok (.invokevirtual 279, 3) := dk_182 1 23 (dk_at dksL_law_75 0 rfl rfl)
theorem dL_law_1972 : decode cL_law 1972 = .ok (.aload_n 2, 1) := dk_44 (dk_at dksL_law_75 3 rfl rfl)
theorem dL_law_1973 : decode cL_law 1973 = .ok (.invokevirtual 282, 3) := dk_182 1 26 (dk_at dksL_law_75 4 rfl rfl)
theorem dL_law_1976 : decode cL_law 1976 = .ok (.if_icmp .eq 772, 3) := dk_159 3 4 (dk_at dksL_law_75 7 rfl rfl)
theorem dL_law_1979 : decode cL_law 1979 = .ok (.iconst 0, 1) := dk_3 (dk_at dksL_law_75 10 rfl rfl)
theorem dL_law_1980 : decode cL_law 1980 = .ok (.ireturn, 1) := dk_172 (dk_at dksL_law_75 11 rfl rfl)
theorem dL_law_1981 : decode cL_law 1981 = .ok (.aload_n 1, 1) := dk_43 (dk_at dksL_law_75 12 rfl rfl)
theorem dL_law_1982 : decode cL_law 1982 = .ok (.invokevirtual 283, 3) := dk_182 1 27 (dk_at dksL_law_75 13 rfl rfl)
theorem dL_law_1985 : decode cL_law 1985 = .ok (.aload_n 2, 1) := dk_44 (dk_at dksL_law_75 16 rfl rfl)
theorem dL_law_1986 : decode cL_law 1986 = .ok (.invokevirtual 286, 3) := dk_182 1 30 (dk_at dksL_law_75 17 rfl rfl)
theorem dL_law_1989 : decode cL_law 1989 = .ok (.if_icmp .eq 759, 3) := dk_159 2 247 (dk_at dksL_law_75 20 rfl rfl)
theorem dL_law_1992 : decode cL_law 1992 = .ok (.iconst 0, 1) := dk_3 (dk_at dksL_law_75 23 rfl rfl)
theorem dL_law_1993 : decode cL_law 1993 = .ok (.ireturn, 1) := dk_172 (dk_at dksL_law_76 0 rfl rfl)
theorem dL_law_1994 : decode cL_law 1994 = .ok (.aload_n 1, 1) := dk_43 (dk_at dksL_law_76 1 rfl rfl)
theorem dL_law_1995 : decode cL_law 1995 = .ok (.invokevirtual 287, 3) := dk_182 1 31 (dk_at dksL_law_76 2 rfl rfl)
theorem dL_law_1998 : decode cL_law 1998 = .ok (.aload_n 2, 1) := dk_44 (dk_at dksL_law_76 5 rfl rfl)
theorem dL_law_1999 : decode cL_law 1999 = .ok (.invokevirtual 290, 3) := dk_182 1 34 (dk_at dksL_law_76 6 rfl rfl)
theorem dL_law_2002 : decode cL_law 2002 = .ok (.if_icmp .eq 746, 3) := dk_159 2 234 (dk_at dksL_law_76 9 rfl rfl)
theorem dL_law_2005 : decode cL_law 2005 = .ok (.iconst 0, 1) := dk_3 (dk_at dksL_law_76 12 rfl rfl)
theorem dL_law_2006 : decode cL_law 2006 = .ok (.ireturn, 1) := dk_172 (dk_at dksL_law_76 13 rfl rfl)
theorem dL_law_2007 : decode cL_law 2007 = .ok (.aload_n 1, 1) := dk_43 (dk_at dksL_law_76 14 rfl rfl)
theorem dL_law_2008 : decode cL_law 2008 = .ok (.invokevirtual 291, 3) := dk_182 1 35 (dk_at dksL_law_76 15 rfl rfl)
theorem dL_law_2011 : decode cL_law 2011 = .ok (.aload_n 2, 1) := dk_44 (dk_at dksL_law_76 18 rfl rfl)
theorem dL_law_2012 : decode cL_law 2012 = .ok (.invokevirtual 294, 3) := dk_182 1 38 (dk_at dksL_law_76 19 rfl rfl)
theorem dL_law_2015 : decode cL_law 2015 = .ok (.if_icmp .eq 733, 3) := dk_159 2 221 (dk_at dksL_law_77 0 rfl rfl)
theorem dL_law_2018 : decode cL_law 2018 = .ok (.iconst 0, 1) := dk_3 (dk_at dksL_law_77 3 rfl rfl)
theorem dL_law_2019 : decode cL_law 2019 = .ok (.ireturn, 1) := dk_172 (dk_at dksL_law_77 4 rfl rfl)
theorem dL_law_2020 : decode cL_law 2020 = .ok (.aload_n 1, 1) := dk_43 (dk_at dksL_law_77 5 rfl rfl)
theorem dL_law_2021 : decode cL_law 2021 = .ok (.aload_n 0, 1) := dk_42 (dk_at dksL_law_77 6 rfl rfl)
theorem dL_law_2022 : decode cL_law 2022 = .ok (.iload 5, 2) := dk_21 5 (dk_at dksL_law_77 7 rfl rfl)
theorem dL_law_2024 : decode cL_law 2024 = .ok (.iconst 1, 1) := dk_4 (dk_at dksL_law_77 9 rfl rfl)
theorem dL_law_2025 : decode cL_law 2025 = .ok (.iadd, 1) := dk_96 (dk_at dksL_law_77 10 rfl rfl)
theorem dL_law_2026 : decode cL_law 2026 = .ok (.iaload, 1) := dk_46 (dk_at dksL_law_77 11 rfl rfl)
theorem dL_law_2027 : decode cL_law 2027 = .ok (.aload_n 3, 1) := dk_45 (dk_at dksL_law_77 12 rfl rfl)
theorem dL_law_2028 : decode cL_law 2028 = .ok (.invokestatic 295, 3) := dk_184 1 39 (dk_at dksL_law_77 13 rfl rfl)
theorem dL_law_2031 : decode cL_law 2031 = .ok (.istore 6, 2) := dk_54 6 (dk_at dksL_law_77 16 rfl rfl)
theorem dL_law_2033 : decode cL_law 2033 = .ok (.aload_n 2, 1) := dk_44 (dk_at dksL_law_77 18 rfl rfl)
theorem dL_law_2034 : decode cL_law 2034 = .ok (.aload_n 0, 1) := dk_42 (dk_at dksL_law_77 19 rfl rfl)
theorem dL_law_2035 : decode cL_law 2035 = .ok (.iload 5, 2) := dk_21 5 (dk_at dksL_law_77 20 rfl rfl)
theorem dL_law_2037 : decode cL_law 2037 = .ok (.iconst 1, 1) := dk_4 (dk_at dksL_law_77 22 rfl rfl)
theorem dL_law_2038 : decode cL_law 2038 = .ok (.iadd, 1) := dk_96 (dk_at dksL_law_77 23 rfl rfl)
theorem dL_law_2039 : decode cL_law 2039 = .ok (.iaload, 1) := dk_46 (dk_at dksL_law_78 0 rfl rfl)
theorem dL_law_2040 : decode cL_law 2040 = .ok (.invokevirtual 297, 3) := dk_182 1 41 (dk_at dksL_law_78 1 rfl rfl)
theorem dL_law_2043 : decode cL_law 2043 = .ok (.istore 7, 2) := dk_54 7 (dk_at dksL_law_78 4 rfl rfl)
theorem dL_law_2045 : decode cL_law 2045 = .ok (.aload_n 2, 1) := dk_44 (dk_at dksL_law_78 6 rfl rfl)
theorem dL_law_2046 : decode cL_law 2046 = .ok (.invokevirtual 158, 3) := dk_182 0 158 (dk_at dksL_law_78 7 rfl rfl)
theorem dL_law_2049 : decode cL_law 2049 = .ok (.iload 6, 2) := dk_21 6 (dk_at dksL_law_78 10 rfl rfl)
theorem dL_law_2051 : decode cL_law 2051 = .ok (.if_icmp .eq 5, 3) := dk_159 0 5 (dk_at dksL_law_78 12 rfl rfl)
theorem dL_law_2054 : decode cL_law 2054 = .ok (.iconst 0, 1) := dk_3 (dk_at dksL_law_78 15 rfl rfl)
theorem dL_law_2055 : decode cL_law 2055 = .ok (.ireturn, 1) := dk_172 (dk_at dksL_law_78 16 rfl rfl)
theorem dL_law_2056 : decode cL_law 2056 = .ok (.iload 6, 2) := dk_21 6 (dk_at dksL_law_78 17 rfl rfl)
theorem dL_law_2058 : decode cL_law 2058 = .ok (.ifCond .ne 15, 3) := dk_154 0 15 (dk_at dksL_law_78 19 rfl rfl)
theorem dL_law_2061 : decode cL_law 2061 = .ok (.aload_n 3, 1) := dk_45 (dk_at dksL_law_78 22 rfl rfl)
theorem dL_law_2062 : decode cL_law 2062 = .ok (.iconst 0, 1) := dk_3 (dk_at dksL_law_78 23 rfl rfl)
theorem dL_law_2063 : decode cL_law 2063 = .ok (.laload, 1) := dk_47 (dk_at dksL_law_79 0 rfl rfl)
theorem dL_law_2064 : decode cL_law 2064 = .ok (.iload 7, 2) := dk_21 7 (dk_at dksL_law_79 1 rfl rfl)
theorem dL_law_2066 : decode cL_law 2066 = .ok (.i2l, 1) := dk_133 (dk_at dksL_law_79 3 rfl rfl)
theorem dL_law_2067 : decode cL_law 2067 = .ok (.lcmp, 1) := dk_148 (dk_at dksL_law_79 4 rfl rfl)
theorem dL_law_2068 : decode cL_law 2068 = .ok (.ifCond .eq 5, 3) := dk_153 0 5 (dk_at dksL_law_79 5 rfl rfl)
theorem dL_law_2071 : decode cL_law 2071 = .ok (.iconst 0, 1) := dk_3 (dk_at dksL_law_79 8 rfl rfl)
theorem dL_law_2072 : decode cL_law 2072 = .ok (.ireturn, 1) := dk_172 (dk_at dksL_law_79 9 rfl rfl)
theorem dL_law_2073 : decode cL_law 2073 = .ok (.goto 675, 3) := dk_167 2 163 (dk_at dksL_law_79 10 rfl rfl)
theorem dL_law_2076 : decode cL_law 2076 = .ok (.aload_n 1, 1) := dk_43 (dk_at dksL_law_79 13 rfl rfl)
theorem dL_law_2077 : decode cL_law 2077 = .ok (.aload_n 0, 1) := dk_42 (dk_at dksL_law_79 14 rfl rfl)
theorem dL_law_2078 : decode cL_law 2078 = .ok (.iload 5, 2) := dk_21 5 (dk_at dksL_law_79 15 rfl rfl)
theorem dL_law_2080 : decode cL_law 2080 = .ok (.iconst 1, 1) := dk_4 (dk_at dksL_law_79 17 rfl rfl)
theorem dL_law_2081 : decode cL_law 2081 = .ok (.iadd, 1) := dk_96 (dk_at dksL_law_79 18 rfl rfl)
theorem dL_law_2082 : decode cL_law 2082 = .ok (.iaload, 1) := dk_46 (dk_at dksL_law_79 19 rfl rfl)
theorem dL_law_2083 : decode cL_law 2083 = .ok (.aload_n 3, 1) := dk_45 (dk_at dksL_law_79 20 rfl rfl)
theorem dL_law_2084 : decode cL_law 2084 = .ok (.invokestatic 298, 3) := dk_184 1 42 (dk_at dksL_law_79 21 rfl rfl)
theorem dL_law_2087 : decode cL_law 2087 = .ok (.istore 6, 2) := dk_54 6 (dk_at dksL_law_80 0 rfl rfl)
theorem dL_law_2089 : decode cL_law 2089 = .ok (.aload_n 2, 1) := dk_44 (dk_at dksL_law_80 2 rfl rfl)
theorem dL_law_2090 : decode cL_law 2090 = .ok (.aload_n 0, 1) := dk_42 (dk_at dksL_law_80 3 rfl rfl)
theorem dL_law_2091 : decode cL_law 2091 = .ok (.iload 5, 2) := dk_21 5 (dk_at dksL_law_80 4 rfl rfl)
theorem dL_law_2093 : decode cL_law 2093 = .ok (.iconst 1, 1) := dk_4 (dk_at dksL_law_80 6 rfl rfl)
theorem dL_law_2094 : decode cL_law 2094 = .ok (.iadd, 1) := dk_96 (dk_at dksL_law_80 7 rfl rfl)
theorem dL_law_2095 : decode cL_law 2095 = .ok (.iaload, 1) := dk_46 (dk_at dksL_law_80 8 rfl rfl)
theorem dL_law_2096 : decode cL_law 2096 = .ok (.invokevirtual 300, 3) := dk_182 1 44 (dk_at dksL_law_80 9 rfl rfl)
theorem dL_law_2099 : decode cL_law 2099 = .ok (.istore 7, 2) := dk_54 7 (dk_at dksL_law_80 12 rfl rfl)
theorem dL_law_2101 : decode cL_law 2101 = .ok (.aload_n 2, 1) := dk_44 (dk_at dksL_law_80 14 rfl rfl)
theorem dL_law_2102 : decode cL_law 2102 = .ok (.invokevirtual 158, 3) := dk_182 0 158 (dk_at dksL_law_80 15 rfl rfl)
theorem dL_law_2105 : decode cL_law 2105 = .ok (.iload 6, 2) := dk_21 6 (dk_at dksL_law_80 18 rfl rfl)
theorem dL_law_2107 : decode cL_law 2107 = .ok (.if_icmp .eq 5, 3) := dk_159 0 5 (dk_at dksL_law_80 20 rfl rfl)
theorem dL_law_2110 : decode cL_law 2110 = .ok (.iconst 0, 1) := dk_3 (dk_at dksL_law_80 23 rfl rfl)
theorem dL_law_2111 : decode cL_law 2111 = .ok (.ireturn, 1) := dk_172 (dk_at dksL_law_81 0 rfl rfl)
theorem dL_law_2112 : decode cL_law 2112 = .ok (.iload 6, 2) := dk_21 6 (dk_at dksL_law_81 1 rfl rfl)
theorem dL_law_2114 : decode cL_law 2114 = .ok (.ifCond .ne 15, 3) := dk_154 0 15 (dk_at dksL_law_81 3 rfl rfl)
theorem dL_law_2117 : decode cL_law 2117 = .ok (.aload_n 3, 1) := dk_45 (dk_at dksL_law_81 6 rfl rfl)
theorem dL_law_2118 : decode cL_law 2118 = .ok (.iconst 0, 1) := dk_3 (dk_at dksL_law_81 7 rfl rfl)
theorem dL_law_2119 : decode cL_law 2119 = .ok (.laload, 1) := dk_47 (dk_at dksL_law_81 8 rfl rfl)
theorem dL_law_2120 : decode cL_law 2120 = .ok (.iload 7, 2) := dk_21 7 (dk_at dksL_law_81 9 rfl rfl)
theorem dL_law_2122 : decode cL_law 2122 = .ok (.i2l, 1) := dk_133 (dk_at dksL_law_81 11 rfl rfl)
theorem dL_law_2123 : decode cL_law 2123 = .ok (.lcmp, 1) := dk_148 (dk_at dksL_law_81 12 rfl rfl)
theorem dL_law_2124 : decode cL_law 2124 = .ok (.ifCond .eq 5, 3) := dk_153 0 5 (dk_at dksL_law_81 13 rfl rfl)
theorem dL_law_2127 : decode cL_law 2127 = .ok (.iconst 0, 1) := dk_3 (dk_at dksL_law_81 16 rfl rfl)
theorem dL_law_2128 : decode cL_law 2128 = .ok (.ireturn, 1) := dk_172 (dk_at dksL_law_81 17 rfl rfl)
theorem dL_law_2129 : decode cL_law 2129 = .ok (.goto 619, 3) := dk_167 2 107 (dk_at dksL_law_81 18 rfl rfl)
theorem dL_law_2132 : decode cL_law 2132 = .ok (.aload_n 1, 1) := dk_43 (dk_at dksL_law_81 21 rfl rfl)
theorem dL_law_2133 : decode cL_law 2133 = .ok (.aload_n 0, 1) := dk_42 (dk_at dksL_law_81 22 rfl rfl)
theorem dL_law_2134 : decode cL_law 2134 = .ok (.iload 5, 2) := dk_21 5 (dk_at dksL_law_82 0 rfl rfl)
theorem dL_law_2136 : decode cL_law 2136 = .ok (.iconst 1, 1) := dk_4 (dk_at dksL_law_82 2 rfl rfl)
theorem dL_law_2137 : decode cL_law 2137 = .ok (.iadd, 1) := dk_96 (dk_at dksL_law_82 3 rfl rfl)
theorem dL_law_2138 : decode cL_law 2138 = .ok (.iaload, 1) := dk_46 (dk_at dksL_law_82 4 rfl rfl)
theorem dL_law_2139 : decode cL_law 2139 = .ok (.aload_n 3, 1) := dk_45 (dk_at dksL_law_82 5 rfl rfl)
theorem dL_law_2140 : decode cL_law 2140 = .ok (.invokestatic 301, 3) := dk_184 1 45 (dk_at dksL_law_82 6 rfl rfl)
theorem dL_law_2143 : decode cL_law 2143 = .ok (.istore 6, 2) := dk_54 6 (dk_at dksL_law_82 9 rfl rfl)
theorem dL_law_2145 : decode cL_law 2145 = .ok (.aload_n 2, 1) := dk_44 (dk_at dksL_law_82 11 rfl rfl)
theorem dL_law_2146 : decode cL_law 2146 = .ok (.aload_n 0, 1) := dk_42 (dk_at dksL_law_82 12 rfl rfl)
theorem dL_law_2147 : decode cL_law 2147 = .ok (.iload 5, 2) := dk_21 5 (dk_at dksL_law_82 13 rfl rfl)
theorem dL_law_2149 : decode cL_law 2149 = .ok (.iconst 1, 1) := dk_4 (dk_at dksL_law_82 15 rfl rfl)
theorem dL_law_2150 : decode cL_law 2150 = .ok (.iadd, 1) := dk_96 (dk_at dksL_law_82 16 rfl rfl)
theorem dL_law_2151 : decode cL_law 2151 = .ok (.iaload, 1) := dk_46 (dk_at dksL_law_82 17 rfl rfl)
theorem dL_law_2152 : decode cL_law 2152 = .ok (.invokevirtual 303, 3) := dk_182 1 47 (dk_at dksL_law_82 18 rfl rfl)
theorem dL_law_2155 : decode cL_law 2155 = .ok (.istore 7, 2) := dk_54 7 (dk_at dksL_law_82 21 rfl rfl)
theorem dL_law_2157 : decode cL_law 2157 = .ok (.aload_n 2, 1) := dk_44 (dk_at dksL_law_82 23 rfl rfl)
theorem dL_law_2158 : decode cL_law 2158 = .ok (.invokevirtual 158, 3) := dk_182 0 158 (dk_at dksL_law_83 0 rfl rfl)
theorem dL_law_2161 : decode cL_law 2161 = .ok (.iload 6, 2) := dk_21 6 (dk_at dksL_law_83 3 rfl rfl)
theorem dL_law_2163 : decode cL_law 2163 = .ok (.if_icmp .eq 5, 3) := dk_159 0 5 (dk_at dksL_law_83 5 rfl rfl)
theorem dL_law_2166 : decode cL_law 2166 = .ok (.iconst 0, 1) := dk_3 (dk_at dksL_law_83 8 rfl rfl)
theorem dL_law_2167 : decode cL_law 2167 = .ok (.ireturn, 1) := dk_172 (dk_at dksL_law_83 9 rfl rfl)
theorem dL_law_2168 : decode cL_law 2168 = .ok (.iload 6, 2) := dk_21 6 (dk_at dksL_law_83 10 rfl rfl)
theorem dL_law_2170 : decode cL_law 2170 = .ok (.ifCond .ne 15, 3) := dk_154 0 15 (dk_at dksL_law_83 12 rfl rfl)
theorem dL_law_2173 : decode cL_law 2173 = .ok (.aload_n 3, 1) := dk_45 (dk_at dksL_law_83 15 rfl rfl)
theorem dL_law_2174 : decode cL_law 2174 = .ok (.iconst 0, 1) := dk_3 (dk_at dksL_law_83 16 rfl rfl)
theorem dL_law_2175 : decode cL_law 2175 = .ok (.laload, 1) := dk_47 (dk_at dksL_law_83 17 rfl rfl)
theorem dL_law_2176 : decode cL_law 2176 = .ok (.iload 7, 2) := dk_21 7 (dk_at dksL_law_83 18 rfl rfl)
theorem dL_law_2178 : decode cL_law 2178 = .ok (.i2l, 1) := dk_133 (dk_at dksL_law_83 20 rfl rfl)
theorem dL_law_2179 : decode cL_law 2179 = .ok (.lcmp, 1) := dk_148 (dk_at dksL_law_83 21 rfl rfl)
theorem dL_law_2180 : decode cL_law 2180 = .ok (.ifCond .eq 5, 3) := dk_153 0 5 (dk_at dksL_law_84 0 rfl rfl)
theorem dL_law_2183 : decode cL_law 2183 = .ok (.iconst 0, 1) := dk_3 (dk_at dksL_law_84 3 rfl rfl)
theorem dL_law_2184 : decode cL_law 2184 = .ok (.ireturn, 1) := dk_172 (dk_at dksL_law_84 4 rfl rfl)
theorem dL_law_2185 : decode cL_law 2185 = .ok (.goto 563, 3) := dk_167 2 51 (dk_at dksL_law_84 5 rfl rfl)
theorem dL_law_2188 : decode cL_law 2188 = .ok (.aload_n 1, 1) := dk_43 (dk_at dksL_law_84 8 rfl rfl)
theorem dL_law_2189 : decode cL_law 2189 = .ok (.aload 4, 2) := dk_25 4 (dk_at dksL_law_84 9 rfl rfl)
theorem dL_law_2191 : decode cL_law 2191 = .ok (.invokestatic 304, 3) := dk_184 1 48 (dk_at dksL_law_84 11 rfl rfl)
theorem dL_law_2194 : decode cL_law 2194 = .ok (.istore 6, 2) := dk_54 6 (dk_at dksL_law_84 14 rfl rfl)
theorem dL_law_2196 : decode cL_law 2196 = .ok (.aload_n 2, 1) := dk_44 (dk_at dksL_law_84 16 rfl rfl)
theorem dL_law_2197 : decode cL_law 2197 = .ok (.invokevirtual 307, 3) := dk_182 1 51 (dk_at dksL_law_84 17 rfl rfl)
theorem dL_law_2200 : decode cL_law 2200 = .ok (.dstore 7, 2) := dk_57 7 (dk_at dksL_law_84 20 rfl rfl)
theorem dL_law_2202 : decode cL_law 2202 = .ok (.aload_n 2, 1) := dk_44 (dk_at dksL_law_84 22 rfl rfl)
theorem dL_law_2203 : decode cL_law 2203 = .ok (.invokevirtual 158, 3) := dk_182 0 158 (dk_at dksL_law_85 0 rfl rfl)
theorem dL_law_2206 : decode cL_law 2206 = .ok (.iload 6, 2) := dk_21 6 (dk_at dksL_law_85 3 rfl rfl)
theorem dL_law_2208 : decode cL_law 2208 = .ok (.if_icmp .eq 5, 3) := dk_159 0 5 (dk_at dksL_law_85 5 rfl rfl)
theorem dL_law_2211 : decode cL_law 2211 = .ok (.iconst 0, 1) := dk_3 (dk_at dksL_law_85 8 rfl rfl)
theorem dL_law_2212 : decode cL_law 2212 = .ok (.ireturn, 1) := dk_172 (dk_at dksL_law_85 9 rfl rfl)
theorem dL_law_2213 : decode cL_law 2213 = .ok (.iload 6, 2) := dk_21 6 (dk_at dksL_law_85 10 rfl rfl)
theorem dL_law_2215 : decode cL_law 2215 = .ok (.ifCond .ne 35, 3) := dk_154 0 35 (dk_at dksL_law_85 12 rfl rfl)
theorem dL_law_2218 : decode cL_law 2218 = .ok (.aload 4, 2) := dk_25 4 (dk_at dksL_law_85 15 rfl rfl)
theorem dL_law_2220 : decode cL_law 2220 = .ok (.iconst 0, 1) := dk_3 (dk_at dksL_law_85 17 rfl rfl)
theorem dL_law_2221 : decode cL_law 2221 = .ok (.daload, 1) := dk_49 (dk_at dksL_law_85 18 rfl rfl)
theorem dL_law_2222 : decode cL_law 2222 = .ok (.dload 7, 2) := dk_24 7 (dk_at dksL_law_85 19 rfl rfl)
theorem dL_law_2224 : decode cL_law 2224 = .ok (.dcmp .l, 1) := dk_151 (dk_at dksL_law_85 21 rfl rfl)
theorem dL_law_2225 : decode cL_law 2225 = .ok (.ifCond .eq 25, 3) := dk_153 0 25 (dk_at dksL_law_86 0 rfl rfl)
theorem dL_law_2228 : decode cL_law 2228 = .ok (.aload 4, 2) := dk_25 4 (dk_at dksL_law_86 3 rfl rfl)
theorem dL_law_2230 : decode cL_law 2230 = .ok (.iconst 0, 1) := dk_3 (dk_at dksL_law_86 5 rfl rfl)
theorem dL_law_2231 : decode cL_law 2231 = .ok (.daload, 1) := dk_49 (dk_at dksL_law_86 6 rfl rfl)
theorem dL_law_2232 : decode cL_law 2232 = .ok (.aload 4, 2) := dk_25 4 (dk_at dksL_law_86 7 rfl rfl)
theorem dL_law_2234 : decode cL_law 2234 = .ok (.iconst 0, 1) := dk_3 (dk_at dksL_law_86 9 rfl rfl)
theorem dL_law_2235 : decode cL_law 2235 = .ok (.daload, 1) := dk_49 (dk_at dksL_law_86 10 rfl rfl)
theorem dL_law_2236 : decode cL_law 2236 = .ok (.dcmp .l, 1) := dk_151 (dk_at dksL_law_86 11 rfl rfl)
theorem dL_law_2237 : decode cL_law 2237 = .ok (.ifCond .eq 11, 3) := dk_153 0 11 (dk_at dksL_law_86 12 rfl rfl)
theorem dL_law_2240 : decode cL_law 2240 = .ok (.dload 7, 2) := dk_24 7 (dk_at dksL_law_86 15 rfl rfl)
theorem dL_law_2242 : decode cL_law 2242 = .ok (.dload 7, 2) := dk_24 7 (dk_at dksL_law_86 17 rfl rfl)
theorem dL_law_2244 : decode cL_law 2244 = .ok (.dcmp .l, 1) := dk_151 (dk_at dksL_law_86 19 rfl rfl)
theorem dL_law_2245 : decode cL_law 2245 = .ok (.ifCond .ne 5, 3) := dk_154 0 5 (dk_at dksL_law_86 20 rfl rfl)
theorem dL_law_2248 : decode cL_law 2248 = .ok (.iconst 0, 1) := dk_3 (dk_at dksL_law_86 23 rfl rfl)
theorem dL_law_2249 : decode cL_law 2249 = .ok (.ireturn, 1) := dk_172 (dk_at dksL_law_87 0 rfl rfl)
theorem dL_law_2250 : decode cL_law 2250 = .ok (.goto 498, 3) := dk_167 1 242 (dk_at dksL_law_87 1 rfl rfl)
theorem dL_law_2253 : decode cL_law 2253 = .ok (.aload_n 1, 1) := dk_43 (dk_at dksL_law_87 4 rfl rfl)
theorem dL_law_2254 : decode cL_law 2254 = .ok (.aload 4, 2) := dk_25 4 (dk_at dksL_law_87 5 rfl rfl)
theorem dL_law_2256 : decode cL_law 2256 = .ok (.invokestatic 308, 3) := dk_184 1 52 (dk_at dksL_law_87 7 rfl rfl)
theorem dL_law_2259 : decode cL_law 2259 = .ok (.istore 6, 2) := dk_54 6 (dk_at dksL_law_87 10 rfl rfl)
theorem dL_law_2261 : decode cL_law 2261 = .ok (.aload_n 2, 1) := dk_44 (dk_at dksL_law_87 12 rfl rfl)
theorem dL_law_2262 : decode cL_law 2262 = .ok (.invokevirtual 310, 3) := dk_182 1 54 (dk_at dksL_law_87 13 rfl rfl)
theorem dL_law_2265 : decode cL_law 2265 = .ok (.fstore 7, 2) := dk_56 7 (dk_at dksL_law_87 16 rfl rfl)
theorem dL_law_2267 : decode cL_law 2267 = .ok (.aload_n 2, 1) := dk_44 (dk_at dksL_law_87 18 rfl rfl)
theorem dL_law_2268 : decode cL_law 2268 = .ok (.invokevirtual 158, 3) := dk_182 0 158 (dk_at dksL_law_87 19 rfl rfl)
theorem dL_law_2271 : decode cL_law 2271 = .ok (.iload 6, 2) := dk_21 6 (dk_at dksL_law_87 22 rfl rfl)
theorem dL_law_2273 : decode cL_law 2273 = .ok (.if_icmp .eq 5, 3) := dk_159 0 5 (dk_at dksL_law_88 0 rfl rfl)
theorem dL_law_2276 : decode cL_law 2276 = .ok (.iconst 0, 1) := dk_3 (dk_at dksL_law_88 3 rfl rfl)
theorem dL_law_2277 : decode cL_law 2277 = .ok (.ireturn, 1) := dk_172 (dk_at dksL_law_88 4 rfl rfl)
theorem dL_law_2278 : decode cL_law 2278 = .ok (.iload 6, 2) := dk_21 6 (dk_at dksL_law_88 5 rfl rfl)
theorem dL_law_2280 : decode cL_law 2280 = .ok (.ifCond .ne 36, 3) := dk_154 0 36 (dk_at dksL_law_88 7 rfl rfl)
theorem dL_law_2283 : decode cL_law 2283 = .ok (.aload 4, 2) := dk_25 4 (dk_at dksL_law_88 10 rfl rfl)
theorem dL_law_2285 : decode cL_law 2285 = .ok (.iconst 0, 1) := dk_3 (dk_at dksL_law_88 12 rfl rfl)
theorem dL_law_2286 : decode cL_law 2286 = .ok (.daload, 1) := dk_49 (dk_at dksL_law_88 13 rfl rfl)
theorem dL_law_2287 : decode cL_law 2287 = .ok (.fload 7, 2) := dk_23 7 (dk_at dksL_law_88 14 rfl rfl)
theorem dL_law_2289 : decode cL_law 2289 = .ok (.f2d, 1) := dk_141 (dk_at dksL_law_88 16 rfl rfl)
theorem dL_law_2290 : decode cL_law 2290 = .ok (.dcmp .l, 1) := dk_151 (dk_at dksL_law_88 17 rfl rfl)
theorem dL_law_2291 : decode cL_law 2291 = .ok (.ifCond .eq 25, 3) := dk_153 0 25 (dk_at dksL_law_88 18 rfl rfl)
theorem dL_law_2294 : decode cL_law 2294 = .ok (.aload 4, 2) := dk_25 4 (dk_at dksL_law_88 21 rfl rfl)
theorem dL_law_2296 : decode cL_law 2296 = .ok (.iconst 0, 1) := dk_3 (dk_at dksL_law_88 23 rfl rfl)
theorem dL_law_2297 : decode cL_law 2297 = .ok (.daload, 1) := dk_49 (dk_at dksL_law_89 0 rfl rfl)
theorem dL_law_2298 : decode cL_law 2298 = .ok (.aload 4, 2) := dk_25 4 (dk_at dksL_law_89 1 rfl rfl)
theorem dL_law_2300 : decode cL_law 2300 = .ok (.iconst 0, 1) := dk_3 (dk_at dksL_law_89 3 rfl rfl)
theorem dL_law_2301 : decode cL_law 2301 = .ok (.daload, 1) := dk_49 (dk_at dksL_law_89 4 rfl rfl)
theorem dL_law_2302 : decode cL_law 2302 = .ok (.dcmp .l, 1) := dk_151 (dk_at dksL_law_89 5 rfl rfl)
theorem dL_law_2303 : decode cL_law 2303 = .ok (.ifCond .eq 11, 3) := dk_153 0 11 (dk_at dksL_law_89 6 rfl rfl)
theorem dL_law_2306 : decode cL_law 2306 = .ok (.fload 7, 2) := dk_23 7 (dk_at dksL_law_89 9 rfl rfl)
theorem dL_law_2308 : decode cL_law 2308 = .ok (.fload 7, 2) := dk_23 7 (dk_at dksL_law_89 11 rfl rfl)
theorem dL_law_2310 : decode cL_law 2310 = .ok (.fcmp .l, 1) := dk_149 (dk_at dksL_law_89 13 rfl rfl)
theorem dL_law_2311 : decode cL_law 2311 = .ok (.ifCond .ne 5, 3) := dk_154 0 5 (dk_at dksL_law_89 14 rfl rfl)
theorem dL_law_2314 : decode cL_law 2314 = .ok (.iconst 0, 1) := dk_3 (dk_at dksL_law_89 17 rfl rfl)
theorem dL_law_2315 : decode cL_law 2315 = .ok (.ireturn, 1) := dk_172 (dk_at dksL_law_89 18 rfl rfl)
theorem dL_law_2316 : decode cL_law 2316 = .ok (.goto 432, 3) := dk_167 1 176 (dk_at dksL_law_89 19 rfl rfl)
theorem dL_law_2319 : decode cL_law 2319 = .ok (.aload_n 1, 1) := dk_43 (dk_at dksL_law_89 22 rfl rfl)
theorem dL_law_2320 : decode cL_law 2320 = .ok (.invokevirtual 311, 3) := dk_182 1 55 (dk_at dksL_law_90 0 rfl rfl)
theorem dL_law_2323 : decode cL_law 2323 = .ok (.aload_n 2, 1) := dk_44 (dk_at dksL_law_90 3 rfl rfl)
theorem dL_law_2324 : decode cL_law 2324 = .ok (.invokevirtual 315, 3) := dk_182 1 59 (dk_at dksL_law_90 4 rfl rfl)
theorem dL_law_2327 : decode cL_law 2327 = .ok (.if_icmp .eq 421, 3) := dk_159 1 165 (dk_at dksL_law_90 7 rfl rfl)
theorem dL_law_2330 : decode cL_law 2330 = .ok (.iconst 0, 1) := dk_3 (dk_at dksL_law_90 10 rfl rfl)
theorem dL_law_2331 : decode cL_law 2331 = .ok (.ireturn, 1) := dk_172 (dk_at dksL_law_90 11 rfl rfl)
theorem dL_law_2332 : decode cL_law 2332 = .ok (.aload_n 1, 1) := dk_43 (dk_at dksL_law_90 12 rfl rfl)
theorem dL_law_2333 : decode cL_law 2333 = .ok (.aload_n 0, 1) := dk_42 (dk_at dksL_law_90 13 rfl rfl)
theorem dL_law_2334 : decode cL_law 2334 = .ok (.iload 5, 2) := dk_21 5 (dk_at dksL_law_90 14 rfl rfl)
theorem dL_law_2336 : decode cL_law 2336 = .ok (.iconst 1, 1) := dk_4 (dk_at dksL_law_90 16 rfl rfl)
theorem dL_law_2337 : decode cL_law 2337 = .ok (.iadd, 1) := dk_96 (dk_at dksL_law_90 17 rfl rfl)
theorem dL_law_2338 : decode cL_law 2338 = .ok (.iaload, 1) := dk_46 (dk_at dksL_law_90 18 rfl rfl)
theorem dL_law_2339 : decode cL_law 2339 = .ok (.i2c, 1) := dk_146 (dk_at dksL_law_90 19 rfl rfl)
theorem dL_law_2340 : decode cL_law 2340 = .ok (.aload_n 3, 1) := dk_45 (dk_at dksL_law_90 20 rfl rfl)
theorem dL_law_2341 : decode cL_law 2341 = .ok (.invokestatic 316, 3) := dk_184 1 60 (dk_at dksL_law_90 21 rfl rfl)
theorem dL_law_2344 : decode cL_law 2344 = .ok (.istore 6, 2) := dk_54 6 (dk_at dksL_law_91 0 rfl rfl)
theorem dL_law_2346 : decode cL_law 2346 = .ok (.aload_n 2, 1) := dk_44 (dk_at dksL_law_91 2 rfl rfl)
theorem dL_law_2347 : decode cL_law 2347 = .ok (.aload_n 0, 1) := dk_42 (dk_at dksL_law_91 3 rfl rfl)
theorem dL_law_2348 : decode cL_law 2348 = .ok (.iload 5, 2) := dk_21 5 (dk_at dksL_law_91 4 rfl rfl)
theorem dL_law_2350 : decode cL_law 2350 = .ok (.iconst 1, 1) := dk_4 (dk_at dksL_law_91 6 rfl rfl)
theorem dL_law_2351 : decode cL_law 2351 = .ok (.iadd, 1) := dk_96 (dk_at dksL_law_91 7 rfl rfl)
theorem dL_law_2352 : decode cL_law 2352 = .ok (.iaload, 1) := dk_46 (dk_at dksL_law_91 8 rfl rfl)
theorem dL_law_2353 : decode cL_law 2353 = .ok (.i2c, 1) := dk_146 (dk_at dksL_law_91 9 rfl rfl)
theorem dL_law_2354 : decode cL_law 2354 = .ok (.invokevirtual 319, 3) := dk_182 1 63 (dk_at dksL_law_91 10 rfl rfl)
theorem dL_law_2357 : decode cL_law 2357 = .ok (.istore 7, 2) := dk_54 7 (dk_at dksL_law_91 13 rfl rfl)
theorem dL_law_2359 : decode cL_law 2359 = .ok (.aload_n 2, 1) := dk_44 (dk_at dksL_law_91 15 rfl rfl)
theorem dL_law_2360 : decode cL_law 2360 = .ok (.invokevirtual 158, 3) := dk_182 0 158 (dk_at dksL_law_91 16 rfl rfl)
theorem dL_law_2363 : decode cL_law 2363 = .ok (.iload 6, 2) := dk_21 6 (dk_at dksL_law_91 19 rfl rfl)
theorem dL_law_2365 : decode cL_law 2365 = .ok (.if_icmp .eq 5, 3) := dk_159 0 5 (dk_at dksL_law_91 21 rfl rfl)
theorem dL_law_2368 : decode cL_law 2368 = .ok (.iconst 0, 1) := dk_3 (dk_at dksL_law_92 0 rfl rfl)
theorem dL_law_2369 : decode cL_law 2369 = .ok (.ireturn, 1) := dk_172 (dk_at dksL_law_92 1 rfl rfl)
theorem dL_law_2370 : decode cL_law 2370 = .ok (.iload 6, 2) := dk_21 6 (dk_at dksL_law_92 2 rfl rfl)
theorem dL_law_2372 : decode cL_law 2372 = .ok (.ifCond .ne 15, 3) := dk_154 0 15 (dk_at dksL_law_92 4 rfl rfl)
theorem dL_law_2375 : decode cL_law 2375 = .ok (.aload_n 3, 1) := dk_45 (dk_at dksL_law_92 7 rfl rfl)
theorem dL_law_2376 : decode cL_law 2376 = .ok (.iconst 0, 1) := dk_3 (dk_at dksL_law_92 8 rfl rfl)
theorem dL_law_2377 : decode cL_law 2377 = .ok (.laload, 1) := dk_47 (dk_at dksL_law_92 9 rfl rfl)
theorem dL_law_2378 : decode cL_law 2378 = .ok (.iload 7, 2) := dk_21 7 (dk_at dksL_law_92 10 rfl rfl)
theorem dL_law_2380 : decode cL_law 2380 = .ok (.i2l, 1) := dk_133 (dk_at dksL_law_92 12 rfl rfl)
theorem dL_law_2381 : decode cL_law 2381 = .ok (.lcmp, 1) := dk_148 (dk_at dksL_law_92 13 rfl rfl)
theorem dL_law_2382 : decode cL_law 2382 = .ok (.ifCond .eq 5, 3) := dk_153 0 5 (dk_at dksL_law_92 14 rfl rfl)
theorem dL_law_2385 : decode cL_law 2385 = .ok (.iconst 0, 1) := dk_3 (dk_at dksL_law_92 17 rfl rfl)
theorem dL_law_2386 : decode cL_law 2386 = .ok (.ireturn, 1) := dk_172 (dk_at dksL_law_92 18 rfl rfl)
theorem dL_law_2387 : decode cL_law 2387 = .ok (.goto 361, 3) := dk_167 1 105 (dk_at dksL_law_92 19 rfl rfl)
theorem dL_law_2390 : decode cL_law 2390 = .ok (.aload_n 1, 1) := dk_43 (dk_at dksL_law_92 22 rfl rfl)
theorem dL_law_2391 : decode cL_law 2391 = .ok (.aload_n 3, 1) := dk_45 (dk_at dksL_law_92 23 rfl rfl)
theorem dL_law_2392 : decode cL_law 2392 = .ok (.invokestatic 320, 3) := dk_184 1 64 (dk_at dksL_law_93 0 rfl rfl)
theorem dL_law_2395 : decode cL_law 2395 = .ok (.istore 6, 2) := dk_54 6 (dk_at dksL_law_93 3 rfl rfl)
theorem dL_law_2397 : decode cL_law 2397 = .ok (.aload_n 2, 1) := dk_44 (dk_at dksL_law_93 5 rfl rfl)
theorem dL_law_2398 : decode cL_law 2398 = .ok (.invokevirtual 322, 3) := dk_182 1 66 (dk_at dksL_law_93 6 rfl rfl)
theorem dL_law_2401 : decode cL_law 2401 = .ok (.istore 7, 2) := dk_54 7 (dk_at dksL_law_93 9 rfl rfl)
theorem dL_law_2403 : decode cL_law 2403 = .ok (.aload_n 2, 1) := dk_44 (dk_at dksL_law_93 11 rfl rfl)
theorem dL_law_2404 : decode cL_law 2404 = .ok (.invokevirtual 158, 3) := dk_182 0 158 (dk_at dksL_law_93 12 rfl rfl)
theorem dL_law_2407 : decode cL_law 2407 = .ok (.iload 6, 2) := dk_21 6 (dk_at dksL_law_93 15 rfl rfl)
theorem dL_law_2409 : decode cL_law 2409 = .ok (.if_icmp .eq 5, 3) := dk_159 0 5 (dk_at dksL_law_93 17 rfl rfl)
theorem dL_law_2412 : decode cL_law 2412 = .ok (.iconst 0, 1) := dk_3 (dk_at dksL_law_93 20 rfl rfl)
theorem dL_law_2413 : decode cL_law 2413 = .ok (.ireturn, 1) := dk_172 (dk_at dksL_law_93 21 rfl rfl)
theorem dL_law_2414 : decode cL_law 2414 = .ok (.iload 6, 2) := dk_21 6 (dk_at dksL_law_93 22 rfl rfl)
theorem dL_law_2416 : decode cL_law 2416 = .ok (.ifCond .ne 15, 3) := dk_154 0 15 (dk_at dksL_law_94 0 rfl rfl)
theorem dL_law_2419 : decode cL_law 2419 = .ok (.aload_n 3, 1) := dk_45 (dk_at dksL_law_94 3 rfl rfl)
theorem dL_law_2420 : decode cL_law 2420 = .ok (.iconst 0, 1) := dk_3 (dk_at dksL_law_94 4 rfl rfl)
theorem dL_law_2421 : decode cL_law 2421 = .ok (.laload, 1) := dk_47 (dk_at dksL_law_94 5 rfl rfl)
theorem dL_law_2422 : decode cL_law 2422 = .ok (.iload 7, 2) := dk_21 7 (dk_at dksL_law_94 6 rfl rfl)
theorem dL_law_2424 : decode cL_law 2424 = .ok (.i2l, 1) := dk_133 (dk_at dksL_law_94 8 rfl rfl)
theorem dL_law_2425 : decode cL_law 2425 = .ok (.lcmp, 1) := dk_148 (dk_at dksL_law_94 9 rfl rfl)
theorem dL_law_2426 : decode cL_law 2426 = .ok (.ifCond .eq 5, 3) := dk_153 0 5 (dk_at dksL_law_94 10 rfl rfl)
theorem dL_law_2429 : decode cL_law 2429 = .ok (.iconst 0, 1) := dk_3 (dk_at dksL_law_94 13 rfl rfl)
theorem dL_law_2430 : decode cL_law 2430 = .ok (.ireturn, 1) := dk_172 (dk_at dksL_law_94 14 rfl rfl)
theorem dL_law_2431 : decode cL_law 2431 = .ok (.goto 317, 3) := dk_167 1 61 (dk_at dksL_law_94 15 rfl rfl)
theorem dL_law_2434 : decode cL_law 2434 = .ok (.aload_n 1, 1) := dk_43 (dk_at dksL_law_94 18 rfl rfl)
theorem dL_law_2435 : decode cL_law 2435 = .ok (.aload_n 3, 1) := dk_45 (dk_at dksL_law_94 19 rfl rfl)
theorem dL_law_2436 : decode cL_law 2436 = .ok (.invokestatic 323, 3) := dk_184 1 67 (dk_at dksL_law_94 20 rfl rfl)
theorem dL_law_2439 : decode cL_law 2439 = .ok (.istore 6, 2) := dk_54 6 (dk_at dksL_law_95 0 rfl rfl)
theorem dL_law_2441 : decode cL_law 2441 = .ok (.aload_n 2, 1) := dk_44 (dk_at dksL_law_95 2 rfl rfl)
theorem dL_law_2442 : decode cL_law 2442 = .ok (.invokevirtual 325, 3) := dk_182 1 69 (dk_at dksL_law_95 3 rfl rfl)
theorem dL_law_2445 : decode cL_law 2445 = .ok (.istore 7, 2) := dk_54 7 (dk_at dksL_law_95 6 rfl rfl)
theorem dL_law_2447 : decode cL_law 2447 = .ok (.aload_n 2, 1) := dk_44 (dk_at dksL_law_95 8 rfl rfl)
theorem dL_law_2448 : decode cL_law 2448 = .ok (.invokevirtual 158, 3) := dk_182 0 158 (dk_at dksL_law_95 9 rfl rfl)
theorem dL_law_2451 : decode cL_law 2451 = .ok (.iload 6, 2) := dk_21 6 (dk_at dksL_law_95 12 rfl rfl)
theorem dL_law_2453 : decode cL_law 2453 = .ok (.if_icmp .eq 5, 3) := dk_159 0 5 (dk_at dksL_law_95 14 rfl rfl)
theorem dL_law_2456 : decode cL_law 2456 = .ok (.iconst 0, 1) := dk_3 (dk_at dksL_law_95 17 rfl rfl)
theorem dL_law_2457 : decode cL_law 2457 = .ok (.ireturn, 1) := dk_172 (dk_at dksL_law_95 18 rfl rfl)
theorem dL_law_2458 : decode cL_law 2458 = .ok (.iload 6, 2) := dk_21 6 (dk_at dksL_law_95 19 rfl rfl)
theorem dL_law_2460 : decode cL_law 2460 = .ok (.ifCond .ne 15, 3) := dk_154 0 15 (dk_at dksL_law_95 21 rfl rfl)
theorem dL_law_2463 : decode cL_law 2463 = .ok (.aload_n 3, 1) := dk_45 (dk_at dksL_law_96 0 rfl rfl)
theorem dL_law_2464 : decode cL_law 2464 = .ok (.iconst 0, 1) := dk_3 (dk_at dksL_law_96 1 rfl rfl)
theorem dL_law_2465 : decode cL_law 2465 = .ok (.laload, 1) := dk_47 (dk_at dksL_law_96 2 rfl rfl)
theorem dL_law_2466 : decode cL_law 2466 = .ok (.iload 7, 2) := dk_21 7 (dk_at dksL_law_96 3 rfl rfl)
theorem dL_law_2468 : decode cL_law 2468 = .ok (.i2l, 1) := dk_133 (dk_at dksL_law_96 5 rfl rfl)
theorem dL_law_2469 : decode cL_law 2469 = .ok (.lcmp, 1) := dk_148 (dk_at dksL_law_96 6 rfl rfl)
theorem dL_law_2470 : decode cL_law 2470 = .ok (.ifCond .eq 5, 3) := dk_153 0 5 (dk_at dksL_law_96 7 rfl rfl)
theorem dL_law_2473 : decode cL_law 2473 = .ok (.iconst 0, 1) := dk_3 (dk_at dksL_law_96 10 rfl rfl)
theorem dL_law_2474 : decode cL_law 2474 = .ok (.ireturn, 1) := dk_172 (dk_at dksL_law_96 11 rfl rfl)
theorem dL_law_2475 : decode cL_law 2475 = .ok (.goto 273, 3) := dk_167 1 17 (dk_at dksL_law_96 12 rfl rfl)
theorem dL_law_2478 : decode cL_law 2478 = .ok (.aload_n 1, 1) := dk_43 (dk_at dksL_law_96 15 rfl rfl)
theorem dL_law_2479 : decode cL_law 2479 = .ok (.aload_n 3, 1) := dk_45 (dk_at dksL_law_96 16 rfl rfl)
theorem dL_law_2480 : decode cL_law 2480 = .ok (.invokestatic 326, 3) := dk_184 1 70 (dk_at dksL_law_96 17 rfl rfl)
theorem dL_law_2483 : decode cL_law 2483 = .ok (.istore 6, 2) := dk_54 6 (dk_at dksL_law_96 20 rfl rfl)
theorem dL_law_2485 : decode cL_law 2485 = .ok (.aload_n 2, 1) := dk_44 (dk_at dksL_law_96 22 rfl rfl)
theorem dL_law_2486 : decode cL_law 2486 = .ok (.invokevirtual 328, 3) := dk_182 1 72 (dk_at dksL_law_97 0 rfl rfl)
theorem dL_law_2489 : decode cL_law 2489 = .ok (.istore 7, 2) := dk_54 7 (dk_at dksL_law_97 3 rfl rfl)
theorem dL_law_2491 : decode cL_law 2491 = .ok (.aload_n 2, 1) := dk_44 (dk_at dksL_law_97 5 rfl rfl)
theorem dL_law_2492 : decode cL_law 2492 = .ok (.invokevirtual 158, 3) := dk_182 0 158 (dk_at dksL_law_97 6 rfl rfl)
theorem dL_law_2495 : decode cL_law 2495 = .ok (.iload 6, 2) := dk_21 6 (dk_at dksL_law_97 9 rfl rfl)
theorem dL_law_2497 : decode cL_law 2497 = .ok (.if_icmp .eq 5, 3) := dk_159 0 5 (dk_at dksL_law_97 11 rfl rfl)
theorem dL_law_2500 : decode cL_law 2500 = .ok (.iconst 0, 1) := dk_3 (dk_at dksL_law_97 14 rfl rfl)
theorem dL_law_2501 : decode cL_law 2501 = .ok (.ireturn, 1) := dk_172 (dk_at dksL_law_97 15 rfl rfl)
theorem dL_law_2502 : decode cL_law 2502 = .ok (.iload 6, 2) := dk_21 6 (dk_at dksL_law_97 16 rfl rfl)
theorem dL_law_2504 : decode cL_law 2504 = .ok (.ifCond .ne 15, 3) := dk_154 0 15 (dk_at dksL_law_97 18 rfl rfl)
theorem dL_law_2507 : decode cL_law 2507 = .ok (.aload_n 3, 1) := dk_45 (dk_at dksL_law_97 21 rfl rfl)
theorem dL_law_2508 : decode cL_law 2508 = .ok (.iconst 0, 1) := dk_3 (dk_at dksL_law_97 22 rfl rfl)
theorem dL_law_2509 : decode cL_law 2509 = .ok (.laload, 1) := dk_47 (dk_at dksL_law_97 23 rfl rfl)
theorem dL_law_2510 : decode cL_law 2510 = .ok (.iload 7, 2) := dk_21 7 (dk_at dksL_law_98 0 rfl rfl)
theorem dL_law_2512 : decode cL_law 2512 = .ok (.i2l, 1) := dk_133 (dk_at dksL_law_98 2 rfl rfl)
theorem dL_law_2513 : decode cL_law 2513 = .ok (.lcmp, 1) := dk_148 (dk_at dksL_law_98 3 rfl rfl)
theorem dL_law_2514 : decode cL_law 2514 = .ok (.ifCond .eq 5, 3) := dk_153 0 5 (dk_at dksL_law_98 4 rfl rfl)
theorem dL_law_2517 : decode cL_law 2517 = .ok (.iconst 0, 1) := dk_3 (dk_at dksL_law_98 7 rfl rfl)
theorem dL_law_2518 : decode cL_law 2518 = .ok (.ireturn, 1) := dk_172 (dk_at dksL_law_98 8 rfl rfl)
theorem dL_law_2519 : decode cL_law 2519 = .ok (.goto 229, 3) := dk_167 0 229 (dk_at dksL_law_98 9 rfl rfl)
theorem dL_law_2522 : decode cL_law 2522 = .ok (.aload_n 1, 1) := dk_43 (dk_at dksL_law_98 12 rfl rfl)
theorem dL_law_2523 : decode cL_law 2523 = .ok (.aload_n 0, 1) := dk_42 (dk_at dksL_law_98 13 rfl rfl)
theorem dL_law_2524 : decode cL_law 2524 = .ok (.iload 5, 2) := dk_21 5 (dk_at dksL_law_98 14 rfl rfl)
theorem dL_law_2526 : decode cL_law 2526 = .ok (.iconst 1, 1) := dk_4 (dk_at dksL_law_98 16 rfl rfl)
theorem dL_law_2527 : decode cL_law 2527 = .ok (.iadd, 1) := dk_96 (dk_at dksL_law_98 17 rfl rfl)
theorem dL_law_2528 : decode cL_law 2528 = .ok (.iaload, 1) := dk_46 (dk_at dksL_law_98 18 rfl rfl)
theorem dL_law_2529 : decode cL_law 2529 = .ok (.aload_n 3, 1) := dk_45 (dk_at dksL_law_98 19 rfl rfl)
theorem dL_law_2530 : decode cL_law 2530 = .ok (.invokestatic 329, 3) := dk_184 1 73 (dk_at dksL_law_98 20 rfl rfl)
theorem dL_law_2533 : decode cL_law 2533 = .ok (.istore 6, 2) := dk_54 6 (dk_at dksL_law_99 0 rfl rfl)
theorem dL_law_2535 : decode cL_law 2535 = .ok (.aload_n 2, 1) := dk_44 (dk_at dksL_law_99 2 rfl rfl)
theorem dL_law_2536 : decode cL_law 2536 = .ok (.aload_n 0, 1) := dk_42 (dk_at dksL_law_99 3 rfl rfl)
theorem dL_law_2537 : decode cL_law 2537 = .ok (.iload 5, 2) := dk_21 5 (dk_at dksL_law_99 4 rfl rfl)
theorem dL_law_2539 : decode cL_law 2539 = .ok (.iconst 1, 1) := dk_4 (dk_at dksL_law_99 6 rfl rfl)
theorem dL_law_2540 : decode cL_law 2540 = .ok (.iadd, 1) := dk_96 (dk_at dksL_law_99 7 rfl rfl)
theorem dL_law_2541 : decode cL_law 2541 = .ok (.iaload, 1) := dk_46 (dk_at dksL_law_99 8 rfl rfl)
theorem dL_law_2542 : decode cL_law 2542 = .ok (.invokevirtual 331, 3) := dk_182 1 75 (dk_at dksL_law_99 9 rfl rfl)
theorem dL_law_2545 : decode cL_law 2545 = .ok (.istore 7, 2) := dk_54 7 (dk_at dksL_law_99 12 rfl rfl)
theorem dL_law_2547 : decode cL_law 2547 = .ok (.aload_n 2, 1) := dk_44 (dk_at dksL_law_99 14 rfl rfl)
theorem dL_law_2548 : decode cL_law 2548 = .ok (.invokevirtual 158, 3) := dk_182 0 158 (dk_at dksL_law_99 15 rfl rfl)
theorem dL_law_2551 : decode cL_law 2551 = .ok (.iload 6, 2) := dk_21 6 (dk_at dksL_law_99 18 rfl rfl)
theorem dL_law_2553 : decode cL_law 2553 = .ok (.if_icmp .eq 5, 3) := dk_159 0 5 (dk_at dksL_law_99 20 rfl rfl)
theorem dL_law_2556 : decode cL_law 2556 = .ok (.iconst 0, 1) := dk_3 (dk_at dksL_law_99 23 rfl rfl)
theorem dL_law_2557 : decode cL_law 2557 = .ok (.ireturn, 1) := dk_172 (dk_at dksL_law_100 0 rfl rfl)
theorem dL_law_2558 : decode cL_law 2558 = .ok (.iload 6, 2) := dk_21 6 (dk_at dksL_law_100 1 rfl rfl)
theorem dL_law_2560 : decode cL_law 2560 = .ok (.ifCond .ne 15, 3) := dk_154 0 15 (dk_at dksL_law_100 3 rfl rfl)
theorem dL_law_2563 : decode cL_law 2563 = .ok (.aload_n 3, 1) := dk_45 (dk_at dksL_law_100 6 rfl rfl)
theorem dL_law_2564 : decode cL_law 2564 = .ok (.iconst 0, 1) := dk_3 (dk_at dksL_law_100 7 rfl rfl)
theorem dL_law_2565 : decode cL_law 2565 = .ok (.laload, 1) := dk_47 (dk_at dksL_law_100 8 rfl rfl)
theorem dL_law_2566 : decode cL_law 2566 = .ok (.iload 7, 2) := dk_21 7 (dk_at dksL_law_100 9 rfl rfl)
theorem dL_law_2568 : decode cL_law 2568 = .ok (.i2l, 1) := dk_133 (dk_at dksL_law_100 11 rfl rfl)
theorem dL_law_2569 : decode cL_law 2569 = .ok (.lcmp, 1) := dk_148 (dk_at dksL_law_100 12 rfl rfl)
theorem dL_law_2570 : decode cL_law 2570 = .ok (.ifCond .eq 5, 3) := dk_153 0 5 (dk_at dksL_law_100 13 rfl rfl)
theorem dL_law_2573 : decode cL_law 2573 = .ok (.iconst 0, 1) := dk_3 (dk_at dksL_law_100 16 rfl rfl)
theorem dL_law_2574 : decode cL_law 2574 = .ok (.ireturn, 1) := dk_172 (dk_at dksL_law_100 17 rfl rfl)
theorem dL_law_2575 : decode cL_law 2575 = .ok (.goto 173, 3) := dk_167 0 173 (dk_at dksL_law_100 18 rfl rfl)
theorem dL_law_2578 : decode cL_law 2578 = .ok (.aload_n 1, 1) := dk_43 (dk_at dksL_law_100 21 rfl rfl)
theorem dL_law_2579 : decode cL_law 2579 = .ok (.aload_n 0, 1) := dk_42 (dk_at dksL_law_100 22 rfl rfl)
theorem dL_law_2580 : decode cL_law 2580 = .ok (.iload 5, 2) := dk_21 5 (dk_at dksL_law_101 0 rfl rfl)
theorem dL_law_2582 : decode cL_law 2582 = .ok (.iconst 1, 1) := dk_4 (dk_at dksL_law_101 2 rfl rfl)
theorem dL_law_2583 : decode cL_law 2583 = .ok (.iadd, 1) := dk_96 (dk_at dksL_law_101 3 rfl rfl)
theorem dL_law_2584 : decode cL_law 2584 = .ok (.iaload, 1) := dk_46 (dk_at dksL_law_101 4 rfl rfl)
theorem dL_law_2585 : decode cL_law 2585 = .ok (.aload_n 3, 1) := dk_45 (dk_at dksL_law_101 5 rfl rfl)
theorem dL_law_2586 : decode cL_law 2586 = .ok (.invokestatic 332, 3) := dk_184 1 76 (dk_at dksL_law_101 6 rfl rfl)
theorem dL_law_2589 : decode cL_law 2589 = .ok (.istore 6, 2) := dk_54 6 (dk_at dksL_law_101 9 rfl rfl)
theorem dL_law_2591 : decode cL_law 2591 = .ok (.aload_n 2, 1) := dk_44 (dk_at dksL_law_101 11 rfl rfl)
theorem dL_law_2592 : decode cL_law 2592 = .ok (.aload_n 0, 1) := dk_42 (dk_at dksL_law_101 12 rfl rfl)
theorem dL_law_2593 : decode cL_law 2593 = .ok (.iload 5, 2) := dk_21 5 (dk_at dksL_law_101 13 rfl rfl)
theorem dL_law_2595 : decode cL_law 2595 = .ok (.iconst 1, 1) := dk_4 (dk_at dksL_law_101 15 rfl rfl)
theorem dL_law_2596 : decode cL_law 2596 = .ok (.iadd, 1) := dk_96 (dk_at dksL_law_101 16 rfl rfl)
theorem dL_law_2597 : decode cL_law 2597 = .ok (.iaload, 1) := dk_46 (dk_at dksL_law_101 17 rfl rfl)
theorem dL_law_2598 : decode cL_law 2598 = .ok (.invokevirtual 334, 3) := dk_182 1 78 (dk_at dksL_law_101 18 rfl rfl)
theorem dL_law_2601 : decode cL_law 2601 = .ok (.istore 7, 2) := dk_54 7 (dk_at dksL_law_101 21 rfl rfl)
theorem dL_law_2603 : decode cL_law 2603 = .ok (.aload_n 2, 1) := dk_44 (dk_at dksL_law_101 23 rfl rfl)
theorem dL_law_2604 : decode cL_law 2604 = .ok (.invokevirtual 158, 3) := dk_182 0 158 (dk_at dksL_law_102 0 rfl rfl)
theorem dL_law_2607 : decode cL_law 2607 = .ok (.iload 6, 2) := dk_21 6 (dk_at dksL_law_102 3 rfl rfl)
theorem dL_law_2609 : decode cL_law 2609 = .ok (.if_icmp .eq 5, 3) := dk_159 0 5 (dk_at dksL_law_102 5 rfl rfl)
theorem dL_law_2612 : decode cL_law 2612 = .ok (.iconst 0, 1) := dk_3 (dk_at dksL_law_102 8 rfl rfl)
theorem dL_law_2613 : decode cL_law 2613 = .ok (.ireturn, 1) := dk_172 (dk_at dksL_law_102 9 rfl rfl)
theorem dL_law_2614 : decode cL_law 2614 = .ok (.iload 6, 2) := dk_21 6 (dk_at dksL_law_102 10 rfl rfl)
theorem dL_law_2616 : decode cL_law 2616 = .ok (.ifCond .ne 15, 3) := dk_154 0 15 (dk_at dksL_law_102 12 rfl rfl)
theorem dL_law_2619 : decode cL_law 2619 = .ok (.aload_n 3, 1) := dk_45 (dk_at dksL_law_102 15 rfl rfl)
theorem dL_law_2620 : decode cL_law 2620 = .ok (.iconst 0, 1) := dk_3 (dk_at dksL_law_102 16 rfl rfl)
theorem dL_law_2621 : decode cL_law 2621 = .ok (.laload, 1) := dk_47 (dk_at dksL_law_102 17 rfl rfl)
theorem dL_law_2622 : decode cL_law 2622 = .ok (.iload 7, 2) := dk_21 7 (dk_at dksL_law_102 18 rfl rfl)
theorem dL_law_2624 : decode cL_law 2624 = .ok (.i2l, 1) := dk_133 (dk_at dksL_law_102 20 rfl rfl)
theorem dL_law_2625 : decode cL_law 2625 = .ok (.lcmp, 1) := dk_148 (dk_at dksL_law_102 21 rfl rfl)
theorem dL_law_2626 : decode cL_law 2626 = .ok (.ifCond .eq 5, 3) := dk_153 0 5 (dk_at dksL_law_103 0 rfl rfl)
theorem dL_law_2629 : decode cL_law 2629 = .ok (.iconst 0, 1) := dk_3 (dk_at dksL_law_103 3 rfl rfl)
theorem dL_law_2630 : decode cL_law 2630 = .ok (.ireturn, 1) := dk_172 (dk_at dksL_law_103 4 rfl rfl)
theorem dL_law_2631 : decode cL_law 2631 = .ok (.goto 117, 3) := dk_167 0 117 (dk_at dksL_law_103 5 rfl rfl)
theorem dL_law_2634 : decode cL_law 2634 = .ok (.aload_n 1, 1) := dk_43 (dk_at dksL_law_103 8 rfl rfl)
theorem dL_law_2635 : decode cL_law 2635 = .ok (.invokevirtual 335, 3) := dk_182 1 79 (dk_at dksL_law_103 9 rfl rfl)
theorem dL_law_2638 : decode cL_law 2638 = .ok (.aload_n 2, 1) := dk_44 (dk_at dksL_law_103 12 rfl rfl)
theorem dL_law_2639 : decode cL_law 2639 = .ok (.invokevirtual 338, 3) := dk_182 1 82 (dk_at dksL_law_103 13 rfl rfl)
theorem dL_law_2642 : decode cL_law 2642 = .ok (.if_icmp .eq 106, 3) := dk_159 0 106 (dk_at dksL_law_103 16 rfl rfl)
theorem dL_law_2645 : decode cL_law 2645 = .ok (.iconst 0, 1) := dk_3 (dk_at dksL_law_103 19 rfl rfl)
theorem dL_law_2646 : decode cL_law 2646 = .ok (.ireturn, 1) := dk_172 (dk_at dksL_law_103 20 rfl rfl)
theorem dL_law_2647 : decode cL_law 2647 = .ok (.aload_n 1, 1) := dk_43 (dk_at dksL_law_103 21 rfl rfl)
theorem dL_law_2648 : decode cL_law 2648 = .ok (.aload_n 3, 1) := dk_45 (dk_at dksL_law_103 22 rfl rfl)
theorem dL_law_2649 : decode cL_law 2649 = .ok (.invokestatic 339, 3) := dk_184 1 83 (dk_at dksL_law_104 0 rfl rfl)
theorem dL_law_2652 : decode cL_law 2652 = .ok (.istore 6, 2) := dk_54 6 (dk_at dksL_law_104 3 rfl rfl)
theorem dL_law_2654 : decode cL_law 2654 = .ok (.aload_n 2, 1) := dk_44 (dk_at dksL_law_104 5 rfl rfl)
theorem dL_law_2655 : decode cL_law 2655 = .ok (.invokevirtual 341, 3) := dk_182 1 85 (dk_at dksL_law_104 6 rfl rfl)
theorem dL_law_2658 : decode cL_law 2658 = .ok (.istore 7, 2) := dk_54 7 (dk_at dksL_law_104 9 rfl rfl)
theorem dL_law_2660 : decode cL_law 2660 = .ok (.aload_n 2, 1) := dk_44 (dk_at dksL_law_104 11 rfl rfl)
theorem dL_law_2661 : decode cL_law 2661 = .ok (.invokevirtual 158, 3) := dk_182 0 158 (dk_at dksL_law_104 12 rfl rfl)
theorem dL_law_2664 : decode cL_law 2664 = .ok (.iload 6, 2) := dk_21 6 (dk_at dksL_law_104 15 rfl rfl)
theorem dL_law_2666 : decode cL_law 2666 = .ok (.if_icmp .eq 5, 3) := dk_159 0 5 (dk_at dksL_law_104 17 rfl rfl)
theorem dL_law_2669 : decode cL_law 2669 = .ok (.iconst 0, 1) := dk_3 (dk_at dksL_law_104 20 rfl rfl)
theorem dL_law_2670 : decode cL_law 2670 = .ok (.ireturn, 1) := dk_172 (dk_at dksL_law_104 21 rfl rfl)
theorem dL_law_2671 : decode cL_law 2671 = .ok (.iload 6, 2) := dk_21 6 (dk_at dksL_law_104 22 rfl rfl)
theorem dL_law_2673 : decode cL_law 2673 = .ok (.ifCond .ne 15, 3) := dk_154 0 15 (dk_at dksL_law_105 0 rfl rfl)
theorem dL_law_2676 : decode cL_law 2676 = .ok (.aload_n 3, 1) := dk_45 (dk_at dksL_law_105 3 rfl rfl)
theorem dL_law_2677 : decode cL_law 2677 = .ok (.iconst 0, 1) := dk_3 (dk_at dksL_law_105 4 rfl rfl)
theorem dL_law_2678 : decode cL_law 2678 = .ok (.laload, 1) := dk_47 (dk_at dksL_law_105 5 rfl rfl)
theorem dL_law_2679 : decode cL_law 2679 = .ok (.iload 7, 2) := dk_21 7 (dk_at dksL_law_105 6 rfl rfl)
theorem dL_law_2681 : decode cL_law 2681 = .ok (.i2l, 1) := dk_133 (dk_at dksL_law_105 8 rfl rfl)
theorem dL_law_2682 : decode cL_law 2682 = .ok (.lcmp, 1) := dk_148 (dk_at dksL_law_105 9 rfl rfl)
theorem dL_law_2683 : decode cL_law 2683 = .ok (.ifCond .eq 5, 3) := dk_153 0 5 (dk_at dksL_law_105 10 rfl rfl)
theorem dL_law_2686 : decode cL_law 2686 = .ok (.iconst 0, 1) := dk_3 (dk_at dksL_law_105 13 rfl rfl)
theorem dL_law_2687 : decode cL_law 2687 = .ok (.ireturn, 1) := dk_172 (dk_at dksL_law_105 14 rfl rfl)
theorem dL_law_2688 : decode cL_law 2688 = .ok (.goto 60, 3) := dk_167 0 60 (dk_at dksL_law_105 15 rfl rfl)
theorem dL_law_2691 : decode cL_law 2691 = .ok (.aload_n 1, 1) := dk_43 (dk_at dksL_law_105 18 rfl rfl)
theorem dL_law_2692 : decode cL_law 2692 = .ok (.invokevirtual 342, 3) := dk_182 1 86 (dk_at dksL_law_105 19 rfl rfl)
theorem dL_law_2695 : decode cL_law 2695 = .ok (.aload_n 2, 1) := dk_44 (dk_at dksL_law_105 22 rfl rfl)
theorem dL_law_2696 : decode cL_law 2696 = .ok (.invokevirtual 345, 3) := dk_182 1 89 (dk_at dksL_law_106 0 rfl rfl)
theorem dL_law_2699 : decode cL_law 2699 = .ok (.if_icmp .eq 49, 3) := dk_159 0 49 (dk_at dksL_law_106 3 rfl rfl)
theorem dL_law_2702 : decode cL_law 2702 = .ok (.iconst 0, 1) := dk_3 (dk_at dksL_law_106 6 rfl rfl)
theorem dL_law_2703 : decode cL_law 2703 = .ok (.ireturn, 1) := dk_172 (dk_at dksL_law_106 7 rfl rfl)
theorem dL_law_2704 : decode cL_law 2704 = .ok (.aload_n 1, 1) := dk_43 (dk_at dksL_law_106 8 rfl rfl)
theorem dL_law_2705 : decode cL_law 2705 = .ok (.aload_n 3, 1) := dk_45 (dk_at dksL_law_106 9 rfl rfl)
theorem dL_law_2706 : decode cL_law 2706 = .ok (.invokestatic 346, 3) := dk_184 1 90 (dk_at dksL_law_106 10 rfl rfl)
theorem dL_law_2709 : decode cL_law 2709 = .ok (.istore 6, 2) := dk_54 6 (dk_at dksL_law_106 13 rfl rfl)
theorem dL_law_2711 : decode cL_law 2711 = .ok (.aload_n 2, 1) := dk_44 (dk_at dksL_law_106 15 rfl rfl)
theorem dL_law_2712 : decode cL_law 2712 = .ok (.invokevirtual 348, 3) := dk_182 1 92 (dk_at dksL_law_106 16 rfl rfl)
theorem dL_law_2715 : decode cL_law 2715 = .ok (.istore 7, 2) := dk_54 7 (dk_at dksL_law_106 19 rfl rfl)
theorem dL_law_2717 : decode cL_law 2717 = .ok (.aload_n 2, 1) := dk_44 (dk_at dksL_law_106 21 rfl rfl)
theorem dL_law_2718 : decode cL_law 2718 = .ok (.invokevirtual 158, 3) := dk_182 0 158 (dk_at dksL_law_107 0 rfl rfl)
theorem dL_law_2721 : decode cL_law 2721 = .ok (.iload 6, 2) := dk_21 6 (dk_at dksL_law_107 3 rfl rfl)
theorem dL_law_2723 : decode cL_law 2723 = .ok (.if_icmp .eq 5, 3) := dk_159 0 5 (dk_at dksL_law_107 5 rfl rfl)
theorem dL_law_2726 : decode cL_law 2726 = .ok (.iconst 0, 1) := dk_3 (dk_at dksL_law_107 8 rfl rfl)
theorem dL_law_2727 : decode cL_law 2727 = .ok (.ireturn, 1) := dk_172 (dk_at dksL_law_107 9 rfl rfl)
theorem dL_law_2728 : decode cL_law 2728 = .ok (.iload 6, 2) := dk_21 6 (dk_at dksL_law_107 10 rfl rfl)
theorem dL_law_2730 : decode cL_law 2730 = .ok (.ifCond .ne 15, 3) := dk_154 0 15 (dk_at dksL_law_107 12 rfl rfl)
theorem dL_law_2733 : decode cL_law 2733 = .ok (.aload_n 3, 1) := dk_45 (dk_at dksL_law_107 15 rfl rfl)
theorem dL_law_2734 : decode cL_law 2734 = .ok (.iconst 0, 1) := dk_3 (dk_at dksL_law_107 16 rfl rfl)
theorem dL_law_2735 : decode cL_law 2735 = .ok (.laload, 1) := dk_47 (dk_at dksL_law_107 17 rfl rfl)
theorem dL_law_2736 : decode cL_law 2736 = .ok (.iload 7, 2) := dk_21 7 (dk_at dksL_law_107 18 rfl rfl)
theorem dL_law_2738 : decode cL_law 2738 = .ok (.i2l, 1) := dk_133 (dk_at dksL_law_107 20 rfl rfl)
theorem dL_law_2739 : decode cL_law 2739 = .ok (.lcmp, 1) := dk_148 (dk_at dksL_law_107 21 rfl rfl)
theorem dL_law_2740 : decode cL_law 2740 = .ok (.ifCond .eq 5, 3) := dk_153 0 5 (dk_at dksL_law_108 0 rfl rfl)
theorem dL_law_2743 : decode cL_law 2743 = .ok (.iconst 0, 1) := dk_3 (dk_at dksL_law_108 3 rfl rfl)
theorem dL_law_2744 : decode cL_law 2744 = .ok (.ireturn, 1) := dk_172 (dk_at dksL_law_108 4 rfl rfl)
theorem dL_law_2745 : decode cL_law 2745 = .ok (.goto 3, 3) := dk_167 0 3 (dk_at dksL_law_108 5 rfl rfl)
theorem dL_law_2748 : decode cL_law 2748 = .ok (.iinc 5 4, 3) := dk_132 5 4 (dk_at dksL_law_108 8 rfl rfl)
theorem dL_law_2751 : decode cL_law 2751 = .ok (.goto (-2723), 3) := dk_167 245 93 (dk_at dksL_law_108 11 rfl rfl)
theorem dL_law_2754 : decode cL_law 2754 = .ok (.iconst 1, 1) := dk_4 (dk_at dksL_law_108 14 rfl rfl)
theorem dL_law_2755 : decode cL_law 2755 = .ok (.ireturn, 1) := dk_172 (dk_at dksL_law_108 15 rfl rfl)
