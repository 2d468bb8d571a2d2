/-! CloudInterviewsModel -/
set_option maxRecDepth 100000
def RX3 : String := "CloudInterviewsModel"
def TX3 : u_T := fun k => match k with
  | 0 => ("CloudInterviewsModel", "s", "[I", true)
  | 1 => ("CloudInterviewsModel", "before", "[I", true)
  | 2 => ("CloudInterviewsModel", "saved", "[I", true)
  | 3 => ("CloudInterviewsModel", "isSaved", "Z", false)
  | 4 => ("CloudInterviewsModel", "past", "[I", true)
  | 5 => ("CloudInterviewsModel", "pastMany", "I", false)
  | 6 => ("CloudInterviewsModel", "thrown", "I", false)
  | 7 => ("CloudInterviewsModel", "output", "[C", true)
  | 8 => ("CloudInterviewsModel", "outputMany", "I", false)
  | 9 => ("CloudInterviewsModel", "input", "[C", true)
  | 10 => ("CloudInterviewsModel", "length", "I", false)
  | 11 => ("CloudInterviewsModel", "at", "I", false)
  | 12 => ("CloudInterviewsModel", "isWrong", "Z", false)
  | 13 => ("CloudInterviewsModel", "errorAt", "I", false)
  | 14 => ("CloudInterviewsModel", "failedAt", "I", false)
  | 15 => ("CloudInterviewsModel", "commands", "[I", true)
  | _ => ("CloudInterviewsModel", "commandMany", "I", false)
def tyX3 : Nat → FieldType := fun k => match k with
  | 0 => .array .int
  | 1 => .array .int
  | 2 => .array .int
  | 3 => .boolean
  | 4 => .array .int
  | 5 => .int
  | 6 => .int
  | 7 => .array .char
  | 8 => .int
  | 9 => .array .char
  | 10 => .int
  | 11 => .int
  | 12 => .boolean
  | 13 => .int
  | 14 => .int
  | 15 => .array .int
  | _ => .int
abbrev wsX30 : List Cond := u_ws RX3 TX3 17
set_option maxRecDepth 100000 in
theorem nmX3 : ∀ a, a < 17 → ∀ b, b < 17 → a ≠ b → (TX3 a).2.1 ≠ (TX3 b).2.1 := by decide +kernel
set_option maxRecDepth 100000 in
theorem tyX3_ok : ∀ k, k < 17 → parseFieldDescriptor (TX3 k).2.2.1 = some (tyX3 k) := by decide +kernel
abbrev cX3_init : ByteArray := prog_10_method_1_code
def yX3_init : MethodName := ⟨RX3, "<init>", "()V"⟩
def dkwX3_init_3 : List UInt8 := [181, 0, 36, 177]
abbrev dktX3_init_3 : List UInt8 := dkwX3_init_3 ++ []
def dkwX3_init_2 : List UInt8 := [16, 60, 188, 5, 181, 0, 26, 42, 2, 181, 0, 29, 42, 2, 181, 0, 33, 42, 17, 1, 44, 188, 10]
abbrev dktX3_init_2 : List UInt8 := dkwX3_init_2 ++ dktX3_init_3
def dkwX3_init_1 : List UInt8 := [188, 10, 181, 0, 16, 42, 17, 2, 232, 188, 10, 181, 0, 19, 42, 16, 90, 188, 5, 181, 0, 22, 42]
abbrev dktX3_init_1 : List UInt8 := dkwX3_init_1 ++ dktX3_init_2
def dkwX3_init_0 : List UInt8 := [42, 183, 0, 3, 42, 16, 93, 188, 10, 181, 0, 9, 42, 16, 93, 188, 10, 181, 0, 13, 42, 16, 93]
abbrev dktX3_init_0 : List UInt8 := dkwX3_init_0 ++ dktX3_init_1
theorem dksX3_init_0 : cX3_init.data.toList.drop 0 = dktX3_init_0 := by decide +kernel
theorem dksX3_init_1 : cX3_init.data.toList.drop 23 = dktX3_init_1 := dk_seg dksX3_init_0 23 rfl rfl
theorem dksX3_init_2 : cX3_init.data.toList.drop 46 = dktX3_init_2 := dk_seg dksX3_init_1 23 rfl rfl
theorem dksX3_init_3 : cX3_init.data.toList.drop 69 = dktX3_init_3 := dk_seg dksX3_init_2 23 rfl rfl
theorem dX3_init_0 : decode cX3_init 0 = .ok (.aload_n 0, 1) := dk_42 (dk_at dksX3_init_0 0 rfl rfl)
theorem dX3_init_1 : decode cX3_init 1 = .ok (.invokespecial 3, 3) := dk_183 0 3 (dk_at dksX3_init_0 1 rfl rfl)
theorem dX3_init_4 : decode cX3_init 4 = .ok (.aload_n 0, 1) := dk_42 (dk_at dksX3_init_0 4 rfl rfl)
theorem dX3_init_5 : decode cX3_init 5 = .ok (.bipush 93, 2) := dk_16 93 (dk_at dksX3_init_0 5 rfl rfl)
theorem dX3_init_7 : decode cX3_init 7 = .ok (.newarray .int, 2) := dk_188_10 (dk_at dksX3_init_0 7 rfl rfl)
theorem dX3_init_9 : decode cX3_init 9 = .ok (.putfield 9, 3) := dk_181 0 9 (dk_at dksX3_init_0 9 rfl rfl)
theorem dX3_init_12 : decode cX3_init 12 = .ok (.aload_n 0, 1) := dk_42 (dk_at dksX3_init_0 12 rfl rfl)
theorem dX3_init_13 : decode cX3_init 13 = .ok (.bipush 93, 2) := dk_16 93 (dk_at dksX3_init_0 13 rfl rfl)
theorem dX3_init_15 : decode cX3_init 15 = .ok (.newarray .int, 2) := dk_188_10 (dk_at dksX3_init_0 15 rfl rfl)
theorem dX3_init_17 : decode cX3_init 17 = .ok (.putfield 13, 3) := dk_181 0 13 (dk_at dksX3_init_0 17 rfl rfl)
theorem dX3_init_20 : decode cX3_init 20 = .ok (.aload_n 0, 1) := dk_42 (dk_at dksX3_init_0 20 rfl rfl)
theorem dX3_init_21 : decode cX3_init 21 = .ok (.bipush 93, 2) := dk_16 93 (dk_at dksX3_init_0 21 rfl rfl)
theorem dX3_init_23 : decode cX3_init 23 = .ok (.newarray .int, 2) := dk_188_10 (dk_at dksX3_init_1 0 rfl rfl)
theorem dX3_init_25 : decode cX3_init 25 = .ok (.putfield 16, 3) := dk_181 0 16 (dk_at dksX3_init_1 2 rfl rfl)
theorem dX3_init_28 : decode cX3_init 28 = .ok (.aload_n 0, 1) := dk_42 (dk_at dksX3_init_1 5 rfl rfl)
theorem dX3_init_29 : decode cX3_init 29 = .ok (.sipush 744, 3) := dk_17 2 232 (dk_at dksX3_init_1 6 rfl rfl)
theorem dX3_init_32 : decode cX3_init 32 = .ok (.newarray .int, 2) := dk_188_10 (dk_at dksX3_init_1 9 rfl rfl)
theorem dX3_init_34 : decode cX3_init 34 = .ok (.putfield 19, 3) := dk_181 0 19 (dk_at dksX3_init_1 11 rfl rfl)
theorem dX3_init_37 : decode cX3_init 37 = .ok (.aload_n 0, 1) := dk_42 (dk_at dksX3_init_1 14 rfl rfl)
theorem dX3_init_38 : decode cX3_init 38 = .ok (.bipush 90, 2) := dk_16 90 (dk_at dksX3_init_1 15 rfl rfl)
theorem dX3_init_40 : decode cX3_init 40 = .ok (.newarray .char, 2) := dk_188_5 (dk_at dksX3_init_1 17 rfl rfl)
theorem dX3_init_42 : decode cX3_init 42 = .ok (.putfield 22, 3) := dk_181 0 22 (dk_at dksX3_init_1 19 rfl rfl)
theorem dX3_init_45 : decode cX3_init 45 = .ok (.aload_n 0, 1) := dk_42 (dk_at dksX3_init_1 22 rfl rfl)
theorem dX3_init_46 : decode cX3_init 46 = .ok (.bipush 60, 2) := dk_16 60 (dk_at dksX3_init_2 0 rfl rfl)
theorem dX3_init_48 : decode cX3_init 48 = .ok (.newarray .char, 2) := dk_188_5 (dk_at dksX3_init_2 2 rfl rfl)
theorem dX3_init_50 : decode cX3_init 50 = .ok (.putfield 26, 3) := dk_181 0 26 (dk_at dksX3_init_2 4 rfl rfl)
theorem dX3_init_53 : decode cX3_init 53 = .ok (.aload_n 0, 1) := dk_42 (dk_at dksX3_init_2 7 rfl rfl)
theorem dX3_init_54 : decode cX3_init 54 = .ok (.iconst (-1), 1) := dk_2 (dk_at dksX3_init_2 8 rfl rfl)
theorem dX3_init_55 : decode cX3_init 55 = .ok (.putfield 29, 3) := dk_181 0 29 (dk_at dksX3_init_2 9 rfl rfl)
theorem dX3_init_58 : decode cX3_init 58 = .ok (.aload_n 0, 1) := dk_42 (dk_at dksX3_init_2 12 rfl rfl)
theorem dX3_init_59 : decode cX3_init 59 = .ok (.iconst (-1), 1) := dk_2 (dk_at dksX3_init_2 13 rfl rfl)
theorem dX3_init_60 : decode cX3_init 60 = .ok (.putfield 33, 3) := dk_181 0 33 (dk_at dksX3_init_2 14 rfl rfl)
theorem dX3_init_63 : decode cX3_init 63 = .ok (.aload_n 0, 1) := dk_42 (dk_at dksX3_init_2 17 rfl rfl)
theorem dX3_init_64 : decode cX3_init 64 = .ok (.sipush 300, 3) := dk_17 1 44 (dk_at dksX3_init_2 18 rfl rfl)
theorem dX3_init_67 : decode cX3_init 67 = .ok (.newarray .int, 2) := dk_188_10 (dk_at dksX3_init_2 21 rfl rfl)
theorem dX3_init_69 : decode cX3_init 69 = .ok (.putfield 36, 3) := dk_181 0 36 (dk_at dksX3_init_3 0 rfl rfl)
theorem dX3_init_72 : decode cX3_init 72 = .ok (.return_, 1) := dk_177 (dk_at dksX3_init_3 3 rfl rfl)
abbrev cX3_thrown : ByteArray := prog_10_method_2_code
def yX3_thrown : MethodName := ⟨RX3, "thrown", "()I"⟩
theorem dX3_thrown_0 : decode cX3_thrown 0 = .ok (.aload_n 0, 1) := by decide +kernel
theorem dX3_thrown_1 : decode cX3_thrown 1 = .ok (.getfield 39, 3) := by decide +kernel
theorem dX3_thrown_4 : decode cX3_thrown 4 = .ok (.ireturn, 1) := by decide +kernel
abbrev cX3_addApplicant : ByteArray := prog_10_method_25_code
def yX3_addApplicant : MethodName := ⟨RX3, "addApplicant", "(CII)I"⟩
def dkwX3_addApplicant_0 : List UInt8 := [42, 182, 0, 93, 42, 42, 27, 28, 29, 182, 0, 96, 182, 0, 100, 172]
abbrev dktX3_addApplicant_0 : List UInt8 := dkwX3_addApplicant_0 ++ []
theorem dksX3_addApplicant_0 : cX3_addApplicant.data.toList.drop 0 = dktX3_addApplicant_0 := by decide +kernel
theorem dX3_addApplicant_0 : decode cX3_addApplicant 0 = .ok (.aload_n 0, 1) := dk_42 (dk_at dksX3_addApplicant_0 0 rfl rfl)
theorem dX3_addApplicant_1 : decode cX3_addApplicant 1 = .ok (.invokevirtual 93, 3) := dk_182 0 93 (dk_at dksX3_addApplicant_0 1 rfl rfl)
theorem dX3_addApplicant_4 : decode cX3_addApplicant 4 = .ok (.aload_n 0, 1) := dk_42 (dk_at dksX3_addApplicant_0 4 rfl rfl)
theorem dX3_addApplicant_5 : decode cX3_addApplicant 5 = .ok (.aload_n 0, 1) := dk_42 (dk_at dksX3_addApplicant_0 5 rfl rfl)
theorem dX3_addApplicant_6 : decode cX3_addApplicant 6 = .ok (.iload_n 1, 1) := dk_27 (dk_at dksX3_addApplicant_0 6 rfl rfl)
theorem dX3_addApplicant_7 : decode cX3_addApplicant 7 = .ok (.iload_n 2, 1) := dk_28 (dk_at dksX3_addApplicant_0 7 rfl rfl)
theorem dX3_addApplicant_8 : decode cX3_addApplicant 8 = .ok (.iload_n 3, 1) := dk_29 (dk_at dksX3_addApplicant_0 8 rfl rfl)
theorem dX3_addApplicant_9 : decode cX3_addApplicant 9 = .ok (.invokevirtual 96, 3) := dk_182 0 96 (dk_at dksX3_addApplicant_0 9 rfl rfl)
theorem dX3_addApplicant_12 : decode cX3_addApplicant 12 = .ok (.invokevirtual 100, 3) := dk_182 0 100 (dk_at dksX3_addApplicant_0 12 rfl rfl)
theorem dX3_addApplicant_15 : decode cX3_addApplicant 15 = .ok (.ireturn, 1) := dk_172 (dk_at dksX3_addApplicant_0 15 rfl rfl)
abbrev cX3_keep : ByteArray := prog_10_method_4_code
def yX3_keep : MethodName := ⟨RX3, "keep", "()V"⟩
def dkwX3_keep_0 : List UInt8 := [42, 3, 181, 0, 39, 42, 180, 0, 9, 3, 42, 180, 0, 13, 3, 16, 93, 184, 0, 42, 177]
abbrev dktX3_keep_0 : List UInt8 := dkwX3_keep_0 ++ []
theorem dksX3_keep_0 : cX3_keep.data.toList.drop 0 = dktX3_keep_0 := by decide +kernel
theorem dX3_keep_0 : decode cX3_keep 0 = .ok (.aload_n 0, 1) := dk_42 (dk_at dksX3_keep_0 0 rfl rfl)
theorem dX3_keep_1 : decode cX3_keep 1 = .ok (.iconst 0, 1) := dk_3 (dk_at dksX3_keep_0 1 rfl rfl)
theorem dX3_keep_2 : decode cX3_keep 2 = .ok (.putfield 39, 3) := dk_181 0 39 (dk_at dksX3_keep_0 2 rfl rfl)
theorem dX3_keep_5 : decode cX3_keep 5 = .ok (.aload_n 0, 1) := dk_42 (dk_at dksX3_keep_0 5 rfl rfl)
theorem dX3_keep_6 : decode cX3_keep 6 = .ok (.getfield 9, 3) := dk_180 0 9 (dk_at dksX3_keep_0 6 rfl rfl)
theorem dX3_keep_9 : decode cX3_keep 9 = .ok (.iconst 0, 1) := dk_3 (dk_at dksX3_keep_0 9 rfl rfl)
theorem dX3_keep_10 : decode cX3_keep 10 = .ok (.aload_n 0, 1) := dk_42 (dk_at dksX3_keep_0 10 rfl rfl)
theorem dX3_keep_11 : decode cX3_keep 11 = .ok (.getfield 13, 3) := dk_180 0 13 (dk_at dksX3_keep_0 11 rfl rfl)
theorem dX3_keep_14 : decode cX3_keep 14 = .ok (.iconst 0, 1) := dk_3 (dk_at dksX3_keep_0 14 rfl rfl)
theorem dX3_keep_15 : decode cX3_keep 15 = .ok (.bipush 93, 2) := dk_16 93 (dk_at dksX3_keep_0 15 rfl rfl)
theorem dX3_keep_17 : decode cX3_keep 17 = .ok (.invokestatic 42, 3) := dk_184 0 42 (dk_at dksX3_keep_0 17 rfl rfl)
theorem dX3_keep_20 : decode cX3_keep 20 = .ok (.return_, 1) := dk_177 (dk_at dksX3_keep_0 20 rfl rfl)
abbrev cX3_doAddApplicant : ByteArray := prog_10_method_24_code
def yX3_doAddApplicant : MethodName := ⟨RX3, "doAddApplicant", "(CII)I"⟩
def dkwX3_doAddApplicant_5 : List UInt8 := [8, 3, 182, 0, 89, 42, 180, 0, 9, 3, 92, 46, 4, 96, 79, 21, 5, 172]
abbrev dktX3_doAddApplicant_5 : List UInt8 := dkwX3_doAddApplicant_5 ++ []
def dkwX3_doAddApplicant_4 : List UInt8 := [5, 28, 182, 0, 89, 42, 21, 4, 6, 29, 182, 0, 89, 42, 21, 4, 7, 3, 182, 0, 89, 42, 21, 4]
abbrev dktX3_doAddApplicant_4 : List UInt8 := dkwX3_doAddApplicant_4 ++ dktX3_doAddApplicant_5
def dkwX3_doAddApplicant_3 : List UInt8 := [54, 5, 42, 21, 4, 3, 21, 5, 4, 96, 182, 0, 89, 42, 21, 4, 4, 27, 182, 0, 89, 42, 21, 4]
abbrev dktX3_doAddApplicant_3 : List UInt8 := dkwX3_doAddApplicant_3 ++ dktX3_doAddApplicant_4
def dkwX3_doAddApplicant_2 : List UInt8 := [3, 54, 4, 42, 21, 4, 182, 0, 62, 153, 0, 9, 132, 4, 1, 167, 255, 244, 42, 180, 0, 9, 3, 46]
abbrev dktX3_doAddApplicant_2 : List UInt8 := dkwX3_doAddApplicant_2 ++ dktX3_doAddApplicant_3
def dkwX3_doAddApplicant_1 : List UInt8 := [154, 0, 9, 42, 4, 182, 0, 82, 172, 42, 182, 0, 85, 16, 10, 160, 0, 9, 42, 5, 182, 0, 82, 172]
abbrev dktX3_doAddApplicant_1 : List UInt8 := dkwX3_doAddApplicant_1 ++ dktX3_doAddApplicant_2
def dkwX3_doAddApplicant_0 : List UInt8 := [27, 184, 0, 79, 153, 0, 23, 28, 3, 16, 100, 184, 0, 51, 153, 0, 13, 29, 3, 16, 50, 184, 0, 51]
abbrev dktX3_doAddApplicant_0 : List UInt8 := dkwX3_doAddApplicant_0 ++ dktX3_doAddApplicant_1
theorem dksX3_doAddApplicant_0 : cX3_doAddApplicant.data.toList.drop 0 = dktX3_doAddApplicant_0 := by decide +kernel
theorem dksX3_doAddApplicant_1 : cX3_doAddApplicant.data.toList.drop 24 = dktX3_doAddApplicant_1 := dk_seg dksX3_doAddApplicant_0 24 rfl rfl
theorem dksX3_doAddApplicant_2 : cX3_doAddApplicant.data.toList.drop 48 = dktX3_doAddApplicant_2 := dk_seg dksX3_doAddApplicant_1 24 rfl rfl
theorem dksX3_doAddApplicant_3 : cX3_doAddApplicant.data.toList.drop 72 = dktX3_doAddApplicant_3 := dk_seg dksX3_doAddApplicant_2 24 rfl rfl
theorem dksX3_doAddApplicant_4 : cX3_doAddApplicant.data.toList.drop 96 = dktX3_doAddApplicant_4 := dk_seg dksX3_doAddApplicant_3 24 rfl rfl
theorem dksX3_doAddApplicant_5 : cX3_doAddApplicant.data.toList.drop 120 = dktX3_doAddApplicant_5 := dk_seg dksX3_doAddApplicant_4 24 rfl rfl
theorem dX3_doAddApplicant_0 : decode cX3_doAddApplicant 0 = .ok (.iload_n 1, 1) := dk_27 (dk_at dksX3_doAddApplicant_0 0 rfl rfl)
theorem dX3_doAddApplicant_1 : decode cX3_doAddApplicant 1 = .ok (.invokestatic 79, 3) := dk_184 0 79 (dk_at dksX3_doAddApplicant_0 1 rfl rfl)
theorem dX3_doAddApplicant_4 : decode cX3_doAddApplicant 4 = .ok (.ifCond .eq 23, 3) := dk_153 0 23 (dk_at dksX3_doAddApplicant_0 4 rfl rfl)
theorem dX3_doAddApplicant_7 : decode cX3_doAddApplicant 7 = .ok (.iload_n 2, 1) := dk_28 (dk_at dksX3_doAddApplicant_0 7 rfl rfl)
theorem dX3_doAddApplicant_8 : decode cX3_doAddApplicant 8 = .ok (.iconst 0, 1) := dk_3 (dk_at dksX3_doAddApplicant_0 8 rfl rfl)
theorem dX3_doAddApplicant_9 : decode cX3_doAddApplicant 9 = .ok (.bipush 100, 2) := dk_16 100 (dk_at dksX3_doAddApplicant_0 9 rfl rfl)
theorem dX3_doAddApplicant_11 : decode cX3_doAddApplicant 11 = .ok (.invokestatic 51, 3) := dk_184 0 51 (dk_at dksX3_doAddApplicant_0 11 rfl rfl)
theorem dX3_doAddApplicant_14 : decode cX3_doAddApplicant 14 = .ok (.ifCond .eq 13, 3) := dk_153 0 13 (dk_at dksX3_doAddApplicant_0 14 rfl rfl)
theorem dX3_doAddApplicant_17 : decode cX3_doAddApplicant 17 = .ok (.iload_n 3, 1) := dk_29 (dk_at dksX3_doAddApplicant_0 17 rfl rfl)
theorem dX3_doAddApplicant_18 : decode cX3_doAddApplicant 18 = .ok (.iconst 0, 1) := dk_3 (dk_at dksX3_doAddApplicant_0 18 rfl rfl)
theorem dX3_doAddApplicant_19 : decode cX3_doAddApplicant 19 = .ok (.bipush 50, 2) := dk_16 50 (dk_at dksX3_doAddApplicant_0 19 rfl rfl)
theorem dX3_doAddApplicant_21 : decode cX3_doAddApplicant 21 = .ok (.invokestatic 51, 3) := dk_184 0 51 (dk_at dksX3_doAddApplicant_0 21 rfl rfl)
theorem dX3_doAddApplicant_24 : decode cX3_doAddApplicant 24 = .ok (.ifCond .ne 9, 3) := dk_154 0 9 (dk_at dksX3_doAddApplicant_1 0 rfl rfl)
theorem dX3_doAddApplicant_27 : decode cX3_doAddApplicant 27 = .ok (.aload_n 0, 1) := dk_42 (dk_at dksX3_doAddApplicant_1 3 rfl rfl)
theorem dX3_doAddApplicant_28 : decode cX3_doAddApplicant 28 = .ok (.iconst 1, 1) := dk_4 (dk_at dksX3_doAddApplicant_1 4 rfl rfl)
theorem dX3_doAddApplicant_29 : decode cX3_doAddApplicant 29 = .ok (.invokevirtual 82, 3) := dk_182 0 82 (dk_at dksX3_doAddApplicant_1 5 rfl rfl)
theorem dX3_doAddApplicant_32 : decode cX3_doAddApplicant 32 = .ok (.ireturn, 1) := dk_172 (dk_at dksX3_doAddApplicant_1 8 rfl rfl)
theorem dX3_doAddApplicant_33 : decode cX3_doAddApplicant 33 = .ok (.aload_n 0, 1) := dk_42 (dk_at dksX3_doAddApplicant_1 9 rfl rfl)
theorem dX3_doAddApplicant_34 : decode cX3_doAddApplicant 34 = .ok (.invokevirtual 85, 3) := dk_182 0 85 (dk_at dksX3_doAddApplicant_1 10 rfl rfl)
theorem dX3_doAddApplicant_37 : decode cX3_doAddApplicant 37 = .ok (.bipush 10, 2) := dk_16 10 (dk_at dksX3_doAddApplicant_1 13 rfl rfl)
theorem dX3_doAddApplicant_39 : decode cX3_doAddApplicant 39 = .ok (.if_icmp .ne 9, 3) := dk_160 0 9 (dk_at dksX3_doAddApplicant_1 15 rfl rfl)
theorem dX3_doAddApplicant_42 : decode cX3_doAddApplicant 42 = .ok (.aload_n 0, 1) := dk_42 (dk_at dksX3_doAddApplicant_1 18 rfl rfl)
theorem dX3_doAddApplicant_43 : decode cX3_doAddApplicant 43 = .ok (.iconst 2, 1) := dk_5 (dk_at dksX3_doAddApplicant_1 19 rfl rfl)
theorem dX3_doAddApplicant_44 : decode cX3_doAddApplicant 44 = .ok (.invokevirtual 82, 3) := dk_182 0 82 (dk_at dksX3_doAddApplicant_1 20 rfl rfl)
theorem dX3_doAddApplicant_47 : decode cX3_doAddApplicant 47 = .ok (.ireturn, 1) := dk_172 (dk_at dksX3_doAddApplicant_1 23 rfl rfl)
theorem dX3_doAddApplicant_48 : decode cX3_doAddApplicant 48 = .ok (.iconst 0, 1) := dk_3 (dk_at dksX3_doAddApplicant_2 0 rfl rfl)
theorem dX3_doAddApplicant_49 : decode cX3_doAddApplicant 49 = .ok (.istore 4, 2) := dk_54 4 (dk_at dksX3_doAddApplicant_2 1 rfl rfl)
theorem dX3_doAddApplicant_51 : decode cX3_doAddApplicant 51 = .ok (.aload_n 0, 1) := dk_42 (dk_at dksX3_doAddApplicant_2 3 rfl rfl)
theorem dX3_doAddApplicant_52 : decode cX3_doAddApplicant 52 = .ok (.iload 4, 2) := dk_21 4 (dk_at dksX3_doAddApplicant_2 4 rfl rfl)
theorem dX3_doAddApplicant_54 : decode cX3_doAddApplicant 54 = .ok (.invokevirtual 62, 3) := dk_182 0 62 (dk_at dksX3_doAddApplicant_2 6 rfl rfl)
theorem dX3_doAddApplicant_57 : decode cX3_doAddApplicant 57 = .ok (.ifCond .eq 9, 3) := dk_153 0 9 (dk_at dksX3_doAddApplicant_2 9 rfl rfl)
theorem dX3_doAddApplicant_60 : decode cX3_doAddApplicant 60 = .ok (.iinc 4 1, 3) := dk_132 4 1 (dk_at dksX3_doAddApplicant_2 12 rfl rfl)
theorem dX3_doAddApplicant_63 : decode cX3_doAddApplicant 63 = .ok (.goto (-12), 3) := dk_167 255 244 (dk_at dksX3_doAddApplicant_2 15 rfl rfl)
theorem dX3_doAddApplicant_66 : decode cX3_doAddApplicant 66 = .ok (.aload_n 0, 1) := dk_42 (dk_at dksX3_doAddApplicant_2 18 rfl rfl)
theorem dX3_doAddApplicant_67 : decode cX3_doAddApplicant 67 = .ok (.getfield 9, 3) := dk_180 0 9 (dk_at dksX3_doAddApplicant_2 19 rfl rfl)
theorem dX3_doAddApplicant_70 : decode cX3_doAddApplicant 70 = .ok (.iconst 0, 1) := dk_3 (dk_at dksX3_doAddApplicant_2 22 rfl rfl)
theorem dX3_doAddApplicant_71 : decode cX3_doAddApplicant 71 = .ok (.iaload, 1) := dk_46 (dk_at dksX3_doAddApplicant_2 23 rfl rfl)
theorem dX3_doAddApplicant_72 : decode cX3_doAddApplicant 72 = .ok (.istore 5, 2) := dk_54 5 (dk_at dksX3_doAddApplicant_3 0 rfl rfl)
theorem dX3_doAddApplicant_74 : decode cX3_doAddApplicant 74 = .ok (.aload_n 0, 1) := dk_42 (dk_at dksX3_doAddApplicant_3 2 rfl rfl)
theorem dX3_doAddApplicant_75 : decode cX3_doAddApplicant 75 = .ok (.iload 4, 2) := dk_21 4 (dk_at dksX3_doAddApplicant_3 3 rfl rfl)
theorem dX3_doAddApplicant_77 : decode cX3_doAddApplicant 77 = .ok (.iconst 0, 1) := dk_3 (dk_at dksX3_doAddApplicant_3 5 rfl rfl)
theorem dX3_doAddApplicant_78 : decode cX3_doAddApplicant 78 = .ok (.iload 5, 2) := dk_21 5 (dk_at dksX3_doAddApplicant_3 6 rfl rfl)
theorem dX3_doAddApplicant_80 : decode cX3_doAddApplicant 80 = .ok (.iconst 1, 1) := dk_4 (dk_at dksX3_doAddApplicant_3 8 rfl rfl)
theorem dX3_doAddApplicant_81 : decode cX3_doAddApplicant 81 = .ok (.iadd, 1) := dk_96 (dk_at dksX3_doAddApplicant_3 9 rfl rfl)
theorem dX3_doAddApplicant_82 : decode cX3_doAddApplicant 82 = .ok (.invokevirtual 89, 3) := dk_182 0 89 (dk_at dksX3_doAddApplicant_3 10 rfl rfl)
theorem dX3_doAddApplicant_85 : decode cX3_doAddApplicant 85 = .ok (.aload_n 0, 1) := dk_42 (dk_at dksX3_doAddApplicant_3 13 rfl rfl)
theorem dX3_doAddApplicant_86 : decode cX3_doAddApplicant 86 = .ok (.iload 4, 2) := dk_21 4 (dk_at dksX3_doAddApplicant_3 14 rfl rfl)
theorem dX3_doAddApplicant_88 : decode cX3_doAddApplicant 88 = .ok (.iconst 1, 1) := dk_4 (dk_at dksX3_doAddApplicant_3 16 rfl rfl)
theorem dX3_doAddApplicant_89 : decode cX3_doAddApplicant 89 = .ok (.iload_n 1, 1) := dk_27 (dk_at dksX3_doAddApplicant_3 17 rfl rfl)
theorem dX3_doAddApplicant_90 : decode cX3_doAddApplicant 90 = .ok (.invokevirtual 89, 3) := dk_182 0 89 (dk_at dksX3_doAddApplicant_3 18 rfl rfl)
theorem dX3_doAddApplicant_93 : decode cX3_doAddApplicant 93 = .ok (.aload_n 0, 1) := dk_42 (dk_at dksX3_doAddApplicant_3 21 rfl rfl)
theorem dX3_doAddApplicant_94 : decode cX3_doAddApplicant 94 = .ok (.iload 4, 2) := dk_21 4 (dk_at dksX3_doAddApplicant_3 22 rfl rfl)
theorem dX3_doAddApplicant_96 : decode cX3_doAddApplicant 96 = .ok (.iconst 2, 1) := dk_5 (dk_at dksX3_doAddApplicant_4 0 rfl rfl)
theorem dX3_doAddApplicant_97 : decode cX3_doAddApplicant 97 = .ok (.iload_n 2, 1) := dk_28 (dk_at dksX3_doAddApplicant_4 1 rfl rfl)
theorem dX3_doAddApplicant_98 : decode cX3_doAddApplicant 98 = .ok (.invokevirtual 89, 3) := dk_182 0 89 (dk_at dksX3_doAddApplicant_4 2 rfl rfl)
theorem dX3_doAddApplicant_101 : decode cX3_doAddApplicant 101 = .ok (.aload_n 0, 1) := dk_42 (dk_at dksX3_doAddApplicant_4 5 rfl rfl)
theorem dX3_doAddApplicant_102 : decode cX3_doAddApplicant 102 = .ok (.iload 4, 2) := dk_21 4 (dk_at dksX3_doAddApplicant_4 6 rfl rfl)
theorem dX3_doAddApplicant_104 : decode cX3_doAddApplicant 104 = .ok (.iconst 3, 1) := dk_6 (dk_at dksX3_doAddApplicant_4 8 rfl rfl)
theorem dX3_doAddApplicant_105 : decode cX3_doAddApplicant 105 = .ok (.iload_n 3, 1) := dk_29 (dk_at dksX3_doAddApplicant_4 9 rfl rfl)
theorem dX3_doAddApplicant_106 : decode cX3_doAddApplicant 106 = .ok (.invokevirtual 89, 3) := dk_182 0 89 (dk_at dksX3_doAddApplicant_4 10 rfl rfl)
theorem dX3_doAddApplicant_109 : decode cX3_doAddApplicant 109 = .ok (.aload_n 0, 1) := dk_42 (dk_at dksX3_doAddApplicant_4 13 rfl rfl)
theorem dX3_doAddApplicant_110 : decode cX3_doAddApplicant 110 = .ok (.iload 4, 2) := dk_21 4 (dk_at dksX3_doAddApplicant_4 14 rfl rfl)
theorem dX3_doAddApplicant_112 : decode cX3_doAddApplicant 112 = .ok (.iconst 4, 1) := dk_7 (dk_at dksX3_doAddApplicant_4 16 rfl rfl)
theorem dX3_doAddApplicant_113 : decode cX3_doAddApplicant 113 = .ok (.iconst 0, 1) := dk_3 (dk_at dksX3_doAddApplicant_4 17 rfl rfl)
theorem dX3_doAddApplicant_114 : decode cX3_doAddApplicant 114 = .ok (.invokevirtual 89, 3) := dk_182 0 89 (dk_at dksX3_doAddApplicant_4 18 rfl rfl)
theorem dX3_doAddApplicant_117 : decode cX3_doAddApplicant 117 = .ok (.aload_n 0, 1) := dk_42 (dk_at dksX3_doAddApplicant_4 21 rfl rfl)
theorem dX3_doAddApplicant_118 : decode cX3_doAddApplicant 118 = .ok (.iload 4, 2) := dk_21 4 (dk_at dksX3_doAddApplicant_4 22 rfl rfl)
theorem dX3_doAddApplicant_120 : decode cX3_doAddApplicant 120 = .ok (.iconst 5, 1) := dk_8 (dk_at dksX3_doAddApplicant_5 0 rfl rfl)
theorem dX3_doAddApplicant_121 : decode cX3_doAddApplicant 121 = .ok (.iconst 0, 1) := dk_3 (dk_at dksX3_doAddApplicant_5 1 rfl rfl)
theorem dX3_doAddApplicant_122 : decode cX3_doAddApplicant 122 = .ok (.invokevirtual 89, 3) := dk_182 0 89 (dk_at dksX3_doAddApplicant_5 2 rfl rfl)
theorem dX3_doAddApplicant_125 : decode cX3_doAddApplicant 125 = .ok (.aload_n 0, 1) := dk_42 (dk_at dksX3_doAddApplicant_5 5 rfl rfl)
theorem dX3_doAddApplicant_126 : decode cX3_doAddApplicant 126 = .ok (.getfield 9, 3) := dk_180 0 9 (dk_at dksX3_doAddApplicant_5 6 rfl rfl)
theorem dX3_doAddApplicant_129 : decode cX3_doAddApplicant 129 = .ok (.iconst 0, 1) := dk_3 (dk_at dksX3_doAddApplicant_5 9 rfl rfl)
theorem dX3_doAddApplicant_130 : decode cX3_doAddApplicant 130 = .ok (.dup2, 1) := dk_92 (dk_at dksX3_doAddApplicant_5 10 rfl rfl)
theorem dX3_doAddApplicant_131 : decode cX3_doAddApplicant 131 = .ok (.iaload, 1) := dk_46 (dk_at dksX3_doAddApplicant_5 11 rfl rfl)
theorem dX3_doAddApplicant_132 : decode cX3_doAddApplicant 132 = .ok (.iconst 1, 1) := dk_4 (dk_at dksX3_doAddApplicant_5 12 rfl rfl)
theorem dX3_doAddApplicant_133 : decode cX3_doAddApplicant 133 = .ok (.iadd, 1) := dk_96 (dk_at dksX3_doAddApplicant_5 13 rfl rfl)
theorem dX3_doAddApplicant_134 : decode cX3_doAddApplicant 134 = .ok (.iastore, 1) := dk_79 (dk_at dksX3_doAddApplicant_5 14 rfl rfl)
theorem dX3_doAddApplicant_135 : decode cX3_doAddApplicant 135 = .ok (.iload 5, 2) := dk_21 5 (dk_at dksX3_doAddApplicant_5 15 rfl rfl)
theorem dX3_doAddApplicant_137 : decode cX3_doAddApplicant 137 = .ok (.ireturn, 1) := dk_172 (dk_at dksX3_doAddApplicant_5 17 rfl rfl)
abbrev cX3_isShape : ByteArray := prog_10_method_18_code
def yX3_isShape : MethodName := ⟨RX3, "isShape", "(I)Z"⟩
def dkwX3_isShape_0 : List UInt8 := [26, 16, 99, 159, 0, 15, 26, 16, 115, 159, 0, 9, 26, 16, 110, 160, 0, 7, 4, 167, 0, 4, 3, 172]
abbrev dktX3_isShape_0 : List UInt8 := dkwX3_isShape_0 ++ []
theorem dksX3_isShape_0 : cX3_isShape.data.toList.drop 0 = dktX3_isShape_0 := by decide +kernel
theorem dX3_isShape_0 : decode cX3_isShape 0 = .ok (.iload_n 0, 1) := dk_26 (dk_at dksX3_isShape_0 0 rfl rfl)
theorem dX3_isShape_1 : decode cX3_isShape 1 = .ok (.bipush 99, 2) := dk_16 99 (dk_at dksX3_isShape_0 1 rfl rfl)
theorem dX3_isShape_3 : decode cX3_isShape 3 = .ok (.if_icmp .eq 15, 3) := dk_159 0 15 (dk_at dksX3_isShape_0 3 rfl rfl)
theorem dX3_isShape_6 : decode cX3_isShape 6 = .ok (.iload_n 0, 1) := dk_26 (dk_at dksX3_isShape_0 6 rfl rfl)
theorem dX3_isShape_7 : decode cX3_isShape 7 = .ok (.bipush 115, 2) := dk_16 115 (dk_at dksX3_isShape_0 7 rfl rfl)
theorem dX3_isShape_9 : decode cX3_isShape 9 = .ok (.if_icmp .eq 9, 3) := dk_159 0 9 (dk_at dksX3_isShape_0 9 rfl rfl)
theorem dX3_isShape_12 : decode cX3_isShape 12 = .ok (.iload_n 0, 1) := dk_26 (dk_at dksX3_isShape_0 12 rfl rfl)
theorem dX3_isShape_13 : decode cX3_isShape 13 = .ok (.bipush 110, 2) := dk_16 110 (dk_at dksX3_isShape_0 13 rfl rfl)
theorem dX3_isShape_15 : decode cX3_isShape 15 = .ok (.if_icmp .ne 7, 3) := dk_160 0 7 (dk_at dksX3_isShape_0 15 rfl rfl)
theorem dX3_isShape_18 : decode cX3_isShape 18 = .ok (.iconst 1, 1) := dk_4 (dk_at dksX3_isShape_0 18 rfl rfl)
theorem dX3_isShape_19 : decode cX3_isShape 19 = .ok (.goto 4, 3) := dk_167 0 4 (dk_at dksX3_isShape_0 19 rfl rfl)
theorem dX3_isShape_22 : decode cX3_isShape 22 = .ok (.iconst 0, 1) := dk_3 (dk_at dksX3_isShape_0 22 rfl rfl)
theorem dX3_isShape_23 : decode cX3_isShape 23 = .ok (.ireturn, 1) := dk_172 (dk_at dksX3_isShape_0 23 rfl rfl)
abbrev cX3_in : ByteArray := prog_10_method_3_code
def yX3_in : MethodName := ⟨RX3, "in", "(III)Z"⟩
def dkwX3_in_0 : List UInt8 := [26, 27, 161, 0, 12, 26, 28, 163, 0, 7, 4, 167, 0, 4, 3, 172]
abbrev dktX3_in_0 : List UInt8 := dkwX3_in_0 ++ []
theorem dksX3_in_0 : cX3_in.data.toList.drop 0 = dktX3_in_0 := by decide +kernel
theorem dX3_in_0 : decode cX3_in 0 = .ok (.iload_n 0, 1) := dk_26 (dk_at dksX3_in_0 0 rfl rfl)
theorem dX3_in_1 : decode cX3_in 1 = .ok (.iload_n 1, 1) := dk_27 (dk_at dksX3_in_0 1 rfl rfl)
theorem dX3_in_2 : decode cX3_in 2 = .ok (.if_icmp .lt 12, 3) := dk_161 0 12 (dk_at dksX3_in_0 2 rfl rfl)
theorem dX3_in_5 : decode cX3_in 5 = .ok (.iload_n 0, 1) := dk_26 (dk_at dksX3_in_0 5 rfl rfl)
theorem dX3_in_6 : decode cX3_in 6 = .ok (.iload_n 2, 1) := dk_28 (dk_at dksX3_in_0 6 rfl rfl)
theorem dX3_in_7 : decode cX3_in 7 = .ok (.if_icmp .gt 7, 3) := dk_163 0 7 (dk_at dksX3_in_0 7 rfl rfl)
theorem dX3_in_10 : decode cX3_in 10 = .ok (.iconst 1, 1) := dk_4 (dk_at dksX3_in_0 10 rfl rfl)
theorem dX3_in_11 : decode cX3_in 11 = .ok (.goto 4, 3) := dk_167 0 4 (dk_at dksX3_in_0 11 rfl rfl)
theorem dX3_in_14 : decode cX3_in 14 = .ok (.iconst 0, 1) := dk_3 (dk_at dksX3_in_0 14 rfl rfl)
theorem dX3_in_15 : decode cX3_in 15 = .ok (.ireturn, 1) := dk_172 (dk_at dksX3_in_0 15 rfl rfl)
abbrev cX3_fails : ByteArray := prog_10_method_6_code
def yX3_fails : MethodName := ⟨RX3, "fails", "(I)I"⟩
def dkwX3_fails_0 : List UInt8 := [42, 27, 181, 0, 39, 3, 172]
abbrev dktX3_fails_0 : List UInt8 := dkwX3_fails_0 ++ []
theorem dksX3_fails_0 : cX3_fails.data.toList.drop 0 = dktX3_fails_0 := by decide +kernel
theorem dX3_fails_0 : decode cX3_fails 0 = .ok (.aload_n 0, 1) := dk_42 (dk_at dksX3_fails_0 0 rfl rfl)
theorem dX3_fails_1 : decode cX3_fails 1 = .ok (.iload_n 1, 1) := dk_27 (dk_at dksX3_fails_0 1 rfl rfl)
theorem dX3_fails_2 : decode cX3_fails 2 = .ok (.putfield 39, 3) := dk_181 0 39 (dk_at dksX3_fails_0 2 rfl rfl)
theorem dX3_fails_5 : decode cX3_fails 5 = .ok (.iconst 0, 1) := dk_3 (dk_at dksX3_fails_0 5 rfl rfl)
theorem dX3_fails_6 : decode cX3_fails 6 = .ok (.ireturn, 1) := dk_172 (dk_at dksX3_fails_0 6 rfl rfl)
abbrev cX3_applicants : ByteArray := prog_10_method_17_code
def yX3_applicants : MethodName := ⟨RX3, "applicants", "()I"⟩
def dkwX3_applicants_1 : List UInt8 := [96, 60, 132, 2, 1, 167, 255, 231, 27, 172]
abbrev dktX3_applicants_1 : List UInt8 := dkwX3_applicants_1 ++ []
def dkwX3_applicants_0 : List UInt8 := [3, 60, 3, 61, 28, 16, 10, 162, 0, 25, 27, 42, 28, 182, 0, 62, 153, 0, 7, 4, 167, 0, 4, 3]
abbrev dktX3_applicants_0 : List UInt8 := dkwX3_applicants_0 ++ dktX3_applicants_1
theorem dksX3_applicants_0 : cX3_applicants.data.toList.drop 0 = dktX3_applicants_0 := by decide +kernel
theorem dksX3_applicants_1 : cX3_applicants.data.toList.drop 24 = dktX3_applicants_1 := dk_seg dksX3_applicants_0 24 rfl rfl
theorem dX3_applicants_0 : decode cX3_applicants 0 = .ok (.iconst 0, 1) := dk_3 (dk_at dksX3_applicants_0 0 rfl rfl)
theorem dX3_applicants_1 : decode cX3_applicants 1 = .ok (.istore_n 1, 1) := dk_60 (dk_at dksX3_applicants_0 1 rfl rfl)
theorem dX3_applicants_2 : decode cX3_applicants 2 = .ok (.iconst 0, 1) := dk_3 (dk_at dksX3_applicants_0 2 rfl rfl)
theorem dX3_applicants_3 : decode cX3_applicants 3 = .ok (.istore_n 2, 1) := dk_61 (dk_at dksX3_applicants_0 3 rfl rfl)
theorem dX3_applicants_4 : decode cX3_applicants 4 = .ok (.iload_n 2, 1) := dk_28 (dk_at dksX3_applicants_0 4 rfl rfl)
theorem dX3_applicants_5 : decode cX3_applicants 5 = .ok (.bipush 10, 2) := dk_16 10 (dk_at dksX3_applicants_0 5 rfl rfl)
theorem dX3_applicants_7 : decode cX3_applicants 7 = .ok (.if_icmp .ge 25, 3) := dk_162 0 25 (dk_at dksX3_applicants_0 7 rfl rfl)
theorem dX3_applicants_10 : decode cX3_applicants 10 = .ok (.iload_n 1, 1) := dk_27 (dk_at dksX3_applicants_0 10 rfl rfl)
theorem dX3_applicants_11 : decode cX3_applicants 11 = .ok (.aload_n 0, 1) := dk_42 (dk_at dksX3_applicants_0 11 rfl rfl)
theorem dX3_applicants_12 : decode cX3_applicants 12 = .ok (.iload_n 2, 1) := dk_28 (dk_at dksX3_applicants_0 12 rfl rfl)
theorem dX3_applicants_13 : decode cX3_applicants 13 = .ok (.invokevirtual 62, 3) := dk_182 0 62 (dk_at dksX3_applicants_0 13 rfl rfl)
theorem dX3_applicants_16 : decode cX3_applicants 16 = .ok (.ifCond .eq 7, 3) := dk_153 0 7 (dk_at dksX3_applicants_0 16 rfl rfl)
theorem dX3_applicants_19 : decode cX3_applicants 19 = .ok (.iconst 1, 1) := dk_4 (dk_at dksX3_applicants_0 19 rfl rfl)
theorem dX3_applicants_20 : decode cX3_applicants 20 = .ok (.goto 4, 3) := dk_167 0 4 (dk_at dksX3_applicants_0 20 rfl rfl)
theorem dX3_applicants_23 : decode cX3_applicants 23 = .ok (.iconst 0, 1) := dk_3 (dk_at dksX3_applicants_0 23 rfl rfl)
theorem dX3_applicants_24 : decode cX3_applicants 24 = .ok (.iadd, 1) := dk_96 (dk_at dksX3_applicants_1 0 rfl rfl)
theorem dX3_applicants_25 : decode cX3_applicants 25 = .ok (.istore_n 1, 1) := dk_60 (dk_at dksX3_applicants_1 1 rfl rfl)
theorem dX3_applicants_26 : decode cX3_applicants 26 = .ok (.iinc 2 1, 3) := dk_132 2 1 (dk_at dksX3_applicants_1 2 rfl rfl)
theorem dX3_applicants_29 : decode cX3_applicants 29 = .ok (.goto (-25), 3) := dk_167 255 231 (dk_at dksX3_applicants_1 5 rfl rfl)
theorem dX3_applicants_32 : decode cX3_applicants 32 = .ok (.iload_n 1, 1) := dk_27 (dk_at dksX3_applicants_1 8 rfl rfl)
theorem dX3_applicants_33 : decode cX3_applicants 33 = .ok (.ireturn, 1) := dk_172 (dk_at dksX3_applicants_1 9 rfl rfl)
abbrev cX3_isUsed : ByteArray := prog_10_method_12_code
def yX3_isUsed : MethodName := ⟨RX3, "isUsed", "(I)Z"⟩
def dkwX3_isUsed_0 : List UInt8 := [42, 27, 3, 182, 0, 55, 158, 0, 7, 4, 167, 0, 4, 3, 172]
abbrev dktX3_isUsed_0 : List UInt8 := dkwX3_isUsed_0 ++ []
theorem dksX3_isUsed_0 : cX3_isUsed.data.toList.drop 0 = dktX3_isUsed_0 := by decide +kernel
theorem dX3_isUsed_0 : decode cX3_isUsed 0 = .ok (.aload_n 0, 1) := dk_42 (dk_at dksX3_isUsed_0 0 rfl rfl)
theorem dX3_isUsed_1 : decode cX3_isUsed 1 = .ok (.iload_n 1, 1) := dk_27 (dk_at dksX3_isUsed_0 1 rfl rfl)
theorem dX3_isUsed_2 : decode cX3_isUsed 2 = .ok (.iconst 0, 1) := dk_3 (dk_at dksX3_isUsed_0 2 rfl rfl)
theorem dX3_isUsed_3 : decode cX3_isUsed 3 = .ok (.invokevirtual 55, 3) := dk_182 0 55 (dk_at dksX3_isUsed_0 3 rfl rfl)
theorem dX3_isUsed_6 : decode cX3_isUsed 6 = .ok (.ifCond .le 7, 3) := dk_158 0 7 (dk_at dksX3_isUsed_0 6 rfl rfl)
theorem dX3_isUsed_9 : decode cX3_isUsed 9 = .ok (.iconst 1, 1) := dk_4 (dk_at dksX3_isUsed_0 9 rfl rfl)
theorem dX3_isUsed_10 : decode cX3_isUsed 10 = .ok (.goto 4, 3) := dk_167 0 4 (dk_at dksX3_isUsed_0 10 rfl rfl)
theorem dX3_isUsed_13 : decode cX3_isUsed 13 = .ok (.iconst 0, 1) := dk_3 (dk_at dksX3_isUsed_0 13 rfl rfl)
theorem dX3_isUsed_14 : decode cX3_isUsed 14 = .ok (.ireturn, 1) := dk_172 (dk_at dksX3_isUsed_0 14 rfl rfl)
abbrev cX3_of : ByteArray := prog_10_method_8_code
def yX3_of : MethodName := ⟨RX3, "of", "(II)I"⟩
def dkwX3_of_0 : List UInt8 := [42, 180, 0, 9, 6, 16, 6, 27, 104, 96, 28, 96, 46, 172]
abbrev dktX3_of_0 : List UInt8 := dkwX3_of_0 ++ []
theorem dksX3_of_0 : cX3_of.data.toList.drop 0 = dktX3_of_0 := by decide +kernel
theorem dX3_of_0 : decode cX3_of 0 = .ok (.aload_n 0, 1) := dk_42 (dk_at dksX3_of_0 0 rfl rfl)
theorem dX3_of_1 : decode cX3_of 1 = .ok (.getfield 9, 3) := dk_180 0 9 (dk_at dksX3_of_0 1 rfl rfl)
theorem dX3_of_4 : decode cX3_of 4 = .ok (.iconst 3, 1) := dk_6 (dk_at dksX3_of_0 4 rfl rfl)
theorem dX3_of_5 : decode cX3_of 5 = .ok (.bipush 6, 2) := dk_16 6 (dk_at dksX3_of_0 5 rfl rfl)
theorem dX3_of_7 : decode cX3_of 7 = .ok (.iload_n 1, 1) := dk_27 (dk_at dksX3_of_0 7 rfl rfl)
theorem dX3_of_8 : decode cX3_of 8 = .ok (.imul, 1) := dk_104 (dk_at dksX3_of_0 8 rfl rfl)
theorem dX3_of_9 : decode cX3_of 9 = .ok (.iadd, 1) := dk_96 (dk_at dksX3_of_0 9 rfl rfl)
theorem dX3_of_10 : decode cX3_of 10 = .ok (.iload_n 2, 1) := dk_28 (dk_at dksX3_of_0 10 rfl rfl)
theorem dX3_of_11 : decode cX3_of 11 = .ok (.iadd, 1) := dk_96 (dk_at dksX3_of_0 11 rfl rfl)
theorem dX3_of_12 : decode cX3_of 12 = .ok (.iaload, 1) := dk_46 (dk_at dksX3_of_0 12 rfl rfl)
theorem dX3_of_13 : decode cX3_of 13 = .ok (.ireturn, 1) := dk_172 (dk_at dksX3_of_0 13 rfl rfl)
abbrev cX3_sets : ByteArray := prog_10_method_9_code
def yX3_sets : MethodName := ⟨RX3, "sets", "(III)V"⟩
def dkwX3_sets_0 : List UInt8 := [42, 180, 0, 9, 6, 16, 6, 27, 104, 96, 28, 96, 29, 79, 177]
abbrev dktX3_sets_0 : List UInt8 := dkwX3_sets_0 ++ []
theorem dksX3_sets_0 : cX3_sets.data.toList.drop 0 = dktX3_sets_0 := by decide +kernel
theorem dX3_sets_0 : decode cX3_sets 0 = .ok (.aload_n 0, 1) := dk_42 (dk_at dksX3_sets_0 0 rfl rfl)
theorem dX3_sets_1 : decode cX3_sets 1 = .ok (.getfield 9, 3) := dk_180 0 9 (dk_at dksX3_sets_0 1 rfl rfl)
theorem dX3_sets_4 : decode cX3_sets 4 = .ok (.iconst 3, 1) := dk_6 (dk_at dksX3_sets_0 4 rfl rfl)
theorem dX3_sets_5 : decode cX3_sets 5 = .ok (.bipush 6, 2) := dk_16 6 (dk_at dksX3_sets_0 5 rfl rfl)
theorem dX3_sets_7 : decode cX3_sets 7 = .ok (.iload_n 1, 1) := dk_27 (dk_at dksX3_sets_0 7 rfl rfl)
theorem dX3_sets_8 : decode cX3_sets 8 = .ok (.imul, 1) := dk_104 (dk_at dksX3_sets_0 8 rfl rfl)
theorem dX3_sets_9 : decode cX3_sets 9 = .ok (.iadd, 1) := dk_96 (dk_at dksX3_sets_0 9 rfl rfl)
theorem dX3_sets_10 : decode cX3_sets 10 = .ok (.iload_n 2, 1) := dk_28 (dk_at dksX3_sets_0 10 rfl rfl)
theorem dX3_sets_11 : decode cX3_sets 11 = .ok (.iadd, 1) := dk_96 (dk_at dksX3_sets_0 11 rfl rfl)
theorem dX3_sets_12 : decode cX3_sets 12 = .ok (.iload_n 3, 1) := dk_29 (dk_at dksX3_sets_0 12 rfl rfl)
theorem dX3_sets_13 : decode cX3_sets 13 = .ok (.iastore, 1) := dk_79 (dk_at dksX3_sets_0 13 rfl rfl)
theorem dX3_sets_14 : decode cX3_sets 14 = .ok (.return_, 1) := dk_177 (dk_at dksX3_sets_0 14 rfl rfl)
abbrev cX3_ends : ByteArray := prog_10_method_5_code
def yX3_ends : MethodName := ⟨RX3, "ends", "(I)I"⟩
def dkwX3_ends_3 : List UInt8 := [42, 180, 0, 48, 104, 16, 93, 184, 0, 42, 42, 89, 180, 0, 48, 4, 96, 181, 0, 48, 27, 172]
abbrev dktX3_ends_3 : List UInt8 := dkwX3_ends_3 ++ []
def dkwX3_ends_2 : List UInt8 := [184, 0, 42, 42, 89, 180, 0, 48, 4, 100, 181, 0, 48, 42, 180, 0, 13, 3, 42, 180, 0, 19, 16, 93]
abbrev dktX3_ends_2 : List UInt8 := dkwX3_ends_2 ++ dktX3_ends_3
def dkwX3_ends_1 : List UInt8 := [42, 180, 0, 48, 16, 8, 160, 0, 30, 42, 180, 0, 19, 16, 93, 42, 180, 0, 19, 3, 17, 2, 139]
abbrev dktX3_ends_1 : List UInt8 := dkwX3_ends_1 ++ dktX3_ends_2
def dkwX3_ends_0 : List UInt8 := [42, 180, 0, 39, 158, 0, 20, 42, 180, 0, 13, 3, 42, 180, 0, 9, 3, 16, 93, 184, 0, 42, 3, 172]
abbrev dktX3_ends_0 : List UInt8 := dkwX3_ends_0 ++ dktX3_ends_1
theorem dksX3_ends_0 : cX3_ends.data.toList.drop 0 = dktX3_ends_0 := by decide +kernel
theorem dksX3_ends_1 : cX3_ends.data.toList.drop 24 = dktX3_ends_1 := dk_seg dksX3_ends_0 24 rfl rfl
theorem dksX3_ends_2 : cX3_ends.data.toList.drop 47 = dktX3_ends_2 := dk_seg dksX3_ends_1 23 rfl rfl
theorem dksX3_ends_3 : cX3_ends.data.toList.drop 71 = dktX3_ends_3 := dk_seg dksX3_ends_2 24 rfl rfl
theorem dX3_ends_0 : decode cX3_ends 0 = .ok (.aload_n 0, 1) := dk_42 (dk_at dksX3_ends_0 0 rfl rfl)
theorem dX3_ends_1 : decode cX3_ends 1 = .ok (.getfield 39, 3) := dk_180 0 39 (dk_at dksX3_ends_0 1 rfl rfl)
theorem dX3_ends_4 : decode cX3_ends 4 = .ok (.ifCond .le 20, 3) := dk_158 0 20 (dk_at dksX3_ends_0 4 rfl rfl)
theorem dX3_ends_7 : decode cX3_ends 7 = .ok (.aload_n 0, 1) := dk_42 (dk_at dksX3_ends_0 7 rfl rfl)
theorem dX3_ends_8 : decode cX3_ends 8 = .ok (.getfield 13, 3) := dk_180 0 13 (dk_at dksX3_ends_0 8 rfl rfl)
theorem dX3_ends_11 : decode cX3_ends 11 = .ok (.iconst 0, 1) := dk_3 (dk_at dksX3_ends_0 11 rfl rfl)
theorem dX3_ends_12 : decode cX3_ends 12 = .ok (.aload_n 0, 1) := dk_42 (dk_at dksX3_ends_0 12 rfl rfl)
theorem dX3_ends_13 : decode cX3_ends 13 = .ok (.getfield 9, 3) := dk_180 0 9 (dk_at dksX3_ends_0 13 rfl rfl)
theorem dX3_ends_16 : decode cX3_ends 16 = .ok (.iconst 0, 1) := dk_3 (dk_at dksX3_ends_0 16 rfl rfl)
theorem dX3_ends_17 : decode cX3_ends 17 = .ok (.bipush 93, 2) := dk_16 93 (dk_at dksX3_ends_0 17 rfl rfl)
theorem dX3_ends_19 : decode cX3_ends 19 = .ok (.invokestatic 42, 3) := dk_184 0 42 (dk_at dksX3_ends_0 19 rfl rfl)
theorem dX3_ends_22 : decode cX3_ends 22 = .ok (.iconst 0, 1) := dk_3 (dk_at dksX3_ends_0 22 rfl rfl)
theorem dX3_ends_23 : decode cX3_ends 23 = .ok (.ireturn, 1) := dk_172 (dk_at dksX3_ends_0 23 rfl rfl)
theorem dX3_ends_24 : decode cX3_ends 24 = .ok (.aload_n 0, 1) := dk_42 (dk_at dksX3_ends_1 0 rfl rfl)
theorem dX3_ends_25 : decode cX3_ends 25 = .ok (.getfield 48, 3) := dk_180 0 48 (dk_at dksX3_ends_1 1 rfl rfl)
theorem dX3_ends_28 : decode cX3_ends 28 = .ok (.bipush 8, 2) := dk_16 8 (dk_at dksX3_ends_1 4 rfl rfl)
theorem dX3_ends_30 : decode cX3_ends 30 = .ok (.if_icmp .ne 30, 3) := dk_160 0 30 (dk_at dksX3_ends_1 6 rfl rfl)
theorem dX3_ends_33 : decode cX3_ends 33 = .ok (.aload_n 0, 1) := dk_42 (dk_at dksX3_ends_1 9 rfl rfl)
theorem dX3_ends_34 : decode cX3_ends 34 = .ok (.getfield 19, 3) := dk_180 0 19 (dk_at dksX3_ends_1 10 rfl rfl)
theorem dX3_ends_37 : decode cX3_ends 37 = .ok (.bipush 93, 2) := dk_16 93 (dk_at dksX3_ends_1 13 rfl rfl)
theorem dX3_ends_39 : decode cX3_ends 39 = .ok (.aload_n 0, 1) := dk_42 (dk_at dksX3_ends_1 15 rfl rfl)
theorem dX3_ends_40 : decode cX3_ends 40 = .ok (.getfield 19, 3) := dk_180 0 19 (dk_at dksX3_ends_1 16 rfl rfl)
theorem dX3_ends_43 : decode cX3_ends 43 = .ok (.iconst 0, 1) := dk_3 (dk_at dksX3_ends_1 19 rfl rfl)
theorem dX3_ends_44 : decode cX3_ends 44 = .ok (.sipush 651, 3) := dk_17 2 139 (dk_at dksX3_ends_1 20 rfl rfl)
theorem dX3_ends_47 : decode cX3_ends 47 = .ok (.invokestatic 42, 3) := dk_184 0 42 (dk_at dksX3_ends_2 0 rfl rfl)
theorem dX3_ends_50 : decode cX3_ends 50 = .ok (.aload_n 0, 1) := dk_42 (dk_at dksX3_ends_2 3 rfl rfl)
theorem dX3_ends_51 : decode cX3_ends 51 = .ok (.dup, 1) := dk_89 (dk_at dksX3_ends_2 4 rfl rfl)
theorem dX3_ends_52 : decode cX3_ends 52 = .ok (.getfield 48, 3) := dk_180 0 48 (dk_at dksX3_ends_2 5 rfl rfl)
theorem dX3_ends_55 : decode cX3_ends 55 = .ok (.iconst 1, 1) := dk_4 (dk_at dksX3_ends_2 8 rfl rfl)
theorem dX3_ends_56 : decode cX3_ends 56 = .ok (.isub, 1) := dk_100 (dk_at dksX3_ends_2 9 rfl rfl)
theorem dX3_ends_57 : decode cX3_ends 57 = .ok (.putfield 48, 3) := dk_181 0 48 (dk_at dksX3_ends_2 10 rfl rfl)
theorem dX3_ends_60 : decode cX3_ends 60 = .ok (.aload_n 0, 1) := dk_42 (dk_at dksX3_ends_2 13 rfl rfl)
theorem dX3_ends_61 : decode cX3_ends 61 = .ok (.getfield 13, 3) := dk_180 0 13 (dk_at dksX3_ends_2 14 rfl rfl)
theorem dX3_ends_64 : decode cX3_ends 64 = .ok (.iconst 0, 1) := dk_3 (dk_at dksX3_ends_2 17 rfl rfl)
theorem dX3_ends_65 : decode cX3_ends 65 = .ok (.aload_n 0, 1) := dk_42 (dk_at dksX3_ends_2 18 rfl rfl)
theorem dX3_ends_66 : decode cX3_ends 66 = .ok (.getfield 19, 3) := dk_180 0 19 (dk_at dksX3_ends_2 19 rfl rfl)
theorem dX3_ends_69 : decode cX3_ends 69 = .ok (.bipush 93, 2) := dk_16 93 (dk_at dksX3_ends_2 22 rfl rfl)
theorem dX3_ends_71 : decode cX3_ends 71 = .ok (.aload_n 0, 1) := dk_42 (dk_at dksX3_ends_3 0 rfl rfl)
theorem dX3_ends_72 : decode cX3_ends 72 = .ok (.getfield 48, 3) := dk_180 0 48 (dk_at dksX3_ends_3 1 rfl rfl)
theorem dX3_ends_75 : decode cX3_ends 75 = .ok (.imul, 1) := dk_104 (dk_at dksX3_ends_3 4 rfl rfl)
theorem dX3_ends_76 : decode cX3_ends 76 = .ok (.bipush 93, 2) := dk_16 93 (dk_at dksX3_ends_3 5 rfl rfl)
theorem dX3_ends_78 : decode cX3_ends 78 = .ok (.invokestatic 42, 3) := dk_184 0 42 (dk_at dksX3_ends_3 7 rfl rfl)
theorem dX3_ends_81 : decode cX3_ends 81 = .ok (.aload_n 0, 1) := dk_42 (dk_at dksX3_ends_3 10 rfl rfl)
theorem dX3_ends_82 : decode cX3_ends 82 = .ok (.dup, 1) := dk_89 (dk_at dksX3_ends_3 11 rfl rfl)
theorem dX3_ends_83 : decode cX3_ends 83 = .ok (.getfield 48, 3) := dk_180 0 48 (dk_at dksX3_ends_3 12 rfl rfl)
theorem dX3_ends_86 : decode cX3_ends 86 = .ok (.iconst 1, 1) := dk_4 (dk_at dksX3_ends_3 15 rfl rfl)
theorem dX3_ends_87 : decode cX3_ends 87 = .ok (.iadd, 1) := dk_96 (dk_at dksX3_ends_3 16 rfl rfl)
theorem dX3_ends_88 : decode cX3_ends 88 = .ok (.putfield 48, 3) := dk_181 0 48 (dk_at dksX3_ends_3 17 rfl rfl)
theorem dX3_ends_91 : decode cX3_ends 91 = .ok (.iload_n 1, 1) := dk_27 (dk_at dksX3_ends_3 20 rfl rfl)
theorem dX3_ends_92 : decode cX3_ends 92 = .ok (.ireturn, 1) := dk_172 (dk_at dksX3_ends_3 21 rfl rfl)
abbrev cX3_removeApplicant : ByteArray := prog_10_method_28_code
def yX3_removeApplicant : MethodName := ⟨RX3, "removeApplicant", "(I)I"⟩
def dkwX3_removeApplicant_0 : List UInt8 := [42, 182, 0, 93, 42, 42, 27, 182, 0, 110, 182, 0, 100, 172]
abbrev dktX3_removeApplicant_0 : List UInt8 := dkwX3_removeApplicant_0 ++ []
theorem dksX3_removeApplicant_0 : cX3_removeApplicant.data.toList.drop 0 = dktX3_removeApplicant_0 := by decide +kernel
theorem dX3_removeApplicant_0 : decode cX3_removeApplicant 0 = .ok (.aload_n 0, 1) := dk_42 (dk_at dksX3_removeApplicant_0 0 rfl rfl)
theorem dX3_removeApplicant_1 : decode cX3_removeApplicant 1 = .ok (.invokevirtual 93, 3) := dk_182 0 93 (dk_at dksX3_removeApplicant_0 1 rfl rfl)
theorem dX3_removeApplicant_4 : decode cX3_removeApplicant 4 = .ok (.aload_n 0, 1) := dk_42 (dk_at dksX3_removeApplicant_0 4 rfl rfl)
theorem dX3_removeApplicant_5 : decode cX3_removeApplicant 5 = .ok (.aload_n 0, 1) := dk_42 (dk_at dksX3_removeApplicant_0 5 rfl rfl)
theorem dX3_removeApplicant_6 : decode cX3_removeApplicant 6 = .ok (.iload_n 1, 1) := dk_27 (dk_at dksX3_removeApplicant_0 6 rfl rfl)
theorem dX3_removeApplicant_7 : decode cX3_removeApplicant 7 = .ok (.invokevirtual 110, 3) := dk_182 0 110 (dk_at dksX3_removeApplicant_0 7 rfl rfl)
theorem dX3_removeApplicant_10 : decode cX3_removeApplicant 10 = .ok (.invokevirtual 100, 3) := dk_182 0 100 (dk_at dksX3_removeApplicant_0 10 rfl rfl)
theorem dX3_removeApplicant_13 : decode cX3_removeApplicant 13 = .ok (.ireturn, 1) := dk_172 (dk_at dksX3_removeApplicant_0 13 rfl rfl)
abbrev cX3_doRemoveApplicant : ByteArray := prog_10_method_27_code
def yX3_doRemoveApplicant : MethodName := ⟨RX3, "doRemoveApplicant", "(I)I"⟩
def dkwX3_doRemoveApplicant_1 : List UInt8 := [28, 182, 0, 106, 29, 172]
abbrev dktX3_doRemoveApplicant_1 : List UInt8 := dkwX3_doRemoveApplicant_1 ++ []
def dkwX3_doRemoveApplicant_0 : List UInt8 := [42, 27, 182, 0, 103, 61, 28, 156, 0, 9, 42, 4, 182, 0, 82, 172, 42, 28, 7, 182, 0, 55, 62, 42]
abbrev dktX3_doRemoveApplicant_0 : List UInt8 := dkwX3_doRemoveApplicant_0 ++ dktX3_doRemoveApplicant_1
theorem dksX3_doRemoveApplicant_0 : cX3_doRemoveApplicant.data.toList.drop 0 = dktX3_doRemoveApplicant_0 := by decide +kernel
theorem dksX3_doRemoveApplicant_1 : cX3_doRemoveApplicant.data.toList.drop 24 = dktX3_doRemoveApplicant_1 := dk_seg dksX3_doRemoveApplicant_0 24 rfl rfl
theorem dX3_doRemoveApplicant_0 : decode cX3_doRemoveApplicant 0 = .ok (.aload_n 0, 1) := dk_42 (dk_at dksX3_doRemoveApplicant_0 0 rfl rfl)
theorem dX3_doRemoveApplicant_1 : decode cX3_doRemoveApplicant 1 = .ok (.iload_n 1, 1) := dk_27 (dk_at dksX3_doRemoveApplicant_0 1 rfl rfl)
theorem dX3_doRemoveApplicant_2 : decode cX3_doRemoveApplicant 2 = .ok (.invokevirtual 103, 3) := dk_182 0 103 (dk_at dksX3_doRemoveApplicant_0 2 rfl rfl)
theorem dX3_doRemoveApplicant_5 : decode cX3_doRemoveApplicant 5 = .ok (.istore_n 2, 1) := dk_61 (dk_at dksX3_doRemoveApplicant_0 5 rfl rfl)
theorem dX3_doRemoveApplicant_6 : decode cX3_doRemoveApplicant 6 = .ok (.iload_n 2, 1) := dk_28 (dk_at dksX3_doRemoveApplicant_0 6 rfl rfl)
theorem dX3_doRemoveApplicant_7 : decode cX3_doRemoveApplicant 7 = .ok (.ifCond .ge 9, 3) := dk_156 0 9 (dk_at dksX3_doRemoveApplicant_0 7 rfl rfl)
theorem dX3_doRemoveApplicant_10 : decode cX3_doRemoveApplicant 10 = .ok (.aload_n 0, 1) := dk_42 (dk_at dksX3_doRemoveApplicant_0 10 rfl rfl)
theorem dX3_doRemoveApplicant_11 : decode cX3_doRemoveApplicant 11 = .ok (.iconst 1, 1) := dk_4 (dk_at dksX3_doRemoveApplicant_0 11 rfl rfl)
theorem dX3_doRemoveApplicant_12 : decode cX3_doRemoveApplicant 12 = .ok (.invokevirtual 82, 3) := dk_182 0 82 (dk_at dksX3_doRemoveApplicant_0 12 rfl rfl)
theorem dX3_doRemoveApplicant_15 : decode cX3_doRemoveApplicant 15 = .ok (.ireturn, 1) := dk_172 (dk_at dksX3_doRemoveApplicant_0 15 rfl rfl)
theorem dX3_doRemoveApplicant_16 : decode cX3_doRemoveApplicant 16 = .ok (.aload_n 0, 1) := dk_42 (dk_at dksX3_doRemoveApplicant_0 16 rfl rfl)
theorem dX3_doRemoveApplicant_17 : decode cX3_doRemoveApplicant 17 = .ok (.iload_n 2, 1) := dk_28 (dk_at dksX3_doRemoveApplicant_0 17 rfl rfl)
theorem dX3_doRemoveApplicant_18 : decode cX3_doRemoveApplicant 18 = .ok (.iconst 4, 1) := dk_7 (dk_at dksX3_doRemoveApplicant_0 18 rfl rfl)
theorem dX3_doRemoveApplicant_19 : decode cX3_doRemoveApplicant 19 = .ok (.invokevirtual 55, 3) := dk_182 0 55 (dk_at dksX3_doRemoveApplicant_0 19 rfl rfl)
theorem dX3_doRemoveApplicant_22 : decode cX3_doRemoveApplicant 22 = .ok (.istore_n 3, 1) := dk_62 (dk_at dksX3_doRemoveApplicant_0 22 rfl rfl)
theorem dX3_doRemoveApplicant_23 : decode cX3_doRemoveApplicant 23 = .ok (.aload_n 0, 1) := dk_42 (dk_at dksX3_doRemoveApplicant_0 23 rfl rfl)
theorem dX3_doRemoveApplicant_24 : decode cX3_doRemoveApplicant 24 = .ok (.iload_n 2, 1) := dk_28 (dk_at dksX3_doRemoveApplicant_1 0 rfl rfl)
theorem dX3_doRemoveApplicant_25 : decode cX3_doRemoveApplicant 25 = .ok (.invokevirtual 106, 3) := dk_182 0 106 (dk_at dksX3_doRemoveApplicant_1 1 rfl rfl)
theorem dX3_doRemoveApplicant_28 : decode cX3_doRemoveApplicant 28 = .ok (.iload_n 3, 1) := dk_29 (dk_at dksX3_doRemoveApplicant_1 4 rfl rfl)
theorem dX3_doRemoveApplicant_29 : decode cX3_doRemoveApplicant 29 = .ok (.ireturn, 1) := dk_172 (dk_at dksX3_doRemoveApplicant_1 5 rfl rfl)
abbrev cX3_slotOf : ByteArray := prog_10_method_13_code
def yX3_slotOf : MethodName := ⟨RX3, "slotOf", "(I)I"⟩
def dkwX3_slotOf_1 : List UInt8 := [160, 0, 7, 29, 167, 0, 4, 28, 61, 132, 3, 1, 167, 255, 225, 28, 172]
abbrev dktX3_slotOf_1 : List UInt8 := dkwX3_slotOf_1 ++ []
def dkwX3_slotOf_0 : List UInt8 := [2, 61, 3, 62, 29, 16, 10, 162, 0, 31, 27, 155, 0, 19, 42, 29, 3, 182, 0, 55, 27, 4, 96]
abbrev dktX3_slotOf_0 : List UInt8 := dkwX3_slotOf_0 ++ dktX3_slotOf_1
theorem dksX3_slotOf_0 : cX3_slotOf.data.toList.drop 0 = dktX3_slotOf_0 := by decide +kernel
theorem dksX3_slotOf_1 : cX3_slotOf.data.toList.drop 23 = dktX3_slotOf_1 := dk_seg dksX3_slotOf_0 23 rfl rfl
theorem dX3_slotOf_0 : decode cX3_slotOf 0 = .ok (.iconst (-1), 1) := dk_2 (dk_at dksX3_slotOf_0 0 rfl rfl)
theorem dX3_slotOf_1 : decode cX3_slotOf 1 = .ok (.istore_n 2, 1) := dk_61 (dk_at dksX3_slotOf_0 1 rfl rfl)
theorem dX3_slotOf_2 : decode cX3_slotOf 2 = .ok (.iconst 0, 1) := dk_3 (dk_at dksX3_slotOf_0 2 rfl rfl)
theorem dX3_slotOf_3 : decode cX3_slotOf 3 = .ok (.istore_n 3, 1) := dk_62 (dk_at dksX3_slotOf_0 3 rfl rfl)
theorem dX3_slotOf_4 : decode cX3_slotOf 4 = .ok (.iload_n 3, 1) := dk_29 (dk_at dksX3_slotOf_0 4 rfl rfl)
theorem dX3_slotOf_5 : decode cX3_slotOf 5 = .ok (.bipush 10, 2) := dk_16 10 (dk_at dksX3_slotOf_0 5 rfl rfl)
theorem dX3_slotOf_7 : decode cX3_slotOf 7 = .ok (.if_icmp .ge 31, 3) := dk_162 0 31 (dk_at dksX3_slotOf_0 7 rfl rfl)
theorem dX3_slotOf_10 : decode cX3_slotOf 10 = .ok (.iload_n 1, 1) := dk_27 (dk_at dksX3_slotOf_0 10 rfl rfl)
theorem dX3_slotOf_11 : decode cX3_slotOf 11 = .ok (.ifCond .lt 19, 3) := dk_155 0 19 (dk_at dksX3_slotOf_0 11 rfl rfl)
theorem dX3_slotOf_14 : decode cX3_slotOf 14 = .ok (.aload_n 0, 1) := dk_42 (dk_at dksX3_slotOf_0 14 rfl rfl)
theorem dX3_slotOf_15 : decode cX3_slotOf 15 = .ok (.iload_n 3, 1) := dk_29 (dk_at dksX3_slotOf_0 15 rfl rfl)
theorem dX3_slotOf_16 : decode cX3_slotOf 16 = .ok (.iconst 0, 1) := dk_3 (dk_at dksX3_slotOf_0 16 rfl rfl)
theorem dX3_slotOf_17 : decode cX3_slotOf 17 = .ok (.invokevirtual 55, 3) := dk_182 0 55 (dk_at dksX3_slotOf_0 17 rfl rfl)
theorem dX3_slotOf_20 : decode cX3_slotOf 20 = .ok (.iload_n 1, 1) := dk_27 (dk_at dksX3_slotOf_0 20 rfl rfl)
theorem dX3_slotOf_21 : decode cX3_slotOf 21 = .ok (.iconst 1, 1) := dk_4 (dk_at dksX3_slotOf_0 21 rfl rfl)
theorem dX3_slotOf_22 : decode cX3_slotOf 22 = .ok (.iadd, 1) := dk_96 (dk_at dksX3_slotOf_0 22 rfl rfl)
theorem dX3_slotOf_23 : decode cX3_slotOf 23 = .ok (.if_icmp .ne 7, 3) := dk_160 0 7 (dk_at dksX3_slotOf_1 0 rfl rfl)
theorem dX3_slotOf_26 : decode cX3_slotOf 26 = .ok (.iload_n 3, 1) := dk_29 (dk_at dksX3_slotOf_1 3 rfl rfl)
theorem dX3_slotOf_27 : decode cX3_slotOf 27 = .ok (.goto 4, 3) := dk_167 0 4 (dk_at dksX3_slotOf_1 4 rfl rfl)
theorem dX3_slotOf_30 : decode cX3_slotOf 30 = .ok (.iload_n 2, 1) := dk_28 (dk_at dksX3_slotOf_1 7 rfl rfl)
theorem dX3_slotOf_31 : decode cX3_slotOf 31 = .ok (.istore_n 2, 1) := dk_61 (dk_at dksX3_slotOf_1 8 rfl rfl)
theorem dX3_slotOf_32 : decode cX3_slotOf 32 = .ok (.iinc 3 1, 3) := dk_132 3 1 (dk_at dksX3_slotOf_1 9 rfl rfl)
theorem dX3_slotOf_35 : decode cX3_slotOf 35 = .ok (.goto (-31), 3) := dk_167 255 225 (dk_at dksX3_slotOf_1 12 rfl rfl)
theorem dX3_slotOf_38 : decode cX3_slotOf 38 = .ok (.iload_n 2, 1) := dk_28 (dk_at dksX3_slotOf_1 15 rfl rfl)
theorem dX3_slotOf_39 : decode cX3_slotOf 39 = .ok (.ireturn, 1) := dk_172 (dk_at dksX3_slotOf_1 16 rfl rfl)
abbrev cX3_goes : ByteArray := prog_10_method_26_code
def yX3_goes : MethodName := ⟨RX3, "goes", "(I)V"⟩
def dkwX3_goes_3 : List UInt8 := [132, 3, 1, 167, 255, 240, 177]
abbrev dktX3_goes_3 : List UInt8 := dkwX3_goes_3 ++ []
def dkwX3_goes_2 : List UInt8 := [182, 0, 89, 132, 3, 1, 167, 255, 229, 3, 62, 29, 16, 6, 162, 0, 16, 42, 27, 29, 3, 182, 0, 89]
abbrev dktX3_goes_2 : List UInt8 := dkwX3_goes_2 ++ dktX3_goes_3
def dkwX3_goes_1 : List UInt8 := [3, 62, 29, 16, 10, 162, 0, 27, 42, 29, 8, 42, 29, 8, 182, 0, 55, 4, 27, 120, 2, 130, 126]
abbrev dktX3_goes_1 : List UInt8 := dkwX3_goes_1 ++ dktX3_goes_2
def dkwX3_goes_0 : List UInt8 := [42, 27, 182, 0, 66, 61, 28, 155, 0, 17, 42, 180, 0, 9, 16, 63, 8, 28, 104, 96, 7, 96, 3, 79]
abbrev dktX3_goes_0 : List UInt8 := dkwX3_goes_0 ++ dktX3_goes_1
theorem dksX3_goes_0 : cX3_goes.data.toList.drop 0 = dktX3_goes_0 := by decide +kernel
theorem dksX3_goes_1 : cX3_goes.data.toList.drop 24 = dktX3_goes_1 := dk_seg dksX3_goes_0 24 rfl rfl
theorem dksX3_goes_2 : cX3_goes.data.toList.drop 47 = dktX3_goes_2 := dk_seg dksX3_goes_1 23 rfl rfl
theorem dksX3_goes_3 : cX3_goes.data.toList.drop 71 = dktX3_goes_3 := dk_seg dksX3_goes_2 24 rfl rfl
theorem dX3_goes_0 : decode cX3_goes 0 = .ok (.aload_n 0, 1) := dk_42 (dk_at dksX3_goes_0 0 rfl rfl)
theorem dX3_goes_1 : decode cX3_goes 1 = .ok (.iload_n 1, 1) := dk_27 (dk_at dksX3_goes_0 1 rfl rfl)
theorem dX3_goes_2 : decode cX3_goes 2 = .ok (.invokevirtual 66, 3) := dk_182 0 66 (dk_at dksX3_goes_0 2 rfl rfl)
theorem dX3_goes_5 : decode cX3_goes 5 = .ok (.istore_n 2, 1) := dk_61 (dk_at dksX3_goes_0 5 rfl rfl)
theorem dX3_goes_6 : decode cX3_goes 6 = .ok (.iload_n 2, 1) := dk_28 (dk_at dksX3_goes_0 6 rfl rfl)
theorem dX3_goes_7 : decode cX3_goes 7 = .ok (.ifCond .lt 17, 3) := dk_155 0 17 (dk_at dksX3_goes_0 7 rfl rfl)
theorem dX3_goes_10 : decode cX3_goes 10 = .ok (.aload_n 0, 1) := dk_42 (dk_at dksX3_goes_0 10 rfl rfl)
theorem dX3_goes_11 : decode cX3_goes 11 = .ok (.getfield 9, 3) := dk_180 0 9 (dk_at dksX3_goes_0 11 rfl rfl)
theorem dX3_goes_14 : decode cX3_goes 14 = .ok (.bipush 63, 2) := dk_16 63 (dk_at dksX3_goes_0 14 rfl rfl)
theorem dX3_goes_16 : decode cX3_goes 16 = .ok (.iconst 5, 1) := dk_8 (dk_at dksX3_goes_0 16 rfl rfl)
theorem dX3_goes_17 : decode cX3_goes 17 = .ok (.iload_n 2, 1) := dk_28 (dk_at dksX3_goes_0 17 rfl rfl)
theorem dX3_goes_18 : decode cX3_goes 18 = .ok (.imul, 1) := dk_104 (dk_at dksX3_goes_0 18 rfl rfl)
theorem dX3_goes_19 : decode cX3_goes 19 = .ok (.iadd, 1) := dk_96 (dk_at dksX3_goes_0 19 rfl rfl)
theorem dX3_goes_20 : decode cX3_goes 20 = .ok (.iconst 4, 1) := dk_7 (dk_at dksX3_goes_0 20 rfl rfl)
theorem dX3_goes_21 : decode cX3_goes 21 = .ok (.iadd, 1) := dk_96 (dk_at dksX3_goes_0 21 rfl rfl)
theorem dX3_goes_22 : decode cX3_goes 22 = .ok (.iconst 0, 1) := dk_3 (dk_at dksX3_goes_0 22 rfl rfl)
theorem dX3_goes_23 : decode cX3_goes 23 = .ok (.iastore, 1) := dk_79 (dk_at dksX3_goes_0 23 rfl rfl)
theorem dX3_goes_24 : decode cX3_goes 24 = .ok (.iconst 0, 1) := dk_3 (dk_at dksX3_goes_1 0 rfl rfl)
theorem dX3_goes_25 : decode cX3_goes 25 = .ok (.istore_n 3, 1) := dk_62 (dk_at dksX3_goes_1 1 rfl rfl)
theorem dX3_goes_26 : decode cX3_goes 26 = .ok (.iload_n 3, 1) := dk_29 (dk_at dksX3_goes_1 2 rfl rfl)
theorem dX3_goes_27 : decode cX3_goes 27 = .ok (.bipush 10, 2) := dk_16 10 (dk_at dksX3_goes_1 3 rfl rfl)
theorem dX3_goes_29 : decode cX3_goes 29 = .ok (.if_icmp .ge 27, 3) := dk_162 0 27 (dk_at dksX3_goes_1 5 rfl rfl)
theorem dX3_goes_32 : decode cX3_goes 32 = .ok (.aload_n 0, 1) := dk_42 (dk_at dksX3_goes_1 8 rfl rfl)
theorem dX3_goes_33 : decode cX3_goes 33 = .ok (.iload_n 3, 1) := dk_29 (dk_at dksX3_goes_1 9 rfl rfl)
theorem dX3_goes_34 : decode cX3_goes 34 = .ok (.iconst 5, 1) := dk_8 (dk_at dksX3_goes_1 10 rfl rfl)
theorem dX3_goes_35 : decode cX3_goes 35 = .ok (.aload_n 0, 1) := dk_42 (dk_at dksX3_goes_1 11 rfl rfl)
theorem dX3_goes_36 : decode cX3_goes 36 = .ok (.iload_n 3, 1) := dk_29 (dk_at dksX3_goes_1 12 rfl rfl)
theorem dX3_goes_37 : decode cX3_goes 37 = .ok (.iconst 5, 1) := dk_8 (dk_at dksX3_goes_1 13 rfl rfl)
theorem dX3_goes_38 : decode cX3_goes 38 = .ok (.invokevirtual 55, 3) := dk_182 0 55 (dk_at dksX3_goes_1 14 rfl rfl)
theorem dX3_goes_41 : decode cX3_goes 41 = .ok (.iconst 1, 1) := dk_4 (dk_at dksX3_goes_1 17 rfl rfl)
theorem dX3_goes_42 : decode cX3_goes 42 = .ok (.iload_n 1, 1) := dk_27 (dk_at dksX3_goes_1 18 rfl rfl)
theorem dX3_goes_43 : decode cX3_goes 43 = .ok (.ishl, 1) := dk_120 (dk_at dksX3_goes_1 19 rfl rfl)
theorem dX3_goes_44 : decode cX3_goes 44 = .ok (.iconst (-1), 1) := dk_2 (dk_at dksX3_goes_1 20 rfl rfl)
theorem dX3_goes_45 : decode cX3_goes 45 = .ok (.ixor, 1) := dk_130 (dk_at dksX3_goes_1 21 rfl rfl)
theorem dX3_goes_46 : decode cX3_goes 46 = .ok (.iand, 1) := dk_126 (dk_at dksX3_goes_1 22 rfl rfl)
theorem dX3_goes_47 : decode cX3_goes 47 = .ok (.invokevirtual 89, 3) := dk_182 0 89 (dk_at dksX3_goes_2 0 rfl rfl)
theorem dX3_goes_50 : decode cX3_goes 50 = .ok (.iinc 3 1, 3) := dk_132 3 1 (dk_at dksX3_goes_2 3 rfl rfl)
theorem dX3_goes_53 : decode cX3_goes 53 = .ok (.goto (-27), 3) := dk_167 255 229 (dk_at dksX3_goes_2 6 rfl rfl)
theorem dX3_goes_56 : decode cX3_goes 56 = .ok (.iconst 0, 1) := dk_3 (dk_at dksX3_goes_2 9 rfl rfl)
theorem dX3_goes_57 : decode cX3_goes 57 = .ok (.istore_n 3, 1) := dk_62 (dk_at dksX3_goes_2 10 rfl rfl)
theorem dX3_goes_58 : decode cX3_goes 58 = .ok (.iload_n 3, 1) := dk_29 (dk_at dksX3_goes_2 11 rfl rfl)
theorem dX3_goes_59 : decode cX3_goes 59 = .ok (.bipush 6, 2) := dk_16 6 (dk_at dksX3_goes_2 12 rfl rfl)
theorem dX3_goes_61 : decode cX3_goes 61 = .ok (.if_icmp .ge 16, 3) := dk_162 0 16 (dk_at dksX3_goes_2 14 rfl rfl)
theorem dX3_goes_64 : decode cX3_goes 64 = .ok (.aload_n 0, 1) := dk_42 (dk_at dksX3_goes_2 17 rfl rfl)
theorem dX3_goes_65 : decode cX3_goes 65 = .ok (.iload_n 1, 1) := dk_27 (dk_at dksX3_goes_2 18 rfl rfl)
theorem dX3_goes_66 : decode cX3_goes 66 = .ok (.iload_n 3, 1) := dk_29 (dk_at dksX3_goes_2 19 rfl rfl)
theorem dX3_goes_67 : decode cX3_goes 67 = .ok (.iconst 0, 1) := dk_3 (dk_at dksX3_goes_2 20 rfl rfl)
theorem dX3_goes_68 : decode cX3_goes 68 = .ok (.invokevirtual 89, 3) := dk_182 0 89 (dk_at dksX3_goes_2 21 rfl rfl)
theorem dX3_goes_71 : decode cX3_goes 71 = .ok (.iinc 3 1, 3) := dk_132 3 1 (dk_at dksX3_goes_3 0 rfl rfl)
theorem dX3_goes_74 : decode cX3_goes 74 = .ok (.goto (-16), 3) := dk_167 255 240 (dk_at dksX3_goes_3 3 rfl rfl)
theorem dX3_goes_77 : decode cX3_goes 77 = .ok (.return_, 1) := dk_177 (dk_at dksX3_goes_3 6 rfl rfl)
abbrev cX3_filledWith : ByteArray := prog_10_method_15_code
def yX3_filledWith : MethodName := ⟨RX3, "filledWith", "(I)I"⟩
def dkwX3_filledWith_1 : List UInt8 := [160, 0, 7, 29, 167, 0, 4, 28, 61, 132, 3, 1, 167, 255, 225, 28, 172]
abbrev dktX3_filledWith_1 : List UInt8 := dkwX3_filledWith_1 ++ []
def dkwX3_filledWith_0 : List UInt8 := [2, 61, 3, 62, 29, 42, 180, 0, 9, 5, 46, 162, 0, 27, 42, 29, 7, 182, 0, 59, 27, 4, 96]
abbrev dktX3_filledWith_0 : List UInt8 := dkwX3_filledWith_0 ++ dktX3_filledWith_1
theorem dksX3_filledWith_0 : cX3_filledWith.data.toList.drop 0 = dktX3_filledWith_0 := by decide +kernel
theorem dksX3_filledWith_1 : cX3_filledWith.data.toList.drop 23 = dktX3_filledWith_1 := dk_seg dksX3_filledWith_0 23 rfl rfl
theorem dX3_filledWith_0 : decode cX3_filledWith 0 = .ok (.iconst (-1), 1) := dk_2 (dk_at dksX3_filledWith_0 0 rfl rfl)
theorem dX3_filledWith_1 : decode cX3_filledWith 1 = .ok (.istore_n 2, 1) := dk_61 (dk_at dksX3_filledWith_0 1 rfl rfl)
theorem dX3_filledWith_2 : decode cX3_filledWith 2 = .ok (.iconst 0, 1) := dk_3 (dk_at dksX3_filledWith_0 2 rfl rfl)
theorem dX3_filledWith_3 : decode cX3_filledWith 3 = .ok (.istore_n 3, 1) := dk_62 (dk_at dksX3_filledWith_0 3 rfl rfl)
theorem dX3_filledWith_4 : decode cX3_filledWith 4 = .ok (.iload_n 3, 1) := dk_29 (dk_at dksX3_filledWith_0 4 rfl rfl)
theorem dX3_filledWith_5 : decode cX3_filledWith 5 = .ok (.aload_n 0, 1) := dk_42 (dk_at dksX3_filledWith_0 5 rfl rfl)
theorem dX3_filledWith_6 : decode cX3_filledWith 6 = .ok (.getfield 9, 3) := dk_180 0 9 (dk_at dksX3_filledWith_0 6 rfl rfl)
theorem dX3_filledWith_9 : decode cX3_filledWith 9 = .ok (.iconst 2, 1) := dk_5 (dk_at dksX3_filledWith_0 9 rfl rfl)
theorem dX3_filledWith_10 : decode cX3_filledWith 10 = .ok (.iaload, 1) := dk_46 (dk_at dksX3_filledWith_0 10 rfl rfl)
theorem dX3_filledWith_11 : decode cX3_filledWith 11 = .ok (.if_icmp .ge 27, 3) := dk_162 0 27 (dk_at dksX3_filledWith_0 11 rfl rfl)
theorem dX3_filledWith_14 : decode cX3_filledWith 14 = .ok (.aload_n 0, 1) := dk_42 (dk_at dksX3_filledWith_0 14 rfl rfl)
theorem dX3_filledWith_15 : decode cX3_filledWith 15 = .ok (.iload_n 3, 1) := dk_29 (dk_at dksX3_filledWith_0 15 rfl rfl)
theorem dX3_filledWith_16 : decode cX3_filledWith 16 = .ok (.iconst 4, 1) := dk_7 (dk_at dksX3_filledWith_0 16 rfl rfl)
theorem dX3_filledWith_17 : decode cX3_filledWith 17 = .ok (.invokevirtual 59, 3) := dk_182 0 59 (dk_at dksX3_filledWith_0 17 rfl rfl)
theorem dX3_filledWith_20 : decode cX3_filledWith 20 = .ok (.iload_n 1, 1) := dk_27 (dk_at dksX3_filledWith_0 20 rfl rfl)
theorem dX3_filledWith_21 : decode cX3_filledWith 21 = .ok (.iconst 1, 1) := dk_4 (dk_at dksX3_filledWith_0 21 rfl rfl)
theorem dX3_filledWith_22 : decode cX3_filledWith 22 = .ok (.iadd, 1) := dk_96 (dk_at dksX3_filledWith_0 22 rfl rfl)
theorem dX3_filledWith_23 : decode cX3_filledWith 23 = .ok (.if_icmp .ne 7, 3) := dk_160 0 7 (dk_at dksX3_filledWith_1 0 rfl rfl)
theorem dX3_filledWith_26 : decode cX3_filledWith 26 = .ok (.iload_n 3, 1) := dk_29 (dk_at dksX3_filledWith_1 3 rfl rfl)
theorem dX3_filledWith_27 : decode cX3_filledWith 27 = .ok (.goto 4, 3) := dk_167 0 4 (dk_at dksX3_filledWith_1 4 rfl rfl)
theorem dX3_filledWith_30 : decode cX3_filledWith 30 = .ok (.iload_n 2, 1) := dk_28 (dk_at dksX3_filledWith_1 7 rfl rfl)
theorem dX3_filledWith_31 : decode cX3_filledWith 31 = .ok (.istore_n 2, 1) := dk_61 (dk_at dksX3_filledWith_1 8 rfl rfl)
theorem dX3_filledWith_32 : decode cX3_filledWith 32 = .ok (.iinc 3 1, 3) := dk_132 3 1 (dk_at dksX3_filledWith_1 9 rfl rfl)
theorem dX3_filledWith_35 : decode cX3_filledWith 35 = .ok (.goto (-31), 3) := dk_167 255 225 (dk_at dksX3_filledWith_1 12 rfl rfl)
theorem dX3_filledWith_38 : decode cX3_filledWith 38 = .ok (.iload_n 2, 1) := dk_28 (dk_at dksX3_filledWith_1 15 rfl rfl)
theorem dX3_filledWith_39 : decode cX3_filledWith 39 = .ok (.ireturn, 1) := dk_172 (dk_at dksX3_filledWith_1 16 rfl rfl)
abbrev cX3_ofPost : ByteArray := prog_10_method_10_code
def yX3_ofPost : MethodName := ⟨RX3, "ofPost", "(II)I"⟩
def dkwX3_ofPost_0 : List UInt8 := [42, 180, 0, 9, 16, 63, 8, 27, 104, 96, 28, 96, 46, 172]
abbrev dktX3_ofPost_0 : List UInt8 := dkwX3_ofPost_0 ++ []
theorem dksX3_ofPost_0 : cX3_ofPost.data.toList.drop 0 = dktX3_ofPost_0 := by decide +kernel
theorem dX3_ofPost_0 : decode cX3_ofPost 0 = .ok (.aload_n 0, 1) := dk_42 (dk_at dksX3_ofPost_0 0 rfl rfl)
theorem dX3_ofPost_1 : decode cX3_ofPost 1 = .ok (.getfield 9, 3) := dk_180 0 9 (dk_at dksX3_ofPost_0 1 rfl rfl)
theorem dX3_ofPost_4 : decode cX3_ofPost 4 = .ok (.bipush 63, 2) := dk_16 63 (dk_at dksX3_ofPost_0 4 rfl rfl)
theorem dX3_ofPost_6 : decode cX3_ofPost 6 = .ok (.iconst 5, 1) := dk_8 (dk_at dksX3_ofPost_0 6 rfl rfl)
theorem dX3_ofPost_7 : decode cX3_ofPost 7 = .ok (.iload_n 1, 1) := dk_27 (dk_at dksX3_ofPost_0 7 rfl rfl)
theorem dX3_ofPost_8 : decode cX3_ofPost 8 = .ok (.imul, 1) := dk_104 (dk_at dksX3_ofPost_0 8 rfl rfl)
theorem dX3_ofPost_9 : decode cX3_ofPost 9 = .ok (.iadd, 1) := dk_96 (dk_at dksX3_ofPost_0 9 rfl rfl)
theorem dX3_ofPost_10 : decode cX3_ofPost 10 = .ok (.iload_n 2, 1) := dk_28 (dk_at dksX3_ofPost_0 10 rfl rfl)
theorem dX3_ofPost_11 : decode cX3_ofPost 11 = .ok (.iadd, 1) := dk_96 (dk_at dksX3_ofPost_0 11 rfl rfl)
theorem dX3_ofPost_12 : decode cX3_ofPost 12 = .ok (.iaload, 1) := dk_46 (dk_at dksX3_ofPost_0 12 rfl rfl)
theorem dX3_ofPost_13 : decode cX3_ofPost 13 = .ok (.ireturn, 1) := dk_172 (dk_at dksX3_ofPost_0 13 rfl rfl)
abbrev cX3_rejectRainy : ByteArray := prog_10_method_30_code
def yX3_rejectRainy : MethodName := ⟨RX3, "rejectRainy", "(I)I"⟩
def dkwX3_rejectRainy_0 : List UInt8 := [42, 182, 0, 93, 42, 42, 27, 182, 0, 116, 182, 0, 100, 172]
abbrev dktX3_rejectRainy_0 : List UInt8 := dkwX3_rejectRainy_0 ++ []
theorem dksX3_rejectRainy_0 : cX3_rejectRainy.data.toList.drop 0 = dktX3_rejectRainy_0 := by decide +kernel
theorem dX3_rejectRainy_0 : decode cX3_rejectRainy 0 = .ok (.aload_n 0, 1) := dk_42 (dk_at dksX3_rejectRainy_0 0 rfl rfl)
theorem dX3_rejectRainy_1 : decode cX3_rejectRainy 1 = .ok (.invokevirtual 93, 3) := dk_182 0 93 (dk_at dksX3_rejectRainy_0 1 rfl rfl)
theorem dX3_rejectRainy_4 : decode cX3_rejectRainy 4 = .ok (.aload_n 0, 1) := dk_42 (dk_at dksX3_rejectRainy_0 4 rfl rfl)
theorem dX3_rejectRainy_5 : decode cX3_rejectRainy 5 = .ok (.aload_n 0, 1) := dk_42 (dk_at dksX3_rejectRainy_0 5 rfl rfl)
theorem dX3_rejectRainy_6 : decode cX3_rejectRainy 6 = .ok (.iload_n 1, 1) := dk_27 (dk_at dksX3_rejectRainy_0 6 rfl rfl)
theorem dX3_rejectRainy_7 : decode cX3_rejectRainy 7 = .ok (.invokevirtual 116, 3) := dk_182 0 116 (dk_at dksX3_rejectRainy_0 7 rfl rfl)
theorem dX3_rejectRainy_10 : decode cX3_rejectRainy 10 = .ok (.invokevirtual 100, 3) := dk_182 0 100 (dk_at dksX3_rejectRainy_0 10 rfl rfl)
theorem dX3_rejectRainy_13 : decode cX3_rejectRainy 13 = .ok (.ireturn, 1) := dk_172 (dk_at dksX3_rejectRainy_0 13 rfl rfl)
abbrev cX3_doRejectRainy : ByteArray := prog_10_method_29_code
def yX3_doRejectRainy : MethodName := ⟨RX3, "doRejectRainy", "(I)I"⟩
def dkwX3_doRejectRainy_2 : List UInt8 := [182, 0, 106, 132, 2, 1, 132, 3, 1, 167, 255, 221, 28, 172]
abbrev dktX3_doRejectRainy_2 : List UInt8 := dkwX3_doRejectRainy_2 ++ []
def dkwX3_doRejectRainy_1 : List UInt8 := [162, 0, 35, 42, 29, 182, 0, 113, 153, 0, 21, 42, 29, 6, 182, 0, 55, 27, 164, 0, 11, 42, 29]
abbrev dktX3_doRejectRainy_1 : List UInt8 := dkwX3_doRejectRainy_1 ++ dktX3_doRejectRainy_2
def dkwX3_doRejectRainy_0 : List UInt8 := [27, 3, 16, 50, 184, 0, 51, 154, 0, 9, 42, 4, 182, 0, 82, 172, 3, 61, 3, 62, 29, 16, 10]
abbrev dktX3_doRejectRainy_0 : List UInt8 := dkwX3_doRejectRainy_0 ++ dktX3_doRejectRainy_1
theorem dksX3_doRejectRainy_0 : cX3_doRejectRainy.data.toList.drop 0 = dktX3_doRejectRainy_0 := by decide +kernel
theorem dksX3_doRejectRainy_1 : cX3_doRejectRainy.data.toList.drop 23 = dktX3_doRejectRainy_1 := dk_seg dksX3_doRejectRainy_0 23 rfl rfl
theorem dksX3_doRejectRainy_2 : cX3_doRejectRainy.data.toList.drop 46 = dktX3_doRejectRainy_2 := dk_seg dksX3_doRejectRainy_1 23 rfl rfl
theorem dX3_doRejectRainy_0 : decode cX3_doRejectRainy 0 = .ok (.iload_n 1, 1) := dk_27 (dk_at dksX3_doRejectRainy_0 0 rfl rfl)
theorem dX3_doRejectRainy_1 : decode cX3_doRejectRainy 1 = .ok (.iconst 0, 1) := dk_3 (dk_at dksX3_doRejectRainy_0 1 rfl rfl)
theorem dX3_doRejectRainy_2 : decode cX3_doRejectRainy 2 = .ok (.bipush 50, 2) := dk_16 50 (dk_at dksX3_doRejectRainy_0 2 rfl rfl)
theorem dX3_doRejectRainy_4 : decode cX3_doRejectRainy 4 = .ok (.invokestatic 51, 3) := dk_184 0 51 (dk_at dksX3_doRejectRainy_0 4 rfl rfl)
theorem dX3_doRejectRainy_7 : decode cX3_doRejectRainy 7 = .ok (.ifCond .ne 9, 3) := dk_154 0 9 (dk_at dksX3_doRejectRainy_0 7 rfl rfl)
theorem dX3_doRejectRainy_10 : decode cX3_doRejectRainy 10 = .ok (.aload_n 0, 1) := dk_42 (dk_at dksX3_doRejectRainy_0 10 rfl rfl)
theorem dX3_doRejectRainy_11 : decode cX3_doRejectRainy 11 = .ok (.iconst 1, 1) := dk_4 (dk_at dksX3_doRejectRainy_0 11 rfl rfl)
theorem dX3_doRejectRainy_12 : decode cX3_doRejectRainy 12 = .ok (.invokevirtual 82, 3) := dk_182 0 82 (dk_at dksX3_doRejectRainy_0 12 rfl rfl)
theorem dX3_doRejectRainy_15 : decode cX3_doRejectRainy 15 = .ok (.ireturn, 1) := dk_172 (dk_at dksX3_doRejectRainy_0 15 rfl rfl)
theorem dX3_doRejectRainy_16 : decode cX3_doRejectRainy 16 = .ok (.iconst 0, 1) := dk_3 (dk_at dksX3_doRejectRainy_0 16 rfl rfl)
theorem dX3_doRejectRainy_17 : decode cX3_doRejectRainy 17 = .ok (.istore_n 2, 1) := dk_61 (dk_at dksX3_doRejectRainy_0 17 rfl rfl)
theorem dX3_doRejectRainy_18 : decode cX3_doRejectRainy 18 = .ok (.iconst 0, 1) := dk_3 (dk_at dksX3_doRejectRainy_0 18 rfl rfl)
theorem dX3_doRejectRainy_19 : decode cX3_doRejectRainy 19 = .ok (.istore_n 3, 1) := dk_62 (dk_at dksX3_doRejectRainy_0 19 rfl rfl)
theorem dX3_doRejectRainy_20 : decode cX3_doRejectRainy 20 = .ok (.iload_n 3, 1) := dk_29 (dk_at dksX3_doRejectRainy_0 20 rfl rfl)
theorem dX3_doRejectRainy_21 : decode cX3_doRejectRainy 21 = .ok (.bipush 10, 2) := dk_16 10 (dk_at dksX3_doRejectRainy_0 21 rfl rfl)
theorem dX3_doRejectRainy_23 : decode cX3_doRejectRainy 23 = .ok (.if_icmp .ge 35, 3) := dk_162 0 35 (dk_at dksX3_doRejectRainy_1 0 rfl rfl)
theorem dX3_doRejectRainy_26 : decode cX3_doRejectRainy 26 = .ok (.aload_n 0, 1) := dk_42 (dk_at dksX3_doRejectRainy_1 3 rfl rfl)
theorem dX3_doRejectRainy_27 : decode cX3_doRejectRainy 27 = .ok (.iload_n 3, 1) := dk_29 (dk_at dksX3_doRejectRainy_1 4 rfl rfl)
theorem dX3_doRejectRainy_28 : decode cX3_doRejectRainy 28 = .ok (.invokevirtual 113, 3) := dk_182 0 113 (dk_at dksX3_doRejectRainy_1 5 rfl rfl)
theorem dX3_doRejectRainy_31 : decode cX3_doRejectRainy 31 = .ok (.ifCond .eq 21, 3) := dk_153 0 21 (dk_at dksX3_doRejectRainy_1 8 rfl rfl)
theorem dX3_doRejectRainy_34 : decode cX3_doRejectRainy 34 = .ok (.aload_n 0, 1) := dk_42 (dk_at dksX3_doRejectRainy_1 11 rfl rfl)
theorem dX3_doRejectRainy_35 : decode cX3_doRejectRainy 35 = .ok (.iload_n 3, 1) := dk_29 (dk_at dksX3_doRejectRainy_1 12 rfl rfl)
theorem dX3_doRejectRainy_36 : decode cX3_doRejectRainy 36 = .ok (.iconst 3, 1) := dk_6 (dk_at dksX3_doRejectRainy_1 13 rfl rfl)
theorem dX3_doRejectRainy_37 : decode cX3_doRejectRainy 37 = .ok (.invokevirtual 55, 3) := dk_182 0 55 (dk_at dksX3_doRejectRainy_1 14 rfl rfl)
theorem dX3_doRejectRainy_40 : decode cX3_doRejectRainy 40 = .ok (.iload_n 1, 1) := dk_27 (dk_at dksX3_doRejectRainy_1 17 rfl rfl)
theorem dX3_doRejectRainy_41 : decode cX3_doRejectRainy 41 = .ok (.if_icmp .le 11, 3) := dk_164 0 11 (dk_at dksX3_doRejectRainy_1 18 rfl rfl)
theorem dX3_doRejectRainy_44 : decode cX3_doRejectRainy 44 = .ok (.aload_n 0, 1) := dk_42 (dk_at dksX3_doRejectRainy_1 21 rfl rfl)
theorem dX3_doRejectRainy_45 : decode cX3_doRejectRainy 45 = .ok (.iload_n 3, 1) := dk_29 (dk_at dksX3_doRejectRainy_1 22 rfl rfl)
theorem dX3_doRejectRainy_46 : decode cX3_doRejectRainy 46 = .ok (.invokevirtual 106, 3) := dk_182 0 106 (dk_at dksX3_doRejectRainy_2 0 rfl rfl)
theorem dX3_doRejectRainy_49 : decode cX3_doRejectRainy 49 = .ok (.iinc 2 1, 3) := dk_132 2 1 (dk_at dksX3_doRejectRainy_2 3 rfl rfl)
theorem dX3_doRejectRainy_52 : decode cX3_doRejectRainy 52 = .ok (.iinc 3 1, 3) := dk_132 3 1 (dk_at dksX3_doRejectRainy_2 6 rfl rfl)
theorem dX3_doRejectRainy_55 : decode cX3_doRejectRainy 55 = .ok (.goto (-35), 3) := dk_167 255 221 (dk_at dksX3_doRejectRainy_2 9 rfl rfl)
theorem dX3_doRejectRainy_58 : decode cX3_doRejectRainy 58 = .ok (.iload_n 2, 1) := dk_28 (dk_at dksX3_doRejectRainy_2 12 rfl rfl)
theorem dX3_doRejectRainy_59 : decode cX3_doRejectRainy 59 = .ok (.ireturn, 1) := dk_172 (dk_at dksX3_doRejectRainy_2 13 rfl rfl)
abbrev cX3_isWaiting : ByteArray := prog_10_method_16_code
def yX3_isWaiting : MethodName := ⟨RX3, "isWaiting", "(I)Z"⟩
def dkwX3_isWaiting_0 : List UInt8 := [42, 27, 182, 0, 62, 153, 0, 15, 42, 27, 182, 0, 66, 156, 0, 7, 4, 167, 0, 4, 3, 172]
abbrev dktX3_isWaiting_0 : List UInt8 := dkwX3_isWaiting_0 ++ []
theorem dksX3_isWaiting_0 : cX3_isWaiting.data.toList.drop 0 = dktX3_isWaiting_0 := by decide +kernel
theorem dX3_isWaiting_0 : decode cX3_isWaiting 0 = .ok (.aload_n 0, 1) := dk_42 (dk_at dksX3_isWaiting_0 0 rfl rfl)
theorem dX3_isWaiting_1 : decode cX3_isWaiting 1 = .ok (.iload_n 1, 1) := dk_27 (dk_at dksX3_isWaiting_0 1 rfl rfl)
theorem dX3_isWaiting_2 : decode cX3_isWaiting 2 = .ok (.invokevirtual 62, 3) := dk_182 0 62 (dk_at dksX3_isWaiting_0 2 rfl rfl)
theorem dX3_isWaiting_5 : decode cX3_isWaiting 5 = .ok (.ifCond .eq 15, 3) := dk_153 0 15 (dk_at dksX3_isWaiting_0 5 rfl rfl)
theorem dX3_isWaiting_8 : decode cX3_isWaiting 8 = .ok (.aload_n 0, 1) := dk_42 (dk_at dksX3_isWaiting_0 8 rfl rfl)
theorem dX3_isWaiting_9 : decode cX3_isWaiting 9 = .ok (.iload_n 1, 1) := dk_27 (dk_at dksX3_isWaiting_0 9 rfl rfl)
theorem dX3_isWaiting_10 : decode cX3_isWaiting 10 = .ok (.invokevirtual 66, 3) := dk_182 0 66 (dk_at dksX3_isWaiting_0 10 rfl rfl)
theorem dX3_isWaiting_13 : decode cX3_isWaiting 13 = .ok (.ifCond .ge 7, 3) := dk_156 0 7 (dk_at dksX3_isWaiting_0 13 rfl rfl)
theorem dX3_isWaiting_16 : decode cX3_isWaiting 16 = .ok (.iconst 1, 1) := dk_4 (dk_at dksX3_isWaiting_0 16 rfl rfl)
theorem dX3_isWaiting_17 : decode cX3_isWaiting 17 = .ok (.goto 4, 3) := dk_167 0 4 (dk_at dksX3_isWaiting_0 17 rfl rfl)
theorem dX3_isWaiting_20 : decode cX3_isWaiting 20 = .ok (.iconst 0, 1) := dk_3 (dk_at dksX3_isWaiting_0 20 rfl rfl)
theorem dX3_isWaiting_21 : decode cX3_isWaiting 21 = .ok (.ireturn, 1) := dk_172 (dk_at dksX3_isWaiting_0 21 rfl rfl)
abbrev cX3_applicantCount : ByteArray := prog_10_method_31_code
def yX3_applicantCount : MethodName := ⟨RX3, "applicantCount", "()I"⟩
def dkwX3_applicantCount_0 : List UInt8 := [42, 3, 181, 0, 39, 42, 182, 0, 85, 172]
abbrev dktX3_applicantCount_0 : List UInt8 := dkwX3_applicantCount_0 ++ []
theorem dksX3_applicantCount_0 : cX3_applicantCount.data.toList.drop 0 = dktX3_applicantCount_0 := by decide +kernel
theorem dX3_applicantCount_0 : decode cX3_applicantCount 0 = .ok (.aload_n 0, 1) := dk_42 (dk_at dksX3_applicantCount_0 0 rfl rfl)
theorem dX3_applicantCount_1 : decode cX3_applicantCount 1 = .ok (.iconst 0, 1) := dk_3 (dk_at dksX3_applicantCount_0 1 rfl rfl)
theorem dX3_applicantCount_2 : decode cX3_applicantCount 2 = .ok (.putfield 39, 3) := dk_181 0 39 (dk_at dksX3_applicantCount_0 2 rfl rfl)
theorem dX3_applicantCount_5 : decode cX3_applicantCount 5 = .ok (.aload_n 0, 1) := dk_42 (dk_at dksX3_applicantCount_0 5 rfl rfl)
theorem dX3_applicantCount_6 : decode cX3_applicantCount 6 = .ok (.invokevirtual 85, 3) := dk_182 0 85 (dk_at dksX3_applicantCount_0 6 rfl rfl)
theorem dX3_applicantCount_9 : decode cX3_applicantCount 9 = .ok (.ireturn, 1) := dk_172 (dk_at dksX3_applicantCount_0 9 rfl rfl)
abbrev cX3_waitingCount : ByteArray := prog_10_method_32_code
def yX3_waitingCount : MethodName := ⟨RX3, "waitingCount", "()I"⟩
def dkwX3_waitingCount_1 : List UInt8 := [4, 167, 0, 4, 3, 96, 60, 132, 2, 1, 167, 255, 231, 27, 172]
abbrev dktX3_waitingCount_1 : List UInt8 := dkwX3_waitingCount_1 ++ []
def dkwX3_waitingCount_0 : List UInt8 := [42, 3, 181, 0, 39, 3, 60, 3, 61, 28, 16, 10, 162, 0, 25, 27, 42, 28, 182, 0, 113, 153, 0, 7]
abbrev dktX3_waitingCount_0 : List UInt8 := dkwX3_waitingCount_0 ++ dktX3_waitingCount_1
theorem dksX3_waitingCount_0 : cX3_waitingCount.data.toList.drop 0 = dktX3_waitingCount_0 := by decide +kernel
theorem dksX3_waitingCount_1 : cX3_waitingCount.data.toList.drop 24 = dktX3_waitingCount_1 := dk_seg dksX3_waitingCount_0 24 rfl rfl
theorem dX3_waitingCount_0 : decode cX3_waitingCount 0 = .ok (.aload_n 0, 1) := dk_42 (dk_at dksX3_waitingCount_0 0 rfl rfl)
theorem dX3_waitingCount_1 : decode cX3_waitingCount 1 = .ok (.iconst 0, 1) := dk_3 (dk_at dksX3_waitingCount_0 1 rfl rfl)
theorem dX3_waitingCount_2 : decode cX3_waitingCount 2 = .ok (.putfield 39, 3) := dk_181 0 39 (dk_at dksX3_waitingCount_0 2 rfl rfl)
theorem dX3_waitingCount_5 : decode cX3_waitingCount 5 = .ok (.iconst 0, 1) := dk_3 (dk_at dksX3_waitingCount_0 5 rfl rfl)
theorem dX3_waitingCount_6 : decode cX3_waitingCount 6 = .ok (.istore_n 1, 1) := dk_60 (dk_at dksX3_waitingCount_0 6 rfl rfl)
theorem dX3_waitingCount_7 : decode cX3_waitingCount 7 = .ok (.iconst 0, 1) := dk_3 (dk_at dksX3_waitingCount_0 7 rfl rfl)
theorem dX3_waitingCount_8 : decode cX3_waitingCount 8 = .ok (.istore_n 2, 1) := dk_61 (dk_at dksX3_waitingCount_0 8 rfl rfl)
theorem dX3_waitingCount_9 : decode cX3_waitingCount 9 = .ok (.iload_n 2, 1) := dk_28 (dk_at dksX3_waitingCount_0 9 rfl rfl)
theorem dX3_waitingCount_10 : decode cX3_waitingCount 10 = .ok (.bipush 10, 2) := dk_16 10 (dk_at dksX3_waitingCount_0 10 rfl rfl)
theorem dX3_waitingCount_12 : decode cX3_waitingCount 12 = .ok (.if_icmp .ge 25, 3) := dk_162 0 25 (dk_at dksX3_waitingCount_0 12 rfl rfl)
theorem dX3_waitingCount_15 : decode cX3_waitingCount 15 = .ok (.iload_n 1, 1) := dk_27 (dk_at dksX3_waitingCount_0 15 rfl rfl)
theorem dX3_waitingCount_16 : decode cX3_waitingCount 16 = .ok (.aload_n 0, 1) := dk_42 (dk_at dksX3_waitingCount_0 16 rfl rfl)
theorem dX3_waitingCount_17 : decode cX3_waitingCount 17 = .ok (.iload_n 2, 1) := dk_28 (dk_at dksX3_waitingCount_0 17 rfl rfl)
theorem dX3_waitingCount_18 : decode cX3_waitingCount 18 = .ok (.invokevirtual 113, 3) := dk_182 0 113 (dk_at dksX3_waitingCount_0 18 rfl rfl)
theorem dX3_waitingCount_21 : decode cX3_waitingCount 21 = .ok (.ifCond .eq 7, 3) := dk_153 0 7 (dk_at dksX3_waitingCount_0 21 rfl rfl)
theorem dX3_waitingCount_24 : decode cX3_waitingCount 24 = .ok (.iconst 1, 1) := dk_4 (dk_at dksX3_waitingCount_1 0 rfl rfl)
theorem dX3_waitingCount_25 : decode cX3_waitingCount 25 = .ok (.goto 4, 3) := dk_167 0 4 (dk_at dksX3_waitingCount_1 1 rfl rfl)
theorem dX3_waitingCount_28 : decode cX3_waitingCount 28 = .ok (.iconst 0, 1) := dk_3 (dk_at dksX3_waitingCount_1 4 rfl rfl)
theorem dX3_waitingCount_29 : decode cX3_waitingCount 29 = .ok (.iadd, 1) := dk_96 (dk_at dksX3_waitingCount_1 5 rfl rfl)
theorem dX3_waitingCount_30 : decode cX3_waitingCount 30 = .ok (.istore_n 1, 1) := dk_60 (dk_at dksX3_waitingCount_1 6 rfl rfl)
theorem dX3_waitingCount_31 : decode cX3_waitingCount 31 = .ok (.iinc 2 1, 3) := dk_132 2 1 (dk_at dksX3_waitingCount_1 7 rfl rfl)
theorem dX3_waitingCount_34 : decode cX3_waitingCount 34 = .ok (.goto (-25), 3) := dk_167 255 231 (dk_at dksX3_waitingCount_1 10 rfl rfl)
theorem dX3_waitingCount_37 : decode cX3_waitingCount 37 = .ok (.iload_n 1, 1) := dk_27 (dk_at dksX3_waitingCount_1 13 rfl rfl)
theorem dX3_waitingCount_38 : decode cX3_waitingCount 38 = .ok (.ireturn, 1) := dk_172 (dk_at dksX3_waitingCount_1 14 rfl rfl)
abbrev cX3_applicant : ByteArray := prog_10_method_33_code
def yX3_applicant : MethodName := ⟨RX3, "applicant", "(I)I"⟩
def dkwX3_applicant_5 : List UInt8 := [172]
abbrev dktX3_applicant_5 : List UInt8 := dkwX3_applicant_5 ++ []
def dkwX3_applicant_4 : List UInt8 := [21, 5, 27, 160, 0, 12, 42, 21, 4, 182, 0, 76, 167, 0, 4, 28, 61, 132, 4, 1, 167, 255, 163, 28]
abbrev dktX3_applicant_4 : List UInt8 := dkwX3_applicant_4 ++ dktX3_applicant_5
def dkwX3_applicant_3 : List UInt8 := [4, 167, 0, 4, 3, 96, 54, 5, 132, 6, 1, 167, 255, 212, 42, 21, 4, 182, 0, 62, 153, 0, 18]
abbrev dktX3_applicant_3 : List UInt8 := dkwX3_applicant_3 ++ dktX3_applicant_4
def dkwX3_applicant_2 : List UInt8 := [42, 21, 6, 182, 0, 62, 153, 0, 22, 42, 21, 6, 182, 0, 76, 42, 21, 4, 182, 0, 76, 162, 0, 7]
abbrev dktX3_applicant_2 : List UInt8 := dkwX3_applicant_2 ++ dktX3_applicant_3
def dkwX3_applicant_1 : List UInt8 := [16, 10, 162, 0, 92, 29, 153, 0, 88, 3, 54, 5, 3, 54, 6, 21, 6, 16, 10, 162, 0, 43, 21, 5]
abbrev dktX3_applicant_1 : List UInt8 := dkwX3_applicant_1 ++ dktX3_applicant_2
def dkwX3_applicant_0 : List UInt8 := [3, 61, 42, 27, 3, 42, 182, 0, 85, 4, 100, 184, 0, 51, 182, 0, 119, 62, 3, 54, 4, 21, 4]
abbrev dktX3_applicant_0 : List UInt8 := dkwX3_applicant_0 ++ dktX3_applicant_1
theorem dksX3_applicant_0 : cX3_applicant.data.toList.drop 0 = dktX3_applicant_0 := by decide +kernel
theorem dksX3_applicant_1 : cX3_applicant.data.toList.drop 23 = dktX3_applicant_1 := dk_seg dksX3_applicant_0 23 rfl rfl
theorem dksX3_applicant_2 : cX3_applicant.data.toList.drop 47 = dktX3_applicant_2 := dk_seg dksX3_applicant_1 24 rfl rfl
theorem dksX3_applicant_3 : cX3_applicant.data.toList.drop 71 = dktX3_applicant_3 := dk_seg dksX3_applicant_2 24 rfl rfl
theorem dksX3_applicant_4 : cX3_applicant.data.toList.drop 94 = dktX3_applicant_4 := dk_seg dksX3_applicant_3 23 rfl rfl
theorem dksX3_applicant_5 : cX3_applicant.data.toList.drop 118 = dktX3_applicant_5 := dk_seg dksX3_applicant_4 24 rfl rfl
theorem dX3_applicant_0 : decode cX3_applicant 0 = .ok (.iconst 0, 1) := dk_3 (dk_at dksX3_applicant_0 0 rfl rfl)
theorem dX3_applicant_1 : decode cX3_applicant 1 = .ok (.istore_n 2, 1) := dk_61 (dk_at dksX3_applicant_0 1 rfl rfl)
theorem dX3_applicant_2 : decode cX3_applicant 2 = .ok (.aload_n 0, 1) := dk_42 (dk_at dksX3_applicant_0 2 rfl rfl)
theorem dX3_applicant_3 : decode cX3_applicant 3 = .ok (.iload_n 1, 1) := dk_27 (dk_at dksX3_applicant_0 3 rfl rfl)
theorem dX3_applicant_4 : decode cX3_applicant 4 = .ok (.iconst 0, 1) := dk_3 (dk_at dksX3_applicant_0 4 rfl rfl)
theorem dX3_applicant_5 : decode cX3_applicant 5 = .ok (.aload_n 0, 1) := dk_42 (dk_at dksX3_applicant_0 5 rfl rfl)
theorem dX3_applicant_6 : decode cX3_applicant 6 = .ok (.invokevirtual 85, 3) := dk_182 0 85 (dk_at dksX3_applicant_0 6 rfl rfl)
theorem dX3_applicant_9 : decode cX3_applicant 9 = .ok (.iconst 1, 1) := dk_4 (dk_at dksX3_applicant_0 9 rfl rfl)
theorem dX3_applicant_10 : decode cX3_applicant 10 = .ok (.isub, 1) := dk_100 (dk_at dksX3_applicant_0 10 rfl rfl)
theorem dX3_applicant_11 : decode cX3_applicant 11 = .ok (.invokestatic 51, 3) := dk_184 0 51 (dk_at dksX3_applicant_0 11 rfl rfl)
theorem dX3_applicant_14 : decode cX3_applicant 14 = .ok (.invokevirtual 119, 3) := dk_182 0 119 (dk_at dksX3_applicant_0 14 rfl rfl)
theorem dX3_applicant_17 : decode cX3_applicant 17 = .ok (.istore_n 3, 1) := dk_62 (dk_at dksX3_applicant_0 17 rfl rfl)
theorem dX3_applicant_18 : decode cX3_applicant 18 = .ok (.iconst 0, 1) := dk_3 (dk_at dksX3_applicant_0 18 rfl rfl)
theorem dX3_applicant_19 : decode cX3_applicant 19 = .ok (.istore 4, 2) := dk_54 4 (dk_at dksX3_applicant_0 19 rfl rfl)
theorem dX3_applicant_21 : decode cX3_applicant 21 = .ok (.iload 4, 2) := dk_21 4 (dk_at dksX3_applicant_0 21 rfl rfl)
theorem dX3_applicant_23 : decode cX3_applicant 23 = .ok (.bipush 10, 2) := dk_16 10 (dk_at dksX3_applicant_1 0 rfl rfl)
theorem dX3_applicant_25 : decode cX3_applicant 25 = .ok (.if_icmp .ge 92, 3) := dk_162 0 92 (dk_at dksX3_applicant_1 2 rfl rfl)
theorem dX3_applicant_28 : decode cX3_applicant 28 = .ok (.iload_n 3, 1) := dk_29 (dk_at dksX3_applicant_1 5 rfl rfl)
theorem dX3_applicant_29 : decode cX3_applicant 29 = .ok (.ifCond .eq 88, 3) := dk_153 0 88 (dk_at dksX3_applicant_1 6 rfl rfl)
theorem dX3_applicant_32 : decode cX3_applicant 32 = .ok (.iconst 0, 1) := dk_3 (dk_at dksX3_applicant_1 9 rfl rfl)
theorem dX3_applicant_33 : decode cX3_applicant 33 = .ok (.istore 5, 2) := dk_54 5 (dk_at dksX3_applicant_1 10 rfl rfl)
theorem dX3_applicant_35 : decode cX3_applicant 35 = .ok (.iconst 0, 1) := dk_3 (dk_at dksX3_applicant_1 12 rfl rfl)
theorem dX3_applicant_36 : decode cX3_applicant 36 = .ok (.istore 6, 2) := dk_54 6 (dk_at dksX3_applicant_1 13 rfl rfl)
theorem dX3_applicant_38 : decode cX3_applicant 38 = .ok (.iload 6, 2) := dk_21 6 (dk_at dksX3_applicant_1 15 rfl rfl)
theorem dX3_applicant_40 : decode cX3_applicant 40 = .ok (.bipush 10, 2) := dk_16 10 (dk_at dksX3_applicant_1 17 rfl rfl)
theorem dX3_applicant_42 : decode cX3_applicant 42 = .ok (.if_icmp .ge 43, 3) := dk_162 0 43 (dk_at dksX3_applicant_1 19 rfl rfl)
theorem dX3_applicant_45 : decode cX3_applicant 45 = .ok (.iload 5, 2) := dk_21 5 (dk_at dksX3_applicant_1 22 rfl rfl)
theorem dX3_applicant_47 : decode cX3_applicant 47 = .ok (.aload_n 0, 1) := dk_42 (dk_at dksX3_applicant_2 0 rfl rfl)
theorem dX3_applicant_48 : decode cX3_applicant 48 = .ok (.iload 6, 2) := dk_21 6 (dk_at dksX3_applicant_2 1 rfl rfl)
theorem dX3_applicant_50 : decode cX3_applicant 50 = .ok (.invokevirtual 62, 3) := dk_182 0 62 (dk_at dksX3_applicant_2 3 rfl rfl)
theorem dX3_applicant_53 : decode cX3_applicant 53 = .ok (.ifCond .eq 22, 3) := dk_153 0 22 (dk_at dksX3_applicant_2 6 rfl rfl)
theorem dX3_applicant_56 : decode cX3_applicant 56 = .ok (.aload_n 0, 1) := dk_42 (dk_at dksX3_applicant_2 9 rfl rfl)
theorem dX3_applicant_57 : decode cX3_applicant 57 = .ok (.iload 6, 2) := dk_21 6 (dk_at dksX3_applicant_2 10 rfl rfl)
theorem dX3_applicant_59 : decode cX3_applicant 59 = .ok (.invokevirtual 76, 3) := dk_182 0 76 (dk_at dksX3_applicant_2 12 rfl rfl)
theorem dX3_applicant_62 : decode cX3_applicant 62 = .ok (.aload_n 0, 1) := dk_42 (dk_at dksX3_applicant_2 15 rfl rfl)
theorem dX3_applicant_63 : decode cX3_applicant 63 = .ok (.iload 4, 2) := dk_21 4 (dk_at dksX3_applicant_2 16 rfl rfl)
theorem dX3_applicant_65 : decode cX3_applicant 65 = .ok (.invokevirtual 76, 3) := dk_182 0 76 (dk_at dksX3_applicant_2 18 rfl rfl)
theorem dX3_applicant_68 : decode cX3_applicant 68 = .ok (.if_icmp .ge 7, 3) := dk_162 0 7 (dk_at dksX3_applicant_2 21 rfl rfl)
theorem dX3_applicant_71 : decode cX3_applicant 71 = .ok (.iconst 1, 1) := dk_4 (dk_at dksX3_applicant_3 0 rfl rfl)
theorem dX3_applicant_72 : decode cX3_applicant 72 = .ok (.goto 4, 3) := dk_167 0 4 (dk_at dksX3_applicant_3 1 rfl rfl)
theorem dX3_applicant_75 : decode cX3_applicant 75 = .ok (.iconst 0, 1) := dk_3 (dk_at dksX3_applicant_3 4 rfl rfl)
theorem dX3_applicant_76 : decode cX3_applicant 76 = .ok (.iadd, 1) := dk_96 (dk_at dksX3_applicant_3 5 rfl rfl)
theorem dX3_applicant_77 : decode cX3_applicant 77 = .ok (.istore 5, 2) := dk_54 5 (dk_at dksX3_applicant_3 6 rfl rfl)
theorem dX3_applicant_79 : decode cX3_applicant 79 = .ok (.iinc 6 1, 3) := dk_132 6 1 (dk_at dksX3_applicant_3 8 rfl rfl)
theorem dX3_applicant_82 : decode cX3_applicant 82 = .ok (.goto (-44), 3) := dk_167 255 212 (dk_at dksX3_applicant_3 11 rfl rfl)
theorem dX3_applicant_85 : decode cX3_applicant 85 = .ok (.aload_n 0, 1) := dk_42 (dk_at dksX3_applicant_3 14 rfl rfl)
theorem dX3_applicant_86 : decode cX3_applicant 86 = .ok (.iload 4, 2) := dk_21 4 (dk_at dksX3_applicant_3 15 rfl rfl)
theorem dX3_applicant_88 : decode cX3_applicant 88 = .ok (.invokevirtual 62, 3) := dk_182 0 62 (dk_at dksX3_applicant_3 17 rfl rfl)
theorem dX3_applicant_91 : decode cX3_applicant 91 = .ok (.ifCond .eq 18, 3) := dk_153 0 18 (dk_at dksX3_applicant_3 20 rfl rfl)
theorem dX3_applicant_94 : decode cX3_applicant 94 = .ok (.iload 5, 2) := dk_21 5 (dk_at dksX3_applicant_4 0 rfl rfl)
theorem dX3_applicant_96 : decode cX3_applicant 96 = .ok (.iload_n 1, 1) := dk_27 (dk_at dksX3_applicant_4 2 rfl rfl)
theorem dX3_applicant_97 : decode cX3_applicant 97 = .ok (.if_icmp .ne 12, 3) := dk_160 0 12 (dk_at dksX3_applicant_4 3 rfl rfl)
theorem dX3_applicant_100 : decode cX3_applicant 100 = .ok (.aload_n 0, 1) := dk_42 (dk_at dksX3_applicant_4 6 rfl rfl)
theorem dX3_applicant_101 : decode cX3_applicant 101 = .ok (.iload 4, 2) := dk_21 4 (dk_at dksX3_applicant_4 7 rfl rfl)
theorem dX3_applicant_103 : decode cX3_applicant 103 = .ok (.invokevirtual 76, 3) := dk_182 0 76 (dk_at dksX3_applicant_4 9 rfl rfl)
theorem dX3_applicant_106 : decode cX3_applicant 106 = .ok (.goto 4, 3) := dk_167 0 4 (dk_at dksX3_applicant_4 12 rfl rfl)
theorem dX3_applicant_109 : decode cX3_applicant 109 = .ok (.iload_n 2, 1) := dk_28 (dk_at dksX3_applicant_4 15 rfl rfl)
theorem dX3_applicant_110 : decode cX3_applicant 110 = .ok (.istore_n 2, 1) := dk_61 (dk_at dksX3_applicant_4 16 rfl rfl)
theorem dX3_applicant_111 : decode cX3_applicant 111 = .ok (.iinc 4 1, 3) := dk_132 4 1 (dk_at dksX3_applicant_4 17 rfl rfl)
theorem dX3_applicant_114 : decode cX3_applicant 114 = .ok (.goto (-93), 3) := dk_167 255 163 (dk_at dksX3_applicant_4 20 rfl rfl)
theorem dX3_applicant_117 : decode cX3_applicant 117 = .ok (.iload_n 2, 1) := dk_28 (dk_at dksX3_applicant_4 23 rfl rfl)
theorem dX3_applicant_118 : decode cX3_applicant 118 = .ok (.ireturn, 1) := dk_172 (dk_at dksX3_applicant_5 0 rfl rfl)
abbrev cX3_isThere : ByteArray := prog_10_method_7_code
def yX3_isThere : MethodName := ⟨RX3, "isThere", "(Z)Z"⟩
def dkwX3_isThere_0 : List UInt8 := [42, 27, 153, 0, 7, 3, 167, 0, 4, 4, 181, 0, 39, 27, 172]
abbrev dktX3_isThere_0 : List UInt8 := dkwX3_isThere_0 ++ []
theorem dksX3_isThere_0 : cX3_isThere.data.toList.drop 0 = dktX3_isThere_0 := by decide +kernel
theorem dX3_isThere_0 : decode cX3_isThere 0 = .ok (.aload_n 0, 1) := dk_42 (dk_at dksX3_isThere_0 0 rfl rfl)
theorem dX3_isThere_1 : decode cX3_isThere 1 = .ok (.iload_n 1, 1) := dk_27 (dk_at dksX3_isThere_0 1 rfl rfl)
theorem dX3_isThere_2 : decode cX3_isThere 2 = .ok (.ifCond .eq 7, 3) := dk_153 0 7 (dk_at dksX3_isThere_0 2 rfl rfl)
theorem dX3_isThere_5 : decode cX3_isThere 5 = .ok (.iconst 0, 1) := dk_3 (dk_at dksX3_isThere_0 5 rfl rfl)
theorem dX3_isThere_6 : decode cX3_isThere 6 = .ok (.goto 4, 3) := dk_167 0 4 (dk_at dksX3_isThere_0 6 rfl rfl)
theorem dX3_isThere_9 : decode cX3_isThere 9 = .ok (.iconst 1, 1) := dk_4 (dk_at dksX3_isThere_0 9 rfl rfl)
theorem dX3_isThere_10 : decode cX3_isThere 10 = .ok (.putfield 39, 3) := dk_181 0 39 (dk_at dksX3_isThere_0 10 rfl rfl)
theorem dX3_isThere_13 : decode cX3_isThere 13 = .ok (.iload_n 1, 1) := dk_27 (dk_at dksX3_isThere_0 13 rfl rfl)
theorem dX3_isThere_14 : decode cX3_isThere 14 = .ok (.ireturn, 1) := dk_172 (dk_at dksX3_isThere_0 14 rfl rfl)
abbrev cX3_idOf : ByteArray := prog_10_method_14_code
def yX3_idOf : MethodName := ⟨RX3, "idOf", "(I)I"⟩
def dkwX3_idOf_0 : List UInt8 := [42, 27, 3, 182, 0, 55, 4, 100, 172]
abbrev dktX3_idOf_0 : List UInt8 := dkwX3_idOf_0 ++ []
theorem dksX3_idOf_0 : cX3_idOf.data.toList.drop 0 = dktX3_idOf_0 := by decide +kernel
theorem dX3_idOf_0 : decode cX3_idOf 0 = .ok (.aload_n 0, 1) := dk_42 (dk_at dksX3_idOf_0 0 rfl rfl)
theorem dX3_idOf_1 : decode cX3_idOf 1 = .ok (.iload_n 1, 1) := dk_27 (dk_at dksX3_idOf_0 1 rfl rfl)
theorem dX3_idOf_2 : decode cX3_idOf 2 = .ok (.iconst 0, 1) := dk_3 (dk_at dksX3_idOf_0 2 rfl rfl)
theorem dX3_idOf_3 : decode cX3_idOf 3 = .ok (.invokevirtual 55, 3) := dk_182 0 55 (dk_at dksX3_idOf_0 3 rfl rfl)
theorem dX3_idOf_6 : decode cX3_idOf 6 = .ok (.iconst 1, 1) := dk_4 (dk_at dksX3_idOf_0 6 rfl rfl)
theorem dX3_idOf_7 : decode cX3_idOf 7 = .ok (.isub, 1) := dk_100 (dk_at dksX3_idOf_0 7 rfl rfl)
theorem dX3_idOf_8 : decode cX3_idOf 8 = .ok (.ireturn, 1) := dk_172 (dk_at dksX3_idOf_0 8 rfl rfl)
abbrev cX3_shape : ByteArray := prog_10_method_35_code
def yX3_shape : MethodName := ⟨RX3, "shape", "(I)C"⟩
def dkwX3_shape_0 : List UInt8 := [42, 27, 4, 182, 0, 123, 61, 42, 180, 0, 39, 158, 0, 8, 16, 32, 167, 0, 5, 28, 146, 172]
abbrev dktX3_shape_0 : List UInt8 := dkwX3_shape_0 ++ []
theorem dksX3_shape_0 : cX3_shape.data.toList.drop 0 = dktX3_shape_0 := by decide +kernel
theorem dX3_shape_0 : decode cX3_shape 0 = .ok (.aload_n 0, 1) := dk_42 (dk_at dksX3_shape_0 0 rfl rfl)
theorem dX3_shape_1 : decode cX3_shape 1 = .ok (.iload_n 1, 1) := dk_27 (dk_at dksX3_shape_0 1 rfl rfl)
theorem dX3_shape_2 : decode cX3_shape 2 = .ok (.iconst 1, 1) := dk_4 (dk_at dksX3_shape_0 2 rfl rfl)
theorem dX3_shape_3 : decode cX3_shape 3 = .ok (.invokevirtual 123, 3) := dk_182 0 123 (dk_at dksX3_shape_0 3 rfl rfl)
theorem dX3_shape_6 : decode cX3_shape 6 = .ok (.istore_n 2, 1) := dk_61 (dk_at dksX3_shape_0 6 rfl rfl)
theorem dX3_shape_7 : decode cX3_shape 7 = .ok (.aload_n 0, 1) := dk_42 (dk_at dksX3_shape_0 7 rfl rfl)
theorem dX3_shape_8 : decode cX3_shape 8 = .ok (.getfield 39, 3) := dk_180 0 39 (dk_at dksX3_shape_0 8 rfl rfl)
theorem dX3_shape_11 : decode cX3_shape 11 = .ok (.ifCond .le 8, 3) := dk_158 0 8 (dk_at dksX3_shape_0 11 rfl rfl)
theorem dX3_shape_14 : decode cX3_shape 14 = .ok (.bipush 32, 2) := dk_16 32 (dk_at dksX3_shape_0 14 rfl rfl)
theorem dX3_shape_16 : decode cX3_shape 16 = .ok (.goto 5, 3) := dk_167 0 5 (dk_at dksX3_shape_0 16 rfl rfl)
theorem dX3_shape_19 : decode cX3_shape 19 = .ok (.iload_n 2, 1) := dk_28 (dk_at dksX3_shape_0 19 rfl rfl)
theorem dX3_shape_20 : decode cX3_shape 20 = .ok (.i2c, 1) := dk_146 (dk_at dksX3_shape_0 20 rfl rfl)
theorem dX3_shape_21 : decode cX3_shape 21 = .ok (.ireturn, 1) := dk_172 (dk_at dksX3_shape_0 21 rfl rfl)
abbrev cX3_told : ByteArray := prog_10_method_34_code
def yX3_told : MethodName := ⟨RX3, "told", "(II)I"⟩
def dkwX3_told_1 : List UInt8 := [28, 182, 0, 55, 167, 0, 4, 3, 172]
abbrev dktX3_told_1 : List UInt8 := dkwX3_told_1 ++ []
def dkwX3_told_0 : List UInt8 := [42, 27, 182, 0, 103, 62, 42, 29, 155, 0, 7, 4, 167, 0, 4, 3, 182, 0, 119, 153, 0, 12, 42, 29]
abbrev dktX3_told_0 : List UInt8 := dkwX3_told_0 ++ dktX3_told_1
theorem dksX3_told_0 : cX3_told.data.toList.drop 0 = dktX3_told_0 := by decide +kernel
theorem dksX3_told_1 : cX3_told.data.toList.drop 24 = dktX3_told_1 := dk_seg dksX3_told_0 24 rfl rfl
theorem dX3_told_0 : decode cX3_told 0 = .ok (.aload_n 0, 1) := dk_42 (dk_at dksX3_told_0 0 rfl rfl)
theorem dX3_told_1 : decode cX3_told 1 = .ok (.iload_n 1, 1) := dk_27 (dk_at dksX3_told_0 1 rfl rfl)
theorem dX3_told_2 : decode cX3_told 2 = .ok (.invokevirtual 103, 3) := dk_182 0 103 (dk_at dksX3_told_0 2 rfl rfl)
theorem dX3_told_5 : decode cX3_told 5 = .ok (.istore_n 3, 1) := dk_62 (dk_at dksX3_told_0 5 rfl rfl)
theorem dX3_told_6 : decode cX3_told 6 = .ok (.aload_n 0, 1) := dk_42 (dk_at dksX3_told_0 6 rfl rfl)
theorem dX3_told_7 : decode cX3_told 7 = .ok (.iload_n 3, 1) := dk_29 (dk_at dksX3_told_0 7 rfl rfl)
theorem dX3_told_8 : decode cX3_told 8 = .ok (.ifCond .lt 7, 3) := dk_155 0 7 (dk_at dksX3_told_0 8 rfl rfl)
theorem dX3_told_11 : decode cX3_told 11 = .ok (.iconst 1, 1) := dk_4 (dk_at dksX3_told_0 11 rfl rfl)
theorem dX3_told_12 : decode cX3_told 12 = .ok (.goto 4, 3) := dk_167 0 4 (dk_at dksX3_told_0 12 rfl rfl)
theorem dX3_told_15 : decode cX3_told 15 = .ok (.iconst 0, 1) := dk_3 (dk_at dksX3_told_0 15 rfl rfl)
theorem dX3_told_16 : decode cX3_told 16 = .ok (.invokevirtual 119, 3) := dk_182 0 119 (dk_at dksX3_told_0 16 rfl rfl)
theorem dX3_told_19 : decode cX3_told 19 = .ok (.ifCond .eq 12, 3) := dk_153 0 12 (dk_at dksX3_told_0 19 rfl rfl)
theorem dX3_told_22 : decode cX3_told 22 = .ok (.aload_n 0, 1) := dk_42 (dk_at dksX3_told_0 22 rfl rfl)
theorem dX3_told_23 : decode cX3_told 23 = .ok (.iload_n 3, 1) := dk_29 (dk_at dksX3_told_0 23 rfl rfl)
theorem dX3_told_24 : decode cX3_told 24 = .ok (.iload_n 2, 1) := dk_28 (dk_at dksX3_told_1 0 rfl rfl)
theorem dX3_told_25 : decode cX3_told 25 = .ok (.invokevirtual 55, 3) := dk_182 0 55 (dk_at dksX3_told_1 1 rfl rfl)
theorem dX3_told_28 : decode cX3_told 28 = .ok (.goto 4, 3) := dk_167 0 4 (dk_at dksX3_told_1 4 rfl rfl)
theorem dX3_told_31 : decode cX3_told 31 = .ok (.iconst 0, 1) := dk_3 (dk_at dksX3_told_1 7 rfl rfl)
theorem dX3_told_32 : decode cX3_told 32 = .ok (.ireturn, 1) := dk_172 (dk_at dksX3_told_1 8 rfl rfl)
abbrev cX3_whiteness : ByteArray := prog_10_method_36_code
def yX3_whiteness : MethodName := ⟨RX3, "whiteness", "(I)I"⟩
def dkwX3_whiteness_0 : List UInt8 := [42, 27, 5, 182, 0, 123, 172]
abbrev dktX3_whiteness_0 : List UInt8 := dkwX3_whiteness_0 ++ []
theorem dksX3_whiteness_0 : cX3_whiteness.data.toList.drop 0 = dktX3_whiteness_0 := by decide +kernel
theorem dX3_whiteness_0 : decode cX3_whiteness 0 = .ok (.aload_n 0, 1) := dk_42 (dk_at dksX3_whiteness_0 0 rfl rfl)
theorem dX3_whiteness_1 : decode cX3_whiteness 1 = .ok (.iload_n 1, 1) := dk_27 (dk_at dksX3_whiteness_0 1 rfl rfl)
theorem dX3_whiteness_2 : decode cX3_whiteness 2 = .ok (.iconst 2, 1) := dk_5 (dk_at dksX3_whiteness_0 2 rfl rfl)
theorem dX3_whiteness_3 : decode cX3_whiteness 3 = .ok (.invokevirtual 123, 3) := dk_182 0 123 (dk_at dksX3_whiteness_0 3 rfl rfl)
theorem dX3_whiteness_6 : decode cX3_whiteness 6 = .ok (.ireturn, 1) := dk_172 (dk_at dksX3_whiteness_0 6 rfl rfl)
abbrev cX3_rain : ByteArray := prog_10_method_37_code
def yX3_rain : MethodName := ⟨RX3, "rain", "(I)I"⟩
def dkwX3_rain_0 : List UInt8 := [42, 27, 6, 182, 0, 123, 172]
abbrev dktX3_rain_0 : List UInt8 := dkwX3_rain_0 ++ []
theorem dksX3_rain_0 : cX3_rain.data.toList.drop 0 = dktX3_rain_0 := by decide +kernel
theorem dX3_rain_0 : decode cX3_rain 0 = .ok (.aload_n 0, 1) := dk_42 (dk_at dksX3_rain_0 0 rfl rfl)
theorem dX3_rain_1 : decode cX3_rain 1 = .ok (.iload_n 1, 1) := dk_27 (dk_at dksX3_rain_0 1 rfl rfl)
theorem dX3_rain_2 : decode cX3_rain 2 = .ok (.iconst 3, 1) := dk_6 (dk_at dksX3_rain_0 2 rfl rfl)
theorem dX3_rain_3 : decode cX3_rain 3 = .ok (.invokevirtual 123, 3) := dk_182 0 123 (dk_at dksX3_rain_0 3 rfl rfl)
theorem dX3_rain_6 : decode cX3_rain 6 = .ok (.ireturn, 1) := dk_172 (dk_at dksX3_rain_0 6 rfl rfl)
abbrev cX3_coins : ByteArray := prog_10_method_38_code
def yX3_coins : MethodName := ⟨RX3, "coins", "(I)I"⟩
def dkwX3_coins_0 : List UInt8 := [42, 27, 7, 182, 0, 123, 172]
abbrev dktX3_coins_0 : List UInt8 := dkwX3_coins_0 ++ []
theorem dksX3_coins_0 : cX3_coins.data.toList.drop 0 = dktX3_coins_0 := by decide +kernel
theorem dX3_coins_0 : decode cX3_coins 0 = .ok (.aload_n 0, 1) := dk_42 (dk_at dksX3_coins_0 0 rfl rfl)
theorem dX3_coins_1 : decode cX3_coins 1 = .ok (.iload_n 1, 1) := dk_27 (dk_at dksX3_coins_0 1 rfl rfl)
theorem dX3_coins_2 : decode cX3_coins 2 = .ok (.iconst 4, 1) := dk_7 (dk_at dksX3_coins_0 2 rfl rfl)
theorem dX3_coins_3 : decode cX3_coins 3 = .ok (.invokevirtual 123, 3) := dk_182 0 123 (dk_at dksX3_coins_0 3 rfl rfl)
theorem dX3_coins_6 : decode cX3_coins 6 = .ok (.ireturn, 1) := dk_172 (dk_at dksX3_coins_0 6 rfl rfl)
abbrev cX3_isHired : ByteArray := prog_10_method_39_code
def yX3_isHired : MethodName := ⟨RX3, "isHired", "(I)Z"⟩
def dkwX3_isHired_1 : List UInt8 := [182, 0, 66, 155, 0, 7, 4, 167, 0, 4, 3, 172]
abbrev dktX3_isHired_1 : List UInt8 := dkwX3_isHired_1 ++ []
def dkwX3_isHired_0 : List UInt8 := [42, 27, 182, 0, 103, 61, 42, 28, 155, 0, 7, 4, 167, 0, 4, 3, 182, 0, 119, 153, 0, 15, 42, 28]
abbrev dktX3_isHired_0 : List UInt8 := dkwX3_isHired_0 ++ dktX3_isHired_1
theorem dksX3_isHired_0 : cX3_isHired.data.toList.drop 0 = dktX3_isHired_0 := by decide +kernel
theorem dksX3_isHired_1 : cX3_isHired.data.toList.drop 24 = dktX3_isHired_1 := dk_seg dksX3_isHired_0 24 rfl rfl
theorem dX3_isHired_0 : decode cX3_isHired 0 = .ok (.aload_n 0, 1) := dk_42 (dk_at dksX3_isHired_0 0 rfl rfl)
theorem dX3_isHired_1 : decode cX3_isHired 1 = .ok (.iload_n 1, 1) := dk_27 (dk_at dksX3_isHired_0 1 rfl rfl)
theorem dX3_isHired_2 : decode cX3_isHired 2 = .ok (.invokevirtual 103, 3) := dk_182 0 103 (dk_at dksX3_isHired_0 2 rfl rfl)
theorem dX3_isHired_5 : decode cX3_isHired 5 = .ok (.istore_n 2, 1) := dk_61 (dk_at dksX3_isHired_0 5 rfl rfl)
theorem dX3_isHired_6 : decode cX3_isHired 6 = .ok (.aload_n 0, 1) := dk_42 (dk_at dksX3_isHired_0 6 rfl rfl)
theorem dX3_isHired_7 : decode cX3_isHired 7 = .ok (.iload_n 2, 1) := dk_28 (dk_at dksX3_isHired_0 7 rfl rfl)
theorem dX3_isHired_8 : decode cX3_isHired 8 = .ok (.ifCond .lt 7, 3) := dk_155 0 7 (dk_at dksX3_isHired_0 8 rfl rfl)
theorem dX3_isHired_11 : decode cX3_isHired 11 = .ok (.iconst 1, 1) := dk_4 (dk_at dksX3_isHired_0 11 rfl rfl)
theorem dX3_isHired_12 : decode cX3_isHired 12 = .ok (.goto 4, 3) := dk_167 0 4 (dk_at dksX3_isHired_0 12 rfl rfl)
theorem dX3_isHired_15 : decode cX3_isHired 15 = .ok (.iconst 0, 1) := dk_3 (dk_at dksX3_isHired_0 15 rfl rfl)
theorem dX3_isHired_16 : decode cX3_isHired 16 = .ok (.invokevirtual 119, 3) := dk_182 0 119 (dk_at dksX3_isHired_0 16 rfl rfl)
theorem dX3_isHired_19 : decode cX3_isHired 19 = .ok (.ifCond .eq 15, 3) := dk_153 0 15 (dk_at dksX3_isHired_0 19 rfl rfl)
theorem dX3_isHired_22 : decode cX3_isHired 22 = .ok (.aload_n 0, 1) := dk_42 (dk_at dksX3_isHired_0 22 rfl rfl)
theorem dX3_isHired_23 : decode cX3_isHired 23 = .ok (.iload_n 2, 1) := dk_28 (dk_at dksX3_isHired_0 23 rfl rfl)
theorem dX3_isHired_24 : decode cX3_isHired 24 = .ok (.invokevirtual 66, 3) := dk_182 0 66 (dk_at dksX3_isHired_1 0 rfl rfl)
theorem dX3_isHired_27 : decode cX3_isHired 27 = .ok (.ifCond .lt 7, 3) := dk_155 0 7 (dk_at dksX3_isHired_1 3 rfl rfl)
theorem dX3_isHired_30 : decode cX3_isHired 30 = .ok (.iconst 1, 1) := dk_4 (dk_at dksX3_isHired_1 6 rfl rfl)
theorem dX3_isHired_31 : decode cX3_isHired 31 = .ok (.goto 4, 3) := dk_167 0 4 (dk_at dksX3_isHired_1 7 rfl rfl)
theorem dX3_isHired_34 : decode cX3_isHired 34 = .ok (.iconst 0, 1) := dk_3 (dk_at dksX3_isHired_1 10 rfl rfl)
theorem dX3_isHired_35 : decode cX3_isHired 35 = .ok (.ireturn, 1) := dk_172 (dk_at dksX3_isHired_1 11 rfl rfl)
abbrev cX3_postOf : ByteArray := prog_10_method_40_code
def yX3_postOf : MethodName := ⟨RX3, "postOf", "(I)I"⟩
def dkwX3_postOf_1 : List UInt8 := [155, 0, 7, 4, 167, 0, 4, 3, 182, 0, 119, 153, 0, 7, 29, 167, 0, 4, 3, 172]
abbrev dktX3_postOf_1 : List UInt8 := dkwX3_postOf_1 ++ []
def dkwX3_postOf_0 : List UInt8 := [42, 27, 182, 0, 103, 61, 28, 156, 0, 7, 2, 167, 0, 8, 42, 28, 182, 0, 66, 62, 42, 29]
abbrev dktX3_postOf_0 : List UInt8 := dkwX3_postOf_0 ++ dktX3_postOf_1
theorem dksX3_postOf_0 : cX3_postOf.data.toList.drop 0 = dktX3_postOf_0 := by decide +kernel
theorem dksX3_postOf_1 : cX3_postOf.data.toList.drop 22 = dktX3_postOf_1 := dk_seg dksX3_postOf_0 22 rfl rfl
theorem dX3_postOf_0 : decode cX3_postOf 0 = .ok (.aload_n 0, 1) := dk_42 (dk_at dksX3_postOf_0 0 rfl rfl)
theorem dX3_postOf_1 : decode cX3_postOf 1 = .ok (.iload_n 1, 1) := dk_27 (dk_at dksX3_postOf_0 1 rfl rfl)
theorem dX3_postOf_2 : decode cX3_postOf 2 = .ok (.invokevirtual 103, 3) := dk_182 0 103 (dk_at dksX3_postOf_0 2 rfl rfl)
theorem dX3_postOf_5 : decode cX3_postOf 5 = .ok (.istore_n 2, 1) := dk_61 (dk_at dksX3_postOf_0 5 rfl rfl)
theorem dX3_postOf_6 : decode cX3_postOf 6 = .ok (.iload_n 2, 1) := dk_28 (dk_at dksX3_postOf_0 6 rfl rfl)
theorem dX3_postOf_7 : decode cX3_postOf 7 = .ok (.ifCond .ge 7, 3) := dk_156 0 7 (dk_at dksX3_postOf_0 7 rfl rfl)
theorem dX3_postOf_10 : decode cX3_postOf 10 = .ok (.iconst (-1), 1) := dk_2 (dk_at dksX3_postOf_0 10 rfl rfl)
theorem dX3_postOf_11 : decode cX3_postOf 11 = .ok (.goto 8, 3) := dk_167 0 8 (dk_at dksX3_postOf_0 11 rfl rfl)
theorem dX3_postOf_14 : decode cX3_postOf 14 = .ok (.aload_n 0, 1) := dk_42 (dk_at dksX3_postOf_0 14 rfl rfl)
theorem dX3_postOf_15 : decode cX3_postOf 15 = .ok (.iload_n 2, 1) := dk_28 (dk_at dksX3_postOf_0 15 rfl rfl)
theorem dX3_postOf_16 : decode cX3_postOf 16 = .ok (.invokevirtual 66, 3) := dk_182 0 66 (dk_at dksX3_postOf_0 16 rfl rfl)
theorem dX3_postOf_19 : decode cX3_postOf 19 = .ok (.istore_n 3, 1) := dk_62 (dk_at dksX3_postOf_0 19 rfl rfl)
theorem dX3_postOf_20 : decode cX3_postOf 20 = .ok (.aload_n 0, 1) := dk_42 (dk_at dksX3_postOf_0 20 rfl rfl)
theorem dX3_postOf_21 : decode cX3_postOf 21 = .ok (.iload_n 3, 1) := dk_29 (dk_at dksX3_postOf_0 21 rfl rfl)
theorem dX3_postOf_22 : decode cX3_postOf 22 = .ok (.ifCond .lt 7, 3) := dk_155 0 7 (dk_at dksX3_postOf_1 0 rfl rfl)
theorem dX3_postOf_25 : decode cX3_postOf 25 = .ok (.iconst 1, 1) := dk_4 (dk_at dksX3_postOf_1 3 rfl rfl)
theorem dX3_postOf_26 : decode cX3_postOf 26 = .ok (.goto 4, 3) := dk_167 0 4 (dk_at dksX3_postOf_1 4 rfl rfl)
theorem dX3_postOf_29 : decode cX3_postOf 29 = .ok (.iconst 0, 1) := dk_3 (dk_at dksX3_postOf_1 7 rfl rfl)
theorem dX3_postOf_30 : decode cX3_postOf 30 = .ok (.invokevirtual 119, 3) := dk_182 0 119 (dk_at dksX3_postOf_1 8 rfl rfl)
theorem dX3_postOf_33 : decode cX3_postOf 33 = .ok (.ifCond .eq 7, 3) := dk_153 0 7 (dk_at dksX3_postOf_1 11 rfl rfl)
theorem dX3_postOf_36 : decode cX3_postOf 36 = .ok (.iload_n 3, 1) := dk_29 (dk_at dksX3_postOf_1 14 rfl rfl)
theorem dX3_postOf_37 : decode cX3_postOf 37 = .ok (.goto 4, 3) := dk_167 0 4 (dk_at dksX3_postOf_1 15 rfl rfl)
theorem dX3_postOf_40 : decode cX3_postOf 40 = .ok (.iconst 0, 1) := dk_3 (dk_at dksX3_postOf_1 18 rfl rfl)
theorem dX3_postOf_41 : decode cX3_postOf 41 = .ok (.ireturn, 1) := dk_172 (dk_at dksX3_postOf_1 19 rfl rfl)
abbrev cX3_score : ByteArray := prog_10_method_41_code
def yX3_score : MethodName := ⟨RX3, "score", "(I)I"⟩
def dkwX3_score_1 : List UInt8 := [182, 0, 73, 167, 0, 4, 3, 172]
abbrev dktX3_score_1 : List UInt8 := dkwX3_score_1 ++ []
def dkwX3_score_0 : List UInt8 := [42, 27, 182, 0, 103, 61, 42, 28, 155, 0, 7, 4, 167, 0, 4, 3, 182, 0, 119, 153, 0, 11, 42, 28]
abbrev dktX3_score_0 : List UInt8 := dkwX3_score_0 ++ dktX3_score_1
theorem dksX3_score_0 : cX3_score.data.toList.drop 0 = dktX3_score_0 := by decide +kernel
theorem dksX3_score_1 : cX3_score.data.toList.drop 24 = dktX3_score_1 := dk_seg dksX3_score_0 24 rfl rfl
theorem dX3_score_0 : decode cX3_score 0 = .ok (.aload_n 0, 1) := dk_42 (dk_at dksX3_score_0 0 rfl rfl)
theorem dX3_score_1 : decode cX3_score 1 = .ok (.iload_n 1, 1) := dk_27 (dk_at dksX3_score_0 1 rfl rfl)
theorem dX3_score_2 : decode cX3_score 2 = .ok (.invokevirtual 103, 3) := dk_182 0 103 (dk_at dksX3_score_0 2 rfl rfl)
theorem dX3_score_5 : decode cX3_score 5 = .ok (.istore_n 2, 1) := dk_61 (dk_at dksX3_score_0 5 rfl rfl)
theorem dX3_score_6 : decode cX3_score 6 = .ok (.aload_n 0, 1) := dk_42 (dk_at dksX3_score_0 6 rfl rfl)
theorem dX3_score_7 : decode cX3_score 7 = .ok (.iload_n 2, 1) := dk_28 (dk_at dksX3_score_0 7 rfl rfl)
theorem dX3_score_8 : decode cX3_score 8 = .ok (.ifCond .lt 7, 3) := dk_155 0 7 (dk_at dksX3_score_0 8 rfl rfl)
theorem dX3_score_11 : decode cX3_score 11 = .ok (.iconst 1, 1) := dk_4 (dk_at dksX3_score_0 11 rfl rfl)
theorem dX3_score_12 : decode cX3_score 12 = .ok (.goto 4, 3) := dk_167 0 4 (dk_at dksX3_score_0 12 rfl rfl)
theorem dX3_score_15 : decode cX3_score 15 = .ok (.iconst 0, 1) := dk_3 (dk_at dksX3_score_0 15 rfl rfl)
theorem dX3_score_16 : decode cX3_score 16 = .ok (.invokevirtual 119, 3) := dk_182 0 119 (dk_at dksX3_score_0 16 rfl rfl)
theorem dX3_score_19 : decode cX3_score 19 = .ok (.ifCond .eq 11, 3) := dk_153 0 11 (dk_at dksX3_score_0 19 rfl rfl)
theorem dX3_score_22 : decode cX3_score 22 = .ok (.aload_n 0, 1) := dk_42 (dk_at dksX3_score_0 22 rfl rfl)
theorem dX3_score_23 : decode cX3_score 23 = .ok (.iload_n 2, 1) := dk_28 (dk_at dksX3_score_0 23 rfl rfl)
theorem dX3_score_24 : decode cX3_score 24 = .ok (.invokevirtual 73, 3) := dk_182 0 73 (dk_at dksX3_score_1 0 rfl rfl)
theorem dX3_score_27 : decode cX3_score 27 = .ok (.goto 4, 3) := dk_167 0 4 (dk_at dksX3_score_1 3 rfl rfl)
theorem dX3_score_30 : decode cX3_score 30 = .ok (.iconst 0, 1) := dk_3 (dk_at dksX3_score_1 6 rfl rfl)
theorem dX3_score_31 : decode cX3_score 31 = .ok (.ireturn, 1) := dk_172 (dk_at dksX3_score_1 7 rfl rfl)
abbrev cX3_points : ByteArray := prog_10_method_20_code
def yX3_points : MethodName := ⟨RX3, "points", "(I)I"⟩
def dkwX3_points_1 : List UInt8 := [104, 96, 172]
abbrev dktX3_points_1 : List UInt8 := dkwX3_points_1 ++ []
def dkwX3_points_0 : List UInt8 := [42, 27, 5, 182, 0, 55, 42, 27, 6, 182, 0, 55, 100, 16, 10, 42, 27, 8, 182, 0, 55, 184, 0, 70]
abbrev dktX3_points_0 : List UInt8 := dkwX3_points_0 ++ dktX3_points_1
theorem dksX3_points_0 : cX3_points.data.toList.drop 0 = dktX3_points_0 := by decide +kernel
theorem dksX3_points_1 : cX3_points.data.toList.drop 24 = dktX3_points_1 := dk_seg dksX3_points_0 24 rfl rfl
theorem dX3_points_0 : decode cX3_points 0 = .ok (.aload_n 0, 1) := dk_42 (dk_at dksX3_points_0 0 rfl rfl)
theorem dX3_points_1 : decode cX3_points 1 = .ok (.iload_n 1, 1) := dk_27 (dk_at dksX3_points_0 1 rfl rfl)
theorem dX3_points_2 : decode cX3_points 2 = .ok (.iconst 2, 1) := dk_5 (dk_at dksX3_points_0 2 rfl rfl)
theorem dX3_points_3 : decode cX3_points 3 = .ok (.invokevirtual 55, 3) := dk_182 0 55 (dk_at dksX3_points_0 3 rfl rfl)
theorem dX3_points_6 : decode cX3_points 6 = .ok (.aload_n 0, 1) := dk_42 (dk_at dksX3_points_0 6 rfl rfl)
theorem dX3_points_7 : decode cX3_points 7 = .ok (.iload_n 1, 1) := dk_27 (dk_at dksX3_points_0 7 rfl rfl)
theorem dX3_points_8 : decode cX3_points 8 = .ok (.iconst 3, 1) := dk_6 (dk_at dksX3_points_0 8 rfl rfl)
theorem dX3_points_9 : decode cX3_points 9 = .ok (.invokevirtual 55, 3) := dk_182 0 55 (dk_at dksX3_points_0 9 rfl rfl)
theorem dX3_points_12 : decode cX3_points 12 = .ok (.isub, 1) := dk_100 (dk_at dksX3_points_0 12 rfl rfl)
theorem dX3_points_13 : decode cX3_points 13 = .ok (.bipush 10, 2) := dk_16 10 (dk_at dksX3_points_0 13 rfl rfl)
theorem dX3_points_15 : decode cX3_points 15 = .ok (.aload_n 0, 1) := dk_42 (dk_at dksX3_points_0 15 rfl rfl)
theorem dX3_points_16 : decode cX3_points 16 = .ok (.iload_n 1, 1) := dk_27 (dk_at dksX3_points_0 16 rfl rfl)
theorem dX3_points_17 : decode cX3_points 17 = .ok (.iconst 5, 1) := dk_8 (dk_at dksX3_points_0 17 rfl rfl)
theorem dX3_points_18 : decode cX3_points 18 = .ok (.invokevirtual 55, 3) := dk_182 0 55 (dk_at dksX3_points_0 18 rfl rfl)
theorem dX3_points_21 : decode cX3_points 21 = .ok (.invokestatic 70, 3) := dk_184 0 70 (dk_at dksX3_points_0 21 rfl rfl)
theorem dX3_points_24 : decode cX3_points 24 = .ok (.imul, 1) := dk_104 (dk_at dksX3_points_1 0 rfl rfl)
theorem dX3_points_25 : decode cX3_points 25 = .ok (.iadd, 1) := dk_96 (dk_at dksX3_points_1 1 rfl rfl)
theorem dX3_points_26 : decode cX3_points 26 = .ok (.ireturn, 1) := dk_172 (dk_at dksX3_points_1 2 rfl rfl)
abbrev cX3_bits : ByteArray := prog_10_method_19_code
def yX3_bits : MethodName := ⟨RX3, "bits", "(I)I"⟩
def dkwX3_bits_1 : List UInt8 := [27, 172]
abbrev dktX3_bits_1 : List UInt8 := dkwX3_bits_1 ++ []
def dkwX3_bits_0 : List UInt8 := [3, 60, 3, 61, 28, 16, 10, 162, 0, 17, 27, 26, 28, 122, 4, 126, 96, 60, 132, 2, 1, 167, 255, 239]
abbrev dktX3_bits_0 : List UInt8 := dkwX3_bits_0 ++ dktX3_bits_1
theorem dksX3_bits_0 : cX3_bits.data.toList.drop 0 = dktX3_bits_0 := by decide +kernel
theorem dksX3_bits_1 : cX3_bits.data.toList.drop 24 = dktX3_bits_1 := dk_seg dksX3_bits_0 24 rfl rfl
theorem dX3_bits_0 : decode cX3_bits 0 = .ok (.iconst 0, 1) := dk_3 (dk_at dksX3_bits_0 0 rfl rfl)
theorem dX3_bits_1 : decode cX3_bits 1 = .ok (.istore_n 1, 1) := dk_60 (dk_at dksX3_bits_0 1 rfl rfl)
theorem dX3_bits_2 : decode cX3_bits 2 = .ok (.iconst 0, 1) := dk_3 (dk_at dksX3_bits_0 2 rfl rfl)
theorem dX3_bits_3 : decode cX3_bits 3 = .ok (.istore_n 2, 1) := dk_61 (dk_at dksX3_bits_0 3 rfl rfl)
theorem dX3_bits_4 : decode cX3_bits 4 = .ok (.iload_n 2, 1) := dk_28 (dk_at dksX3_bits_0 4 rfl rfl)
theorem dX3_bits_5 : decode cX3_bits 5 = .ok (.bipush 10, 2) := dk_16 10 (dk_at dksX3_bits_0 5 rfl rfl)
theorem dX3_bits_7 : decode cX3_bits 7 = .ok (.if_icmp .ge 17, 3) := dk_162 0 17 (dk_at dksX3_bits_0 7 rfl rfl)
theorem dX3_bits_10 : decode cX3_bits 10 = .ok (.iload_n 1, 1) := dk_27 (dk_at dksX3_bits_0 10 rfl rfl)
theorem dX3_bits_11 : decode cX3_bits 11 = .ok (.iload_n 0, 1) := dk_26 (dk_at dksX3_bits_0 11 rfl rfl)
theorem dX3_bits_12 : decode cX3_bits 12 = .ok (.iload_n 2, 1) := dk_28 (dk_at dksX3_bits_0 12 rfl rfl)
theorem dX3_bits_13 : decode cX3_bits 13 = .ok (.ishr, 1) := dk_122 (dk_at dksX3_bits_0 13 rfl rfl)
theorem dX3_bits_14 : decode cX3_bits 14 = .ok (.iconst 1, 1) := dk_4 (dk_at dksX3_bits_0 14 rfl rfl)
theorem dX3_bits_15 : decode cX3_bits 15 = .ok (.iand, 1) := dk_126 (dk_at dksX3_bits_0 15 rfl rfl)
theorem dX3_bits_16 : decode cX3_bits 16 = .ok (.iadd, 1) := dk_96 (dk_at dksX3_bits_0 16 rfl rfl)
theorem dX3_bits_17 : decode cX3_bits 17 = .ok (.istore_n 1, 1) := dk_60 (dk_at dksX3_bits_0 17 rfl rfl)
theorem dX3_bits_18 : decode cX3_bits 18 = .ok (.iinc 2 1, 3) := dk_132 2 1 (dk_at dksX3_bits_0 18 rfl rfl)
theorem dX3_bits_21 : decode cX3_bits 21 = .ok (.goto (-17), 3) := dk_167 255 239 (dk_at dksX3_bits_0 21 rfl rfl)
theorem dX3_bits_24 : decode cX3_bits 24 = .ok (.iload_n 1, 1) := dk_27 (dk_at dksX3_bits_1 0 rfl rfl)
theorem dX3_bits_25 : decode cX3_bits 25 = .ok (.ireturn, 1) := dk_172 (dk_at dksX3_bits_1 1 rfl rfl)
abbrev cX3_applicantByScore : ByteArray := prog_10_method_42_code
def yX3_applicantByScore : MethodName := ⟨RX3, "applicantByScore", "(I)I"⟩
def dkwX3_applicantByScore_4 : List UInt8 := [160, 0, 12, 42, 21, 4, 182, 0, 76, 167, 0, 4, 28, 61, 132, 4, 1, 167, 255, 167, 28, 172]
abbrev dktX3_applicantByScore_4 : List UInt8 := dkwX3_applicantByScore_4 ++ []
def dkwX3_applicantByScore_3 : List UInt8 := [3, 96, 54, 5, 132, 6, 1, 167, 255, 216, 42, 21, 4, 182, 0, 62, 153, 0, 18, 21, 5, 27]
abbrev dktX3_applicantByScore_3 : List UInt8 := dkwX3_applicantByScore_3 ++ dktX3_applicantByScore_4
def dkwX3_applicantByScore_2 : List UInt8 := [42, 21, 6, 182, 0, 62, 153, 0, 18, 42, 21, 6, 21, 4, 182, 0, 126, 153, 0, 7, 4, 167, 0, 4]
abbrev dktX3_applicantByScore_2 : List UInt8 := dkwX3_applicantByScore_2 ++ dktX3_applicantByScore_3
def dkwX3_applicantByScore_1 : List UInt8 := [16, 10, 162, 0, 88, 29, 153, 0, 84, 3, 54, 5, 3, 54, 6, 21, 6, 16, 10, 162, 0, 39, 21, 5]
abbrev dktX3_applicantByScore_1 : List UInt8 := dkwX3_applicantByScore_1 ++ dktX3_applicantByScore_2
def dkwX3_applicantByScore_0 : List UInt8 := [3, 61, 42, 27, 3, 42, 182, 0, 85, 4, 100, 184, 0, 51, 182, 0, 119, 62, 3, 54, 4, 21, 4]
abbrev dktX3_applicantByScore_0 : List UInt8 := dkwX3_applicantByScore_0 ++ dktX3_applicantByScore_1
theorem dksX3_applicantByScore_0 : cX3_applicantByScore.data.toList.drop 0 = dktX3_applicantByScore_0 := by decide +kernel
theorem dksX3_applicantByScore_1 : cX3_applicantByScore.data.toList.drop 23 = dktX3_applicantByScore_1 := dk_seg dksX3_applicantByScore_0 23 rfl rfl
theorem dksX3_applicantByScore_2 : cX3_applicantByScore.data.toList.drop 47 = dktX3_applicantByScore_2 := dk_seg dksX3_applicantByScore_1 24 rfl rfl
theorem dksX3_applicantByScore_3 : cX3_applicantByScore.data.toList.drop 71 = dktX3_applicantByScore_3 := dk_seg dksX3_applicantByScore_2 24 rfl rfl
theorem dksX3_applicantByScore_4 : cX3_applicantByScore.data.toList.drop 93 = dktX3_applicantByScore_4 := dk_seg dksX3_applicantByScore_3 22 rfl rfl
theorem dX3_applicantByScore_0 : decode cX3_applicantByScore 0 = .ok (.iconst 0, 1) := dk_3 (dk_at dksX3_applicantByScore_0 0 rfl rfl)
theorem dX3_applicantByScore_1 : decode cX3_applicantByScore 1 = .ok (.istore_n 2, 1) := dk_61 (dk_at dksX3_applicantByScore_0 1 rfl rfl)
theorem dX3_applicantByScore_2 : decode cX3_applicantByScore 2 = .ok (.aload_n 0, 1) := dk_42 (dk_at dksX3_applicantByScore_0 2 rfl rfl)
theorem dX3_applicantByScore_3 : decode cX3_applicantByScore 3 = .ok (.iload_n 1, 1) := dk_27 (dk_at dksX3_applicantByScore_0 3 rfl rfl)
theorem dX3_applicantByScore_4 : decode cX3_applicantByScore 4 = .ok (.iconst 0, 1) := dk_3 (dk_at dksX3_applicantByScore_0 4 rfl rfl)
theorem dX3_applicantByScore_5 : decode cX3_applicantByScore 5 = .ok (.aload_n 0, 1) := dk_42 (dk_at dksX3_applicantByScore_0 5 rfl rfl)
theorem dX3_applicantByScore_6 : decode cX3_applicantByScore 6 = .ok (.invokevirtual 85, 3) := dk_182 0 85 (dk_at dksX3_applicantByScore_0 6 rfl rfl)
theorem dX3_applicantByScore_9 : decode cX3_applicantByScore 9 = .ok (.iconst 1, 1) := dk_4 (dk_at dksX3_applicantByScore_0 9 rfl rfl)
theorem dX3_applicantByScore_10 : decode cX3_applicantByScore 10 = .ok (.isub, 1) := dk_100 (dk_at dksX3_applicantByScore_0 10 rfl rfl)
theorem dX3_applicantByScore_11 : decode cX3_applicantByScore 11 = .ok (.invokestatic 51, 3) := dk_184 0 51 (dk_at dksX3_applicantByScore_0 11 rfl rfl)
theorem dX3_applicantByScore_14 : decode cX3_applicantByScore 14 = .ok (.invokevirtual 119, 3) := dk_182 0 119 (dk_at dksX3_applicantByScore_0 14 rfl rfl)
theorem dX3_applicantByScore_17 : decode cX3_applicantByScore 17 = .ok (.istore_n 3, 1) := dk_62 (dk_at dksX3_applicantByScore_0 17 rfl rfl)
theorem dX3_applicantByScore_18 : decode cX3_applicantByScore 18 = .ok (.iconst 0, 1) := dk_3 (dk_at dksX3_applicantByScore_0 18 rfl rfl)
theorem dX3_applicantByScore_19 : decode cX3_applicantByScore 19 = .ok (.istore 4, 2) := dk_54 4 (dk_at dksX3_applicantByScore_0 19 rfl rfl)
theorem dX3_applicantByScore_21 : decode cX3_applicantByScore 21 = .ok (.iload 4, 2) := dk_21 4 (dk_at dksX3_applicantByScore_0 21 rfl rfl)
theorem dX3_applicantByScore_23 : decode cX3_applicantByScore 23 = .ok (.bipush 10, 2) := dk_16 10 (dk_at dksX3_applicantByScore_1 0 rfl rfl)
theorem dX3_applicantByScore_25 : decode cX3_applicantByScore 25 = .ok (.if_icmp .ge 88, 3) := dk_162 0 88 (dk_at dksX3_applicantByScore_1 2 rfl rfl)
theorem dX3_applicantByScore_28 : decode cX3_applicantByScore 28 = .ok (.iload_n 3, 1) := dk_29 (dk_at dksX3_applicantByScore_1 5 rfl rfl)
theorem dX3_applicantByScore_29 : decode cX3_applicantByScore 29 = .ok (.ifCond .eq 84, 3) := dk_153 0 84 (dk_at dksX3_applicantByScore_1 6 rfl rfl)
theorem dX3_applicantByScore_32 : decode cX3_applicantByScore 32 = .ok (.iconst 0, 1) := dk_3 (dk_at dksX3_applicantByScore_1 9 rfl rfl)
theorem dX3_applicantByScore_33 : decode cX3_applicantByScore 33 = .ok (.istore 5, 2) := dk_54 5 (dk_at dksX3_applicantByScore_1 10 rfl rfl)
theorem dX3_applicantByScore_35 : decode cX3_applicantByScore 35 = .ok (.iconst 0, 1) := dk_3 (dk_at dksX3_applicantByScore_1 12 rfl rfl)
theorem dX3_applicantByScore_36 : decode cX3_applicantByScore 36 = .ok (.istore 6, 2) := dk_54 6 (dk_at dksX3_applicantByScore_1 13 rfl rfl)
theorem dX3_applicantByScore_38 : decode cX3_applicantByScore 38 = .ok (.iload 6, 2) := dk_21 6 (dk_at dksX3_applicantByScore_1 15 rfl rfl)
theorem dX3_applicantByScore_40 : decode cX3_applicantByScore 40 = .ok (.bipush 10, 2) := dk_16 10 (dk_at dksX3_applicantByScore_1 17 rfl rfl)
theorem dX3_applicantByScore_42 : decode cX3_applicantByScore 42 = .ok (.if_icmp .ge 39, 3) := dk_162 0 39 (dk_at dksX3_applicantByScore_1 19 rfl rfl)
theorem dX3_applicantByScore_45 : decode cX3_applicantByScore 45 = .ok (.iload 5, 2) := dk_21 5 (dk_at dksX3_applicantByScore_1 22 rfl rfl)
theorem dX3_applicantByScore_47 : decode cX3_applicantByScore 47 = .ok (.aload_n 0, 1) := dk_42 (dk_at dksX3_applicantByScore_2 0 rfl rfl)
theorem dX3_applicantByScore_48 : decode cX3_applicantByScore 48 = .ok (.iload 6, 2) := dk_21 6 (dk_at dksX3_applicantByScore_2 1 rfl rfl)
theorem dX3_applicantByScore_50 : decode cX3_applicantByScore 50 = .ok (.invokevirtual 62, 3) := dk_182 0 62 (dk_at dksX3_applicantByScore_2 3 rfl rfl)
theorem dX3_applicantByScore_53 : decode cX3_applicantByScore 53 = .ok (.ifCond .eq 18, 3) := dk_153 0 18 (dk_at dksX3_applicantByScore_2 6 rfl rfl)
theorem dX3_applicantByScore_56 : decode cX3_applicantByScore 56 = .ok (.aload_n 0, 1) := dk_42 (dk_at dksX3_applicantByScore_2 9 rfl rfl)
theorem dX3_applicantByScore_57 : decode cX3_applicantByScore 57 = .ok (.iload 6, 2) := dk_21 6 (dk_at dksX3_applicantByScore_2 10 rfl rfl)
theorem dX3_applicantByScore_59 : decode cX3_applicantByScore 59 = .ok (.iload 4, 2) := dk_21 4 (dk_at dksX3_applicantByScore_2 12 rfl rfl)
theorem dX3_applicantByScore_61 : decode cX3_applicantByScore 61 = .ok (.invokevirtual 126, 3) := dk_182 0 126 (dk_at dksX3_applicantByScore_2 14 rfl rfl)
theorem dX3_applicantByScore_64 : decode cX3_applicantByScore 64 = .ok (.ifCond .eq 7, 3) := dk_153 0 7 (dk_at dksX3_applicantByScore_2 17 rfl rfl)
theorem dX3_applicantByScore_67 : decode cX3_applicantByScore 67 = .ok (.iconst 1, 1) := dk_4 (dk_at dksX3_applicantByScore_2 20 rfl rfl)
theorem dX3_applicantByScore_68 : decode cX3_applicantByScore 68 = .ok (.goto 4, 3) := dk_167 0 4 (dk_at dksX3_applicantByScore_2 21 rfl rfl)
theorem dX3_applicantByScore_71 : decode cX3_applicantByScore 71 = .ok (.iconst 0, 1) := dk_3 (dk_at dksX3_applicantByScore_3 0 rfl rfl)
theorem dX3_applicantByScore_72 : decode cX3_applicantByScore 72 = .ok (.iadd, 1) := dk_96 (dk_at dksX3_applicantByScore_3 1 rfl rfl)
theorem dX3_applicantByScore_73 : decode cX3_applicantByScore 73 = .ok (.istore 5, 2) := dk_54 5 (dk_at dksX3_applicantByScore_3 2 rfl rfl)
theorem dX3_applicantByScore_75 : decode cX3_applicantByScore 75 = .ok (.iinc 6 1, 3) := dk_132 6 1 (dk_at dksX3_applicantByScore_3 4 rfl rfl)
theorem dX3_applicantByScore_78 : decode cX3_applicantByScore 78 = .ok (.goto (-40), 3) := dk_167 255 216 (dk_at dksX3_applicantByScore_3 7 rfl rfl)
theorem dX3_applicantByScore_81 : decode cX3_applicantByScore 81 = .ok (.aload_n 0, 1) := dk_42 (dk_at dksX3_applicantByScore_3 10 rfl rfl)
theorem dX3_applicantByScore_82 : decode cX3_applicantByScore 82 = .ok (.iload 4, 2) := dk_21 4 (dk_at dksX3_applicantByScore_3 11 rfl rfl)
theorem dX3_applicantByScore_84 : decode cX3_applicantByScore 84 = .ok (.invokevirtual 62, 3) := dk_182 0 62 (dk_at dksX3_applicantByScore_3 13 rfl rfl)
theorem dX3_applicantByScore_87 : decode cX3_applicantByScore 87 = .ok (.ifCond .eq 18, 3) := dk_153 0 18 (dk_at dksX3_applicantByScore_3 16 rfl rfl)
theorem dX3_applicantByScore_90 : decode cX3_applicantByScore 90 = .ok (.iload 5, 2) := dk_21 5 (dk_at dksX3_applicantByScore_3 19 rfl rfl)
theorem dX3_applicantByScore_92 : decode cX3_applicantByScore 92 = .ok (.iload_n 1, 1) := dk_27 (dk_at dksX3_applicantByScore_3 21 rfl rfl)
theorem dX3_applicantByScore_93 : decode cX3_applicantByScore 93 = .ok (.if_icmp .ne 12, 3) := dk_160 0 12 (dk_at dksX3_applicantByScore_4 0 rfl rfl)
theorem dX3_applicantByScore_96 : decode cX3_applicantByScore 96 = .ok (.aload_n 0, 1) := dk_42 (dk_at dksX3_applicantByScore_4 3 rfl rfl)
theorem dX3_applicantByScore_97 : decode cX3_applicantByScore 97 = .ok (.iload 4, 2) := dk_21 4 (dk_at dksX3_applicantByScore_4 4 rfl rfl)
theorem dX3_applicantByScore_99 : decode cX3_applicantByScore 99 = .ok (.invokevirtual 76, 3) := dk_182 0 76 (dk_at dksX3_applicantByScore_4 6 rfl rfl)
theorem dX3_applicantByScore_102 : decode cX3_applicantByScore 102 = .ok (.goto 4, 3) := dk_167 0 4 (dk_at dksX3_applicantByScore_4 9 rfl rfl)
theorem dX3_applicantByScore_105 : decode cX3_applicantByScore 105 = .ok (.iload_n 2, 1) := dk_28 (dk_at dksX3_applicantByScore_4 12 rfl rfl)
theorem dX3_applicantByScore_106 : decode cX3_applicantByScore 106 = .ok (.istore_n 2, 1) := dk_61 (dk_at dksX3_applicantByScore_4 13 rfl rfl)
theorem dX3_applicantByScore_107 : decode cX3_applicantByScore 107 = .ok (.iinc 4 1, 3) := dk_132 4 1 (dk_at dksX3_applicantByScore_4 14 rfl rfl)
theorem dX3_applicantByScore_110 : decode cX3_applicantByScore 110 = .ok (.goto (-89), 3) := dk_167 255 167 (dk_at dksX3_applicantByScore_4 17 rfl rfl)
theorem dX3_applicantByScore_113 : decode cX3_applicantByScore 113 = .ok (.iload_n 2, 1) := dk_28 (dk_at dksX3_applicantByScore_4 20 rfl rfl)
theorem dX3_applicantByScore_114 : decode cX3_applicantByScore 114 = .ok (.ireturn, 1) := dk_172 (dk_at dksX3_applicantByScore_4 21 rfl rfl)
abbrev cX3_isBetter : ByteArray := prog_10_method_21_code
def yX3_isBetter : MethodName := ⟨RX3, "isBetter", "(II)Z"⟩
def dkwX3_isBetter_1 : List UInt8 := [182, 0, 76, 42, 28, 182, 0, 76, 162, 0, 7, 4, 167, 0, 4, 3, 172]
abbrev dktX3_isBetter_1 : List UInt8 := dkwX3_isBetter_1 ++ []
def dkwX3_isBetter_0 : List UInt8 := [42, 27, 182, 0, 73, 42, 28, 182, 0, 73, 100, 62, 29, 157, 0, 20, 29, 154, 0, 20, 42, 27]
abbrev dktX3_isBetter_0 : List UInt8 := dkwX3_isBetter_0 ++ dktX3_isBetter_1
theorem dksX3_isBetter_0 : cX3_isBetter.data.toList.drop 0 = dktX3_isBetter_0 := by decide +kernel
theorem dksX3_isBetter_1 : cX3_isBetter.data.toList.drop 22 = dktX3_isBetter_1 := dk_seg dksX3_isBetter_0 22 rfl rfl
theorem dX3_isBetter_0 : decode cX3_isBetter 0 = .ok (.aload_n 0, 1) := dk_42 (dk_at dksX3_isBetter_0 0 rfl rfl)
theorem dX3_isBetter_1 : decode cX3_isBetter 1 = .ok (.iload_n 1, 1) := dk_27 (dk_at dksX3_isBetter_0 1 rfl rfl)
theorem dX3_isBetter_2 : decode cX3_isBetter 2 = .ok (.invokevirtual 73, 3) := dk_182 0 73 (dk_at dksX3_isBetter_0 2 rfl rfl)
theorem dX3_isBetter_5 : decode cX3_isBetter 5 = .ok (.aload_n 0, 1) := dk_42 (dk_at dksX3_isBetter_0 5 rfl rfl)
theorem dX3_isBetter_6 : decode cX3_isBetter 6 = .ok (.iload_n 2, 1) := dk_28 (dk_at dksX3_isBetter_0 6 rfl rfl)
theorem dX3_isBetter_7 : decode cX3_isBetter 7 = .ok (.invokevirtual 73, 3) := dk_182 0 73 (dk_at dksX3_isBetter_0 7 rfl rfl)
theorem dX3_isBetter_10 : decode cX3_isBetter 10 = .ok (.isub, 1) := dk_100 (dk_at dksX3_isBetter_0 10 rfl rfl)
theorem dX3_isBetter_11 : decode cX3_isBetter 11 = .ok (.istore_n 3, 1) := dk_62 (dk_at dksX3_isBetter_0 11 rfl rfl)
theorem dX3_isBetter_12 : decode cX3_isBetter 12 = .ok (.iload_n 3, 1) := dk_29 (dk_at dksX3_isBetter_0 12 rfl rfl)
theorem dX3_isBetter_13 : decode cX3_isBetter 13 = .ok (.ifCond .gt 20, 3) := dk_157 0 20 (dk_at dksX3_isBetter_0 13 rfl rfl)
theorem dX3_isBetter_16 : decode cX3_isBetter 16 = .ok (.iload_n 3, 1) := dk_29 (dk_at dksX3_isBetter_0 16 rfl rfl)
theorem dX3_isBetter_17 : decode cX3_isBetter 17 = .ok (.ifCond .ne 20, 3) := dk_154 0 20 (dk_at dksX3_isBetter_0 17 rfl rfl)
theorem dX3_isBetter_20 : decode cX3_isBetter 20 = .ok (.aload_n 0, 1) := dk_42 (dk_at dksX3_isBetter_0 20 rfl rfl)
theorem dX3_isBetter_21 : decode cX3_isBetter 21 = .ok (.iload_n 1, 1) := dk_27 (dk_at dksX3_isBetter_0 21 rfl rfl)
theorem dX3_isBetter_22 : decode cX3_isBetter 22 = .ok (.invokevirtual 76, 3) := dk_182 0 76 (dk_at dksX3_isBetter_1 0 rfl rfl)
theorem dX3_isBetter_25 : decode cX3_isBetter 25 = .ok (.aload_n 0, 1) := dk_42 (dk_at dksX3_isBetter_1 3 rfl rfl)
theorem dX3_isBetter_26 : decode cX3_isBetter 26 = .ok (.iload_n 2, 1) := dk_28 (dk_at dksX3_isBetter_1 4 rfl rfl)
theorem dX3_isBetter_27 : decode cX3_isBetter 27 = .ok (.invokevirtual 76, 3) := dk_182 0 76 (dk_at dksX3_isBetter_1 5 rfl rfl)
theorem dX3_isBetter_30 : decode cX3_isBetter 30 = .ok (.if_icmp .ge 7, 3) := dk_162 0 7 (dk_at dksX3_isBetter_1 8 rfl rfl)
theorem dX3_isBetter_33 : decode cX3_isBetter 33 = .ok (.iconst 1, 1) := dk_4 (dk_at dksX3_isBetter_1 11 rfl rfl)
theorem dX3_isBetter_34 : decode cX3_isBetter 34 = .ok (.goto 4, 3) := dk_167 0 4 (dk_at dksX3_isBetter_1 12 rfl rfl)
theorem dX3_isBetter_37 : decode cX3_isBetter 37 = .ok (.iconst 0, 1) := dk_3 (dk_at dksX3_isBetter_1 15 rfl rfl)
theorem dX3_isBetter_38 : decode cX3_isBetter 38 = .ok (.ireturn, 1) := dk_172 (dk_at dksX3_isBetter_1 16 rfl rfl)
abbrev cX3_addReference : ByteArray := prog_10_method_44_code
def yX3_addReference : MethodName := ⟨RX3, "addReference", "(II)I"⟩
def dkwX3_addReference_0 : List UInt8 := [42, 182, 0, 93, 42, 42, 27, 28, 182, 0, 130, 182, 0, 100, 172]
abbrev dktX3_addReference_0 : List UInt8 := dkwX3_addReference_0 ++ []
theorem dksX3_addReference_0 : cX3_addReference.data.toList.drop 0 = dktX3_addReference_0 := by decide +kernel
theorem dX3_addReference_0 : decode cX3_addReference 0 = .ok (.aload_n 0, 1) := dk_42 (dk_at dksX3_addReference_0 0 rfl rfl)
theorem dX3_addReference_1 : decode cX3_addReference 1 = .ok (.invokevirtual 93, 3) := dk_182 0 93 (dk_at dksX3_addReference_0 1 rfl rfl)
theorem dX3_addReference_4 : decode cX3_addReference 4 = .ok (.aload_n 0, 1) := dk_42 (dk_at dksX3_addReference_0 4 rfl rfl)
theorem dX3_addReference_5 : decode cX3_addReference 5 = .ok (.aload_n 0, 1) := dk_42 (dk_at dksX3_addReference_0 5 rfl rfl)
theorem dX3_addReference_6 : decode cX3_addReference 6 = .ok (.iload_n 1, 1) := dk_27 (dk_at dksX3_addReference_0 6 rfl rfl)
theorem dX3_addReference_7 : decode cX3_addReference 7 = .ok (.iload_n 2, 1) := dk_28 (dk_at dksX3_addReference_0 7 rfl rfl)
theorem dX3_addReference_8 : decode cX3_addReference 8 = .ok (.invokevirtual 130, 3) := dk_182 0 130 (dk_at dksX3_addReference_0 8 rfl rfl)
theorem dX3_addReference_11 : decode cX3_addReference 11 = .ok (.invokevirtual 100, 3) := dk_182 0 100 (dk_at dksX3_addReference_0 11 rfl rfl)
theorem dX3_addReference_14 : decode cX3_addReference 14 = .ok (.ireturn, 1) := dk_172 (dk_at dksX3_addReference_0 14 rfl rfl)
abbrev cX3_doAddReference : ByteArray := prog_10_method_43_code
def yX3_doAddReference : MethodName := ⟨RX3, "doAddReference", "(II)I"⟩
def dkwX3_doAddReference_3 : List UInt8 := [120, 128, 182, 0, 89, 42, 21, 4, 8, 182, 0, 55, 184, 0, 70, 172]
abbrev dktX3_doAddReference_3 : List UInt8 := dkwX3_doAddReference_3 ++ []
def dkwX3_doAddReference_2 : List UInt8 := [21, 5, 29, 122, 4, 126, 4, 160, 0, 9, 42, 6, 182, 0, 82, 172, 42, 21, 4, 8, 21, 5, 4, 29]
abbrev dktX3_doAddReference_2 : List UInt8 := dkwX3_doAddReference_2 ++ dktX3_doAddReference_3
def dkwX3_doAddReference_1 : List UInt8 := [182, 0, 82, 172, 27, 28, 160, 0, 9, 42, 5, 182, 0, 82, 172, 42, 21, 4, 8, 182, 0, 55, 54, 5]
abbrev dktX3_doAddReference_1 : List UInt8 := dkwX3_doAddReference_1 ++ dktX3_doAddReference_2
def dkwX3_doAddReference_0 : List UInt8 := [42, 27, 182, 0, 103, 62, 42, 28, 182, 0, 103, 54, 4, 29, 155, 0, 8, 21, 4, 156, 0, 9, 42, 4]
abbrev dktX3_doAddReference_0 : List UInt8 := dkwX3_doAddReference_0 ++ dktX3_doAddReference_1
theorem dksX3_doAddReference_0 : cX3_doAddReference.data.toList.drop 0 = dktX3_doAddReference_0 := by decide +kernel
theorem dksX3_doAddReference_1 : cX3_doAddReference.data.toList.drop 24 = dktX3_doAddReference_1 := dk_seg dksX3_doAddReference_0 24 rfl rfl
theorem dksX3_doAddReference_2 : cX3_doAddReference.data.toList.drop 48 = dktX3_doAddReference_2 := dk_seg dksX3_doAddReference_1 24 rfl rfl
theorem dksX3_doAddReference_3 : cX3_doAddReference.data.toList.drop 72 = dktX3_doAddReference_3 := dk_seg dksX3_doAddReference_2 24 rfl rfl
theorem dX3_doAddReference_0 : decode cX3_doAddReference 0 = .ok (.aload_n 0, 1) := dk_42 (dk_at dksX3_doAddReference_0 0 rfl rfl)
theorem dX3_doAddReference_1 : decode cX3_doAddReference 1 = .ok (.iload_n 1, 1) := dk_27 (dk_at dksX3_doAddReference_0 1 rfl rfl)
theorem dX3_doAddReference_2 : decode cX3_doAddReference 2 = .ok (.invokevirtual 103, 3) := dk_182 0 103 (dk_at dksX3_doAddReference_0 2 rfl rfl)
theorem dX3_doAddReference_5 : decode cX3_doAddReference 5 = .ok (.istore_n 3, 1) := dk_62 (dk_at dksX3_doAddReference_0 5 rfl rfl)
theorem dX3_doAddReference_6 : decode cX3_doAddReference 6 = .ok (.aload_n 0, 1) := dk_42 (dk_at dksX3_doAddReference_0 6 rfl rfl)
theorem dX3_doAddReference_7 : decode cX3_doAddReference 7 = .ok (.iload_n 2, 1) := dk_28 (dk_at dksX3_doAddReference_0 7 rfl rfl)
theorem dX3_doAddReference_8 : decode cX3_doAddReference 8 = .ok (.invokevirtual 103, 3) := dk_182 0 103 (dk_at dksX3_doAddReference_0 8 rfl rfl)
theorem dX3_doAddReference_11 : decode cX3_doAddReference 11 = .ok (.istore 4, 2) := dk_54 4 (dk_at dksX3_doAddReference_0 11 rfl rfl)
theorem dX3_doAddReference_13 : decode cX3_doAddReference 13 = .ok (.iload_n 3, 1) := dk_29 (dk_at dksX3_doAddReference_0 13 rfl rfl)
theorem dX3_doAddReference_14 : decode cX3_doAddReference 14 = .ok (.ifCond .lt 8, 3) := dk_155 0 8 (dk_at dksX3_doAddReference_0 14 rfl rfl)
theorem dX3_doAddReference_17 : decode cX3_doAddReference 17 = .ok (.iload 4, 2) := dk_21 4 (dk_at dksX3_doAddReference_0 17 rfl rfl)
theorem dX3_doAddReference_19 : decode cX3_doAddReference 19 = .ok (.ifCond .ge 9, 3) := dk_156 0 9 (dk_at dksX3_doAddReference_0 19 rfl rfl)
theorem dX3_doAddReference_22 : decode cX3_doAddReference 22 = .ok (.aload_n 0, 1) := dk_42 (dk_at dksX3_doAddReference_0 22 rfl rfl)
theorem dX3_doAddReference_23 : decode cX3_doAddReference 23 = .ok (.iconst 1, 1) := dk_4 (dk_at dksX3_doAddReference_0 23 rfl rfl)
theorem dX3_doAddReference_24 : decode cX3_doAddReference 24 = .ok (.invokevirtual 82, 3) := dk_182 0 82 (dk_at dksX3_doAddReference_1 0 rfl rfl)
theorem dX3_doAddReference_27 : decode cX3_doAddReference 27 = .ok (.ireturn, 1) := dk_172 (dk_at dksX3_doAddReference_1 3 rfl rfl)
theorem dX3_doAddReference_28 : decode cX3_doAddReference 28 = .ok (.iload_n 1, 1) := dk_27 (dk_at dksX3_doAddReference_1 4 rfl rfl)
theorem dX3_doAddReference_29 : decode cX3_doAddReference 29 = .ok (.iload_n 2, 1) := dk_28 (dk_at dksX3_doAddReference_1 5 rfl rfl)
theorem dX3_doAddReference_30 : decode cX3_doAddReference 30 = .ok (.if_icmp .ne 9, 3) := dk_160 0 9 (dk_at dksX3_doAddReference_1 6 rfl rfl)
theorem dX3_doAddReference_33 : decode cX3_doAddReference 33 = .ok (.aload_n 0, 1) := dk_42 (dk_at dksX3_doAddReference_1 9 rfl rfl)
theorem dX3_doAddReference_34 : decode cX3_doAddReference 34 = .ok (.iconst 2, 1) := dk_5 (dk_at dksX3_doAddReference_1 10 rfl rfl)
theorem dX3_doAddReference_35 : decode cX3_doAddReference 35 = .ok (.invokevirtual 82, 3) := dk_182 0 82 (dk_at dksX3_doAddReference_1 11 rfl rfl)
theorem dX3_doAddReference_38 : decode cX3_doAddReference 38 = .ok (.ireturn, 1) := dk_172 (dk_at dksX3_doAddReference_1 14 rfl rfl)
theorem dX3_doAddReference_39 : decode cX3_doAddReference 39 = .ok (.aload_n 0, 1) := dk_42 (dk_at dksX3_doAddReference_1 15 rfl rfl)
theorem dX3_doAddReference_40 : decode cX3_doAddReference 40 = .ok (.iload 4, 2) := dk_21 4 (dk_at dksX3_doAddReference_1 16 rfl rfl)
theorem dX3_doAddReference_42 : decode cX3_doAddReference 42 = .ok (.iconst 5, 1) := dk_8 (dk_at dksX3_doAddReference_1 18 rfl rfl)
theorem dX3_doAddReference_43 : decode cX3_doAddReference 43 = .ok (.invokevirtual 55, 3) := dk_182 0 55 (dk_at dksX3_doAddReference_1 19 rfl rfl)
theorem dX3_doAddReference_46 : decode cX3_doAddReference 46 = .ok (.istore 5, 2) := dk_54 5 (dk_at dksX3_doAddReference_1 22 rfl rfl)
theorem dX3_doAddReference_48 : decode cX3_doAddReference 48 = .ok (.iload 5, 2) := dk_21 5 (dk_at dksX3_doAddReference_2 0 rfl rfl)
theorem dX3_doAddReference_50 : decode cX3_doAddReference 50 = .ok (.iload_n 3, 1) := dk_29 (dk_at dksX3_doAddReference_2 2 rfl rfl)
theorem dX3_doAddReference_51 : decode cX3_doAddReference 51 = .ok (.ishr, 1) := dk_122 (dk_at dksX3_doAddReference_2 3 rfl rfl)
theorem dX3_doAddReference_52 : decode cX3_doAddReference 52 = .ok (.iconst 1, 1) := dk_4 (dk_at dksX3_doAddReference_2 4 rfl rfl)
theorem dX3_doAddReference_53 : decode cX3_doAddReference 53 = .ok (.iand, 1) := dk_126 (dk_at dksX3_doAddReference_2 5 rfl rfl)
theorem dX3_doAddReference_54 : decode cX3_doAddReference 54 = .ok (.iconst 1, 1) := dk_4 (dk_at dksX3_doAddReference_2 6 rfl rfl)
theorem dX3_doAddReference_55 : decode cX3_doAddReference 55 = .ok (.if_icmp .ne 9, 3) := dk_160 0 9 (dk_at dksX3_doAddReference_2 7 rfl rfl)
theorem dX3_doAddReference_58 : decode cX3_doAddReference 58 = .ok (.aload_n 0, 1) := dk_42 (dk_at dksX3_doAddReference_2 10 rfl rfl)
theorem dX3_doAddReference_59 : decode cX3_doAddReference 59 = .ok (.iconst 3, 1) := dk_6 (dk_at dksX3_doAddReference_2 11 rfl rfl)
theorem dX3_doAddReference_60 : decode cX3_doAddReference 60 = .ok (.invokevirtual 82, 3) := dk_182 0 82 (dk_at dksX3_doAddReference_2 12 rfl rfl)
theorem dX3_doAddReference_63 : decode cX3_doAddReference 63 = .ok (.ireturn, 1) := dk_172 (dk_at dksX3_doAddReference_2 15 rfl rfl)
theorem dX3_doAddReference_64 : decode cX3_doAddReference 64 = .ok (.aload_n 0, 1) := dk_42 (dk_at dksX3_doAddReference_2 16 rfl rfl)
theorem dX3_doAddReference_65 : decode cX3_doAddReference 65 = .ok (.iload 4, 2) := dk_21 4 (dk_at dksX3_doAddReference_2 17 rfl rfl)
theorem dX3_doAddReference_67 : decode cX3_doAddReference 67 = .ok (.iconst 5, 1) := dk_8 (dk_at dksX3_doAddReference_2 19 rfl rfl)
theorem dX3_doAddReference_68 : decode cX3_doAddReference 68 = .ok (.iload 5, 2) := dk_21 5 (dk_at dksX3_doAddReference_2 20 rfl rfl)
theorem dX3_doAddReference_70 : decode cX3_doAddReference 70 = .ok (.iconst 1, 1) := dk_4 (dk_at dksX3_doAddReference_2 22 rfl rfl)
theorem dX3_doAddReference_71 : decode cX3_doAddReference 71 = .ok (.iload_n 3, 1) := dk_29 (dk_at dksX3_doAddReference_2 23 rfl rfl)
theorem dX3_doAddReference_72 : decode cX3_doAddReference 72 = .ok (.ishl, 1) := dk_120 (dk_at dksX3_doAddReference_3 0 rfl rfl)
theorem dX3_doAddReference_73 : decode cX3_doAddReference 73 = .ok (.ior, 1) := dk_128 (dk_at dksX3_doAddReference_3 1 rfl rfl)
theorem dX3_doAddReference_74 : decode cX3_doAddReference 74 = .ok (.invokevirtual 89, 3) := dk_182 0 89 (dk_at dksX3_doAddReference_3 2 rfl rfl)
theorem dX3_doAddReference_77 : decode cX3_doAddReference 77 = .ok (.aload_n 0, 1) := dk_42 (dk_at dksX3_doAddReference_3 5 rfl rfl)
theorem dX3_doAddReference_78 : decode cX3_doAddReference 78 = .ok (.iload 4, 2) := dk_21 4 (dk_at dksX3_doAddReference_3 6 rfl rfl)
theorem dX3_doAddReference_80 : decode cX3_doAddReference 80 = .ok (.iconst 5, 1) := dk_8 (dk_at dksX3_doAddReference_3 8 rfl rfl)
theorem dX3_doAddReference_81 : decode cX3_doAddReference 81 = .ok (.invokevirtual 55, 3) := dk_182 0 55 (dk_at dksX3_doAddReference_3 9 rfl rfl)
theorem dX3_doAddReference_84 : decode cX3_doAddReference 84 = .ok (.invokestatic 70, 3) := dk_184 0 70 (dk_at dksX3_doAddReference_3 12 rfl rfl)
theorem dX3_doAddReference_87 : decode cX3_doAddReference 87 = .ok (.ireturn, 1) := dk_172 (dk_at dksX3_doAddReference_3 15 rfl rfl)
abbrev cX3_removeReference : ByteArray := prog_10_method_47_code
def yX3_removeReference : MethodName := ⟨RX3, "removeReference", "(II)I"⟩
def dkwX3_removeReference_0 : List UInt8 := [42, 182, 0, 93, 42, 42, 27, 28, 182, 0, 136, 182, 0, 100, 172]
abbrev dktX3_removeReference_0 : List UInt8 := dkwX3_removeReference_0 ++ []
theorem dksX3_removeReference_0 : cX3_removeReference.data.toList.drop 0 = dktX3_removeReference_0 := by decide +kernel
theorem dX3_removeReference_0 : decode cX3_removeReference 0 = .ok (.aload_n 0, 1) := dk_42 (dk_at dksX3_removeReference_0 0 rfl rfl)
theorem dX3_removeReference_1 : decode cX3_removeReference 1 = .ok (.invokevirtual 93, 3) := dk_182 0 93 (dk_at dksX3_removeReference_0 1 rfl rfl)
theorem dX3_removeReference_4 : decode cX3_removeReference 4 = .ok (.aload_n 0, 1) := dk_42 (dk_at dksX3_removeReference_0 4 rfl rfl)
theorem dX3_removeReference_5 : decode cX3_removeReference 5 = .ok (.aload_n 0, 1) := dk_42 (dk_at dksX3_removeReference_0 5 rfl rfl)
theorem dX3_removeReference_6 : decode cX3_removeReference 6 = .ok (.iload_n 1, 1) := dk_27 (dk_at dksX3_removeReference_0 6 rfl rfl)
theorem dX3_removeReference_7 : decode cX3_removeReference 7 = .ok (.iload_n 2, 1) := dk_28 (dk_at dksX3_removeReference_0 7 rfl rfl)
theorem dX3_removeReference_8 : decode cX3_removeReference 8 = .ok (.invokevirtual 136, 3) := dk_182 0 136 (dk_at dksX3_removeReference_0 8 rfl rfl)
theorem dX3_removeReference_11 : decode cX3_removeReference 11 = .ok (.invokevirtual 100, 3) := dk_182 0 100 (dk_at dksX3_removeReference_0 11 rfl rfl)
theorem dX3_removeReference_14 : decode cX3_removeReference 14 = .ok (.ireturn, 1) := dk_172 (dk_at dksX3_removeReference_0 14 rfl rfl)
abbrev cX3_doRemoveReference : ByteArray := prog_10_method_46_code
def yX3_doRemoveReference : MethodName := ⟨RX3, "doRemoveReference", "(II)I"⟩
def dkwX3_doRemoveReference_2 : List UInt8 := [182, 0, 55, 184, 0, 70, 172]
abbrev dktX3_doRemoveReference_2 : List UInt8 := dkwX3_doRemoveReference_2 ++ []
def dkwX3_doRemoveReference_1 : List UInt8 := [42, 29, 8, 182, 0, 55, 4, 42, 27, 182, 0, 103, 120, 2, 130, 126, 182, 0, 89, 42, 29, 8]
abbrev dktX3_doRemoveReference_1 : List UInt8 := dkwX3_doRemoveReference_1 ++ dktX3_doRemoveReference_2
def dkwX3_doRemoveReference_0 : List UInt8 := [42, 27, 28, 182, 0, 133, 154, 0, 9, 42, 4, 182, 0, 82, 172, 42, 28, 182, 0, 103, 62, 42, 29, 8]
abbrev dktX3_doRemoveReference_0 : List UInt8 := dkwX3_doRemoveReference_0 ++ dktX3_doRemoveReference_1
theorem dksX3_doRemoveReference_0 : cX3_doRemoveReference.data.toList.drop 0 = dktX3_doRemoveReference_0 := by decide +kernel
theorem dksX3_doRemoveReference_1 : cX3_doRemoveReference.data.toList.drop 24 = dktX3_doRemoveReference_1 := dk_seg dksX3_doRemoveReference_0 24 rfl rfl
theorem dksX3_doRemoveReference_2 : cX3_doRemoveReference.data.toList.drop 46 = dktX3_doRemoveReference_2 := dk_seg dksX3_doRemoveReference_1 22 rfl rfl
theorem dX3_doRemoveReference_0 : decode cX3_doRemoveReference 0 = .ok (.aload_n 0, 1) := dk_42 (dk_at dksX3_doRemoveReference_0 0 rfl rfl)
theorem dX3_doRemoveReference_1 : decode cX3_doRemoveReference 1 = .ok (.iload_n 1, 1) := dk_27 (dk_at dksX3_doRemoveReference_0 1 rfl rfl)
theorem dX3_doRemoveReference_2 : decode cX3_doRemoveReference 2 = .ok (.iload_n 2, 1) := dk_28 (dk_at dksX3_doRemoveReference_0 2 rfl rfl)
theorem dX3_doRemoveReference_3 : decode cX3_doRemoveReference 3 = .ok (.invokevirtual 133, 3) := dk_182 0 133 (dk_at dksX3_doRemoveReference_0 3 rfl rfl)
theorem dX3_doRemoveReference_6 : decode cX3_doRemoveReference 6 = .ok (.ifCond .ne 9, 3) := dk_154 0 9 (dk_at dksX3_doRemoveReference_0 6 rfl rfl)
theorem dX3_doRemoveReference_9 : decode cX3_doRemoveReference 9 = .ok (.aload_n 0, 1) := dk_42 (dk_at dksX3_doRemoveReference_0 9 rfl rfl)
theorem dX3_doRemoveReference_10 : decode cX3_doRemoveReference 10 = .ok (.iconst 1, 1) := dk_4 (dk_at dksX3_doRemoveReference_0 10 rfl rfl)
theorem dX3_doRemoveReference_11 : decode cX3_doRemoveReference 11 = .ok (.invokevirtual 82, 3) := dk_182 0 82 (dk_at dksX3_doRemoveReference_0 11 rfl rfl)
theorem dX3_doRemoveReference_14 : decode cX3_doRemoveReference 14 = .ok (.ireturn, 1) := dk_172 (dk_at dksX3_doRemoveReference_0 14 rfl rfl)
theorem dX3_doRemoveReference_15 : decode cX3_doRemoveReference 15 = .ok (.aload_n 0, 1) := dk_42 (dk_at dksX3_doRemoveReference_0 15 rfl rfl)
theorem dX3_doRemoveReference_16 : decode cX3_doRemoveReference 16 = .ok (.iload_n 2, 1) := dk_28 (dk_at dksX3_doRemoveReference_0 16 rfl rfl)
theorem dX3_doRemoveReference_17 : decode cX3_doRemoveReference 17 = .ok (.invokevirtual 103, 3) := dk_182 0 103 (dk_at dksX3_doRemoveReference_0 17 rfl rfl)
theorem dX3_doRemoveReference_20 : decode cX3_doRemoveReference 20 = .ok (.istore_n 3, 1) := dk_62 (dk_at dksX3_doRemoveReference_0 20 rfl rfl)
theorem dX3_doRemoveReference_21 : decode cX3_doRemoveReference 21 = .ok (.aload_n 0, 1) := dk_42 (dk_at dksX3_doRemoveReference_0 21 rfl rfl)
theorem dX3_doRemoveReference_22 : decode cX3_doRemoveReference 22 = .ok (.iload_n 3, 1) := dk_29 (dk_at dksX3_doRemoveReference_0 22 rfl rfl)
theorem dX3_doRemoveReference_23 : decode cX3_doRemoveReference 23 = .ok (.iconst 5, 1) := dk_8 (dk_at dksX3_doRemoveReference_0 23 rfl rfl)
theorem dX3_doRemoveReference_24 : decode cX3_doRemoveReference 24 = .ok (.aload_n 0, 1) := dk_42 (dk_at dksX3_doRemoveReference_1 0 rfl rfl)
theorem dX3_doRemoveReference_25 : decode cX3_doRemoveReference 25 = .ok (.iload_n 3, 1) := dk_29 (dk_at dksX3_doRemoveReference_1 1 rfl rfl)
theorem dX3_doRemoveReference_26 : decode cX3_doRemoveReference 26 = .ok (.iconst 5, 1) := dk_8 (dk_at dksX3_doRemoveReference_1 2 rfl rfl)
theorem dX3_doRemoveReference_27 : decode cX3_doRemoveReference 27 = .ok (.invokevirtual 55, 3) := dk_182 0 55 (dk_at dksX3_doRemoveReference_1 3 rfl rfl)
theorem dX3_doRemoveReference_30 : decode cX3_doRemoveReference 30 = .ok (.iconst 1, 1) := dk_4 (dk_at dksX3_doRemoveReference_1 6 rfl rfl)
theorem dX3_doRemoveReference_31 : decode cX3_doRemoveReference 31 = .ok (.aload_n 0, 1) := dk_42 (dk_at dksX3_doRemoveReference_1 7 rfl rfl)
theorem dX3_doRemoveReference_32 : decode cX3_doRemoveReference 32 = .ok (.iload_n 1, 1) := dk_27 (dk_at dksX3_doRemoveReference_1 8 rfl rfl)
theorem dX3_doRemoveReference_33 : decode cX3_doRemoveReference 33 = .ok (.invokevirtual 103, 3) := dk_182 0 103 (dk_at dksX3_doRemoveReference_1 9 rfl rfl)
theorem dX3_doRemoveReference_36 : decode cX3_doRemoveReference 36 = .ok (.ishl, 1) := dk_120 (dk_at dksX3_doRemoveReference_1 12 rfl rfl)
theorem dX3_doRemoveReference_37 : decode cX3_doRemoveReference 37 = .ok (.iconst (-1), 1) := dk_2 (dk_at dksX3_doRemoveReference_1 13 rfl rfl)
theorem dX3_doRemoveReference_38 : decode cX3_doRemoveReference 38 = .ok (.ixor, 1) := dk_130 (dk_at dksX3_doRemoveReference_1 14 rfl rfl)
theorem dX3_doRemoveReference_39 : decode cX3_doRemoveReference 39 = .ok (.iand, 1) := dk_126 (dk_at dksX3_doRemoveReference_1 15 rfl rfl)
theorem dX3_doRemoveReference_40 : decode cX3_doRemoveReference 40 = .ok (.invokevirtual 89, 3) := dk_182 0 89 (dk_at dksX3_doRemoveReference_1 16 rfl rfl)
theorem dX3_doRemoveReference_43 : decode cX3_doRemoveReference 43 = .ok (.aload_n 0, 1) := dk_42 (dk_at dksX3_doRemoveReference_1 19 rfl rfl)
theorem dX3_doRemoveReference_44 : decode cX3_doRemoveReference 44 = .ok (.iload_n 3, 1) := dk_29 (dk_at dksX3_doRemoveReference_1 20 rfl rfl)
theorem dX3_doRemoveReference_45 : decode cX3_doRemoveReference 45 = .ok (.iconst 5, 1) := dk_8 (dk_at dksX3_doRemoveReference_1 21 rfl rfl)
theorem dX3_doRemoveReference_46 : decode cX3_doRemoveReference 46 = .ok (.invokevirtual 55, 3) := dk_182 0 55 (dk_at dksX3_doRemoveReference_2 0 rfl rfl)
theorem dX3_doRemoveReference_49 : decode cX3_doRemoveReference 49 = .ok (.invokestatic 70, 3) := dk_184 0 70 (dk_at dksX3_doRemoveReference_2 3 rfl rfl)
theorem dX3_doRemoveReference_52 : decode cX3_doRemoveReference 52 = .ok (.ireturn, 1) := dk_172 (dk_at dksX3_doRemoveReference_2 6 rfl rfl)
abbrev cX3_isGiven : ByteArray := prog_10_method_45_code
def yX3_isGiven : MethodName := ⟨RX3, "isGiven", "(II)Z"⟩
def dkwX3_isGiven_1 : List UInt8 := [21, 4, 8, 182, 0, 55, 29, 122, 4, 126, 4, 160, 0, 7, 4, 167, 0, 4, 3, 172]
abbrev dktX3_isGiven_1 : List UInt8 := dkwX3_isGiven_1 ++ []
def dkwX3_isGiven_0 : List UInt8 := [42, 27, 182, 0, 103, 62, 42, 28, 182, 0, 103, 54, 4, 29, 155, 0, 27, 21, 4, 155, 0, 22, 42]
abbrev dktX3_isGiven_0 : List UInt8 := dkwX3_isGiven_0 ++ dktX3_isGiven_1
theorem dksX3_isGiven_0 : cX3_isGiven.data.toList.drop 0 = dktX3_isGiven_0 := by decide +kernel
theorem dksX3_isGiven_1 : cX3_isGiven.data.toList.drop 23 = dktX3_isGiven_1 := dk_seg dksX3_isGiven_0 23 rfl rfl
theorem dX3_isGiven_0 : decode cX3_isGiven 0 = .ok (.aload_n 0, 1) := dk_42 (dk_at dksX3_isGiven_0 0 rfl rfl)
theorem dX3_isGiven_1 : decode cX3_isGiven 1 = .ok (.iload_n 1, 1) := dk_27 (dk_at dksX3_isGiven_0 1 rfl rfl)
theorem dX3_isGiven_2 : decode cX3_isGiven 2 = .ok (.invokevirtual 103, 3) := dk_182 0 103 (dk_at dksX3_isGiven_0 2 rfl rfl)
theorem dX3_isGiven_5 : decode cX3_isGiven 5 = .ok (.istore_n 3, 1) := dk_62 (dk_at dksX3_isGiven_0 5 rfl rfl)
theorem dX3_isGiven_6 : decode cX3_isGiven 6 = .ok (.aload_n 0, 1) := dk_42 (dk_at dksX3_isGiven_0 6 rfl rfl)
theorem dX3_isGiven_7 : decode cX3_isGiven 7 = .ok (.iload_n 2, 1) := dk_28 (dk_at dksX3_isGiven_0 7 rfl rfl)
theorem dX3_isGiven_8 : decode cX3_isGiven 8 = .ok (.invokevirtual 103, 3) := dk_182 0 103 (dk_at dksX3_isGiven_0 8 rfl rfl)
theorem dX3_isGiven_11 : decode cX3_isGiven 11 = .ok (.istore 4, 2) := dk_54 4 (dk_at dksX3_isGiven_0 11 rfl rfl)
theorem dX3_isGiven_13 : decode cX3_isGiven 13 = .ok (.iload_n 3, 1) := dk_29 (dk_at dksX3_isGiven_0 13 rfl rfl)
theorem dX3_isGiven_14 : decode cX3_isGiven 14 = .ok (.ifCond .lt 27, 3) := dk_155 0 27 (dk_at dksX3_isGiven_0 14 rfl rfl)
theorem dX3_isGiven_17 : decode cX3_isGiven 17 = .ok (.iload 4, 2) := dk_21 4 (dk_at dksX3_isGiven_0 17 rfl rfl)
theorem dX3_isGiven_19 : decode cX3_isGiven 19 = .ok (.ifCond .lt 22, 3) := dk_155 0 22 (dk_at dksX3_isGiven_0 19 rfl rfl)
theorem dX3_isGiven_22 : decode cX3_isGiven 22 = .ok (.aload_n 0, 1) := dk_42 (dk_at dksX3_isGiven_0 22 rfl rfl)
theorem dX3_isGiven_23 : decode cX3_isGiven 23 = .ok (.iload 4, 2) := dk_21 4 (dk_at dksX3_isGiven_1 0 rfl rfl)
theorem dX3_isGiven_25 : decode cX3_isGiven 25 = .ok (.iconst 5, 1) := dk_8 (dk_at dksX3_isGiven_1 2 rfl rfl)
theorem dX3_isGiven_26 : decode cX3_isGiven 26 = .ok (.invokevirtual 55, 3) := dk_182 0 55 (dk_at dksX3_isGiven_1 3 rfl rfl)
theorem dX3_isGiven_29 : decode cX3_isGiven 29 = .ok (.iload_n 3, 1) := dk_29 (dk_at dksX3_isGiven_1 6 rfl rfl)
theorem dX3_isGiven_30 : decode cX3_isGiven 30 = .ok (.ishr, 1) := dk_122 (dk_at dksX3_isGiven_1 7 rfl rfl)
theorem dX3_isGiven_31 : decode cX3_isGiven 31 = .ok (.iconst 1, 1) := dk_4 (dk_at dksX3_isGiven_1 8 rfl rfl)
theorem dX3_isGiven_32 : decode cX3_isGiven 32 = .ok (.iand, 1) := dk_126 (dk_at dksX3_isGiven_1 9 rfl rfl)
theorem dX3_isGiven_33 : decode cX3_isGiven 33 = .ok (.iconst 1, 1) := dk_4 (dk_at dksX3_isGiven_1 10 rfl rfl)
theorem dX3_isGiven_34 : decode cX3_isGiven 34 = .ok (.if_icmp .ne 7, 3) := dk_160 0 7 (dk_at dksX3_isGiven_1 11 rfl rfl)
theorem dX3_isGiven_37 : decode cX3_isGiven 37 = .ok (.iconst 1, 1) := dk_4 (dk_at dksX3_isGiven_1 14 rfl rfl)
theorem dX3_isGiven_38 : decode cX3_isGiven 38 = .ok (.goto 4, 3) := dk_167 0 4 (dk_at dksX3_isGiven_1 15 rfl rfl)
theorem dX3_isGiven_41 : decode cX3_isGiven 41 = .ok (.iconst 0, 1) := dk_3 (dk_at dksX3_isGiven_1 18 rfl rfl)
theorem dX3_isGiven_42 : decode cX3_isGiven 42 = .ok (.ireturn, 1) := dk_172 (dk_at dksX3_isGiven_1 19 rfl rfl)
abbrev cX3_hasReference : ByteArray := prog_10_method_48_code
def yX3_hasReference : MethodName := ⟨RX3, "hasReference", "(II)Z"⟩
def dkwX3_hasReference_1 : List UInt8 := [182, 0, 119, 153, 0, 16, 42, 27, 28, 182, 0, 133, 153, 0, 7, 4, 167, 0, 4, 3, 172]
abbrev dktX3_hasReference_1 : List UInt8 := dkwX3_hasReference_1 ++ []
def dkwX3_hasReference_0 : List UInt8 := [42, 42, 27, 182, 0, 103, 155, 0, 15, 42, 28, 182, 0, 103, 155, 0, 7, 4, 167, 0, 4, 3]
abbrev dktX3_hasReference_0 : List UInt8 := dkwX3_hasReference_0 ++ dktX3_hasReference_1
theorem dksX3_hasReference_0 : cX3_hasReference.data.toList.drop 0 = dktX3_hasReference_0 := by decide +kernel
theorem dksX3_hasReference_1 : cX3_hasReference.data.toList.drop 22 = dktX3_hasReference_1 := dk_seg dksX3_hasReference_0 22 rfl rfl
theorem dX3_hasReference_0 : decode cX3_hasReference 0 = .ok (.aload_n 0, 1) := dk_42 (dk_at dksX3_hasReference_0 0 rfl rfl)
theorem dX3_hasReference_1 : decode cX3_hasReference 1 = .ok (.aload_n 0, 1) := dk_42 (dk_at dksX3_hasReference_0 1 rfl rfl)
theorem dX3_hasReference_2 : decode cX3_hasReference 2 = .ok (.iload_n 1, 1) := dk_27 (dk_at dksX3_hasReference_0 2 rfl rfl)
theorem dX3_hasReference_3 : decode cX3_hasReference 3 = .ok (.invokevirtual 103, 3) := dk_182 0 103 (dk_at dksX3_hasReference_0 3 rfl rfl)
theorem dX3_hasReference_6 : decode cX3_hasReference 6 = .ok (.ifCond .lt 15, 3) := dk_155 0 15 (dk_at dksX3_hasReference_0 6 rfl rfl)
theorem dX3_hasReference_9 : decode cX3_hasReference 9 = .ok (.aload_n 0, 1) := dk_42 (dk_at dksX3_hasReference_0 9 rfl rfl)
theorem dX3_hasReference_10 : decode cX3_hasReference 10 = .ok (.iload_n 2, 1) := dk_28 (dk_at dksX3_hasReference_0 10 rfl rfl)
theorem dX3_hasReference_11 : decode cX3_hasReference 11 = .ok (.invokevirtual 103, 3) := dk_182 0 103 (dk_at dksX3_hasReference_0 11 rfl rfl)
theorem dX3_hasReference_14 : decode cX3_hasReference 14 = .ok (.ifCond .lt 7, 3) := dk_155 0 7 (dk_at dksX3_hasReference_0 14 rfl rfl)
theorem dX3_hasReference_17 : decode cX3_hasReference 17 = .ok (.iconst 1, 1) := dk_4 (dk_at dksX3_hasReference_0 17 rfl rfl)
theorem dX3_hasReference_18 : decode cX3_hasReference 18 = .ok (.goto 4, 3) := dk_167 0 4 (dk_at dksX3_hasReference_0 18 rfl rfl)
theorem dX3_hasReference_21 : decode cX3_hasReference 21 = .ok (.iconst 0, 1) := dk_3 (dk_at dksX3_hasReference_0 21 rfl rfl)
theorem dX3_hasReference_22 : decode cX3_hasReference 22 = .ok (.invokevirtual 119, 3) := dk_182 0 119 (dk_at dksX3_hasReference_1 0 rfl rfl)
theorem dX3_hasReference_25 : decode cX3_hasReference 25 = .ok (.ifCond .eq 16, 3) := dk_153 0 16 (dk_at dksX3_hasReference_1 3 rfl rfl)
theorem dX3_hasReference_28 : decode cX3_hasReference 28 = .ok (.aload_n 0, 1) := dk_42 (dk_at dksX3_hasReference_1 6 rfl rfl)
theorem dX3_hasReference_29 : decode cX3_hasReference 29 = .ok (.iload_n 1, 1) := dk_27 (dk_at dksX3_hasReference_1 7 rfl rfl)
theorem dX3_hasReference_30 : decode cX3_hasReference 30 = .ok (.iload_n 2, 1) := dk_28 (dk_at dksX3_hasReference_1 8 rfl rfl)
theorem dX3_hasReference_31 : decode cX3_hasReference 31 = .ok (.invokevirtual 133, 3) := dk_182 0 133 (dk_at dksX3_hasReference_1 9 rfl rfl)
theorem dX3_hasReference_34 : decode cX3_hasReference 34 = .ok (.ifCond .eq 7, 3) := dk_153 0 7 (dk_at dksX3_hasReference_1 12 rfl rfl)
theorem dX3_hasReference_37 : decode cX3_hasReference 37 = .ok (.iconst 1, 1) := dk_4 (dk_at dksX3_hasReference_1 15 rfl rfl)
theorem dX3_hasReference_38 : decode cX3_hasReference 38 = .ok (.goto 4, 3) := dk_167 0 4 (dk_at dksX3_hasReference_1 16 rfl rfl)
theorem dX3_hasReference_41 : decode cX3_hasReference 41 = .ok (.iconst 0, 1) := dk_3 (dk_at dksX3_hasReference_1 19 rfl rfl)
theorem dX3_hasReference_42 : decode cX3_hasReference 42 = .ok (.ireturn, 1) := dk_172 (dk_at dksX3_hasReference_1 20 rfl rfl)
abbrev cX3_referencesFor : ByteArray := prog_10_method_49_code
def yX3_referencesFor : MethodName := ⟨RX3, "referencesFor", "(I)I"⟩
def dkwX3_referencesFor_1 : List UInt8 := [8, 182, 0, 55, 184, 0, 70, 167, 0, 4, 3, 172]
abbrev dktX3_referencesFor_1 : List UInt8 := dkwX3_referencesFor_1 ++ []
def dkwX3_referencesFor_0 : List UInt8 := [42, 27, 182, 0, 103, 61, 42, 28, 155, 0, 7, 4, 167, 0, 4, 3, 182, 0, 119, 153, 0, 15, 42, 28]
abbrev dktX3_referencesFor_0 : List UInt8 := dkwX3_referencesFor_0 ++ dktX3_referencesFor_1
theorem dksX3_referencesFor_0 : cX3_referencesFor.data.toList.drop 0 = dktX3_referencesFor_0 := by decide +kernel
theorem dksX3_referencesFor_1 : cX3_referencesFor.data.toList.drop 24 = dktX3_referencesFor_1 := dk_seg dksX3_referencesFor_0 24 rfl rfl
theorem dX3_referencesFor_0 : decode cX3_referencesFor 0 = .ok (.aload_n 0, 1) := dk_42 (dk_at dksX3_referencesFor_0 0 rfl rfl)
theorem dX3_referencesFor_1 : decode cX3_referencesFor 1 = .ok (.iload_n 1, 1) := dk_27 (dk_at dksX3_referencesFor_0 1 rfl rfl)
theorem dX3_referencesFor_2 : decode cX3_referencesFor 2 = .ok (.invokevirtual 103, 3) := dk_182 0 103 (dk_at dksX3_referencesFor_0 2 rfl rfl)
theorem dX3_referencesFor_5 : decode cX3_referencesFor 5 = .ok (.istore_n 2, 1) := dk_61 (dk_at dksX3_referencesFor_0 5 rfl rfl)
theorem dX3_referencesFor_6 : decode cX3_referencesFor 6 = .ok (.aload_n 0, 1) := dk_42 (dk_at dksX3_referencesFor_0 6 rfl rfl)
theorem dX3_referencesFor_7 : decode cX3_referencesFor 7 = .ok (.iload_n 2, 1) := dk_28 (dk_at dksX3_referencesFor_0 7 rfl rfl)
theorem dX3_referencesFor_8 : decode cX3_referencesFor 8 = .ok (.ifCond .lt 7, 3) := dk_155 0 7 (dk_at dksX3_referencesFor_0 8 rfl rfl)
theorem dX3_referencesFor_11 : decode cX3_referencesFor 11 = .ok (.iconst 1, 1) := dk_4 (dk_at dksX3_referencesFor_0 11 rfl rfl)
theorem dX3_referencesFor_12 : decode cX3_referencesFor 12 = .ok (.goto 4, 3) := dk_167 0 4 (dk_at dksX3_referencesFor_0 12 rfl rfl)
theorem dX3_referencesFor_15 : decode cX3_referencesFor 15 = .ok (.iconst 0, 1) := dk_3 (dk_at dksX3_referencesFor_0 15 rfl rfl)
theorem dX3_referencesFor_16 : decode cX3_referencesFor 16 = .ok (.invokevirtual 119, 3) := dk_182 0 119 (dk_at dksX3_referencesFor_0 16 rfl rfl)
theorem dX3_referencesFor_19 : decode cX3_referencesFor 19 = .ok (.ifCond .eq 15, 3) := dk_153 0 15 (dk_at dksX3_referencesFor_0 19 rfl rfl)
theorem dX3_referencesFor_22 : decode cX3_referencesFor 22 = .ok (.aload_n 0, 1) := dk_42 (dk_at dksX3_referencesFor_0 22 rfl rfl)
theorem dX3_referencesFor_23 : decode cX3_referencesFor 23 = .ok (.iload_n 2, 1) := dk_28 (dk_at dksX3_referencesFor_0 23 rfl rfl)
theorem dX3_referencesFor_24 : decode cX3_referencesFor 24 = .ok (.iconst 5, 1) := dk_8 (dk_at dksX3_referencesFor_1 0 rfl rfl)
theorem dX3_referencesFor_25 : decode cX3_referencesFor 25 = .ok (.invokevirtual 55, 3) := dk_182 0 55 (dk_at dksX3_referencesFor_1 1 rfl rfl)
theorem dX3_referencesFor_28 : decode cX3_referencesFor 28 = .ok (.invokestatic 70, 3) := dk_184 0 70 (dk_at dksX3_referencesFor_1 4 rfl rfl)
theorem dX3_referencesFor_31 : decode cX3_referencesFor 31 = .ok (.goto 4, 3) := dk_167 0 4 (dk_at dksX3_referencesFor_1 7 rfl rfl)
theorem dX3_referencesFor_34 : decode cX3_referencesFor 34 = .ok (.iconst 0, 1) := dk_3 (dk_at dksX3_referencesFor_1 10 rfl rfl)
theorem dX3_referencesFor_35 : decode cX3_referencesFor 35 = .ok (.ireturn, 1) := dk_172 (dk_at dksX3_referencesFor_1 11 rfl rfl)
abbrev cX3_referencesFrom : ByteArray := prog_10_method_50_code
def yX3_referencesFrom : MethodName := ⟨RX3, "referencesFrom", "(I)I"⟩
def dkwX3_referencesFrom_2 : List UInt8 := [4, 126, 96, 62, 132, 5, 1, 167, 255, 227, 29, 172]
abbrev dktX3_referencesFrom_2 : List UInt8 := dkwX3_referencesFrom_2 ++ []
def dkwX3_referencesFrom_1 : List UInt8 := [54, 5, 21, 5, 16, 10, 162, 0, 28, 21, 4, 153, 0, 23, 29, 42, 21, 5, 8, 182, 0, 55, 28, 122]
abbrev dktX3_referencesFrom_1 : List UInt8 := dkwX3_referencesFrom_1 ++ dktX3_referencesFrom_2
def dkwX3_referencesFrom_0 : List UInt8 := [42, 27, 182, 0, 103, 61, 3, 62, 42, 28, 155, 0, 7, 4, 167, 0, 4, 3, 182, 0, 119, 54, 4, 3]
abbrev dktX3_referencesFrom_0 : List UInt8 := dkwX3_referencesFrom_0 ++ dktX3_referencesFrom_1
theorem dksX3_referencesFrom_0 : cX3_referencesFrom.data.toList.drop 0 = dktX3_referencesFrom_0 := by decide +kernel
theorem dksX3_referencesFrom_1 : cX3_referencesFrom.data.toList.drop 24 = dktX3_referencesFrom_1 := dk_seg dksX3_referencesFrom_0 24 rfl rfl
theorem dksX3_referencesFrom_2 : cX3_referencesFrom.data.toList.drop 48 = dktX3_referencesFrom_2 := dk_seg dksX3_referencesFrom_1 24 rfl rfl
theorem dX3_referencesFrom_0 : decode cX3_referencesFrom 0 = .ok (.aload_n 0, 1) := dk_42 (dk_at dksX3_referencesFrom_0 0 rfl rfl)
theorem dX3_referencesFrom_1 : decode cX3_referencesFrom 1 = .ok (.iload_n 1, 1) := dk_27 (dk_at dksX3_referencesFrom_0 1 rfl rfl)
theorem dX3_referencesFrom_2 : decode cX3_referencesFrom 2 = .ok (.invokevirtual 103, 3) := dk_182 0 103 (dk_at dksX3_referencesFrom_0 2 rfl rfl)
theorem dX3_referencesFrom_5 : decode cX3_referencesFrom 5 = .ok (.istore_n 2, 1) := dk_61 (dk_at dksX3_referencesFrom_0 5 rfl rfl)
theorem dX3_referencesFrom_6 : decode cX3_referencesFrom 6 = .ok (.iconst 0, 1) := dk_3 (dk_at dksX3_referencesFrom_0 6 rfl rfl)
theorem dX3_referencesFrom_7 : decode cX3_referencesFrom 7 = .ok (.istore_n 3, 1) := dk_62 (dk_at dksX3_referencesFrom_0 7 rfl rfl)
theorem dX3_referencesFrom_8 : decode cX3_referencesFrom 8 = .ok (.aload_n 0, 1) := dk_42 (dk_at dksX3_referencesFrom_0 8 rfl rfl)
theorem dX3_referencesFrom_9 : decode cX3_referencesFrom 9 = .ok (.iload_n 2, 1) := dk_28 (dk_at dksX3_referencesFrom_0 9 rfl rfl)
theorem dX3_referencesFrom_10 : decode cX3_referencesFrom 10 = .ok (.ifCond .lt 7, 3) := dk_155 0 7 (dk_at dksX3_referencesFrom_0 10 rfl rfl)
theorem dX3_referencesFrom_13 : decode cX3_referencesFrom 13 = .ok (.iconst 1, 1) := dk_4 (dk_at dksX3_referencesFrom_0 13 rfl rfl)
theorem dX3_referencesFrom_14 : decode cX3_referencesFrom 14 = .ok (.goto 4, 3) := dk_167 0 4 (dk_at dksX3_referencesFrom_0 14 rfl rfl)
theorem dX3_referencesFrom_17 : decode cX3_referencesFrom 17 = .ok (.iconst 0, 1) := dk_3 (dk_at dksX3_referencesFrom_0 17 rfl rfl)
theorem dX3_referencesFrom_18 : decode cX3_referencesFrom 18 = .ok (.invokevirtual 119, 3) := dk_182 0 119 (dk_at dksX3_referencesFrom_0 18 rfl rfl)
theorem dX3_referencesFrom_21 : decode cX3_referencesFrom 21 = .ok (.istore 4, 2) := dk_54 4 (dk_at dksX3_referencesFrom_0 21 rfl rfl)
theorem dX3_referencesFrom_23 : decode cX3_referencesFrom 23 = .ok (.iconst 0, 1) := dk_3 (dk_at dksX3_referencesFrom_0 23 rfl rfl)
theorem dX3_referencesFrom_24 : decode cX3_referencesFrom 24 = .ok (.istore 5, 2) := dk_54 5 (dk_at dksX3_referencesFrom_1 0 rfl rfl)
theorem dX3_referencesFrom_26 : decode cX3_referencesFrom 26 = .ok (.iload 5, 2) := dk_21 5 (dk_at dksX3_referencesFrom_1 2 rfl rfl)
theorem dX3_referencesFrom_28 : decode cX3_referencesFrom 28 = .ok (.bipush 10, 2) := dk_16 10 (dk_at dksX3_referencesFrom_1 4 rfl rfl)
theorem dX3_referencesFrom_30 : decode cX3_referencesFrom 30 = .ok (.if_icmp .ge 28, 3) := dk_162 0 28 (dk_at dksX3_referencesFrom_1 6 rfl rfl)
theorem dX3_referencesFrom_33 : decode cX3_referencesFrom 33 = .ok (.iload 4, 2) := dk_21 4 (dk_at dksX3_referencesFrom_1 9 rfl rfl)
theorem dX3_referencesFrom_35 : decode cX3_referencesFrom 35 = .ok (.ifCond .eq 23, 3) := dk_153 0 23 (dk_at dksX3_referencesFrom_1 11 rfl rfl)
theorem dX3_referencesFrom_38 : decode cX3_referencesFrom 38 = .ok (.iload_n 3, 1) := dk_29 (dk_at dksX3_referencesFrom_1 14 rfl rfl)
theorem dX3_referencesFrom_39 : decode cX3_referencesFrom 39 = .ok (.aload_n 0, 1) := dk_42 (dk_at dksX3_referencesFrom_1 15 rfl rfl)
theorem dX3_referencesFrom_40 : decode cX3_referencesFrom 40 = .ok (.iload 5, 2) := dk_21 5 (dk_at dksX3_referencesFrom_1 16 rfl rfl)
theorem dX3_referencesFrom_42 : decode cX3_referencesFrom 42 = .ok (.iconst 5, 1) := dk_8 (dk_at dksX3_referencesFrom_1 18 rfl rfl)
theorem dX3_referencesFrom_43 : decode cX3_referencesFrom 43 = .ok (.invokevirtual 55, 3) := dk_182 0 55 (dk_at dksX3_referencesFrom_1 19 rfl rfl)
theorem dX3_referencesFrom_46 : decode cX3_referencesFrom 46 = .ok (.iload_n 2, 1) := dk_28 (dk_at dksX3_referencesFrom_1 22 rfl rfl)
theorem dX3_referencesFrom_47 : decode cX3_referencesFrom 47 = .ok (.ishr, 1) := dk_122 (dk_at dksX3_referencesFrom_1 23 rfl rfl)
theorem dX3_referencesFrom_48 : decode cX3_referencesFrom 48 = .ok (.iconst 1, 1) := dk_4 (dk_at dksX3_referencesFrom_2 0 rfl rfl)
theorem dX3_referencesFrom_49 : decode cX3_referencesFrom 49 = .ok (.iand, 1) := dk_126 (dk_at dksX3_referencesFrom_2 1 rfl rfl)
theorem dX3_referencesFrom_50 : decode cX3_referencesFrom 50 = .ok (.iadd, 1) := dk_96 (dk_at dksX3_referencesFrom_2 2 rfl rfl)
theorem dX3_referencesFrom_51 : decode cX3_referencesFrom 51 = .ok (.istore_n 3, 1) := dk_62 (dk_at dksX3_referencesFrom_2 3 rfl rfl)
theorem dX3_referencesFrom_52 : decode cX3_referencesFrom 52 = .ok (.iinc 5 1, 3) := dk_132 5 1 (dk_at dksX3_referencesFrom_2 4 rfl rfl)
theorem dX3_referencesFrom_55 : decode cX3_referencesFrom 55 = .ok (.goto (-29), 3) := dk_167 255 227 (dk_at dksX3_referencesFrom_2 7 rfl rfl)
theorem dX3_referencesFrom_58 : decode cX3_referencesFrom 58 = .ok (.iload_n 3, 1) := dk_29 (dk_at dksX3_referencesFrom_2 10 rfl rfl)
theorem dX3_referencesFrom_59 : decode cX3_referencesFrom 59 = .ok (.ireturn, 1) := dk_172 (dk_at dksX3_referencesFrom_2 11 rfl rfl)
abbrev cX3_openPost : ByteArray := prog_10_method_52_code
def yX3_openPost : MethodName := ⟨RX3, "openPost", "(CIII)I"⟩
def dkwX3_openPost_0 : List UInt8 := [42, 182, 0, 93, 42, 42, 27, 28, 29, 21, 4, 182, 0, 139, 182, 0, 100, 172]
abbrev dktX3_openPost_0 : List UInt8 := dkwX3_openPost_0 ++ []
theorem dksX3_openPost_0 : cX3_openPost.data.toList.drop 0 = dktX3_openPost_0 := by decide +kernel
theorem dX3_openPost_0 : decode cX3_openPost 0 = .ok (.aload_n 0, 1) := dk_42 (dk_at dksX3_openPost_0 0 rfl rfl)
theorem dX3_openPost_1 : decode cX3_openPost 1 = .ok (.invokevirtual 93, 3) := dk_182 0 93 (dk_at dksX3_openPost_0 1 rfl rfl)
theorem dX3_openPost_4 : decode cX3_openPost 4 = .ok (.aload_n 0, 1) := dk_42 (dk_at dksX3_openPost_0 4 rfl rfl)
theorem dX3_openPost_5 : decode cX3_openPost 5 = .ok (.aload_n 0, 1) := dk_42 (dk_at dksX3_openPost_0 5 rfl rfl)
theorem dX3_openPost_6 : decode cX3_openPost 6 = .ok (.iload_n 1, 1) := dk_27 (dk_at dksX3_openPost_0 6 rfl rfl)
theorem dX3_openPost_7 : decode cX3_openPost 7 = .ok (.iload_n 2, 1) := dk_28 (dk_at dksX3_openPost_0 7 rfl rfl)
theorem dX3_openPost_8 : decode cX3_openPost 8 = .ok (.iload_n 3, 1) := dk_29 (dk_at dksX3_openPost_0 8 rfl rfl)
theorem dX3_openPost_9 : decode cX3_openPost 9 = .ok (.iload 4, 2) := dk_21 4 (dk_at dksX3_openPost_0 9 rfl rfl)
theorem dX3_openPost_11 : decode cX3_openPost 11 = .ok (.invokevirtual 139, 3) := dk_182 0 139 (dk_at dksX3_openPost_0 11 rfl rfl)
theorem dX3_openPost_14 : decode cX3_openPost 14 = .ok (.invokevirtual 100, 3) := dk_182 0 100 (dk_at dksX3_openPost_0 14 rfl rfl)
theorem dX3_openPost_17 : decode cX3_openPost 17 = .ok (.ireturn, 1) := dk_172 (dk_at dksX3_openPost_0 17 rfl rfl)
abbrev cX3_doOpenPost : ByteArray := prog_10_method_51_code
def yX3_doOpenPost : MethodName := ⟨RX3, "doOpenPost", "(CIII)I"⟩
def dkwX3_doOpenPost_6 : List UInt8 := [42, 180, 0, 9, 5, 92, 46, 4, 96, 79, 21, 5, 172]
abbrev dktX3_doOpenPost_6 : List UInt8 := dkwX3_doOpenPost_6 ++ []
def dkwX3_doOpenPost_5 : List UInt8 := [96, 29, 79, 42, 180, 0, 9, 21, 7, 6, 96, 21, 4, 79, 42, 180, 0, 9, 21, 7, 7, 96, 3, 79]
abbrev dktX3_doOpenPost_5 : List UInt8 := dkwX3_doOpenPost_5 ++ dktX3_doOpenPost_6
def dkwX3_doOpenPost_4 : List UInt8 := [180, 0, 9, 21, 7, 27, 79, 42, 180, 0, 9, 21, 7, 4, 96, 28, 79, 42, 180, 0, 9, 21, 7, 5]
abbrev dktX3_doOpenPost_4 : List UInt8 := dkwX3_doOpenPost_4 ++ dktX3_doOpenPost_5
def dkwX3_doOpenPost_3 : List UInt8 := [21, 5, 16, 6, 160, 0, 9, 42, 5, 182, 0, 82, 172, 16, 63, 8, 21, 5, 104, 96, 54, 7, 42]
abbrev dktX3_doOpenPost_3 : List UInt8 := dkwX3_doOpenPost_3 ++ dktX3_doOpenPost_4
def dkwX3_doOpenPost_2 : List UInt8 := [184, 0, 51, 153, 0, 7, 4, 167, 0, 4, 3, 54, 6, 21, 6, 154, 0, 9, 42, 4, 182, 0, 82, 172]
abbrev dktX3_doOpenPost_2 : List UInt8 := dkwX3_doOpenPost_2 ++ dktX3_doOpenPost_3
def dkwX3_doOpenPost_1 : List UInt8 := [16, 100, 184, 0, 51, 153, 0, 28, 29, 3, 16, 50, 184, 0, 51, 153, 0, 18, 21, 4, 4, 16, 99]
abbrev dktX3_doOpenPost_1 : List UInt8 := dkwX3_doOpenPost_1 ++ dktX3_doOpenPost_2
def dkwX3_doOpenPost_0 : List UInt8 := [42, 180, 0, 9, 5, 46, 54, 5, 27, 184, 0, 79, 154, 0, 9, 27, 16, 42, 160, 0, 38, 28, 3]
abbrev dktX3_doOpenPost_0 : List UInt8 := dkwX3_doOpenPost_0 ++ dktX3_doOpenPost_1
theorem dksX3_doOpenPost_0 : cX3_doOpenPost.data.toList.drop 0 = dktX3_doOpenPost_0 := by decide +kernel
theorem dksX3_doOpenPost_1 : cX3_doOpenPost.data.toList.drop 23 = dktX3_doOpenPost_1 := dk_seg dksX3_doOpenPost_0 23 rfl rfl
theorem dksX3_doOpenPost_2 : cX3_doOpenPost.data.toList.drop 46 = dktX3_doOpenPost_2 := dk_seg dksX3_doOpenPost_1 23 rfl rfl
theorem dksX3_doOpenPost_3 : cX3_doOpenPost.data.toList.drop 70 = dktX3_doOpenPost_3 := dk_seg dksX3_doOpenPost_2 24 rfl rfl
theorem dksX3_doOpenPost_4 : cX3_doOpenPost.data.toList.drop 93 = dktX3_doOpenPost_4 := dk_seg dksX3_doOpenPost_3 23 rfl rfl
theorem dksX3_doOpenPost_5 : cX3_doOpenPost.data.toList.drop 117 = dktX3_doOpenPost_5 := dk_seg dksX3_doOpenPost_4 24 rfl rfl
theorem dksX3_doOpenPost_6 : cX3_doOpenPost.data.toList.drop 141 = dktX3_doOpenPost_6 := dk_seg dksX3_doOpenPost_5 24 rfl rfl
theorem dX3_doOpenPost_0 : decode cX3_doOpenPost 0 = .ok (.aload_n 0, 1) := dk_42 (dk_at dksX3_doOpenPost_0 0 rfl rfl)
theorem dX3_doOpenPost_1 : decode cX3_doOpenPost 1 = .ok (.getfield 9, 3) := dk_180 0 9 (dk_at dksX3_doOpenPost_0 1 rfl rfl)
theorem dX3_doOpenPost_4 : decode cX3_doOpenPost 4 = .ok (.iconst 2, 1) := dk_5 (dk_at dksX3_doOpenPost_0 4 rfl rfl)
theorem dX3_doOpenPost_5 : decode cX3_doOpenPost 5 = .ok (.iaload, 1) := dk_46 (dk_at dksX3_doOpenPost_0 5 rfl rfl)
theorem dX3_doOpenPost_6 : decode cX3_doOpenPost 6 = .ok (.istore 5, 2) := dk_54 5 (dk_at dksX3_doOpenPost_0 6 rfl rfl)
theorem dX3_doOpenPost_8 : decode cX3_doOpenPost 8 = .ok (.iload_n 1, 1) := dk_27 (dk_at dksX3_doOpenPost_0 8 rfl rfl)
theorem dX3_doOpenPost_9 : decode cX3_doOpenPost 9 = .ok (.invokestatic 79, 3) := dk_184 0 79 (dk_at dksX3_doOpenPost_0 9 rfl rfl)
theorem dX3_doOpenPost_12 : decode cX3_doOpenPost 12 = .ok (.ifCond .ne 9, 3) := dk_154 0 9 (dk_at dksX3_doOpenPost_0 12 rfl rfl)
theorem dX3_doOpenPost_15 : decode cX3_doOpenPost 15 = .ok (.iload_n 1, 1) := dk_27 (dk_at dksX3_doOpenPost_0 15 rfl rfl)
theorem dX3_doOpenPost_16 : decode cX3_doOpenPost 16 = .ok (.bipush 42, 2) := dk_16 42 (dk_at dksX3_doOpenPost_0 16 rfl rfl)
theorem dX3_doOpenPost_18 : decode cX3_doOpenPost 18 = .ok (.if_icmp .ne 38, 3) := dk_160 0 38 (dk_at dksX3_doOpenPost_0 18 rfl rfl)
theorem dX3_doOpenPost_21 : decode cX3_doOpenPost 21 = .ok (.iload_n 2, 1) := dk_28 (dk_at dksX3_doOpenPost_0 21 rfl rfl)
theorem dX3_doOpenPost_22 : decode cX3_doOpenPost 22 = .ok (.iconst 0, 1) := dk_3 (dk_at dksX3_doOpenPost_0 22 rfl rfl)
theorem dX3_doOpenPost_23 : decode cX3_doOpenPost 23 = .ok (.bipush 100, 2) := dk_16 100 (dk_at dksX3_doOpenPost_1 0 rfl rfl)
theorem dX3_doOpenPost_25 : decode cX3_doOpenPost 25 = .ok (.invokestatic 51, 3) := dk_184 0 51 (dk_at dksX3_doOpenPost_1 2 rfl rfl)
theorem dX3_doOpenPost_28 : decode cX3_doOpenPost 28 = .ok (.ifCond .eq 28, 3) := dk_153 0 28 (dk_at dksX3_doOpenPost_1 5 rfl rfl)
theorem dX3_doOpenPost_31 : decode cX3_doOpenPost 31 = .ok (.iload_n 3, 1) := dk_29 (dk_at dksX3_doOpenPost_1 8 rfl rfl)
theorem dX3_doOpenPost_32 : decode cX3_doOpenPost 32 = .ok (.iconst 0, 1) := dk_3 (dk_at dksX3_doOpenPost_1 9 rfl rfl)
theorem dX3_doOpenPost_33 : decode cX3_doOpenPost 33 = .ok (.bipush 50, 2) := dk_16 50 (dk_at dksX3_doOpenPost_1 10 rfl rfl)
theorem dX3_doOpenPost_35 : decode cX3_doOpenPost 35 = .ok (.invokestatic 51, 3) := dk_184 0 51 (dk_at dksX3_doOpenPost_1 12 rfl rfl)
theorem dX3_doOpenPost_38 : decode cX3_doOpenPost 38 = .ok (.ifCond .eq 18, 3) := dk_153 0 18 (dk_at dksX3_doOpenPost_1 15 rfl rfl)
theorem dX3_doOpenPost_41 : decode cX3_doOpenPost 41 = .ok (.iload 4, 2) := dk_21 4 (dk_at dksX3_doOpenPost_1 18 rfl rfl)
theorem dX3_doOpenPost_43 : decode cX3_doOpenPost 43 = .ok (.iconst 1, 1) := dk_4 (dk_at dksX3_doOpenPost_1 20 rfl rfl)
theorem dX3_doOpenPost_44 : decode cX3_doOpenPost 44 = .ok (.bipush 99, 2) := dk_16 99 (dk_at dksX3_doOpenPost_1 21 rfl rfl)
theorem dX3_doOpenPost_46 : decode cX3_doOpenPost 46 = .ok (.invokestatic 51, 3) := dk_184 0 51 (dk_at dksX3_doOpenPost_2 0 rfl rfl)
theorem dX3_doOpenPost_49 : decode cX3_doOpenPost 49 = .ok (.ifCond .eq 7, 3) := dk_153 0 7 (dk_at dksX3_doOpenPost_2 3 rfl rfl)
theorem dX3_doOpenPost_52 : decode cX3_doOpenPost 52 = .ok (.iconst 1, 1) := dk_4 (dk_at dksX3_doOpenPost_2 6 rfl rfl)
theorem dX3_doOpenPost_53 : decode cX3_doOpenPost 53 = .ok (.goto 4, 3) := dk_167 0 4 (dk_at dksX3_doOpenPost_2 7 rfl rfl)
theorem dX3_doOpenPost_56 : decode cX3_doOpenPost 56 = .ok (.iconst 0, 1) := dk_3 (dk_at dksX3_doOpenPost_2 10 rfl rfl)
theorem dX3_doOpenPost_57 : decode cX3_doOpenPost 57 = .ok (.istore 6, 2) := dk_54 6 (dk_at dksX3_doOpenPost_2 11 rfl rfl)
theorem dX3_doOpenPost_59 : decode cX3_doOpenPost 59 = .ok (.iload 6, 2) := dk_21 6 (dk_at dksX3_doOpenPost_2 13 rfl rfl)
theorem dX3_doOpenPost_61 : decode cX3_doOpenPost 61 = .ok (.ifCond .ne 9, 3) := dk_154 0 9 (dk_at dksX3_doOpenPost_2 15 rfl rfl)
theorem dX3_doOpenPost_64 : decode cX3_doOpenPost 64 = .ok (.aload_n 0, 1) := dk_42 (dk_at dksX3_doOpenPost_2 18 rfl rfl)
theorem dX3_doOpenPost_65 : decode cX3_doOpenPost 65 = .ok (.iconst 1, 1) := dk_4 (dk_at dksX3_doOpenPost_2 19 rfl rfl)
theorem dX3_doOpenPost_66 : decode cX3_doOpenPost 66 = .ok (.invokevirtual 82, 3) := dk_182 0 82 (dk_at dksX3_doOpenPost_2 20 rfl rfl)
theorem dX3_doOpenPost_69 : decode cX3_doOpenPost 69 = .ok (.ireturn, 1) := dk_172 (dk_at dksX3_doOpenPost_2 23 rfl rfl)
theorem dX3_doOpenPost_70 : decode cX3_doOpenPost 70 = .ok (.iload 5, 2) := dk_21 5 (dk_at dksX3_doOpenPost_3 0 rfl rfl)
theorem dX3_doOpenPost_72 : decode cX3_doOpenPost 72 = .ok (.bipush 6, 2) := dk_16 6 (dk_at dksX3_doOpenPost_3 2 rfl rfl)
theorem dX3_doOpenPost_74 : decode cX3_doOpenPost 74 = .ok (.if_icmp .ne 9, 3) := dk_160 0 9 (dk_at dksX3_doOpenPost_3 4 rfl rfl)
theorem dX3_doOpenPost_77 : decode cX3_doOpenPost 77 = .ok (.aload_n 0, 1) := dk_42 (dk_at dksX3_doOpenPost_3 7 rfl rfl)
theorem dX3_doOpenPost_78 : decode cX3_doOpenPost 78 = .ok (.iconst 2, 1) := dk_5 (dk_at dksX3_doOpenPost_3 8 rfl rfl)
theorem dX3_doOpenPost_79 : decode cX3_doOpenPost 79 = .ok (.invokevirtual 82, 3) := dk_182 0 82 (dk_at dksX3_doOpenPost_3 9 rfl rfl)
theorem dX3_doOpenPost_82 : decode cX3_doOpenPost 82 = .ok (.ireturn, 1) := dk_172 (dk_at dksX3_doOpenPost_3 12 rfl rfl)
theorem dX3_doOpenPost_83 : decode cX3_doOpenPost 83 = .ok (.bipush 63, 2) := dk_16 63 (dk_at dksX3_doOpenPost_3 13 rfl rfl)
theorem dX3_doOpenPost_85 : decode cX3_doOpenPost 85 = .ok (.iconst 5, 1) := dk_8 (dk_at dksX3_doOpenPost_3 15 rfl rfl)
theorem dX3_doOpenPost_86 : decode cX3_doOpenPost 86 = .ok (.iload 5, 2) := dk_21 5 (dk_at dksX3_doOpenPost_3 16 rfl rfl)
theorem dX3_doOpenPost_88 : decode cX3_doOpenPost 88 = .ok (.imul, 1) := dk_104 (dk_at dksX3_doOpenPost_3 18 rfl rfl)
theorem dX3_doOpenPost_89 : decode cX3_doOpenPost 89 = .ok (.iadd, 1) := dk_96 (dk_at dksX3_doOpenPost_3 19 rfl rfl)
theorem dX3_doOpenPost_90 : decode cX3_doOpenPost 90 = .ok (.istore 7, 2) := dk_54 7 (dk_at dksX3_doOpenPost_3 20 rfl rfl)
theorem dX3_doOpenPost_92 : decode cX3_doOpenPost 92 = .ok (.aload_n 0, 1) := dk_42 (dk_at dksX3_doOpenPost_3 22 rfl rfl)
theorem dX3_doOpenPost_93 : decode cX3_doOpenPost 93 = .ok (.getfield 9, 3) := dk_180 0 9 (dk_at dksX3_doOpenPost_4 0 rfl rfl)
theorem dX3_doOpenPost_96 : decode cX3_doOpenPost 96 = .ok (.iload 7, 2) := dk_21 7 (dk_at dksX3_doOpenPost_4 3 rfl rfl)
theorem dX3_doOpenPost_98 : decode cX3_doOpenPost 98 = .ok (.iload_n 1, 1) := dk_27 (dk_at dksX3_doOpenPost_4 5 rfl rfl)
theorem dX3_doOpenPost_99 : decode cX3_doOpenPost 99 = .ok (.iastore, 1) := dk_79 (dk_at dksX3_doOpenPost_4 6 rfl rfl)
theorem dX3_doOpenPost_100 : decode cX3_doOpenPost 100 = .ok (.aload_n 0, 1) := dk_42 (dk_at dksX3_doOpenPost_4 7 rfl rfl)
theorem dX3_doOpenPost_101 : decode cX3_doOpenPost 101 = .ok (.getfield 9, 3) := dk_180 0 9 (dk_at dksX3_doOpenPost_4 8 rfl rfl)
theorem dX3_doOpenPost_104 : decode cX3_doOpenPost 104 = .ok (.iload 7, 2) := dk_21 7 (dk_at dksX3_doOpenPost_4 11 rfl rfl)
theorem dX3_doOpenPost_106 : decode cX3_doOpenPost 106 = .ok (.iconst 1, 1) := dk_4 (dk_at dksX3_doOpenPost_4 13 rfl rfl)
theorem dX3_doOpenPost_107 : decode cX3_doOpenPost 107 = .ok (.iadd, 1) := dk_96 (dk_at dksX3_doOpenPost_4 14 rfl rfl)
theorem dX3_doOpenPost_108 : decode cX3_doOpenPost 108 = .ok (.iload_n 2, 1) := dk_28 (dk_at dksX3_doOpenPost_4 15 rfl rfl)
theorem dX3_doOpenPost_109 : decode cX3_doOpenPost 109 = .ok (.iastore, 1) := dk_79 (dk_at dksX3_doOpenPost_4 16 rfl rfl)
theorem dX3_doOpenPost_110 : decode cX3_doOpenPost 110 = .ok (.aload_n 0, 1) := dk_42 (dk_at dksX3_doOpenPost_4 17 rfl rfl)
theorem dX3_doOpenPost_111 : decode cX3_doOpenPost 111 = .ok (.getfield 9, 3) := dk_180 0 9 (dk_at dksX3_doOpenPost_4 18 rfl rfl)
theorem dX3_doOpenPost_114 : decode cX3_doOpenPost 114 = .ok (.iload 7, 2) := dk_21 7 (dk_at dksX3_doOpenPost_4 21 rfl rfl)
theorem dX3_doOpenPost_116 : decode cX3_doOpenPost 116 = .ok (.iconst 2, 1) := dk_5 (dk_at dksX3_doOpenPost_4 23 rfl rfl)
theorem dX3_doOpenPost_117 : decode cX3_doOpenPost 117 = .ok (.iadd, 1) := dk_96 (dk_at dksX3_doOpenPost_5 0 rfl rfl)
theorem dX3_doOpenPost_118 : decode cX3_doOpenPost 118 = .ok (.iload_n 3, 1) := dk_29 (dk_at dksX3_doOpenPost_5 1 rfl rfl)
theorem dX3_doOpenPost_119 : decode cX3_doOpenPost 119 = .ok (.iastore, 1) := dk_79 (dk_at dksX3_doOpenPost_5 2 rfl rfl)
theorem dX3_doOpenPost_120 : decode cX3_doOpenPost 120 = .ok (.aload_n 0, 1) := dk_42 (dk_at dksX3_doOpenPost_5 3 rfl rfl)
theorem dX3_doOpenPost_121 : decode cX3_doOpenPost 121 = .ok (.getfield 9, 3) := dk_180 0 9 (dk_at dksX3_doOpenPost_5 4 rfl rfl)
theorem dX3_doOpenPost_124 : decode cX3_doOpenPost 124 = .ok (.iload 7, 2) := dk_21 7 (dk_at dksX3_doOpenPost_5 7 rfl rfl)
theorem dX3_doOpenPost_126 : decode cX3_doOpenPost 126 = .ok (.iconst 3, 1) := dk_6 (dk_at dksX3_doOpenPost_5 9 rfl rfl)
theorem dX3_doOpenPost_127 : decode cX3_doOpenPost 127 = .ok (.iadd, 1) := dk_96 (dk_at dksX3_doOpenPost_5 10 rfl rfl)
theorem dX3_doOpenPost_128 : decode cX3_doOpenPost 128 = .ok (.iload 4, 2) := dk_21 4 (dk_at dksX3_doOpenPost_5 11 rfl rfl)
theorem dX3_doOpenPost_130 : decode cX3_doOpenPost 130 = .ok (.iastore, 1) := dk_79 (dk_at dksX3_doOpenPost_5 13 rfl rfl)
theorem dX3_doOpenPost_131 : decode cX3_doOpenPost 131 = .ok (.aload_n 0, 1) := dk_42 (dk_at dksX3_doOpenPost_5 14 rfl rfl)
theorem dX3_doOpenPost_132 : decode cX3_doOpenPost 132 = .ok (.getfield 9, 3) := dk_180 0 9 (dk_at dksX3_doOpenPost_5 15 rfl rfl)
theorem dX3_doOpenPost_135 : decode cX3_doOpenPost 135 = .ok (.iload 7, 2) := dk_21 7 (dk_at dksX3_doOpenPost_5 18 rfl rfl)
theorem dX3_doOpenPost_137 : decode cX3_doOpenPost 137 = .ok (.iconst 4, 1) := dk_7 (dk_at dksX3_doOpenPost_5 20 rfl rfl)
theorem dX3_doOpenPost_138 : decode cX3_doOpenPost 138 = .ok (.iadd, 1) := dk_96 (dk_at dksX3_doOpenPost_5 21 rfl rfl)
theorem dX3_doOpenPost_139 : decode cX3_doOpenPost 139 = .ok (.iconst 0, 1) := dk_3 (dk_at dksX3_doOpenPost_5 22 rfl rfl)
theorem dX3_doOpenPost_140 : decode cX3_doOpenPost 140 = .ok (.iastore, 1) := dk_79 (dk_at dksX3_doOpenPost_5 23 rfl rfl)
theorem dX3_doOpenPost_141 : decode cX3_doOpenPost 141 = .ok (.aload_n 0, 1) := dk_42 (dk_at dksX3_doOpenPost_6 0 rfl rfl)
theorem dX3_doOpenPost_142 : decode cX3_doOpenPost 142 = .ok (.getfield 9, 3) := dk_180 0 9 (dk_at dksX3_doOpenPost_6 1 rfl rfl)
theorem dX3_doOpenPost_145 : decode cX3_doOpenPost 145 = .ok (.iconst 2, 1) := dk_5 (dk_at dksX3_doOpenPost_6 4 rfl rfl)
theorem dX3_doOpenPost_146 : decode cX3_doOpenPost 146 = .ok (.dup2, 1) := dk_92 (dk_at dksX3_doOpenPost_6 5 rfl rfl)
theorem dX3_doOpenPost_147 : decode cX3_doOpenPost 147 = .ok (.iaload, 1) := dk_46 (dk_at dksX3_doOpenPost_6 6 rfl rfl)
theorem dX3_doOpenPost_148 : decode cX3_doOpenPost 148 = .ok (.iconst 1, 1) := dk_4 (dk_at dksX3_doOpenPost_6 7 rfl rfl)
theorem dX3_doOpenPost_149 : decode cX3_doOpenPost 149 = .ok (.iadd, 1) := dk_96 (dk_at dksX3_doOpenPost_6 8 rfl rfl)
theorem dX3_doOpenPost_150 : decode cX3_doOpenPost 150 = .ok (.iastore, 1) := dk_79 (dk_at dksX3_doOpenPost_6 9 rfl rfl)
theorem dX3_doOpenPost_151 : decode cX3_doOpenPost 151 = .ok (.iload 5, 2) := dk_21 5 (dk_at dksX3_doOpenPost_6 10 rfl rfl)
theorem dX3_doOpenPost_153 : decode cX3_doOpenPost 153 = .ok (.ireturn, 1) := dk_172 (dk_at dksX3_doOpenPost_6 12 rfl rfl)
abbrev cX3_closePost : ByteArray := prog_10_method_54_code
def yX3_closePost : MethodName := ⟨RX3, "closePost", "(I)Z"⟩
def dkwX3_closePost_0 : List UInt8 := [42, 182, 0, 93, 42, 42, 27, 182, 0, 146, 182, 0, 100, 4, 160, 0, 7, 4, 167, 0, 4, 3, 172]
abbrev dktX3_closePost_0 : List UInt8 := dkwX3_closePost_0 ++ []
theorem dksX3_closePost_0 : cX3_closePost.data.toList.drop 0 = dktX3_closePost_0 := by decide +kernel
theorem dX3_closePost_0 : decode cX3_closePost 0 = .ok (.aload_n 0, 1) := dk_42 (dk_at dksX3_closePost_0 0 rfl rfl)
theorem dX3_closePost_1 : decode cX3_closePost 1 = .ok (.invokevirtual 93, 3) := dk_182 0 93 (dk_at dksX3_closePost_0 1 rfl rfl)
theorem dX3_closePost_4 : decode cX3_closePost 4 = .ok (.aload_n 0, 1) := dk_42 (dk_at dksX3_closePost_0 4 rfl rfl)
theorem dX3_closePost_5 : decode cX3_closePost 5 = .ok (.aload_n 0, 1) := dk_42 (dk_at dksX3_closePost_0 5 rfl rfl)
theorem dX3_closePost_6 : decode cX3_closePost 6 = .ok (.iload_n 1, 1) := dk_27 (dk_at dksX3_closePost_0 6 rfl rfl)
theorem dX3_closePost_7 : decode cX3_closePost 7 = .ok (.invokevirtual 146, 3) := dk_182 0 146 (dk_at dksX3_closePost_0 7 rfl rfl)
theorem dX3_closePost_10 : decode cX3_closePost 10 = .ok (.invokevirtual 100, 3) := dk_182 0 100 (dk_at dksX3_closePost_0 10 rfl rfl)
theorem dX3_closePost_13 : decode cX3_closePost 13 = .ok (.iconst 1, 1) := dk_4 (dk_at dksX3_closePost_0 13 rfl rfl)
theorem dX3_closePost_14 : decode cX3_closePost 14 = .ok (.if_icmp .ne 7, 3) := dk_160 0 7 (dk_at dksX3_closePost_0 14 rfl rfl)
theorem dX3_closePost_17 : decode cX3_closePost 17 = .ok (.iconst 1, 1) := dk_4 (dk_at dksX3_closePost_0 17 rfl rfl)
theorem dX3_closePost_18 : decode cX3_closePost 18 = .ok (.goto 4, 3) := dk_167 0 4 (dk_at dksX3_closePost_0 18 rfl rfl)
theorem dX3_closePost_21 : decode cX3_closePost 21 = .ok (.iconst 0, 1) := dk_3 (dk_at dksX3_closePost_0 21 rfl rfl)
theorem dX3_closePost_22 : decode cX3_closePost 22 = .ok (.ireturn, 1) := dk_172 (dk_at dksX3_closePost_0 22 rfl rfl)
abbrev cX3_doClosePost : ByteArray := prog_10_method_53_code
def yX3_doClosePost : MethodName := ⟨RX3, "doClosePost", "(I)I"⟩
def dkwX3_doClosePost_3 : List UInt8 := [158, 0, 7, 4, 167, 0, 4, 3, 172]
abbrev dktX3_doClosePost_3 : List UInt8 := dkwX3_doClosePost_3 ++ []
def dkwX3_doClosePost_2 : List UInt8 := [42, 180, 0, 9, 21, 4, 8, 29, 27, 100, 104, 184, 0, 42, 42, 180, 0, 9, 5, 29, 79, 28]
abbrev dktX3_doClosePost_2 : List UInt8 := dkwX3_doClosePost_2 ++ dktX3_doClosePost_3
def dkwX3_doClosePost_1 : List UInt8 := [180, 0, 9, 5, 46, 4, 100, 62, 16, 63, 8, 27, 104, 96, 54, 4, 42, 180, 0, 9, 21, 4, 8, 96]
abbrev dktX3_doClosePost_1 : List UInt8 := dkwX3_doClosePost_1 ++ dktX3_doClosePost_2
def dkwX3_doClosePost_0 : List UInt8 := [42, 27, 182, 0, 143, 154, 0, 9, 42, 4, 182, 0, 82, 172, 42, 27, 7, 182, 0, 59, 61, 42]
abbrev dktX3_doClosePost_0 : List UInt8 := dkwX3_doClosePost_0 ++ dktX3_doClosePost_1
theorem dksX3_doClosePost_0 : cX3_doClosePost.data.toList.drop 0 = dktX3_doClosePost_0 := by decide +kernel
theorem dksX3_doClosePost_1 : cX3_doClosePost.data.toList.drop 22 = dktX3_doClosePost_1 := dk_seg dksX3_doClosePost_0 22 rfl rfl
theorem dksX3_doClosePost_2 : cX3_doClosePost.data.toList.drop 46 = dktX3_doClosePost_2 := dk_seg dksX3_doClosePost_1 24 rfl rfl
theorem dksX3_doClosePost_3 : cX3_doClosePost.data.toList.drop 68 = dktX3_doClosePost_3 := dk_seg dksX3_doClosePost_2 22 rfl rfl
theorem dX3_doClosePost_0 : decode cX3_doClosePost 0 = .ok (.aload_n 0, 1) := dk_42 (dk_at dksX3_doClosePost_0 0 rfl rfl)
theorem dX3_doClosePost_1 : decode cX3_doClosePost 1 = .ok (.iload_n 1, 1) := dk_27 (dk_at dksX3_doClosePost_0 1 rfl rfl)
theorem dX3_doClosePost_2 : decode cX3_doClosePost 2 = .ok (.invokevirtual 143, 3) := dk_182 0 143 (dk_at dksX3_doClosePost_0 2 rfl rfl)
theorem dX3_doClosePost_5 : decode cX3_doClosePost 5 = .ok (.ifCond .ne 9, 3) := dk_154 0 9 (dk_at dksX3_doClosePost_0 5 rfl rfl)
theorem dX3_doClosePost_8 : decode cX3_doClosePost 8 = .ok (.aload_n 0, 1) := dk_42 (dk_at dksX3_doClosePost_0 8 rfl rfl)
theorem dX3_doClosePost_9 : decode cX3_doClosePost 9 = .ok (.iconst 1, 1) := dk_4 (dk_at dksX3_doClosePost_0 9 rfl rfl)
theorem dX3_doClosePost_10 : decode cX3_doClosePost 10 = .ok (.invokevirtual 82, 3) := dk_182 0 82 (dk_at dksX3_doClosePost_0 10 rfl rfl)
theorem dX3_doClosePost_13 : decode cX3_doClosePost 13 = .ok (.ireturn, 1) := dk_172 (dk_at dksX3_doClosePost_0 13 rfl rfl)
theorem dX3_doClosePost_14 : decode cX3_doClosePost 14 = .ok (.aload_n 0, 1) := dk_42 (dk_at dksX3_doClosePost_0 14 rfl rfl)
theorem dX3_doClosePost_15 : decode cX3_doClosePost 15 = .ok (.iload_n 1, 1) := dk_27 (dk_at dksX3_doClosePost_0 15 rfl rfl)
theorem dX3_doClosePost_16 : decode cX3_doClosePost 16 = .ok (.iconst 4, 1) := dk_7 (dk_at dksX3_doClosePost_0 16 rfl rfl)
theorem dX3_doClosePost_17 : decode cX3_doClosePost 17 = .ok (.invokevirtual 59, 3) := dk_182 0 59 (dk_at dksX3_doClosePost_0 17 rfl rfl)
theorem dX3_doClosePost_20 : decode cX3_doClosePost 20 = .ok (.istore_n 2, 1) := dk_61 (dk_at dksX3_doClosePost_0 20 rfl rfl)
theorem dX3_doClosePost_21 : decode cX3_doClosePost 21 = .ok (.aload_n 0, 1) := dk_42 (dk_at dksX3_doClosePost_0 21 rfl rfl)
theorem dX3_doClosePost_22 : decode cX3_doClosePost 22 = .ok (.getfield 9, 3) := dk_180 0 9 (dk_at dksX3_doClosePost_1 0 rfl rfl)
theorem dX3_doClosePost_25 : decode cX3_doClosePost 25 = .ok (.iconst 2, 1) := dk_5 (dk_at dksX3_doClosePost_1 3 rfl rfl)
theorem dX3_doClosePost_26 : decode cX3_doClosePost 26 = .ok (.iaload, 1) := dk_46 (dk_at dksX3_doClosePost_1 4 rfl rfl)
theorem dX3_doClosePost_27 : decode cX3_doClosePost 27 = .ok (.iconst 1, 1) := dk_4 (dk_at dksX3_doClosePost_1 5 rfl rfl)
theorem dX3_doClosePost_28 : decode cX3_doClosePost 28 = .ok (.isub, 1) := dk_100 (dk_at dksX3_doClosePost_1 6 rfl rfl)
theorem dX3_doClosePost_29 : decode cX3_doClosePost 29 = .ok (.istore_n 3, 1) := dk_62 (dk_at dksX3_doClosePost_1 7 rfl rfl)
theorem dX3_doClosePost_30 : decode cX3_doClosePost 30 = .ok (.bipush 63, 2) := dk_16 63 (dk_at dksX3_doClosePost_1 8 rfl rfl)
theorem dX3_doClosePost_32 : decode cX3_doClosePost 32 = .ok (.iconst 5, 1) := dk_8 (dk_at dksX3_doClosePost_1 10 rfl rfl)
theorem dX3_doClosePost_33 : decode cX3_doClosePost 33 = .ok (.iload_n 1, 1) := dk_27 (dk_at dksX3_doClosePost_1 11 rfl rfl)
theorem dX3_doClosePost_34 : decode cX3_doClosePost 34 = .ok (.imul, 1) := dk_104 (dk_at dksX3_doClosePost_1 12 rfl rfl)
theorem dX3_doClosePost_35 : decode cX3_doClosePost 35 = .ok (.iadd, 1) := dk_96 (dk_at dksX3_doClosePost_1 13 rfl rfl)
theorem dX3_doClosePost_36 : decode cX3_doClosePost 36 = .ok (.istore 4, 2) := dk_54 4 (dk_at dksX3_doClosePost_1 14 rfl rfl)
theorem dX3_doClosePost_38 : decode cX3_doClosePost 38 = .ok (.aload_n 0, 1) := dk_42 (dk_at dksX3_doClosePost_1 16 rfl rfl)
theorem dX3_doClosePost_39 : decode cX3_doClosePost 39 = .ok (.getfield 9, 3) := dk_180 0 9 (dk_at dksX3_doClosePost_1 17 rfl rfl)
theorem dX3_doClosePost_42 : decode cX3_doClosePost 42 = .ok (.iload 4, 2) := dk_21 4 (dk_at dksX3_doClosePost_1 20 rfl rfl)
theorem dX3_doClosePost_44 : decode cX3_doClosePost 44 = .ok (.iconst 5, 1) := dk_8 (dk_at dksX3_doClosePost_1 22 rfl rfl)
theorem dX3_doClosePost_45 : decode cX3_doClosePost 45 = .ok (.iadd, 1) := dk_96 (dk_at dksX3_doClosePost_1 23 rfl rfl)
theorem dX3_doClosePost_46 : decode cX3_doClosePost 46 = .ok (.aload_n 0, 1) := dk_42 (dk_at dksX3_doClosePost_2 0 rfl rfl)
theorem dX3_doClosePost_47 : decode cX3_doClosePost 47 = .ok (.getfield 9, 3) := dk_180 0 9 (dk_at dksX3_doClosePost_2 1 rfl rfl)
theorem dX3_doClosePost_50 : decode cX3_doClosePost 50 = .ok (.iload 4, 2) := dk_21 4 (dk_at dksX3_doClosePost_2 4 rfl rfl)
theorem dX3_doClosePost_52 : decode cX3_doClosePost 52 = .ok (.iconst 5, 1) := dk_8 (dk_at dksX3_doClosePost_2 6 rfl rfl)
theorem dX3_doClosePost_53 : decode cX3_doClosePost 53 = .ok (.iload_n 3, 1) := dk_29 (dk_at dksX3_doClosePost_2 7 rfl rfl)
theorem dX3_doClosePost_54 : decode cX3_doClosePost 54 = .ok (.iload_n 1, 1) := dk_27 (dk_at dksX3_doClosePost_2 8 rfl rfl)
theorem dX3_doClosePost_55 : decode cX3_doClosePost 55 = .ok (.isub, 1) := dk_100 (dk_at dksX3_doClosePost_2 9 rfl rfl)
theorem dX3_doClosePost_56 : decode cX3_doClosePost 56 = .ok (.imul, 1) := dk_104 (dk_at dksX3_doClosePost_2 10 rfl rfl)
theorem dX3_doClosePost_57 : decode cX3_doClosePost 57 = .ok (.invokestatic 42, 3) := dk_184 0 42 (dk_at dksX3_doClosePost_2 11 rfl rfl)
theorem dX3_doClosePost_60 : decode cX3_doClosePost 60 = .ok (.aload_n 0, 1) := dk_42 (dk_at dksX3_doClosePost_2 14 rfl rfl)
theorem dX3_doClosePost_61 : decode cX3_doClosePost 61 = .ok (.getfield 9, 3) := dk_180 0 9 (dk_at dksX3_doClosePost_2 15 rfl rfl)
theorem dX3_doClosePost_64 : decode cX3_doClosePost 64 = .ok (.iconst 2, 1) := dk_5 (dk_at dksX3_doClosePost_2 18 rfl rfl)
theorem dX3_doClosePost_65 : decode cX3_doClosePost 65 = .ok (.iload_n 3, 1) := dk_29 (dk_at dksX3_doClosePost_2 19 rfl rfl)
theorem dX3_doClosePost_66 : decode cX3_doClosePost 66 = .ok (.iastore, 1) := dk_79 (dk_at dksX3_doClosePost_2 20 rfl rfl)
theorem dX3_doClosePost_67 : decode cX3_doClosePost 67 = .ok (.iload_n 2, 1) := dk_28 (dk_at dksX3_doClosePost_2 21 rfl rfl)
theorem dX3_doClosePost_68 : decode cX3_doClosePost 68 = .ok (.ifCond .le 7, 3) := dk_158 0 7 (dk_at dksX3_doClosePost_3 0 rfl rfl)
theorem dX3_doClosePost_71 : decode cX3_doClosePost 71 = .ok (.iconst 1, 1) := dk_4 (dk_at dksX3_doClosePost_3 3 rfl rfl)
theorem dX3_doClosePost_72 : decode cX3_doClosePost 72 = .ok (.goto 4, 3) := dk_167 0 4 (dk_at dksX3_doClosePost_3 4 rfl rfl)
theorem dX3_doClosePost_75 : decode cX3_doClosePost 75 = .ok (.iconst 0, 1) := dk_3 (dk_at dksX3_doClosePost_3 7 rfl rfl)
theorem dX3_doClosePost_76 : decode cX3_doClosePost 76 = .ok (.ireturn, 1) := dk_172 (dk_at dksX3_doClosePost_3 8 rfl rfl)
abbrev cX3_isPost : ByteArray := prog_10_method_11_code
def yX3_isPost : MethodName := ⟨RX3, "isPost", "(I)Z"⟩
def dkwX3_isPost_0 : List UInt8 := [27, 3, 42, 180, 0, 9, 5, 46, 4, 100, 184, 0, 51, 172]
abbrev dktX3_isPost_0 : List UInt8 := dkwX3_isPost_0 ++ []
theorem dksX3_isPost_0 : cX3_isPost.data.toList.drop 0 = dktX3_isPost_0 := by decide +kernel
theorem dX3_isPost_0 : decode cX3_isPost 0 = .ok (.iload_n 1, 1) := dk_27 (dk_at dksX3_isPost_0 0 rfl rfl)
theorem dX3_isPost_1 : decode cX3_isPost 1 = .ok (.iconst 0, 1) := dk_3 (dk_at dksX3_isPost_0 1 rfl rfl)
theorem dX3_isPost_2 : decode cX3_isPost 2 = .ok (.aload_n 0, 1) := dk_42 (dk_at dksX3_isPost_0 2 rfl rfl)
theorem dX3_isPost_3 : decode cX3_isPost 3 = .ok (.getfield 9, 3) := dk_180 0 9 (dk_at dksX3_isPost_0 3 rfl rfl)
theorem dX3_isPost_6 : decode cX3_isPost 6 = .ok (.iconst 2, 1) := dk_5 (dk_at dksX3_isPost_0 6 rfl rfl)
theorem dX3_isPost_7 : decode cX3_isPost 7 = .ok (.iaload, 1) := dk_46 (dk_at dksX3_isPost_0 7 rfl rfl)
theorem dX3_isPost_8 : decode cX3_isPost 8 = .ok (.iconst 1, 1) := dk_4 (dk_at dksX3_isPost_0 8 rfl rfl)
theorem dX3_isPost_9 : decode cX3_isPost 9 = .ok (.isub, 1) := dk_100 (dk_at dksX3_isPost_0 9 rfl rfl)
theorem dX3_isPost_10 : decode cX3_isPost 10 = .ok (.invokestatic 51, 3) := dk_184 0 51 (dk_at dksX3_isPost_0 10 rfl rfl)
theorem dX3_isPost_13 : decode cX3_isPost 13 = .ok (.ireturn, 1) := dk_172 (dk_at dksX3_isPost_0 13 rfl rfl)
abbrev cX3_postCount : ByteArray := prog_10_method_55_code
def yX3_postCount : MethodName := ⟨RX3, "postCount", "()I"⟩
def dkwX3_postCount_0 : List UInt8 := [42, 3, 181, 0, 39, 42, 180, 0, 9, 5, 46, 172]
abbrev dktX3_postCount_0 : List UInt8 := dkwX3_postCount_0 ++ []
theorem dksX3_postCount_0 : cX3_postCount.data.toList.drop 0 = dktX3_postCount_0 := by decide +kernel
theorem dX3_postCount_0 : decode cX3_postCount 0 = .ok (.aload_n 0, 1) := dk_42 (dk_at dksX3_postCount_0 0 rfl rfl)
theorem dX3_postCount_1 : decode cX3_postCount 1 = .ok (.iconst 0, 1) := dk_3 (dk_at dksX3_postCount_0 1 rfl rfl)
theorem dX3_postCount_2 : decode cX3_postCount 2 = .ok (.putfield 39, 3) := dk_181 0 39 (dk_at dksX3_postCount_0 2 rfl rfl)
theorem dX3_postCount_5 : decode cX3_postCount 5 = .ok (.aload_n 0, 1) := dk_42 (dk_at dksX3_postCount_0 5 rfl rfl)
theorem dX3_postCount_6 : decode cX3_postCount 6 = .ok (.getfield 9, 3) := dk_180 0 9 (dk_at dksX3_postCount_0 6 rfl rfl)
theorem dX3_postCount_9 : decode cX3_postCount 9 = .ok (.iconst 2, 1) := dk_5 (dk_at dksX3_postCount_0 9 rfl rfl)
theorem dX3_postCount_10 : decode cX3_postCount 10 = .ok (.iaload, 1) := dk_46 (dk_at dksX3_postCount_0 10 rfl rfl)
theorem dX3_postCount_11 : decode cX3_postCount 11 = .ok (.ireturn, 1) := dk_172 (dk_at dksX3_postCount_0 11 rfl rfl)
abbrev cX3_vacantCount : ByteArray := prog_10_method_57_code
def yX3_vacantCount : MethodName := ⟨RX3, "vacantCount", "()I"⟩
def dkwX3_vacantCount_0 : List UInt8 := [42, 3, 181, 0, 39, 42, 182, 0, 149, 172]
abbrev dktX3_vacantCount_0 : List UInt8 := dkwX3_vacantCount_0 ++ []
theorem dksX3_vacantCount_0 : cX3_vacantCount.data.toList.drop 0 = dktX3_vacantCount_0 := by decide +kernel
theorem dX3_vacantCount_0 : decode cX3_vacantCount 0 = .ok (.aload_n 0, 1) := dk_42 (dk_at dksX3_vacantCount_0 0 rfl rfl)
theorem dX3_vacantCount_1 : decode cX3_vacantCount 1 = .ok (.iconst 0, 1) := dk_3 (dk_at dksX3_vacantCount_0 1 rfl rfl)
theorem dX3_vacantCount_2 : decode cX3_vacantCount 2 = .ok (.putfield 39, 3) := dk_181 0 39 (dk_at dksX3_vacantCount_0 2 rfl rfl)
theorem dX3_vacantCount_5 : decode cX3_vacantCount 5 = .ok (.aload_n 0, 1) := dk_42 (dk_at dksX3_vacantCount_0 5 rfl rfl)
theorem dX3_vacantCount_6 : decode cX3_vacantCount 6 = .ok (.invokevirtual 149, 3) := dk_182 0 149 (dk_at dksX3_vacantCount_0 6 rfl rfl)
theorem dX3_vacantCount_9 : decode cX3_vacantCount 9 = .ok (.ireturn, 1) := dk_172 (dk_at dksX3_vacantCount_0 9 rfl rfl)
abbrev cX3_vacancies : ByteArray := prog_10_method_56_code
def yX3_vacancies : MethodName := ⟨RX3, "vacancies", "()I"⟩
def dkwX3_vacancies_1 : List UInt8 := [4, 167, 0, 4, 3, 96, 60, 132, 2, 1, 167, 255, 226, 27, 172]
abbrev dktX3_vacancies_1 : List UInt8 := dkwX3_vacancies_1 ++ []
def dkwX3_vacancies_0 : List UInt8 := [3, 60, 3, 61, 28, 42, 180, 0, 9, 5, 46, 162, 0, 26, 27, 42, 28, 7, 182, 0, 59, 154, 0, 7]
abbrev dktX3_vacancies_0 : List UInt8 := dkwX3_vacancies_0 ++ dktX3_vacancies_1
theorem dksX3_vacancies_0 : cX3_vacancies.data.toList.drop 0 = dktX3_vacancies_0 := by decide +kernel
theorem dksX3_vacancies_1 : cX3_vacancies.data.toList.drop 24 = dktX3_vacancies_1 := dk_seg dksX3_vacancies_0 24 rfl rfl
theorem dX3_vacancies_0 : decode cX3_vacancies 0 = .ok (.iconst 0, 1) := dk_3 (dk_at dksX3_vacancies_0 0 rfl rfl)
theorem dX3_vacancies_1 : decode cX3_vacancies 1 = .ok (.istore_n 1, 1) := dk_60 (dk_at dksX3_vacancies_0 1 rfl rfl)
theorem dX3_vacancies_2 : decode cX3_vacancies 2 = .ok (.iconst 0, 1) := dk_3 (dk_at dksX3_vacancies_0 2 rfl rfl)
theorem dX3_vacancies_3 : decode cX3_vacancies 3 = .ok (.istore_n 2, 1) := dk_61 (dk_at dksX3_vacancies_0 3 rfl rfl)
theorem dX3_vacancies_4 : decode cX3_vacancies 4 = .ok (.iload_n 2, 1) := dk_28 (dk_at dksX3_vacancies_0 4 rfl rfl)
theorem dX3_vacancies_5 : decode cX3_vacancies 5 = .ok (.aload_n 0, 1) := dk_42 (dk_at dksX3_vacancies_0 5 rfl rfl)
theorem dX3_vacancies_6 : decode cX3_vacancies 6 = .ok (.getfield 9, 3) := dk_180 0 9 (dk_at dksX3_vacancies_0 6 rfl rfl)
theorem dX3_vacancies_9 : decode cX3_vacancies 9 = .ok (.iconst 2, 1) := dk_5 (dk_at dksX3_vacancies_0 9 rfl rfl)
theorem dX3_vacancies_10 : decode cX3_vacancies 10 = .ok (.iaload, 1) := dk_46 (dk_at dksX3_vacancies_0 10 rfl rfl)
theorem dX3_vacancies_11 : decode cX3_vacancies 11 = .ok (.if_icmp .ge 26, 3) := dk_162 0 26 (dk_at dksX3_vacancies_0 11 rfl rfl)
theorem dX3_vacancies_14 : decode cX3_vacancies 14 = .ok (.iload_n 1, 1) := dk_27 (dk_at dksX3_vacancies_0 14 rfl rfl)
theorem dX3_vacancies_15 : decode cX3_vacancies 15 = .ok (.aload_n 0, 1) := dk_42 (dk_at dksX3_vacancies_0 15 rfl rfl)
theorem dX3_vacancies_16 : decode cX3_vacancies 16 = .ok (.iload_n 2, 1) := dk_28 (dk_at dksX3_vacancies_0 16 rfl rfl)
theorem dX3_vacancies_17 : decode cX3_vacancies 17 = .ok (.iconst 4, 1) := dk_7 (dk_at dksX3_vacancies_0 17 rfl rfl)
theorem dX3_vacancies_18 : decode cX3_vacancies 18 = .ok (.invokevirtual 59, 3) := dk_182 0 59 (dk_at dksX3_vacancies_0 18 rfl rfl)
theorem dX3_vacancies_21 : decode cX3_vacancies 21 = .ok (.ifCond .ne 7, 3) := dk_154 0 7 (dk_at dksX3_vacancies_0 21 rfl rfl)
theorem dX3_vacancies_24 : decode cX3_vacancies 24 = .ok (.iconst 1, 1) := dk_4 (dk_at dksX3_vacancies_1 0 rfl rfl)
theorem dX3_vacancies_25 : decode cX3_vacancies 25 = .ok (.goto 4, 3) := dk_167 0 4 (dk_at dksX3_vacancies_1 1 rfl rfl)
theorem dX3_vacancies_28 : decode cX3_vacancies 28 = .ok (.iconst 0, 1) := dk_3 (dk_at dksX3_vacancies_1 4 rfl rfl)
theorem dX3_vacancies_29 : decode cX3_vacancies 29 = .ok (.iadd, 1) := dk_96 (dk_at dksX3_vacancies_1 5 rfl rfl)
theorem dX3_vacancies_30 : decode cX3_vacancies 30 = .ok (.istore_n 1, 1) := dk_60 (dk_at dksX3_vacancies_1 6 rfl rfl)
theorem dX3_vacancies_31 : decode cX3_vacancies 31 = .ok (.iinc 2 1, 3) := dk_132 2 1 (dk_at dksX3_vacancies_1 7 rfl rfl)
theorem dX3_vacancies_34 : decode cX3_vacancies 34 = .ok (.goto (-30), 3) := dk_167 255 226 (dk_at dksX3_vacancies_1 10 rfl rfl)
theorem dX3_vacancies_37 : decode cX3_vacancies 37 = .ok (.iload_n 1, 1) := dk_27 (dk_at dksX3_vacancies_1 13 rfl rfl)
theorem dX3_vacancies_38 : decode cX3_vacancies 38 = .ok (.ireturn, 1) := dk_172 (dk_at dksX3_vacancies_1 14 rfl rfl)
abbrev cX3_requiredShape : ByteArray := prog_10_method_58_code
def yX3_requiredShape : MethodName := ⟨RX3, "requiredShape", "(I)C"⟩
def dkwX3_requiredShape_1 : List UInt8 := [172]
abbrev dktX3_requiredShape_1 : List UInt8 := dkwX3_requiredShape_1 ++ []
def dkwX3_requiredShape_0 : List UInt8 := [42, 42, 27, 182, 0, 143, 182, 0, 119, 153, 0, 13, 42, 27, 3, 182, 0, 59, 146, 167, 0, 5, 16, 32]
abbrev dktX3_requiredShape_0 : List UInt8 := dkwX3_requiredShape_0 ++ dktX3_requiredShape_1
theorem dksX3_requiredShape_0 : cX3_requiredShape.data.toList.drop 0 = dktX3_requiredShape_0 := by decide +kernel
theorem dksX3_requiredShape_1 : cX3_requiredShape.data.toList.drop 24 = dktX3_requiredShape_1 := dk_seg dksX3_requiredShape_0 24 rfl rfl
theorem dX3_requiredShape_0 : decode cX3_requiredShape 0 = .ok (.aload_n 0, 1) := dk_42 (dk_at dksX3_requiredShape_0 0 rfl rfl)
theorem dX3_requiredShape_1 : decode cX3_requiredShape 1 = .ok (.aload_n 0, 1) := dk_42 (dk_at dksX3_requiredShape_0 1 rfl rfl)
theorem dX3_requiredShape_2 : decode cX3_requiredShape 2 = .ok (.iload_n 1, 1) := dk_27 (dk_at dksX3_requiredShape_0 2 rfl rfl)
theorem dX3_requiredShape_3 : decode cX3_requiredShape 3 = .ok (.invokevirtual 143, 3) := dk_182 0 143 (dk_at dksX3_requiredShape_0 3 rfl rfl)
theorem dX3_requiredShape_6 : decode cX3_requiredShape 6 = .ok (.invokevirtual 119, 3) := dk_182 0 119 (dk_at dksX3_requiredShape_0 6 rfl rfl)
theorem dX3_requiredShape_9 : decode cX3_requiredShape 9 = .ok (.ifCond .eq 13, 3) := dk_153 0 13 (dk_at dksX3_requiredShape_0 9 rfl rfl)
theorem dX3_requiredShape_12 : decode cX3_requiredShape 12 = .ok (.aload_n 0, 1) := dk_42 (dk_at dksX3_requiredShape_0 12 rfl rfl)
theorem dX3_requiredShape_13 : decode cX3_requiredShape 13 = .ok (.iload_n 1, 1) := dk_27 (dk_at dksX3_requiredShape_0 13 rfl rfl)
theorem dX3_requiredShape_14 : decode cX3_requiredShape 14 = .ok (.iconst 0, 1) := dk_3 (dk_at dksX3_requiredShape_0 14 rfl rfl)
theorem dX3_requiredShape_15 : decode cX3_requiredShape 15 = .ok (.invokevirtual 59, 3) := dk_182 0 59 (dk_at dksX3_requiredShape_0 15 rfl rfl)
theorem dX3_requiredShape_18 : decode cX3_requiredShape 18 = .ok (.i2c, 1) := dk_146 (dk_at dksX3_requiredShape_0 18 rfl rfl)
theorem dX3_requiredShape_19 : decode cX3_requiredShape 19 = .ok (.goto 5, 3) := dk_167 0 5 (dk_at dksX3_requiredShape_0 19 rfl rfl)
theorem dX3_requiredShape_22 : decode cX3_requiredShape 22 = .ok (.bipush 32, 2) := dk_16 32 (dk_at dksX3_requiredShape_0 22 rfl rfl)
theorem dX3_requiredShape_24 : decode cX3_requiredShape 24 = .ok (.ireturn, 1) := dk_172 (dk_at dksX3_requiredShape_1 0 rfl rfl)
abbrev cX3_lowestWhiteness : ByteArray := prog_10_method_59_code
def yX3_lowestWhiteness : MethodName := ⟨RX3, "lowestWhiteness", "(I)I"⟩
def dkwX3_lowestWhiteness_0 : List UInt8 := [42, 42, 27, 182, 0, 143, 182, 0, 119, 153, 0, 12, 42, 27, 4, 182, 0, 59, 167, 0, 4, 3, 172]
abbrev dktX3_lowestWhiteness_0 : List UInt8 := dkwX3_lowestWhiteness_0 ++ []
theorem dksX3_lowestWhiteness_0 : cX3_lowestWhiteness.data.toList.drop 0 = dktX3_lowestWhiteness_0 := by decide +kernel
theorem dX3_lowestWhiteness_0 : decode cX3_lowestWhiteness 0 = .ok (.aload_n 0, 1) := dk_42 (dk_at dksX3_lowestWhiteness_0 0 rfl rfl)
theorem dX3_lowestWhiteness_1 : decode cX3_lowestWhiteness 1 = .ok (.aload_n 0, 1) := dk_42 (dk_at dksX3_lowestWhiteness_0 1 rfl rfl)
theorem dX3_lowestWhiteness_2 : decode cX3_lowestWhiteness 2 = .ok (.iload_n 1, 1) := dk_27 (dk_at dksX3_lowestWhiteness_0 2 rfl rfl)
theorem dX3_lowestWhiteness_3 : decode cX3_lowestWhiteness 3 = .ok (.invokevirtual 143, 3) := dk_182 0 143 (dk_at dksX3_lowestWhiteness_0 3 rfl rfl)
theorem dX3_lowestWhiteness_6 : decode cX3_lowestWhiteness 6 = .ok (.invokevirtual 119, 3) := dk_182 0 119 (dk_at dksX3_lowestWhiteness_0 6 rfl rfl)
theorem dX3_lowestWhiteness_9 : decode cX3_lowestWhiteness 9 = .ok (.ifCond .eq 12, 3) := dk_153 0 12 (dk_at dksX3_lowestWhiteness_0 9 rfl rfl)
theorem dX3_lowestWhiteness_12 : decode cX3_lowestWhiteness 12 = .ok (.aload_n 0, 1) := dk_42 (dk_at dksX3_lowestWhiteness_0 12 rfl rfl)
theorem dX3_lowestWhiteness_13 : decode cX3_lowestWhiteness 13 = .ok (.iload_n 1, 1) := dk_27 (dk_at dksX3_lowestWhiteness_0 13 rfl rfl)
theorem dX3_lowestWhiteness_14 : decode cX3_lowestWhiteness 14 = .ok (.iconst 1, 1) := dk_4 (dk_at dksX3_lowestWhiteness_0 14 rfl rfl)
theorem dX3_lowestWhiteness_15 : decode cX3_lowestWhiteness 15 = .ok (.invokevirtual 59, 3) := dk_182 0 59 (dk_at dksX3_lowestWhiteness_0 15 rfl rfl)
theorem dX3_lowestWhiteness_18 : decode cX3_lowestWhiteness 18 = .ok (.goto 4, 3) := dk_167 0 4 (dk_at dksX3_lowestWhiteness_0 18 rfl rfl)
theorem dX3_lowestWhiteness_21 : decode cX3_lowestWhiteness 21 = .ok (.iconst 0, 1) := dk_3 (dk_at dksX3_lowestWhiteness_0 21 rfl rfl)
theorem dX3_lowestWhiteness_22 : decode cX3_lowestWhiteness 22 = .ok (.ireturn, 1) := dk_172 (dk_at dksX3_lowestWhiteness_0 22 rfl rfl)
abbrev cX3_highestRain : ByteArray := prog_10_method_60_code
def yX3_highestRain : MethodName := ⟨RX3, "highestRain", "(I)I"⟩
def dkwX3_highestRain_0 : List UInt8 := [42, 42, 27, 182, 0, 143, 182, 0, 119, 153, 0, 12, 42, 27, 5, 182, 0, 59, 167, 0, 4, 3, 172]
abbrev dktX3_highestRain_0 : List UInt8 := dkwX3_highestRain_0 ++ []
theorem dksX3_highestRain_0 : cX3_highestRain.data.toList.drop 0 = dktX3_highestRain_0 := by decide +kernel
theorem dX3_highestRain_0 : decode cX3_highestRain 0 = .ok (.aload_n 0, 1) := dk_42 (dk_at dksX3_highestRain_0 0 rfl rfl)
theorem dX3_highestRain_1 : decode cX3_highestRain 1 = .ok (.aload_n 0, 1) := dk_42 (dk_at dksX3_highestRain_0 1 rfl rfl)
theorem dX3_highestRain_2 : decode cX3_highestRain 2 = .ok (.iload_n 1, 1) := dk_27 (dk_at dksX3_highestRain_0 2 rfl rfl)
theorem dX3_highestRain_3 : decode cX3_highestRain 3 = .ok (.invokevirtual 143, 3) := dk_182 0 143 (dk_at dksX3_highestRain_0 3 rfl rfl)
theorem dX3_highestRain_6 : decode cX3_highestRain 6 = .ok (.invokevirtual 119, 3) := dk_182 0 119 (dk_at dksX3_highestRain_0 6 rfl rfl)
theorem dX3_highestRain_9 : decode cX3_highestRain 9 = .ok (.ifCond .eq 12, 3) := dk_153 0 12 (dk_at dksX3_highestRain_0 9 rfl rfl)
theorem dX3_highestRain_12 : decode cX3_highestRain 12 = .ok (.aload_n 0, 1) := dk_42 (dk_at dksX3_highestRain_0 12 rfl rfl)
theorem dX3_highestRain_13 : decode cX3_highestRain 13 = .ok (.iload_n 1, 1) := dk_27 (dk_at dksX3_highestRain_0 13 rfl rfl)
theorem dX3_highestRain_14 : decode cX3_highestRain 14 = .ok (.iconst 2, 1) := dk_5 (dk_at dksX3_highestRain_0 14 rfl rfl)
theorem dX3_highestRain_15 : decode cX3_highestRain 15 = .ok (.invokevirtual 59, 3) := dk_182 0 59 (dk_at dksX3_highestRain_0 15 rfl rfl)
theorem dX3_highestRain_18 : decode cX3_highestRain 18 = .ok (.goto 4, 3) := dk_167 0 4 (dk_at dksX3_highestRain_0 18 rfl rfl)
theorem dX3_highestRain_21 : decode cX3_highestRain 21 = .ok (.iconst 0, 1) := dk_3 (dk_at dksX3_highestRain_0 21 rfl rfl)
theorem dX3_highestRain_22 : decode cX3_highestRain 22 = .ok (.ireturn, 1) := dk_172 (dk_at dksX3_highestRain_0 22 rfl rfl)
abbrev cX3_wage : ByteArray := prog_10_method_61_code
def yX3_wage : MethodName := ⟨RX3, "wage", "(I)I"⟩
def dkwX3_wage_0 : List UInt8 := [42, 42, 27, 182, 0, 143, 182, 0, 119, 153, 0, 12, 42, 27, 6, 182, 0, 59, 167, 0, 4, 3, 172]
abbrev dktX3_wage_0 : List UInt8 := dkwX3_wage_0 ++ []
theorem dksX3_wage_0 : cX3_wage.data.toList.drop 0 = dktX3_wage_0 := by decide +kernel
theorem dX3_wage_0 : decode cX3_wage 0 = .ok (.aload_n 0, 1) := dk_42 (dk_at dksX3_wage_0 0 rfl rfl)
theorem dX3_wage_1 : decode cX3_wage 1 = .ok (.aload_n 0, 1) := dk_42 (dk_at dksX3_wage_0 1 rfl rfl)
theorem dX3_wage_2 : decode cX3_wage 2 = .ok (.iload_n 1, 1) := dk_27 (dk_at dksX3_wage_0 2 rfl rfl)
theorem dX3_wage_3 : decode cX3_wage 3 = .ok (.invokevirtual 143, 3) := dk_182 0 143 (dk_at dksX3_wage_0 3 rfl rfl)
theorem dX3_wage_6 : decode cX3_wage 6 = .ok (.invokevirtual 119, 3) := dk_182 0 119 (dk_at dksX3_wage_0 6 rfl rfl)
theorem dX3_wage_9 : decode cX3_wage 9 = .ok (.ifCond .eq 12, 3) := dk_153 0 12 (dk_at dksX3_wage_0 9 rfl rfl)
theorem dX3_wage_12 : decode cX3_wage 12 = .ok (.aload_n 0, 1) := dk_42 (dk_at dksX3_wage_0 12 rfl rfl)
theorem dX3_wage_13 : decode cX3_wage 13 = .ok (.iload_n 1, 1) := dk_27 (dk_at dksX3_wage_0 13 rfl rfl)
theorem dX3_wage_14 : decode cX3_wage 14 = .ok (.iconst 3, 1) := dk_6 (dk_at dksX3_wage_0 14 rfl rfl)
theorem dX3_wage_15 : decode cX3_wage 15 = .ok (.invokevirtual 59, 3) := dk_182 0 59 (dk_at dksX3_wage_0 15 rfl rfl)
theorem dX3_wage_18 : decode cX3_wage 18 = .ok (.goto 4, 3) := dk_167 0 4 (dk_at dksX3_wage_0 18 rfl rfl)
theorem dX3_wage_21 : decode cX3_wage 21 = .ok (.iconst 0, 1) := dk_3 (dk_at dksX3_wage_0 21 rfl rfl)
theorem dX3_wage_22 : decode cX3_wage 22 = .ok (.ireturn, 1) := dk_172 (dk_at dksX3_wage_0 22 rfl rfl)
abbrev cX3_filledBy : ByteArray := prog_10_method_62_code
def yX3_filledBy : MethodName := ⟨RX3, "filledBy", "(I)I"⟩
def dkwX3_filledBy_2 : List UInt8 := [182, 0, 59, 4, 100, 182, 0, 76, 172]
abbrev dktX3_filledBy_2 : List UInt8 := dkwX3_filledBy_2 ++ []
def dkwX3_filledBy_1 : List UInt8 := [167, 0, 4, 3, 181, 0, 39, 42, 180, 0, 39, 158, 0, 7, 3, 167, 0, 15, 42, 42, 27, 7]
abbrev dktX3_filledBy_1 : List UInt8 := dkwX3_filledBy_1 ++ dktX3_filledBy_2
def dkwX3_filledBy_0 : List UInt8 := [42, 42, 27, 182, 0, 143, 154, 0, 7, 4, 167, 0, 17, 42, 27, 7, 182, 0, 59, 154, 0, 7, 5]
abbrev dktX3_filledBy_0 : List UInt8 := dkwX3_filledBy_0 ++ dktX3_filledBy_1
theorem dksX3_filledBy_0 : cX3_filledBy.data.toList.drop 0 = dktX3_filledBy_0 := by decide +kernel
theorem dksX3_filledBy_1 : cX3_filledBy.data.toList.drop 23 = dktX3_filledBy_1 := dk_seg dksX3_filledBy_0 23 rfl rfl
theorem dksX3_filledBy_2 : cX3_filledBy.data.toList.drop 45 = dktX3_filledBy_2 := dk_seg dksX3_filledBy_1 22 rfl rfl
theorem dX3_filledBy_0 : decode cX3_filledBy 0 = .ok (.aload_n 0, 1) := dk_42 (dk_at dksX3_filledBy_0 0 rfl rfl)
theorem dX3_filledBy_1 : decode cX3_filledBy 1 = .ok (.aload_n 0, 1) := dk_42 (dk_at dksX3_filledBy_0 1 rfl rfl)
theorem dX3_filledBy_2 : decode cX3_filledBy 2 = .ok (.iload_n 1, 1) := dk_27 (dk_at dksX3_filledBy_0 2 rfl rfl)
theorem dX3_filledBy_3 : decode cX3_filledBy 3 = .ok (.invokevirtual 143, 3) := dk_182 0 143 (dk_at dksX3_filledBy_0 3 rfl rfl)
theorem dX3_filledBy_6 : decode cX3_filledBy 6 = .ok (.ifCond .ne 7, 3) := dk_154 0 7 (dk_at dksX3_filledBy_0 6 rfl rfl)
theorem dX3_filledBy_9 : decode cX3_filledBy 9 = .ok (.iconst 1, 1) := dk_4 (dk_at dksX3_filledBy_0 9 rfl rfl)
theorem dX3_filledBy_10 : decode cX3_filledBy 10 = .ok (.goto 17, 3) := dk_167 0 17 (dk_at dksX3_filledBy_0 10 rfl rfl)
theorem dX3_filledBy_13 : decode cX3_filledBy 13 = .ok (.aload_n 0, 1) := dk_42 (dk_at dksX3_filledBy_0 13 rfl rfl)
theorem dX3_filledBy_14 : decode cX3_filledBy 14 = .ok (.iload_n 1, 1) := dk_27 (dk_at dksX3_filledBy_0 14 rfl rfl)
theorem dX3_filledBy_15 : decode cX3_filledBy 15 = .ok (.iconst 4, 1) := dk_7 (dk_at dksX3_filledBy_0 15 rfl rfl)
theorem dX3_filledBy_16 : decode cX3_filledBy 16 = .ok (.invokevirtual 59, 3) := dk_182 0 59 (dk_at dksX3_filledBy_0 16 rfl rfl)
theorem dX3_filledBy_19 : decode cX3_filledBy 19 = .ok (.ifCond .ne 7, 3) := dk_154 0 7 (dk_at dksX3_filledBy_0 19 rfl rfl)
theorem dX3_filledBy_22 : decode cX3_filledBy 22 = .ok (.iconst 2, 1) := dk_5 (dk_at dksX3_filledBy_0 22 rfl rfl)
theorem dX3_filledBy_23 : decode cX3_filledBy 23 = .ok (.goto 4, 3) := dk_167 0 4 (dk_at dksX3_filledBy_1 0 rfl rfl)
theorem dX3_filledBy_26 : decode cX3_filledBy 26 = .ok (.iconst 0, 1) := dk_3 (dk_at dksX3_filledBy_1 3 rfl rfl)
theorem dX3_filledBy_27 : decode cX3_filledBy 27 = .ok (.putfield 39, 3) := dk_181 0 39 (dk_at dksX3_filledBy_1 4 rfl rfl)
theorem dX3_filledBy_30 : decode cX3_filledBy 30 = .ok (.aload_n 0, 1) := dk_42 (dk_at dksX3_filledBy_1 7 rfl rfl)
theorem dX3_filledBy_31 : decode cX3_filledBy 31 = .ok (.getfield 39, 3) := dk_180 0 39 (dk_at dksX3_filledBy_1 8 rfl rfl)
theorem dX3_filledBy_34 : decode cX3_filledBy 34 = .ok (.ifCond .le 7, 3) := dk_158 0 7 (dk_at dksX3_filledBy_1 11 rfl rfl)
theorem dX3_filledBy_37 : decode cX3_filledBy 37 = .ok (.iconst 0, 1) := dk_3 (dk_at dksX3_filledBy_1 14 rfl rfl)
theorem dX3_filledBy_38 : decode cX3_filledBy 38 = .ok (.goto 15, 3) := dk_167 0 15 (dk_at dksX3_filledBy_1 15 rfl rfl)
theorem dX3_filledBy_41 : decode cX3_filledBy 41 = .ok (.aload_n 0, 1) := dk_42 (dk_at dksX3_filledBy_1 18 rfl rfl)
theorem dX3_filledBy_42 : decode cX3_filledBy 42 = .ok (.aload_n 0, 1) := dk_42 (dk_at dksX3_filledBy_1 19 rfl rfl)
theorem dX3_filledBy_43 : decode cX3_filledBy 43 = .ok (.iload_n 1, 1) := dk_27 (dk_at dksX3_filledBy_1 20 rfl rfl)
theorem dX3_filledBy_44 : decode cX3_filledBy 44 = .ok (.iconst 4, 1) := dk_7 (dk_at dksX3_filledBy_1 21 rfl rfl)
theorem dX3_filledBy_45 : decode cX3_filledBy 45 = .ok (.invokevirtual 59, 3) := dk_182 0 59 (dk_at dksX3_filledBy_2 0 rfl rfl)
theorem dX3_filledBy_48 : decode cX3_filledBy 48 = .ok (.iconst 1, 1) := dk_4 (dk_at dksX3_filledBy_2 3 rfl rfl)
theorem dX3_filledBy_49 : decode cX3_filledBy 49 = .ok (.isub, 1) := dk_100 (dk_at dksX3_filledBy_2 4 rfl rfl)
theorem dX3_filledBy_50 : decode cX3_filledBy 50 = .ok (.invokevirtual 76, 3) := dk_182 0 76 (dk_at dksX3_filledBy_2 5 rfl rfl)
theorem dX3_filledBy_53 : decode cX3_filledBy 53 = .ok (.ireturn, 1) := dk_172 (dk_at dksX3_filledBy_2 8 rfl rfl)
abbrev cX3_suits : ByteArray := prog_10_method_63_code
def yX3_suits : MethodName := ⟨RX3, "suits", "(II)Z"⟩
def dkwX3_suits_2 : List UInt8 := [167, 0, 4, 3, 172]
abbrev dktX3_suits_2 : List UInt8 := dkwX3_suits_2 ++ []
def dkwX3_suits_1 : List UInt8 := [167, 0, 4, 3, 181, 0, 39, 42, 180, 0, 39, 154, 0, 16, 42, 29, 28, 182, 0, 152, 153, 0, 7, 4]
abbrev dktX3_suits_1 : List UInt8 := dkwX3_suits_1 ++ dktX3_suits_2
def dkwX3_suits_0 : List UInt8 := [42, 27, 182, 0, 103, 62, 42, 29, 156, 0, 7, 4, 167, 0, 16, 42, 28, 182, 0, 143, 154, 0, 7, 5]
abbrev dktX3_suits_0 : List UInt8 := dkwX3_suits_0 ++ dktX3_suits_1
theorem dksX3_suits_0 : cX3_suits.data.toList.drop 0 = dktX3_suits_0 := by decide +kernel
theorem dksX3_suits_1 : cX3_suits.data.toList.drop 24 = dktX3_suits_1 := dk_seg dksX3_suits_0 24 rfl rfl
theorem dksX3_suits_2 : cX3_suits.data.toList.drop 48 = dktX3_suits_2 := dk_seg dksX3_suits_1 24 rfl rfl
theorem dX3_suits_0 : decode cX3_suits 0 = .ok (.aload_n 0, 1) := dk_42 (dk_at dksX3_suits_0 0 rfl rfl)
theorem dX3_suits_1 : decode cX3_suits 1 = .ok (.iload_n 1, 1) := dk_27 (dk_at dksX3_suits_0 1 rfl rfl)
theorem dX3_suits_2 : decode cX3_suits 2 = .ok (.invokevirtual 103, 3) := dk_182 0 103 (dk_at dksX3_suits_0 2 rfl rfl)
theorem dX3_suits_5 : decode cX3_suits 5 = .ok (.istore_n 3, 1) := dk_62 (dk_at dksX3_suits_0 5 rfl rfl)
theorem dX3_suits_6 : decode cX3_suits 6 = .ok (.aload_n 0, 1) := dk_42 (dk_at dksX3_suits_0 6 rfl rfl)
theorem dX3_suits_7 : decode cX3_suits 7 = .ok (.iload_n 3, 1) := dk_29 (dk_at dksX3_suits_0 7 rfl rfl)
theorem dX3_suits_8 : decode cX3_suits 8 = .ok (.ifCond .ge 7, 3) := dk_156 0 7 (dk_at dksX3_suits_0 8 rfl rfl)
theorem dX3_suits_11 : decode cX3_suits 11 = .ok (.iconst 1, 1) := dk_4 (dk_at dksX3_suits_0 11 rfl rfl)
theorem dX3_suits_12 : decode cX3_suits 12 = .ok (.goto 16, 3) := dk_167 0 16 (dk_at dksX3_suits_0 12 rfl rfl)
theorem dX3_suits_15 : decode cX3_suits 15 = .ok (.aload_n 0, 1) := dk_42 (dk_at dksX3_suits_0 15 rfl rfl)
theorem dX3_suits_16 : decode cX3_suits 16 = .ok (.iload_n 2, 1) := dk_28 (dk_at dksX3_suits_0 16 rfl rfl)
theorem dX3_suits_17 : decode cX3_suits 17 = .ok (.invokevirtual 143, 3) := dk_182 0 143 (dk_at dksX3_suits_0 17 rfl rfl)
theorem dX3_suits_20 : decode cX3_suits 20 = .ok (.ifCond .ne 7, 3) := dk_154 0 7 (dk_at dksX3_suits_0 20 rfl rfl)
theorem dX3_suits_23 : decode cX3_suits 23 = .ok (.iconst 2, 1) := dk_5 (dk_at dksX3_suits_0 23 rfl rfl)
theorem dX3_suits_24 : decode cX3_suits 24 = .ok (.goto 4, 3) := dk_167 0 4 (dk_at dksX3_suits_1 0 rfl rfl)
theorem dX3_suits_27 : decode cX3_suits 27 = .ok (.iconst 0, 1) := dk_3 (dk_at dksX3_suits_1 3 rfl rfl)
theorem dX3_suits_28 : decode cX3_suits 28 = .ok (.putfield 39, 3) := dk_181 0 39 (dk_at dksX3_suits_1 4 rfl rfl)
theorem dX3_suits_31 : decode cX3_suits 31 = .ok (.aload_n 0, 1) := dk_42 (dk_at dksX3_suits_1 7 rfl rfl)
theorem dX3_suits_32 : decode cX3_suits 32 = .ok (.getfield 39, 3) := dk_180 0 39 (dk_at dksX3_suits_1 8 rfl rfl)
theorem dX3_suits_35 : decode cX3_suits 35 = .ok (.ifCond .ne 16, 3) := dk_154 0 16 (dk_at dksX3_suits_1 11 rfl rfl)
theorem dX3_suits_38 : decode cX3_suits 38 = .ok (.aload_n 0, 1) := dk_42 (dk_at dksX3_suits_1 14 rfl rfl)
theorem dX3_suits_39 : decode cX3_suits 39 = .ok (.iload_n 3, 1) := dk_29 (dk_at dksX3_suits_1 15 rfl rfl)
theorem dX3_suits_40 : decode cX3_suits 40 = .ok (.iload_n 2, 1) := dk_28 (dk_at dksX3_suits_1 16 rfl rfl)
theorem dX3_suits_41 : decode cX3_suits 41 = .ok (.invokevirtual 152, 3) := dk_182 0 152 (dk_at dksX3_suits_1 17 rfl rfl)
theorem dX3_suits_44 : decode cX3_suits 44 = .ok (.ifCond .eq 7, 3) := dk_153 0 7 (dk_at dksX3_suits_1 20 rfl rfl)
theorem dX3_suits_47 : decode cX3_suits 47 = .ok (.iconst 1, 1) := dk_4 (dk_at dksX3_suits_1 23 rfl rfl)
theorem dX3_suits_48 : decode cX3_suits 48 = .ok (.goto 4, 3) := dk_167 0 4 (dk_at dksX3_suits_2 0 rfl rfl)
theorem dX3_suits_51 : decode cX3_suits 51 = .ok (.iconst 0, 1) := dk_3 (dk_at dksX3_suits_2 3 rfl rfl)
theorem dX3_suits_52 : decode cX3_suits 52 = .ok (.ireturn, 1) := dk_172 (dk_at dksX3_suits_2 4 rfl rfl)
abbrev cX3_fits : ByteArray := prog_10_method_23_code
def yX3_fits : MethodName := ⟨RX3, "fits", "(II)Z"⟩
def dkwX3_fits_2 : List UInt8 := [182, 0, 59, 163, 0, 7, 4, 167, 0, 4, 3, 172]
abbrev dktX3_fits_2 : List UInt8 := dkwX3_fits_2 ++ []
def dkwX3_fits_1 : List UInt8 := [27, 5, 182, 0, 55, 42, 28, 4, 182, 0, 59, 161, 0, 22, 42, 27, 6, 182, 0, 55, 42, 28, 5]
abbrev dktX3_fits_1 : List UInt8 := dkwX3_fits_1 ++ dktX3_fits_2
def dkwX3_fits_0 : List UInt8 := [42, 28, 3, 182, 0, 59, 62, 29, 16, 42, 159, 0, 13, 29, 42, 27, 4, 182, 0, 55, 160, 0, 37, 42]
abbrev dktX3_fits_0 : List UInt8 := dkwX3_fits_0 ++ dktX3_fits_1
theorem dksX3_fits_0 : cX3_fits.data.toList.drop 0 = dktX3_fits_0 := by decide +kernel
theorem dksX3_fits_1 : cX3_fits.data.toList.drop 24 = dktX3_fits_1 := dk_seg dksX3_fits_0 24 rfl rfl
theorem dksX3_fits_2 : cX3_fits.data.toList.drop 47 = dktX3_fits_2 := dk_seg dksX3_fits_1 23 rfl rfl
theorem dX3_fits_0 : decode cX3_fits 0 = .ok (.aload_n 0, 1) := dk_42 (dk_at dksX3_fits_0 0 rfl rfl)
theorem dX3_fits_1 : decode cX3_fits 1 = .ok (.iload_n 2, 1) := dk_28 (dk_at dksX3_fits_0 1 rfl rfl)
theorem dX3_fits_2 : decode cX3_fits 2 = .ok (.iconst 0, 1) := dk_3 (dk_at dksX3_fits_0 2 rfl rfl)
theorem dX3_fits_3 : decode cX3_fits 3 = .ok (.invokevirtual 59, 3) := dk_182 0 59 (dk_at dksX3_fits_0 3 rfl rfl)
theorem dX3_fits_6 : decode cX3_fits 6 = .ok (.istore_n 3, 1) := dk_62 (dk_at dksX3_fits_0 6 rfl rfl)
theorem dX3_fits_7 : decode cX3_fits 7 = .ok (.iload_n 3, 1) := dk_29 (dk_at dksX3_fits_0 7 rfl rfl)
theorem dX3_fits_8 : decode cX3_fits 8 = .ok (.bipush 42, 2) := dk_16 42 (dk_at dksX3_fits_0 8 rfl rfl)
theorem dX3_fits_10 : decode cX3_fits 10 = .ok (.if_icmp .eq 13, 3) := dk_159 0 13 (dk_at dksX3_fits_0 10 rfl rfl)
theorem dX3_fits_13 : decode cX3_fits 13 = .ok (.iload_n 3, 1) := dk_29 (dk_at dksX3_fits_0 13 rfl rfl)
theorem dX3_fits_14 : decode cX3_fits 14 = .ok (.aload_n 0, 1) := dk_42 (dk_at dksX3_fits_0 14 rfl rfl)
theorem dX3_fits_15 : decode cX3_fits 15 = .ok (.iload_n 1, 1) := dk_27 (dk_at dksX3_fits_0 15 rfl rfl)
theorem dX3_fits_16 : decode cX3_fits 16 = .ok (.iconst 1, 1) := dk_4 (dk_at dksX3_fits_0 16 rfl rfl)
theorem dX3_fits_17 : decode cX3_fits 17 = .ok (.invokevirtual 55, 3) := dk_182 0 55 (dk_at dksX3_fits_0 17 rfl rfl)
theorem dX3_fits_20 : decode cX3_fits 20 = .ok (.if_icmp .ne 37, 3) := dk_160 0 37 (dk_at dksX3_fits_0 20 rfl rfl)
theorem dX3_fits_23 : decode cX3_fits 23 = .ok (.aload_n 0, 1) := dk_42 (dk_at dksX3_fits_0 23 rfl rfl)
theorem dX3_fits_24 : decode cX3_fits 24 = .ok (.iload_n 1, 1) := dk_27 (dk_at dksX3_fits_1 0 rfl rfl)
theorem dX3_fits_25 : decode cX3_fits 25 = .ok (.iconst 2, 1) := dk_5 (dk_at dksX3_fits_1 1 rfl rfl)
theorem dX3_fits_26 : decode cX3_fits 26 = .ok (.invokevirtual 55, 3) := dk_182 0 55 (dk_at dksX3_fits_1 2 rfl rfl)
theorem dX3_fits_29 : decode cX3_fits 29 = .ok (.aload_n 0, 1) := dk_42 (dk_at dksX3_fits_1 5 rfl rfl)
theorem dX3_fits_30 : decode cX3_fits 30 = .ok (.iload_n 2, 1) := dk_28 (dk_at dksX3_fits_1 6 rfl rfl)
theorem dX3_fits_31 : decode cX3_fits 31 = .ok (.iconst 1, 1) := dk_4 (dk_at dksX3_fits_1 7 rfl rfl)
theorem dX3_fits_32 : decode cX3_fits 32 = .ok (.invokevirtual 59, 3) := dk_182 0 59 (dk_at dksX3_fits_1 8 rfl rfl)
theorem dX3_fits_35 : decode cX3_fits 35 = .ok (.if_icmp .lt 22, 3) := dk_161 0 22 (dk_at dksX3_fits_1 11 rfl rfl)
theorem dX3_fits_38 : decode cX3_fits 38 = .ok (.aload_n 0, 1) := dk_42 (dk_at dksX3_fits_1 14 rfl rfl)
theorem dX3_fits_39 : decode cX3_fits 39 = .ok (.iload_n 1, 1) := dk_27 (dk_at dksX3_fits_1 15 rfl rfl)
theorem dX3_fits_40 : decode cX3_fits 40 = .ok (.iconst 3, 1) := dk_6 (dk_at dksX3_fits_1 16 rfl rfl)
theorem dX3_fits_41 : decode cX3_fits 41 = .ok (.invokevirtual 55, 3) := dk_182 0 55 (dk_at dksX3_fits_1 17 rfl rfl)
theorem dX3_fits_44 : decode cX3_fits 44 = .ok (.aload_n 0, 1) := dk_42 (dk_at dksX3_fits_1 20 rfl rfl)
theorem dX3_fits_45 : decode cX3_fits 45 = .ok (.iload_n 2, 1) := dk_28 (dk_at dksX3_fits_1 21 rfl rfl)
theorem dX3_fits_46 : decode cX3_fits 46 = .ok (.iconst 2, 1) := dk_5 (dk_at dksX3_fits_1 22 rfl rfl)
theorem dX3_fits_47 : decode cX3_fits 47 = .ok (.invokevirtual 59, 3) := dk_182 0 59 (dk_at dksX3_fits_2 0 rfl rfl)
theorem dX3_fits_50 : decode cX3_fits 50 = .ok (.if_icmp .gt 7, 3) := dk_163 0 7 (dk_at dksX3_fits_2 3 rfl rfl)
theorem dX3_fits_53 : decode cX3_fits 53 = .ok (.iconst 1, 1) := dk_4 (dk_at dksX3_fits_2 6 rfl rfl)
theorem dX3_fits_54 : decode cX3_fits 54 = .ok (.goto 4, 3) := dk_167 0 4 (dk_at dksX3_fits_2 7 rfl rfl)
theorem dX3_fits_57 : decode cX3_fits 57 = .ok (.iconst 0, 1) := dk_3 (dk_at dksX3_fits_2 10 rfl rfl)
theorem dX3_fits_58 : decode cX3_fits 58 = .ok (.ireturn, 1) := dk_172 (dk_at dksX3_fits_2 11 rfl rfl)
abbrev cX3_favouritePost : ByteArray := prog_10_method_65_code
def yX3_favouritePost : MethodName := ⟨RX3, "favouritePost", "(I)I"⟩
def dkwX3_favouritePost_1 : List UInt8 := [155, 0, 7, 4, 167, 0, 4, 3, 182, 0, 119, 153, 0, 7, 29, 167, 0, 4, 3, 172]
abbrev dktX3_favouritePost_1 : List UInt8 := dkwX3_favouritePost_1 ++ []
def dkwX3_favouritePost_0 : List UInt8 := [42, 27, 182, 0, 103, 61, 28, 156, 0, 7, 2, 167, 0, 9, 42, 28, 3, 182, 0, 158, 62, 42, 29]
abbrev dktX3_favouritePost_0 : List UInt8 := dkwX3_favouritePost_0 ++ dktX3_favouritePost_1
theorem dksX3_favouritePost_0 : cX3_favouritePost.data.toList.drop 0 = dktX3_favouritePost_0 := by decide +kernel
theorem dksX3_favouritePost_1 : cX3_favouritePost.data.toList.drop 23 = dktX3_favouritePost_1 := dk_seg dksX3_favouritePost_0 23 rfl rfl
theorem dX3_favouritePost_0 : decode cX3_favouritePost 0 = .ok (.aload_n 0, 1) := dk_42 (dk_at dksX3_favouritePost_0 0 rfl rfl)
theorem dX3_favouritePost_1 : decode cX3_favouritePost 1 = .ok (.iload_n 1, 1) := dk_27 (dk_at dksX3_favouritePost_0 1 rfl rfl)
theorem dX3_favouritePost_2 : decode cX3_favouritePost 2 = .ok (.invokevirtual 103, 3) := dk_182 0 103 (dk_at dksX3_favouritePost_0 2 rfl rfl)
theorem dX3_favouritePost_5 : decode cX3_favouritePost 5 = .ok (.istore_n 2, 1) := dk_61 (dk_at dksX3_favouritePost_0 5 rfl rfl)
theorem dX3_favouritePost_6 : decode cX3_favouritePost 6 = .ok (.iload_n 2, 1) := dk_28 (dk_at dksX3_favouritePost_0 6 rfl rfl)
theorem dX3_favouritePost_7 : decode cX3_favouritePost 7 = .ok (.ifCond .ge 7, 3) := dk_156 0 7 (dk_at dksX3_favouritePost_0 7 rfl rfl)
theorem dX3_favouritePost_10 : decode cX3_favouritePost 10 = .ok (.iconst (-1), 1) := dk_2 (dk_at dksX3_favouritePost_0 10 rfl rfl)
theorem dX3_favouritePost_11 : decode cX3_favouritePost 11 = .ok (.goto 9, 3) := dk_167 0 9 (dk_at dksX3_favouritePost_0 11 rfl rfl)
theorem dX3_favouritePost_14 : decode cX3_favouritePost 14 = .ok (.aload_n 0, 1) := dk_42 (dk_at dksX3_favouritePost_0 14 rfl rfl)
theorem dX3_favouritePost_15 : decode cX3_favouritePost 15 = .ok (.iload_n 2, 1) := dk_28 (dk_at dksX3_favouritePost_0 15 rfl rfl)
theorem dX3_favouritePost_16 : decode cX3_favouritePost 16 = .ok (.iconst 0, 1) := dk_3 (dk_at dksX3_favouritePost_0 16 rfl rfl)
theorem dX3_favouritePost_17 : decode cX3_favouritePost 17 = .ok (.invokevirtual 158, 3) := dk_182 0 158 (dk_at dksX3_favouritePost_0 17 rfl rfl)
theorem dX3_favouritePost_20 : decode cX3_favouritePost 20 = .ok (.istore_n 3, 1) := dk_62 (dk_at dksX3_favouritePost_0 20 rfl rfl)
theorem dX3_favouritePost_21 : decode cX3_favouritePost 21 = .ok (.aload_n 0, 1) := dk_42 (dk_at dksX3_favouritePost_0 21 rfl rfl)
theorem dX3_favouritePost_22 : decode cX3_favouritePost 22 = .ok (.iload_n 3, 1) := dk_29 (dk_at dksX3_favouritePost_0 22 rfl rfl)
theorem dX3_favouritePost_23 : decode cX3_favouritePost 23 = .ok (.ifCond .lt 7, 3) := dk_155 0 7 (dk_at dksX3_favouritePost_1 0 rfl rfl)
theorem dX3_favouritePost_26 : decode cX3_favouritePost 26 = .ok (.iconst 1, 1) := dk_4 (dk_at dksX3_favouritePost_1 3 rfl rfl)
theorem dX3_favouritePost_27 : decode cX3_favouritePost 27 = .ok (.goto 4, 3) := dk_167 0 4 (dk_at dksX3_favouritePost_1 4 rfl rfl)
theorem dX3_favouritePost_30 : decode cX3_favouritePost 30 = .ok (.iconst 0, 1) := dk_3 (dk_at dksX3_favouritePost_1 7 rfl rfl)
theorem dX3_favouritePost_31 : decode cX3_favouritePost 31 = .ok (.invokevirtual 119, 3) := dk_182 0 119 (dk_at dksX3_favouritePost_1 8 rfl rfl)
theorem dX3_favouritePost_34 : decode cX3_favouritePost 34 = .ok (.ifCond .eq 7, 3) := dk_153 0 7 (dk_at dksX3_favouritePost_1 11 rfl rfl)
theorem dX3_favouritePost_37 : decode cX3_favouritePost 37 = .ok (.iload_n 3, 1) := dk_29 (dk_at dksX3_favouritePost_1 14 rfl rfl)
theorem dX3_favouritePost_38 : decode cX3_favouritePost 38 = .ok (.goto 4, 3) := dk_167 0 4 (dk_at dksX3_favouritePost_1 15 rfl rfl)
theorem dX3_favouritePost_41 : decode cX3_favouritePost 41 = .ok (.iconst 0, 1) := dk_3 (dk_at dksX3_favouritePost_1 18 rfl rfl)
theorem dX3_favouritePost_42 : decode cX3_favouritePost 42 = .ok (.ireturn, 1) := dk_172 (dk_at dksX3_favouritePost_1 19 rfl rfl)
abbrev cX3_favourite : ByteArray := prog_10_method_64_code
def yX3_favourite : MethodName := ⟨RX3, "favourite", "(IZ)I"⟩
def dkwX3_favourite_3 : List UInt8 := [29, 62, 132, 4, 1, 167, 255, 185, 29, 172]
abbrev dktX3_favourite_3 : List UInt8 := dkwX3_favourite_3 ++ []
def dkwX3_favourite_2 : List UInt8 := [21, 5, 153, 0, 22, 29, 155, 0, 13, 42, 21, 4, 29, 182, 0, 155, 153, 0, 8, 21, 4, 167, 0, 4]
abbrev dktX3_favourite_2 : List UInt8 := dkwX3_favourite_2 ++ dktX3_favourite_3
def dkwX3_favourite_1 : List UInt8 := [153, 0, 21, 28, 153, 0, 13, 42, 21, 4, 7, 182, 0, 59, 154, 0, 7, 4, 167, 0, 4, 3, 54, 5]
abbrev dktX3_favourite_1 : List UInt8 := dkwX3_favourite_1 ++ dktX3_favourite_2
def dkwX3_favourite_0 : List UInt8 := [2, 62, 3, 54, 4, 21, 4, 42, 180, 0, 9, 5, 46, 162, 0, 66, 42, 27, 21, 4, 182, 0, 152]
abbrev dktX3_favourite_0 : List UInt8 := dkwX3_favourite_0 ++ dktX3_favourite_1
theorem dksX3_favourite_0 : cX3_favourite.data.toList.drop 0 = dktX3_favourite_0 := by decide +kernel
theorem dksX3_favourite_1 : cX3_favourite.data.toList.drop 23 = dktX3_favourite_1 := dk_seg dksX3_favourite_0 23 rfl rfl
theorem dksX3_favourite_2 : cX3_favourite.data.toList.drop 47 = dktX3_favourite_2 := dk_seg dksX3_favourite_1 24 rfl rfl
theorem dksX3_favourite_3 : cX3_favourite.data.toList.drop 71 = dktX3_favourite_3 := dk_seg dksX3_favourite_2 24 rfl rfl
theorem dX3_favourite_0 : decode cX3_favourite 0 = .ok (.iconst (-1), 1) := dk_2 (dk_at dksX3_favourite_0 0 rfl rfl)
theorem dX3_favourite_1 : decode cX3_favourite 1 = .ok (.istore_n 3, 1) := dk_62 (dk_at dksX3_favourite_0 1 rfl rfl)
theorem dX3_favourite_2 : decode cX3_favourite 2 = .ok (.iconst 0, 1) := dk_3 (dk_at dksX3_favourite_0 2 rfl rfl)
theorem dX3_favourite_3 : decode cX3_favourite 3 = .ok (.istore 4, 2) := dk_54 4 (dk_at dksX3_favourite_0 3 rfl rfl)
theorem dX3_favourite_5 : decode cX3_favourite 5 = .ok (.iload 4, 2) := dk_21 4 (dk_at dksX3_favourite_0 5 rfl rfl)
theorem dX3_favourite_7 : decode cX3_favourite 7 = .ok (.aload_n 0, 1) := dk_42 (dk_at dksX3_favourite_0 7 rfl rfl)
theorem dX3_favourite_8 : decode cX3_favourite 8 = .ok (.getfield 9, 3) := dk_180 0 9 (dk_at dksX3_favourite_0 8 rfl rfl)
theorem dX3_favourite_11 : decode cX3_favourite 11 = .ok (.iconst 2, 1) := dk_5 (dk_at dksX3_favourite_0 11 rfl rfl)
theorem dX3_favourite_12 : decode cX3_favourite 12 = .ok (.iaload, 1) := dk_46 (dk_at dksX3_favourite_0 12 rfl rfl)
theorem dX3_favourite_13 : decode cX3_favourite 13 = .ok (.if_icmp .ge 66, 3) := dk_162 0 66 (dk_at dksX3_favourite_0 13 rfl rfl)
theorem dX3_favourite_16 : decode cX3_favourite 16 = .ok (.aload_n 0, 1) := dk_42 (dk_at dksX3_favourite_0 16 rfl rfl)
theorem dX3_favourite_17 : decode cX3_favourite 17 = .ok (.iload_n 1, 1) := dk_27 (dk_at dksX3_favourite_0 17 rfl rfl)
theorem dX3_favourite_18 : decode cX3_favourite 18 = .ok (.iload 4, 2) := dk_21 4 (dk_at dksX3_favourite_0 18 rfl rfl)
theorem dX3_favourite_20 : decode cX3_favourite 20 = .ok (.invokevirtual 152, 3) := dk_182 0 152 (dk_at dksX3_favourite_0 20 rfl rfl)
theorem dX3_favourite_23 : decode cX3_favourite 23 = .ok (.ifCond .eq 21, 3) := dk_153 0 21 (dk_at dksX3_favourite_1 0 rfl rfl)
theorem dX3_favourite_26 : decode cX3_favourite 26 = .ok (.iload_n 2, 1) := dk_28 (dk_at dksX3_favourite_1 3 rfl rfl)
theorem dX3_favourite_27 : decode cX3_favourite 27 = .ok (.ifCond .eq 13, 3) := dk_153 0 13 (dk_at dksX3_favourite_1 4 rfl rfl)
theorem dX3_favourite_30 : decode cX3_favourite 30 = .ok (.aload_n 0, 1) := dk_42 (dk_at dksX3_favourite_1 7 rfl rfl)
theorem dX3_favourite_31 : decode cX3_favourite 31 = .ok (.iload 4, 2) := dk_21 4 (dk_at dksX3_favourite_1 8 rfl rfl)
theorem dX3_favourite_33 : decode cX3_favourite 33 = .ok (.iconst 4, 1) := dk_7 (dk_at dksX3_favourite_1 10 rfl rfl)
theorem dX3_favourite_34 : decode cX3_favourite 34 = .ok (.invokevirtual 59, 3) := dk_182 0 59 (dk_at dksX3_favourite_1 11 rfl rfl)
theorem dX3_favourite_37 : decode cX3_favourite 37 = .ok (.ifCond .ne 7, 3) := dk_154 0 7 (dk_at dksX3_favourite_1 14 rfl rfl)
theorem dX3_favourite_40 : decode cX3_favourite 40 = .ok (.iconst 1, 1) := dk_4 (dk_at dksX3_favourite_1 17 rfl rfl)
theorem dX3_favourite_41 : decode cX3_favourite 41 = .ok (.goto 4, 3) := dk_167 0 4 (dk_at dksX3_favourite_1 18 rfl rfl)
theorem dX3_favourite_44 : decode cX3_favourite 44 = .ok (.iconst 0, 1) := dk_3 (dk_at dksX3_favourite_1 21 rfl rfl)
theorem dX3_favourite_45 : decode cX3_favourite 45 = .ok (.istore 5, 2) := dk_54 5 (dk_at dksX3_favourite_1 22 rfl rfl)
theorem dX3_favourite_47 : decode cX3_favourite 47 = .ok (.iload 5, 2) := dk_21 5 (dk_at dksX3_favourite_2 0 rfl rfl)
theorem dX3_favourite_49 : decode cX3_favourite 49 = .ok (.ifCond .eq 22, 3) := dk_153 0 22 (dk_at dksX3_favourite_2 2 rfl rfl)
theorem dX3_favourite_52 : decode cX3_favourite 52 = .ok (.iload_n 3, 1) := dk_29 (dk_at dksX3_favourite_2 5 rfl rfl)
theorem dX3_favourite_53 : decode cX3_favourite 53 = .ok (.ifCond .lt 13, 3) := dk_155 0 13 (dk_at dksX3_favourite_2 6 rfl rfl)
theorem dX3_favourite_56 : decode cX3_favourite 56 = .ok (.aload_n 0, 1) := dk_42 (dk_at dksX3_favourite_2 9 rfl rfl)
theorem dX3_favourite_57 : decode cX3_favourite 57 = .ok (.iload 4, 2) := dk_21 4 (dk_at dksX3_favourite_2 10 rfl rfl)
theorem dX3_favourite_59 : decode cX3_favourite 59 = .ok (.iload_n 3, 1) := dk_29 (dk_at dksX3_favourite_2 12 rfl rfl)
theorem dX3_favourite_60 : decode cX3_favourite 60 = .ok (.invokevirtual 155, 3) := dk_182 0 155 (dk_at dksX3_favourite_2 13 rfl rfl)
theorem dX3_favourite_63 : decode cX3_favourite 63 = .ok (.ifCond .eq 8, 3) := dk_153 0 8 (dk_at dksX3_favourite_2 16 rfl rfl)
theorem dX3_favourite_66 : decode cX3_favourite 66 = .ok (.iload 4, 2) := dk_21 4 (dk_at dksX3_favourite_2 19 rfl rfl)
theorem dX3_favourite_68 : decode cX3_favourite 68 = .ok (.goto 4, 3) := dk_167 0 4 (dk_at dksX3_favourite_2 21 rfl rfl)
theorem dX3_favourite_71 : decode cX3_favourite 71 = .ok (.iload_n 3, 1) := dk_29 (dk_at dksX3_favourite_3 0 rfl rfl)
theorem dX3_favourite_72 : decode cX3_favourite 72 = .ok (.istore_n 3, 1) := dk_62 (dk_at dksX3_favourite_3 1 rfl rfl)
theorem dX3_favourite_73 : decode cX3_favourite 73 = .ok (.iinc 4 1, 3) := dk_132 4 1 (dk_at dksX3_favourite_3 2 rfl rfl)
theorem dX3_favourite_76 : decode cX3_favourite 76 = .ok (.goto (-71), 3) := dk_167 255 185 (dk_at dksX3_favourite_3 5 rfl rfl)
theorem dX3_favourite_79 : decode cX3_favourite 79 = .ok (.iload_n 3, 1) := dk_29 (dk_at dksX3_favourite_3 8 rfl rfl)
theorem dX3_favourite_80 : decode cX3_favourite 80 = .ok (.ireturn, 1) := dk_172 (dk_at dksX3_favourite_3 9 rfl rfl)
abbrev cX3_isPreferred : ByteArray := prog_10_method_22_code
def yX3_isPreferred : MethodName := ⟨RX3, "isPreferred", "(II)Z"⟩
def dkwX3_isPreferred_1 : List UInt8 := [162, 0, 7, 4, 167, 0, 4, 3, 172]
abbrev dktX3_isPreferred_1 : List UInt8 := dkwX3_isPreferred_1 ++ []
def dkwX3_isPreferred_0 : List UInt8 := [42, 27, 6, 182, 0, 59, 42, 28, 6, 182, 0, 59, 100, 62, 29, 157, 0, 12, 29, 154, 0, 12, 27, 28]
abbrev dktX3_isPreferred_0 : List UInt8 := dkwX3_isPreferred_0 ++ dktX3_isPreferred_1
theorem dksX3_isPreferred_0 : cX3_isPreferred.data.toList.drop 0 = dktX3_isPreferred_0 := by decide +kernel
theorem dksX3_isPreferred_1 : cX3_isPreferred.data.toList.drop 24 = dktX3_isPreferred_1 := dk_seg dksX3_isPreferred_0 24 rfl rfl
theorem dX3_isPreferred_0 : decode cX3_isPreferred 0 = .ok (.aload_n 0, 1) := dk_42 (dk_at dksX3_isPreferred_0 0 rfl rfl)
theorem dX3_isPreferred_1 : decode cX3_isPreferred 1 = .ok (.iload_n 1, 1) := dk_27 (dk_at dksX3_isPreferred_0 1 rfl rfl)
theorem dX3_isPreferred_2 : decode cX3_isPreferred 2 = .ok (.iconst 3, 1) := dk_6 (dk_at dksX3_isPreferred_0 2 rfl rfl)
theorem dX3_isPreferred_3 : decode cX3_isPreferred 3 = .ok (.invokevirtual 59, 3) := dk_182 0 59 (dk_at dksX3_isPreferred_0 3 rfl rfl)
theorem dX3_isPreferred_6 : decode cX3_isPreferred 6 = .ok (.aload_n 0, 1) := dk_42 (dk_at dksX3_isPreferred_0 6 rfl rfl)
theorem dX3_isPreferred_7 : decode cX3_isPreferred 7 = .ok (.iload_n 2, 1) := dk_28 (dk_at dksX3_isPreferred_0 7 rfl rfl)
theorem dX3_isPreferred_8 : decode cX3_isPreferred 8 = .ok (.iconst 3, 1) := dk_6 (dk_at dksX3_isPreferred_0 8 rfl rfl)
theorem dX3_isPreferred_9 : decode cX3_isPreferred 9 = .ok (.invokevirtual 59, 3) := dk_182 0 59 (dk_at dksX3_isPreferred_0 9 rfl rfl)
theorem dX3_isPreferred_12 : decode cX3_isPreferred 12 = .ok (.isub, 1) := dk_100 (dk_at dksX3_isPreferred_0 12 rfl rfl)
theorem dX3_isPreferred_13 : decode cX3_isPreferred 13 = .ok (.istore_n 3, 1) := dk_62 (dk_at dksX3_isPreferred_0 13 rfl rfl)
theorem dX3_isPreferred_14 : decode cX3_isPreferred 14 = .ok (.iload_n 3, 1) := dk_29 (dk_at dksX3_isPreferred_0 14 rfl rfl)
theorem dX3_isPreferred_15 : decode cX3_isPreferred 15 = .ok (.ifCond .gt 12, 3) := dk_157 0 12 (dk_at dksX3_isPreferred_0 15 rfl rfl)
theorem dX3_isPreferred_18 : decode cX3_isPreferred 18 = .ok (.iload_n 3, 1) := dk_29 (dk_at dksX3_isPreferred_0 18 rfl rfl)
theorem dX3_isPreferred_19 : decode cX3_isPreferred 19 = .ok (.ifCond .ne 12, 3) := dk_154 0 12 (dk_at dksX3_isPreferred_0 19 rfl rfl)
theorem dX3_isPreferred_22 : decode cX3_isPreferred 22 = .ok (.iload_n 1, 1) := dk_27 (dk_at dksX3_isPreferred_0 22 rfl rfl)
theorem dX3_isPreferred_23 : decode cX3_isPreferred 23 = .ok (.iload_n 2, 1) := dk_28 (dk_at dksX3_isPreferred_0 23 rfl rfl)
theorem dX3_isPreferred_24 : decode cX3_isPreferred 24 = .ok (.if_icmp .ge 7, 3) := dk_162 0 7 (dk_at dksX3_isPreferred_1 0 rfl rfl)
theorem dX3_isPreferred_27 : decode cX3_isPreferred 27 = .ok (.iconst 1, 1) := dk_4 (dk_at dksX3_isPreferred_1 3 rfl rfl)
theorem dX3_isPreferred_28 : decode cX3_isPreferred 28 = .ok (.goto 4, 3) := dk_167 0 4 (dk_at dksX3_isPreferred_1 4 rfl rfl)
theorem dX3_isPreferred_31 : decode cX3_isPreferred 31 = .ok (.iconst 0, 1) := dk_3 (dk_at dksX3_isPreferred_1 7 rfl rfl)
theorem dX3_isPreferred_32 : decode cX3_isPreferred 32 = .ok (.ireturn, 1) := dk_172 (dk_at dksX3_isPreferred_1 8 rfl rfl)
abbrev cX3_bestCandidate : ByteArray := prog_10_method_67_code
def yX3_bestCandidate : MethodName := ⟨RX3, "bestCandidate", "(I)I"⟩
def dkwX3_bestCandidate_2 : List UInt8 := [182, 0, 76, 172]
abbrev dktX3_bestCandidate_2 : List UInt8 := dkwX3_bestCandidate_2 ++ []
def dkwX3_bestCandidate_1 : List UInt8 := [167, 0, 4, 3, 181, 0, 39, 42, 180, 0, 39, 158, 0, 7, 3, 167, 0, 12, 42, 42, 27, 182, 0, 162]
abbrev dktX3_bestCandidate_1 : List UInt8 := dkwX3_bestCandidate_1 ++ dktX3_bestCandidate_2
def dkwX3_bestCandidate_0 : List UInt8 := [42, 42, 27, 182, 0, 143, 154, 0, 7, 4, 167, 0, 16, 42, 27, 182, 0, 162, 156, 0, 7, 5]
abbrev dktX3_bestCandidate_0 : List UInt8 := dkwX3_bestCandidate_0 ++ dktX3_bestCandidate_1
theorem dksX3_bestCandidate_0 : cX3_bestCandidate.data.toList.drop 0 = dktX3_bestCandidate_0 := by decide +kernel
theorem dksX3_bestCandidate_1 : cX3_bestCandidate.data.toList.drop 22 = dktX3_bestCandidate_1 := dk_seg dksX3_bestCandidate_0 22 rfl rfl
theorem dksX3_bestCandidate_2 : cX3_bestCandidate.data.toList.drop 46 = dktX3_bestCandidate_2 := dk_seg dksX3_bestCandidate_1 24 rfl rfl
theorem dX3_bestCandidate_0 : decode cX3_bestCandidate 0 = .ok (.aload_n 0, 1) := dk_42 (dk_at dksX3_bestCandidate_0 0 rfl rfl)
theorem dX3_bestCandidate_1 : decode cX3_bestCandidate 1 = .ok (.aload_n 0, 1) := dk_42 (dk_at dksX3_bestCandidate_0 1 rfl rfl)
theorem dX3_bestCandidate_2 : decode cX3_bestCandidate 2 = .ok (.iload_n 1, 1) := dk_27 (dk_at dksX3_bestCandidate_0 2 rfl rfl)
theorem dX3_bestCandidate_3 : decode cX3_bestCandidate 3 = .ok (.invokevirtual 143, 3) := dk_182 0 143 (dk_at dksX3_bestCandidate_0 3 rfl rfl)
theorem dX3_bestCandidate_6 : decode cX3_bestCandidate 6 = .ok (.ifCond .ne 7, 3) := dk_154 0 7 (dk_at dksX3_bestCandidate_0 6 rfl rfl)
theorem dX3_bestCandidate_9 : decode cX3_bestCandidate 9 = .ok (.iconst 1, 1) := dk_4 (dk_at dksX3_bestCandidate_0 9 rfl rfl)
theorem dX3_bestCandidate_10 : decode cX3_bestCandidate 10 = .ok (.goto 16, 3) := dk_167 0 16 (dk_at dksX3_bestCandidate_0 10 rfl rfl)
theorem dX3_bestCandidate_13 : decode cX3_bestCandidate 13 = .ok (.aload_n 0, 1) := dk_42 (dk_at dksX3_bestCandidate_0 13 rfl rfl)
theorem dX3_bestCandidate_14 : decode cX3_bestCandidate 14 = .ok (.iload_n 1, 1) := dk_27 (dk_at dksX3_bestCandidate_0 14 rfl rfl)
theorem dX3_bestCandidate_15 : decode cX3_bestCandidate 15 = .ok (.invokevirtual 162, 3) := dk_182 0 162 (dk_at dksX3_bestCandidate_0 15 rfl rfl)
theorem dX3_bestCandidate_18 : decode cX3_bestCandidate 18 = .ok (.ifCond .ge 7, 3) := dk_156 0 7 (dk_at dksX3_bestCandidate_0 18 rfl rfl)
theorem dX3_bestCandidate_21 : decode cX3_bestCandidate 21 = .ok (.iconst 2, 1) := dk_5 (dk_at dksX3_bestCandidate_0 21 rfl rfl)
theorem dX3_bestCandidate_22 : decode cX3_bestCandidate 22 = .ok (.goto 4, 3) := dk_167 0 4 (dk_at dksX3_bestCandidate_1 0 rfl rfl)
theorem dX3_bestCandidate_25 : decode cX3_bestCandidate 25 = .ok (.iconst 0, 1) := dk_3 (dk_at dksX3_bestCandidate_1 3 rfl rfl)
theorem dX3_bestCandidate_26 : decode cX3_bestCandidate 26 = .ok (.putfield 39, 3) := dk_181 0 39 (dk_at dksX3_bestCandidate_1 4 rfl rfl)
theorem dX3_bestCandidate_29 : decode cX3_bestCandidate 29 = .ok (.aload_n 0, 1) := dk_42 (dk_at dksX3_bestCandidate_1 7 rfl rfl)
theorem dX3_bestCandidate_30 : decode cX3_bestCandidate 30 = .ok (.getfield 39, 3) := dk_180 0 39 (dk_at dksX3_bestCandidate_1 8 rfl rfl)
theorem dX3_bestCandidate_33 : decode cX3_bestCandidate 33 = .ok (.ifCond .le 7, 3) := dk_158 0 7 (dk_at dksX3_bestCandidate_1 11 rfl rfl)
theorem dX3_bestCandidate_36 : decode cX3_bestCandidate 36 = .ok (.iconst 0, 1) := dk_3 (dk_at dksX3_bestCandidate_1 14 rfl rfl)
theorem dX3_bestCandidate_37 : decode cX3_bestCandidate 37 = .ok (.goto 12, 3) := dk_167 0 12 (dk_at dksX3_bestCandidate_1 15 rfl rfl)
theorem dX3_bestCandidate_40 : decode cX3_bestCandidate 40 = .ok (.aload_n 0, 1) := dk_42 (dk_at dksX3_bestCandidate_1 18 rfl rfl)
theorem dX3_bestCandidate_41 : decode cX3_bestCandidate 41 = .ok (.aload_n 0, 1) := dk_42 (dk_at dksX3_bestCandidate_1 19 rfl rfl)
theorem dX3_bestCandidate_42 : decode cX3_bestCandidate 42 = .ok (.iload_n 1, 1) := dk_27 (dk_at dksX3_bestCandidate_1 20 rfl rfl)
theorem dX3_bestCandidate_43 : decode cX3_bestCandidate 43 = .ok (.invokevirtual 162, 3) := dk_182 0 162 (dk_at dksX3_bestCandidate_1 21 rfl rfl)
theorem dX3_bestCandidate_46 : decode cX3_bestCandidate 46 = .ok (.invokevirtual 76, 3) := dk_182 0 76 (dk_at dksX3_bestCandidate_2 0 rfl rfl)
theorem dX3_bestCandidate_49 : decode cX3_bestCandidate 49 = .ok (.ireturn, 1) := dk_172 (dk_at dksX3_bestCandidate_2 3 rfl rfl)
abbrev cX3_candidate : ByteArray := prog_10_method_66_code
def yX3_candidate : MethodName := ⟨RX3, "candidate", "(I)I"⟩
def dkwX3_candidate_2 : List UInt8 := [182, 0, 126, 153, 0, 7, 29, 167, 0, 4, 28, 61, 132, 3, 1, 167, 255, 199, 28, 172]
abbrev dktX3_candidate_2 : List UInt8 := dkwX3_candidate_2 ++ []
def dkwX3_candidate_1 : List UInt8 := [153, 0, 7, 4, 167, 0, 4, 3, 54, 4, 21, 4, 153, 0, 20, 28, 155, 0, 12, 42, 29, 28]
abbrev dktX3_candidate_1 : List UInt8 := dkwX3_candidate_1 ++ dktX3_candidate_2
def dkwX3_candidate_0 : List UInt8 := [2, 61, 3, 62, 29, 16, 10, 162, 0, 57, 42, 29, 182, 0, 113, 153, 0, 16, 42, 29, 27, 182, 0, 152]
abbrev dktX3_candidate_0 : List UInt8 := dkwX3_candidate_0 ++ dktX3_candidate_1
theorem dksX3_candidate_0 : cX3_candidate.data.toList.drop 0 = dktX3_candidate_0 := by decide +kernel
theorem dksX3_candidate_1 : cX3_candidate.data.toList.drop 24 = dktX3_candidate_1 := dk_seg dksX3_candidate_0 24 rfl rfl
theorem dksX3_candidate_2 : cX3_candidate.data.toList.drop 46 = dktX3_candidate_2 := dk_seg dksX3_candidate_1 22 rfl rfl
theorem dX3_candidate_0 : decode cX3_candidate 0 = .ok (.iconst (-1), 1) := dk_2 (dk_at dksX3_candidate_0 0 rfl rfl)
theorem dX3_candidate_1 : decode cX3_candidate 1 = .ok (.istore_n 2, 1) := dk_61 (dk_at dksX3_candidate_0 1 rfl rfl)
theorem dX3_candidate_2 : decode cX3_candidate 2 = .ok (.iconst 0, 1) := dk_3 (dk_at dksX3_candidate_0 2 rfl rfl)
theorem dX3_candidate_3 : decode cX3_candidate 3 = .ok (.istore_n 3, 1) := dk_62 (dk_at dksX3_candidate_0 3 rfl rfl)
theorem dX3_candidate_4 : decode cX3_candidate 4 = .ok (.iload_n 3, 1) := dk_29 (dk_at dksX3_candidate_0 4 rfl rfl)
theorem dX3_candidate_5 : decode cX3_candidate 5 = .ok (.bipush 10, 2) := dk_16 10 (dk_at dksX3_candidate_0 5 rfl rfl)
theorem dX3_candidate_7 : decode cX3_candidate 7 = .ok (.if_icmp .ge 57, 3) := dk_162 0 57 (dk_at dksX3_candidate_0 7 rfl rfl)
theorem dX3_candidate_10 : decode cX3_candidate 10 = .ok (.aload_n 0, 1) := dk_42 (dk_at dksX3_candidate_0 10 rfl rfl)
theorem dX3_candidate_11 : decode cX3_candidate 11 = .ok (.iload_n 3, 1) := dk_29 (dk_at dksX3_candidate_0 11 rfl rfl)
theorem dX3_candidate_12 : decode cX3_candidate 12 = .ok (.invokevirtual 113, 3) := dk_182 0 113 (dk_at dksX3_candidate_0 12 rfl rfl)
theorem dX3_candidate_15 : decode cX3_candidate 15 = .ok (.ifCond .eq 16, 3) := dk_153 0 16 (dk_at dksX3_candidate_0 15 rfl rfl)
theorem dX3_candidate_18 : decode cX3_candidate 18 = .ok (.aload_n 0, 1) := dk_42 (dk_at dksX3_candidate_0 18 rfl rfl)
theorem dX3_candidate_19 : decode cX3_candidate 19 = .ok (.iload_n 3, 1) := dk_29 (dk_at dksX3_candidate_0 19 rfl rfl)
theorem dX3_candidate_20 : decode cX3_candidate 20 = .ok (.iload_n 1, 1) := dk_27 (dk_at dksX3_candidate_0 20 rfl rfl)
theorem dX3_candidate_21 : decode cX3_candidate 21 = .ok (.invokevirtual 152, 3) := dk_182 0 152 (dk_at dksX3_candidate_0 21 rfl rfl)
theorem dX3_candidate_24 : decode cX3_candidate 24 = .ok (.ifCond .eq 7, 3) := dk_153 0 7 (dk_at dksX3_candidate_1 0 rfl rfl)
theorem dX3_candidate_27 : decode cX3_candidate 27 = .ok (.iconst 1, 1) := dk_4 (dk_at dksX3_candidate_1 3 rfl rfl)
theorem dX3_candidate_28 : decode cX3_candidate 28 = .ok (.goto 4, 3) := dk_167 0 4 (dk_at dksX3_candidate_1 4 rfl rfl)
theorem dX3_candidate_31 : decode cX3_candidate 31 = .ok (.iconst 0, 1) := dk_3 (dk_at dksX3_candidate_1 7 rfl rfl)
theorem dX3_candidate_32 : decode cX3_candidate 32 = .ok (.istore 4, 2) := dk_54 4 (dk_at dksX3_candidate_1 8 rfl rfl)
theorem dX3_candidate_34 : decode cX3_candidate 34 = .ok (.iload 4, 2) := dk_21 4 (dk_at dksX3_candidate_1 10 rfl rfl)
theorem dX3_candidate_36 : decode cX3_candidate 36 = .ok (.ifCond .eq 20, 3) := dk_153 0 20 (dk_at dksX3_candidate_1 12 rfl rfl)
theorem dX3_candidate_39 : decode cX3_candidate 39 = .ok (.iload_n 2, 1) := dk_28 (dk_at dksX3_candidate_1 15 rfl rfl)
theorem dX3_candidate_40 : decode cX3_candidate 40 = .ok (.ifCond .lt 12, 3) := dk_155 0 12 (dk_at dksX3_candidate_1 16 rfl rfl)
theorem dX3_candidate_43 : decode cX3_candidate 43 = .ok (.aload_n 0, 1) := dk_42 (dk_at dksX3_candidate_1 19 rfl rfl)
theorem dX3_candidate_44 : decode cX3_candidate 44 = .ok (.iload_n 3, 1) := dk_29 (dk_at dksX3_candidate_1 20 rfl rfl)
theorem dX3_candidate_45 : decode cX3_candidate 45 = .ok (.iload_n 2, 1) := dk_28 (dk_at dksX3_candidate_1 21 rfl rfl)
theorem dX3_candidate_46 : decode cX3_candidate 46 = .ok (.invokevirtual 126, 3) := dk_182 0 126 (dk_at dksX3_candidate_2 0 rfl rfl)
theorem dX3_candidate_49 : decode cX3_candidate 49 = .ok (.ifCond .eq 7, 3) := dk_153 0 7 (dk_at dksX3_candidate_2 3 rfl rfl)
theorem dX3_candidate_52 : decode cX3_candidate 52 = .ok (.iload_n 3, 1) := dk_29 (dk_at dksX3_candidate_2 6 rfl rfl)
theorem dX3_candidate_53 : decode cX3_candidate 53 = .ok (.goto 4, 3) := dk_167 0 4 (dk_at dksX3_candidate_2 7 rfl rfl)
theorem dX3_candidate_56 : decode cX3_candidate 56 = .ok (.iload_n 2, 1) := dk_28 (dk_at dksX3_candidate_2 10 rfl rfl)
theorem dX3_candidate_57 : decode cX3_candidate 57 = .ok (.istore_n 2, 1) := dk_61 (dk_at dksX3_candidate_2 11 rfl rfl)
theorem dX3_candidate_58 : decode cX3_candidate 58 = .ok (.iinc 3 1, 3) := dk_132 3 1 (dk_at dksX3_candidate_2 12 rfl rfl)
theorem dX3_candidate_61 : decode cX3_candidate 61 = .ok (.goto (-57), 3) := dk_167 255 199 (dk_at dksX3_candidate_2 15 rfl rfl)
theorem dX3_candidate_64 : decode cX3_candidate 64 = .ok (.iload_n 2, 1) := dk_28 (dk_at dksX3_candidate_2 18 rfl rfl)
theorem dX3_candidate_65 : decode cX3_candidate 65 = .ok (.ireturn, 1) := dk_172 (dk_at dksX3_candidate_2 19 rfl rfl)
abbrev cX3_candidateCount : ByteArray := prog_10_method_68_code
def yX3_candidateCount : MethodName := ⟨RX3, "candidateCount", "(I)I"⟩
def dkwX3_candidateCount_2 : List UInt8 := [167, 0, 4, 3, 96, 61, 132, 4, 1, 167, 255, 215, 28, 172]
abbrev dktX3_candidateCount_2 : List UInt8 := dkwX3_candidateCount_2 ++ []
def dkwX3_candidateCount_1 : List UInt8 := [153, 0, 36, 28, 42, 21, 4, 182, 0, 113, 153, 0, 17, 42, 21, 4, 27, 182, 0, 152, 153, 0, 7, 4]
abbrev dktX3_candidateCount_1 : List UInt8 := dkwX3_candidateCount_1 ++ dktX3_candidateCount_2
def dkwX3_candidateCount_0 : List UInt8 := [3, 61, 42, 42, 27, 182, 0, 143, 182, 0, 119, 62, 3, 54, 4, 21, 4, 16, 10, 162, 0, 40, 29]
abbrev dktX3_candidateCount_0 : List UInt8 := dkwX3_candidateCount_0 ++ dktX3_candidateCount_1
theorem dksX3_candidateCount_0 : cX3_candidateCount.data.toList.drop 0 = dktX3_candidateCount_0 := by decide +kernel
theorem dksX3_candidateCount_1 : cX3_candidateCount.data.toList.drop 23 = dktX3_candidateCount_1 := dk_seg dksX3_candidateCount_0 23 rfl rfl
theorem dksX3_candidateCount_2 : cX3_candidateCount.data.toList.drop 47 = dktX3_candidateCount_2 := dk_seg dksX3_candidateCount_1 24 rfl rfl
theorem dX3_candidateCount_0 : decode cX3_candidateCount 0 = .ok (.iconst 0, 1) := dk_3 (dk_at dksX3_candidateCount_0 0 rfl rfl)
theorem dX3_candidateCount_1 : decode cX3_candidateCount 1 = .ok (.istore_n 2, 1) := dk_61 (dk_at dksX3_candidateCount_0 1 rfl rfl)
theorem dX3_candidateCount_2 : decode cX3_candidateCount 2 = .ok (.aload_n 0, 1) := dk_42 (dk_at dksX3_candidateCount_0 2 rfl rfl)
theorem dX3_candidateCount_3 : decode cX3_candidateCount 3 = .ok (.aload_n 0, 1) := dk_42 (dk_at dksX3_candidateCount_0 3 rfl rfl)
theorem dX3_candidateCount_4 : decode cX3_candidateCount 4 = .ok (.iload_n 1, 1) := dk_27 (dk_at dksX3_candidateCount_0 4 rfl rfl)
theorem dX3_candidateCount_5 : decode cX3_candidateCount 5 = .ok (.invokevirtual 143, 3) := dk_182 0 143 (dk_at dksX3_candidateCount_0 5 rfl rfl)
theorem dX3_candidateCount_8 : decode cX3_candidateCount 8 = .ok (.invokevirtual 119, 3) := dk_182 0 119 (dk_at dksX3_candidateCount_0 8 rfl rfl)
theorem dX3_candidateCount_11 : decode cX3_candidateCount 11 = .ok (.istore_n 3, 1) := dk_62 (dk_at dksX3_candidateCount_0 11 rfl rfl)
theorem dX3_candidateCount_12 : decode cX3_candidateCount 12 = .ok (.iconst 0, 1) := dk_3 (dk_at dksX3_candidateCount_0 12 rfl rfl)
theorem dX3_candidateCount_13 : decode cX3_candidateCount 13 = .ok (.istore 4, 2) := dk_54 4 (dk_at dksX3_candidateCount_0 13 rfl rfl)
theorem dX3_candidateCount_15 : decode cX3_candidateCount 15 = .ok (.iload 4, 2) := dk_21 4 (dk_at dksX3_candidateCount_0 15 rfl rfl)
theorem dX3_candidateCount_17 : decode cX3_candidateCount 17 = .ok (.bipush 10, 2) := dk_16 10 (dk_at dksX3_candidateCount_0 17 rfl rfl)
theorem dX3_candidateCount_19 : decode cX3_candidateCount 19 = .ok (.if_icmp .ge 40, 3) := dk_162 0 40 (dk_at dksX3_candidateCount_0 19 rfl rfl)
theorem dX3_candidateCount_22 : decode cX3_candidateCount 22 = .ok (.iload_n 3, 1) := dk_29 (dk_at dksX3_candidateCount_0 22 rfl rfl)
theorem dX3_candidateCount_23 : decode cX3_candidateCount 23 = .ok (.ifCond .eq 36, 3) := dk_153 0 36 (dk_at dksX3_candidateCount_1 0 rfl rfl)
theorem dX3_candidateCount_26 : decode cX3_candidateCount 26 = .ok (.iload_n 2, 1) := dk_28 (dk_at dksX3_candidateCount_1 3 rfl rfl)
theorem dX3_candidateCount_27 : decode cX3_candidateCount 27 = .ok (.aload_n 0, 1) := dk_42 (dk_at dksX3_candidateCount_1 4 rfl rfl)
theorem dX3_candidateCount_28 : decode cX3_candidateCount 28 = .ok (.iload 4, 2) := dk_21 4 (dk_at dksX3_candidateCount_1 5 rfl rfl)
theorem dX3_candidateCount_30 : decode cX3_candidateCount 30 = .ok (.invokevirtual 113, 3) := dk_182 0 113 (dk_at dksX3_candidateCount_1 7 rfl rfl)
theorem dX3_candidateCount_33 : decode cX3_candidateCount 33 = .ok (.ifCond .eq 17, 3) := dk_153 0 17 (dk_at dksX3_candidateCount_1 10 rfl rfl)
theorem dX3_candidateCount_36 : decode cX3_candidateCount 36 = .ok (.aload_n 0, 1) := dk_42 (dk_at dksX3_candidateCount_1 13 rfl rfl)
theorem dX3_candidateCount_37 : decode cX3_candidateCount 37 = .ok (.iload 4, 2) := dk_21 4 (dk_at dksX3_candidateCount_1 14 rfl rfl)
theorem dX3_candidateCount_39 : decode cX3_candidateCount 39 = .ok (.iload_n 1, 1) := dk_27 (dk_at dksX3_candidateCount_1 16 rfl rfl)
theorem dX3_candidateCount_40 : decode cX3_candidateCount 40 = .ok (.invokevirtual 152, 3) := dk_182 0 152 (dk_at dksX3_candidateCount_1 17 rfl rfl)
theorem dX3_candidateCount_43 : decode cX3_candidateCount 43 = .ok (.ifCond .eq 7, 3) := dk_153 0 7 (dk_at dksX3_candidateCount_1 20 rfl rfl)
theorem dX3_candidateCount_46 : decode cX3_candidateCount 46 = .ok (.iconst 1, 1) := dk_4 (dk_at dksX3_candidateCount_1 23 rfl rfl)
theorem dX3_candidateCount_47 : decode cX3_candidateCount 47 = .ok (.goto 4, 3) := dk_167 0 4 (dk_at dksX3_candidateCount_2 0 rfl rfl)
theorem dX3_candidateCount_50 : decode cX3_candidateCount 50 = .ok (.iconst 0, 1) := dk_3 (dk_at dksX3_candidateCount_2 3 rfl rfl)
theorem dX3_candidateCount_51 : decode cX3_candidateCount 51 = .ok (.iadd, 1) := dk_96 (dk_at dksX3_candidateCount_2 4 rfl rfl)
theorem dX3_candidateCount_52 : decode cX3_candidateCount 52 = .ok (.istore_n 2, 1) := dk_61 (dk_at dksX3_candidateCount_2 5 rfl rfl)
theorem dX3_candidateCount_53 : decode cX3_candidateCount 53 = .ok (.iinc 4 1, 3) := dk_132 4 1 (dk_at dksX3_candidateCount_2 6 rfl rfl)
theorem dX3_candidateCount_56 : decode cX3_candidateCount 56 = .ok (.goto (-41), 3) := dk_167 255 215 (dk_at dksX3_candidateCount_2 9 rfl rfl)
theorem dX3_candidateCount_59 : decode cX3_candidateCount 59 = .ok (.iload_n 2, 1) := dk_28 (dk_at dksX3_candidateCount_2 12 rfl rfl)
theorem dX3_candidateCount_60 : decode cX3_candidateCount 60 = .ok (.ireturn, 1) := dk_172 (dk_at dksX3_candidateCount_2 13 rfl rfl)
abbrev cX3_hire : ByteArray := prog_10_method_71_code
def yX3_hire : MethodName := ⟨RX3, "hire", "(II)I"⟩
def dkwX3_hire_0 : List UInt8 := [42, 182, 0, 93, 42, 42, 27, 28, 182, 0, 169, 182, 0, 100, 172]
abbrev dktX3_hire_0 : List UInt8 := dkwX3_hire_0 ++ []
theorem dksX3_hire_0 : cX3_hire.data.toList.drop 0 = dktX3_hire_0 := by decide +kernel
theorem dX3_hire_0 : decode cX3_hire 0 = .ok (.aload_n 0, 1) := dk_42 (dk_at dksX3_hire_0 0 rfl rfl)
theorem dX3_hire_1 : decode cX3_hire 1 = .ok (.invokevirtual 93, 3) := dk_182 0 93 (dk_at dksX3_hire_0 1 rfl rfl)
theorem dX3_hire_4 : decode cX3_hire 4 = .ok (.aload_n 0, 1) := dk_42 (dk_at dksX3_hire_0 4 rfl rfl)
theorem dX3_hire_5 : decode cX3_hire 5 = .ok (.aload_n 0, 1) := dk_42 (dk_at dksX3_hire_0 5 rfl rfl)
theorem dX3_hire_6 : decode cX3_hire 6 = .ok (.iload_n 1, 1) := dk_27 (dk_at dksX3_hire_0 6 rfl rfl)
theorem dX3_hire_7 : decode cX3_hire 7 = .ok (.iload_n 2, 1) := dk_28 (dk_at dksX3_hire_0 7 rfl rfl)
theorem dX3_hire_8 : decode cX3_hire 8 = .ok (.invokevirtual 169, 3) := dk_182 0 169 (dk_at dksX3_hire_0 8 rfl rfl)
theorem dX3_hire_11 : decode cX3_hire 11 = .ok (.invokevirtual 100, 3) := dk_182 0 100 (dk_at dksX3_hire_0 11 rfl rfl)
theorem dX3_hire_14 : decode cX3_hire 14 = .ok (.ireturn, 1) := dk_172 (dk_at dksX3_hire_0 14 rfl rfl)
abbrev cX3_doHire : ByteArray := prog_10_method_70_code
def yX3_doHire : MethodName := ⟨RX3, "doHire", "(II)I"⟩
def dkwX3_doHire_3 : List UInt8 := [182, 0, 165, 42, 182, 0, 149, 172]
abbrev dktX3_doHire_3 : List UInt8 := dkwX3_doHire_3 ++ []
def dkwX3_doHire_2 : List UInt8 := [6, 182, 0, 82, 172, 42, 29, 27, 182, 0, 152, 154, 0, 9, 42, 7, 182, 0, 82, 172, 42, 27, 29]
abbrev dktX3_doHire_2 : List UInt8 := dkwX3_doHire_2 ++ dktX3_doHire_3
def dkwX3_doHire_1 : List UInt8 := [42, 5, 182, 0, 82, 172, 42, 27, 7, 182, 0, 59, 157, 0, 11, 42, 29, 182, 0, 113, 154, 0, 9, 42]
abbrev dktX3_doHire_1 : List UInt8 := dkwX3_doHire_1 ++ dktX3_doHire_2
def dkwX3_doHire_0 : List UInt8 := [42, 28, 182, 0, 103, 62, 42, 27, 182, 0, 143, 154, 0, 9, 42, 4, 182, 0, 82, 172, 29, 156, 0, 9]
abbrev dktX3_doHire_0 : List UInt8 := dkwX3_doHire_0 ++ dktX3_doHire_1
theorem dksX3_doHire_0 : cX3_doHire.data.toList.drop 0 = dktX3_doHire_0 := by decide +kernel
theorem dksX3_doHire_1 : cX3_doHire.data.toList.drop 24 = dktX3_doHire_1 := dk_seg dksX3_doHire_0 24 rfl rfl
theorem dksX3_doHire_2 : cX3_doHire.data.toList.drop 48 = dktX3_doHire_2 := dk_seg dksX3_doHire_1 24 rfl rfl
theorem dksX3_doHire_3 : cX3_doHire.data.toList.drop 71 = dktX3_doHire_3 := dk_seg dksX3_doHire_2 23 rfl rfl
theorem dX3_doHire_0 : decode cX3_doHire 0 = .ok (.aload_n 0, 1) := dk_42 (dk_at dksX3_doHire_0 0 rfl rfl)
theorem dX3_doHire_1 : decode cX3_doHire 1 = .ok (.iload_n 2, 1) := dk_28 (dk_at dksX3_doHire_0 1 rfl rfl)
theorem dX3_doHire_2 : decode cX3_doHire 2 = .ok (.invokevirtual 103, 3) := dk_182 0 103 (dk_at dksX3_doHire_0 2 rfl rfl)
theorem dX3_doHire_5 : decode cX3_doHire 5 = .ok (.istore_n 3, 1) := dk_62 (dk_at dksX3_doHire_0 5 rfl rfl)
theorem dX3_doHire_6 : decode cX3_doHire 6 = .ok (.aload_n 0, 1) := dk_42 (dk_at dksX3_doHire_0 6 rfl rfl)
theorem dX3_doHire_7 : decode cX3_doHire 7 = .ok (.iload_n 1, 1) := dk_27 (dk_at dksX3_doHire_0 7 rfl rfl)
theorem dX3_doHire_8 : decode cX3_doHire 8 = .ok (.invokevirtual 143, 3) := dk_182 0 143 (dk_at dksX3_doHire_0 8 rfl rfl)
theorem dX3_doHire_11 : decode cX3_doHire 11 = .ok (.ifCond .ne 9, 3) := dk_154 0 9 (dk_at dksX3_doHire_0 11 rfl rfl)
theorem dX3_doHire_14 : decode cX3_doHire 14 = .ok (.aload_n 0, 1) := dk_42 (dk_at dksX3_doHire_0 14 rfl rfl)
theorem dX3_doHire_15 : decode cX3_doHire 15 = .ok (.iconst 1, 1) := dk_4 (dk_at dksX3_doHire_0 15 rfl rfl)
theorem dX3_doHire_16 : decode cX3_doHire 16 = .ok (.invokevirtual 82, 3) := dk_182 0 82 (dk_at dksX3_doHire_0 16 rfl rfl)
theorem dX3_doHire_19 : decode cX3_doHire 19 = .ok (.ireturn, 1) := dk_172 (dk_at dksX3_doHire_0 19 rfl rfl)
theorem dX3_doHire_20 : decode cX3_doHire 20 = .ok (.iload_n 3, 1) := dk_29 (dk_at dksX3_doHire_0 20 rfl rfl)
theorem dX3_doHire_21 : decode cX3_doHire 21 = .ok (.ifCond .ge 9, 3) := dk_156 0 9 (dk_at dksX3_doHire_0 21 rfl rfl)
theorem dX3_doHire_24 : decode cX3_doHire 24 = .ok (.aload_n 0, 1) := dk_42 (dk_at dksX3_doHire_1 0 rfl rfl)
theorem dX3_doHire_25 : decode cX3_doHire 25 = .ok (.iconst 2, 1) := dk_5 (dk_at dksX3_doHire_1 1 rfl rfl)
theorem dX3_doHire_26 : decode cX3_doHire 26 = .ok (.invokevirtual 82, 3) := dk_182 0 82 (dk_at dksX3_doHire_1 2 rfl rfl)
theorem dX3_doHire_29 : decode cX3_doHire 29 = .ok (.ireturn, 1) := dk_172 (dk_at dksX3_doHire_1 5 rfl rfl)
theorem dX3_doHire_30 : decode cX3_doHire 30 = .ok (.aload_n 0, 1) := dk_42 (dk_at dksX3_doHire_1 6 rfl rfl)
theorem dX3_doHire_31 : decode cX3_doHire 31 = .ok (.iload_n 1, 1) := dk_27 (dk_at dksX3_doHire_1 7 rfl rfl)
theorem dX3_doHire_32 : decode cX3_doHire 32 = .ok (.iconst 4, 1) := dk_7 (dk_at dksX3_doHire_1 8 rfl rfl)
theorem dX3_doHire_33 : decode cX3_doHire 33 = .ok (.invokevirtual 59, 3) := dk_182 0 59 (dk_at dksX3_doHire_1 9 rfl rfl)
theorem dX3_doHire_36 : decode cX3_doHire 36 = .ok (.ifCond .gt 11, 3) := dk_157 0 11 (dk_at dksX3_doHire_1 12 rfl rfl)
theorem dX3_doHire_39 : decode cX3_doHire 39 = .ok (.aload_n 0, 1) := dk_42 (dk_at dksX3_doHire_1 15 rfl rfl)
theorem dX3_doHire_40 : decode cX3_doHire 40 = .ok (.iload_n 3, 1) := dk_29 (dk_at dksX3_doHire_1 16 rfl rfl)
theorem dX3_doHire_41 : decode cX3_doHire 41 = .ok (.invokevirtual 113, 3) := dk_182 0 113 (dk_at dksX3_doHire_1 17 rfl rfl)
theorem dX3_doHire_44 : decode cX3_doHire 44 = .ok (.ifCond .ne 9, 3) := dk_154 0 9 (dk_at dksX3_doHire_1 20 rfl rfl)
theorem dX3_doHire_47 : decode cX3_doHire 47 = .ok (.aload_n 0, 1) := dk_42 (dk_at dksX3_doHire_1 23 rfl rfl)
theorem dX3_doHire_48 : decode cX3_doHire 48 = .ok (.iconst 3, 1) := dk_6 (dk_at dksX3_doHire_2 0 rfl rfl)
theorem dX3_doHire_49 : decode cX3_doHire 49 = .ok (.invokevirtual 82, 3) := dk_182 0 82 (dk_at dksX3_doHire_2 1 rfl rfl)
theorem dX3_doHire_52 : decode cX3_doHire 52 = .ok (.ireturn, 1) := dk_172 (dk_at dksX3_doHire_2 4 rfl rfl)
theorem dX3_doHire_53 : decode cX3_doHire 53 = .ok (.aload_n 0, 1) := dk_42 (dk_at dksX3_doHire_2 5 rfl rfl)
theorem dX3_doHire_54 : decode cX3_doHire 54 = .ok (.iload_n 3, 1) := dk_29 (dk_at dksX3_doHire_2 6 rfl rfl)
theorem dX3_doHire_55 : decode cX3_doHire 55 = .ok (.iload_n 1, 1) := dk_27 (dk_at dksX3_doHire_2 7 rfl rfl)
theorem dX3_doHire_56 : decode cX3_doHire 56 = .ok (.invokevirtual 152, 3) := dk_182 0 152 (dk_at dksX3_doHire_2 8 rfl rfl)
theorem dX3_doHire_59 : decode cX3_doHire 59 = .ok (.ifCond .ne 9, 3) := dk_154 0 9 (dk_at dksX3_doHire_2 11 rfl rfl)
theorem dX3_doHire_62 : decode cX3_doHire 62 = .ok (.aload_n 0, 1) := dk_42 (dk_at dksX3_doHire_2 14 rfl rfl)
theorem dX3_doHire_63 : decode cX3_doHire 63 = .ok (.iconst 4, 1) := dk_7 (dk_at dksX3_doHire_2 15 rfl rfl)
theorem dX3_doHire_64 : decode cX3_doHire 64 = .ok (.invokevirtual 82, 3) := dk_182 0 82 (dk_at dksX3_doHire_2 16 rfl rfl)
theorem dX3_doHire_67 : decode cX3_doHire 67 = .ok (.ireturn, 1) := dk_172 (dk_at dksX3_doHire_2 19 rfl rfl)
theorem dX3_doHire_68 : decode cX3_doHire 68 = .ok (.aload_n 0, 1) := dk_42 (dk_at dksX3_doHire_2 20 rfl rfl)
theorem dX3_doHire_69 : decode cX3_doHire 69 = .ok (.iload_n 1, 1) := dk_27 (dk_at dksX3_doHire_2 21 rfl rfl)
theorem dX3_doHire_70 : decode cX3_doHire 70 = .ok (.iload_n 3, 1) := dk_29 (dk_at dksX3_doHire_2 22 rfl rfl)
theorem dX3_doHire_71 : decode cX3_doHire 71 = .ok (.invokevirtual 165, 3) := dk_182 0 165 (dk_at dksX3_doHire_3 0 rfl rfl)
theorem dX3_doHire_74 : decode cX3_doHire 74 = .ok (.aload_n 0, 1) := dk_42 (dk_at dksX3_doHire_3 3 rfl rfl)
theorem dX3_doHire_75 : decode cX3_doHire 75 = .ok (.invokevirtual 149, 3) := dk_182 0 149 (dk_at dksX3_doHire_3 4 rfl rfl)
theorem dX3_doHire_78 : decode cX3_doHire 78 = .ok (.ireturn, 1) := dk_172 (dk_at dksX3_doHire_3 7 rfl rfl)
abbrev cX3_fills : ByteArray := prog_10_method_69_code
def yX3_fills : MethodName := ⟨RX3, "fills", "(II)V"⟩
def dkwX3_fills_0 : List UInt8 := [42, 180, 0, 9, 16, 63, 8, 27, 104, 96, 7, 96, 28, 4, 96, 79, 177]
abbrev dktX3_fills_0 : List UInt8 := dkwX3_fills_0 ++ []
theorem dksX3_fills_0 : cX3_fills.data.toList.drop 0 = dktX3_fills_0 := by decide +kernel
theorem dX3_fills_0 : decode cX3_fills 0 = .ok (.aload_n 0, 1) := dk_42 (dk_at dksX3_fills_0 0 rfl rfl)
theorem dX3_fills_1 : decode cX3_fills 1 = .ok (.getfield 9, 3) := dk_180 0 9 (dk_at dksX3_fills_0 1 rfl rfl)
theorem dX3_fills_4 : decode cX3_fills 4 = .ok (.bipush 63, 2) := dk_16 63 (dk_at dksX3_fills_0 4 rfl rfl)
theorem dX3_fills_6 : decode cX3_fills 6 = .ok (.iconst 5, 1) := dk_8 (dk_at dksX3_fills_0 6 rfl rfl)
theorem dX3_fills_7 : decode cX3_fills 7 = .ok (.iload_n 1, 1) := dk_27 (dk_at dksX3_fills_0 7 rfl rfl)
theorem dX3_fills_8 : decode cX3_fills 8 = .ok (.imul, 1) := dk_104 (dk_at dksX3_fills_0 8 rfl rfl)
theorem dX3_fills_9 : decode cX3_fills 9 = .ok (.iadd, 1) := dk_96 (dk_at dksX3_fills_0 9 rfl rfl)
theorem dX3_fills_10 : decode cX3_fills 10 = .ok (.iconst 4, 1) := dk_7 (dk_at dksX3_fills_0 10 rfl rfl)
theorem dX3_fills_11 : decode cX3_fills 11 = .ok (.iadd, 1) := dk_96 (dk_at dksX3_fills_0 11 rfl rfl)
theorem dX3_fills_12 : decode cX3_fills 12 = .ok (.iload_n 2, 1) := dk_28 (dk_at dksX3_fills_0 12 rfl rfl)
theorem dX3_fills_13 : decode cX3_fills 13 = .ok (.iconst 1, 1) := dk_4 (dk_at dksX3_fills_0 13 rfl rfl)
theorem dX3_fills_14 : decode cX3_fills 14 = .ok (.iadd, 1) := dk_96 (dk_at dksX3_fills_0 14 rfl rfl)
theorem dX3_fills_15 : decode cX3_fills 15 = .ok (.iastore, 1) := dk_79 (dk_at dksX3_fills_0 15 rfl rfl)
theorem dX3_fills_16 : decode cX3_fills 16 = .ok (.return_, 1) := dk_177 (dk_at dksX3_fills_0 16 rfl rfl)
abbrev cX3_hireBest : ByteArray := prog_10_method_73_code
def yX3_hireBest : MethodName := ⟨RX3, "hireBest", "(I)I"⟩
def dkwX3_hireBest_0 : List UInt8 := [42, 182, 0, 93, 42, 42, 27, 182, 0, 172, 182, 0, 100, 172]
abbrev dktX3_hireBest_0 : List UInt8 := dkwX3_hireBest_0 ++ []
theorem dksX3_hireBest_0 : cX3_hireBest.data.toList.drop 0 = dktX3_hireBest_0 := by decide +kernel
theorem dX3_hireBest_0 : decode cX3_hireBest 0 = .ok (.aload_n 0, 1) := dk_42 (dk_at dksX3_hireBest_0 0 rfl rfl)
theorem dX3_hireBest_1 : decode cX3_hireBest 1 = .ok (.invokevirtual 93, 3) := dk_182 0 93 (dk_at dksX3_hireBest_0 1 rfl rfl)
theorem dX3_hireBest_4 : decode cX3_hireBest 4 = .ok (.aload_n 0, 1) := dk_42 (dk_at dksX3_hireBest_0 4 rfl rfl)
theorem dX3_hireBest_5 : decode cX3_hireBest 5 = .ok (.aload_n 0, 1) := dk_42 (dk_at dksX3_hireBest_0 5 rfl rfl)
theorem dX3_hireBest_6 : decode cX3_hireBest 6 = .ok (.iload_n 1, 1) := dk_27 (dk_at dksX3_hireBest_0 6 rfl rfl)
theorem dX3_hireBest_7 : decode cX3_hireBest 7 = .ok (.invokevirtual 172, 3) := dk_182 0 172 (dk_at dksX3_hireBest_0 7 rfl rfl)
theorem dX3_hireBest_10 : decode cX3_hireBest 10 = .ok (.invokevirtual 100, 3) := dk_182 0 100 (dk_at dksX3_hireBest_0 10 rfl rfl)
theorem dX3_hireBest_13 : decode cX3_hireBest 13 = .ok (.ireturn, 1) := dk_172 (dk_at dksX3_hireBest_0 13 rfl rfl)
abbrev cX3_doHireBest : ByteArray := prog_10_method_72_code
def yX3_doHireBest : MethodName := ⟨RX3, "doHireBest", "(I)I"⟩
def dkwX3_doHireBest_2 : List UInt8 := [182, 0, 165, 42, 28, 182, 0, 76, 172]
abbrev dktX3_doHireBest_2 : List UInt8 := dkwX3_doHireBest_2 ++ []
def dkwX3_doHireBest_1 : List UInt8 := [5, 182, 0, 82, 172, 42, 27, 182, 0, 162, 61, 28, 156, 0, 9, 42, 6, 182, 0, 82, 172, 42, 27, 28]
abbrev dktX3_doHireBest_1 : List UInt8 := dkwX3_doHireBest_1 ++ dktX3_doHireBest_2
def dkwX3_doHireBest_0 : List UInt8 := [42, 27, 182, 0, 143, 154, 0, 9, 42, 4, 182, 0, 82, 172, 42, 27, 7, 182, 0, 59, 158, 0, 9, 42]
abbrev dktX3_doHireBest_0 : List UInt8 := dkwX3_doHireBest_0 ++ dktX3_doHireBest_1
theorem dksX3_doHireBest_0 : cX3_doHireBest.data.toList.drop 0 = dktX3_doHireBest_0 := by decide +kernel
theorem dksX3_doHireBest_1 : cX3_doHireBest.data.toList.drop 24 = dktX3_doHireBest_1 := dk_seg dksX3_doHireBest_0 24 rfl rfl
theorem dksX3_doHireBest_2 : cX3_doHireBest.data.toList.drop 48 = dktX3_doHireBest_2 := dk_seg dksX3_doHireBest_1 24 rfl rfl
theorem dX3_doHireBest_0 : decode cX3_doHireBest 0 = .ok (.aload_n 0, 1) := dk_42 (dk_at dksX3_doHireBest_0 0 rfl rfl)
theorem dX3_doHireBest_1 : decode cX3_doHireBest 1 = .ok (.iload_n 1, 1) := dk_27 (dk_at dksX3_doHireBest_0 1 rfl rfl)
theorem dX3_doHireBest_2 : decode cX3_doHireBest 2 = .ok (.invokevirtual 143, 3) := dk_182 0 143 (dk_at dksX3_doHireBest_0 2 rfl rfl)
theorem dX3_doHireBest_5 : decode cX3_doHireBest 5 = .ok (.ifCond .ne 9, 3) := dk_154 0 9 (dk_at dksX3_doHireBest_0 5 rfl rfl)
theorem dX3_doHireBest_8 : decode cX3_doHireBest 8 = .ok (.aload_n 0, 1) := dk_42 (dk_at dksX3_doHireBest_0 8 rfl rfl)
theorem dX3_doHireBest_9 : decode cX3_doHireBest 9 = .ok (.iconst 1, 1) := dk_4 (dk_at dksX3_doHireBest_0 9 rfl rfl)
theorem dX3_doHireBest_10 : decode cX3_doHireBest 10 = .ok (.invokevirtual 82, 3) := dk_182 0 82 (dk_at dksX3_doHireBest_0 10 rfl rfl)
theorem dX3_doHireBest_13 : decode cX3_doHireBest 13 = .ok (.ireturn, 1) := dk_172 (dk_at dksX3_doHireBest_0 13 rfl rfl)
theorem dX3_doHireBest_14 : decode cX3_doHireBest 14 = .ok (.aload_n 0, 1) := dk_42 (dk_at dksX3_doHireBest_0 14 rfl rfl)
theorem dX3_doHireBest_15 : decode cX3_doHireBest 15 = .ok (.iload_n 1, 1) := dk_27 (dk_at dksX3_doHireBest_0 15 rfl rfl)
theorem dX3_doHireBest_16 : decode cX3_doHireBest 16 = .ok (.iconst 4, 1) := dk_7 (dk_at dksX3_doHireBest_0 16 rfl rfl)
theorem dX3_doHireBest_17 : decode cX3_doHireBest 17 = .ok (.invokevirtual 59, 3) := dk_182 0 59 (dk_at dksX3_doHireBest_0 17 rfl rfl)
theorem dX3_doHireBest_20 : decode cX3_doHireBest 20 = .ok (.ifCond .le 9, 3) := dk_158 0 9 (dk_at dksX3_doHireBest_0 20 rfl rfl)
theorem dX3_doHireBest_23 : decode cX3_doHireBest 23 = .ok (.aload_n 0, 1) := dk_42 (dk_at dksX3_doHireBest_0 23 rfl rfl)
theorem dX3_doHireBest_24 : decode cX3_doHireBest 24 = .ok (.iconst 2, 1) := dk_5 (dk_at dksX3_doHireBest_1 0 rfl rfl)
theorem dX3_doHireBest_25 : decode cX3_doHireBest 25 = .ok (.invokevirtual 82, 3) := dk_182 0 82 (dk_at dksX3_doHireBest_1 1 rfl rfl)
theorem dX3_doHireBest_28 : decode cX3_doHireBest 28 = .ok (.ireturn, 1) := dk_172 (dk_at dksX3_doHireBest_1 4 rfl rfl)
theorem dX3_doHireBest_29 : decode cX3_doHireBest 29 = .ok (.aload_n 0, 1) := dk_42 (dk_at dksX3_doHireBest_1 5 rfl rfl)
theorem dX3_doHireBest_30 : decode cX3_doHireBest 30 = .ok (.iload_n 1, 1) := dk_27 (dk_at dksX3_doHireBest_1 6 rfl rfl)
theorem dX3_doHireBest_31 : decode cX3_doHireBest 31 = .ok (.invokevirtual 162, 3) := dk_182 0 162 (dk_at dksX3_doHireBest_1 7 rfl rfl)
theorem dX3_doHireBest_34 : decode cX3_doHireBest 34 = .ok (.istore_n 2, 1) := dk_61 (dk_at dksX3_doHireBest_1 10 rfl rfl)
theorem dX3_doHireBest_35 : decode cX3_doHireBest 35 = .ok (.iload_n 2, 1) := dk_28 (dk_at dksX3_doHireBest_1 11 rfl rfl)
theorem dX3_doHireBest_36 : decode cX3_doHireBest 36 = .ok (.ifCond .ge 9, 3) := dk_156 0 9 (dk_at dksX3_doHireBest_1 12 rfl rfl)
theorem dX3_doHireBest_39 : decode cX3_doHireBest 39 = .ok (.aload_n 0, 1) := dk_42 (dk_at dksX3_doHireBest_1 15 rfl rfl)
theorem dX3_doHireBest_40 : decode cX3_doHireBest 40 = .ok (.iconst 3, 1) := dk_6 (dk_at dksX3_doHireBest_1 16 rfl rfl)
theorem dX3_doHireBest_41 : decode cX3_doHireBest 41 = .ok (.invokevirtual 82, 3) := dk_182 0 82 (dk_at dksX3_doHireBest_1 17 rfl rfl)
theorem dX3_doHireBest_44 : decode cX3_doHireBest 44 = .ok (.ireturn, 1) := dk_172 (dk_at dksX3_doHireBest_1 20 rfl rfl)
theorem dX3_doHireBest_45 : decode cX3_doHireBest 45 = .ok (.aload_n 0, 1) := dk_42 (dk_at dksX3_doHireBest_1 21 rfl rfl)
theorem dX3_doHireBest_46 : decode cX3_doHireBest 46 = .ok (.iload_n 1, 1) := dk_27 (dk_at dksX3_doHireBest_1 22 rfl rfl)
theorem dX3_doHireBest_47 : decode cX3_doHireBest 47 = .ok (.iload_n 2, 1) := dk_28 (dk_at dksX3_doHireBest_1 23 rfl rfl)
theorem dX3_doHireBest_48 : decode cX3_doHireBest 48 = .ok (.invokevirtual 165, 3) := dk_182 0 165 (dk_at dksX3_doHireBest_2 0 rfl rfl)
theorem dX3_doHireBest_51 : decode cX3_doHireBest 51 = .ok (.aload_n 0, 1) := dk_42 (dk_at dksX3_doHireBest_2 3 rfl rfl)
theorem dX3_doHireBest_52 : decode cX3_doHireBest 52 = .ok (.iload_n 2, 1) := dk_28 (dk_at dksX3_doHireBest_2 4 rfl rfl)
theorem dX3_doHireBest_53 : decode cX3_doHireBest 53 = .ok (.invokevirtual 76, 3) := dk_182 0 76 (dk_at dksX3_doHireBest_2 5 rfl rfl)
theorem dX3_doHireBest_56 : decode cX3_doHireBest 56 = .ok (.ireturn, 1) := dk_172 (dk_at dksX3_doHireBest_2 8 rfl rfl)
abbrev cX3_dismiss : ByteArray := prog_10_method_75_code
def yX3_dismiss : MethodName := ⟨RX3, "dismiss", "(I)I"⟩
def dkwX3_dismiss_0 : List UInt8 := [42, 182, 0, 93, 42, 42, 27, 182, 0, 175, 182, 0, 100, 172]
abbrev dktX3_dismiss_0 : List UInt8 := dkwX3_dismiss_0 ++ []
theorem dksX3_dismiss_0 : cX3_dismiss.data.toList.drop 0 = dktX3_dismiss_0 := by decide +kernel
theorem dX3_dismiss_0 : decode cX3_dismiss 0 = .ok (.aload_n 0, 1) := dk_42 (dk_at dksX3_dismiss_0 0 rfl rfl)
theorem dX3_dismiss_1 : decode cX3_dismiss 1 = .ok (.invokevirtual 93, 3) := dk_182 0 93 (dk_at dksX3_dismiss_0 1 rfl rfl)
theorem dX3_dismiss_4 : decode cX3_dismiss 4 = .ok (.aload_n 0, 1) := dk_42 (dk_at dksX3_dismiss_0 4 rfl rfl)
theorem dX3_dismiss_5 : decode cX3_dismiss 5 = .ok (.aload_n 0, 1) := dk_42 (dk_at dksX3_dismiss_0 5 rfl rfl)
theorem dX3_dismiss_6 : decode cX3_dismiss 6 = .ok (.iload_n 1, 1) := dk_27 (dk_at dksX3_dismiss_0 6 rfl rfl)
theorem dX3_dismiss_7 : decode cX3_dismiss 7 = .ok (.invokevirtual 175, 3) := dk_182 0 175 (dk_at dksX3_dismiss_0 7 rfl rfl)
theorem dX3_dismiss_10 : decode cX3_dismiss 10 = .ok (.invokevirtual 100, 3) := dk_182 0 100 (dk_at dksX3_dismiss_0 10 rfl rfl)
theorem dX3_dismiss_13 : decode cX3_dismiss 13 = .ok (.ireturn, 1) := dk_172 (dk_at dksX3_dismiss_0 13 rfl rfl)
abbrev cX3_doDismiss : ByteArray := prog_10_method_74_code
def yX3_doDismiss : MethodName := ⟨RX3, "doDismiss", "(I)I"⟩
def dkwX3_doDismiss_2 : List UInt8 := [28, 182, 0, 76, 172]
abbrev dktX3_doDismiss_2 : List UInt8 := dkwX3_doDismiss_2 ++ []
def dkwX3_doDismiss_1 : List UInt8 := [156, 0, 9, 42, 5, 182, 0, 82, 172, 42, 180, 0, 9, 16, 63, 8, 27, 104, 96, 7, 96, 3, 79, 42]
abbrev dktX3_doDismiss_1 : List UInt8 := dkwX3_doDismiss_1 ++ dktX3_doDismiss_2
def dkwX3_doDismiss_0 : List UInt8 := [42, 27, 182, 0, 143, 154, 0, 9, 42, 4, 182, 0, 82, 172, 42, 27, 7, 182, 0, 59, 4, 100, 61, 28]
abbrev dktX3_doDismiss_0 : List UInt8 := dkwX3_doDismiss_0 ++ dktX3_doDismiss_1
theorem dksX3_doDismiss_0 : cX3_doDismiss.data.toList.drop 0 = dktX3_doDismiss_0 := by decide +kernel
theorem dksX3_doDismiss_1 : cX3_doDismiss.data.toList.drop 24 = dktX3_doDismiss_1 := dk_seg dksX3_doDismiss_0 24 rfl rfl
theorem dksX3_doDismiss_2 : cX3_doDismiss.data.toList.drop 48 = dktX3_doDismiss_2 := dk_seg dksX3_doDismiss_1 24 rfl rfl
theorem dX3_doDismiss_0 : decode cX3_doDismiss 0 = .ok (.aload_n 0, 1) := dk_42 (dk_at dksX3_doDismiss_0 0 rfl rfl)
theorem dX3_doDismiss_1 : decode cX3_doDismiss 1 = .ok (.iload_n 1, 1) := dk_27 (dk_at dksX3_doDismiss_0 1 rfl rfl)
theorem dX3_doDismiss_2 : decode cX3_doDismiss 2 = .ok (.invokevirtual 143, 3) := dk_182 0 143 (dk_at dksX3_doDismiss_0 2 rfl rfl)
theorem dX3_doDismiss_5 : decode cX3_doDismiss 5 = .ok (.ifCond .ne 9, 3) := dk_154 0 9 (dk_at dksX3_doDismiss_0 5 rfl rfl)
theorem dX3_doDismiss_8 : decode cX3_doDismiss 8 = .ok (.aload_n 0, 1) := dk_42 (dk_at dksX3_doDismiss_0 8 rfl rfl)
theorem dX3_doDismiss_9 : decode cX3_doDismiss 9 = .ok (.iconst 1, 1) := dk_4 (dk_at dksX3_doDismiss_0 9 rfl rfl)
theorem dX3_doDismiss_10 : decode cX3_doDismiss 10 = .ok (.invokevirtual 82, 3) := dk_182 0 82 (dk_at dksX3_doDismiss_0 10 rfl rfl)
theorem dX3_doDismiss_13 : decode cX3_doDismiss 13 = .ok (.ireturn, 1) := dk_172 (dk_at dksX3_doDismiss_0 13 rfl rfl)
theorem dX3_doDismiss_14 : decode cX3_doDismiss 14 = .ok (.aload_n 0, 1) := dk_42 (dk_at dksX3_doDismiss_0 14 rfl rfl)
theorem dX3_doDismiss_15 : decode cX3_doDismiss 15 = .ok (.iload_n 1, 1) := dk_27 (dk_at dksX3_doDismiss_0 15 rfl rfl)
theorem dX3_doDismiss_16 : decode cX3_doDismiss 16 = .ok (.iconst 4, 1) := dk_7 (dk_at dksX3_doDismiss_0 16 rfl rfl)
theorem dX3_doDismiss_17 : decode cX3_doDismiss 17 = .ok (.invokevirtual 59, 3) := dk_182 0 59 (dk_at dksX3_doDismiss_0 17 rfl rfl)
theorem dX3_doDismiss_20 : decode cX3_doDismiss 20 = .ok (.iconst 1, 1) := dk_4 (dk_at dksX3_doDismiss_0 20 rfl rfl)
theorem dX3_doDismiss_21 : decode cX3_doDismiss 21 = .ok (.isub, 1) := dk_100 (dk_at dksX3_doDismiss_0 21 rfl rfl)
theorem dX3_doDismiss_22 : decode cX3_doDismiss 22 = .ok (.istore_n 2, 1) := dk_61 (dk_at dksX3_doDismiss_0 22 rfl rfl)
theorem dX3_doDismiss_23 : decode cX3_doDismiss 23 = .ok (.iload_n 2, 1) := dk_28 (dk_at dksX3_doDismiss_0 23 rfl rfl)
theorem dX3_doDismiss_24 : decode cX3_doDismiss 24 = .ok (.ifCond .ge 9, 3) := dk_156 0 9 (dk_at dksX3_doDismiss_1 0 rfl rfl)
theorem dX3_doDismiss_27 : decode cX3_doDismiss 27 = .ok (.aload_n 0, 1) := dk_42 (dk_at dksX3_doDismiss_1 3 rfl rfl)
theorem dX3_doDismiss_28 : decode cX3_doDismiss 28 = .ok (.iconst 2, 1) := dk_5 (dk_at dksX3_doDismiss_1 4 rfl rfl)
theorem dX3_doDismiss_29 : decode cX3_doDismiss 29 = .ok (.invokevirtual 82, 3) := dk_182 0 82 (dk_at dksX3_doDismiss_1 5 rfl rfl)
theorem dX3_doDismiss_32 : decode cX3_doDismiss 32 = .ok (.ireturn, 1) := dk_172 (dk_at dksX3_doDismiss_1 8 rfl rfl)
theorem dX3_doDismiss_33 : decode cX3_doDismiss 33 = .ok (.aload_n 0, 1) := dk_42 (dk_at dksX3_doDismiss_1 9 rfl rfl)
theorem dX3_doDismiss_34 : decode cX3_doDismiss 34 = .ok (.getfield 9, 3) := dk_180 0 9 (dk_at dksX3_doDismiss_1 10 rfl rfl)
theorem dX3_doDismiss_37 : decode cX3_doDismiss 37 = .ok (.bipush 63, 2) := dk_16 63 (dk_at dksX3_doDismiss_1 13 rfl rfl)
theorem dX3_doDismiss_39 : decode cX3_doDismiss 39 = .ok (.iconst 5, 1) := dk_8 (dk_at dksX3_doDismiss_1 15 rfl rfl)
theorem dX3_doDismiss_40 : decode cX3_doDismiss 40 = .ok (.iload_n 1, 1) := dk_27 (dk_at dksX3_doDismiss_1 16 rfl rfl)
theorem dX3_doDismiss_41 : decode cX3_doDismiss 41 = .ok (.imul, 1) := dk_104 (dk_at dksX3_doDismiss_1 17 rfl rfl)
theorem dX3_doDismiss_42 : decode cX3_doDismiss 42 = .ok (.iadd, 1) := dk_96 (dk_at dksX3_doDismiss_1 18 rfl rfl)
theorem dX3_doDismiss_43 : decode cX3_doDismiss 43 = .ok (.iconst 4, 1) := dk_7 (dk_at dksX3_doDismiss_1 19 rfl rfl)
theorem dX3_doDismiss_44 : decode cX3_doDismiss 44 = .ok (.iadd, 1) := dk_96 (dk_at dksX3_doDismiss_1 20 rfl rfl)
theorem dX3_doDismiss_45 : decode cX3_doDismiss 45 = .ok (.iconst 0, 1) := dk_3 (dk_at dksX3_doDismiss_1 21 rfl rfl)
theorem dX3_doDismiss_46 : decode cX3_doDismiss 46 = .ok (.iastore, 1) := dk_79 (dk_at dksX3_doDismiss_1 22 rfl rfl)
theorem dX3_doDismiss_47 : decode cX3_doDismiss 47 = .ok (.aload_n 0, 1) := dk_42 (dk_at dksX3_doDismiss_1 23 rfl rfl)
theorem dX3_doDismiss_48 : decode cX3_doDismiss 48 = .ok (.iload_n 2, 1) := dk_28 (dk_at dksX3_doDismiss_2 0 rfl rfl)
theorem dX3_doDismiss_49 : decode cX3_doDismiss 49 = .ok (.invokevirtual 76, 3) := dk_182 0 76 (dk_at dksX3_doDismiss_2 1 rfl rfl)
theorem dX3_doDismiss_52 : decode cX3_doDismiss 52 = .ok (.ireturn, 1) := dk_172 (dk_at dksX3_doDismiss_2 4 rfl rfl)
abbrev cX3_match : ByteArray := prog_10_method_78_code
def yX3_match : MethodName := ⟨RX3, "match", "()I"⟩
def dkwX3_match_0 : List UInt8 := [42, 182, 0, 93, 42, 42, 182, 0, 181, 182, 0, 100, 172]
abbrev dktX3_match_0 : List UInt8 := dkwX3_match_0 ++ []
theorem dksX3_match_0 : cX3_match.data.toList.drop 0 = dktX3_match_0 := by decide +kernel
theorem dX3_match_0 : decode cX3_match 0 = .ok (.aload_n 0, 1) := dk_42 (dk_at dksX3_match_0 0 rfl rfl)
theorem dX3_match_1 : decode cX3_match 1 = .ok (.invokevirtual 93, 3) := dk_182 0 93 (dk_at dksX3_match_0 1 rfl rfl)
theorem dX3_match_4 : decode cX3_match 4 = .ok (.aload_n 0, 1) := dk_42 (dk_at dksX3_match_0 4 rfl rfl)
theorem dX3_match_5 : decode cX3_match 5 = .ok (.aload_n 0, 1) := dk_42 (dk_at dksX3_match_0 5 rfl rfl)
theorem dX3_match_6 : decode cX3_match 6 = .ok (.invokevirtual 181, 3) := dk_182 0 181 (dk_at dksX3_match_0 6 rfl rfl)
theorem dX3_match_9 : decode cX3_match 9 = .ok (.invokevirtual 100, 3) := dk_182 0 100 (dk_at dksX3_match_0 9 rfl rfl)
theorem dX3_match_12 : decode cX3_match 12 = .ok (.ireturn, 1) := dk_172 (dk_at dksX3_match_0 12 rfl rfl)
abbrev cX3_doMatch : ByteArray := prog_10_method_76_code
def yX3_doMatch : MethodName := ⟨RX3, "doMatch", "()I"⟩
def dkwX3_doMatch_1 : List UInt8 := [132, 1, 1, 42, 182, 0, 178, 61, 167, 255, 233, 27, 172]
abbrev dktX3_doMatch_1 : List UInt8 := dkwX3_doMatch_1 ++ []
def dkwX3_doMatch_0 : List UInt8 := [3, 60, 42, 182, 0, 178, 61, 28, 155, 0, 25, 42, 42, 28, 4, 182, 0, 158, 28, 182, 0, 165]
abbrev dktX3_doMatch_0 : List UInt8 := dkwX3_doMatch_0 ++ dktX3_doMatch_1
theorem dksX3_doMatch_0 : cX3_doMatch.data.toList.drop 0 = dktX3_doMatch_0 := by decide +kernel
theorem dksX3_doMatch_1 : cX3_doMatch.data.toList.drop 22 = dktX3_doMatch_1 := dk_seg dksX3_doMatch_0 22 rfl rfl
theorem dX3_doMatch_0 : decode cX3_doMatch 0 = .ok (.iconst 0, 1) := dk_3 (dk_at dksX3_doMatch_0 0 rfl rfl)
theorem dX3_doMatch_1 : decode cX3_doMatch 1 = .ok (.istore_n 1, 1) := dk_60 (dk_at dksX3_doMatch_0 1 rfl rfl)
theorem dX3_doMatch_2 : decode cX3_doMatch 2 = .ok (.aload_n 0, 1) := dk_42 (dk_at dksX3_doMatch_0 2 rfl rfl)
theorem dX3_doMatch_3 : decode cX3_doMatch 3 = .ok (.invokevirtual 178, 3) := dk_182 0 178 (dk_at dksX3_doMatch_0 3 rfl rfl)
theorem dX3_doMatch_6 : decode cX3_doMatch 6 = .ok (.istore_n 2, 1) := dk_61 (dk_at dksX3_doMatch_0 6 rfl rfl)
theorem dX3_doMatch_7 : decode cX3_doMatch 7 = .ok (.iload_n 2, 1) := dk_28 (dk_at dksX3_doMatch_0 7 rfl rfl)
theorem dX3_doMatch_8 : decode cX3_doMatch 8 = .ok (.ifCond .lt 25, 3) := dk_155 0 25 (dk_at dksX3_doMatch_0 8 rfl rfl)
theorem dX3_doMatch_11 : decode cX3_doMatch 11 = .ok (.aload_n 0, 1) := dk_42 (dk_at dksX3_doMatch_0 11 rfl rfl)
theorem dX3_doMatch_12 : decode cX3_doMatch 12 = .ok (.aload_n 0, 1) := dk_42 (dk_at dksX3_doMatch_0 12 rfl rfl)
theorem dX3_doMatch_13 : decode cX3_doMatch 13 = .ok (.iload_n 2, 1) := dk_28 (dk_at dksX3_doMatch_0 13 rfl rfl)
theorem dX3_doMatch_14 : decode cX3_doMatch 14 = .ok (.iconst 1, 1) := dk_4 (dk_at dksX3_doMatch_0 14 rfl rfl)
theorem dX3_doMatch_15 : decode cX3_doMatch 15 = .ok (.invokevirtual 158, 3) := dk_182 0 158 (dk_at dksX3_doMatch_0 15 rfl rfl)
theorem dX3_doMatch_18 : decode cX3_doMatch 18 = .ok (.iload_n 2, 1) := dk_28 (dk_at dksX3_doMatch_0 18 rfl rfl)
theorem dX3_doMatch_19 : decode cX3_doMatch 19 = .ok (.invokevirtual 165, 3) := dk_182 0 165 (dk_at dksX3_doMatch_0 19 rfl rfl)
theorem dX3_doMatch_22 : decode cX3_doMatch 22 = .ok (.iinc 1 1, 3) := dk_132 1 1 (dk_at dksX3_doMatch_1 0 rfl rfl)
theorem dX3_doMatch_25 : decode cX3_doMatch 25 = .ok (.aload_n 0, 1) := dk_42 (dk_at dksX3_doMatch_1 3 rfl rfl)
theorem dX3_doMatch_26 : decode cX3_doMatch 26 = .ok (.invokevirtual 178, 3) := dk_182 0 178 (dk_at dksX3_doMatch_1 4 rfl rfl)
theorem dX3_doMatch_29 : decode cX3_doMatch 29 = .ok (.istore_n 2, 1) := dk_61 (dk_at dksX3_doMatch_1 7 rfl rfl)
theorem dX3_doMatch_30 : decode cX3_doMatch 30 = .ok (.goto (-23), 3) := dk_167 255 233 (dk_at dksX3_doMatch_1 8 rfl rfl)
theorem dX3_doMatch_33 : decode cX3_doMatch 33 = .ok (.iload_n 1, 1) := dk_27 (dk_at dksX3_doMatch_1 11 rfl rfl)
theorem dX3_doMatch_34 : decode cX3_doMatch 34 = .ok (.ireturn, 1) := dk_172 (dk_at dksX3_doMatch_1 12 rfl rfl)
abbrev cX3_nextToHire : ByteArray := prog_10_method_77_code
def yX3_nextToHire : MethodName := ⟨RX3, "nextToHire", "()I"⟩
def dkwX3_nextToHire_2 : List UInt8 := [153, 0, 7, 28, 167, 0, 4, 27, 60, 132, 2, 1, 167, 255, 201, 27, 172]
abbrev dktX3_nextToHire_2 : List UInt8 := dkwX3_nextToHire_2 ++ []
def dkwX3_nextToHire_1 : List UInt8 := [155, 0, 7, 4, 167, 0, 4, 3, 62, 29, 153, 0, 20, 27, 155, 0, 12, 42, 28, 27, 182, 0, 126]
abbrev dktX3_nextToHire_1 : List UInt8 := dkwX3_nextToHire_1 ++ dktX3_nextToHire_2
def dkwX3_nextToHire_0 : List UInt8 := [2, 60, 3, 61, 28, 16, 10, 162, 0, 55, 42, 28, 182, 0, 113, 153, 0, 16, 42, 28, 4, 182, 0, 158]
abbrev dktX3_nextToHire_0 : List UInt8 := dkwX3_nextToHire_0 ++ dktX3_nextToHire_1
theorem dksX3_nextToHire_0 : cX3_nextToHire.data.toList.drop 0 = dktX3_nextToHire_0 := by decide +kernel
theorem dksX3_nextToHire_1 : cX3_nextToHire.data.toList.drop 24 = dktX3_nextToHire_1 := dk_seg dksX3_nextToHire_0 24 rfl rfl
theorem dksX3_nextToHire_2 : cX3_nextToHire.data.toList.drop 47 = dktX3_nextToHire_2 := dk_seg dksX3_nextToHire_1 23 rfl rfl
theorem dX3_nextToHire_0 : decode cX3_nextToHire 0 = .ok (.iconst (-1), 1) := dk_2 (dk_at dksX3_nextToHire_0 0 rfl rfl)
theorem dX3_nextToHire_1 : decode cX3_nextToHire 1 = .ok (.istore_n 1, 1) := dk_60 (dk_at dksX3_nextToHire_0 1 rfl rfl)
theorem dX3_nextToHire_2 : decode cX3_nextToHire 2 = .ok (.iconst 0, 1) := dk_3 (dk_at dksX3_nextToHire_0 2 rfl rfl)
theorem dX3_nextToHire_3 : decode cX3_nextToHire 3 = .ok (.istore_n 2, 1) := dk_61 (dk_at dksX3_nextToHire_0 3 rfl rfl)
theorem dX3_nextToHire_4 : decode cX3_nextToHire 4 = .ok (.iload_n 2, 1) := dk_28 (dk_at dksX3_nextToHire_0 4 rfl rfl)
theorem dX3_nextToHire_5 : decode cX3_nextToHire 5 = .ok (.bipush 10, 2) := dk_16 10 (dk_at dksX3_nextToHire_0 5 rfl rfl)
theorem dX3_nextToHire_7 : decode cX3_nextToHire 7 = .ok (.if_icmp .ge 55, 3) := dk_162 0 55 (dk_at dksX3_nextToHire_0 7 rfl rfl)
theorem dX3_nextToHire_10 : decode cX3_nextToHire 10 = .ok (.aload_n 0, 1) := dk_42 (dk_at dksX3_nextToHire_0 10 rfl rfl)
theorem dX3_nextToHire_11 : decode cX3_nextToHire 11 = .ok (.iload_n 2, 1) := dk_28 (dk_at dksX3_nextToHire_0 11 rfl rfl)
theorem dX3_nextToHire_12 : decode cX3_nextToHire 12 = .ok (.invokevirtual 113, 3) := dk_182 0 113 (dk_at dksX3_nextToHire_0 12 rfl rfl)
theorem dX3_nextToHire_15 : decode cX3_nextToHire 15 = .ok (.ifCond .eq 16, 3) := dk_153 0 16 (dk_at dksX3_nextToHire_0 15 rfl rfl)
theorem dX3_nextToHire_18 : decode cX3_nextToHire 18 = .ok (.aload_n 0, 1) := dk_42 (dk_at dksX3_nextToHire_0 18 rfl rfl)
theorem dX3_nextToHire_19 : decode cX3_nextToHire 19 = .ok (.iload_n 2, 1) := dk_28 (dk_at dksX3_nextToHire_0 19 rfl rfl)
theorem dX3_nextToHire_20 : decode cX3_nextToHire 20 = .ok (.iconst 1, 1) := dk_4 (dk_at dksX3_nextToHire_0 20 rfl rfl)
theorem dX3_nextToHire_21 : decode cX3_nextToHire 21 = .ok (.invokevirtual 158, 3) := dk_182 0 158 (dk_at dksX3_nextToHire_0 21 rfl rfl)
theorem dX3_nextToHire_24 : decode cX3_nextToHire 24 = .ok (.ifCond .lt 7, 3) := dk_155 0 7 (dk_at dksX3_nextToHire_1 0 rfl rfl)
theorem dX3_nextToHire_27 : decode cX3_nextToHire 27 = .ok (.iconst 1, 1) := dk_4 (dk_at dksX3_nextToHire_1 3 rfl rfl)
theorem dX3_nextToHire_28 : decode cX3_nextToHire 28 = .ok (.goto 4, 3) := dk_167 0 4 (dk_at dksX3_nextToHire_1 4 rfl rfl)
theorem dX3_nextToHire_31 : decode cX3_nextToHire 31 = .ok (.iconst 0, 1) := dk_3 (dk_at dksX3_nextToHire_1 7 rfl rfl)
theorem dX3_nextToHire_32 : decode cX3_nextToHire 32 = .ok (.istore_n 3, 1) := dk_62 (dk_at dksX3_nextToHire_1 8 rfl rfl)
theorem dX3_nextToHire_33 : decode cX3_nextToHire 33 = .ok (.iload_n 3, 1) := dk_29 (dk_at dksX3_nextToHire_1 9 rfl rfl)
theorem dX3_nextToHire_34 : decode cX3_nextToHire 34 = .ok (.ifCond .eq 20, 3) := dk_153 0 20 (dk_at dksX3_nextToHire_1 10 rfl rfl)
theorem dX3_nextToHire_37 : decode cX3_nextToHire 37 = .ok (.iload_n 1, 1) := dk_27 (dk_at dksX3_nextToHire_1 13 rfl rfl)
theorem dX3_nextToHire_38 : decode cX3_nextToHire 38 = .ok (.ifCond .lt 12, 3) := dk_155 0 12 (dk_at dksX3_nextToHire_1 14 rfl rfl)
theorem dX3_nextToHire_41 : decode cX3_nextToHire 41 = .ok (.aload_n 0, 1) := dk_42 (dk_at dksX3_nextToHire_1 17 rfl rfl)
theorem dX3_nextToHire_42 : decode cX3_nextToHire 42 = .ok (.iload_n 2, 1) := dk_28 (dk_at dksX3_nextToHire_1 18 rfl rfl)
theorem dX3_nextToHire_43 : decode cX3_nextToHire 43 = .ok (.iload_n 1, 1) := dk_27 (dk_at dksX3_nextToHire_1 19 rfl rfl)
theorem dX3_nextToHire_44 : decode cX3_nextToHire 44 = .ok (.invokevirtual 126, 3) := dk_182 0 126 (dk_at dksX3_nextToHire_1 20 rfl rfl)
theorem dX3_nextToHire_47 : decode cX3_nextToHire 47 = .ok (.ifCond .eq 7, 3) := dk_153 0 7 (dk_at dksX3_nextToHire_2 0 rfl rfl)
theorem dX3_nextToHire_50 : decode cX3_nextToHire 50 = .ok (.iload_n 2, 1) := dk_28 (dk_at dksX3_nextToHire_2 3 rfl rfl)
theorem dX3_nextToHire_51 : decode cX3_nextToHire 51 = .ok (.goto 4, 3) := dk_167 0 4 (dk_at dksX3_nextToHire_2 4 rfl rfl)
theorem dX3_nextToHire_54 : decode cX3_nextToHire 54 = .ok (.iload_n 1, 1) := dk_27 (dk_at dksX3_nextToHire_2 7 rfl rfl)
theorem dX3_nextToHire_55 : decode cX3_nextToHire 55 = .ok (.istore_n 1, 1) := dk_60 (dk_at dksX3_nextToHire_2 8 rfl rfl)
theorem dX3_nextToHire_56 : decode cX3_nextToHire 56 = .ok (.iinc 2 1, 3) := dk_132 2 1 (dk_at dksX3_nextToHire_2 9 rfl rfl)
theorem dX3_nextToHire_59 : decode cX3_nextToHire 59 = .ok (.goto (-55), 3) := dk_167 255 201 (dk_at dksX3_nextToHire_2 12 rfl rfl)
theorem dX3_nextToHire_62 : decode cX3_nextToHire 62 = .ok (.iload_n 1, 1) := dk_27 (dk_at dksX3_nextToHire_2 15 rfl rfl)
theorem dX3_nextToHire_63 : decode cX3_nextToHire 63 = .ok (.ireturn, 1) := dk_172 (dk_at dksX3_nextToHire_2 16 rfl rfl)
abbrev cX3_mostHires : ByteArray := prog_10_method_79_code
def yX3_mostHires : MethodName := ⟨RX3, "mostHires", "()I"⟩
def dkwX3_mostHires_7 : List UInt8 := [184, 0, 70, 184, 0, 184, 167, 0, 4, 28, 61, 132, 3, 1, 167, 255, 228, 28, 172]
abbrev dktX3_mostHires_7 : List UInt8 := dkwX3_mostHires_7 ++ []
def dkwX3_mostHires_6 : List UInt8 := [132, 3, 1, 167, 255, 129, 3, 62, 29, 43, 190, 162, 0, 28, 43, 29, 51, 153, 0, 14, 28, 29]
abbrev dktX3_mostHires_6 : List UInt8 := dkwX3_mostHires_6 ++ dktX3_mostHires_7
def dkwX3_mostHires_5 : List UInt8 := [51, 153, 0, 7, 4, 167, 0, 4, 3, 84, 132, 5, 1, 167, 255, 169, 132, 4, 255, 167, 255, 147]
abbrev dktX3_mostHires_5 : List UInt8 := dkwX3_mostHires_5 ++ dktX3_mostHires_6
def dkwX3_mostHires_4 : List UInt8 := [167, 0, 4, 3, 54, 6, 43, 21, 4, 21, 6, 153, 0, 21, 43, 21, 4, 4, 21, 5, 120, 2, 130, 126]
abbrev dktX3_mostHires_4 : List UInt8 := dkwX3_mostHires_4 ++ dktX3_mostHires_5
def dkwX3_mostHires_3 : List UInt8 := [160, 0, 27, 42, 21, 5, 7, 182, 0, 59, 154, 0, 17, 42, 29, 21, 5, 182, 0, 152, 153, 0, 7, 4]
abbrev dktX3_mostHires_3 : List UInt8 := dkwX3_mostHires_3 ++ dktX3_mostHires_4
def dkwX3_mostHires_2 : List UInt8 := [42, 180, 0, 9, 5, 46, 162, 0, 82, 43, 21, 4, 51, 154, 0, 75, 21, 4, 21, 5, 122, 4, 126, 4]
abbrev dktX3_mostHires_2 : List UInt8 := dkwX3_mostHires_2 ++ dktX3_mostHires_3
def dkwX3_mostHires_1 : List UInt8 := [43, 190, 4, 100, 54, 4, 21, 4, 155, 0, 110, 42, 29, 182, 0, 113, 153, 0, 102, 3, 54, 5, 21, 5]
abbrev dktX3_mostHires_1 : List UInt8 := dkwX3_mostHires_1 ++ dktX3_mostHires_2
def dkwX3_mostHires_0 : List UInt8 := [42, 3, 181, 0, 39, 16, 64, 188, 4, 76, 43, 3, 4, 84, 3, 61, 3, 62, 29, 16, 10, 162, 0, 127]
abbrev dktX3_mostHires_0 : List UInt8 := dkwX3_mostHires_0 ++ dktX3_mostHires_1
theorem dksX3_mostHires_0 : cX3_mostHires.data.toList.drop 0 = dktX3_mostHires_0 := by decide +kernel
theorem dksX3_mostHires_1 : cX3_mostHires.data.toList.drop 24 = dktX3_mostHires_1 := dk_seg dksX3_mostHires_0 24 rfl rfl
theorem dksX3_mostHires_2 : cX3_mostHires.data.toList.drop 48 = dktX3_mostHires_2 := dk_seg dksX3_mostHires_1 24 rfl rfl
theorem dksX3_mostHires_3 : cX3_mostHires.data.toList.drop 72 = dktX3_mostHires_3 := dk_seg dksX3_mostHires_2 24 rfl rfl
theorem dksX3_mostHires_4 : cX3_mostHires.data.toList.drop 96 = dktX3_mostHires_4 := dk_seg dksX3_mostHires_3 24 rfl rfl
theorem dksX3_mostHires_5 : cX3_mostHires.data.toList.drop 120 = dktX3_mostHires_5 := dk_seg dksX3_mostHires_4 24 rfl rfl
theorem dksX3_mostHires_6 : cX3_mostHires.data.toList.drop 142 = dktX3_mostHires_6 := dk_seg dksX3_mostHires_5 22 rfl rfl
theorem dksX3_mostHires_7 : cX3_mostHires.data.toList.drop 164 = dktX3_mostHires_7 := dk_seg dksX3_mostHires_6 22 rfl rfl
theorem dX3_mostHires_0 : decode cX3_mostHires 0 = .ok (.aload_n 0, 1) := dk_42 (dk_at dksX3_mostHires_0 0 rfl rfl)
theorem dX3_mostHires_1 : decode cX3_mostHires 1 = .ok (.iconst 0, 1) := dk_3 (dk_at dksX3_mostHires_0 1 rfl rfl)
theorem dX3_mostHires_2 : decode cX3_mostHires 2 = .ok (.putfield 39, 3) := dk_181 0 39 (dk_at dksX3_mostHires_0 2 rfl rfl)
theorem dX3_mostHires_5 : decode cX3_mostHires 5 = .ok (.bipush 64, 2) := dk_16 64 (dk_at dksX3_mostHires_0 5 rfl rfl)
theorem dX3_mostHires_7 : decode cX3_mostHires 7 = .ok (.newarray .boolean, 2) := dk_188_4 (dk_at dksX3_mostHires_0 7 rfl rfl)
theorem dX3_mostHires_9 : decode cX3_mostHires 9 = .ok (.astore_n 1, 1) := dk_76 (dk_at dksX3_mostHires_0 9 rfl rfl)
theorem dX3_mostHires_10 : decode cX3_mostHires 10 = .ok (.aload_n 1, 1) := dk_43 (dk_at dksX3_mostHires_0 10 rfl rfl)
theorem dX3_mostHires_11 : decode cX3_mostHires 11 = .ok (.iconst 0, 1) := dk_3 (dk_at dksX3_mostHires_0 11 rfl rfl)
theorem dX3_mostHires_12 : decode cX3_mostHires 12 = .ok (.iconst 1, 1) := dk_4 (dk_at dksX3_mostHires_0 12 rfl rfl)
theorem dX3_mostHires_13 : decode cX3_mostHires 13 = .ok (.bastore, 1) := dk_84 (dk_at dksX3_mostHires_0 13 rfl rfl)
theorem dX3_mostHires_14 : decode cX3_mostHires 14 = .ok (.iconst 0, 1) := dk_3 (dk_at dksX3_mostHires_0 14 rfl rfl)
theorem dX3_mostHires_15 : decode cX3_mostHires 15 = .ok (.istore_n 2, 1) := dk_61 (dk_at dksX3_mostHires_0 15 rfl rfl)
theorem dX3_mostHires_16 : decode cX3_mostHires 16 = .ok (.iconst 0, 1) := dk_3 (dk_at dksX3_mostHires_0 16 rfl rfl)
theorem dX3_mostHires_17 : decode cX3_mostHires 17 = .ok (.istore_n 3, 1) := dk_62 (dk_at dksX3_mostHires_0 17 rfl rfl)
theorem dX3_mostHires_18 : decode cX3_mostHires 18 = .ok (.iload_n 3, 1) := dk_29 (dk_at dksX3_mostHires_0 18 rfl rfl)
theorem dX3_mostHires_19 : decode cX3_mostHires 19 = .ok (.bipush 10, 2) := dk_16 10 (dk_at dksX3_mostHires_0 19 rfl rfl)
theorem dX3_mostHires_21 : decode cX3_mostHires 21 = .ok (.if_icmp .ge 127, 3) := dk_162 0 127 (dk_at dksX3_mostHires_0 21 rfl rfl)
theorem dX3_mostHires_24 : decode cX3_mostHires 24 = .ok (.aload_n 1, 1) := dk_43 (dk_at dksX3_mostHires_1 0 rfl rfl)
theorem dX3_mostHires_25 : decode cX3_mostHires 25 = .ok (.arraylength, 1) := dk_190 (dk_at dksX3_mostHires_1 1 rfl rfl)
theorem dX3_mostHires_26 : decode cX3_mostHires 26 = .ok (.iconst 1, 1) := dk_4 (dk_at dksX3_mostHires_1 2 rfl rfl)
theorem dX3_mostHires_27 : decode cX3_mostHires 27 = .ok (.isub, 1) := dk_100 (dk_at dksX3_mostHires_1 3 rfl rfl)
theorem dX3_mostHires_28 : decode cX3_mostHires 28 = .ok (.istore 4, 2) := dk_54 4 (dk_at dksX3_mostHires_1 4 rfl rfl)
theorem dX3_mostHires_30 : decode cX3_mostHires 30 = .ok (.iload 4, 2) := dk_21 4 (dk_at dksX3_mostHires_1 6 rfl rfl)
theorem dX3_mostHires_32 : decode cX3_mostHires 32 = .ok (.ifCond .lt 110, 3) := dk_155 0 110 (dk_at dksX3_mostHires_1 8 rfl rfl)
theorem dX3_mostHires_35 : decode cX3_mostHires 35 = .ok (.aload_n 0, 1) := dk_42 (dk_at dksX3_mostHires_1 11 rfl rfl)
theorem dX3_mostHires_36 : decode cX3_mostHires 36 = .ok (.iload_n 3, 1) := dk_29 (dk_at dksX3_mostHires_1 12 rfl rfl)
theorem dX3_mostHires_37 : decode cX3_mostHires 37 = .ok (.invokevirtual 113, 3) := dk_182 0 113 (dk_at dksX3_mostHires_1 13 rfl rfl)
theorem dX3_mostHires_40 : decode cX3_mostHires 40 = .ok (.ifCond .eq 102, 3) := dk_153 0 102 (dk_at dksX3_mostHires_1 16 rfl rfl)
theorem dX3_mostHires_43 : decode cX3_mostHires 43 = .ok (.iconst 0, 1) := dk_3 (dk_at dksX3_mostHires_1 19 rfl rfl)
theorem dX3_mostHires_44 : decode cX3_mostHires 44 = .ok (.istore 5, 2) := dk_54 5 (dk_at dksX3_mostHires_1 20 rfl rfl)
theorem dX3_mostHires_46 : decode cX3_mostHires 46 = .ok (.iload 5, 2) := dk_21 5 (dk_at dksX3_mostHires_1 22 rfl rfl)
theorem dX3_mostHires_48 : decode cX3_mostHires 48 = .ok (.aload_n 0, 1) := dk_42 (dk_at dksX3_mostHires_2 0 rfl rfl)
theorem dX3_mostHires_49 : decode cX3_mostHires 49 = .ok (.getfield 9, 3) := dk_180 0 9 (dk_at dksX3_mostHires_2 1 rfl rfl)
theorem dX3_mostHires_52 : decode cX3_mostHires 52 = .ok (.iconst 2, 1) := dk_5 (dk_at dksX3_mostHires_2 4 rfl rfl)
theorem dX3_mostHires_53 : decode cX3_mostHires 53 = .ok (.iaload, 1) := dk_46 (dk_at dksX3_mostHires_2 5 rfl rfl)
theorem dX3_mostHires_54 : decode cX3_mostHires 54 = .ok (.if_icmp .ge 82, 3) := dk_162 0 82 (dk_at dksX3_mostHires_2 6 rfl rfl)
theorem dX3_mostHires_57 : decode cX3_mostHires 57 = .ok (.aload_n 1, 1) := dk_43 (dk_at dksX3_mostHires_2 9 rfl rfl)
theorem dX3_mostHires_58 : decode cX3_mostHires 58 = .ok (.iload 4, 2) := dk_21 4 (dk_at dksX3_mostHires_2 10 rfl rfl)
theorem dX3_mostHires_60 : decode cX3_mostHires 60 = .ok (.baload, 1) := dk_51 (dk_at dksX3_mostHires_2 12 rfl rfl)
theorem dX3_mostHires_61 : decode cX3_mostHires 61 = .ok (.ifCond .ne 75, 3) := dk_154 0 75 (dk_at dksX3_mostHires_2 13 rfl rfl)
theorem dX3_mostHires_64 : decode cX3_mostHires 64 = .ok (.iload 4, 2) := dk_21 4 (dk_at dksX3_mostHires_2 16 rfl rfl)
theorem dX3_mostHires_66 : decode cX3_mostHires 66 = .ok (.iload 5, 2) := dk_21 5 (dk_at dksX3_mostHires_2 18 rfl rfl)
theorem dX3_mostHires_68 : decode cX3_mostHires 68 = .ok (.ishr, 1) := dk_122 (dk_at dksX3_mostHires_2 20 rfl rfl)
theorem dX3_mostHires_69 : decode cX3_mostHires 69 = .ok (.iconst 1, 1) := dk_4 (dk_at dksX3_mostHires_2 21 rfl rfl)
theorem dX3_mostHires_70 : decode cX3_mostHires 70 = .ok (.iand, 1) := dk_126 (dk_at dksX3_mostHires_2 22 rfl rfl)
theorem dX3_mostHires_71 : decode cX3_mostHires 71 = .ok (.iconst 1, 1) := dk_4 (dk_at dksX3_mostHires_2 23 rfl rfl)
theorem dX3_mostHires_72 : decode cX3_mostHires 72 = .ok (.if_icmp .ne 27, 3) := dk_160 0 27 (dk_at dksX3_mostHires_3 0 rfl rfl)
theorem dX3_mostHires_75 : decode cX3_mostHires 75 = .ok (.aload_n 0, 1) := dk_42 (dk_at dksX3_mostHires_3 3 rfl rfl)
theorem dX3_mostHires_76 : decode cX3_mostHires 76 = .ok (.iload 5, 2) := dk_21 5 (dk_at dksX3_mostHires_3 4 rfl rfl)
theorem dX3_mostHires_78 : decode cX3_mostHires 78 = .ok (.iconst 4, 1) := dk_7 (dk_at dksX3_mostHires_3 6 rfl rfl)
theorem dX3_mostHires_79 : decode cX3_mostHires 79 = .ok (.invokevirtual 59, 3) := dk_182 0 59 (dk_at dksX3_mostHires_3 7 rfl rfl)
theorem dX3_mostHires_82 : decode cX3_mostHires 82 = .ok (.ifCond .ne 17, 3) := dk_154 0 17 (dk_at dksX3_mostHires_3 10 rfl rfl)
theorem dX3_mostHires_85 : decode cX3_mostHires 85 = .ok (.aload_n 0, 1) := dk_42 (dk_at dksX3_mostHires_3 13 rfl rfl)
theorem dX3_mostHires_86 : decode cX3_mostHires 86 = .ok (.iload_n 3, 1) := dk_29 (dk_at dksX3_mostHires_3 14 rfl rfl)
theorem dX3_mostHires_87 : decode cX3_mostHires 87 = .ok (.iload 5, 2) := dk_21 5 (dk_at dksX3_mostHires_3 15 rfl rfl)
theorem dX3_mostHires_89 : decode cX3_mostHires 89 = .ok (.invokevirtual 152, 3) := dk_182 0 152 (dk_at dksX3_mostHires_3 17 rfl rfl)
theorem dX3_mostHires_92 : decode cX3_mostHires 92 = .ok (.ifCond .eq 7, 3) := dk_153 0 7 (dk_at dksX3_mostHires_3 20 rfl rfl)
theorem dX3_mostHires_95 : decode cX3_mostHires 95 = .ok (.iconst 1, 1) := dk_4 (dk_at dksX3_mostHires_3 23 rfl rfl)
theorem dX3_mostHires_96 : decode cX3_mostHires 96 = .ok (.goto 4, 3) := dk_167 0 4 (dk_at dksX3_mostHires_4 0 rfl rfl)
theorem dX3_mostHires_99 : decode cX3_mostHires 99 = .ok (.iconst 0, 1) := dk_3 (dk_at dksX3_mostHires_4 3 rfl rfl)
theorem dX3_mostHires_100 : decode cX3_mostHires 100 = .ok (.istore 6, 2) := dk_54 6 (dk_at dksX3_mostHires_4 4 rfl rfl)
theorem dX3_mostHires_102 : decode cX3_mostHires 102 = .ok (.aload_n 1, 1) := dk_43 (dk_at dksX3_mostHires_4 6 rfl rfl)
theorem dX3_mostHires_103 : decode cX3_mostHires 103 = .ok (.iload 4, 2) := dk_21 4 (dk_at dksX3_mostHires_4 7 rfl rfl)
theorem dX3_mostHires_105 : decode cX3_mostHires 105 = .ok (.iload 6, 2) := dk_21 6 (dk_at dksX3_mostHires_4 9 rfl rfl)
theorem dX3_mostHires_107 : decode cX3_mostHires 107 = .ok (.ifCond .eq 21, 3) := dk_153 0 21 (dk_at dksX3_mostHires_4 11 rfl rfl)
theorem dX3_mostHires_110 : decode cX3_mostHires 110 = .ok (.aload_n 1, 1) := dk_43 (dk_at dksX3_mostHires_4 14 rfl rfl)
theorem dX3_mostHires_111 : decode cX3_mostHires 111 = .ok (.iload 4, 2) := dk_21 4 (dk_at dksX3_mostHires_4 15 rfl rfl)
theorem dX3_mostHires_113 : decode cX3_mostHires 113 = .ok (.iconst 1, 1) := dk_4 (dk_at dksX3_mostHires_4 17 rfl rfl)
theorem dX3_mostHires_114 : decode cX3_mostHires 114 = .ok (.iload 5, 2) := dk_21 5 (dk_at dksX3_mostHires_4 18 rfl rfl)
theorem dX3_mostHires_116 : decode cX3_mostHires 116 = .ok (.ishl, 1) := dk_120 (dk_at dksX3_mostHires_4 20 rfl rfl)
theorem dX3_mostHires_117 : decode cX3_mostHires 117 = .ok (.iconst (-1), 1) := dk_2 (dk_at dksX3_mostHires_4 21 rfl rfl)
theorem dX3_mostHires_118 : decode cX3_mostHires 118 = .ok (.ixor, 1) := dk_130 (dk_at dksX3_mostHires_4 22 rfl rfl)
theorem dX3_mostHires_119 : decode cX3_mostHires 119 = .ok (.iand, 1) := dk_126 (dk_at dksX3_mostHires_4 23 rfl rfl)
theorem dX3_mostHires_120 : decode cX3_mostHires 120 = .ok (.baload, 1) := dk_51 (dk_at dksX3_mostHires_5 0 rfl rfl)
theorem dX3_mostHires_121 : decode cX3_mostHires 121 = .ok (.ifCond .eq 7, 3) := dk_153 0 7 (dk_at dksX3_mostHires_5 1 rfl rfl)
theorem dX3_mostHires_124 : decode cX3_mostHires 124 = .ok (.iconst 1, 1) := dk_4 (dk_at dksX3_mostHires_5 4 rfl rfl)
theorem dX3_mostHires_125 : decode cX3_mostHires 125 = .ok (.goto 4, 3) := dk_167 0 4 (dk_at dksX3_mostHires_5 5 rfl rfl)
theorem dX3_mostHires_128 : decode cX3_mostHires 128 = .ok (.iconst 0, 1) := dk_3 (dk_at dksX3_mostHires_5 8 rfl rfl)
theorem dX3_mostHires_129 : decode cX3_mostHires 129 = .ok (.bastore, 1) := dk_84 (dk_at dksX3_mostHires_5 9 rfl rfl)
theorem dX3_mostHires_130 : decode cX3_mostHires 130 = .ok (.iinc 5 1, 3) := dk_132 5 1 (dk_at dksX3_mostHires_5 10 rfl rfl)
theorem dX3_mostHires_133 : decode cX3_mostHires 133 = .ok (.goto (-87), 3) := dk_167 255 169 (dk_at dksX3_mostHires_5 13 rfl rfl)
theorem dX3_mostHires_136 : decode cX3_mostHires 136 = .ok (.iinc 4 (-1), 3) := dk_132 4 255 (dk_at dksX3_mostHires_5 16 rfl rfl)
theorem dX3_mostHires_139 : decode cX3_mostHires 139 = .ok (.goto (-109), 3) := dk_167 255 147 (dk_at dksX3_mostHires_5 19 rfl rfl)
theorem dX3_mostHires_142 : decode cX3_mostHires 142 = .ok (.iinc 3 1, 3) := dk_132 3 1 (dk_at dksX3_mostHires_6 0 rfl rfl)
theorem dX3_mostHires_145 : decode cX3_mostHires 145 = .ok (.goto (-127), 3) := dk_167 255 129 (dk_at dksX3_mostHires_6 3 rfl rfl)
theorem dX3_mostHires_148 : decode cX3_mostHires 148 = .ok (.iconst 0, 1) := dk_3 (dk_at dksX3_mostHires_6 6 rfl rfl)
theorem dX3_mostHires_149 : decode cX3_mostHires 149 = .ok (.istore_n 3, 1) := dk_62 (dk_at dksX3_mostHires_6 7 rfl rfl)
theorem dX3_mostHires_150 : decode cX3_mostHires 150 = .ok (.iload_n 3, 1) := dk_29 (dk_at dksX3_mostHires_6 8 rfl rfl)
theorem dX3_mostHires_151 : decode cX3_mostHires 151 = .ok (.aload_n 1, 1) := dk_43 (dk_at dksX3_mostHires_6 9 rfl rfl)
theorem dX3_mostHires_152 : decode cX3_mostHires 152 = .ok (.arraylength, 1) := dk_190 (dk_at dksX3_mostHires_6 10 rfl rfl)
theorem dX3_mostHires_153 : decode cX3_mostHires 153 = .ok (.if_icmp .ge 28, 3) := dk_162 0 28 (dk_at dksX3_mostHires_6 11 rfl rfl)
theorem dX3_mostHires_156 : decode cX3_mostHires 156 = .ok (.aload_n 1, 1) := dk_43 (dk_at dksX3_mostHires_6 14 rfl rfl)
theorem dX3_mostHires_157 : decode cX3_mostHires 157 = .ok (.iload_n 3, 1) := dk_29 (dk_at dksX3_mostHires_6 15 rfl rfl)
theorem dX3_mostHires_158 : decode cX3_mostHires 158 = .ok (.baload, 1) := dk_51 (dk_at dksX3_mostHires_6 16 rfl rfl)
theorem dX3_mostHires_159 : decode cX3_mostHires 159 = .ok (.ifCond .eq 14, 3) := dk_153 0 14 (dk_at dksX3_mostHires_6 17 rfl rfl)
theorem dX3_mostHires_162 : decode cX3_mostHires 162 = .ok (.iload_n 2, 1) := dk_28 (dk_at dksX3_mostHires_6 20 rfl rfl)
theorem dX3_mostHires_163 : decode cX3_mostHires 163 = .ok (.iload_n 3, 1) := dk_29 (dk_at dksX3_mostHires_6 21 rfl rfl)
theorem dX3_mostHires_164 : decode cX3_mostHires 164 = .ok (.invokestatic 70, 3) := dk_184 0 70 (dk_at dksX3_mostHires_7 0 rfl rfl)
theorem dX3_mostHires_167 : decode cX3_mostHires 167 = .ok (.invokestatic 184, 3) := dk_184 0 184 (dk_at dksX3_mostHires_7 3 rfl rfl)
theorem dX3_mostHires_170 : decode cX3_mostHires 170 = .ok (.goto 4, 3) := dk_167 0 4 (dk_at dksX3_mostHires_7 6 rfl rfl)
theorem dX3_mostHires_173 : decode cX3_mostHires 173 = .ok (.iload_n 2, 1) := dk_28 (dk_at dksX3_mostHires_7 9 rfl rfl)
theorem dX3_mostHires_174 : decode cX3_mostHires 174 = .ok (.istore_n 2, 1) := dk_61 (dk_at dksX3_mostHires_7 10 rfl rfl)
theorem dX3_mostHires_175 : decode cX3_mostHires 175 = .ok (.iinc 3 1, 3) := dk_132 3 1 (dk_at dksX3_mostHires_7 11 rfl rfl)
theorem dX3_mostHires_178 : decode cX3_mostHires 178 = .ok (.goto (-28), 3) := dk_167 255 228 (dk_at dksX3_mostHires_7 14 rfl rfl)
theorem dX3_mostHires_181 : decode cX3_mostHires 181 = .ok (.iload_n 2, 1) := dk_28 (dk_at dksX3_mostHires_7 17 rfl rfl)
theorem dX3_mostHires_182 : decode cX3_mostHires 182 = .ok (.ireturn, 1) := dk_172 (dk_at dksX3_mostHires_7 18 rfl rfl)
abbrev cX3_mostHiresBySets : ByteArray := prog_10_method_80_code
def yX3_mostHiresBySets : MethodName := ⟨RX3, "mostHiresBySets", "()I"⟩
theorem dX3_mostHiresBySets_0 : decode cX3_mostHiresBySets 0 = .ok (.aload_n 0, 1) := by decide +kernel
theorem dX3_mostHiresBySets_1 : decode cX3_mostHiresBySets 1 = .ok (.invokevirtual 189, 3) := by decide +kernel
theorem dX3_mostHiresBySets_4 : decode cX3_mostHiresBySets 4 = .ok (.ireturn, 1) := by decide +kernel
abbrev cX3_blockingPairs : ByteArray := prog_10_method_82_code
def yX3_blockingPairs : MethodName := ⟨RX3, "blockingPairs", "()I"⟩
def dkwX3_blockingPairs_2 : List UInt8 := [167, 0, 4, 3, 96, 60, 132, 3, 1, 167, 255, 218, 132, 2, 1, 167, 255, 204, 27, 172]
abbrev dktX3_blockingPairs_2 : List UInt8 := dkwX3_blockingPairs_2 ++ []
def dkwX3_blockingPairs_1 : List UInt8 := [162, 0, 34, 42, 28, 182, 0, 62, 153, 0, 26, 27, 42, 28, 29, 182, 0, 192, 153, 0, 7, 4]
abbrev dktX3_blockingPairs_1 : List UInt8 := dkwX3_blockingPairs_1 ++ dktX3_blockingPairs_2
def dkwX3_blockingPairs_0 : List UInt8 := [42, 3, 181, 0, 39, 3, 60, 3, 61, 28, 16, 10, 162, 0, 52, 3, 62, 29, 42, 180, 0, 9, 5, 46]
abbrev dktX3_blockingPairs_0 : List UInt8 := dkwX3_blockingPairs_0 ++ dktX3_blockingPairs_1
theorem dksX3_blockingPairs_0 : cX3_blockingPairs.data.toList.drop 0 = dktX3_blockingPairs_0 := by decide +kernel
theorem dksX3_blockingPairs_1 : cX3_blockingPairs.data.toList.drop 24 = dktX3_blockingPairs_1 := dk_seg dksX3_blockingPairs_0 24 rfl rfl
theorem dksX3_blockingPairs_2 : cX3_blockingPairs.data.toList.drop 46 = dktX3_blockingPairs_2 := dk_seg dksX3_blockingPairs_1 22 rfl rfl
theorem dX3_blockingPairs_0 : decode cX3_blockingPairs 0 = .ok (.aload_n 0, 1) := dk_42 (dk_at dksX3_blockingPairs_0 0 rfl rfl)
theorem dX3_blockingPairs_1 : decode cX3_blockingPairs 1 = .ok (.iconst 0, 1) := dk_3 (dk_at dksX3_blockingPairs_0 1 rfl rfl)
theorem dX3_blockingPairs_2 : decode cX3_blockingPairs 2 = .ok (.putfield 39, 3) := dk_181 0 39 (dk_at dksX3_blockingPairs_0 2 rfl rfl)
theorem dX3_blockingPairs_5 : decode cX3_blockingPairs 5 = .ok (.iconst 0, 1) := dk_3 (dk_at dksX3_blockingPairs_0 5 rfl rfl)
theorem dX3_blockingPairs_6 : decode cX3_blockingPairs 6 = .ok (.istore_n 1, 1) := dk_60 (dk_at dksX3_blockingPairs_0 6 rfl rfl)
theorem dX3_blockingPairs_7 : decode cX3_blockingPairs 7 = .ok (.iconst 0, 1) := dk_3 (dk_at dksX3_blockingPairs_0 7 rfl rfl)
theorem dX3_blockingPairs_8 : decode cX3_blockingPairs 8 = .ok (.istore_n 2, 1) := dk_61 (dk_at dksX3_blockingPairs_0 8 rfl rfl)
theorem dX3_blockingPairs_9 : decode cX3_blockingPairs 9 = .ok (.iload_n 2, 1) := dk_28 (dk_at dksX3_blockingPairs_0 9 rfl rfl)
theorem dX3_blockingPairs_10 : decode cX3_blockingPairs 10 = .ok (.bipush 10, 2) := dk_16 10 (dk_at dksX3_blockingPairs_0 10 rfl rfl)
theorem dX3_blockingPairs_12 : decode cX3_blockingPairs 12 = .ok (.if_icmp .ge 52, 3) := dk_162 0 52 (dk_at dksX3_blockingPairs_0 12 rfl rfl)
theorem dX3_blockingPairs_15 : decode cX3_blockingPairs 15 = .ok (.iconst 0, 1) := dk_3 (dk_at dksX3_blockingPairs_0 15 rfl rfl)
theorem dX3_blockingPairs_16 : decode cX3_blockingPairs 16 = .ok (.istore_n 3, 1) := dk_62 (dk_at dksX3_blockingPairs_0 16 rfl rfl)
theorem dX3_blockingPairs_17 : decode cX3_blockingPairs 17 = .ok (.iload_n 3, 1) := dk_29 (dk_at dksX3_blockingPairs_0 17 rfl rfl)
theorem dX3_blockingPairs_18 : decode cX3_blockingPairs 18 = .ok (.aload_n 0, 1) := dk_42 (dk_at dksX3_blockingPairs_0 18 rfl rfl)
theorem dX3_blockingPairs_19 : decode cX3_blockingPairs 19 = .ok (.getfield 9, 3) := dk_180 0 9 (dk_at dksX3_blockingPairs_0 19 rfl rfl)
theorem dX3_blockingPairs_22 : decode cX3_blockingPairs 22 = .ok (.iconst 2, 1) := dk_5 (dk_at dksX3_blockingPairs_0 22 rfl rfl)
theorem dX3_blockingPairs_23 : decode cX3_blockingPairs 23 = .ok (.iaload, 1) := dk_46 (dk_at dksX3_blockingPairs_0 23 rfl rfl)
theorem dX3_blockingPairs_24 : decode cX3_blockingPairs 24 = .ok (.if_icmp .ge 34, 3) := dk_162 0 34 (dk_at dksX3_blockingPairs_1 0 rfl rfl)
theorem dX3_blockingPairs_27 : decode cX3_blockingPairs 27 = .ok (.aload_n 0, 1) := dk_42 (dk_at dksX3_blockingPairs_1 3 rfl rfl)
theorem dX3_blockingPairs_28 : decode cX3_blockingPairs 28 = .ok (.iload_n 2, 1) := dk_28 (dk_at dksX3_blockingPairs_1 4 rfl rfl)
theorem dX3_blockingPairs_29 : decode cX3_blockingPairs 29 = .ok (.invokevirtual 62, 3) := dk_182 0 62 (dk_at dksX3_blockingPairs_1 5 rfl rfl)
theorem dX3_blockingPairs_32 : decode cX3_blockingPairs 32 = .ok (.ifCond .eq 26, 3) := dk_153 0 26 (dk_at dksX3_blockingPairs_1 8 rfl rfl)
theorem dX3_blockingPairs_35 : decode cX3_blockingPairs 35 = .ok (.iload_n 1, 1) := dk_27 (dk_at dksX3_blockingPairs_1 11 rfl rfl)
theorem dX3_blockingPairs_36 : decode cX3_blockingPairs 36 = .ok (.aload_n 0, 1) := dk_42 (dk_at dksX3_blockingPairs_1 12 rfl rfl)
theorem dX3_blockingPairs_37 : decode cX3_blockingPairs 37 = .ok (.iload_n 2, 1) := dk_28 (dk_at dksX3_blockingPairs_1 13 rfl rfl)
theorem dX3_blockingPairs_38 : decode cX3_blockingPairs 38 = .ok (.iload_n 3, 1) := dk_29 (dk_at dksX3_blockingPairs_1 14 rfl rfl)
theorem dX3_blockingPairs_39 : decode cX3_blockingPairs 39 = .ok (.invokevirtual 192, 3) := dk_182 0 192 (dk_at dksX3_blockingPairs_1 15 rfl rfl)
theorem dX3_blockingPairs_42 : decode cX3_blockingPairs 42 = .ok (.ifCond .eq 7, 3) := dk_153 0 7 (dk_at dksX3_blockingPairs_1 18 rfl rfl)
theorem dX3_blockingPairs_45 : decode cX3_blockingPairs 45 = .ok (.iconst 1, 1) := dk_4 (dk_at dksX3_blockingPairs_1 21 rfl rfl)
theorem dX3_blockingPairs_46 : decode cX3_blockingPairs 46 = .ok (.goto 4, 3) := dk_167 0 4 (dk_at dksX3_blockingPairs_2 0 rfl rfl)
theorem dX3_blockingPairs_49 : decode cX3_blockingPairs 49 = .ok (.iconst 0, 1) := dk_3 (dk_at dksX3_blockingPairs_2 3 rfl rfl)
theorem dX3_blockingPairs_50 : decode cX3_blockingPairs 50 = .ok (.iadd, 1) := dk_96 (dk_at dksX3_blockingPairs_2 4 rfl rfl)
theorem dX3_blockingPairs_51 : decode cX3_blockingPairs 51 = .ok (.istore_n 1, 1) := dk_60 (dk_at dksX3_blockingPairs_2 5 rfl rfl)
theorem dX3_blockingPairs_52 : decode cX3_blockingPairs 52 = .ok (.iinc 3 1, 3) := dk_132 3 1 (dk_at dksX3_blockingPairs_2 6 rfl rfl)
theorem dX3_blockingPairs_55 : decode cX3_blockingPairs 55 = .ok (.goto (-38), 3) := dk_167 255 218 (dk_at dksX3_blockingPairs_2 9 rfl rfl)
theorem dX3_blockingPairs_58 : decode cX3_blockingPairs 58 = .ok (.iinc 2 1, 3) := dk_132 2 1 (dk_at dksX3_blockingPairs_2 12 rfl rfl)
theorem dX3_blockingPairs_61 : decode cX3_blockingPairs 61 = .ok (.goto (-52), 3) := dk_167 255 204 (dk_at dksX3_blockingPairs_2 15 rfl rfl)
theorem dX3_blockingPairs_64 : decode cX3_blockingPairs 64 = .ok (.iload_n 1, 1) := dk_27 (dk_at dksX3_blockingPairs_2 18 rfl rfl)
theorem dX3_blockingPairs_65 : decode cX3_blockingPairs 65 = .ok (.ireturn, 1) := dk_172 (dk_at dksX3_blockingPairs_2 19 rfl rfl)
abbrev cX3_isBlocking : ByteArray := prog_10_method_81_code
def yX3_isBlocking : MethodName := ⟨RX3, "isBlocking", "(II)Z"⟩
def dkwX3_isBlocking_2 : List UInt8 := [155, 0, 13, 42, 27, 21, 4, 182, 0, 126, 153, 0, 7, 4, 167, 0, 4, 3, 172]
abbrev dktX3_isBlocking_2 : List UInt8 := dkwX3_isBlocking_2 ++ []
def dkwX3_isBlocking_1 : List UInt8 := [153, 0, 40, 29, 28, 159, 0, 35, 29, 155, 0, 12, 42, 28, 29, 182, 0, 155, 153, 0, 22, 21, 4]
abbrev dktX3_isBlocking_1 : List UInt8 := dkwX3_isBlocking_1 ++ dktX3_isBlocking_2
def dkwX3_isBlocking_0 : List UInt8 := [42, 27, 182, 0, 66, 62, 42, 28, 7, 182, 0, 59, 4, 100, 54, 4, 42, 27, 28, 182, 0, 152]
abbrev dktX3_isBlocking_0 : List UInt8 := dkwX3_isBlocking_0 ++ dktX3_isBlocking_1
theorem dksX3_isBlocking_0 : cX3_isBlocking.data.toList.drop 0 = dktX3_isBlocking_0 := by decide +kernel
theorem dksX3_isBlocking_1 : cX3_isBlocking.data.toList.drop 22 = dktX3_isBlocking_1 := dk_seg dksX3_isBlocking_0 22 rfl rfl
theorem dksX3_isBlocking_2 : cX3_isBlocking.data.toList.drop 45 = dktX3_isBlocking_2 := dk_seg dksX3_isBlocking_1 23 rfl rfl
theorem dX3_isBlocking_0 : decode cX3_isBlocking 0 = .ok (.aload_n 0, 1) := dk_42 (dk_at dksX3_isBlocking_0 0 rfl rfl)
theorem dX3_isBlocking_1 : decode cX3_isBlocking 1 = .ok (.iload_n 1, 1) := dk_27 (dk_at dksX3_isBlocking_0 1 rfl rfl)
theorem dX3_isBlocking_2 : decode cX3_isBlocking 2 = .ok (.invokevirtual 66, 3) := dk_182 0 66 (dk_at dksX3_isBlocking_0 2 rfl rfl)
theorem dX3_isBlocking_5 : decode cX3_isBlocking 5 = .ok (.istore_n 3, 1) := dk_62 (dk_at dksX3_isBlocking_0 5 rfl rfl)
theorem dX3_isBlocking_6 : decode cX3_isBlocking 6 = .ok (.aload_n 0, 1) := dk_42 (dk_at dksX3_isBlocking_0 6 rfl rfl)
theorem dX3_isBlocking_7 : decode cX3_isBlocking 7 = .ok (.iload_n 2, 1) := dk_28 (dk_at dksX3_isBlocking_0 7 rfl rfl)
theorem dX3_isBlocking_8 : decode cX3_isBlocking 8 = .ok (.iconst 4, 1) := dk_7 (dk_at dksX3_isBlocking_0 8 rfl rfl)
theorem dX3_isBlocking_9 : decode cX3_isBlocking 9 = .ok (.invokevirtual 59, 3) := dk_182 0 59 (dk_at dksX3_isBlocking_0 9 rfl rfl)
theorem dX3_isBlocking_12 : decode cX3_isBlocking 12 = .ok (.iconst 1, 1) := dk_4 (dk_at dksX3_isBlocking_0 12 rfl rfl)
theorem dX3_isBlocking_13 : decode cX3_isBlocking 13 = .ok (.isub, 1) := dk_100 (dk_at dksX3_isBlocking_0 13 rfl rfl)
theorem dX3_isBlocking_14 : decode cX3_isBlocking 14 = .ok (.istore 4, 2) := dk_54 4 (dk_at dksX3_isBlocking_0 14 rfl rfl)
theorem dX3_isBlocking_16 : decode cX3_isBlocking 16 = .ok (.aload_n 0, 1) := dk_42 (dk_at dksX3_isBlocking_0 16 rfl rfl)
theorem dX3_isBlocking_17 : decode cX3_isBlocking 17 = .ok (.iload_n 1, 1) := dk_27 (dk_at dksX3_isBlocking_0 17 rfl rfl)
theorem dX3_isBlocking_18 : decode cX3_isBlocking 18 = .ok (.iload_n 2, 1) := dk_28 (dk_at dksX3_isBlocking_0 18 rfl rfl)
theorem dX3_isBlocking_19 : decode cX3_isBlocking 19 = .ok (.invokevirtual 152, 3) := dk_182 0 152 (dk_at dksX3_isBlocking_0 19 rfl rfl)
theorem dX3_isBlocking_22 : decode cX3_isBlocking 22 = .ok (.ifCond .eq 40, 3) := dk_153 0 40 (dk_at dksX3_isBlocking_1 0 rfl rfl)
theorem dX3_isBlocking_25 : decode cX3_isBlocking 25 = .ok (.iload_n 3, 1) := dk_29 (dk_at dksX3_isBlocking_1 3 rfl rfl)
theorem dX3_isBlocking_26 : decode cX3_isBlocking 26 = .ok (.iload_n 2, 1) := dk_28 (dk_at dksX3_isBlocking_1 4 rfl rfl)
theorem dX3_isBlocking_27 : decode cX3_isBlocking 27 = .ok (.if_icmp .eq 35, 3) := dk_159 0 35 (dk_at dksX3_isBlocking_1 5 rfl rfl)
theorem dX3_isBlocking_30 : decode cX3_isBlocking 30 = .ok (.iload_n 3, 1) := dk_29 (dk_at dksX3_isBlocking_1 8 rfl rfl)
theorem dX3_isBlocking_31 : decode cX3_isBlocking 31 = .ok (.ifCond .lt 12, 3) := dk_155 0 12 (dk_at dksX3_isBlocking_1 9 rfl rfl)
theorem dX3_isBlocking_34 : decode cX3_isBlocking 34 = .ok (.aload_n 0, 1) := dk_42 (dk_at dksX3_isBlocking_1 12 rfl rfl)
theorem dX3_isBlocking_35 : decode cX3_isBlocking 35 = .ok (.iload_n 2, 1) := dk_28 (dk_at dksX3_isBlocking_1 13 rfl rfl)
theorem dX3_isBlocking_36 : decode cX3_isBlocking 36 = .ok (.iload_n 3, 1) := dk_29 (dk_at dksX3_isBlocking_1 14 rfl rfl)
theorem dX3_isBlocking_37 : decode cX3_isBlocking 37 = .ok (.invokevirtual 155, 3) := dk_182 0 155 (dk_at dksX3_isBlocking_1 15 rfl rfl)
theorem dX3_isBlocking_40 : decode cX3_isBlocking 40 = .ok (.ifCond .eq 22, 3) := dk_153 0 22 (dk_at dksX3_isBlocking_1 18 rfl rfl)
theorem dX3_isBlocking_43 : decode cX3_isBlocking 43 = .ok (.iload 4, 2) := dk_21 4 (dk_at dksX3_isBlocking_1 21 rfl rfl)
theorem dX3_isBlocking_45 : decode cX3_isBlocking 45 = .ok (.ifCond .lt 13, 3) := dk_155 0 13 (dk_at dksX3_isBlocking_2 0 rfl rfl)
theorem dX3_isBlocking_48 : decode cX3_isBlocking 48 = .ok (.aload_n 0, 1) := dk_42 (dk_at dksX3_isBlocking_2 3 rfl rfl)
theorem dX3_isBlocking_49 : decode cX3_isBlocking 49 = .ok (.iload_n 1, 1) := dk_27 (dk_at dksX3_isBlocking_2 4 rfl rfl)
theorem dX3_isBlocking_50 : decode cX3_isBlocking 50 = .ok (.iload 4, 2) := dk_21 4 (dk_at dksX3_isBlocking_2 5 rfl rfl)
theorem dX3_isBlocking_52 : decode cX3_isBlocking 52 = .ok (.invokevirtual 126, 3) := dk_182 0 126 (dk_at dksX3_isBlocking_2 7 rfl rfl)
theorem dX3_isBlocking_55 : decode cX3_isBlocking 55 = .ok (.ifCond .eq 7, 3) := dk_153 0 7 (dk_at dksX3_isBlocking_2 10 rfl rfl)
theorem dX3_isBlocking_58 : decode cX3_isBlocking 58 = .ok (.iconst 1, 1) := dk_4 (dk_at dksX3_isBlocking_2 13 rfl rfl)
theorem dX3_isBlocking_59 : decode cX3_isBlocking 59 = .ok (.goto 4, 3) := dk_167 0 4 (dk_at dksX3_isBlocking_2 14 rfl rfl)
theorem dX3_isBlocking_62 : decode cX3_isBlocking 62 = .ok (.iconst 0, 1) := dk_3 (dk_at dksX3_isBlocking_2 17 rfl rfl)
theorem dX3_isBlocking_63 : decode cX3_isBlocking 63 = .ok (.ireturn, 1) := dk_172 (dk_at dksX3_isBlocking_2 18 rfl rfl)
abbrev cX3_blockingPairsByPreference : ByteArray := prog_10_method_83_code
def yX3_blockingPairsByPreference : MethodName := ⟨RX3, "blockingPairsByPreference", "()I"⟩
theorem dX3_blockingPairsByPreference_0 : decode cX3_blockingPairsByPreference 0 = .ok (.aload_n 0, 1) := by decide +kernel
theorem dX3_blockingPairsByPreference_1 : decode cX3_blockingPairsByPreference 1 = .ok (.invokevirtual 195, 3) := by decide +kernel
theorem dX3_blockingPairsByPreference_4 : decode cX3_blockingPairsByPreference 4 = .ok (.ireturn, 1) := by decide +kernel
abbrev cX3_passDays : ByteArray := prog_10_method_86_code
def yX3_passDays : MethodName := ⟨RX3, "passDays", "(I)I"⟩
def dkwX3_passDays_0 : List UInt8 := [42, 182, 0, 93, 42, 42, 27, 182, 0, 204, 182, 0, 100, 172]
abbrev dktX3_passDays_0 : List UInt8 := dkwX3_passDays_0 ++ []
theorem dksX3_passDays_0 : cX3_passDays.data.toList.drop 0 = dktX3_passDays_0 := by decide +kernel
theorem dX3_passDays_0 : decode cX3_passDays 0 = .ok (.aload_n 0, 1) := dk_42 (dk_at dksX3_passDays_0 0 rfl rfl)
theorem dX3_passDays_1 : decode cX3_passDays 1 = .ok (.invokevirtual 93, 3) := dk_182 0 93 (dk_at dksX3_passDays_0 1 rfl rfl)
theorem dX3_passDays_4 : decode cX3_passDays 4 = .ok (.aload_n 0, 1) := dk_42 (dk_at dksX3_passDays_0 4 rfl rfl)
theorem dX3_passDays_5 : decode cX3_passDays 5 = .ok (.aload_n 0, 1) := dk_42 (dk_at dksX3_passDays_0 5 rfl rfl)
theorem dX3_passDays_6 : decode cX3_passDays 6 = .ok (.iload_n 1, 1) := dk_27 (dk_at dksX3_passDays_0 6 rfl rfl)
theorem dX3_passDays_7 : decode cX3_passDays 7 = .ok (.invokevirtual 204, 3) := dk_182 0 204 (dk_at dksX3_passDays_0 7 rfl rfl)
theorem dX3_passDays_10 : decode cX3_passDays 10 = .ok (.invokevirtual 100, 3) := dk_182 0 100 (dk_at dksX3_passDays_0 10 rfl rfl)
theorem dX3_passDays_13 : decode cX3_passDays 13 = .ok (.ireturn, 1) := dk_172 (dk_at dksX3_passDays_0 13 rfl rfl)
abbrev cX3_doPassDays : ByteArray := prog_10_method_85_code
def yX3_doPassDays : MethodName := ⟨RX3, "doPassDays", "(I)I"⟩
def dkwX3_doPassDays_1 : List UInt8 := [162, 0, 16, 28, 42, 182, 0, 201, 96, 61, 132, 3, 1, 167, 255, 241, 28, 172]
abbrev dktX3_doPassDays_1 : List UInt8 := dkwX3_doPassDays_1 ++ []
def dkwX3_doPassDays_0 : List UInt8 := [3, 61, 27, 4, 16, 30, 184, 0, 51, 154, 0, 9, 42, 4, 182, 0, 82, 172, 3, 62, 29, 27]
abbrev dktX3_doPassDays_0 : List UInt8 := dkwX3_doPassDays_0 ++ dktX3_doPassDays_1
theorem dksX3_doPassDays_0 : cX3_doPassDays.data.toList.drop 0 = dktX3_doPassDays_0 := by decide +kernel
theorem dksX3_doPassDays_1 : cX3_doPassDays.data.toList.drop 22 = dktX3_doPassDays_1 := dk_seg dksX3_doPassDays_0 22 rfl rfl
theorem dX3_doPassDays_0 : decode cX3_doPassDays 0 = .ok (.iconst 0, 1) := dk_3 (dk_at dksX3_doPassDays_0 0 rfl rfl)
theorem dX3_doPassDays_1 : decode cX3_doPassDays 1 = .ok (.istore_n 2, 1) := dk_61 (dk_at dksX3_doPassDays_0 1 rfl rfl)
theorem dX3_doPassDays_2 : decode cX3_doPassDays 2 = .ok (.iload_n 1, 1) := dk_27 (dk_at dksX3_doPassDays_0 2 rfl rfl)
theorem dX3_doPassDays_3 : decode cX3_doPassDays 3 = .ok (.iconst 1, 1) := dk_4 (dk_at dksX3_doPassDays_0 3 rfl rfl)
theorem dX3_doPassDays_4 : decode cX3_doPassDays 4 = .ok (.bipush 30, 2) := dk_16 30 (dk_at dksX3_doPassDays_0 4 rfl rfl)
theorem dX3_doPassDays_6 : decode cX3_doPassDays 6 = .ok (.invokestatic 51, 3) := dk_184 0 51 (dk_at dksX3_doPassDays_0 6 rfl rfl)
theorem dX3_doPassDays_9 : decode cX3_doPassDays 9 = .ok (.ifCond .ne 9, 3) := dk_154 0 9 (dk_at dksX3_doPassDays_0 9 rfl rfl)
theorem dX3_doPassDays_12 : decode cX3_doPassDays 12 = .ok (.aload_n 0, 1) := dk_42 (dk_at dksX3_doPassDays_0 12 rfl rfl)
theorem dX3_doPassDays_13 : decode cX3_doPassDays 13 = .ok (.iconst 1, 1) := dk_4 (dk_at dksX3_doPassDays_0 13 rfl rfl)
theorem dX3_doPassDays_14 : decode cX3_doPassDays 14 = .ok (.invokevirtual 82, 3) := dk_182 0 82 (dk_at dksX3_doPassDays_0 14 rfl rfl)
theorem dX3_doPassDays_17 : decode cX3_doPassDays 17 = .ok (.ireturn, 1) := dk_172 (dk_at dksX3_doPassDays_0 17 rfl rfl)
theorem dX3_doPassDays_18 : decode cX3_doPassDays 18 = .ok (.iconst 0, 1) := dk_3 (dk_at dksX3_doPassDays_0 18 rfl rfl)
theorem dX3_doPassDays_19 : decode cX3_doPassDays 19 = .ok (.istore_n 3, 1) := dk_62 (dk_at dksX3_doPassDays_0 19 rfl rfl)
theorem dX3_doPassDays_20 : decode cX3_doPassDays 20 = .ok (.iload_n 3, 1) := dk_29 (dk_at dksX3_doPassDays_0 20 rfl rfl)
theorem dX3_doPassDays_21 : decode cX3_doPassDays 21 = .ok (.iload_n 1, 1) := dk_27 (dk_at dksX3_doPassDays_0 21 rfl rfl)
theorem dX3_doPassDays_22 : decode cX3_doPassDays 22 = .ok (.if_icmp .ge 16, 3) := dk_162 0 16 (dk_at dksX3_doPassDays_1 0 rfl rfl)
theorem dX3_doPassDays_25 : decode cX3_doPassDays 25 = .ok (.iload_n 2, 1) := dk_28 (dk_at dksX3_doPassDays_1 3 rfl rfl)
theorem dX3_doPassDays_26 : decode cX3_doPassDays 26 = .ok (.aload_n 0, 1) := dk_42 (dk_at dksX3_doPassDays_1 4 rfl rfl)
theorem dX3_doPassDays_27 : decode cX3_doPassDays 27 = .ok (.invokevirtual 201, 3) := dk_182 0 201 (dk_at dksX3_doPassDays_1 5 rfl rfl)
theorem dX3_doPassDays_30 : decode cX3_doPassDays 30 = .ok (.iadd, 1) := dk_96 (dk_at dksX3_doPassDays_1 8 rfl rfl)
theorem dX3_doPassDays_31 : decode cX3_doPassDays 31 = .ok (.istore_n 2, 1) := dk_61 (dk_at dksX3_doPassDays_1 9 rfl rfl)
theorem dX3_doPassDays_32 : decode cX3_doPassDays 32 = .ok (.iinc 3 1, 3) := dk_132 3 1 (dk_at dksX3_doPassDays_1 10 rfl rfl)
theorem dX3_doPassDays_35 : decode cX3_doPassDays 35 = .ok (.goto (-15), 3) := dk_167 255 241 (dk_at dksX3_doPassDays_1 13 rfl rfl)
theorem dX3_doPassDays_38 : decode cX3_doPassDays 38 = .ok (.iload_n 2, 1) := dk_28 (dk_at dksX3_doPassDays_1 16 rfl rfl)
theorem dX3_doPassDays_39 : decode cX3_doPassDays 39 = .ok (.ireturn, 1) := dk_172 (dk_at dksX3_doPassDays_1 17 rfl rfl)
abbrev cX3_doPassDay : ByteArray := prog_10_method_84_code
def yX3_doPassDay : MethodName := ⟨RX3, "doPassDay", "()I"⟩
def dkwX3_doPassDay_4 : List UInt8 := [167, 255, 166, 42, 180, 0, 9, 4, 92, 46, 4, 96, 79, 27, 172]
abbrev dktX3_doPassDay_4 : List UInt8 := dkwX3_doPassDay_4 ++ []
def dkwX3_doPassDay_3 : List UInt8 := [154, 0, 20, 42, 180, 0, 9, 16, 63, 8, 28, 104, 96, 7, 96, 3, 79, 132, 1, 1, 132, 2, 1]
abbrev dktX3_doPassDay_3 : List UInt8 := dkwX3_doPassDay_3 ++ dktX3_doPassDay_4
def dkwX3_doPassDay_2 : List UInt8 := [6, 16, 50, 42, 29, 6, 182, 0, 55, 4, 96, 184, 0, 198, 182, 0, 89, 42, 29, 28, 182, 0, 152]
abbrev dktX3_doPassDay_2 : List UInt8 := dkwX3_doPassDay_2 ++ dktX3_doPassDay_3
def dkwX3_doPassDay_1 : List UInt8 := [155, 0, 67, 42, 29, 7, 42, 29, 7, 182, 0, 55, 42, 28, 6, 182, 0, 59, 96, 182, 0, 89, 42, 29]
abbrev dktX3_doPassDay_1 : List UInt8 := dkwX3_doPassDay_1 ++ dktX3_doPassDay_2
def dkwX3_doPassDay_0 : List UInt8 := [3, 60, 3, 61, 28, 42, 180, 0, 9, 5, 46, 162, 0, 86, 42, 28, 7, 182, 0, 59, 4, 100, 62, 29]
abbrev dktX3_doPassDay_0 : List UInt8 := dkwX3_doPassDay_0 ++ dktX3_doPassDay_1
theorem dksX3_doPassDay_0 : cX3_doPassDay.data.toList.drop 0 = dktX3_doPassDay_0 := by decide +kernel
theorem dksX3_doPassDay_1 : cX3_doPassDay.data.toList.drop 24 = dktX3_doPassDay_1 := dk_seg dksX3_doPassDay_0 24 rfl rfl
theorem dksX3_doPassDay_2 : cX3_doPassDay.data.toList.drop 48 = dktX3_doPassDay_2 := dk_seg dksX3_doPassDay_1 24 rfl rfl
theorem dksX3_doPassDay_3 : cX3_doPassDay.data.toList.drop 71 = dktX3_doPassDay_3 := dk_seg dksX3_doPassDay_2 23 rfl rfl
theorem dksX3_doPassDay_4 : cX3_doPassDay.data.toList.drop 94 = dktX3_doPassDay_4 := dk_seg dksX3_doPassDay_3 23 rfl rfl
theorem dX3_doPassDay_0 : decode cX3_doPassDay 0 = .ok (.iconst 0, 1) := dk_3 (dk_at dksX3_doPassDay_0 0 rfl rfl)
theorem dX3_doPassDay_1 : decode cX3_doPassDay 1 = .ok (.istore_n 1, 1) := dk_60 (dk_at dksX3_doPassDay_0 1 rfl rfl)
theorem dX3_doPassDay_2 : decode cX3_doPassDay 2 = .ok (.iconst 0, 1) := dk_3 (dk_at dksX3_doPassDay_0 2 rfl rfl)
theorem dX3_doPassDay_3 : decode cX3_doPassDay 3 = .ok (.istore_n 2, 1) := dk_61 (dk_at dksX3_doPassDay_0 3 rfl rfl)
theorem dX3_doPassDay_4 : decode cX3_doPassDay 4 = .ok (.iload_n 2, 1) := dk_28 (dk_at dksX3_doPassDay_0 4 rfl rfl)
theorem dX3_doPassDay_5 : decode cX3_doPassDay 5 = .ok (.aload_n 0, 1) := dk_42 (dk_at dksX3_doPassDay_0 5 rfl rfl)
theorem dX3_doPassDay_6 : decode cX3_doPassDay 6 = .ok (.getfield 9, 3) := dk_180 0 9 (dk_at dksX3_doPassDay_0 6 rfl rfl)
theorem dX3_doPassDay_9 : decode cX3_doPassDay 9 = .ok (.iconst 2, 1) := dk_5 (dk_at dksX3_doPassDay_0 9 rfl rfl)
theorem dX3_doPassDay_10 : decode cX3_doPassDay 10 = .ok (.iaload, 1) := dk_46 (dk_at dksX3_doPassDay_0 10 rfl rfl)
theorem dX3_doPassDay_11 : decode cX3_doPassDay 11 = .ok (.if_icmp .ge 86, 3) := dk_162 0 86 (dk_at dksX3_doPassDay_0 11 rfl rfl)
theorem dX3_doPassDay_14 : decode cX3_doPassDay 14 = .ok (.aload_n 0, 1) := dk_42 (dk_at dksX3_doPassDay_0 14 rfl rfl)
theorem dX3_doPassDay_15 : decode cX3_doPassDay 15 = .ok (.iload_n 2, 1) := dk_28 (dk_at dksX3_doPassDay_0 15 rfl rfl)
theorem dX3_doPassDay_16 : decode cX3_doPassDay 16 = .ok (.iconst 4, 1) := dk_7 (dk_at dksX3_doPassDay_0 16 rfl rfl)
theorem dX3_doPassDay_17 : decode cX3_doPassDay 17 = .ok (.invokevirtual 59, 3) := dk_182 0 59 (dk_at dksX3_doPassDay_0 17 rfl rfl)
theorem dX3_doPassDay_20 : decode cX3_doPassDay 20 = .ok (.iconst 1, 1) := dk_4 (dk_at dksX3_doPassDay_0 20 rfl rfl)
theorem dX3_doPassDay_21 : decode cX3_doPassDay 21 = .ok (.isub, 1) := dk_100 (dk_at dksX3_doPassDay_0 21 rfl rfl)
theorem dX3_doPassDay_22 : decode cX3_doPassDay 22 = .ok (.istore_n 3, 1) := dk_62 (dk_at dksX3_doPassDay_0 22 rfl rfl)
theorem dX3_doPassDay_23 : decode cX3_doPassDay 23 = .ok (.iload_n 3, 1) := dk_29 (dk_at dksX3_doPassDay_0 23 rfl rfl)
theorem dX3_doPassDay_24 : decode cX3_doPassDay 24 = .ok (.ifCond .lt 67, 3) := dk_155 0 67 (dk_at dksX3_doPassDay_1 0 rfl rfl)
theorem dX3_doPassDay_27 : decode cX3_doPassDay 27 = .ok (.aload_n 0, 1) := dk_42 (dk_at dksX3_doPassDay_1 3 rfl rfl)
theorem dX3_doPassDay_28 : decode cX3_doPassDay 28 = .ok (.iload_n 3, 1) := dk_29 (dk_at dksX3_doPassDay_1 4 rfl rfl)
theorem dX3_doPassDay_29 : decode cX3_doPassDay 29 = .ok (.iconst 4, 1) := dk_7 (dk_at dksX3_doPassDay_1 5 rfl rfl)
theorem dX3_doPassDay_30 : decode cX3_doPassDay 30 = .ok (.aload_n 0, 1) := dk_42 (dk_at dksX3_doPassDay_1 6 rfl rfl)
theorem dX3_doPassDay_31 : decode cX3_doPassDay 31 = .ok (.iload_n 3, 1) := dk_29 (dk_at dksX3_doPassDay_1 7 rfl rfl)
theorem dX3_doPassDay_32 : decode cX3_doPassDay 32 = .ok (.iconst 4, 1) := dk_7 (dk_at dksX3_doPassDay_1 8 rfl rfl)
theorem dX3_doPassDay_33 : decode cX3_doPassDay 33 = .ok (.invokevirtual 55, 3) := dk_182 0 55 (dk_at dksX3_doPassDay_1 9 rfl rfl)
theorem dX3_doPassDay_36 : decode cX3_doPassDay 36 = .ok (.aload_n 0, 1) := dk_42 (dk_at dksX3_doPassDay_1 12 rfl rfl)
theorem dX3_doPassDay_37 : decode cX3_doPassDay 37 = .ok (.iload_n 2, 1) := dk_28 (dk_at dksX3_doPassDay_1 13 rfl rfl)
theorem dX3_doPassDay_38 : decode cX3_doPassDay 38 = .ok (.iconst 3, 1) := dk_6 (dk_at dksX3_doPassDay_1 14 rfl rfl)
theorem dX3_doPassDay_39 : decode cX3_doPassDay 39 = .ok (.invokevirtual 59, 3) := dk_182 0 59 (dk_at dksX3_doPassDay_1 15 rfl rfl)
theorem dX3_doPassDay_42 : decode cX3_doPassDay 42 = .ok (.iadd, 1) := dk_96 (dk_at dksX3_doPassDay_1 18 rfl rfl)
theorem dX3_doPassDay_43 : decode cX3_doPassDay 43 = .ok (.invokevirtual 89, 3) := dk_182 0 89 (dk_at dksX3_doPassDay_1 19 rfl rfl)
theorem dX3_doPassDay_46 : decode cX3_doPassDay 46 = .ok (.aload_n 0, 1) := dk_42 (dk_at dksX3_doPassDay_1 22 rfl rfl)
theorem dX3_doPassDay_47 : decode cX3_doPassDay 47 = .ok (.iload_n 3, 1) := dk_29 (dk_at dksX3_doPassDay_1 23 rfl rfl)
theorem dX3_doPassDay_48 : decode cX3_doPassDay 48 = .ok (.iconst 3, 1) := dk_6 (dk_at dksX3_doPassDay_2 0 rfl rfl)
theorem dX3_doPassDay_49 : decode cX3_doPassDay 49 = .ok (.bipush 50, 2) := dk_16 50 (dk_at dksX3_doPassDay_2 1 rfl rfl)
theorem dX3_doPassDay_51 : decode cX3_doPassDay 51 = .ok (.aload_n 0, 1) := dk_42 (dk_at dksX3_doPassDay_2 3 rfl rfl)
theorem dX3_doPassDay_52 : decode cX3_doPassDay 52 = .ok (.iload_n 3, 1) := dk_29 (dk_at dksX3_doPassDay_2 4 rfl rfl)
theorem dX3_doPassDay_53 : decode cX3_doPassDay 53 = .ok (.iconst 3, 1) := dk_6 (dk_at dksX3_doPassDay_2 5 rfl rfl)
theorem dX3_doPassDay_54 : decode cX3_doPassDay 54 = .ok (.invokevirtual 55, 3) := dk_182 0 55 (dk_at dksX3_doPassDay_2 6 rfl rfl)
theorem dX3_doPassDay_57 : decode cX3_doPassDay 57 = .ok (.iconst 1, 1) := dk_4 (dk_at dksX3_doPassDay_2 9 rfl rfl)
theorem dX3_doPassDay_58 : decode cX3_doPassDay 58 = .ok (.iadd, 1) := dk_96 (dk_at dksX3_doPassDay_2 10 rfl rfl)
theorem dX3_doPassDay_59 : decode cX3_doPassDay 59 = .ok (.invokestatic 198, 3) := dk_184 0 198 (dk_at dksX3_doPassDay_2 11 rfl rfl)
theorem dX3_doPassDay_62 : decode cX3_doPassDay 62 = .ok (.invokevirtual 89, 3) := dk_182 0 89 (dk_at dksX3_doPassDay_2 14 rfl rfl)
theorem dX3_doPassDay_65 : decode cX3_doPassDay 65 = .ok (.aload_n 0, 1) := dk_42 (dk_at dksX3_doPassDay_2 17 rfl rfl)
theorem dX3_doPassDay_66 : decode cX3_doPassDay 66 = .ok (.iload_n 3, 1) := dk_29 (dk_at dksX3_doPassDay_2 18 rfl rfl)
theorem dX3_doPassDay_67 : decode cX3_doPassDay 67 = .ok (.iload_n 2, 1) := dk_28 (dk_at dksX3_doPassDay_2 19 rfl rfl)
theorem dX3_doPassDay_68 : decode cX3_doPassDay 68 = .ok (.invokevirtual 152, 3) := dk_182 0 152 (dk_at dksX3_doPassDay_2 20 rfl rfl)
theorem dX3_doPassDay_71 : decode cX3_doPassDay 71 = .ok (.ifCond .ne 20, 3) := dk_154 0 20 (dk_at dksX3_doPassDay_3 0 rfl rfl)
theorem dX3_doPassDay_74 : decode cX3_doPassDay 74 = .ok (.aload_n 0, 1) := dk_42 (dk_at dksX3_doPassDay_3 3 rfl rfl)
theorem dX3_doPassDay_75 : decode cX3_doPassDay 75 = .ok (.getfield 9, 3) := dk_180 0 9 (dk_at dksX3_doPassDay_3 4 rfl rfl)
theorem dX3_doPassDay_78 : decode cX3_doPassDay 78 = .ok (.bipush 63, 2) := dk_16 63 (dk_at dksX3_doPassDay_3 7 rfl rfl)
theorem dX3_doPassDay_80 : decode cX3_doPassDay 80 = .ok (.iconst 5, 1) := dk_8 (dk_at dksX3_doPassDay_3 9 rfl rfl)
theorem dX3_doPassDay_81 : decode cX3_doPassDay 81 = .ok (.iload_n 2, 1) := dk_28 (dk_at dksX3_doPassDay_3 10 rfl rfl)
theorem dX3_doPassDay_82 : decode cX3_doPassDay 82 = .ok (.imul, 1) := dk_104 (dk_at dksX3_doPassDay_3 11 rfl rfl)
theorem dX3_doPassDay_83 : decode cX3_doPassDay 83 = .ok (.iadd, 1) := dk_96 (dk_at dksX3_doPassDay_3 12 rfl rfl)
theorem dX3_doPassDay_84 : decode cX3_doPassDay 84 = .ok (.iconst 4, 1) := dk_7 (dk_at dksX3_doPassDay_3 13 rfl rfl)
theorem dX3_doPassDay_85 : decode cX3_doPassDay 85 = .ok (.iadd, 1) := dk_96 (dk_at dksX3_doPassDay_3 14 rfl rfl)
theorem dX3_doPassDay_86 : decode cX3_doPassDay 86 = .ok (.iconst 0, 1) := dk_3 (dk_at dksX3_doPassDay_3 15 rfl rfl)
theorem dX3_doPassDay_87 : decode cX3_doPassDay 87 = .ok (.iastore, 1) := dk_79 (dk_at dksX3_doPassDay_3 16 rfl rfl)
theorem dX3_doPassDay_88 : decode cX3_doPassDay 88 = .ok (.iinc 1 1, 3) := dk_132 1 1 (dk_at dksX3_doPassDay_3 17 rfl rfl)
theorem dX3_doPassDay_91 : decode cX3_doPassDay 91 = .ok (.iinc 2 1, 3) := dk_132 2 1 (dk_at dksX3_doPassDay_3 20 rfl rfl)
theorem dX3_doPassDay_94 : decode cX3_doPassDay 94 = .ok (.goto (-90), 3) := dk_167 255 166 (dk_at dksX3_doPassDay_4 0 rfl rfl)
theorem dX3_doPassDay_97 : decode cX3_doPassDay 97 = .ok (.aload_n 0, 1) := dk_42 (dk_at dksX3_doPassDay_4 3 rfl rfl)
theorem dX3_doPassDay_98 : decode cX3_doPassDay 98 = .ok (.getfield 9, 3) := dk_180 0 9 (dk_at dksX3_doPassDay_4 4 rfl rfl)
theorem dX3_doPassDay_101 : decode cX3_doPassDay 101 = .ok (.iconst 1, 1) := dk_4 (dk_at dksX3_doPassDay_4 7 rfl rfl)
theorem dX3_doPassDay_102 : decode cX3_doPassDay 102 = .ok (.dup2, 1) := dk_92 (dk_at dksX3_doPassDay_4 8 rfl rfl)
theorem dX3_doPassDay_103 : decode cX3_doPassDay 103 = .ok (.iaload, 1) := dk_46 (dk_at dksX3_doPassDay_4 9 rfl rfl)
theorem dX3_doPassDay_104 : decode cX3_doPassDay 104 = .ok (.iconst 1, 1) := dk_4 (dk_at dksX3_doPassDay_4 10 rfl rfl)
theorem dX3_doPassDay_105 : decode cX3_doPassDay 105 = .ok (.iadd, 1) := dk_96 (dk_at dksX3_doPassDay_4 11 rfl rfl)
theorem dX3_doPassDay_106 : decode cX3_doPassDay 106 = .ok (.iastore, 1) := dk_79 (dk_at dksX3_doPassDay_4 12 rfl rfl)
theorem dX3_doPassDay_107 : decode cX3_doPassDay 107 = .ok (.iload_n 1, 1) := dk_27 (dk_at dksX3_doPassDay_4 13 rfl rfl)
theorem dX3_doPassDay_108 : decode cX3_doPassDay 108 = .ok (.ireturn, 1) := dk_172 (dk_at dksX3_doPassDay_4 14 rfl rfl)
abbrev cX3_day : ByteArray := prog_10_method_87_code
def yX3_day : MethodName := ⟨RX3, "day", "()I"⟩
def dkwX3_day_0 : List UInt8 := [42, 3, 181, 0, 39, 42, 180, 0, 9, 4, 46, 172]
abbrev dktX3_day_0 : List UInt8 := dkwX3_day_0 ++ []
theorem dksX3_day_0 : cX3_day.data.toList.drop 0 = dktX3_day_0 := by decide +kernel
theorem dX3_day_0 : decode cX3_day 0 = .ok (.aload_n 0, 1) := dk_42 (dk_at dksX3_day_0 0 rfl rfl)
theorem dX3_day_1 : decode cX3_day 1 = .ok (.iconst 0, 1) := dk_3 (dk_at dksX3_day_0 1 rfl rfl)
theorem dX3_day_2 : decode cX3_day 2 = .ok (.putfield 39, 3) := dk_181 0 39 (dk_at dksX3_day_0 2 rfl rfl)
theorem dX3_day_5 : decode cX3_day 5 = .ok (.aload_n 0, 1) := dk_42 (dk_at dksX3_day_0 5 rfl rfl)
theorem dX3_day_6 : decode cX3_day 6 = .ok (.getfield 9, 3) := dk_180 0 9 (dk_at dksX3_day_0 6 rfl rfl)
theorem dX3_day_9 : decode cX3_day 9 = .ok (.iconst 1, 1) := dk_4 (dk_at dksX3_day_0 9 rfl rfl)
theorem dX3_day_10 : decode cX3_day 10 = .ok (.iaload, 1) := dk_46 (dk_at dksX3_day_0 10 rfl rfl)
theorem dX3_day_11 : decode cX3_day 11 = .ok (.ireturn, 1) := dk_172 (dk_at dksX3_day_0 11 rfl rfl)
abbrev cX3_daysUntilDismissal : ByteArray := prog_10_method_88_code
def yX3_daysUntilDismissal : MethodName := ⟨RX3, "daysUntilDismissal", "(I)I"⟩
def dkwX3_daysUntilDismissal_3 : List UInt8 := [172]
abbrev dktX3_daysUntilDismissal_3 : List UInt8 := dkwX3_daysUntilDismissal_3 ++ []
def dkwX3_daysUntilDismissal_2 : List UInt8 := [21, 4, 153, 0, 21, 42, 29, 5, 182, 0, 59, 42, 28, 6, 182, 0, 55, 100, 4, 96, 167, 0, 4, 3]
abbrev dktX3_daysUntilDismissal_2 : List UInt8 := dkwX3_daysUntilDismissal_2 ++ dktX3_daysUntilDismissal_3
def dkwX3_daysUntilDismissal_1 : List UInt8 := [155, 0, 18, 42, 29, 5, 182, 0, 59, 16, 50, 162, 0, 7, 4, 167, 0, 4, 3, 182, 0, 119, 54, 4]
abbrev dktX3_daysUntilDismissal_1 : List UInt8 := dkwX3_daysUntilDismissal_1 ++ dktX3_daysUntilDismissal_2
def dkwX3_daysUntilDismissal_0 : List UInt8 := [42, 27, 182, 0, 103, 61, 28, 156, 0, 7, 2, 167, 0, 8, 42, 28, 182, 0, 66, 62, 42, 29]
abbrev dktX3_daysUntilDismissal_0 : List UInt8 := dkwX3_daysUntilDismissal_0 ++ dktX3_daysUntilDismissal_1
theorem dksX3_daysUntilDismissal_0 : cX3_daysUntilDismissal.data.toList.drop 0 = dktX3_daysUntilDismissal_0 := by decide +kernel
theorem dksX3_daysUntilDismissal_1 : cX3_daysUntilDismissal.data.toList.drop 22 = dktX3_daysUntilDismissal_1 := dk_seg dksX3_daysUntilDismissal_0 22 rfl rfl
theorem dksX3_daysUntilDismissal_2 : cX3_daysUntilDismissal.data.toList.drop 46 = dktX3_daysUntilDismissal_2 := dk_seg dksX3_daysUntilDismissal_1 24 rfl rfl
theorem dksX3_daysUntilDismissal_3 : cX3_daysUntilDismissal.data.toList.drop 70 = dktX3_daysUntilDismissal_3 := dk_seg dksX3_daysUntilDismissal_2 24 rfl rfl
theorem dX3_daysUntilDismissal_0 : decode cX3_daysUntilDismissal 0 = .ok (.aload_n 0, 1) := dk_42 (dk_at dksX3_daysUntilDismissal_0 0 rfl rfl)
theorem dX3_daysUntilDismissal_1 : decode cX3_daysUntilDismissal 1 = .ok (.iload_n 1, 1) := dk_27 (dk_at dksX3_daysUntilDismissal_0 1 rfl rfl)
theorem dX3_daysUntilDismissal_2 : decode cX3_daysUntilDismissal 2 = .ok (.invokevirtual 103, 3) := dk_182 0 103 (dk_at dksX3_daysUntilDismissal_0 2 rfl rfl)
theorem dX3_daysUntilDismissal_5 : decode cX3_daysUntilDismissal 5 = .ok (.istore_n 2, 1) := dk_61 (dk_at dksX3_daysUntilDismissal_0 5 rfl rfl)
theorem dX3_daysUntilDismissal_6 : decode cX3_daysUntilDismissal 6 = .ok (.iload_n 2, 1) := dk_28 (dk_at dksX3_daysUntilDismissal_0 6 rfl rfl)
theorem dX3_daysUntilDismissal_7 : decode cX3_daysUntilDismissal 7 = .ok (.ifCond .ge 7, 3) := dk_156 0 7 (dk_at dksX3_daysUntilDismissal_0 7 rfl rfl)
theorem dX3_daysUntilDismissal_10 : decode cX3_daysUntilDismissal 10 = .ok (.iconst (-1), 1) := dk_2 (dk_at dksX3_daysUntilDismissal_0 10 rfl rfl)
theorem dX3_daysUntilDismissal_11 : decode cX3_daysUntilDismissal 11 = .ok (.goto 8, 3) := dk_167 0 8 (dk_at dksX3_daysUntilDismissal_0 11 rfl rfl)
theorem dX3_daysUntilDismissal_14 : decode cX3_daysUntilDismissal 14 = .ok (.aload_n 0, 1) := dk_42 (dk_at dksX3_daysUntilDismissal_0 14 rfl rfl)
theorem dX3_daysUntilDismissal_15 : decode cX3_daysUntilDismissal 15 = .ok (.iload_n 2, 1) := dk_28 (dk_at dksX3_daysUntilDismissal_0 15 rfl rfl)
theorem dX3_daysUntilDismissal_16 : decode cX3_daysUntilDismissal 16 = .ok (.invokevirtual 66, 3) := dk_182 0 66 (dk_at dksX3_daysUntilDismissal_0 16 rfl rfl)
theorem dX3_daysUntilDismissal_19 : decode cX3_daysUntilDismissal 19 = .ok (.istore_n 3, 1) := dk_62 (dk_at dksX3_daysUntilDismissal_0 19 rfl rfl)
theorem dX3_daysUntilDismissal_20 : decode cX3_daysUntilDismissal 20 = .ok (.aload_n 0, 1) := dk_42 (dk_at dksX3_daysUntilDismissal_0 20 rfl rfl)
theorem dX3_daysUntilDismissal_21 : decode cX3_daysUntilDismissal 21 = .ok (.iload_n 3, 1) := dk_29 (dk_at dksX3_daysUntilDismissal_0 21 rfl rfl)
theorem dX3_daysUntilDismissal_22 : decode cX3_daysUntilDismissal 22 = .ok (.ifCond .lt 18, 3) := dk_155 0 18 (dk_at dksX3_daysUntilDismissal_1 0 rfl rfl)
theorem dX3_daysUntilDismissal_25 : decode cX3_daysUntilDismissal 25 = .ok (.aload_n 0, 1) := dk_42 (dk_at dksX3_daysUntilDismissal_1 3 rfl rfl)
theorem dX3_daysUntilDismissal_26 : decode cX3_daysUntilDismissal 26 = .ok (.iload_n 3, 1) := dk_29 (dk_at dksX3_daysUntilDismissal_1 4 rfl rfl)
theorem dX3_daysUntilDismissal_27 : decode cX3_daysUntilDismissal 27 = .ok (.iconst 2, 1) := dk_5 (dk_at dksX3_daysUntilDismissal_1 5 rfl rfl)
theorem dX3_daysUntilDismissal_28 : decode cX3_daysUntilDismissal 28 = .ok (.invokevirtual 59, 3) := dk_182 0 59 (dk_at dksX3_daysUntilDismissal_1 6 rfl rfl)
theorem dX3_daysUntilDismissal_31 : decode cX3_daysUntilDismissal 31 = .ok (.bipush 50, 2) := dk_16 50 (dk_at dksX3_daysUntilDismissal_1 9 rfl rfl)
theorem dX3_daysUntilDismissal_33 : decode cX3_daysUntilDismissal 33 = .ok (.if_icmp .ge 7, 3) := dk_162 0 7 (dk_at dksX3_daysUntilDismissal_1 11 rfl rfl)
theorem dX3_daysUntilDismissal_36 : decode cX3_daysUntilDismissal 36 = .ok (.iconst 1, 1) := dk_4 (dk_at dksX3_daysUntilDismissal_1 14 rfl rfl)
theorem dX3_daysUntilDismissal_37 : decode cX3_daysUntilDismissal 37 = .ok (.goto 4, 3) := dk_167 0 4 (dk_at dksX3_daysUntilDismissal_1 15 rfl rfl)
theorem dX3_daysUntilDismissal_40 : decode cX3_daysUntilDismissal 40 = .ok (.iconst 0, 1) := dk_3 (dk_at dksX3_daysUntilDismissal_1 18 rfl rfl)
theorem dX3_daysUntilDismissal_41 : decode cX3_daysUntilDismissal 41 = .ok (.invokevirtual 119, 3) := dk_182 0 119 (dk_at dksX3_daysUntilDismissal_1 19 rfl rfl)
theorem dX3_daysUntilDismissal_44 : decode cX3_daysUntilDismissal 44 = .ok (.istore 4, 2) := dk_54 4 (dk_at dksX3_daysUntilDismissal_1 22 rfl rfl)
theorem dX3_daysUntilDismissal_46 : decode cX3_daysUntilDismissal 46 = .ok (.iload 4, 2) := dk_21 4 (dk_at dksX3_daysUntilDismissal_2 0 rfl rfl)
theorem dX3_daysUntilDismissal_48 : decode cX3_daysUntilDismissal 48 = .ok (.ifCond .eq 21, 3) := dk_153 0 21 (dk_at dksX3_daysUntilDismissal_2 2 rfl rfl)
theorem dX3_daysUntilDismissal_51 : decode cX3_daysUntilDismissal 51 = .ok (.aload_n 0, 1) := dk_42 (dk_at dksX3_daysUntilDismissal_2 5 rfl rfl)
theorem dX3_daysUntilDismissal_52 : decode cX3_daysUntilDismissal 52 = .ok (.iload_n 3, 1) := dk_29 (dk_at dksX3_daysUntilDismissal_2 6 rfl rfl)
theorem dX3_daysUntilDismissal_53 : decode cX3_daysUntilDismissal 53 = .ok (.iconst 2, 1) := dk_5 (dk_at dksX3_daysUntilDismissal_2 7 rfl rfl)
theorem dX3_daysUntilDismissal_54 : decode cX3_daysUntilDismissal 54 = .ok (.invokevirtual 59, 3) := dk_182 0 59 (dk_at dksX3_daysUntilDismissal_2 8 rfl rfl)
theorem dX3_daysUntilDismissal_57 : decode cX3_daysUntilDismissal 57 = .ok (.aload_n 0, 1) := dk_42 (dk_at dksX3_daysUntilDismissal_2 11 rfl rfl)
theorem dX3_daysUntilDismissal_58 : decode cX3_daysUntilDismissal 58 = .ok (.iload_n 2, 1) := dk_28 (dk_at dksX3_daysUntilDismissal_2 12 rfl rfl)
theorem dX3_daysUntilDismissal_59 : decode cX3_daysUntilDismissal 59 = .ok (.iconst 3, 1) := dk_6 (dk_at dksX3_daysUntilDismissal_2 13 rfl rfl)
theorem dX3_daysUntilDismissal_60 : decode cX3_daysUntilDismissal 60 = .ok (.invokevirtual 55, 3) := dk_182 0 55 (dk_at dksX3_daysUntilDismissal_2 14 rfl rfl)
theorem dX3_daysUntilDismissal_63 : decode cX3_daysUntilDismissal 63 = .ok (.isub, 1) := dk_100 (dk_at dksX3_daysUntilDismissal_2 17 rfl rfl)
theorem dX3_daysUntilDismissal_64 : decode cX3_daysUntilDismissal 64 = .ok (.iconst 1, 1) := dk_4 (dk_at dksX3_daysUntilDismissal_2 18 rfl rfl)
theorem dX3_daysUntilDismissal_65 : decode cX3_daysUntilDismissal 65 = .ok (.iadd, 1) := dk_96 (dk_at dksX3_daysUntilDismissal_2 19 rfl rfl)
theorem dX3_daysUntilDismissal_66 : decode cX3_daysUntilDismissal 66 = .ok (.goto 4, 3) := dk_167 0 4 (dk_at dksX3_daysUntilDismissal_2 20 rfl rfl)
theorem dX3_daysUntilDismissal_69 : decode cX3_daysUntilDismissal 69 = .ok (.iconst 0, 1) := dk_3 (dk_at dksX3_daysUntilDismissal_2 23 rfl rfl)
theorem dX3_daysUntilDismissal_70 : decode cX3_daysUntilDismissal 70 = .ok (.ireturn, 1) := dk_172 (dk_at dksX3_daysUntilDismissal_3 0 rfl rfl)
abbrev cX3_dailyWages : ByteArray := prog_10_method_89_code
def yX3_dailyWages : MethodName := ⟨RX3, "dailyWages", "()I"⟩
def dkwX3_dailyWages_2 : List UInt8 := [27, 172]
abbrev dktX3_dailyWages_2 : List UInt8 := dkwX3_dailyWages_2 ++ []
def dkwX3_dailyWages_1 : List UInt8 := [182, 0, 59, 158, 0, 12, 42, 28, 6, 182, 0, 59, 167, 0, 4, 3, 96, 60, 132, 2, 1, 167, 255, 221]
abbrev dktX3_dailyWages_1 : List UInt8 := dkwX3_dailyWages_1 ++ dktX3_dailyWages_2
def dkwX3_dailyWages_0 : List UInt8 := [42, 3, 181, 0, 39, 3, 60, 3, 61, 28, 42, 180, 0, 9, 5, 46, 162, 0, 31, 27, 42, 28, 7]
abbrev dktX3_dailyWages_0 : List UInt8 := dkwX3_dailyWages_0 ++ dktX3_dailyWages_1
theorem dksX3_dailyWages_0 : cX3_dailyWages.data.toList.drop 0 = dktX3_dailyWages_0 := by decide +kernel
theorem dksX3_dailyWages_1 : cX3_dailyWages.data.toList.drop 23 = dktX3_dailyWages_1 := dk_seg dksX3_dailyWages_0 23 rfl rfl
theorem dksX3_dailyWages_2 : cX3_dailyWages.data.toList.drop 47 = dktX3_dailyWages_2 := dk_seg dksX3_dailyWages_1 24 rfl rfl
theorem dX3_dailyWages_0 : decode cX3_dailyWages 0 = .ok (.aload_n 0, 1) := dk_42 (dk_at dksX3_dailyWages_0 0 rfl rfl)
theorem dX3_dailyWages_1 : decode cX3_dailyWages 1 = .ok (.iconst 0, 1) := dk_3 (dk_at dksX3_dailyWages_0 1 rfl rfl)
theorem dX3_dailyWages_2 : decode cX3_dailyWages 2 = .ok (.putfield 39, 3) := dk_181 0 39 (dk_at dksX3_dailyWages_0 2 rfl rfl)
theorem dX3_dailyWages_5 : decode cX3_dailyWages 5 = .ok (.iconst 0, 1) := dk_3 (dk_at dksX3_dailyWages_0 5 rfl rfl)
theorem dX3_dailyWages_6 : decode cX3_dailyWages 6 = .ok (.istore_n 1, 1) := dk_60 (dk_at dksX3_dailyWages_0 6 rfl rfl)
theorem dX3_dailyWages_7 : decode cX3_dailyWages 7 = .ok (.iconst 0, 1) := dk_3 (dk_at dksX3_dailyWages_0 7 rfl rfl)
theorem dX3_dailyWages_8 : decode cX3_dailyWages 8 = .ok (.istore_n 2, 1) := dk_61 (dk_at dksX3_dailyWages_0 8 rfl rfl)
theorem dX3_dailyWages_9 : decode cX3_dailyWages 9 = .ok (.iload_n 2, 1) := dk_28 (dk_at dksX3_dailyWages_0 9 rfl rfl)
theorem dX3_dailyWages_10 : decode cX3_dailyWages 10 = .ok (.aload_n 0, 1) := dk_42 (dk_at dksX3_dailyWages_0 10 rfl rfl)
theorem dX3_dailyWages_11 : decode cX3_dailyWages 11 = .ok (.getfield 9, 3) := dk_180 0 9 (dk_at dksX3_dailyWages_0 11 rfl rfl)
theorem dX3_dailyWages_14 : decode cX3_dailyWages 14 = .ok (.iconst 2, 1) := dk_5 (dk_at dksX3_dailyWages_0 14 rfl rfl)
theorem dX3_dailyWages_15 : decode cX3_dailyWages 15 = .ok (.iaload, 1) := dk_46 (dk_at dksX3_dailyWages_0 15 rfl rfl)
theorem dX3_dailyWages_16 : decode cX3_dailyWages 16 = .ok (.if_icmp .ge 31, 3) := dk_162 0 31 (dk_at dksX3_dailyWages_0 16 rfl rfl)
theorem dX3_dailyWages_19 : decode cX3_dailyWages 19 = .ok (.iload_n 1, 1) := dk_27 (dk_at dksX3_dailyWages_0 19 rfl rfl)
theorem dX3_dailyWages_20 : decode cX3_dailyWages 20 = .ok (.aload_n 0, 1) := dk_42 (dk_at dksX3_dailyWages_0 20 rfl rfl)
theorem dX3_dailyWages_21 : decode cX3_dailyWages 21 = .ok (.iload_n 2, 1) := dk_28 (dk_at dksX3_dailyWages_0 21 rfl rfl)
theorem dX3_dailyWages_22 : decode cX3_dailyWages 22 = .ok (.iconst 4, 1) := dk_7 (dk_at dksX3_dailyWages_0 22 rfl rfl)
theorem dX3_dailyWages_23 : decode cX3_dailyWages 23 = .ok (.invokevirtual 59, 3) := dk_182 0 59 (dk_at dksX3_dailyWages_1 0 rfl rfl)
theorem dX3_dailyWages_26 : decode cX3_dailyWages 26 = .ok (.ifCond .le 12, 3) := dk_158 0 12 (dk_at dksX3_dailyWages_1 3 rfl rfl)
theorem dX3_dailyWages_29 : decode cX3_dailyWages 29 = .ok (.aload_n 0, 1) := dk_42 (dk_at dksX3_dailyWages_1 6 rfl rfl)
theorem dX3_dailyWages_30 : decode cX3_dailyWages 30 = .ok (.iload_n 2, 1) := dk_28 (dk_at dksX3_dailyWages_1 7 rfl rfl)
theorem dX3_dailyWages_31 : decode cX3_dailyWages 31 = .ok (.iconst 3, 1) := dk_6 (dk_at dksX3_dailyWages_1 8 rfl rfl)
theorem dX3_dailyWages_32 : decode cX3_dailyWages 32 = .ok (.invokevirtual 59, 3) := dk_182 0 59 (dk_at dksX3_dailyWages_1 9 rfl rfl)
theorem dX3_dailyWages_35 : decode cX3_dailyWages 35 = .ok (.goto 4, 3) := dk_167 0 4 (dk_at dksX3_dailyWages_1 12 rfl rfl)
theorem dX3_dailyWages_38 : decode cX3_dailyWages 38 = .ok (.iconst 0, 1) := dk_3 (dk_at dksX3_dailyWages_1 15 rfl rfl)
theorem dX3_dailyWages_39 : decode cX3_dailyWages 39 = .ok (.iadd, 1) := dk_96 (dk_at dksX3_dailyWages_1 16 rfl rfl)
theorem dX3_dailyWages_40 : decode cX3_dailyWages 40 = .ok (.istore_n 1, 1) := dk_60 (dk_at dksX3_dailyWages_1 17 rfl rfl)
theorem dX3_dailyWages_41 : decode cX3_dailyWages 41 = .ok (.iinc 2 1, 3) := dk_132 2 1 (dk_at dksX3_dailyWages_1 18 rfl rfl)
theorem dX3_dailyWages_44 : decode cX3_dailyWages 44 = .ok (.goto (-35), 3) := dk_167 255 221 (dk_at dksX3_dailyWages_1 21 rfl rfl)
theorem dX3_dailyWages_47 : decode cX3_dailyWages 47 = .ok (.iload_n 1, 1) := dk_27 (dk_at dksX3_dailyWages_2 0 rfl rfl)
theorem dX3_dailyWages_48 : decode cX3_dailyWages 48 = .ok (.ireturn, 1) := dk_172 (dk_at dksX3_dailyWages_2 1 rfl rfl)
abbrev cX3_meanScore : ByteArray := prog_10_method_90_code
def yX3_meanScore : MethodName := ⟨RX3, "meanScore", "()D"⟩
def dkwX3_meanScore_2 : List UInt8 := [61, 132, 3, 1, 167, 255, 227, 42, 180, 0, 39, 158, 0, 7, 14, 167, 0, 8, 28, 135, 27, 135, 111, 175]
abbrev dktX3_meanScore_2 : List UInt8 := dkwX3_meanScore_2 ++ []
def dkwX3_meanScore_1 : List UInt8 := [16, 10, 162, 0, 29, 28, 42, 29, 182, 0, 62, 153, 0, 11, 42, 29, 182, 0, 73, 167, 0, 4, 3, 96]
abbrev dktX3_meanScore_1 : List UInt8 := dkwX3_meanScore_1 ++ dktX3_meanScore_2
def dkwX3_meanScore_0 : List UInt8 := [42, 182, 0, 85, 60, 42, 27, 154, 0, 7, 4, 167, 0, 4, 3, 181, 0, 39, 3, 61, 3, 62, 29]
abbrev dktX3_meanScore_0 : List UInt8 := dkwX3_meanScore_0 ++ dktX3_meanScore_1
theorem dksX3_meanScore_0 : cX3_meanScore.data.toList.drop 0 = dktX3_meanScore_0 := by decide +kernel
theorem dksX3_meanScore_1 : cX3_meanScore.data.toList.drop 23 = dktX3_meanScore_1 := dk_seg dksX3_meanScore_0 23 rfl rfl
theorem dksX3_meanScore_2 : cX3_meanScore.data.toList.drop 47 = dktX3_meanScore_2 := dk_seg dksX3_meanScore_1 24 rfl rfl
theorem dX3_meanScore_0 : decode cX3_meanScore 0 = .ok (.aload_n 0, 1) := dk_42 (dk_at dksX3_meanScore_0 0 rfl rfl)
theorem dX3_meanScore_1 : decode cX3_meanScore 1 = .ok (.invokevirtual 85, 3) := dk_182 0 85 (dk_at dksX3_meanScore_0 1 rfl rfl)
theorem dX3_meanScore_4 : decode cX3_meanScore 4 = .ok (.istore_n 1, 1) := dk_60 (dk_at dksX3_meanScore_0 4 rfl rfl)
theorem dX3_meanScore_5 : decode cX3_meanScore 5 = .ok (.aload_n 0, 1) := dk_42 (dk_at dksX3_meanScore_0 5 rfl rfl)
theorem dX3_meanScore_6 : decode cX3_meanScore 6 = .ok (.iload_n 1, 1) := dk_27 (dk_at dksX3_meanScore_0 6 rfl rfl)
theorem dX3_meanScore_7 : decode cX3_meanScore 7 = .ok (.ifCond .ne 7, 3) := dk_154 0 7 (dk_at dksX3_meanScore_0 7 rfl rfl)
theorem dX3_meanScore_10 : decode cX3_meanScore 10 = .ok (.iconst 1, 1) := dk_4 (dk_at dksX3_meanScore_0 10 rfl rfl)
theorem dX3_meanScore_11 : decode cX3_meanScore 11 = .ok (.goto 4, 3) := dk_167 0 4 (dk_at dksX3_meanScore_0 11 rfl rfl)
theorem dX3_meanScore_14 : decode cX3_meanScore 14 = .ok (.iconst 0, 1) := dk_3 (dk_at dksX3_meanScore_0 14 rfl rfl)
theorem dX3_meanScore_15 : decode cX3_meanScore 15 = .ok (.putfield 39, 3) := dk_181 0 39 (dk_at dksX3_meanScore_0 15 rfl rfl)
theorem dX3_meanScore_18 : decode cX3_meanScore 18 = .ok (.iconst 0, 1) := dk_3 (dk_at dksX3_meanScore_0 18 rfl rfl)
theorem dX3_meanScore_19 : decode cX3_meanScore 19 = .ok (.istore_n 2, 1) := dk_61 (dk_at dksX3_meanScore_0 19 rfl rfl)
theorem dX3_meanScore_20 : decode cX3_meanScore 20 = .ok (.iconst 0, 1) := dk_3 (dk_at dksX3_meanScore_0 20 rfl rfl)
theorem dX3_meanScore_21 : decode cX3_meanScore 21 = .ok (.istore_n 3, 1) := dk_62 (dk_at dksX3_meanScore_0 21 rfl rfl)
theorem dX3_meanScore_22 : decode cX3_meanScore 22 = .ok (.iload_n 3, 1) := dk_29 (dk_at dksX3_meanScore_0 22 rfl rfl)
theorem dX3_meanScore_23 : decode cX3_meanScore 23 = .ok (.bipush 10, 2) := dk_16 10 (dk_at dksX3_meanScore_1 0 rfl rfl)
theorem dX3_meanScore_25 : decode cX3_meanScore 25 = .ok (.if_icmp .ge 29, 3) := dk_162 0 29 (dk_at dksX3_meanScore_1 2 rfl rfl)
theorem dX3_meanScore_28 : decode cX3_meanScore 28 = .ok (.iload_n 2, 1) := dk_28 (dk_at dksX3_meanScore_1 5 rfl rfl)
theorem dX3_meanScore_29 : decode cX3_meanScore 29 = .ok (.aload_n 0, 1) := dk_42 (dk_at dksX3_meanScore_1 6 rfl rfl)
theorem dX3_meanScore_30 : decode cX3_meanScore 30 = .ok (.iload_n 3, 1) := dk_29 (dk_at dksX3_meanScore_1 7 rfl rfl)
theorem dX3_meanScore_31 : decode cX3_meanScore 31 = .ok (.invokevirtual 62, 3) := dk_182 0 62 (dk_at dksX3_meanScore_1 8 rfl rfl)
theorem dX3_meanScore_34 : decode cX3_meanScore 34 = .ok (.ifCond .eq 11, 3) := dk_153 0 11 (dk_at dksX3_meanScore_1 11 rfl rfl)
theorem dX3_meanScore_37 : decode cX3_meanScore 37 = .ok (.aload_n 0, 1) := dk_42 (dk_at dksX3_meanScore_1 14 rfl rfl)
theorem dX3_meanScore_38 : decode cX3_meanScore 38 = .ok (.iload_n 3, 1) := dk_29 (dk_at dksX3_meanScore_1 15 rfl rfl)
theorem dX3_meanScore_39 : decode cX3_meanScore 39 = .ok (.invokevirtual 73, 3) := dk_182 0 73 (dk_at dksX3_meanScore_1 16 rfl rfl)
theorem dX3_meanScore_42 : decode cX3_meanScore 42 = .ok (.goto 4, 3) := dk_167 0 4 (dk_at dksX3_meanScore_1 19 rfl rfl)
theorem dX3_meanScore_45 : decode cX3_meanScore 45 = .ok (.iconst 0, 1) := dk_3 (dk_at dksX3_meanScore_1 22 rfl rfl)
theorem dX3_meanScore_46 : decode cX3_meanScore 46 = .ok (.iadd, 1) := dk_96 (dk_at dksX3_meanScore_1 23 rfl rfl)
theorem dX3_meanScore_47 : decode cX3_meanScore 47 = .ok (.istore_n 2, 1) := dk_61 (dk_at dksX3_meanScore_2 0 rfl rfl)
theorem dX3_meanScore_48 : decode cX3_meanScore 48 = .ok (.iinc 3 1, 3) := dk_132 3 1 (dk_at dksX3_meanScore_2 1 rfl rfl)
theorem dX3_meanScore_51 : decode cX3_meanScore 51 = .ok (.goto (-29), 3) := dk_167 255 227 (dk_at dksX3_meanScore_2 4 rfl rfl)
theorem dX3_meanScore_54 : decode cX3_meanScore 54 = .ok (.aload_n 0, 1) := dk_42 (dk_at dksX3_meanScore_2 7 rfl rfl)
theorem dX3_meanScore_55 : decode cX3_meanScore 55 = .ok (.getfield 39, 3) := dk_180 0 39 (dk_at dksX3_meanScore_2 8 rfl rfl)
theorem dX3_meanScore_58 : decode cX3_meanScore 58 = .ok (.ifCond .le 7, 3) := dk_158 0 7 (dk_at dksX3_meanScore_2 11 rfl rfl)
theorem dX3_meanScore_61 : decode cX3_meanScore 61 = .ok (.dconst 0, 1) := dk_14 (dk_at dksX3_meanScore_2 14 rfl rfl)
theorem dX3_meanScore_62 : decode cX3_meanScore 62 = .ok (.goto 8, 3) := dk_167 0 8 (dk_at dksX3_meanScore_2 15 rfl rfl)
theorem dX3_meanScore_65 : decode cX3_meanScore 65 = .ok (.iload_n 2, 1) := dk_28 (dk_at dksX3_meanScore_2 18 rfl rfl)
theorem dX3_meanScore_66 : decode cX3_meanScore 66 = .ok (.i2d, 1) := dk_135 (dk_at dksX3_meanScore_2 19 rfl rfl)
theorem dX3_meanScore_67 : decode cX3_meanScore 67 = .ok (.iload_n 1, 1) := dk_27 (dk_at dksX3_meanScore_2 20 rfl rfl)
theorem dX3_meanScore_68 : decode cX3_meanScore 68 = .ok (.i2d, 1) := dk_135 (dk_at dksX3_meanScore_2 21 rfl rfl)
theorem dX3_meanScore_69 : decode cX3_meanScore 69 = .ok (.ddiv, 1) := dk_111 (dk_at dksX3_meanScore_2 22 rfl rfl)
theorem dX3_meanScore_70 : decode cX3_meanScore 70 = .ok (.dreturn, 1) := dk_175 (dk_at dksX3_meanScore_2 23 rfl rfl)
abbrev cX3_filledFraction : ByteArray := prog_10_method_91_code
def yX3_filledFraction : MethodName := ⟨RX3, "filledFraction", "()F"⟩
def dkwX3_filledFraction_1 : List UInt8 := [158, 0, 7, 11, 167, 0, 13, 27, 42, 182, 0, 149, 100, 134, 27, 134, 110, 174]
abbrev dktX3_filledFraction_1 : List UInt8 := dkwX3_filledFraction_1 ++ []
def dkwX3_filledFraction_0 : List UInt8 := [42, 180, 0, 9, 5, 46, 60, 42, 27, 154, 0, 7, 4, 167, 0, 4, 3, 181, 0, 39, 42, 180, 0, 39]
abbrev dktX3_filledFraction_0 : List UInt8 := dkwX3_filledFraction_0 ++ dktX3_filledFraction_1
theorem dksX3_filledFraction_0 : cX3_filledFraction.data.toList.drop 0 = dktX3_filledFraction_0 := by decide +kernel
theorem dksX3_filledFraction_1 : cX3_filledFraction.data.toList.drop 24 = dktX3_filledFraction_1 := dk_seg dksX3_filledFraction_0 24 rfl rfl
theorem dX3_filledFraction_0 : decode cX3_filledFraction 0 = .ok (.aload_n 0, 1) := dk_42 (dk_at dksX3_filledFraction_0 0 rfl rfl)
theorem dX3_filledFraction_1 : decode cX3_filledFraction 1 = .ok (.getfield 9, 3) := dk_180 0 9 (dk_at dksX3_filledFraction_0 1 rfl rfl)
theorem dX3_filledFraction_4 : decode cX3_filledFraction 4 = .ok (.iconst 2, 1) := dk_5 (dk_at dksX3_filledFraction_0 4 rfl rfl)
theorem dX3_filledFraction_5 : decode cX3_filledFraction 5 = .ok (.iaload, 1) := dk_46 (dk_at dksX3_filledFraction_0 5 rfl rfl)
theorem dX3_filledFraction_6 : decode cX3_filledFraction 6 = .ok (.istore_n 1, 1) := dk_60 (dk_at dksX3_filledFraction_0 6 rfl rfl)
theorem dX3_filledFraction_7 : decode cX3_filledFraction 7 = .ok (.aload_n 0, 1) := dk_42 (dk_at dksX3_filledFraction_0 7 rfl rfl)
theorem dX3_filledFraction_8 : decode cX3_filledFraction 8 = .ok (.iload_n 1, 1) := dk_27 (dk_at dksX3_filledFraction_0 8 rfl rfl)
theorem dX3_filledFraction_9 : decode cX3_filledFraction 9 = .ok (.ifCond .ne 7, 3) := dk_154 0 7 (dk_at dksX3_filledFraction_0 9 rfl rfl)
theorem dX3_filledFraction_12 : decode cX3_filledFraction 12 = .ok (.iconst 1, 1) := dk_4 (dk_at dksX3_filledFraction_0 12 rfl rfl)
theorem dX3_filledFraction_13 : decode cX3_filledFraction 13 = .ok (.goto 4, 3) := dk_167 0 4 (dk_at dksX3_filledFraction_0 13 rfl rfl)
theorem dX3_filledFraction_16 : decode cX3_filledFraction 16 = .ok (.iconst 0, 1) := dk_3 (dk_at dksX3_filledFraction_0 16 rfl rfl)
theorem dX3_filledFraction_17 : decode cX3_filledFraction 17 = .ok (.putfield 39, 3) := dk_181 0 39 (dk_at dksX3_filledFraction_0 17 rfl rfl)
theorem dX3_filledFraction_20 : decode cX3_filledFraction 20 = .ok (.aload_n 0, 1) := dk_42 (dk_at dksX3_filledFraction_0 20 rfl rfl)
theorem dX3_filledFraction_21 : decode cX3_filledFraction 21 = .ok (.getfield 39, 3) := dk_180 0 39 (dk_at dksX3_filledFraction_0 21 rfl rfl)
theorem dX3_filledFraction_24 : decode cX3_filledFraction 24 = .ok (.ifCond .le 7, 3) := dk_158 0 7 (dk_at dksX3_filledFraction_1 0 rfl rfl)
theorem dX3_filledFraction_27 : decode cX3_filledFraction 27 = .ok (.fconst 0, 1) := dk_11 (dk_at dksX3_filledFraction_1 3 rfl rfl)
theorem dX3_filledFraction_28 : decode cX3_filledFraction 28 = .ok (.goto 13, 3) := dk_167 0 13 (dk_at dksX3_filledFraction_1 4 rfl rfl)
theorem dX3_filledFraction_31 : decode cX3_filledFraction 31 = .ok (.iload_n 1, 1) := dk_27 (dk_at dksX3_filledFraction_1 7 rfl rfl)
theorem dX3_filledFraction_32 : decode cX3_filledFraction 32 = .ok (.aload_n 0, 1) := dk_42 (dk_at dksX3_filledFraction_1 8 rfl rfl)
theorem dX3_filledFraction_33 : decode cX3_filledFraction 33 = .ok (.invokevirtual 149, 3) := dk_182 0 149 (dk_at dksX3_filledFraction_1 9 rfl rfl)
theorem dX3_filledFraction_36 : decode cX3_filledFraction 36 = .ok (.isub, 1) := dk_100 (dk_at dksX3_filledFraction_1 12 rfl rfl)
theorem dX3_filledFraction_37 : decode cX3_filledFraction 37 = .ok (.i2f, 1) := dk_134 (dk_at dksX3_filledFraction_1 13 rfl rfl)
theorem dX3_filledFraction_38 : decode cX3_filledFraction 38 = .ok (.iload_n 1, 1) := dk_27 (dk_at dksX3_filledFraction_1 14 rfl rfl)
theorem dX3_filledFraction_39 : decode cX3_filledFraction 39 = .ok (.i2f, 1) := dk_134 (dk_at dksX3_filledFraction_1 15 rfl rfl)
theorem dX3_filledFraction_40 : decode cX3_filledFraction 40 = .ok (.fdiv, 1) := dk_110 (dk_at dksX3_filledFraction_1 16 rfl rfl)
theorem dX3_filledFraction_41 : decode cX3_filledFraction 41 = .ok (.freturn, 1) := dk_174 (dk_at dksX3_filledFraction_1 17 rfl rfl)
abbrev cX3_isConsistent : ByteArray := prog_10_method_92_code
def yX3_isConsistent : MethodName := ⟨RX3, "isConsistent", "()Z"⟩
def dkwX3_isConsistent_0 : List UInt8 := [42, 3, 181, 0, 39, 4, 172]
abbrev dktX3_isConsistent_0 : List UInt8 := dkwX3_isConsistent_0 ++ []
theorem dksX3_isConsistent_0 : cX3_isConsistent.data.toList.drop 0 = dktX3_isConsistent_0 := by decide +kernel
theorem dX3_isConsistent_0 : decode cX3_isConsistent 0 = .ok (.aload_n 0, 1) := dk_42 (dk_at dksX3_isConsistent_0 0 rfl rfl)
theorem dX3_isConsistent_1 : decode cX3_isConsistent 1 = .ok (.iconst 0, 1) := dk_3 (dk_at dksX3_isConsistent_0 1 rfl rfl)
theorem dX3_isConsistent_2 : decode cX3_isConsistent 2 = .ok (.putfield 39, 3) := dk_181 0 39 (dk_at dksX3_isConsistent_0 2 rfl rfl)
theorem dX3_isConsistent_5 : decode cX3_isConsistent 5 = .ok (.iconst 1, 1) := dk_4 (dk_at dksX3_isConsistent_0 5 rfl rfl)
theorem dX3_isConsistent_6 : decode cX3_isConsistent 6 = .ok (.ireturn, 1) := dk_172 (dk_at dksX3_isConsistent_0 6 rfl rfl)
abbrev cX3_writeApplicant : ByteArray := prog_10_method_96_code
def yX3_writeApplicant : MethodName := ⟨RX3, "writeApplicant", "(I)I"⟩
def dkwX3_writeApplicant_6 : List UInt8 := [42, 180, 0, 207, 172]
abbrev dktX3_writeApplicant_6 : List UInt8 := dkwX3_writeApplicant_6 ++ []
def dkwX3_writeApplicant_5 : List UInt8 := [42, 42, 28, 182, 0, 66, 155, 0, 7, 4, 167, 0, 4, 3, 16, 64, 42, 28, 182, 0, 66, 182, 0, 216]
abbrev dktX3_writeApplicant_5 : List UInt8 := dkwX3_writeApplicant_5 ++ dktX3_writeApplicant_6
def dkwX3_writeApplicant_4 : List UInt8 := [28, 7, 182, 0, 55, 158, 0, 7, 4, 167, 0, 4, 3, 16, 36, 42, 28, 7, 182, 0, 55, 182, 0, 216]
abbrev dktX3_writeApplicant_4 : List UInt8 := dkwX3_writeApplicant_4 ++ dktX3_writeApplicant_5
def dkwX3_writeApplicant_3 : List UInt8 := [182, 0, 55, 182, 0, 210, 42, 29, 158, 0, 7, 4, 167, 0, 4, 3, 16, 43, 29, 182, 0, 216, 42, 42]
abbrev dktX3_writeApplicant_3 : List UInt8 := dkwX3_writeApplicant_3 ++ dktX3_writeApplicant_4
def dkwX3_writeApplicant_2 : List UInt8 := [182, 0, 213, 42, 42, 28, 5, 182, 0, 55, 182, 0, 210, 42, 16, 47, 182, 0, 213, 42, 42, 28, 6]
abbrev dktX3_writeApplicant_2 : List UInt8 := dkwX3_writeApplicant_2 ++ dktX3_writeApplicant_3
def dkwX3_writeApplicant_1 : List UInt8 := [42, 3, 181, 0, 207, 42, 28, 8, 182, 0, 55, 184, 0, 70, 62, 42, 42, 28, 4, 182, 0, 55]
abbrev dktX3_writeApplicant_1 : List UInt8 := dkwX3_writeApplicant_1 ++ dktX3_writeApplicant_2
def dkwX3_writeApplicant_0 : List UInt8 := [42, 27, 182, 0, 103, 61, 42, 28, 155, 0, 7, 4, 167, 0, 4, 3, 182, 0, 119, 154, 0, 5, 3, 172]
abbrev dktX3_writeApplicant_0 : List UInt8 := dkwX3_writeApplicant_0 ++ dktX3_writeApplicant_1
theorem dksX3_writeApplicant_0 : cX3_writeApplicant.data.toList.drop 0 = dktX3_writeApplicant_0 := by decide +kernel
theorem dksX3_writeApplicant_1 : cX3_writeApplicant.data.toList.drop 24 = dktX3_writeApplicant_1 := dk_seg dksX3_writeApplicant_0 24 rfl rfl
theorem dksX3_writeApplicant_2 : cX3_writeApplicant.data.toList.drop 46 = dktX3_writeApplicant_2 := dk_seg dksX3_writeApplicant_1 22 rfl rfl
theorem dksX3_writeApplicant_3 : cX3_writeApplicant.data.toList.drop 69 = dktX3_writeApplicant_3 := dk_seg dksX3_writeApplicant_2 23 rfl rfl
theorem dksX3_writeApplicant_4 : cX3_writeApplicant.data.toList.drop 93 = dktX3_writeApplicant_4 := dk_seg dksX3_writeApplicant_3 24 rfl rfl
theorem dksX3_writeApplicant_5 : cX3_writeApplicant.data.toList.drop 117 = dktX3_writeApplicant_5 := dk_seg dksX3_writeApplicant_4 24 rfl rfl
theorem dksX3_writeApplicant_6 : cX3_writeApplicant.data.toList.drop 141 = dktX3_writeApplicant_6 := dk_seg dksX3_writeApplicant_5 24 rfl rfl
theorem dX3_writeApplicant_0 : decode cX3_writeApplicant 0 = .ok (.aload_n 0, 1) := dk_42 (dk_at dksX3_writeApplicant_0 0 rfl rfl)
theorem dX3_writeApplicant_1 : decode cX3_writeApplicant 1 = .ok (.iload_n 1, 1) := dk_27 (dk_at dksX3_writeApplicant_0 1 rfl rfl)
theorem dX3_writeApplicant_2 : decode cX3_writeApplicant 2 = .ok (.invokevirtual 103, 3) := dk_182 0 103 (dk_at dksX3_writeApplicant_0 2 rfl rfl)
theorem dX3_writeApplicant_5 : decode cX3_writeApplicant 5 = .ok (.istore_n 2, 1) := dk_61 (dk_at dksX3_writeApplicant_0 5 rfl rfl)
theorem dX3_writeApplicant_6 : decode cX3_writeApplicant 6 = .ok (.aload_n 0, 1) := dk_42 (dk_at dksX3_writeApplicant_0 6 rfl rfl)
theorem dX3_writeApplicant_7 : decode cX3_writeApplicant 7 = .ok (.iload_n 2, 1) := dk_28 (dk_at dksX3_writeApplicant_0 7 rfl rfl)
theorem dX3_writeApplicant_8 : decode cX3_writeApplicant 8 = .ok (.ifCond .lt 7, 3) := dk_155 0 7 (dk_at dksX3_writeApplicant_0 8 rfl rfl)
theorem dX3_writeApplicant_11 : decode cX3_writeApplicant 11 = .ok (.iconst 1, 1) := dk_4 (dk_at dksX3_writeApplicant_0 11 rfl rfl)
theorem dX3_writeApplicant_12 : decode cX3_writeApplicant 12 = .ok (.goto 4, 3) := dk_167 0 4 (dk_at dksX3_writeApplicant_0 12 rfl rfl)
theorem dX3_writeApplicant_15 : decode cX3_writeApplicant 15 = .ok (.iconst 0, 1) := dk_3 (dk_at dksX3_writeApplicant_0 15 rfl rfl)
theorem dX3_writeApplicant_16 : decode cX3_writeApplicant 16 = .ok (.invokevirtual 119, 3) := dk_182 0 119 (dk_at dksX3_writeApplicant_0 16 rfl rfl)
theorem dX3_writeApplicant_19 : decode cX3_writeApplicant 19 = .ok (.ifCond .ne 5, 3) := dk_154 0 5 (dk_at dksX3_writeApplicant_0 19 rfl rfl)
theorem dX3_writeApplicant_22 : decode cX3_writeApplicant 22 = .ok (.iconst 0, 1) := dk_3 (dk_at dksX3_writeApplicant_0 22 rfl rfl)
theorem dX3_writeApplicant_23 : decode cX3_writeApplicant 23 = .ok (.ireturn, 1) := dk_172 (dk_at dksX3_writeApplicant_0 23 rfl rfl)
theorem dX3_writeApplicant_24 : decode cX3_writeApplicant 24 = .ok (.aload_n 0, 1) := dk_42 (dk_at dksX3_writeApplicant_1 0 rfl rfl)
theorem dX3_writeApplicant_25 : decode cX3_writeApplicant 25 = .ok (.iconst 0, 1) := dk_3 (dk_at dksX3_writeApplicant_1 1 rfl rfl)
theorem dX3_writeApplicant_26 : decode cX3_writeApplicant 26 = .ok (.putfield 207, 3) := dk_181 0 207 (dk_at dksX3_writeApplicant_1 2 rfl rfl)
theorem dX3_writeApplicant_29 : decode cX3_writeApplicant 29 = .ok (.aload_n 0, 1) := dk_42 (dk_at dksX3_writeApplicant_1 5 rfl rfl)
theorem dX3_writeApplicant_30 : decode cX3_writeApplicant 30 = .ok (.iload_n 2, 1) := dk_28 (dk_at dksX3_writeApplicant_1 6 rfl rfl)
theorem dX3_writeApplicant_31 : decode cX3_writeApplicant 31 = .ok (.iconst 5, 1) := dk_8 (dk_at dksX3_writeApplicant_1 7 rfl rfl)
theorem dX3_writeApplicant_32 : decode cX3_writeApplicant 32 = .ok (.invokevirtual 55, 3) := dk_182 0 55 (dk_at dksX3_writeApplicant_1 8 rfl rfl)
theorem dX3_writeApplicant_35 : decode cX3_writeApplicant 35 = .ok (.invokestatic 70, 3) := dk_184 0 70 (dk_at dksX3_writeApplicant_1 11 rfl rfl)
theorem dX3_writeApplicant_38 : decode cX3_writeApplicant 38 = .ok (.istore_n 3, 1) := dk_62 (dk_at dksX3_writeApplicant_1 14 rfl rfl)
theorem dX3_writeApplicant_39 : decode cX3_writeApplicant 39 = .ok (.aload_n 0, 1) := dk_42 (dk_at dksX3_writeApplicant_1 15 rfl rfl)
theorem dX3_writeApplicant_40 : decode cX3_writeApplicant 40 = .ok (.aload_n 0, 1) := dk_42 (dk_at dksX3_writeApplicant_1 16 rfl rfl)
theorem dX3_writeApplicant_41 : decode cX3_writeApplicant 41 = .ok (.iload_n 2, 1) := dk_28 (dk_at dksX3_writeApplicant_1 17 rfl rfl)
theorem dX3_writeApplicant_42 : decode cX3_writeApplicant 42 = .ok (.iconst 1, 1) := dk_4 (dk_at dksX3_writeApplicant_1 18 rfl rfl)
theorem dX3_writeApplicant_43 : decode cX3_writeApplicant 43 = .ok (.invokevirtual 55, 3) := dk_182 0 55 (dk_at dksX3_writeApplicant_1 19 rfl rfl)
theorem dX3_writeApplicant_46 : decode cX3_writeApplicant 46 = .ok (.invokevirtual 213, 3) := dk_182 0 213 (dk_at dksX3_writeApplicant_2 0 rfl rfl)
theorem dX3_writeApplicant_49 : decode cX3_writeApplicant 49 = .ok (.aload_n 0, 1) := dk_42 (dk_at dksX3_writeApplicant_2 3 rfl rfl)
theorem dX3_writeApplicant_50 : decode cX3_writeApplicant 50 = .ok (.aload_n 0, 1) := dk_42 (dk_at dksX3_writeApplicant_2 4 rfl rfl)
theorem dX3_writeApplicant_51 : decode cX3_writeApplicant 51 = .ok (.iload_n 2, 1) := dk_28 (dk_at dksX3_writeApplicant_2 5 rfl rfl)
theorem dX3_writeApplicant_52 : decode cX3_writeApplicant 52 = .ok (.iconst 2, 1) := dk_5 (dk_at dksX3_writeApplicant_2 6 rfl rfl)
theorem dX3_writeApplicant_53 : decode cX3_writeApplicant 53 = .ok (.invokevirtual 55, 3) := dk_182 0 55 (dk_at dksX3_writeApplicant_2 7 rfl rfl)
theorem dX3_writeApplicant_56 : decode cX3_writeApplicant 56 = .ok (.invokevirtual 210, 3) := dk_182 0 210 (dk_at dksX3_writeApplicant_2 10 rfl rfl)
theorem dX3_writeApplicant_59 : decode cX3_writeApplicant 59 = .ok (.aload_n 0, 1) := dk_42 (dk_at dksX3_writeApplicant_2 13 rfl rfl)
theorem dX3_writeApplicant_60 : decode cX3_writeApplicant 60 = .ok (.bipush 47, 2) := dk_16 47 (dk_at dksX3_writeApplicant_2 14 rfl rfl)
theorem dX3_writeApplicant_62 : decode cX3_writeApplicant 62 = .ok (.invokevirtual 213, 3) := dk_182 0 213 (dk_at dksX3_writeApplicant_2 16 rfl rfl)
theorem dX3_writeApplicant_65 : decode cX3_writeApplicant 65 = .ok (.aload_n 0, 1) := dk_42 (dk_at dksX3_writeApplicant_2 19 rfl rfl)
theorem dX3_writeApplicant_66 : decode cX3_writeApplicant 66 = .ok (.aload_n 0, 1) := dk_42 (dk_at dksX3_writeApplicant_2 20 rfl rfl)
theorem dX3_writeApplicant_67 : decode cX3_writeApplicant 67 = .ok (.iload_n 2, 1) := dk_28 (dk_at dksX3_writeApplicant_2 21 rfl rfl)
theorem dX3_writeApplicant_68 : decode cX3_writeApplicant 68 = .ok (.iconst 3, 1) := dk_6 (dk_at dksX3_writeApplicant_2 22 rfl rfl)
theorem dX3_writeApplicant_69 : decode cX3_writeApplicant 69 = .ok (.invokevirtual 55, 3) := dk_182 0 55 (dk_at dksX3_writeApplicant_3 0 rfl rfl)
theorem dX3_writeApplicant_72 : decode cX3_writeApplicant 72 = .ok (.invokevirtual 210, 3) := dk_182 0 210 (dk_at dksX3_writeApplicant_3 3 rfl rfl)
theorem dX3_writeApplicant_75 : decode cX3_writeApplicant 75 = .ok (.aload_n 0, 1) := dk_42 (dk_at dksX3_writeApplicant_3 6 rfl rfl)
theorem dX3_writeApplicant_76 : decode cX3_writeApplicant 76 = .ok (.iload_n 3, 1) := dk_29 (dk_at dksX3_writeApplicant_3 7 rfl rfl)
theorem dX3_writeApplicant_77 : decode cX3_writeApplicant 77 = .ok (.ifCond .le 7, 3) := dk_158 0 7 (dk_at dksX3_writeApplicant_3 8 rfl rfl)
theorem dX3_writeApplicant_80 : decode cX3_writeApplicant 80 = .ok (.iconst 1, 1) := dk_4 (dk_at dksX3_writeApplicant_3 11 rfl rfl)
theorem dX3_writeApplicant_81 : decode cX3_writeApplicant 81 = .ok (.goto 4, 3) := dk_167 0 4 (dk_at dksX3_writeApplicant_3 12 rfl rfl)
theorem dX3_writeApplicant_84 : decode cX3_writeApplicant 84 = .ok (.iconst 0, 1) := dk_3 (dk_at dksX3_writeApplicant_3 15 rfl rfl)
theorem dX3_writeApplicant_85 : decode cX3_writeApplicant 85 = .ok (.bipush 43, 2) := dk_16 43 (dk_at dksX3_writeApplicant_3 16 rfl rfl)
theorem dX3_writeApplicant_87 : decode cX3_writeApplicant 87 = .ok (.iload_n 3, 1) := dk_29 (dk_at dksX3_writeApplicant_3 18 rfl rfl)
theorem dX3_writeApplicant_88 : decode cX3_writeApplicant 88 = .ok (.invokevirtual 216, 3) := dk_182 0 216 (dk_at dksX3_writeApplicant_3 19 rfl rfl)
theorem dX3_writeApplicant_91 : decode cX3_writeApplicant 91 = .ok (.aload_n 0, 1) := dk_42 (dk_at dksX3_writeApplicant_3 22 rfl rfl)
theorem dX3_writeApplicant_92 : decode cX3_writeApplicant 92 = .ok (.aload_n 0, 1) := dk_42 (dk_at dksX3_writeApplicant_3 23 rfl rfl)
theorem dX3_writeApplicant_93 : decode cX3_writeApplicant 93 = .ok (.iload_n 2, 1) := dk_28 (dk_at dksX3_writeApplicant_4 0 rfl rfl)
theorem dX3_writeApplicant_94 : decode cX3_writeApplicant 94 = .ok (.iconst 4, 1) := dk_7 (dk_at dksX3_writeApplicant_4 1 rfl rfl)
theorem dX3_writeApplicant_95 : decode cX3_writeApplicant 95 = .ok (.invokevirtual 55, 3) := dk_182 0 55 (dk_at dksX3_writeApplicant_4 2 rfl rfl)
theorem dX3_writeApplicant_98 : decode cX3_writeApplicant 98 = .ok (.ifCond .le 7, 3) := dk_158 0 7 (dk_at dksX3_writeApplicant_4 5 rfl rfl)
theorem dX3_writeApplicant_101 : decode cX3_writeApplicant 101 = .ok (.iconst 1, 1) := dk_4 (dk_at dksX3_writeApplicant_4 8 rfl rfl)
theorem dX3_writeApplicant_102 : decode cX3_writeApplicant 102 = .ok (.goto 4, 3) := dk_167 0 4 (dk_at dksX3_writeApplicant_4 9 rfl rfl)
theorem dX3_writeApplicant_105 : decode cX3_writeApplicant 105 = .ok (.iconst 0, 1) := dk_3 (dk_at dksX3_writeApplicant_4 12 rfl rfl)
theorem dX3_writeApplicant_106 : decode cX3_writeApplicant 106 = .ok (.bipush 36, 2) := dk_16 36 (dk_at dksX3_writeApplicant_4 13 rfl rfl)
theorem dX3_writeApplicant_108 : decode cX3_writeApplicant 108 = .ok (.aload_n 0, 1) := dk_42 (dk_at dksX3_writeApplicant_4 15 rfl rfl)
theorem dX3_writeApplicant_109 : decode cX3_writeApplicant 109 = .ok (.iload_n 2, 1) := dk_28 (dk_at dksX3_writeApplicant_4 16 rfl rfl)
theorem dX3_writeApplicant_110 : decode cX3_writeApplicant 110 = .ok (.iconst 4, 1) := dk_7 (dk_at dksX3_writeApplicant_4 17 rfl rfl)
theorem dX3_writeApplicant_111 : decode cX3_writeApplicant 111 = .ok (.invokevirtual 55, 3) := dk_182 0 55 (dk_at dksX3_writeApplicant_4 18 rfl rfl)
theorem dX3_writeApplicant_114 : decode cX3_writeApplicant 114 = .ok (.invokevirtual 216, 3) := dk_182 0 216 (dk_at dksX3_writeApplicant_4 21 rfl rfl)
theorem dX3_writeApplicant_117 : decode cX3_writeApplicant 117 = .ok (.aload_n 0, 1) := dk_42 (dk_at dksX3_writeApplicant_5 0 rfl rfl)
theorem dX3_writeApplicant_118 : decode cX3_writeApplicant 118 = .ok (.aload_n 0, 1) := dk_42 (dk_at dksX3_writeApplicant_5 1 rfl rfl)
theorem dX3_writeApplicant_119 : decode cX3_writeApplicant 119 = .ok (.iload_n 2, 1) := dk_28 (dk_at dksX3_writeApplicant_5 2 rfl rfl)
theorem dX3_writeApplicant_120 : decode cX3_writeApplicant 120 = .ok (.invokevirtual 66, 3) := dk_182 0 66 (dk_at dksX3_writeApplicant_5 3 rfl rfl)
theorem dX3_writeApplicant_123 : decode cX3_writeApplicant 123 = .ok (.ifCond .lt 7, 3) := dk_155 0 7 (dk_at dksX3_writeApplicant_5 6 rfl rfl)
theorem dX3_writeApplicant_126 : decode cX3_writeApplicant 126 = .ok (.iconst 1, 1) := dk_4 (dk_at dksX3_writeApplicant_5 9 rfl rfl)
theorem dX3_writeApplicant_127 : decode cX3_writeApplicant 127 = .ok (.goto 4, 3) := dk_167 0 4 (dk_at dksX3_writeApplicant_5 10 rfl rfl)
theorem dX3_writeApplicant_130 : decode cX3_writeApplicant 130 = .ok (.iconst 0, 1) := dk_3 (dk_at dksX3_writeApplicant_5 13 rfl rfl)
theorem dX3_writeApplicant_131 : decode cX3_writeApplicant 131 = .ok (.bipush 64, 2) := dk_16 64 (dk_at dksX3_writeApplicant_5 14 rfl rfl)
theorem dX3_writeApplicant_133 : decode cX3_writeApplicant 133 = .ok (.aload_n 0, 1) := dk_42 (dk_at dksX3_writeApplicant_5 16 rfl rfl)
theorem dX3_writeApplicant_134 : decode cX3_writeApplicant 134 = .ok (.iload_n 2, 1) := dk_28 (dk_at dksX3_writeApplicant_5 17 rfl rfl)
theorem dX3_writeApplicant_135 : decode cX3_writeApplicant 135 = .ok (.invokevirtual 66, 3) := dk_182 0 66 (dk_at dksX3_writeApplicant_5 18 rfl rfl)
theorem dX3_writeApplicant_138 : decode cX3_writeApplicant 138 = .ok (.invokevirtual 216, 3) := dk_182 0 216 (dk_at dksX3_writeApplicant_5 21 rfl rfl)
theorem dX3_writeApplicant_141 : decode cX3_writeApplicant 141 = .ok (.aload_n 0, 1) := dk_42 (dk_at dksX3_writeApplicant_6 0 rfl rfl)
theorem dX3_writeApplicant_142 : decode cX3_writeApplicant 142 = .ok (.getfield 207, 3) := dk_180 0 207 (dk_at dksX3_writeApplicant_6 1 rfl rfl)
theorem dX3_writeApplicant_145 : decode cX3_writeApplicant 145 = .ok (.ireturn, 1) := dk_172 (dk_at dksX3_writeApplicant_6 4 rfl rfl)
abbrev cX3_says : ByteArray := prog_10_method_93_code
def yX3_says : MethodName := ⟨RX3, "says", "(I)V"⟩
def dkwX3_says_0 : List UInt8 := [42, 180, 0, 22, 42, 180, 0, 207, 27, 146, 85, 42, 89, 180, 0, 207, 4, 96, 181, 0, 207, 177]
abbrev dktX3_says_0 : List UInt8 := dkwX3_says_0 ++ []
theorem dksX3_says_0 : cX3_says.data.toList.drop 0 = dktX3_says_0 := by decide +kernel
theorem dX3_says_0 : decode cX3_says 0 = .ok (.aload_n 0, 1) := dk_42 (dk_at dksX3_says_0 0 rfl rfl)
theorem dX3_says_1 : decode cX3_says 1 = .ok (.getfield 22, 3) := dk_180 0 22 (dk_at dksX3_says_0 1 rfl rfl)
theorem dX3_says_4 : decode cX3_says 4 = .ok (.aload_n 0, 1) := dk_42 (dk_at dksX3_says_0 4 rfl rfl)
theorem dX3_says_5 : decode cX3_says 5 = .ok (.getfield 207, 3) := dk_180 0 207 (dk_at dksX3_says_0 5 rfl rfl)
theorem dX3_says_8 : decode cX3_says 8 = .ok (.iload_n 1, 1) := dk_27 (dk_at dksX3_says_0 8 rfl rfl)
theorem dX3_says_9 : decode cX3_says 9 = .ok (.i2c, 1) := dk_146 (dk_at dksX3_says_0 9 rfl rfl)
theorem dX3_says_10 : decode cX3_says 10 = .ok (.castore, 1) := dk_85 (dk_at dksX3_says_0 10 rfl rfl)
theorem dX3_says_11 : decode cX3_says 11 = .ok (.aload_n 0, 1) := dk_42 (dk_at dksX3_says_0 11 rfl rfl)
theorem dX3_says_12 : decode cX3_says 12 = .ok (.dup, 1) := dk_89 (dk_at dksX3_says_0 12 rfl rfl)
theorem dX3_says_13 : decode cX3_says 13 = .ok (.getfield 207, 3) := dk_180 0 207 (dk_at dksX3_says_0 13 rfl rfl)
theorem dX3_says_16 : decode cX3_says 16 = .ok (.iconst 1, 1) := dk_4 (dk_at dksX3_says_0 16 rfl rfl)
theorem dX3_says_17 : decode cX3_says 17 = .ok (.iadd, 1) := dk_96 (dk_at dksX3_says_0 17 rfl rfl)
theorem dX3_says_18 : decode cX3_says 18 = .ok (.putfield 207, 3) := dk_181 0 207 (dk_at dksX3_says_0 18 rfl rfl)
theorem dX3_says_21 : decode cX3_says 21 = .ok (.return_, 1) := dk_177 (dk_at dksX3_says_0 21 rfl rfl)
abbrev cX3_saysNumber : ByteArray := prog_10_method_94_code
def yX3_saysNumber : MethodName := ⟨RX3, "saysNumber", "(I)V"⟩
def dkwX3_saysNumber_1 : List UInt8 := [182, 0, 213, 177]
abbrev dktX3_saysNumber_1 : List UInt8 := dkwX3_saysNumber_1 ++ []
def dkwX3_saysNumber_0 : List UInt8 := [27, 16, 9, 164, 0, 11, 42, 27, 16, 10, 108, 182, 0, 210, 42, 16, 48, 27, 16, 10, 112, 96]
abbrev dktX3_saysNumber_0 : List UInt8 := dkwX3_saysNumber_0 ++ dktX3_saysNumber_1
theorem dksX3_saysNumber_0 : cX3_saysNumber.data.toList.drop 0 = dktX3_saysNumber_0 := by decide +kernel
theorem dksX3_saysNumber_1 : cX3_saysNumber.data.toList.drop 22 = dktX3_saysNumber_1 := dk_seg dksX3_saysNumber_0 22 rfl rfl
theorem dX3_saysNumber_0 : decode cX3_saysNumber 0 = .ok (.iload_n 1, 1) := dk_27 (dk_at dksX3_saysNumber_0 0 rfl rfl)
theorem dX3_saysNumber_1 : decode cX3_saysNumber 1 = .ok (.bipush 9, 2) := dk_16 9 (dk_at dksX3_saysNumber_0 1 rfl rfl)
theorem dX3_saysNumber_3 : decode cX3_saysNumber 3 = .ok (.if_icmp .le 11, 3) := dk_164 0 11 (dk_at dksX3_saysNumber_0 3 rfl rfl)
theorem dX3_saysNumber_6 : decode cX3_saysNumber 6 = .ok (.aload_n 0, 1) := dk_42 (dk_at dksX3_saysNumber_0 6 rfl rfl)
theorem dX3_saysNumber_7 : decode cX3_saysNumber 7 = .ok (.iload_n 1, 1) := dk_27 (dk_at dksX3_saysNumber_0 7 rfl rfl)
theorem dX3_saysNumber_8 : decode cX3_saysNumber 8 = .ok (.bipush 10, 2) := dk_16 10 (dk_at dksX3_saysNumber_0 8 rfl rfl)
theorem dX3_saysNumber_10 : decode cX3_saysNumber 10 = .ok (.idiv, 1) := dk_108 (dk_at dksX3_saysNumber_0 10 rfl rfl)
theorem dX3_saysNumber_11 : decode cX3_saysNumber 11 = .ok (.invokevirtual 210, 3) := dk_182 0 210 (dk_at dksX3_saysNumber_0 11 rfl rfl)
theorem dX3_saysNumber_14 : decode cX3_saysNumber 14 = .ok (.aload_n 0, 1) := dk_42 (dk_at dksX3_saysNumber_0 14 rfl rfl)
theorem dX3_saysNumber_15 : decode cX3_saysNumber 15 = .ok (.bipush 48, 2) := dk_16 48 (dk_at dksX3_saysNumber_0 15 rfl rfl)
theorem dX3_saysNumber_17 : decode cX3_saysNumber 17 = .ok (.iload_n 1, 1) := dk_27 (dk_at dksX3_saysNumber_0 17 rfl rfl)
theorem dX3_saysNumber_18 : decode cX3_saysNumber 18 = .ok (.bipush 10, 2) := dk_16 10 (dk_at dksX3_saysNumber_0 18 rfl rfl)
theorem dX3_saysNumber_20 : decode cX3_saysNumber 20 = .ok (.irem, 1) := dk_112 (dk_at dksX3_saysNumber_0 20 rfl rfl)
theorem dX3_saysNumber_21 : decode cX3_saysNumber 21 = .ok (.iadd, 1) := dk_96 (dk_at dksX3_saysNumber_0 21 rfl rfl)
theorem dX3_saysNumber_22 : decode cX3_saysNumber 22 = .ok (.invokevirtual 213, 3) := dk_182 0 213 (dk_at dksX3_saysNumber_1 0 rfl rfl)
theorem dX3_saysNumber_25 : decode cX3_saysNumber 25 = .ok (.return_, 1) := dk_177 (dk_at dksX3_saysNumber_1 3 rfl rfl)
abbrev cX3_saysIf : ByteArray := prog_10_method_95_code
def yX3_saysIf : MethodName := ⟨RX3, "saysIf", "(ZCI)V"⟩
def dkwX3_saysIf_0 : List UInt8 := [27, 153, 0, 13, 42, 28, 182, 0, 213, 42, 29, 182, 0, 210, 177]
abbrev dktX3_saysIf_0 : List UInt8 := dkwX3_saysIf_0 ++ []
theorem dksX3_saysIf_0 : cX3_saysIf.data.toList.drop 0 = dktX3_saysIf_0 := by decide +kernel
theorem dX3_saysIf_0 : decode cX3_saysIf 0 = .ok (.iload_n 1, 1) := dk_27 (dk_at dksX3_saysIf_0 0 rfl rfl)
theorem dX3_saysIf_1 : decode cX3_saysIf 1 = .ok (.ifCond .eq 13, 3) := dk_153 0 13 (dk_at dksX3_saysIf_0 1 rfl rfl)
theorem dX3_saysIf_4 : decode cX3_saysIf 4 = .ok (.aload_n 0, 1) := dk_42 (dk_at dksX3_saysIf_0 4 rfl rfl)
theorem dX3_saysIf_5 : decode cX3_saysIf 5 = .ok (.iload_n 2, 1) := dk_28 (dk_at dksX3_saysIf_0 5 rfl rfl)
theorem dX3_saysIf_6 : decode cX3_saysIf 6 = .ok (.invokevirtual 213, 3) := dk_182 0 213 (dk_at dksX3_saysIf_0 6 rfl rfl)
theorem dX3_saysIf_9 : decode cX3_saysIf 9 = .ok (.aload_n 0, 1) := dk_42 (dk_at dksX3_saysIf_0 9 rfl rfl)
theorem dX3_saysIf_10 : decode cX3_saysIf 10 = .ok (.iload_n 3, 1) := dk_29 (dk_at dksX3_saysIf_0 10 rfl rfl)
theorem dX3_saysIf_11 : decode cX3_saysIf 11 = .ok (.invokevirtual 210, 3) := dk_182 0 210 (dk_at dksX3_saysIf_0 11 rfl rfl)
theorem dX3_saysIf_14 : decode cX3_saysIf 14 = .ok (.return_, 1) := dk_177 (dk_at dksX3_saysIf_0 14 rfl rfl)
abbrev cX3_writePosts : ByteArray := prog_10_method_97_code
def yX3_writePosts : MethodName := ⟨RX3, "writePosts", "()I"⟩
def dkwX3_writePosts_3 : List UInt8 := [180, 0, 207, 172]
abbrev dktX3_writePosts_3 : List UInt8 := dkwX3_writePosts_3 ++ []
def dkwX3_writePosts_2 : List UInt8 := [182, 0, 213, 167, 0, 12, 42, 42, 28, 182, 0, 76, 182, 0, 210, 132, 1, 1, 167, 255, 202, 42]
abbrev dktX3_writePosts_2 : List UInt8 := dkwX3_writePosts_2 ++ dktX3_writePosts_3
def dkwX3_writePosts_1 : List UInt8 := [7, 182, 0, 59, 4, 100, 61, 27, 158, 0, 9, 42, 16, 32, 182, 0, 213, 28, 156, 0, 12, 42, 16, 45]
abbrev dktX3_writePosts_1 : List UInt8 := dkwX3_writePosts_1 ++ dktX3_writePosts_2
def dkwX3_writePosts_0 : List UInt8 := [42, 3, 181, 0, 39, 42, 3, 181, 0, 207, 3, 60, 27, 42, 180, 0, 9, 5, 46, 162, 0, 50, 42, 27]
abbrev dktX3_writePosts_0 : List UInt8 := dkwX3_writePosts_0 ++ dktX3_writePosts_1
theorem dksX3_writePosts_0 : cX3_writePosts.data.toList.drop 0 = dktX3_writePosts_0 := by decide +kernel
theorem dksX3_writePosts_1 : cX3_writePosts.data.toList.drop 24 = dktX3_writePosts_1 := dk_seg dksX3_writePosts_0 24 rfl rfl
theorem dksX3_writePosts_2 : cX3_writePosts.data.toList.drop 48 = dktX3_writePosts_2 := dk_seg dksX3_writePosts_1 24 rfl rfl
theorem dksX3_writePosts_3 : cX3_writePosts.data.toList.drop 70 = dktX3_writePosts_3 := dk_seg dksX3_writePosts_2 22 rfl rfl
theorem dX3_writePosts_0 : decode cX3_writePosts 0 = .ok (.aload_n 0, 1) := dk_42 (dk_at dksX3_writePosts_0 0 rfl rfl)
theorem dX3_writePosts_1 : decode cX3_writePosts 1 = .ok (.iconst 0, 1) := dk_3 (dk_at dksX3_writePosts_0 1 rfl rfl)
theorem dX3_writePosts_2 : decode cX3_writePosts 2 = .ok (.putfield 39, 3) := dk_181 0 39 (dk_at dksX3_writePosts_0 2 rfl rfl)
theorem dX3_writePosts_5 : decode cX3_writePosts 5 = .ok (.aload_n 0, 1) := dk_42 (dk_at dksX3_writePosts_0 5 rfl rfl)
theorem dX3_writePosts_6 : decode cX3_writePosts 6 = .ok (.iconst 0, 1) := dk_3 (dk_at dksX3_writePosts_0 6 rfl rfl)
theorem dX3_writePosts_7 : decode cX3_writePosts 7 = .ok (.putfield 207, 3) := dk_181 0 207 (dk_at dksX3_writePosts_0 7 rfl rfl)
theorem dX3_writePosts_10 : decode cX3_writePosts 10 = .ok (.iconst 0, 1) := dk_3 (dk_at dksX3_writePosts_0 10 rfl rfl)
theorem dX3_writePosts_11 : decode cX3_writePosts 11 = .ok (.istore_n 1, 1) := dk_60 (dk_at dksX3_writePosts_0 11 rfl rfl)
theorem dX3_writePosts_12 : decode cX3_writePosts 12 = .ok (.iload_n 1, 1) := dk_27 (dk_at dksX3_writePosts_0 12 rfl rfl)
theorem dX3_writePosts_13 : decode cX3_writePosts 13 = .ok (.aload_n 0, 1) := dk_42 (dk_at dksX3_writePosts_0 13 rfl rfl)
theorem dX3_writePosts_14 : decode cX3_writePosts 14 = .ok (.getfield 9, 3) := dk_180 0 9 (dk_at dksX3_writePosts_0 14 rfl rfl)
theorem dX3_writePosts_17 : decode cX3_writePosts 17 = .ok (.iconst 2, 1) := dk_5 (dk_at dksX3_writePosts_0 17 rfl rfl)
theorem dX3_writePosts_18 : decode cX3_writePosts 18 = .ok (.iaload, 1) := dk_46 (dk_at dksX3_writePosts_0 18 rfl rfl)
theorem dX3_writePosts_19 : decode cX3_writePosts 19 = .ok (.if_icmp .ge 50, 3) := dk_162 0 50 (dk_at dksX3_writePosts_0 19 rfl rfl)
theorem dX3_writePosts_22 : decode cX3_writePosts 22 = .ok (.aload_n 0, 1) := dk_42 (dk_at dksX3_writePosts_0 22 rfl rfl)
theorem dX3_writePosts_23 : decode cX3_writePosts 23 = .ok (.iload_n 1, 1) := dk_27 (dk_at dksX3_writePosts_0 23 rfl rfl)
theorem dX3_writePosts_24 : decode cX3_writePosts 24 = .ok (.iconst 4, 1) := dk_7 (dk_at dksX3_writePosts_1 0 rfl rfl)
theorem dX3_writePosts_25 : decode cX3_writePosts 25 = .ok (.invokevirtual 59, 3) := dk_182 0 59 (dk_at dksX3_writePosts_1 1 rfl rfl)
theorem dX3_writePosts_28 : decode cX3_writePosts 28 = .ok (.iconst 1, 1) := dk_4 (dk_at dksX3_writePosts_1 4 rfl rfl)
theorem dX3_writePosts_29 : decode cX3_writePosts 29 = .ok (.isub, 1) := dk_100 (dk_at dksX3_writePosts_1 5 rfl rfl)
theorem dX3_writePosts_30 : decode cX3_writePosts 30 = .ok (.istore_n 2, 1) := dk_61 (dk_at dksX3_writePosts_1 6 rfl rfl)
theorem dX3_writePosts_31 : decode cX3_writePosts 31 = .ok (.iload_n 1, 1) := dk_27 (dk_at dksX3_writePosts_1 7 rfl rfl)
theorem dX3_writePosts_32 : decode cX3_writePosts 32 = .ok (.ifCond .le 9, 3) := dk_158 0 9 (dk_at dksX3_writePosts_1 8 rfl rfl)
theorem dX3_writePosts_35 : decode cX3_writePosts 35 = .ok (.aload_n 0, 1) := dk_42 (dk_at dksX3_writePosts_1 11 rfl rfl)
theorem dX3_writePosts_36 : decode cX3_writePosts 36 = .ok (.bipush 32, 2) := dk_16 32 (dk_at dksX3_writePosts_1 12 rfl rfl)
theorem dX3_writePosts_38 : decode cX3_writePosts 38 = .ok (.invokevirtual 213, 3) := dk_182 0 213 (dk_at dksX3_writePosts_1 14 rfl rfl)
theorem dX3_writePosts_41 : decode cX3_writePosts 41 = .ok (.iload_n 2, 1) := dk_28 (dk_at dksX3_writePosts_1 17 rfl rfl)
theorem dX3_writePosts_42 : decode cX3_writePosts 42 = .ok (.ifCond .ge 12, 3) := dk_156 0 12 (dk_at dksX3_writePosts_1 18 rfl rfl)
theorem dX3_writePosts_45 : decode cX3_writePosts 45 = .ok (.aload_n 0, 1) := dk_42 (dk_at dksX3_writePosts_1 21 rfl rfl)
theorem dX3_writePosts_46 : decode cX3_writePosts 46 = .ok (.bipush 45, 2) := dk_16 45 (dk_at dksX3_writePosts_1 22 rfl rfl)
theorem dX3_writePosts_48 : decode cX3_writePosts 48 = .ok (.invokevirtual 213, 3) := dk_182 0 213 (dk_at dksX3_writePosts_2 0 rfl rfl)
theorem dX3_writePosts_51 : decode cX3_writePosts 51 = .ok (.goto 12, 3) := dk_167 0 12 (dk_at dksX3_writePosts_2 3 rfl rfl)
theorem dX3_writePosts_54 : decode cX3_writePosts 54 = .ok (.aload_n 0, 1) := dk_42 (dk_at dksX3_writePosts_2 6 rfl rfl)
theorem dX3_writePosts_55 : decode cX3_writePosts 55 = .ok (.aload_n 0, 1) := dk_42 (dk_at dksX3_writePosts_2 7 rfl rfl)
theorem dX3_writePosts_56 : decode cX3_writePosts 56 = .ok (.iload_n 2, 1) := dk_28 (dk_at dksX3_writePosts_2 8 rfl rfl)
theorem dX3_writePosts_57 : decode cX3_writePosts 57 = .ok (.invokevirtual 76, 3) := dk_182 0 76 (dk_at dksX3_writePosts_2 9 rfl rfl)
theorem dX3_writePosts_60 : decode cX3_writePosts 60 = .ok (.invokevirtual 210, 3) := dk_182 0 210 (dk_at dksX3_writePosts_2 12 rfl rfl)
theorem dX3_writePosts_63 : decode cX3_writePosts 63 = .ok (.iinc 1 1, 3) := dk_132 1 1 (dk_at dksX3_writePosts_2 15 rfl rfl)
theorem dX3_writePosts_66 : decode cX3_writePosts 66 = .ok (.goto (-54), 3) := dk_167 255 202 (dk_at dksX3_writePosts_2 18 rfl rfl)
theorem dX3_writePosts_69 : decode cX3_writePosts 69 = .ok (.aload_n 0, 1) := dk_42 (dk_at dksX3_writePosts_2 21 rfl rfl)
theorem dX3_writePosts_70 : decode cX3_writePosts 70 = .ok (.getfield 207, 3) := dk_180 0 207 (dk_at dksX3_writePosts_3 0 rfl rfl)
theorem dX3_writePosts_73 : decode cX3_writePosts 73 = .ok (.ireturn, 1) := dk_172 (dk_at dksX3_writePosts_3 3 rfl rfl)
abbrev cX3_outputCharacter : ByteArray := prog_10_method_98_code
def yX3_outputCharacter : MethodName := ⟨RX3, "outputCharacter", "(I)C"⟩
def dkwX3_outputCharacter_1 : List UInt8 := [167, 0, 5, 16, 32, 172]
abbrev dktX3_outputCharacter_1 : List UInt8 := dkwX3_outputCharacter_1 ++ []
def dkwX3_outputCharacter_0 : List UInt8 := [42, 27, 3, 42, 180, 0, 207, 4, 100, 184, 0, 51, 182, 0, 119, 153, 0, 12, 42, 180, 0, 22, 27, 52]
abbrev dktX3_outputCharacter_0 : List UInt8 := dkwX3_outputCharacter_0 ++ dktX3_outputCharacter_1
theorem dksX3_outputCharacter_0 : cX3_outputCharacter.data.toList.drop 0 = dktX3_outputCharacter_0 := by decide +kernel
theorem dksX3_outputCharacter_1 : cX3_outputCharacter.data.toList.drop 24 = dktX3_outputCharacter_1 := dk_seg dksX3_outputCharacter_0 24 rfl rfl
theorem dX3_outputCharacter_0 : decode cX3_outputCharacter 0 = .ok (.aload_n 0, 1) := dk_42 (dk_at dksX3_outputCharacter_0 0 rfl rfl)
theorem dX3_outputCharacter_1 : decode cX3_outputCharacter 1 = .ok (.iload_n 1, 1) := dk_27 (dk_at dksX3_outputCharacter_0 1 rfl rfl)
theorem dX3_outputCharacter_2 : decode cX3_outputCharacter 2 = .ok (.iconst 0, 1) := dk_3 (dk_at dksX3_outputCharacter_0 2 rfl rfl)
theorem dX3_outputCharacter_3 : decode cX3_outputCharacter 3 = .ok (.aload_n 0, 1) := dk_42 (dk_at dksX3_outputCharacter_0 3 rfl rfl)
theorem dX3_outputCharacter_4 : decode cX3_outputCharacter 4 = .ok (.getfield 207, 3) := dk_180 0 207 (dk_at dksX3_outputCharacter_0 4 rfl rfl)
theorem dX3_outputCharacter_7 : decode cX3_outputCharacter 7 = .ok (.iconst 1, 1) := dk_4 (dk_at dksX3_outputCharacter_0 7 rfl rfl)
theorem dX3_outputCharacter_8 : decode cX3_outputCharacter 8 = .ok (.isub, 1) := dk_100 (dk_at dksX3_outputCharacter_0 8 rfl rfl)
theorem dX3_outputCharacter_9 : decode cX3_outputCharacter 9 = .ok (.invokestatic 51, 3) := dk_184 0 51 (dk_at dksX3_outputCharacter_0 9 rfl rfl)
theorem dX3_outputCharacter_12 : decode cX3_outputCharacter 12 = .ok (.invokevirtual 119, 3) := dk_182 0 119 (dk_at dksX3_outputCharacter_0 12 rfl rfl)
theorem dX3_outputCharacter_15 : decode cX3_outputCharacter 15 = .ok (.ifCond .eq 12, 3) := dk_153 0 12 (dk_at dksX3_outputCharacter_0 15 rfl rfl)
theorem dX3_outputCharacter_18 : decode cX3_outputCharacter 18 = .ok (.aload_n 0, 1) := dk_42 (dk_at dksX3_outputCharacter_0 18 rfl rfl)
theorem dX3_outputCharacter_19 : decode cX3_outputCharacter 19 = .ok (.getfield 22, 3) := dk_180 0 22 (dk_at dksX3_outputCharacter_0 19 rfl rfl)
theorem dX3_outputCharacter_22 : decode cX3_outputCharacter 22 = .ok (.iload_n 1, 1) := dk_27 (dk_at dksX3_outputCharacter_0 22 rfl rfl)
theorem dX3_outputCharacter_23 : decode cX3_outputCharacter 23 = .ok (.caload, 1) := dk_52 (dk_at dksX3_outputCharacter_0 23 rfl rfl)
theorem dX3_outputCharacter_24 : decode cX3_outputCharacter 24 = .ok (.goto 5, 3) := dk_167 0 5 (dk_at dksX3_outputCharacter_1 0 rfl rfl)
theorem dX3_outputCharacter_27 : decode cX3_outputCharacter 27 = .ok (.bipush 32, 2) := dk_16 32 (dk_at dksX3_outputCharacter_1 3 rfl rfl)
theorem dX3_outputCharacter_29 : decode cX3_outputCharacter 29 = .ok (.ireturn, 1) := dk_172 (dk_at dksX3_outputCharacter_1 5 rfl rfl)
abbrev cX3_feed : ByteArray := prog_10_method_99_code
def yX3_feed : MethodName := ⟨RX3, "feed", "(C)I"⟩
def dkwX3_feed_2 : List UInt8 := [181, 0, 220, 42, 180, 0, 220, 172]
abbrev dktX3_feed_2 : List UInt8 := dkwX3_feed_2 ++ []
def dkwX3_feed_1 : List UInt8 := [158, 0, 5, 3, 172, 42, 180, 0, 26, 42, 180, 0, 220, 27, 85, 42, 89, 180, 0, 220, 4, 96]
abbrev dktX3_feed_1 : List UInt8 := dkwX3_feed_1 ++ dktX3_feed_2
def dkwX3_feed_0 : List UInt8 := [42, 42, 180, 0, 220, 16, 60, 160, 0, 7, 4, 167, 0, 4, 3, 181, 0, 39, 42, 180, 0, 39]
abbrev dktX3_feed_0 : List UInt8 := dkwX3_feed_0 ++ dktX3_feed_1
theorem dksX3_feed_0 : cX3_feed.data.toList.drop 0 = dktX3_feed_0 := by decide +kernel
theorem dksX3_feed_1 : cX3_feed.data.toList.drop 22 = dktX3_feed_1 := dk_seg dksX3_feed_0 22 rfl rfl
theorem dksX3_feed_2 : cX3_feed.data.toList.drop 44 = dktX3_feed_2 := dk_seg dksX3_feed_1 22 rfl rfl
theorem dX3_feed_0 : decode cX3_feed 0 = .ok (.aload_n 0, 1) := dk_42 (dk_at dksX3_feed_0 0 rfl rfl)
theorem dX3_feed_1 : decode cX3_feed 1 = .ok (.aload_n 0, 1) := dk_42 (dk_at dksX3_feed_0 1 rfl rfl)
theorem dX3_feed_2 : decode cX3_feed 2 = .ok (.getfield 220, 3) := dk_180 0 220 (dk_at dksX3_feed_0 2 rfl rfl)
theorem dX3_feed_5 : decode cX3_feed 5 = .ok (.bipush 60, 2) := dk_16 60 (dk_at dksX3_feed_0 5 rfl rfl)
theorem dX3_feed_7 : decode cX3_feed 7 = .ok (.if_icmp .ne 7, 3) := dk_160 0 7 (dk_at dksX3_feed_0 7 rfl rfl)
theorem dX3_feed_10 : decode cX3_feed 10 = .ok (.iconst 1, 1) := dk_4 (dk_at dksX3_feed_0 10 rfl rfl)
theorem dX3_feed_11 : decode cX3_feed 11 = .ok (.goto 4, 3) := dk_167 0 4 (dk_at dksX3_feed_0 11 rfl rfl)
theorem dX3_feed_14 : decode cX3_feed 14 = .ok (.iconst 0, 1) := dk_3 (dk_at dksX3_feed_0 14 rfl rfl)
theorem dX3_feed_15 : decode cX3_feed 15 = .ok (.putfield 39, 3) := dk_181 0 39 (dk_at dksX3_feed_0 15 rfl rfl)
theorem dX3_feed_18 : decode cX3_feed 18 = .ok (.aload_n 0, 1) := dk_42 (dk_at dksX3_feed_0 18 rfl rfl)
theorem dX3_feed_19 : decode cX3_feed 19 = .ok (.getfield 39, 3) := dk_180 0 39 (dk_at dksX3_feed_0 19 rfl rfl)
theorem dX3_feed_22 : decode cX3_feed 22 = .ok (.ifCond .le 5, 3) := dk_158 0 5 (dk_at dksX3_feed_1 0 rfl rfl)
theorem dX3_feed_25 : decode cX3_feed 25 = .ok (.iconst 0, 1) := dk_3 (dk_at dksX3_feed_1 3 rfl rfl)
theorem dX3_feed_26 : decode cX3_feed 26 = .ok (.ireturn, 1) := dk_172 (dk_at dksX3_feed_1 4 rfl rfl)
theorem dX3_feed_27 : decode cX3_feed 27 = .ok (.aload_n 0, 1) := dk_42 (dk_at dksX3_feed_1 5 rfl rfl)
theorem dX3_feed_28 : decode cX3_feed 28 = .ok (.getfield 26, 3) := dk_180 0 26 (dk_at dksX3_feed_1 6 rfl rfl)
theorem dX3_feed_31 : decode cX3_feed 31 = .ok (.aload_n 0, 1) := dk_42 (dk_at dksX3_feed_1 9 rfl rfl)
theorem dX3_feed_32 : decode cX3_feed 32 = .ok (.getfield 220, 3) := dk_180 0 220 (dk_at dksX3_feed_1 10 rfl rfl)
theorem dX3_feed_35 : decode cX3_feed 35 = .ok (.iload_n 1, 1) := dk_27 (dk_at dksX3_feed_1 13 rfl rfl)
theorem dX3_feed_36 : decode cX3_feed 36 = .ok (.castore, 1) := dk_85 (dk_at dksX3_feed_1 14 rfl rfl)
theorem dX3_feed_37 : decode cX3_feed 37 = .ok (.aload_n 0, 1) := dk_42 (dk_at dksX3_feed_1 15 rfl rfl)
theorem dX3_feed_38 : decode cX3_feed 38 = .ok (.dup, 1) := dk_89 (dk_at dksX3_feed_1 16 rfl rfl)
theorem dX3_feed_39 : decode cX3_feed 39 = .ok (.getfield 220, 3) := dk_180 0 220 (dk_at dksX3_feed_1 17 rfl rfl)
theorem dX3_feed_42 : decode cX3_feed 42 = .ok (.iconst 1, 1) := dk_4 (dk_at dksX3_feed_1 20 rfl rfl)
theorem dX3_feed_43 : decode cX3_feed 43 = .ok (.iadd, 1) := dk_96 (dk_at dksX3_feed_1 21 rfl rfl)
theorem dX3_feed_44 : decode cX3_feed 44 = .ok (.putfield 220, 3) := dk_181 0 220 (dk_at dksX3_feed_2 0 rfl rfl)
theorem dX3_feed_47 : decode cX3_feed 47 = .ok (.aload_n 0, 1) := dk_42 (dk_at dksX3_feed_2 3 rfl rfl)
theorem dX3_feed_48 : decode cX3_feed 48 = .ok (.getfield 220, 3) := dk_180 0 220 (dk_at dksX3_feed_2 4 rfl rfl)
theorem dX3_feed_51 : decode cX3_feed 51 = .ok (.ireturn, 1) := dk_172 (dk_at dksX3_feed_2 7 rfl rfl)
abbrev cX3_execute : ByteArray := prog_10_method_107_code
def yX3_execute : MethodName := ⟨RX3, "execute", "()I"⟩
def dkwX3_execute_7 : List UInt8 := [167, 255, 218, 42, 42, 180, 0, 245, 182, 0, 100, 172]
abbrev dktX3_execute_7 : List UInt8 := dkwX3_execute_7 ++ []
def dkwX3_execute_6 : List UInt8 := [180, 0, 39, 158, 0, 18, 42, 27, 181, 0, 33, 42, 42, 5, 182, 0, 82, 182, 0, 100, 172, 132, 1, 1]
abbrev dktX3_execute_6 : List UInt8 := dkwX3_execute_6 ++ dktX3_execute_7
def dkwX3_execute_5 : List UInt8 := [182, 0, 82, 172, 42, 182, 0, 93, 3, 60, 27, 42, 180, 0, 245, 162, 0, 36, 42, 27, 182, 1, 32, 42]
abbrev dktX3_execute_5 : List UInt8 := dkwX3_execute_5 ++ dktX3_execute_6
def dkwX3_execute_4 : List UInt8 := [167, 0, 7, 42, 180, 0, 29, 181, 0, 29, 42, 3, 181, 0, 220, 42, 180, 0, 230, 153, 0, 9, 42, 4]
abbrev dktX3_execute_4 : List UInt8 := dkwX3_execute_4 ++ dktX3_execute_5
def dkwX3_execute_3 : List UInt8 := [162, 0, 7, 4, 167, 0, 4, 3, 181, 0, 230, 42, 42, 180, 0, 230, 153, 0, 10, 42, 180, 0, 223]
abbrev dktX3_execute_3 : List UInt8 := dkwX3_execute_3 ++ dktX3_execute_4
def dkwX3_execute_2 : List UInt8 := [182, 1, 29, 167, 255, 225, 42, 42, 180, 0, 230, 154, 0, 14, 42, 180, 0, 223, 42, 180, 0, 220]
abbrev dktX3_execute_2 : List UInt8 := dkwX3_execute_2 ++ dktX3_execute_3
def dkwX3_execute_1 : List UInt8 := [154, 0, 30, 42, 3, 182, 0, 234, 16, 59, 160, 0, 20, 42, 89, 180, 0, 223, 4, 96, 181, 0, 223, 42]
abbrev dktX3_execute_1 : List UInt8 := dkwX3_execute_1 ++ dktX3_execute_2
def dkwX3_execute_0 : List UInt8 := [42, 3, 181, 0, 223, 42, 3, 181, 0, 230, 42, 3, 181, 0, 245, 42, 182, 1, 29, 42, 180, 0, 230]
abbrev dktX3_execute_0 : List UInt8 := dkwX3_execute_0 ++ dktX3_execute_1
theorem dksX3_execute_0 : cX3_execute.data.toList.drop 0 = dktX3_execute_0 := by decide +kernel
theorem dksX3_execute_1 : cX3_execute.data.toList.drop 23 = dktX3_execute_1 := dk_seg dksX3_execute_0 23 rfl rfl
theorem dksX3_execute_2 : cX3_execute.data.toList.drop 47 = dktX3_execute_2 := dk_seg dksX3_execute_1 24 rfl rfl
theorem dksX3_execute_3 : cX3_execute.data.toList.drop 69 = dktX3_execute_3 := dk_seg dksX3_execute_2 22 rfl rfl
theorem dksX3_execute_4 : cX3_execute.data.toList.drop 92 = dktX3_execute_4 := dk_seg dksX3_execute_3 23 rfl rfl
theorem dksX3_execute_5 : cX3_execute.data.toList.drop 116 = dktX3_execute_5 := dk_seg dksX3_execute_4 24 rfl rfl
theorem dksX3_execute_6 : cX3_execute.data.toList.drop 140 = dktX3_execute_6 := dk_seg dksX3_execute_5 24 rfl rfl
theorem dksX3_execute_7 : cX3_execute.data.toList.drop 164 = dktX3_execute_7 := dk_seg dksX3_execute_6 24 rfl rfl
theorem dX3_execute_0 : decode cX3_execute 0 = .ok (.aload_n 0, 1) := dk_42 (dk_at dksX3_execute_0 0 rfl rfl)
theorem dX3_execute_1 : decode cX3_execute 1 = .ok (.iconst 0, 1) := dk_3 (dk_at dksX3_execute_0 1 rfl rfl)
theorem dX3_execute_2 : decode cX3_execute 2 = .ok (.putfield 223, 3) := dk_181 0 223 (dk_at dksX3_execute_0 2 rfl rfl)
theorem dX3_execute_5 : decode cX3_execute 5 = .ok (.aload_n 0, 1) := dk_42 (dk_at dksX3_execute_0 5 rfl rfl)
theorem dX3_execute_6 : decode cX3_execute 6 = .ok (.iconst 0, 1) := dk_3 (dk_at dksX3_execute_0 6 rfl rfl)
theorem dX3_execute_7 : decode cX3_execute 7 = .ok (.putfield 230, 3) := dk_181 0 230 (dk_at dksX3_execute_0 7 rfl rfl)
theorem dX3_execute_10 : decode cX3_execute 10 = .ok (.aload_n 0, 1) := dk_42 (dk_at dksX3_execute_0 10 rfl rfl)
theorem dX3_execute_11 : decode cX3_execute 11 = .ok (.iconst 0, 1) := dk_3 (dk_at dksX3_execute_0 11 rfl rfl)
theorem dX3_execute_12 : decode cX3_execute 12 = .ok (.putfield 245, 3) := dk_181 0 245 (dk_at dksX3_execute_0 12 rfl rfl)
theorem dX3_execute_15 : decode cX3_execute 15 = .ok (.aload_n 0, 1) := dk_42 (dk_at dksX3_execute_0 15 rfl rfl)
theorem dX3_execute_16 : decode cX3_execute 16 = .ok (.invokevirtual 285, 3) := dk_182 1 29 (dk_at dksX3_execute_0 16 rfl rfl)
theorem dX3_execute_19 : decode cX3_execute 19 = .ok (.aload_n 0, 1) := dk_42 (dk_at dksX3_execute_0 19 rfl rfl)
theorem dX3_execute_20 : decode cX3_execute 20 = .ok (.getfield 230, 3) := dk_180 0 230 (dk_at dksX3_execute_0 20 rfl rfl)
theorem dX3_execute_23 : decode cX3_execute 23 = .ok (.ifCond .ne 30, 3) := dk_154 0 30 (dk_at dksX3_execute_1 0 rfl rfl)
theorem dX3_execute_26 : decode cX3_execute 26 = .ok (.aload_n 0, 1) := dk_42 (dk_at dksX3_execute_1 3 rfl rfl)
theorem dX3_execute_27 : decode cX3_execute 27 = .ok (.iconst 0, 1) := dk_3 (dk_at dksX3_execute_1 4 rfl rfl)
theorem dX3_execute_28 : decode cX3_execute 28 = .ok (.invokevirtual 234, 3) := dk_182 0 234 (dk_at dksX3_execute_1 5 rfl rfl)
theorem dX3_execute_31 : decode cX3_execute 31 = .ok (.bipush 59, 2) := dk_16 59 (dk_at dksX3_execute_1 8 rfl rfl)
theorem dX3_execute_33 : decode cX3_execute 33 = .ok (.if_icmp .ne 20, 3) := dk_160 0 20 (dk_at dksX3_execute_1 10 rfl rfl)
theorem dX3_execute_36 : decode cX3_execute 36 = .ok (.aload_n 0, 1) := dk_42 (dk_at dksX3_execute_1 13 rfl rfl)
theorem dX3_execute_37 : decode cX3_execute 37 = .ok (.dup, 1) := dk_89 (dk_at dksX3_execute_1 14 rfl rfl)
theorem dX3_execute_38 : decode cX3_execute 38 = .ok (.getfield 223, 3) := dk_180 0 223 (dk_at dksX3_execute_1 15 rfl rfl)
theorem dX3_execute_41 : decode cX3_execute 41 = .ok (.iconst 1, 1) := dk_4 (dk_at dksX3_execute_1 18 rfl rfl)
theorem dX3_execute_42 : decode cX3_execute 42 = .ok (.iadd, 1) := dk_96 (dk_at dksX3_execute_1 19 rfl rfl)
theorem dX3_execute_43 : decode cX3_execute 43 = .ok (.putfield 223, 3) := dk_181 0 223 (dk_at dksX3_execute_1 20 rfl rfl)
theorem dX3_execute_46 : decode cX3_execute 46 = .ok (.aload_n 0, 1) := dk_42 (dk_at dksX3_execute_1 23 rfl rfl)
theorem dX3_execute_47 : decode cX3_execute 47 = .ok (.invokevirtual 285, 3) := dk_182 1 29 (dk_at dksX3_execute_2 0 rfl rfl)
theorem dX3_execute_50 : decode cX3_execute 50 = .ok (.goto (-31), 3) := dk_167 255 225 (dk_at dksX3_execute_2 3 rfl rfl)
theorem dX3_execute_53 : decode cX3_execute 53 = .ok (.aload_n 0, 1) := dk_42 (dk_at dksX3_execute_2 6 rfl rfl)
theorem dX3_execute_54 : decode cX3_execute 54 = .ok (.aload_n 0, 1) := dk_42 (dk_at dksX3_execute_2 7 rfl rfl)
theorem dX3_execute_55 : decode cX3_execute 55 = .ok (.getfield 230, 3) := dk_180 0 230 (dk_at dksX3_execute_2 8 rfl rfl)
theorem dX3_execute_58 : decode cX3_execute 58 = .ok (.ifCond .ne 14, 3) := dk_154 0 14 (dk_at dksX3_execute_2 11 rfl rfl)
theorem dX3_execute_61 : decode cX3_execute 61 = .ok (.aload_n 0, 1) := dk_42 (dk_at dksX3_execute_2 14 rfl rfl)
theorem dX3_execute_62 : decode cX3_execute 62 = .ok (.getfield 223, 3) := dk_180 0 223 (dk_at dksX3_execute_2 15 rfl rfl)
theorem dX3_execute_65 : decode cX3_execute 65 = .ok (.aload_n 0, 1) := dk_42 (dk_at dksX3_execute_2 18 rfl rfl)
theorem dX3_execute_66 : decode cX3_execute 66 = .ok (.getfield 220, 3) := dk_180 0 220 (dk_at dksX3_execute_2 19 rfl rfl)
theorem dX3_execute_69 : decode cX3_execute 69 = .ok (.if_icmp .ge 7, 3) := dk_162 0 7 (dk_at dksX3_execute_3 0 rfl rfl)
theorem dX3_execute_72 : decode cX3_execute 72 = .ok (.iconst 1, 1) := dk_4 (dk_at dksX3_execute_3 3 rfl rfl)
theorem dX3_execute_73 : decode cX3_execute 73 = .ok (.goto 4, 3) := dk_167 0 4 (dk_at dksX3_execute_3 4 rfl rfl)
theorem dX3_execute_76 : decode cX3_execute 76 = .ok (.iconst 0, 1) := dk_3 (dk_at dksX3_execute_3 7 rfl rfl)
theorem dX3_execute_77 : decode cX3_execute 77 = .ok (.putfield 230, 3) := dk_181 0 230 (dk_at dksX3_execute_3 8 rfl rfl)
theorem dX3_execute_80 : decode cX3_execute 80 = .ok (.aload_n 0, 1) := dk_42 (dk_at dksX3_execute_3 11 rfl rfl)
theorem dX3_execute_81 : decode cX3_execute 81 = .ok (.aload_n 0, 1) := dk_42 (dk_at dksX3_execute_3 12 rfl rfl)
theorem dX3_execute_82 : decode cX3_execute 82 = .ok (.getfield 230, 3) := dk_180 0 230 (dk_at dksX3_execute_3 13 rfl rfl)
theorem dX3_execute_85 : decode cX3_execute 85 = .ok (.ifCond .eq 10, 3) := dk_153 0 10 (dk_at dksX3_execute_3 16 rfl rfl)
theorem dX3_execute_88 : decode cX3_execute 88 = .ok (.aload_n 0, 1) := dk_42 (dk_at dksX3_execute_3 19 rfl rfl)
theorem dX3_execute_89 : decode cX3_execute 89 = .ok (.getfield 223, 3) := dk_180 0 223 (dk_at dksX3_execute_3 20 rfl rfl)
theorem dX3_execute_92 : decode cX3_execute 92 = .ok (.goto 7, 3) := dk_167 0 7 (dk_at dksX3_execute_4 0 rfl rfl)
theorem dX3_execute_95 : decode cX3_execute 95 = .ok (.aload_n 0, 1) := dk_42 (dk_at dksX3_execute_4 3 rfl rfl)
theorem dX3_execute_96 : decode cX3_execute 96 = .ok (.getfield 29, 3) := dk_180 0 29 (dk_at dksX3_execute_4 4 rfl rfl)
theorem dX3_execute_99 : decode cX3_execute 99 = .ok (.putfield 29, 3) := dk_181 0 29 (dk_at dksX3_execute_4 7 rfl rfl)
theorem dX3_execute_102 : decode cX3_execute 102 = .ok (.aload_n 0, 1) := dk_42 (dk_at dksX3_execute_4 10 rfl rfl)
theorem dX3_execute_103 : decode cX3_execute 103 = .ok (.iconst 0, 1) := dk_3 (dk_at dksX3_execute_4 11 rfl rfl)
theorem dX3_execute_104 : decode cX3_execute 104 = .ok (.putfield 220, 3) := dk_181 0 220 (dk_at dksX3_execute_4 12 rfl rfl)
theorem dX3_execute_107 : decode cX3_execute 107 = .ok (.aload_n 0, 1) := dk_42 (dk_at dksX3_execute_4 15 rfl rfl)
theorem dX3_execute_108 : decode cX3_execute 108 = .ok (.getfield 230, 3) := dk_180 0 230 (dk_at dksX3_execute_4 16 rfl rfl)
theorem dX3_execute_111 : decode cX3_execute 111 = .ok (.ifCond .eq 9, 3) := dk_153 0 9 (dk_at dksX3_execute_4 19 rfl rfl)
theorem dX3_execute_114 : decode cX3_execute 114 = .ok (.aload_n 0, 1) := dk_42 (dk_at dksX3_execute_4 22 rfl rfl)
theorem dX3_execute_115 : decode cX3_execute 115 = .ok (.iconst 1, 1) := dk_4 (dk_at dksX3_execute_4 23 rfl rfl)
theorem dX3_execute_116 : decode cX3_execute 116 = .ok (.invokevirtual 82, 3) := dk_182 0 82 (dk_at dksX3_execute_5 0 rfl rfl)
theorem dX3_execute_119 : decode cX3_execute 119 = .ok (.ireturn, 1) := dk_172 (dk_at dksX3_execute_5 3 rfl rfl)
theorem dX3_execute_120 : decode cX3_execute 120 = .ok (.aload_n 0, 1) := dk_42 (dk_at dksX3_execute_5 4 rfl rfl)
theorem dX3_execute_121 : decode cX3_execute 121 = .ok (.invokevirtual 93, 3) := dk_182 0 93 (dk_at dksX3_execute_5 5 rfl rfl)
theorem dX3_execute_124 : decode cX3_execute 124 = .ok (.iconst 0, 1) := dk_3 (dk_at dksX3_execute_5 8 rfl rfl)
theorem dX3_execute_125 : decode cX3_execute 125 = .ok (.istore_n 1, 1) := dk_60 (dk_at dksX3_execute_5 9 rfl rfl)
theorem dX3_execute_126 : decode cX3_execute 126 = .ok (.iload_n 1, 1) := dk_27 (dk_at dksX3_execute_5 10 rfl rfl)
theorem dX3_execute_127 : decode cX3_execute 127 = .ok (.aload_n 0, 1) := dk_42 (dk_at dksX3_execute_5 11 rfl rfl)
theorem dX3_execute_128 : decode cX3_execute 128 = .ok (.getfield 245, 3) := dk_180 0 245 (dk_at dksX3_execute_5 12 rfl rfl)
theorem dX3_execute_131 : decode cX3_execute 131 = .ok (.if_icmp .ge 36, 3) := dk_162 0 36 (dk_at dksX3_execute_5 15 rfl rfl)
theorem dX3_execute_134 : decode cX3_execute 134 = .ok (.aload_n 0, 1) := dk_42 (dk_at dksX3_execute_5 18 rfl rfl)
theorem dX3_execute_135 : decode cX3_execute 135 = .ok (.iload_n 1, 1) := dk_27 (dk_at dksX3_execute_5 19 rfl rfl)
theorem dX3_execute_136 : decode cX3_execute 136 = .ok (.invokevirtual 288, 3) := dk_182 1 32 (dk_at dksX3_execute_5 20 rfl rfl)
theorem dX3_execute_139 : decode cX3_execute 139 = .ok (.aload_n 0, 1) := dk_42 (dk_at dksX3_execute_5 23 rfl rfl)
theorem dX3_execute_140 : decode cX3_execute 140 = .ok (.getfield 39, 3) := dk_180 0 39 (dk_at dksX3_execute_6 0 rfl rfl)
theorem dX3_execute_143 : decode cX3_execute 143 = .ok (.ifCond .le 18, 3) := dk_158 0 18 (dk_at dksX3_execute_6 3 rfl rfl)
theorem dX3_execute_146 : decode cX3_execute 146 = .ok (.aload_n 0, 1) := dk_42 (dk_at dksX3_execute_6 6 rfl rfl)
theorem dX3_execute_147 : decode cX3_execute 147 = .ok (.iload_n 1, 1) := dk_27 (dk_at dksX3_execute_6 7 rfl rfl)
theorem dX3_execute_148 : decode cX3_execute 148 = .ok (.putfield 33, 3) := dk_181 0 33 (dk_at dksX3_execute_6 8 rfl rfl)
theorem dX3_execute_151 : decode cX3_execute 151 = .ok (.aload_n 0, 1) := dk_42 (dk_at dksX3_execute_6 11 rfl rfl)
theorem dX3_execute_152 : decode cX3_execute 152 = .ok (.aload_n 0, 1) := dk_42 (dk_at dksX3_execute_6 12 rfl rfl)
theorem dX3_execute_153 : decode cX3_execute 153 = .ok (.iconst 2, 1) := dk_5 (dk_at dksX3_execute_6 13 rfl rfl)
theorem dX3_execute_154 : decode cX3_execute 154 = .ok (.invokevirtual 82, 3) := dk_182 0 82 (dk_at dksX3_execute_6 14 rfl rfl)
theorem dX3_execute_157 : decode cX3_execute 157 = .ok (.invokevirtual 100, 3) := dk_182 0 100 (dk_at dksX3_execute_6 17 rfl rfl)
theorem dX3_execute_160 : decode cX3_execute 160 = .ok (.ireturn, 1) := dk_172 (dk_at dksX3_execute_6 20 rfl rfl)
theorem dX3_execute_161 : decode cX3_execute 161 = .ok (.iinc 1 1, 3) := dk_132 1 1 (dk_at dksX3_execute_6 21 rfl rfl)
theorem dX3_execute_164 : decode cX3_execute 164 = .ok (.goto (-38), 3) := dk_167 255 218 (dk_at dksX3_execute_7 0 rfl rfl)
theorem dX3_execute_167 : decode cX3_execute 167 = .ok (.aload_n 0, 1) := dk_42 (dk_at dksX3_execute_7 3 rfl rfl)
theorem dX3_execute_168 : decode cX3_execute 168 = .ok (.aload_n 0, 1) := dk_42 (dk_at dksX3_execute_7 4 rfl rfl)
theorem dX3_execute_169 : decode cX3_execute 169 = .ok (.getfield 245, 3) := dk_180 0 245 (dk_at dksX3_execute_7 5 rfl rfl)
theorem dX3_execute_172 : decode cX3_execute 172 = .ok (.invokevirtual 100, 3) := dk_182 0 100 (dk_at dksX3_execute_7 8 rfl rfl)
theorem dX3_execute_175 : decode cX3_execute 175 = .ok (.ireturn, 1) := dk_172 (dk_at dksX3_execute_7 11 rfl rfl)
abbrev cX3_readCommand : ByteArray := prog_10_method_105_code
def yX3_readCommand : MethodName := ⟨RX3, "readCommand", "()V"⟩
def dkwX3_readCommand_18 : List UInt8 := [167, 0, 5, 18, 250, 182, 0, 252, 177]
abbrev dktX3_readCommand_18 : List UInt8 := dkwX3_readCommand_18 ++ []
def dkwX3_readCommand_17 : List UInt8 := [27, 6, 96, 42, 6, 182, 1, 0, 79, 167, 0, 21, 42, 28, 16, 109, 160, 0, 9, 19, 1, 27]
abbrev dktX3_readCommand_17 : List UInt8 := dkwX3_readCommand_17 ++ dktX3_readCommand_18
def dkwX3_readCommand_16 : List UInt8 := [42, 180, 0, 36, 27, 5, 96, 42, 6, 182, 1, 0, 79, 42, 19, 1, 25, 182, 0, 252, 42, 180, 0, 36]
abbrev dktX3_readCommand_16 : List UInt8 := dkwX3_readCommand_16 ++ dktX3_readCommand_17
def dkwX3_readCommand_15 : List UInt8 := [6, 96, 42, 6, 182, 1, 0, 79, 167, 0, 70, 28, 16, 114, 160, 0, 46, 42, 19, 1, 23, 182, 0, 252]
abbrev dktX3_readCommand_15 : List UInt8 := dkwX3_readCommand_15 ++ dktX3_readCommand_16
def dkwX3_readCommand_14 : List UInt8 := [180, 0, 36, 27, 5, 96, 42, 4, 182, 1, 0, 79, 42, 19, 1, 21, 182, 0, 252, 42, 180, 0, 36, 27]
abbrev dktX3_readCommand_14 : List UInt8 := dkwX3_readCommand_14 ++ dktX3_readCommand_15
def dkwX3_readCommand_13 : List UInt8 := [4, 182, 1, 0, 79, 167, 0, 119, 28, 16, 104, 160, 0, 46, 42, 19, 1, 19, 182, 0, 252, 42]
abbrev dktX3_readCommand_13 : List UInt8 := dkwX3_readCommand_13 ++ dktX3_readCommand_14
def dkwX3_readCommand_12 : List UInt8 := [167, 0, 148, 28, 16, 99, 160, 0, 26, 42, 19, 1, 17, 182, 0, 252, 42, 180, 0, 36, 27, 5, 96, 42]
abbrev dktX3_readCommand_12 : List UInt8 := dkwX3_readCommand_12 ++ dktX3_readCommand_13
def dkwX3_readCommand_11 : List UInt8 := [160, 0, 26, 42, 19, 1, 15, 182, 0, 252, 42, 180, 0, 36, 27, 5, 96, 42, 6, 182, 1, 0, 79]
abbrev dktX3_readCommand_11 : List UInt8 := dkwX3_readCommand_11 ++ dktX3_readCommand_12
def dkwX3_readCommand_10 : List UInt8 := [182, 0, 252, 42, 180, 0, 36, 27, 7, 96, 42, 6, 182, 1, 0, 79, 167, 0, 177, 28, 16, 108]
abbrev dktX3_readCommand_10 : List UInt8 := dkwX3_readCommand_10 ++ dktX3_readCommand_11
def dkwX3_readCommand_9 : List UInt8 := [19, 1, 9, 182, 0, 252, 42, 180, 0, 36, 27, 6, 96, 42, 6, 182, 1, 0, 79, 42, 19, 1, 13]
abbrev dktX3_readCommand_9 : List UInt8 := dkwX3_readCommand_9 ++ dktX3_readCommand_10
def dkwX3_readCommand_8 : List UInt8 := [27, 4, 96, 42, 4, 182, 1, 5, 79, 42, 180, 0, 36, 27, 5, 96, 42, 6, 182, 1, 0, 79, 42]
abbrev dktX3_readCommand_8 : List UInt8 := dkwX3_readCommand_8 ++ dktX3_readCommand_9
def dkwX3_readCommand_7 : List UInt8 := [182, 1, 0, 79, 167, 1, 3, 28, 16, 112, 160, 0, 79, 42, 19, 1, 11, 182, 0, 252, 42, 180, 0, 36]
abbrev dktX3_readCommand_7 : List UInt8 := dkwX3_readCommand_7 ++ dktX3_readCommand_8
def dkwX3_readCommand_6 : List UInt8 := [5, 96, 42, 6, 182, 1, 0, 79, 42, 19, 1, 9, 182, 0, 252, 42, 180, 0, 36, 27, 6, 96, 42, 6]
abbrev dktX3_readCommand_6 : List UInt8 := dkwX3_readCommand_6 ++ dktX3_readCommand_7
def dkwX3_readCommand_5 : List UInt8 := [19, 1, 3, 182, 0, 252, 42, 180, 0, 36, 27, 4, 96, 42, 3, 182, 1, 5, 79, 42, 180, 0, 36, 27]
abbrev dktX3_readCommand_5 : List UInt8 := dkwX3_readCommand_5 ++ dktX3_readCommand_6
def dkwX3_readCommand_4 : List UInt8 := [180, 0, 36, 27, 5, 96, 42, 4, 182, 1, 0, 79, 167, 1, 65, 28, 16, 97, 160, 0, 59, 42]
abbrev dktX3_readCommand_4 : List UInt8 := dkwX3_readCommand_4 ++ dktX3_readCommand_5
def dkwX3_readCommand_3 : List UInt8 := [42, 42, 3, 182, 0, 234, 16, 100, 160, 0, 8, 18, 248, 167, 0, 5, 18, 250, 182, 0, 252, 42]
abbrev dktX3_readCommand_3 : List UInt8 := dkwX3_readCommand_3 ++ dktX3_readCommand_4
def dkwX3_readCommand_2 : List UInt8 := [16, 105, 167, 0, 8, 42, 3, 182, 0, 234, 61, 42, 180, 0, 36, 27, 28, 79, 28, 16, 105, 160, 0, 40]
abbrev dktX3_readCommand_2 : List UInt8 := dkwX3_readCommand_2 ++ dktX3_readCommand_3
def dkwX3_readCommand_1 : List UInt8 := [181, 0, 245, 42, 3, 182, 0, 234, 16, 100, 160, 0, 18, 42, 4, 182, 0, 234, 16, 105, 160, 0, 8]
abbrev dktX3_readCommand_1 : List UInt8 := dkwX3_readCommand_1 ++ dktX3_readCommand_2
def dkwX3_readCommand_0 : List UInt8 := [42, 180, 0, 230, 153, 0, 4, 177, 8, 42, 180, 0, 245, 104, 60, 42, 89, 180, 0, 245, 4, 96]
abbrev dktX3_readCommand_0 : List UInt8 := dkwX3_readCommand_0 ++ dktX3_readCommand_1
theorem dksX3_readCommand_0 : cX3_readCommand.data.toList.drop 0 = dktX3_readCommand_0 := by decide +kernel
theorem dksX3_readCommand_1 : cX3_readCommand.data.toList.drop 22 = dktX3_readCommand_1 := dk_seg dksX3_readCommand_0 22 rfl rfl
theorem dksX3_readCommand_2 : cX3_readCommand.data.toList.drop 45 = dktX3_readCommand_2 := dk_seg dksX3_readCommand_1 23 rfl rfl
theorem dksX3_readCommand_3 : cX3_readCommand.data.toList.drop 69 = dktX3_readCommand_3 := dk_seg dksX3_readCommand_2 24 rfl rfl
theorem dksX3_readCommand_4 : cX3_readCommand.data.toList.drop 91 = dktX3_readCommand_4 := dk_seg dksX3_readCommand_3 22 rfl rfl
theorem dksX3_readCommand_5 : cX3_readCommand.data.toList.drop 113 = dktX3_readCommand_5 := dk_seg dksX3_readCommand_4 22 rfl rfl
theorem dksX3_readCommand_6 : cX3_readCommand.data.toList.drop 137 = dktX3_readCommand_6 := dk_seg dksX3_readCommand_5 24 rfl rfl
theorem dksX3_readCommand_7 : cX3_readCommand.data.toList.drop 161 = dktX3_readCommand_7 := dk_seg dksX3_readCommand_6 24 rfl rfl
theorem dksX3_readCommand_8 : cX3_readCommand.data.toList.drop 185 = dktX3_readCommand_8 := dk_seg dksX3_readCommand_7 24 rfl rfl
theorem dksX3_readCommand_9 : cX3_readCommand.data.toList.drop 208 = dktX3_readCommand_9 := dk_seg dksX3_readCommand_8 23 rfl rfl
theorem dksX3_readCommand_10 : cX3_readCommand.data.toList.drop 231 = dktX3_readCommand_10 := dk_seg dksX3_readCommand_9 23 rfl rfl
theorem dksX3_readCommand_11 : cX3_readCommand.data.toList.drop 253 = dktX3_readCommand_11 := dk_seg dksX3_readCommand_10 22 rfl rfl
theorem dksX3_readCommand_12 : cX3_readCommand.data.toList.drop 276 = dktX3_readCommand_12 := dk_seg dksX3_readCommand_11 23 rfl rfl
theorem dksX3_readCommand_13 : cX3_readCommand.data.toList.drop 300 = dktX3_readCommand_13 := dk_seg dksX3_readCommand_12 24 rfl rfl
theorem dksX3_readCommand_14 : cX3_readCommand.data.toList.drop 322 = dktX3_readCommand_14 := dk_seg dksX3_readCommand_13 22 rfl rfl
theorem dksX3_readCommand_15 : cX3_readCommand.data.toList.drop 346 = dktX3_readCommand_15 := dk_seg dksX3_readCommand_14 24 rfl rfl
theorem dksX3_readCommand_16 : cX3_readCommand.data.toList.drop 370 = dktX3_readCommand_16 := dk_seg dksX3_readCommand_15 24 rfl rfl
theorem dksX3_readCommand_17 : cX3_readCommand.data.toList.drop 394 = dktX3_readCommand_17 := dk_seg dksX3_readCommand_16 24 rfl rfl
theorem dksX3_readCommand_18 : cX3_readCommand.data.toList.drop 416 = dktX3_readCommand_18 := dk_seg dksX3_readCommand_17 22 rfl rfl
theorem dX3_readCommand_0 : decode cX3_readCommand 0 = .ok (.aload_n 0, 1) := dk_42 (dk_at dksX3_readCommand_0 0 rfl rfl)
theorem dX3_readCommand_1 : decode cX3_readCommand 1 = .ok (.getfield 230, 3) := dk_180 0 230 (dk_at dksX3_readCommand_0 1 rfl rfl)
theorem dX3_readCommand_4 : decode cX3_readCommand 4 = .ok (.ifCond .eq 4, 3) := dk_153 0 4 (dk_at dksX3_readCommand_0 4 rfl rfl)
theorem dX3_readCommand_7 : decode cX3_readCommand 7 = .ok (.return_, 1) := dk_177 (dk_at dksX3_readCommand_0 7 rfl rfl)
theorem dX3_readCommand_8 : decode cX3_readCommand 8 = .ok (.iconst 5, 1) := dk_8 (dk_at dksX3_readCommand_0 8 rfl rfl)
theorem dX3_readCommand_9 : decode cX3_readCommand 9 = .ok (.aload_n 0, 1) := dk_42 (dk_at dksX3_readCommand_0 9 rfl rfl)
theorem dX3_readCommand_10 : decode cX3_readCommand 10 = .ok (.getfield 245, 3) := dk_180 0 245 (dk_at dksX3_readCommand_0 10 rfl rfl)
theorem dX3_readCommand_13 : decode cX3_readCommand 13 = .ok (.imul, 1) := dk_104 (dk_at dksX3_readCommand_0 13 rfl rfl)
theorem dX3_readCommand_14 : decode cX3_readCommand 14 = .ok (.istore_n 1, 1) := dk_60 (dk_at dksX3_readCommand_0 14 rfl rfl)
theorem dX3_readCommand_15 : decode cX3_readCommand 15 = .ok (.aload_n 0, 1) := dk_42 (dk_at dksX3_readCommand_0 15 rfl rfl)
theorem dX3_readCommand_16 : decode cX3_readCommand 16 = .ok (.dup, 1) := dk_89 (dk_at dksX3_readCommand_0 16 rfl rfl)
theorem dX3_readCommand_17 : decode cX3_readCommand 17 = .ok (.getfield 245, 3) := dk_180 0 245 (dk_at dksX3_readCommand_0 17 rfl rfl)
theorem dX3_readCommand_20 : decode cX3_readCommand 20 = .ok (.iconst 1, 1) := dk_4 (dk_at dksX3_readCommand_0 20 rfl rfl)
theorem dX3_readCommand_21 : decode cX3_readCommand 21 = .ok (.iadd, 1) := dk_96 (dk_at dksX3_readCommand_0 21 rfl rfl)
theorem dX3_readCommand_22 : decode cX3_readCommand 22 = .ok (.putfield 245, 3) := dk_181 0 245 (dk_at dksX3_readCommand_1 0 rfl rfl)
theorem dX3_readCommand_25 : decode cX3_readCommand 25 = .ok (.aload_n 0, 1) := dk_42 (dk_at dksX3_readCommand_1 3 rfl rfl)
theorem dX3_readCommand_26 : decode cX3_readCommand 26 = .ok (.iconst 0, 1) := dk_3 (dk_at dksX3_readCommand_1 4 rfl rfl)
theorem dX3_readCommand_27 : decode cX3_readCommand 27 = .ok (.invokevirtual 234, 3) := dk_182 0 234 (dk_at dksX3_readCommand_1 5 rfl rfl)
theorem dX3_readCommand_30 : decode cX3_readCommand 30 = .ok (.bipush 100, 2) := dk_16 100 (dk_at dksX3_readCommand_1 8 rfl rfl)
theorem dX3_readCommand_32 : decode cX3_readCommand 32 = .ok (.if_icmp .ne 18, 3) := dk_160 0 18 (dk_at dksX3_readCommand_1 10 rfl rfl)
theorem dX3_readCommand_35 : decode cX3_readCommand 35 = .ok (.aload_n 0, 1) := dk_42 (dk_at dksX3_readCommand_1 13 rfl rfl)
theorem dX3_readCommand_36 : decode cX3_readCommand 36 = .ok (.iconst 1, 1) := dk_4 (dk_at dksX3_readCommand_1 14 rfl rfl)
theorem dX3_readCommand_37 : decode cX3_readCommand 37 = .ok (.invokevirtual 234, 3) := dk_182 0 234 (dk_at dksX3_readCommand_1 15 rfl rfl)
theorem dX3_readCommand_40 : decode cX3_readCommand 40 = .ok (.bipush 105, 2) := dk_16 105 (dk_at dksX3_readCommand_1 18 rfl rfl)
theorem dX3_readCommand_42 : decode cX3_readCommand 42 = .ok (.if_icmp .ne 8, 3) := dk_160 0 8 (dk_at dksX3_readCommand_1 20 rfl rfl)
theorem dX3_readCommand_45 : decode cX3_readCommand 45 = .ok (.bipush 105, 2) := dk_16 105 (dk_at dksX3_readCommand_2 0 rfl rfl)
theorem dX3_readCommand_47 : decode cX3_readCommand 47 = .ok (.goto 8, 3) := dk_167 0 8 (dk_at dksX3_readCommand_2 2 rfl rfl)
theorem dX3_readCommand_50 : decode cX3_readCommand 50 = .ok (.aload_n 0, 1) := dk_42 (dk_at dksX3_readCommand_2 5 rfl rfl)
theorem dX3_readCommand_51 : decode cX3_readCommand 51 = .ok (.iconst 0, 1) := dk_3 (dk_at dksX3_readCommand_2 6 rfl rfl)
theorem dX3_readCommand_52 : decode cX3_readCommand 52 = .ok (.invokevirtual 234, 3) := dk_182 0 234 (dk_at dksX3_readCommand_2 7 rfl rfl)
theorem dX3_readCommand_55 : decode cX3_readCommand 55 = .ok (.istore_n 2, 1) := dk_61 (dk_at dksX3_readCommand_2 10 rfl rfl)
theorem dX3_readCommand_56 : decode cX3_readCommand 56 = .ok (.aload_n 0, 1) := dk_42 (dk_at dksX3_readCommand_2 11 rfl rfl)
theorem dX3_readCommand_57 : decode cX3_readCommand 57 = .ok (.getfield 36, 3) := dk_180 0 36 (dk_at dksX3_readCommand_2 12 rfl rfl)
theorem dX3_readCommand_60 : decode cX3_readCommand 60 = .ok (.iload_n 1, 1) := dk_27 (dk_at dksX3_readCommand_2 15 rfl rfl)
theorem dX3_readCommand_61 : decode cX3_readCommand 61 = .ok (.iload_n 2, 1) := dk_28 (dk_at dksX3_readCommand_2 16 rfl rfl)
theorem dX3_readCommand_62 : decode cX3_readCommand 62 = .ok (.iastore, 1) := dk_79 (dk_at dksX3_readCommand_2 17 rfl rfl)
theorem dX3_readCommand_63 : decode cX3_readCommand 63 = .ok (.iload_n 2, 1) := dk_28 (dk_at dksX3_readCommand_2 18 rfl rfl)
theorem dX3_readCommand_64 : decode cX3_readCommand 64 = .ok (.bipush 105, 2) := dk_16 105 (dk_at dksX3_readCommand_2 19 rfl rfl)
theorem dX3_readCommand_66 : decode cX3_readCommand 66 = .ok (.if_icmp .ne 40, 3) := dk_160 0 40 (dk_at dksX3_readCommand_2 21 rfl rfl)
theorem dX3_readCommand_69 : decode cX3_readCommand 69 = .ok (.aload_n 0, 1) := dk_42 (dk_at dksX3_readCommand_3 0 rfl rfl)
theorem dX3_readCommand_70 : decode cX3_readCommand 70 = .ok (.aload_n 0, 1) := dk_42 (dk_at dksX3_readCommand_3 1 rfl rfl)
theorem dX3_readCommand_71 : decode cX3_readCommand 71 = .ok (.iconst 0, 1) := dk_3 (dk_at dksX3_readCommand_3 2 rfl rfl)
theorem dX3_readCommand_72 : decode cX3_readCommand 72 = .ok (.invokevirtual 234, 3) := dk_182 0 234 (dk_at dksX3_readCommand_3 3 rfl rfl)
theorem dX3_readCommand_75 : decode cX3_readCommand 75 = .ok (.bipush 100, 2) := dk_16 100 (dk_at dksX3_readCommand_3 6 rfl rfl)
theorem dX3_readCommand_77 : decode cX3_readCommand 77 = .ok (.if_icmp .ne 8, 3) := dk_160 0 8 (dk_at dksX3_readCommand_3 8 rfl rfl)
theorem dX3_readCommand_80 : decode cX3_readCommand 80 = .ok (.ldc 248, 2) := dk_18 248 (dk_at dksX3_readCommand_3 11 rfl rfl)
theorem dX3_readCommand_82 : decode cX3_readCommand 82 = .ok (.goto 5, 3) := dk_167 0 5 (dk_at dksX3_readCommand_3 13 rfl rfl)
theorem dX3_readCommand_85 : decode cX3_readCommand 85 = .ok (.ldc 250, 2) := dk_18 250 (dk_at dksX3_readCommand_3 16 rfl rfl)
theorem dX3_readCommand_87 : decode cX3_readCommand 87 = .ok (.invokevirtual 252, 3) := dk_182 0 252 (dk_at dksX3_readCommand_3 18 rfl rfl)
theorem dX3_readCommand_90 : decode cX3_readCommand 90 = .ok (.aload_n 0, 1) := dk_42 (dk_at dksX3_readCommand_3 21 rfl rfl)
theorem dX3_readCommand_91 : decode cX3_readCommand 91 = .ok (.getfield 36, 3) := dk_180 0 36 (dk_at dksX3_readCommand_4 0 rfl rfl)
theorem dX3_readCommand_94 : decode cX3_readCommand 94 = .ok (.iload_n 1, 1) := dk_27 (dk_at dksX3_readCommand_4 3 rfl rfl)
theorem dX3_readCommand_95 : decode cX3_readCommand 95 = .ok (.iconst 2, 1) := dk_5 (dk_at dksX3_readCommand_4 4 rfl rfl)
theorem dX3_readCommand_96 : decode cX3_readCommand 96 = .ok (.iadd, 1) := dk_96 (dk_at dksX3_readCommand_4 5 rfl rfl)
theorem dX3_readCommand_97 : decode cX3_readCommand 97 = .ok (.aload_n 0, 1) := dk_42 (dk_at dksX3_readCommand_4 6 rfl rfl)
theorem dX3_readCommand_98 : decode cX3_readCommand 98 = .ok (.iconst 1, 1) := dk_4 (dk_at dksX3_readCommand_4 7 rfl rfl)
theorem dX3_readCommand_99 : decode cX3_readCommand 99 = .ok (.invokevirtual 256, 3) := dk_182 1 0 (dk_at dksX3_readCommand_4 8 rfl rfl)
theorem dX3_readCommand_102 : decode cX3_readCommand 102 = .ok (.iastore, 1) := dk_79 (dk_at dksX3_readCommand_4 11 rfl rfl)
theorem dX3_readCommand_103 : decode cX3_readCommand 103 = .ok (.goto 321, 3) := dk_167 1 65 (dk_at dksX3_readCommand_4 12 rfl rfl)
theorem dX3_readCommand_106 : decode cX3_readCommand 106 = .ok (.iload_n 2, 1) := dk_28 (dk_at dksX3_readCommand_4 15 rfl rfl)
theorem dX3_readCommand_107 : decode cX3_readCommand 107 = .ok (.bipush 97, 2) := dk_16 97 (dk_at dksX3_readCommand_4 16 rfl rfl)
theorem dX3_readCommand_109 : decode cX3_readCommand 109 = .ok (.if_icmp .ne 59, 3) := dk_160 0 59 (dk_at dksX3_readCommand_4 18 rfl rfl)
theorem dX3_readCommand_112 : decode cX3_readCommand 112 = .ok (.aload_n 0, 1) := dk_42 (dk_at dksX3_readCommand_4 21 rfl rfl)
theorem dX3_readCommand_113 : decode cX3_readCommand 113 = .ok (.ldc_w 259, 3) := dk_19 1 3 (dk_at dksX3_readCommand_5 0 rfl rfl)
theorem dX3_readCommand_116 : decode cX3_readCommand 116 = .ok (.invokevirtual 252, 3) := dk_182 0 252 (dk_at dksX3_readCommand_5 3 rfl rfl)
theorem dX3_readCommand_119 : decode cX3_readCommand 119 = .ok (.aload_n 0, 1) := dk_42 (dk_at dksX3_readCommand_5 6 rfl rfl)
theorem dX3_readCommand_120 : decode cX3_readCommand 120 = .ok (.getfield 36, 3) := dk_180 0 36 (dk_at dksX3_readCommand_5 7 rfl rfl)
theorem dX3_readCommand_123 : decode cX3_readCommand 123 = .ok (.iload_n 1, 1) := dk_27 (dk_at dksX3_readCommand_5 10 rfl rfl)
theorem dX3_readCommand_124 : decode cX3_readCommand 124 = .ok (.iconst 1, 1) := dk_4 (dk_at dksX3_readCommand_5 11 rfl rfl)
theorem dX3_readCommand_125 : decode cX3_readCommand 125 = .ok (.iadd, 1) := dk_96 (dk_at dksX3_readCommand_5 12 rfl rfl)
theorem dX3_readCommand_126 : decode cX3_readCommand 126 = .ok (.aload_n 0, 1) := dk_42 (dk_at dksX3_readCommand_5 13 rfl rfl)
theorem dX3_readCommand_127 : decode cX3_readCommand 127 = .ok (.iconst 0, 1) := dk_3 (dk_at dksX3_readCommand_5 14 rfl rfl)
theorem dX3_readCommand_128 : decode cX3_readCommand 128 = .ok (.invokevirtual 261, 3) := dk_182 1 5 (dk_at dksX3_readCommand_5 15 rfl rfl)
theorem dX3_readCommand_131 : decode cX3_readCommand 131 = .ok (.iastore, 1) := dk_79 (dk_at dksX3_readCommand_5 18 rfl rfl)
theorem dX3_readCommand_132 : decode cX3_readCommand 132 = .ok (.aload_n 0, 1) := dk_42 (dk_at dksX3_readCommand_5 19 rfl rfl)
theorem dX3_readCommand_133 : decode cX3_readCommand 133 = .ok (.getfield 36, 3) := dk_180 0 36 (dk_at dksX3_readCommand_5 20 rfl rfl)
theorem dX3_readCommand_136 : decode cX3_readCommand 136 = .ok (.iload_n 1, 1) := dk_27 (dk_at dksX3_readCommand_5 23 rfl rfl)
theorem dX3_readCommand_137 : decode cX3_readCommand 137 = .ok (.iconst 2, 1) := dk_5 (dk_at dksX3_readCommand_6 0 rfl rfl)
theorem dX3_readCommand_138 : decode cX3_readCommand 138 = .ok (.iadd, 1) := dk_96 (dk_at dksX3_readCommand_6 1 rfl rfl)
theorem dX3_readCommand_139 : decode cX3_readCommand 139 = .ok (.aload_n 0, 1) := dk_42 (dk_at dksX3_readCommand_6 2 rfl rfl)
theorem dX3_readCommand_140 : decode cX3_readCommand 140 = .ok (.iconst 3, 1) := dk_6 (dk_at dksX3_readCommand_6 3 rfl rfl)
theorem dX3_readCommand_141 : decode cX3_readCommand 141 = .ok (.invokevirtual 256, 3) := dk_182 1 0 (dk_at dksX3_readCommand_6 4 rfl rfl)
theorem dX3_readCommand_144 : decode cX3_readCommand 144 = .ok (.iastore, 1) := dk_79 (dk_at dksX3_readCommand_6 7 rfl rfl)
theorem dX3_readCommand_145 : decode cX3_readCommand 145 = .ok (.aload_n 0, 1) := dk_42 (dk_at dksX3_readCommand_6 8 rfl rfl)
theorem dX3_readCommand_146 : decode cX3_readCommand 146 = .ok (.ldc_w 265, 3) := dk_19 1 9 (dk_at dksX3_readCommand_6 9 rfl rfl)
theorem dX3_readCommand_149 : decode cX3_readCommand 149 = .ok (.invokevirtual 252, 3) := dk_182 0 252 (dk_at dksX3_readCommand_6 12 rfl rfl)
theorem dX3_readCommand_152 : decode cX3_readCommand 152 = .ok (.aload_n 0, 1) := dk_42 (dk_at dksX3_readCommand_6 15 rfl rfl)
theorem dX3_readCommand_153 : decode cX3_readCommand 153 = .ok (.getfield 36, 3) := dk_180 0 36 (dk_at dksX3_readCommand_6 16 rfl rfl)
theorem dX3_readCommand_156 : decode cX3_readCommand 156 = .ok (.iload_n 1, 1) := dk_27 (dk_at dksX3_readCommand_6 19 rfl rfl)
theorem dX3_readCommand_157 : decode cX3_readCommand 157 = .ok (.iconst 3, 1) := dk_6 (dk_at dksX3_readCommand_6 20 rfl rfl)
theorem dX3_readCommand_158 : decode cX3_readCommand 158 = .ok (.iadd, 1) := dk_96 (dk_at dksX3_readCommand_6 21 rfl rfl)
theorem dX3_readCommand_159 : decode cX3_readCommand 159 = .ok (.aload_n 0, 1) := dk_42 (dk_at dksX3_readCommand_6 22 rfl rfl)
theorem dX3_readCommand_160 : decode cX3_readCommand 160 = .ok (.iconst 3, 1) := dk_6 (dk_at dksX3_readCommand_6 23 rfl rfl)
theorem dX3_readCommand_161 : decode cX3_readCommand 161 = .ok (.invokevirtual 256, 3) := dk_182 1 0 (dk_at dksX3_readCommand_7 0 rfl rfl)
theorem dX3_readCommand_164 : decode cX3_readCommand 164 = .ok (.iastore, 1) := dk_79 (dk_at dksX3_readCommand_7 3 rfl rfl)
theorem dX3_readCommand_165 : decode cX3_readCommand 165 = .ok (.goto 259, 3) := dk_167 1 3 (dk_at dksX3_readCommand_7 4 rfl rfl)
theorem dX3_readCommand_168 : decode cX3_readCommand 168 = .ok (.iload_n 2, 1) := dk_28 (dk_at dksX3_readCommand_7 7 rfl rfl)
theorem dX3_readCommand_169 : decode cX3_readCommand 169 = .ok (.bipush 112, 2) := dk_16 112 (dk_at dksX3_readCommand_7 8 rfl rfl)
theorem dX3_readCommand_171 : decode cX3_readCommand 171 = .ok (.if_icmp .ne 79, 3) := dk_160 0 79 (dk_at dksX3_readCommand_7 10 rfl rfl)
theorem dX3_readCommand_174 : decode cX3_readCommand 174 = .ok (.aload_n 0, 1) := dk_42 (dk_at dksX3_readCommand_7 13 rfl rfl)
theorem dX3_readCommand_175 : decode cX3_readCommand 175 = .ok (.ldc_w 267, 3) := dk_19 1 11 (dk_at dksX3_readCommand_7 14 rfl rfl)
theorem dX3_readCommand_178 : decode cX3_readCommand 178 = .ok (.invokevirtual 252, 3) := dk_182 0 252 (dk_at dksX3_readCommand_7 17 rfl rfl)
theorem dX3_readCommand_181 : decode cX3_readCommand 181 = .ok (.aload_n 0, 1) := dk_42 (dk_at dksX3_readCommand_7 20 rfl rfl)
theorem dX3_readCommand_182 : decode cX3_readCommand 182 = .ok (.getfield 36, 3) := dk_180 0 36 (dk_at dksX3_readCommand_7 21 rfl rfl)
theorem dX3_readCommand_185 : decode cX3_readCommand 185 = .ok (.iload_n 1, 1) := dk_27 (dk_at dksX3_readCommand_8 0 rfl rfl)
theorem dX3_readCommand_186 : decode cX3_readCommand 186 = .ok (.iconst 1, 1) := dk_4 (dk_at dksX3_readCommand_8 1 rfl rfl)
theorem dX3_readCommand_187 : decode cX3_readCommand 187 = .ok (.iadd, 1) := dk_96 (dk_at dksX3_readCommand_8 2 rfl rfl)
theorem dX3_readCommand_188 : decode cX3_readCommand 188 = .ok (.aload_n 0, 1) := dk_42 (dk_at dksX3_readCommand_8 3 rfl rfl)
theorem dX3_readCommand_189 : decode cX3_readCommand 189 = .ok (.iconst 1, 1) := dk_4 (dk_at dksX3_readCommand_8 4 rfl rfl)
theorem dX3_readCommand_190 : decode cX3_readCommand 190 = .ok (.invokevirtual 261, 3) := dk_182 1 5 (dk_at dksX3_readCommand_8 5 rfl rfl)
theorem dX3_readCommand_193 : decode cX3_readCommand 193 = .ok (.iastore, 1) := dk_79 (dk_at dksX3_readCommand_8 8 rfl rfl)
theorem dX3_readCommand_194 : decode cX3_readCommand 194 = .ok (.aload_n 0, 1) := dk_42 (dk_at dksX3_readCommand_8 9 rfl rfl)
theorem dX3_readCommand_195 : decode cX3_readCommand 195 = .ok (.getfield 36, 3) := dk_180 0 36 (dk_at dksX3_readCommand_8 10 rfl rfl)
theorem dX3_readCommand_198 : decode cX3_readCommand 198 = .ok (.iload_n 1, 1) := dk_27 (dk_at dksX3_readCommand_8 13 rfl rfl)
theorem dX3_readCommand_199 : decode cX3_readCommand 199 = .ok (.iconst 2, 1) := dk_5 (dk_at dksX3_readCommand_8 14 rfl rfl)
theorem dX3_readCommand_200 : decode cX3_readCommand 200 = .ok (.iadd, 1) := dk_96 (dk_at dksX3_readCommand_8 15 rfl rfl)
theorem dX3_readCommand_201 : decode cX3_readCommand 201 = .ok (.aload_n 0, 1) := dk_42 (dk_at dksX3_readCommand_8 16 rfl rfl)
theorem dX3_readCommand_202 : decode cX3_readCommand 202 = .ok (.iconst 3, 1) := dk_6 (dk_at dksX3_readCommand_8 17 rfl rfl)
theorem dX3_readCommand_203 : decode cX3_readCommand 203 = .ok (.invokevirtual 256, 3) := dk_182 1 0 (dk_at dksX3_readCommand_8 18 rfl rfl)
theorem dX3_readCommand_206 : decode cX3_readCommand 206 = .ok (.iastore, 1) := dk_79 (dk_at dksX3_readCommand_8 21 rfl rfl)
theorem dX3_readCommand_207 : decode cX3_readCommand 207 = .ok (.aload_n 0, 1) := dk_42 (dk_at dksX3_readCommand_8 22 rfl rfl)
theorem dX3_readCommand_208 : decode cX3_readCommand 208 = .ok (.ldc_w 265, 3) := dk_19 1 9 (dk_at dksX3_readCommand_9 0 rfl rfl)
theorem dX3_readCommand_211 : decode cX3_readCommand 211 = .ok (.invokevirtual 252, 3) := dk_182 0 252 (dk_at dksX3_readCommand_9 3 rfl rfl)
theorem dX3_readCommand_214 : decode cX3_readCommand 214 = .ok (.aload_n 0, 1) := dk_42 (dk_at dksX3_readCommand_9 6 rfl rfl)
theorem dX3_readCommand_215 : decode cX3_readCommand 215 = .ok (.getfield 36, 3) := dk_180 0 36 (dk_at dksX3_readCommand_9 7 rfl rfl)
theorem dX3_readCommand_218 : decode cX3_readCommand 218 = .ok (.iload_n 1, 1) := dk_27 (dk_at dksX3_readCommand_9 10 rfl rfl)
theorem dX3_readCommand_219 : decode cX3_readCommand 219 = .ok (.iconst 3, 1) := dk_6 (dk_at dksX3_readCommand_9 11 rfl rfl)
theorem dX3_readCommand_220 : decode cX3_readCommand 220 = .ok (.iadd, 1) := dk_96 (dk_at dksX3_readCommand_9 12 rfl rfl)
theorem dX3_readCommand_221 : decode cX3_readCommand 221 = .ok (.aload_n 0, 1) := dk_42 (dk_at dksX3_readCommand_9 13 rfl rfl)
theorem dX3_readCommand_222 : decode cX3_readCommand 222 = .ok (.iconst 3, 1) := dk_6 (dk_at dksX3_readCommand_9 14 rfl rfl)
theorem dX3_readCommand_223 : decode cX3_readCommand 223 = .ok (.invokevirtual 256, 3) := dk_182 1 0 (dk_at dksX3_readCommand_9 15 rfl rfl)
theorem dX3_readCommand_226 : decode cX3_readCommand 226 = .ok (.iastore, 1) := dk_79 (dk_at dksX3_readCommand_9 18 rfl rfl)
theorem dX3_readCommand_227 : decode cX3_readCommand 227 = .ok (.aload_n 0, 1) := dk_42 (dk_at dksX3_readCommand_9 19 rfl rfl)
theorem dX3_readCommand_228 : decode cX3_readCommand 228 = .ok (.ldc_w 269, 3) := dk_19 1 13 (dk_at dksX3_readCommand_9 20 rfl rfl)
theorem dX3_readCommand_231 : decode cX3_readCommand 231 = .ok (.invokevirtual 252, 3) := dk_182 0 252 (dk_at dksX3_readCommand_10 0 rfl rfl)
theorem dX3_readCommand_234 : decode cX3_readCommand 234 = .ok (.aload_n 0, 1) := dk_42 (dk_at dksX3_readCommand_10 3 rfl rfl)
theorem dX3_readCommand_235 : decode cX3_readCommand 235 = .ok (.getfield 36, 3) := dk_180 0 36 (dk_at dksX3_readCommand_10 4 rfl rfl)
theorem dX3_readCommand_238 : decode cX3_readCommand 238 = .ok (.iload_n 1, 1) := dk_27 (dk_at dksX3_readCommand_10 7 rfl rfl)
theorem dX3_readCommand_239 : decode cX3_readCommand 239 = .ok (.iconst 4, 1) := dk_7 (dk_at dksX3_readCommand_10 8 rfl rfl)
theorem dX3_readCommand_240 : decode cX3_readCommand 240 = .ok (.iadd, 1) := dk_96 (dk_at dksX3_readCommand_10 9 rfl rfl)
theorem dX3_readCommand_241 : decode cX3_readCommand 241 = .ok (.aload_n 0, 1) := dk_42 (dk_at dksX3_readCommand_10 10 rfl rfl)
theorem dX3_readCommand_242 : decode cX3_readCommand 242 = .ok (.iconst 3, 1) := dk_6 (dk_at dksX3_readCommand_10 11 rfl rfl)
theorem dX3_readCommand_243 : decode cX3_readCommand 243 = .ok (.invokevirtual 256, 3) := dk_182 1 0 (dk_at dksX3_readCommand_10 12 rfl rfl)
theorem dX3_readCommand_246 : decode cX3_readCommand 246 = .ok (.iastore, 1) := dk_79 (dk_at dksX3_readCommand_10 15 rfl rfl)
theorem dX3_readCommand_247 : decode cX3_readCommand 247 = .ok (.goto 177, 3) := dk_167 0 177 (dk_at dksX3_readCommand_10 16 rfl rfl)
theorem dX3_readCommand_250 : decode cX3_readCommand 250 = .ok (.iload_n 2, 1) := dk_28 (dk_at dksX3_readCommand_10 19 rfl rfl)
theorem dX3_readCommand_251 : decode cX3_readCommand 251 = .ok (.bipush 108, 2) := dk_16 108 (dk_at dksX3_readCommand_10 20 rfl rfl)
theorem dX3_readCommand_253 : decode cX3_readCommand 253 = .ok (.if_icmp .ne 26, 3) := dk_160 0 26 (dk_at dksX3_readCommand_11 0 rfl rfl)
theorem dX3_readCommand_256 : decode cX3_readCommand 256 = .ok (.aload_n 0, 1) := dk_42 (dk_at dksX3_readCommand_11 3 rfl rfl)
theorem dX3_readCommand_257 : decode cX3_readCommand 257 = .ok (.ldc_w 271, 3) := dk_19 1 15 (dk_at dksX3_readCommand_11 4 rfl rfl)
theorem dX3_readCommand_260 : decode cX3_readCommand 260 = .ok (.invokevirtual 252, 3) := dk_182 0 252 (dk_at dksX3_readCommand_11 7 rfl rfl)
theorem dX3_readCommand_263 : decode cX3_readCommand 263 = .ok (.aload_n 0, 1) := dk_42 (dk_at dksX3_readCommand_11 10 rfl rfl)
theorem dX3_readCommand_264 : decode cX3_readCommand 264 = .ok (.getfield 36, 3) := dk_180 0 36 (dk_at dksX3_readCommand_11 11 rfl rfl)
theorem dX3_readCommand_267 : decode cX3_readCommand 267 = .ok (.iload_n 1, 1) := dk_27 (dk_at dksX3_readCommand_11 14 rfl rfl)
theorem dX3_readCommand_268 : decode cX3_readCommand 268 = .ok (.iconst 2, 1) := dk_5 (dk_at dksX3_readCommand_11 15 rfl rfl)
theorem dX3_readCommand_269 : decode cX3_readCommand 269 = .ok (.iadd, 1) := dk_96 (dk_at dksX3_readCommand_11 16 rfl rfl)
theorem dX3_readCommand_270 : decode cX3_readCommand 270 = .ok (.aload_n 0, 1) := dk_42 (dk_at dksX3_readCommand_11 17 rfl rfl)
theorem dX3_readCommand_271 : decode cX3_readCommand 271 = .ok (.iconst 3, 1) := dk_6 (dk_at dksX3_readCommand_11 18 rfl rfl)
theorem dX3_readCommand_272 : decode cX3_readCommand 272 = .ok (.invokevirtual 256, 3) := dk_182 1 0 (dk_at dksX3_readCommand_11 19 rfl rfl)
theorem dX3_readCommand_275 : decode cX3_readCommand 275 = .ok (.iastore, 1) := dk_79 (dk_at dksX3_readCommand_11 22 rfl rfl)
theorem dX3_readCommand_276 : decode cX3_readCommand 276 = .ok (.goto 148, 3) := dk_167 0 148 (dk_at dksX3_readCommand_12 0 rfl rfl)
theorem dX3_readCommand_279 : decode cX3_readCommand 279 = .ok (.iload_n 2, 1) := dk_28 (dk_at dksX3_readCommand_12 3 rfl rfl)
theorem dX3_readCommand_280 : decode cX3_readCommand 280 = .ok (.bipush 99, 2) := dk_16 99 (dk_at dksX3_readCommand_12 4 rfl rfl)
theorem dX3_readCommand_282 : decode cX3_readCommand 282 = .ok (.if_icmp .ne 26, 3) := dk_160 0 26 (dk_at dksX3_readCommand_12 6 rfl rfl)
theorem dX3_readCommand_285 : decode cX3_readCommand 285 = .ok (.aload_n 0, 1) := dk_42 (dk_at dksX3_readCommand_12 9 rfl rfl)
theorem dX3_readCommand_286 : decode cX3_readCommand 286 = .ok (.ldc_w 273, 3) := dk_19 1 17 (dk_at dksX3_readCommand_12 10 rfl rfl)
theorem dX3_readCommand_289 : decode cX3_readCommand 289 = .ok (.invokevirtual 252, 3) := dk_182 0 252 (dk_at dksX3_readCommand_12 13 rfl rfl)
theorem dX3_readCommand_292 : decode cX3_readCommand 292 = .ok (.aload_n 0, 1) := dk_42 (dk_at dksX3_readCommand_12 16 rfl rfl)
theorem dX3_readCommand_293 : decode cX3_readCommand 293 = .ok (.getfield 36, 3) := dk_180 0 36 (dk_at dksX3_readCommand_12 17 rfl rfl)
theorem dX3_readCommand_296 : decode cX3_readCommand 296 = .ok (.iload_n 1, 1) := dk_27 (dk_at dksX3_readCommand_12 20 rfl rfl)
theorem dX3_readCommand_297 : decode cX3_readCommand 297 = .ok (.iconst 2, 1) := dk_5 (dk_at dksX3_readCommand_12 21 rfl rfl)
theorem dX3_readCommand_298 : decode cX3_readCommand 298 = .ok (.iadd, 1) := dk_96 (dk_at dksX3_readCommand_12 22 rfl rfl)
theorem dX3_readCommand_299 : decode cX3_readCommand 299 = .ok (.aload_n 0, 1) := dk_42 (dk_at dksX3_readCommand_12 23 rfl rfl)
theorem dX3_readCommand_300 : decode cX3_readCommand 300 = .ok (.iconst 1, 1) := dk_4 (dk_at dksX3_readCommand_13 0 rfl rfl)
theorem dX3_readCommand_301 : decode cX3_readCommand 301 = .ok (.invokevirtual 256, 3) := dk_182 1 0 (dk_at dksX3_readCommand_13 1 rfl rfl)
theorem dX3_readCommand_304 : decode cX3_readCommand 304 = .ok (.iastore, 1) := dk_79 (dk_at dksX3_readCommand_13 4 rfl rfl)
theorem dX3_readCommand_305 : decode cX3_readCommand 305 = .ok (.goto 119, 3) := dk_167 0 119 (dk_at dksX3_readCommand_13 5 rfl rfl)
theorem dX3_readCommand_308 : decode cX3_readCommand 308 = .ok (.iload_n 2, 1) := dk_28 (dk_at dksX3_readCommand_13 8 rfl rfl)
theorem dX3_readCommand_309 : decode cX3_readCommand 309 = .ok (.bipush 104, 2) := dk_16 104 (dk_at dksX3_readCommand_13 9 rfl rfl)
theorem dX3_readCommand_311 : decode cX3_readCommand 311 = .ok (.if_icmp .ne 46, 3) := dk_160 0 46 (dk_at dksX3_readCommand_13 11 rfl rfl)
theorem dX3_readCommand_314 : decode cX3_readCommand 314 = .ok (.aload_n 0, 1) := dk_42 (dk_at dksX3_readCommand_13 14 rfl rfl)
theorem dX3_readCommand_315 : decode cX3_readCommand 315 = .ok (.ldc_w 275, 3) := dk_19 1 19 (dk_at dksX3_readCommand_13 15 rfl rfl)
theorem dX3_readCommand_318 : decode cX3_readCommand 318 = .ok (.invokevirtual 252, 3) := dk_182 0 252 (dk_at dksX3_readCommand_13 18 rfl rfl)
theorem dX3_readCommand_321 : decode cX3_readCommand 321 = .ok (.aload_n 0, 1) := dk_42 (dk_at dksX3_readCommand_13 21 rfl rfl)
theorem dX3_readCommand_322 : decode cX3_readCommand 322 = .ok (.getfield 36, 3) := dk_180 0 36 (dk_at dksX3_readCommand_14 0 rfl rfl)
theorem dX3_readCommand_325 : decode cX3_readCommand 325 = .ok (.iload_n 1, 1) := dk_27 (dk_at dksX3_readCommand_14 3 rfl rfl)
theorem dX3_readCommand_326 : decode cX3_readCommand 326 = .ok (.iconst 2, 1) := dk_5 (dk_at dksX3_readCommand_14 4 rfl rfl)
theorem dX3_readCommand_327 : decode cX3_readCommand 327 = .ok (.iadd, 1) := dk_96 (dk_at dksX3_readCommand_14 5 rfl rfl)
theorem dX3_readCommand_328 : decode cX3_readCommand 328 = .ok (.aload_n 0, 1) := dk_42 (dk_at dksX3_readCommand_14 6 rfl rfl)
theorem dX3_readCommand_329 : decode cX3_readCommand 329 = .ok (.iconst 1, 1) := dk_4 (dk_at dksX3_readCommand_14 7 rfl rfl)
theorem dX3_readCommand_330 : decode cX3_readCommand 330 = .ok (.invokevirtual 256, 3) := dk_182 1 0 (dk_at dksX3_readCommand_14 8 rfl rfl)
theorem dX3_readCommand_333 : decode cX3_readCommand 333 = .ok (.iastore, 1) := dk_79 (dk_at dksX3_readCommand_14 11 rfl rfl)
theorem dX3_readCommand_334 : decode cX3_readCommand 334 = .ok (.aload_n 0, 1) := dk_42 (dk_at dksX3_readCommand_14 12 rfl rfl)
theorem dX3_readCommand_335 : decode cX3_readCommand 335 = .ok (.ldc_w 277, 3) := dk_19 1 21 (dk_at dksX3_readCommand_14 13 rfl rfl)
theorem dX3_readCommand_338 : decode cX3_readCommand 338 = .ok (.invokevirtual 252, 3) := dk_182 0 252 (dk_at dksX3_readCommand_14 16 rfl rfl)
theorem dX3_readCommand_341 : decode cX3_readCommand 341 = .ok (.aload_n 0, 1) := dk_42 (dk_at dksX3_readCommand_14 19 rfl rfl)
theorem dX3_readCommand_342 : decode cX3_readCommand 342 = .ok (.getfield 36, 3) := dk_180 0 36 (dk_at dksX3_readCommand_14 20 rfl rfl)
theorem dX3_readCommand_345 : decode cX3_readCommand 345 = .ok (.iload_n 1, 1) := dk_27 (dk_at dksX3_readCommand_14 23 rfl rfl)
theorem dX3_readCommand_346 : decode cX3_readCommand 346 = .ok (.iconst 3, 1) := dk_6 (dk_at dksX3_readCommand_15 0 rfl rfl)
theorem dX3_readCommand_347 : decode cX3_readCommand 347 = .ok (.iadd, 1) := dk_96 (dk_at dksX3_readCommand_15 1 rfl rfl)
theorem dX3_readCommand_348 : decode cX3_readCommand 348 = .ok (.aload_n 0, 1) := dk_42 (dk_at dksX3_readCommand_15 2 rfl rfl)
theorem dX3_readCommand_349 : decode cX3_readCommand 349 = .ok (.iconst 3, 1) := dk_6 (dk_at dksX3_readCommand_15 3 rfl rfl)
theorem dX3_readCommand_350 : decode cX3_readCommand 350 = .ok (.invokevirtual 256, 3) := dk_182 1 0 (dk_at dksX3_readCommand_15 4 rfl rfl)
theorem dX3_readCommand_353 : decode cX3_readCommand 353 = .ok (.iastore, 1) := dk_79 (dk_at dksX3_readCommand_15 7 rfl rfl)
theorem dX3_readCommand_354 : decode cX3_readCommand 354 = .ok (.goto 70, 3) := dk_167 0 70 (dk_at dksX3_readCommand_15 8 rfl rfl)
theorem dX3_readCommand_357 : decode cX3_readCommand 357 = .ok (.iload_n 2, 1) := dk_28 (dk_at dksX3_readCommand_15 11 rfl rfl)
theorem dX3_readCommand_358 : decode cX3_readCommand 358 = .ok (.bipush 114, 2) := dk_16 114 (dk_at dksX3_readCommand_15 12 rfl rfl)
theorem dX3_readCommand_360 : decode cX3_readCommand 360 = .ok (.if_icmp .ne 46, 3) := dk_160 0 46 (dk_at dksX3_readCommand_15 14 rfl rfl)
theorem dX3_readCommand_363 : decode cX3_readCommand 363 = .ok (.aload_n 0, 1) := dk_42 (dk_at dksX3_readCommand_15 17 rfl rfl)
theorem dX3_readCommand_364 : decode cX3_readCommand 364 = .ok (.ldc_w 279, 3) := dk_19 1 23 (dk_at dksX3_readCommand_15 18 rfl rfl)
theorem dX3_readCommand_367 : decode cX3_readCommand 367 = .ok (.invokevirtual 252, 3) := dk_182 0 252 (dk_at dksX3_readCommand_15 21 rfl rfl)
theorem dX3_readCommand_370 : decode cX3_readCommand 370 = .ok (.aload_n 0, 1) := dk_42 (dk_at dksX3_readCommand_16 0 rfl rfl)
theorem dX3_readCommand_371 : decode cX3_readCommand 371 = .ok (.getfield 36, 3) := dk_180 0 36 (dk_at dksX3_readCommand_16 1 rfl rfl)
theorem dX3_readCommand_374 : decode cX3_readCommand 374 = .ok (.iload_n 1, 1) := dk_27 (dk_at dksX3_readCommand_16 4 rfl rfl)
theorem dX3_readCommand_375 : decode cX3_readCommand 375 = .ok (.iconst 2, 1) := dk_5 (dk_at dksX3_readCommand_16 5 rfl rfl)
theorem dX3_readCommand_376 : decode cX3_readCommand 376 = .ok (.iadd, 1) := dk_96 (dk_at dksX3_readCommand_16 6 rfl rfl)
theorem dX3_readCommand_377 : decode cX3_readCommand 377 = .ok (.aload_n 0, 1) := dk_42 (dk_at dksX3_readCommand_16 7 rfl rfl)
theorem dX3_readCommand_378 : decode cX3_readCommand 378 = .ok (.iconst 3, 1) := dk_6 (dk_at dksX3_readCommand_16 8 rfl rfl)
theorem dX3_readCommand_379 : decode cX3_readCommand 379 = .ok (.invokevirtual 256, 3) := dk_182 1 0 (dk_at dksX3_readCommand_16 9 rfl rfl)
theorem dX3_readCommand_382 : decode cX3_readCommand 382 = .ok (.iastore, 1) := dk_79 (dk_at dksX3_readCommand_16 12 rfl rfl)
theorem dX3_readCommand_383 : decode cX3_readCommand 383 = .ok (.aload_n 0, 1) := dk_42 (dk_at dksX3_readCommand_16 13 rfl rfl)
theorem dX3_readCommand_384 : decode cX3_readCommand 384 = .ok (.ldc_w 281, 3) := dk_19 1 25 (dk_at dksX3_readCommand_16 14 rfl rfl)
theorem dX3_readCommand_387 : decode cX3_readCommand 387 = .ok (.invokevirtual 252, 3) := dk_182 0 252 (dk_at dksX3_readCommand_16 17 rfl rfl)
theorem dX3_readCommand_390 : decode cX3_readCommand 390 = .ok (.aload_n 0, 1) := dk_42 (dk_at dksX3_readCommand_16 20 rfl rfl)
theorem dX3_readCommand_391 : decode cX3_readCommand 391 = .ok (.getfield 36, 3) := dk_180 0 36 (dk_at dksX3_readCommand_16 21 rfl rfl)
theorem dX3_readCommand_394 : decode cX3_readCommand 394 = .ok (.iload_n 1, 1) := dk_27 (dk_at dksX3_readCommand_17 0 rfl rfl)
theorem dX3_readCommand_395 : decode cX3_readCommand 395 = .ok (.iconst 3, 1) := dk_6 (dk_at dksX3_readCommand_17 1 rfl rfl)
theorem dX3_readCommand_396 : decode cX3_readCommand 396 = .ok (.iadd, 1) := dk_96 (dk_at dksX3_readCommand_17 2 rfl rfl)
theorem dX3_readCommand_397 : decode cX3_readCommand 397 = .ok (.aload_n 0, 1) := dk_42 (dk_at dksX3_readCommand_17 3 rfl rfl)
theorem dX3_readCommand_398 : decode cX3_readCommand 398 = .ok (.iconst 3, 1) := dk_6 (dk_at dksX3_readCommand_17 4 rfl rfl)
theorem dX3_readCommand_399 : decode cX3_readCommand 399 = .ok (.invokevirtual 256, 3) := dk_182 1 0 (dk_at dksX3_readCommand_17 5 rfl rfl)
theorem dX3_readCommand_402 : decode cX3_readCommand 402 = .ok (.iastore, 1) := dk_79 (dk_at dksX3_readCommand_17 8 rfl rfl)
theorem dX3_readCommand_403 : decode cX3_readCommand 403 = .ok (.goto 21, 3) := dk_167 0 21 (dk_at dksX3_readCommand_17 9 rfl rfl)
theorem dX3_readCommand_406 : decode cX3_readCommand 406 = .ok (.aload_n 0, 1) := dk_42 (dk_at dksX3_readCommand_17 12 rfl rfl)
theorem dX3_readCommand_407 : decode cX3_readCommand 407 = .ok (.iload_n 2, 1) := dk_28 (dk_at dksX3_readCommand_17 13 rfl rfl)
theorem dX3_readCommand_408 : decode cX3_readCommand 408 = .ok (.bipush 109, 2) := dk_16 109 (dk_at dksX3_readCommand_17 14 rfl rfl)
theorem dX3_readCommand_410 : decode cX3_readCommand 410 = .ok (.if_icmp .ne 9, 3) := dk_160 0 9 (dk_at dksX3_readCommand_17 16 rfl rfl)
theorem dX3_readCommand_413 : decode cX3_readCommand 413 = .ok (.ldc_w 283, 3) := dk_19 1 27 (dk_at dksX3_readCommand_17 19 rfl rfl)
theorem dX3_readCommand_416 : decode cX3_readCommand 416 = .ok (.goto 5, 3) := dk_167 0 5 (dk_at dksX3_readCommand_18 0 rfl rfl)
theorem dX3_readCommand_419 : decode cX3_readCommand 419 = .ok (.ldc 250, 2) := dk_18 250 (dk_at dksX3_readCommand_18 3 rfl rfl)
theorem dX3_readCommand_421 : decode cX3_readCommand 421 = .ok (.invokevirtual 252, 3) := dk_182 0 252 (dk_at dksX3_readCommand_18 5 rfl rfl)
theorem dX3_readCommand_424 : decode cX3_readCommand 424 = .ok (.return_, 1) := dk_177 (dk_at dksX3_readCommand_18 8 rfl rfl)
abbrev cX3_behind : ByteArray := prog_10_method_100_code
def yX3_behind : MethodName := ⟨RX3, "behind", "(I)I"⟩
def dkwX3_behind_1 : List UInt8 := [167, 0, 4, 2, 172]
abbrev dktX3_behind_1 : List UInt8 := dkwX3_behind_1 ++ []
def dkwX3_behind_0 : List UInt8 := [42, 180, 0, 223, 27, 96, 42, 180, 0, 220, 162, 0, 17, 42, 180, 0, 26, 42, 180, 0, 223, 27, 96, 52]
abbrev dktX3_behind_0 : List UInt8 := dkwX3_behind_0 ++ dktX3_behind_1
theorem dksX3_behind_0 : cX3_behind.data.toList.drop 0 = dktX3_behind_0 := by decide +kernel
theorem dksX3_behind_1 : cX3_behind.data.toList.drop 24 = dktX3_behind_1 := dk_seg dksX3_behind_0 24 rfl rfl
theorem dX3_behind_0 : decode cX3_behind 0 = .ok (.aload_n 0, 1) := dk_42 (dk_at dksX3_behind_0 0 rfl rfl)
theorem dX3_behind_1 : decode cX3_behind 1 = .ok (.getfield 223, 3) := dk_180 0 223 (dk_at dksX3_behind_0 1 rfl rfl)
theorem dX3_behind_4 : decode cX3_behind 4 = .ok (.iload_n 1, 1) := dk_27 (dk_at dksX3_behind_0 4 rfl rfl)
theorem dX3_behind_5 : decode cX3_behind 5 = .ok (.iadd, 1) := dk_96 (dk_at dksX3_behind_0 5 rfl rfl)
theorem dX3_behind_6 : decode cX3_behind 6 = .ok (.aload_n 0, 1) := dk_42 (dk_at dksX3_behind_0 6 rfl rfl)
theorem dX3_behind_7 : decode cX3_behind 7 = .ok (.getfield 220, 3) := dk_180 0 220 (dk_at dksX3_behind_0 7 rfl rfl)
theorem dX3_behind_10 : decode cX3_behind 10 = .ok (.if_icmp .ge 17, 3) := dk_162 0 17 (dk_at dksX3_behind_0 10 rfl rfl)
theorem dX3_behind_13 : decode cX3_behind 13 = .ok (.aload_n 0, 1) := dk_42 (dk_at dksX3_behind_0 13 rfl rfl)
theorem dX3_behind_14 : decode cX3_behind 14 = .ok (.getfield 26, 3) := dk_180 0 26 (dk_at dksX3_behind_0 14 rfl rfl)
theorem dX3_behind_17 : decode cX3_behind 17 = .ok (.aload_n 0, 1) := dk_42 (dk_at dksX3_behind_0 17 rfl rfl)
theorem dX3_behind_18 : decode cX3_behind 18 = .ok (.getfield 223, 3) := dk_180 0 223 (dk_at dksX3_behind_0 18 rfl rfl)
theorem dX3_behind_21 : decode cX3_behind 21 = .ok (.iload_n 1, 1) := dk_27 (dk_at dksX3_behind_0 21 rfl rfl)
theorem dX3_behind_22 : decode cX3_behind 22 = .ok (.iadd, 1) := dk_96 (dk_at dksX3_behind_0 22 rfl rfl)
theorem dX3_behind_23 : decode cX3_behind 23 = .ok (.caload, 1) := dk_52 (dk_at dksX3_behind_0 23 rfl rfl)
theorem dX3_behind_24 : decode cX3_behind 24 = .ok (.goto 4, 3) := dk_167 0 4 (dk_at dksX3_behind_1 0 rfl rfl)
theorem dX3_behind_27 : decode cX3_behind 27 = .ok (.iconst (-1), 1) := dk_2 (dk_at dksX3_behind_1 3 rfl rfl)
theorem dX3_behind_28 : decode cX3_behind 28 = .ok (.ireturn, 1) := dk_172 (dk_at dksX3_behind_1 4 rfl rfl)
abbrev cX3_skip : ByteArray := prog_10_method_101_code
def yX3_skip : MethodName := ⟨RX3, "skip", "(Ljava/lang/String;)V"⟩
def dkwX3_skip_2 : List UInt8 := [153, 0, 7, 3, 167, 0, 4, 4, 96, 181, 0, 223, 132, 2, 1, 167, 255, 195, 177]
abbrev dktX3_skip_2 : List UInt8 := dkwX3_skip_2 ++ []
def dkwX3_skip_1 : List UInt8 := [28, 182, 0, 237, 159, 0, 7, 4, 167, 0, 4, 3, 181, 0, 230, 42, 89, 180, 0, 223, 42, 180, 0, 230]
abbrev dktX3_skip_1 : List UInt8 := dkwX3_skip_1 ++ dktX3_skip_2
def dkwX3_skip_0 : List UInt8 := [3, 61, 28, 43, 182, 0, 226, 162, 0, 59, 42, 180, 0, 230, 154, 0, 52, 42, 42, 3, 182, 0, 234, 43]
abbrev dktX3_skip_0 : List UInt8 := dkwX3_skip_0 ++ dktX3_skip_1
theorem dksX3_skip_0 : cX3_skip.data.toList.drop 0 = dktX3_skip_0 := by decide +kernel
theorem dksX3_skip_1 : cX3_skip.data.toList.drop 24 = dktX3_skip_1 := dk_seg dksX3_skip_0 24 rfl rfl
theorem dksX3_skip_2 : cX3_skip.data.toList.drop 48 = dktX3_skip_2 := dk_seg dksX3_skip_1 24 rfl rfl
theorem dX3_skip_0 : decode cX3_skip 0 = .ok (.iconst 0, 1) := dk_3 (dk_at dksX3_skip_0 0 rfl rfl)
theorem dX3_skip_1 : decode cX3_skip 1 = .ok (.istore_n 2, 1) := dk_61 (dk_at dksX3_skip_0 1 rfl rfl)
theorem dX3_skip_2 : decode cX3_skip 2 = .ok (.iload_n 2, 1) := dk_28 (dk_at dksX3_skip_0 2 rfl rfl)
theorem dX3_skip_3 : decode cX3_skip 3 = .ok (.aload_n 1, 1) := dk_43 (dk_at dksX3_skip_0 3 rfl rfl)
theorem dX3_skip_4 : decode cX3_skip 4 = .ok (.invokevirtual 226, 3) := dk_182 0 226 (dk_at dksX3_skip_0 4 rfl rfl)
theorem dX3_skip_7 : decode cX3_skip 7 = .ok (.if_icmp .ge 59, 3) := dk_162 0 59 (dk_at dksX3_skip_0 7 rfl rfl)
theorem dX3_skip_10 : decode cX3_skip 10 = .ok (.aload_n 0, 1) := dk_42 (dk_at dksX3_skip_0 10 rfl rfl)
theorem dX3_skip_11 : decode cX3_skip 11 = .ok (.getfield 230, 3) := dk_180 0 230 (dk_at dksX3_skip_0 11 rfl rfl)
theorem dX3_skip_14 : decode cX3_skip 14 = .ok (.ifCond .ne 52, 3) := dk_154 0 52 (dk_at dksX3_skip_0 14 rfl rfl)
theorem dX3_skip_17 : decode cX3_skip 17 = .ok (.aload_n 0, 1) := dk_42 (dk_at dksX3_skip_0 17 rfl rfl)
theorem dX3_skip_18 : decode cX3_skip 18 = .ok (.aload_n 0, 1) := dk_42 (dk_at dksX3_skip_0 18 rfl rfl)
theorem dX3_skip_19 : decode cX3_skip 19 = .ok (.iconst 0, 1) := dk_3 (dk_at dksX3_skip_0 19 rfl rfl)
theorem dX3_skip_20 : decode cX3_skip 20 = .ok (.invokevirtual 234, 3) := dk_182 0 234 (dk_at dksX3_skip_0 20 rfl rfl)
theorem dX3_skip_23 : decode cX3_skip 23 = .ok (.aload_n 1, 1) := dk_43 (dk_at dksX3_skip_0 23 rfl rfl)
theorem dX3_skip_24 : decode cX3_skip 24 = .ok (.iload_n 2, 1) := dk_28 (dk_at dksX3_skip_1 0 rfl rfl)
theorem dX3_skip_25 : decode cX3_skip 25 = .ok (.invokevirtual 237, 3) := dk_182 0 237 (dk_at dksX3_skip_1 1 rfl rfl)
theorem dX3_skip_28 : decode cX3_skip 28 = .ok (.if_icmp .eq 7, 3) := dk_159 0 7 (dk_at dksX3_skip_1 4 rfl rfl)
theorem dX3_skip_31 : decode cX3_skip 31 = .ok (.iconst 1, 1) := dk_4 (dk_at dksX3_skip_1 7 rfl rfl)
theorem dX3_skip_32 : decode cX3_skip 32 = .ok (.goto 4, 3) := dk_167 0 4 (dk_at dksX3_skip_1 8 rfl rfl)
theorem dX3_skip_35 : decode cX3_skip 35 = .ok (.iconst 0, 1) := dk_3 (dk_at dksX3_skip_1 11 rfl rfl)
theorem dX3_skip_36 : decode cX3_skip 36 = .ok (.putfield 230, 3) := dk_181 0 230 (dk_at dksX3_skip_1 12 rfl rfl)
theorem dX3_skip_39 : decode cX3_skip 39 = .ok (.aload_n 0, 1) := dk_42 (dk_at dksX3_skip_1 15 rfl rfl)
theorem dX3_skip_40 : decode cX3_skip 40 = .ok (.dup, 1) := dk_89 (dk_at dksX3_skip_1 16 rfl rfl)
theorem dX3_skip_41 : decode cX3_skip 41 = .ok (.getfield 223, 3) := dk_180 0 223 (dk_at dksX3_skip_1 17 rfl rfl)
theorem dX3_skip_44 : decode cX3_skip 44 = .ok (.aload_n 0, 1) := dk_42 (dk_at dksX3_skip_1 20 rfl rfl)
theorem dX3_skip_45 : decode cX3_skip 45 = .ok (.getfield 230, 3) := dk_180 0 230 (dk_at dksX3_skip_1 21 rfl rfl)
theorem dX3_skip_48 : decode cX3_skip 48 = .ok (.ifCond .eq 7, 3) := dk_153 0 7 (dk_at dksX3_skip_2 0 rfl rfl)
theorem dX3_skip_51 : decode cX3_skip 51 = .ok (.iconst 0, 1) := dk_3 (dk_at dksX3_skip_2 3 rfl rfl)
theorem dX3_skip_52 : decode cX3_skip 52 = .ok (.goto 4, 3) := dk_167 0 4 (dk_at dksX3_skip_2 4 rfl rfl)
theorem dX3_skip_55 : decode cX3_skip 55 = .ok (.iconst 1, 1) := dk_4 (dk_at dksX3_skip_2 7 rfl rfl)
theorem dX3_skip_56 : decode cX3_skip 56 = .ok (.iadd, 1) := dk_96 (dk_at dksX3_skip_2 8 rfl rfl)
theorem dX3_skip_57 : decode cX3_skip 57 = .ok (.putfield 223, 3) := dk_181 0 223 (dk_at dksX3_skip_2 9 rfl rfl)
theorem dX3_skip_60 : decode cX3_skip 60 = .ok (.iinc 2 1, 3) := dk_132 2 1 (dk_at dksX3_skip_2 12 rfl rfl)
theorem dX3_skip_63 : decode cX3_skip 63 = .ok (.goto (-61), 3) := dk_167 255 195 (dk_at dksX3_skip_2 15 rfl rfl)
theorem dX3_skip_66 : decode cX3_skip 66 = .ok (.return_, 1) := dk_177 (dk_at dksX3_skip_2 18 rfl rfl)
abbrev cX3_readNumber : ByteArray := prog_10_method_103_code
def yX3_readNumber : MethodName := ⟨RX3, "readNumber", "(I)I"⟩
def dkwX3_readNumber_3 : List UInt8 := [167, 255, 213, 28, 172]
abbrev dktX3_readNumber_3 : List UInt8 := dkwX3_readNumber_3 ++ []
def dkwX3_readNumber_2 : List UInt8 := [180, 0, 223, 52, 96, 16, 48, 100, 61, 42, 89, 180, 0, 223, 4, 96, 181, 0, 223, 132, 3, 1]
abbrev dktX3_readNumber_2 : List UInt8 := dkwX3_readNumber_2 ++ dktX3_readNumber_3
def dkwX3_readNumber_1 : List UInt8 := [61, 3, 62, 29, 27, 162, 0, 44, 42, 182, 0, 241, 153, 0, 37, 16, 10, 28, 104, 42, 180, 0, 26, 42]
abbrev dktX3_readNumber_1 : List UInt8 := dkwX3_readNumber_1 ++ dktX3_readNumber_2
def dkwX3_readNumber_0 : List UInt8 := [42, 42, 180, 0, 230, 154, 0, 10, 42, 182, 0, 241, 154, 0, 7, 4, 167, 0, 4, 3, 181, 0, 230, 3]
abbrev dktX3_readNumber_0 : List UInt8 := dkwX3_readNumber_0 ++ dktX3_readNumber_1
theorem dksX3_readNumber_0 : cX3_readNumber.data.toList.drop 0 = dktX3_readNumber_0 := by decide +kernel
theorem dksX3_readNumber_1 : cX3_readNumber.data.toList.drop 24 = dktX3_readNumber_1 := dk_seg dksX3_readNumber_0 24 rfl rfl
theorem dksX3_readNumber_2 : cX3_readNumber.data.toList.drop 48 = dktX3_readNumber_2 := dk_seg dksX3_readNumber_1 24 rfl rfl
theorem dksX3_readNumber_3 : cX3_readNumber.data.toList.drop 70 = dktX3_readNumber_3 := dk_seg dksX3_readNumber_2 22 rfl rfl
theorem dX3_readNumber_0 : decode cX3_readNumber 0 = .ok (.aload_n 0, 1) := dk_42 (dk_at dksX3_readNumber_0 0 rfl rfl)
theorem dX3_readNumber_1 : decode cX3_readNumber 1 = .ok (.aload_n 0, 1) := dk_42 (dk_at dksX3_readNumber_0 1 rfl rfl)
theorem dX3_readNumber_2 : decode cX3_readNumber 2 = .ok (.getfield 230, 3) := dk_180 0 230 (dk_at dksX3_readNumber_0 2 rfl rfl)
theorem dX3_readNumber_5 : decode cX3_readNumber 5 = .ok (.ifCond .ne 10, 3) := dk_154 0 10 (dk_at dksX3_readNumber_0 5 rfl rfl)
theorem dX3_readNumber_8 : decode cX3_readNumber 8 = .ok (.aload_n 0, 1) := dk_42 (dk_at dksX3_readNumber_0 8 rfl rfl)
theorem dX3_readNumber_9 : decode cX3_readNumber 9 = .ok (.invokevirtual 241, 3) := dk_182 0 241 (dk_at dksX3_readNumber_0 9 rfl rfl)
theorem dX3_readNumber_12 : decode cX3_readNumber 12 = .ok (.ifCond .ne 7, 3) := dk_154 0 7 (dk_at dksX3_readNumber_0 12 rfl rfl)
theorem dX3_readNumber_15 : decode cX3_readNumber 15 = .ok (.iconst 1, 1) := dk_4 (dk_at dksX3_readNumber_0 15 rfl rfl)
theorem dX3_readNumber_16 : decode cX3_readNumber 16 = .ok (.goto 4, 3) := dk_167 0 4 (dk_at dksX3_readNumber_0 16 rfl rfl)
theorem dX3_readNumber_19 : decode cX3_readNumber 19 = .ok (.iconst 0, 1) := dk_3 (dk_at dksX3_readNumber_0 19 rfl rfl)
theorem dX3_readNumber_20 : decode cX3_readNumber 20 = .ok (.putfield 230, 3) := dk_181 0 230 (dk_at dksX3_readNumber_0 20 rfl rfl)
theorem dX3_readNumber_23 : decode cX3_readNumber 23 = .ok (.iconst 0, 1) := dk_3 (dk_at dksX3_readNumber_0 23 rfl rfl)
theorem dX3_readNumber_24 : decode cX3_readNumber 24 = .ok (.istore_n 2, 1) := dk_61 (dk_at dksX3_readNumber_1 0 rfl rfl)
theorem dX3_readNumber_25 : decode cX3_readNumber 25 = .ok (.iconst 0, 1) := dk_3 (dk_at dksX3_readNumber_1 1 rfl rfl)
theorem dX3_readNumber_26 : decode cX3_readNumber 26 = .ok (.istore_n 3, 1) := dk_62 (dk_at dksX3_readNumber_1 2 rfl rfl)
theorem dX3_readNumber_27 : decode cX3_readNumber 27 = .ok (.iload_n 3, 1) := dk_29 (dk_at dksX3_readNumber_1 3 rfl rfl)
theorem dX3_readNumber_28 : decode cX3_readNumber 28 = .ok (.iload_n 1, 1) := dk_27 (dk_at dksX3_readNumber_1 4 rfl rfl)
theorem dX3_readNumber_29 : decode cX3_readNumber 29 = .ok (.if_icmp .ge 44, 3) := dk_162 0 44 (dk_at dksX3_readNumber_1 5 rfl rfl)
theorem dX3_readNumber_32 : decode cX3_readNumber 32 = .ok (.aload_n 0, 1) := dk_42 (dk_at dksX3_readNumber_1 8 rfl rfl)
theorem dX3_readNumber_33 : decode cX3_readNumber 33 = .ok (.invokevirtual 241, 3) := dk_182 0 241 (dk_at dksX3_readNumber_1 9 rfl rfl)
theorem dX3_readNumber_36 : decode cX3_readNumber 36 = .ok (.ifCond .eq 37, 3) := dk_153 0 37 (dk_at dksX3_readNumber_1 12 rfl rfl)
theorem dX3_readNumber_39 : decode cX3_readNumber 39 = .ok (.bipush 10, 2) := dk_16 10 (dk_at dksX3_readNumber_1 15 rfl rfl)
theorem dX3_readNumber_41 : decode cX3_readNumber 41 = .ok (.iload_n 2, 1) := dk_28 (dk_at dksX3_readNumber_1 17 rfl rfl)
theorem dX3_readNumber_42 : decode cX3_readNumber 42 = .ok (.imul, 1) := dk_104 (dk_at dksX3_readNumber_1 18 rfl rfl)
theorem dX3_readNumber_43 : decode cX3_readNumber 43 = .ok (.aload_n 0, 1) := dk_42 (dk_at dksX3_readNumber_1 19 rfl rfl)
theorem dX3_readNumber_44 : decode cX3_readNumber 44 = .ok (.getfield 26, 3) := dk_180 0 26 (dk_at dksX3_readNumber_1 20 rfl rfl)
theorem dX3_readNumber_47 : decode cX3_readNumber 47 = .ok (.aload_n 0, 1) := dk_42 (dk_at dksX3_readNumber_1 23 rfl rfl)
theorem dX3_readNumber_48 : decode cX3_readNumber 48 = .ok (.getfield 223, 3) := dk_180 0 223 (dk_at dksX3_readNumber_2 0 rfl rfl)
theorem dX3_readNumber_51 : decode cX3_readNumber 51 = .ok (.caload, 1) := dk_52 (dk_at dksX3_readNumber_2 3 rfl rfl)
theorem dX3_readNumber_52 : decode cX3_readNumber 52 = .ok (.iadd, 1) := dk_96 (dk_at dksX3_readNumber_2 4 rfl rfl)
theorem dX3_readNumber_53 : decode cX3_readNumber 53 = .ok (.bipush 48, 2) := dk_16 48 (dk_at dksX3_readNumber_2 5 rfl rfl)
theorem dX3_readNumber_55 : decode cX3_readNumber 55 = .ok (.isub, 1) := dk_100 (dk_at dksX3_readNumber_2 7 rfl rfl)
theorem dX3_readNumber_56 : decode cX3_readNumber 56 = .ok (.istore_n 2, 1) := dk_61 (dk_at dksX3_readNumber_2 8 rfl rfl)
theorem dX3_readNumber_57 : decode cX3_readNumber 57 = .ok (.aload_n 0, 1) := dk_42 (dk_at dksX3_readNumber_2 9 rfl rfl)
theorem dX3_readNumber_58 : decode cX3_readNumber 58 = .ok (.dup, 1) := dk_89 (dk_at dksX3_readNumber_2 10 rfl rfl)
theorem dX3_readNumber_59 : decode cX3_readNumber 59 = .ok (.getfield 223, 3) := dk_180 0 223 (dk_at dksX3_readNumber_2 11 rfl rfl)
theorem dX3_readNumber_62 : decode cX3_readNumber 62 = .ok (.iconst 1, 1) := dk_4 (dk_at dksX3_readNumber_2 14 rfl rfl)
theorem dX3_readNumber_63 : decode cX3_readNumber 63 = .ok (.iadd, 1) := dk_96 (dk_at dksX3_readNumber_2 15 rfl rfl)
theorem dX3_readNumber_64 : decode cX3_readNumber 64 = .ok (.putfield 223, 3) := dk_181 0 223 (dk_at dksX3_readNumber_2 16 rfl rfl)
theorem dX3_readNumber_67 : decode cX3_readNumber 67 = .ok (.iinc 3 1, 3) := dk_132 3 1 (dk_at dksX3_readNumber_2 19 rfl rfl)
theorem dX3_readNumber_70 : decode cX3_readNumber 70 = .ok (.goto (-43), 3) := dk_167 255 213 (dk_at dksX3_readNumber_3 0 rfl rfl)
theorem dX3_readNumber_73 : decode cX3_readNumber 73 = .ok (.iload_n 2, 1) := dk_28 (dk_at dksX3_readNumber_3 3 rfl rfl)
theorem dX3_readNumber_74 : decode cX3_readNumber 74 = .ok (.ireturn, 1) := dk_172 (dk_at dksX3_readNumber_3 4 rfl rfl)
abbrev cX3_isDigit : ByteArray := prog_10_method_102_code
def yX3_isDigit : MethodName := ⟨RX3, "isDigit", "()Z"⟩
def dkwX3_isDigit_1 : List UInt8 := [167, 0, 4, 3, 172]
abbrev dktX3_isDigit_1 : List UInt8 := dkwX3_isDigit_1 ++ []
def dkwX3_isDigit_0 : List UInt8 := [42, 180, 0, 230, 154, 0, 22, 42, 3, 182, 0, 234, 16, 48, 16, 57, 184, 0, 51, 153, 0, 7, 4]
abbrev dktX3_isDigit_0 : List UInt8 := dkwX3_isDigit_0 ++ dktX3_isDigit_1
theorem dksX3_isDigit_0 : cX3_isDigit.data.toList.drop 0 = dktX3_isDigit_0 := by decide +kernel
theorem dksX3_isDigit_1 : cX3_isDigit.data.toList.drop 23 = dktX3_isDigit_1 := dk_seg dksX3_isDigit_0 23 rfl rfl
theorem dX3_isDigit_0 : decode cX3_isDigit 0 = .ok (.aload_n 0, 1) := dk_42 (dk_at dksX3_isDigit_0 0 rfl rfl)
theorem dX3_isDigit_1 : decode cX3_isDigit 1 = .ok (.getfield 230, 3) := dk_180 0 230 (dk_at dksX3_isDigit_0 1 rfl rfl)
theorem dX3_isDigit_4 : decode cX3_isDigit 4 = .ok (.ifCond .ne 22, 3) := dk_154 0 22 (dk_at dksX3_isDigit_0 4 rfl rfl)
theorem dX3_isDigit_7 : decode cX3_isDigit 7 = .ok (.aload_n 0, 1) := dk_42 (dk_at dksX3_isDigit_0 7 rfl rfl)
theorem dX3_isDigit_8 : decode cX3_isDigit 8 = .ok (.iconst 0, 1) := dk_3 (dk_at dksX3_isDigit_0 8 rfl rfl)
theorem dX3_isDigit_9 : decode cX3_isDigit 9 = .ok (.invokevirtual 234, 3) := dk_182 0 234 (dk_at dksX3_isDigit_0 9 rfl rfl)
theorem dX3_isDigit_12 : decode cX3_isDigit 12 = .ok (.bipush 48, 2) := dk_16 48 (dk_at dksX3_isDigit_0 12 rfl rfl)
theorem dX3_isDigit_14 : decode cX3_isDigit 14 = .ok (.bipush 57, 2) := dk_16 57 (dk_at dksX3_isDigit_0 14 rfl rfl)
theorem dX3_isDigit_16 : decode cX3_isDigit 16 = .ok (.invokestatic 51, 3) := dk_184 0 51 (dk_at dksX3_isDigit_0 16 rfl rfl)
theorem dX3_isDigit_19 : decode cX3_isDigit 19 = .ok (.ifCond .eq 7, 3) := dk_153 0 7 (dk_at dksX3_isDigit_0 19 rfl rfl)
theorem dX3_isDigit_22 : decode cX3_isDigit 22 = .ok (.iconst 1, 1) := dk_4 (dk_at dksX3_isDigit_0 22 rfl rfl)
theorem dX3_isDigit_23 : decode cX3_isDigit 23 = .ok (.goto 4, 3) := dk_167 0 4 (dk_at dksX3_isDigit_1 0 rfl rfl)
theorem dX3_isDigit_26 : decode cX3_isDigit 26 = .ok (.iconst 0, 1) := dk_3 (dk_at dksX3_isDigit_1 3 rfl rfl)
theorem dX3_isDigit_27 : decode cX3_isDigit 27 = .ok (.ireturn, 1) := dk_172 (dk_at dksX3_isDigit_1 4 rfl rfl)
abbrev cX3_readShape : ByteArray := prog_10_method_104_code
def yX3_readShape : MethodName := ⟨RX3, "readShape", "(Z)I"⟩
def dkwX3_readShape_2 : List UInt8 := [180, 0, 230, 153, 0, 7, 3, 167, 0, 4, 4, 96, 181, 0, 223, 28, 172]
abbrev dktX3_readShape_2 : List UInt8 := dkwX3_readShape_2 ++ []
def dkwX3_readShape_1 : List UInt8 := [153, 0, 9, 28, 16, 42, 159, 0, 7, 4, 167, 0, 4, 3, 181, 0, 230, 42, 89, 180, 0, 223, 42]
abbrev dktX3_readShape_1 : List UInt8 := dkwX3_readShape_1 ++ dktX3_readShape_2
def dkwX3_readShape_0 : List UInt8 := [42, 3, 182, 0, 234, 61, 42, 42, 180, 0, 230, 154, 0, 20, 28, 184, 0, 79, 154, 0, 17, 27]
abbrev dktX3_readShape_0 : List UInt8 := dkwX3_readShape_0 ++ dktX3_readShape_1
theorem dksX3_readShape_0 : cX3_readShape.data.toList.drop 0 = dktX3_readShape_0 := by decide +kernel
theorem dksX3_readShape_1 : cX3_readShape.data.toList.drop 22 = dktX3_readShape_1 := dk_seg dksX3_readShape_0 22 rfl rfl
theorem dksX3_readShape_2 : cX3_readShape.data.toList.drop 45 = dktX3_readShape_2 := dk_seg dksX3_readShape_1 23 rfl rfl
theorem dX3_readShape_0 : decode cX3_readShape 0 = .ok (.aload_n 0, 1) := dk_42 (dk_at dksX3_readShape_0 0 rfl rfl)
theorem dX3_readShape_1 : decode cX3_readShape 1 = .ok (.iconst 0, 1) := dk_3 (dk_at dksX3_readShape_0 1 rfl rfl)
theorem dX3_readShape_2 : decode cX3_readShape 2 = .ok (.invokevirtual 234, 3) := dk_182 0 234 (dk_at dksX3_readShape_0 2 rfl rfl)
theorem dX3_readShape_5 : decode cX3_readShape 5 = .ok (.istore_n 2, 1) := dk_61 (dk_at dksX3_readShape_0 5 rfl rfl)
theorem dX3_readShape_6 : decode cX3_readShape 6 = .ok (.aload_n 0, 1) := dk_42 (dk_at dksX3_readShape_0 6 rfl rfl)
theorem dX3_readShape_7 : decode cX3_readShape 7 = .ok (.aload_n 0, 1) := dk_42 (dk_at dksX3_readShape_0 7 rfl rfl)
theorem dX3_readShape_8 : decode cX3_readShape 8 = .ok (.getfield 230, 3) := dk_180 0 230 (dk_at dksX3_readShape_0 8 rfl rfl)
theorem dX3_readShape_11 : decode cX3_readShape 11 = .ok (.ifCond .ne 20, 3) := dk_154 0 20 (dk_at dksX3_readShape_0 11 rfl rfl)
theorem dX3_readShape_14 : decode cX3_readShape 14 = .ok (.iload_n 2, 1) := dk_28 (dk_at dksX3_readShape_0 14 rfl rfl)
theorem dX3_readShape_15 : decode cX3_readShape 15 = .ok (.invokestatic 79, 3) := dk_184 0 79 (dk_at dksX3_readShape_0 15 rfl rfl)
theorem dX3_readShape_18 : decode cX3_readShape 18 = .ok (.ifCond .ne 17, 3) := dk_154 0 17 (dk_at dksX3_readShape_0 18 rfl rfl)
theorem dX3_readShape_21 : decode cX3_readShape 21 = .ok (.iload_n 1, 1) := dk_27 (dk_at dksX3_readShape_0 21 rfl rfl)
theorem dX3_readShape_22 : decode cX3_readShape 22 = .ok (.ifCond .eq 9, 3) := dk_153 0 9 (dk_at dksX3_readShape_1 0 rfl rfl)
theorem dX3_readShape_25 : decode cX3_readShape 25 = .ok (.iload_n 2, 1) := dk_28 (dk_at dksX3_readShape_1 3 rfl rfl)
theorem dX3_readShape_26 : decode cX3_readShape 26 = .ok (.bipush 42, 2) := dk_16 42 (dk_at dksX3_readShape_1 4 rfl rfl)
theorem dX3_readShape_28 : decode cX3_readShape 28 = .ok (.if_icmp .eq 7, 3) := dk_159 0 7 (dk_at dksX3_readShape_1 6 rfl rfl)
theorem dX3_readShape_31 : decode cX3_readShape 31 = .ok (.iconst 1, 1) := dk_4 (dk_at dksX3_readShape_1 9 rfl rfl)
theorem dX3_readShape_32 : decode cX3_readShape 32 = .ok (.goto 4, 3) := dk_167 0 4 (dk_at dksX3_readShape_1 10 rfl rfl)
theorem dX3_readShape_35 : decode cX3_readShape 35 = .ok (.iconst 0, 1) := dk_3 (dk_at dksX3_readShape_1 13 rfl rfl)
theorem dX3_readShape_36 : decode cX3_readShape 36 = .ok (.putfield 230, 3) := dk_181 0 230 (dk_at dksX3_readShape_1 14 rfl rfl)
theorem dX3_readShape_39 : decode cX3_readShape 39 = .ok (.aload_n 0, 1) := dk_42 (dk_at dksX3_readShape_1 17 rfl rfl)
theorem dX3_readShape_40 : decode cX3_readShape 40 = .ok (.dup, 1) := dk_89 (dk_at dksX3_readShape_1 18 rfl rfl)
theorem dX3_readShape_41 : decode cX3_readShape 41 = .ok (.getfield 223, 3) := dk_180 0 223 (dk_at dksX3_readShape_1 19 rfl rfl)
theorem dX3_readShape_44 : decode cX3_readShape 44 = .ok (.aload_n 0, 1) := dk_42 (dk_at dksX3_readShape_1 22 rfl rfl)
theorem dX3_readShape_45 : decode cX3_readShape 45 = .ok (.getfield 230, 3) := dk_180 0 230 (dk_at dksX3_readShape_2 0 rfl rfl)
theorem dX3_readShape_48 : decode cX3_readShape 48 = .ok (.ifCond .eq 7, 3) := dk_153 0 7 (dk_at dksX3_readShape_2 3 rfl rfl)
theorem dX3_readShape_51 : decode cX3_readShape 51 = .ok (.iconst 0, 1) := dk_3 (dk_at dksX3_readShape_2 6 rfl rfl)
theorem dX3_readShape_52 : decode cX3_readShape 52 = .ok (.goto 4, 3) := dk_167 0 4 (dk_at dksX3_readShape_2 7 rfl rfl)
theorem dX3_readShape_55 : decode cX3_readShape 55 = .ok (.iconst 1, 1) := dk_4 (dk_at dksX3_readShape_2 10 rfl rfl)
theorem dX3_readShape_56 : decode cX3_readShape 56 = .ok (.iadd, 1) := dk_96 (dk_at dksX3_readShape_2 11 rfl rfl)
theorem dX3_readShape_57 : decode cX3_readShape 57 = .ok (.putfield 223, 3) := dk_181 0 223 (dk_at dksX3_readShape_2 12 rfl rfl)
theorem dX3_readShape_60 : decode cX3_readShape 60 = .ok (.iload_n 2, 1) := dk_28 (dk_at dksX3_readShape_2 15 rfl rfl)
theorem dX3_readShape_61 : decode cX3_readShape 61 = .ok (.ireturn, 1) := dk_172 (dk_at dksX3_readShape_2 16 rfl rfl)
abbrev cX3_does : ByteArray := prog_10_method_106_code
def yX3_does : MethodName := ⟨RX3, "does", "(I)V"⟩
def dkwX3_does_7 : List UInt8 := [54, 5, 167, 0, 10, 42, 4, 182, 0, 204, 54, 5, 177]
abbrev dktX3_does_7 : List UInt8 := dkwX3_does_7 ++ []
def dkwX3_does_6 : List UInt8 := [182, 0, 169, 54, 5, 167, 0, 31, 42, 29, 21, 4, 182, 0, 130, 54, 5, 167, 0, 19, 42, 182, 0, 181]
abbrev dktX3_does_6 : List UInt8 := dkwX3_does_6 ++ dktX3_does_7
def dkwX3_does_5 : List UInt8 := [182, 0, 110, 54, 5, 167, 0, 53, 42, 29, 182, 0, 146, 54, 5, 167, 0, 43, 42, 29, 21, 4]
abbrev dktX3_does_5 : List UInt8 := dkwX3_does_5 ++ dktX3_does_6
def dkwX3_does_4 : List UInt8 := [28, 29, 21, 4, 42, 180, 0, 36, 8, 27, 104, 7, 96, 46, 182, 0, 139, 54, 5, 167, 0, 63, 42, 29]
abbrev dktX3_does_4 : List UInt8 := dkwX3_does_4 ++ dktX3_does_5
def dkwX3_does_3 : List UInt8 := [42, 29, 182, 0, 175, 54, 5, 167, 0, 99, 42, 28, 29, 21, 4, 182, 0, 96, 54, 5, 167, 0, 86, 42]
abbrev dktX3_does_3 : List UInt8 := dkwX3_does_3 ++ dktX3_does_4
def dkwX3_does_2 : List UInt8 := [170, 0, 0, 0, 184, 0, 0, 0, 97, 0, 0, 0, 114, 0, 0, 0, 95, 0, 0, 0, 184, 0, 0, 0, 141, 0, 0, 0, 184, 0, 0, 0, 184, 0, 0, 0, 184, 0, 0, 0, 184, 0, 0, 0, 151, 0, 0, 0, 85, 0, 0, 0, 184, 0, 0, 0, 184, 0, 0, 0, 131, 0, 0, 0, 175, 0, 0, 0, 184, 0, 0, 0, 184, 0, 0, 0, 108, 0, 0, 0, 184, 0, 0, 0, 163]
abbrev dktX3_does_2 : List UInt8 := dkwX3_does_2 ++ dktX3_does_3
def dkwX3_does_1 : List UInt8 := [180, 0, 36, 8, 27, 104, 6, 96, 46, 54, 4, 42, 180, 0, 36, 8, 27, 104, 46]
abbrev dktX3_does_1 : List UInt8 := dkwX3_does_1 ++ dktX3_does_2
def dkwX3_does_0 : List UInt8 := [42, 180, 0, 36, 8, 27, 104, 4, 96, 46, 146, 61, 42, 180, 0, 36, 8, 27, 104, 5, 96, 46, 62, 42]
abbrev dktX3_does_0 : List UInt8 := dkwX3_does_0 ++ dktX3_does_1
theorem dksX3_does_0 : cX3_does.data.toList.drop 0 = dktX3_does_0 := by decide +kernel
theorem dksX3_does_1 : cX3_does.data.toList.drop 24 = dktX3_does_1 := dk_seg dksX3_does_0 24 rfl rfl
theorem dksX3_does_2 : cX3_does.data.toList.drop 43 = dktX3_does_2 := dk_seg dksX3_does_1 19 rfl rfl
theorem dksX3_does_3 : cX3_does.data.toList.drop 128 = dktX3_does_3 := dk_seg dksX3_does_2 85 rfl rfl
theorem dksX3_does_4 : cX3_does.data.toList.drop 152 = dktX3_does_4 := dk_seg dksX3_does_3 24 rfl rfl
theorem dksX3_does_5 : cX3_does.data.toList.drop 176 = dktX3_does_5 := dk_seg dksX3_does_4 24 rfl rfl
theorem dksX3_does_6 : cX3_does.data.toList.drop 198 = dktX3_does_6 := dk_seg dksX3_does_5 22 rfl rfl
theorem dksX3_does_7 : cX3_does.data.toList.drop 222 = dktX3_does_7 := dk_seg dksX3_does_6 24 rfl rfl
theorem dX3_does_0 : decode cX3_does 0 = .ok (.aload_n 0, 1) := dk_42 (dk_at dksX3_does_0 0 rfl rfl)
theorem dX3_does_1 : decode cX3_does 1 = .ok (.getfield 36, 3) := dk_180 0 36 (dk_at dksX3_does_0 1 rfl rfl)
theorem dX3_does_4 : decode cX3_does 4 = .ok (.iconst 5, 1) := dk_8 (dk_at dksX3_does_0 4 rfl rfl)
theorem dX3_does_5 : decode cX3_does 5 = .ok (.iload_n 1, 1) := dk_27 (dk_at dksX3_does_0 5 rfl rfl)
theorem dX3_does_6 : decode cX3_does 6 = .ok (.imul, 1) := dk_104 (dk_at dksX3_does_0 6 rfl rfl)
theorem dX3_does_7 : decode cX3_does 7 = .ok (.iconst 1, 1) := dk_4 (dk_at dksX3_does_0 7 rfl rfl)
theorem dX3_does_8 : decode cX3_does 8 = .ok (.iadd, 1) := dk_96 (dk_at dksX3_does_0 8 rfl rfl)
theorem dX3_does_9 : decode cX3_does 9 = .ok (.iaload, 1) := dk_46 (dk_at dksX3_does_0 9 rfl rfl)
theorem dX3_does_10 : decode cX3_does 10 = .ok (.i2c, 1) := dk_146 (dk_at dksX3_does_0 10 rfl rfl)
theorem dX3_does_11 : decode cX3_does 11 = .ok (.istore_n 2, 1) := dk_61 (dk_at dksX3_does_0 11 rfl rfl)
theorem dX3_does_12 : decode cX3_does 12 = .ok (.aload_n 0, 1) := dk_42 (dk_at dksX3_does_0 12 rfl rfl)
theorem dX3_does_13 : decode cX3_does 13 = .ok (.getfield 36, 3) := dk_180 0 36 (dk_at dksX3_does_0 13 rfl rfl)
theorem dX3_does_16 : decode cX3_does 16 = .ok (.iconst 5, 1) := dk_8 (dk_at dksX3_does_0 16 rfl rfl)
theorem dX3_does_17 : decode cX3_does 17 = .ok (.iload_n 1, 1) := dk_27 (dk_at dksX3_does_0 17 rfl rfl)
theorem dX3_does_18 : decode cX3_does 18 = .ok (.imul, 1) := dk_104 (dk_at dksX3_does_0 18 rfl rfl)
theorem dX3_does_19 : decode cX3_does 19 = .ok (.iconst 2, 1) := dk_5 (dk_at dksX3_does_0 19 rfl rfl)
theorem dX3_does_20 : decode cX3_does 20 = .ok (.iadd, 1) := dk_96 (dk_at dksX3_does_0 20 rfl rfl)
theorem dX3_does_21 : decode cX3_does 21 = .ok (.iaload, 1) := dk_46 (dk_at dksX3_does_0 21 rfl rfl)
theorem dX3_does_22 : decode cX3_does 22 = .ok (.istore_n 3, 1) := dk_62 (dk_at dksX3_does_0 22 rfl rfl)
theorem dX3_does_23 : decode cX3_does 23 = .ok (.aload_n 0, 1) := dk_42 (dk_at dksX3_does_0 23 rfl rfl)
theorem dX3_does_24 : decode cX3_does 24 = .ok (.getfield 36, 3) := dk_180 0 36 (dk_at dksX3_does_1 0 rfl rfl)
theorem dX3_does_27 : decode cX3_does 27 = .ok (.iconst 5, 1) := dk_8 (dk_at dksX3_does_1 3 rfl rfl)
theorem dX3_does_28 : decode cX3_does 28 = .ok (.iload_n 1, 1) := dk_27 (dk_at dksX3_does_1 4 rfl rfl)
theorem dX3_does_29 : decode cX3_does 29 = .ok (.imul, 1) := dk_104 (dk_at dksX3_does_1 5 rfl rfl)
theorem dX3_does_30 : decode cX3_does 30 = .ok (.iconst 3, 1) := dk_6 (dk_at dksX3_does_1 6 rfl rfl)
theorem dX3_does_31 : decode cX3_does 31 = .ok (.iadd, 1) := dk_96 (dk_at dksX3_does_1 7 rfl rfl)
theorem dX3_does_32 : decode cX3_does 32 = .ok (.iaload, 1) := dk_46 (dk_at dksX3_does_1 8 rfl rfl)
theorem dX3_does_33 : decode cX3_does 33 = .ok (.istore 4, 2) := dk_54 4 (dk_at dksX3_does_1 9 rfl rfl)
theorem dX3_does_35 : decode cX3_does 35 = .ok (.aload_n 0, 1) := dk_42 (dk_at dksX3_does_1 11 rfl rfl)
theorem dX3_does_36 : decode cX3_does 36 = .ok (.getfield 36, 3) := dk_180 0 36 (dk_at dksX3_does_1 12 rfl rfl)
theorem dX3_does_39 : decode cX3_does 39 = .ok (.iconst 5, 1) := dk_8 (dk_at dksX3_does_1 15 rfl rfl)
theorem dX3_does_40 : decode cX3_does 40 = .ok (.iload_n 1, 1) := dk_27 (dk_at dksX3_does_1 16 rfl rfl)
theorem dX3_does_41 : decode cX3_does 41 = .ok (.imul, 1) := dk_104 (dk_at dksX3_does_1 17 rfl rfl)
theorem dX3_does_42 : decode cX3_does 42 = .ok (.iaload, 1) := dk_46 (dk_at dksX3_does_1 18 rfl rfl)
theorem dX3_does_43 : decode cX3_does 43 = .ok (.tableswitch 184 97 114 #[95, 184, 141, 184, 184, 184, 184, 151, 85, 184, 184, 131, 175, 184, 184, 108, 184, 163], 85) := by decide +kernel
theorem dX3_does_128 : decode cX3_does 128 = .ok (.aload_n 0, 1) := dk_42 (dk_at dksX3_does_3 0 rfl rfl)
theorem dX3_does_129 : decode cX3_does 129 = .ok (.iload_n 3, 1) := dk_29 (dk_at dksX3_does_3 1 rfl rfl)
theorem dX3_does_130 : decode cX3_does 130 = .ok (.invokevirtual 175, 3) := dk_182 0 175 (dk_at dksX3_does_3 2 rfl rfl)
theorem dX3_does_133 : decode cX3_does 133 = .ok (.istore 5, 2) := dk_54 5 (dk_at dksX3_does_3 5 rfl rfl)
theorem dX3_does_135 : decode cX3_does 135 = .ok (.goto 99, 3) := dk_167 0 99 (dk_at dksX3_does_3 7 rfl rfl)
theorem dX3_does_138 : decode cX3_does 138 = .ok (.aload_n 0, 1) := dk_42 (dk_at dksX3_does_3 10 rfl rfl)
theorem dX3_does_139 : decode cX3_does 139 = .ok (.iload_n 2, 1) := dk_28 (dk_at dksX3_does_3 11 rfl rfl)
theorem dX3_does_140 : decode cX3_does 140 = .ok (.iload_n 3, 1) := dk_29 (dk_at dksX3_does_3 12 rfl rfl)
theorem dX3_does_141 : decode cX3_does 141 = .ok (.iload 4, 2) := dk_21 4 (dk_at dksX3_does_3 13 rfl rfl)
theorem dX3_does_143 : decode cX3_does 143 = .ok (.invokevirtual 96, 3) := dk_182 0 96 (dk_at dksX3_does_3 15 rfl rfl)
theorem dX3_does_146 : decode cX3_does 146 = .ok (.istore 5, 2) := dk_54 5 (dk_at dksX3_does_3 18 rfl rfl)
theorem dX3_does_148 : decode cX3_does 148 = .ok (.goto 86, 3) := dk_167 0 86 (dk_at dksX3_does_3 20 rfl rfl)
theorem dX3_does_151 : decode cX3_does 151 = .ok (.aload_n 0, 1) := dk_42 (dk_at dksX3_does_3 23 rfl rfl)
theorem dX3_does_152 : decode cX3_does 152 = .ok (.iload_n 2, 1) := dk_28 (dk_at dksX3_does_4 0 rfl rfl)
theorem dX3_does_153 : decode cX3_does 153 = .ok (.iload_n 3, 1) := dk_29 (dk_at dksX3_does_4 1 rfl rfl)
theorem dX3_does_154 : decode cX3_does 154 = .ok (.iload 4, 2) := dk_21 4 (dk_at dksX3_does_4 2 rfl rfl)
theorem dX3_does_156 : decode cX3_does 156 = .ok (.aload_n 0, 1) := dk_42 (dk_at dksX3_does_4 4 rfl rfl)
theorem dX3_does_157 : decode cX3_does 157 = .ok (.getfield 36, 3) := dk_180 0 36 (dk_at dksX3_does_4 5 rfl rfl)
theorem dX3_does_160 : decode cX3_does 160 = .ok (.iconst 5, 1) := dk_8 (dk_at dksX3_does_4 8 rfl rfl)
theorem dX3_does_161 : decode cX3_does 161 = .ok (.iload_n 1, 1) := dk_27 (dk_at dksX3_does_4 9 rfl rfl)
theorem dX3_does_162 : decode cX3_does 162 = .ok (.imul, 1) := dk_104 (dk_at dksX3_does_4 10 rfl rfl)
theorem dX3_does_163 : decode cX3_does 163 = .ok (.iconst 4, 1) := dk_7 (dk_at dksX3_does_4 11 rfl rfl)
theorem dX3_does_164 : decode cX3_does 164 = .ok (.iadd, 1) := dk_96 (dk_at dksX3_does_4 12 rfl rfl)
theorem dX3_does_165 : decode cX3_does 165 = .ok (.iaload, 1) := dk_46 (dk_at dksX3_does_4 13 rfl rfl)
theorem dX3_does_166 : decode cX3_does 166 = .ok (.invokevirtual 139, 3) := dk_182 0 139 (dk_at dksX3_does_4 14 rfl rfl)
theorem dX3_does_169 : decode cX3_does 169 = .ok (.istore 5, 2) := dk_54 5 (dk_at dksX3_does_4 17 rfl rfl)
theorem dX3_does_171 : decode cX3_does 171 = .ok (.goto 63, 3) := dk_167 0 63 (dk_at dksX3_does_4 19 rfl rfl)
theorem dX3_does_174 : decode cX3_does 174 = .ok (.aload_n 0, 1) := dk_42 (dk_at dksX3_does_4 22 rfl rfl)
theorem dX3_does_175 : decode cX3_does 175 = .ok (.iload_n 3, 1) := dk_29 (dk_at dksX3_does_4 23 rfl rfl)
theorem dX3_does_176 : decode cX3_does 176 = .ok (.invokevirtual 110, 3) := dk_182 0 110 (dk_at dksX3_does_5 0 rfl rfl)
theorem dX3_does_179 : decode cX3_does 179 = .ok (.istore 5, 2) := dk_54 5 (dk_at dksX3_does_5 3 rfl rfl)
theorem dX3_does_181 : decode cX3_does 181 = .ok (.goto 53, 3) := dk_167 0 53 (dk_at dksX3_does_5 5 rfl rfl)
theorem dX3_does_184 : decode cX3_does 184 = .ok (.aload_n 0, 1) := dk_42 (dk_at dksX3_does_5 8 rfl rfl)
theorem dX3_does_185 : decode cX3_does 185 = .ok (.iload_n 3, 1) := dk_29 (dk_at dksX3_does_5 9 rfl rfl)
theorem dX3_does_186 : decode cX3_does 186 = .ok (.invokevirtual 146, 3) := dk_182 0 146 (dk_at dksX3_does_5 10 rfl rfl)
theorem dX3_does_189 : decode cX3_does 189 = .ok (.istore 5, 2) := dk_54 5 (dk_at dksX3_does_5 13 rfl rfl)
theorem dX3_does_191 : decode cX3_does 191 = .ok (.goto 43, 3) := dk_167 0 43 (dk_at dksX3_does_5 15 rfl rfl)
theorem dX3_does_194 : decode cX3_does 194 = .ok (.aload_n 0, 1) := dk_42 (dk_at dksX3_does_5 18 rfl rfl)
theorem dX3_does_195 : decode cX3_does 195 = .ok (.iload_n 3, 1) := dk_29 (dk_at dksX3_does_5 19 rfl rfl)
theorem dX3_does_196 : decode cX3_does 196 = .ok (.iload 4, 2) := dk_21 4 (dk_at dksX3_does_5 20 rfl rfl)
theorem dX3_does_198 : decode cX3_does 198 = .ok (.invokevirtual 169, 3) := dk_182 0 169 (dk_at dksX3_does_6 0 rfl rfl)
theorem dX3_does_201 : decode cX3_does 201 = .ok (.istore 5, 2) := dk_54 5 (dk_at dksX3_does_6 3 rfl rfl)
theorem dX3_does_203 : decode cX3_does 203 = .ok (.goto 31, 3) := dk_167 0 31 (dk_at dksX3_does_6 5 rfl rfl)
theorem dX3_does_206 : decode cX3_does 206 = .ok (.aload_n 0, 1) := dk_42 (dk_at dksX3_does_6 8 rfl rfl)
theorem dX3_does_207 : decode cX3_does 207 = .ok (.iload_n 3, 1) := dk_29 (dk_at dksX3_does_6 9 rfl rfl)
theorem dX3_does_208 : decode cX3_does 208 = .ok (.iload 4, 2) := dk_21 4 (dk_at dksX3_does_6 10 rfl rfl)
theorem dX3_does_210 : decode cX3_does 210 = .ok (.invokevirtual 130, 3) := dk_182 0 130 (dk_at dksX3_does_6 12 rfl rfl)
theorem dX3_does_213 : decode cX3_does 213 = .ok (.istore 5, 2) := dk_54 5 (dk_at dksX3_does_6 15 rfl rfl)
theorem dX3_does_215 : decode cX3_does 215 = .ok (.goto 19, 3) := dk_167 0 19 (dk_at dksX3_does_6 17 rfl rfl)
theorem dX3_does_218 : decode cX3_does 218 = .ok (.aload_n 0, 1) := dk_42 (dk_at dksX3_does_6 20 rfl rfl)
theorem dX3_does_219 : decode cX3_does 219 = .ok (.invokevirtual 181, 3) := dk_182 0 181 (dk_at dksX3_does_6 21 rfl rfl)
theorem dX3_does_222 : decode cX3_does 222 = .ok (.istore 5, 2) := dk_54 5 (dk_at dksX3_does_7 0 rfl rfl)
theorem dX3_does_224 : decode cX3_does 224 = .ok (.goto 10, 3) := dk_167 0 10 (dk_at dksX3_does_7 2 rfl rfl)
theorem dX3_does_227 : decode cX3_does 227 = .ok (.aload_n 0, 1) := dk_42 (dk_at dksX3_does_7 5 rfl rfl)
theorem dX3_does_228 : decode cX3_does 228 = .ok (.iconst 1, 1) := dk_4 (dk_at dksX3_does_7 6 rfl rfl)
theorem dX3_does_229 : decode cX3_does 229 = .ok (.invokevirtual 204, 3) := dk_182 0 204 (dk_at dksX3_does_7 7 rfl rfl)
theorem dX3_does_232 : decode cX3_does 232 = .ok (.istore 5, 2) := dk_54 5 (dk_at dksX3_does_7 10 rfl rfl)
theorem dX3_does_234 : decode cX3_does 234 = .ok (.return_, 1) := dk_177 (dk_at dksX3_does_7 12 rfl rfl)
abbrev cX3_errorPosition : ByteArray := prog_10_method_108_code
def yX3_errorPosition : MethodName := ⟨RX3, "errorPosition", "()I"⟩
def dkwX3_errorPosition_1 : List UInt8 := [167, 0, 4, 3, 172]
abbrev dktX3_errorPosition_1 : List UInt8 := dkwX3_errorPosition_1 ++ []
def dkwX3_errorPosition_0 : List UInt8 := [42, 42, 180, 0, 29, 155, 0, 7, 4, 167, 0, 4, 3, 182, 0, 119, 153, 0, 10, 42, 180, 0, 29]
abbrev dktX3_errorPosition_0 : List UInt8 := dkwX3_errorPosition_0 ++ dktX3_errorPosition_1
theorem dksX3_errorPosition_0 : cX3_errorPosition.data.toList.drop 0 = dktX3_errorPosition_0 := by decide +kernel
theorem dksX3_errorPosition_1 : cX3_errorPosition.data.toList.drop 23 = dktX3_errorPosition_1 := dk_seg dksX3_errorPosition_0 23 rfl rfl
theorem dX3_errorPosition_0 : decode cX3_errorPosition 0 = .ok (.aload_n 0, 1) := dk_42 (dk_at dksX3_errorPosition_0 0 rfl rfl)
theorem dX3_errorPosition_1 : decode cX3_errorPosition 1 = .ok (.aload_n 0, 1) := dk_42 (dk_at dksX3_errorPosition_0 1 rfl rfl)
theorem dX3_errorPosition_2 : decode cX3_errorPosition 2 = .ok (.getfield 29, 3) := dk_180 0 29 (dk_at dksX3_errorPosition_0 2 rfl rfl)
theorem dX3_errorPosition_5 : decode cX3_errorPosition 5 = .ok (.ifCond .lt 7, 3) := dk_155 0 7 (dk_at dksX3_errorPosition_0 5 rfl rfl)
theorem dX3_errorPosition_8 : decode cX3_errorPosition 8 = .ok (.iconst 1, 1) := dk_4 (dk_at dksX3_errorPosition_0 8 rfl rfl)
theorem dX3_errorPosition_9 : decode cX3_errorPosition 9 = .ok (.goto 4, 3) := dk_167 0 4 (dk_at dksX3_errorPosition_0 9 rfl rfl)
theorem dX3_errorPosition_12 : decode cX3_errorPosition 12 = .ok (.iconst 0, 1) := dk_3 (dk_at dksX3_errorPosition_0 12 rfl rfl)
theorem dX3_errorPosition_13 : decode cX3_errorPosition 13 = .ok (.invokevirtual 119, 3) := dk_182 0 119 (dk_at dksX3_errorPosition_0 13 rfl rfl)
theorem dX3_errorPosition_16 : decode cX3_errorPosition 16 = .ok (.ifCond .eq 10, 3) := dk_153 0 10 (dk_at dksX3_errorPosition_0 16 rfl rfl)
theorem dX3_errorPosition_19 : decode cX3_errorPosition 19 = .ok (.aload_n 0, 1) := dk_42 (dk_at dksX3_errorPosition_0 19 rfl rfl)
theorem dX3_errorPosition_20 : decode cX3_errorPosition 20 = .ok (.getfield 29, 3) := dk_180 0 29 (dk_at dksX3_errorPosition_0 20 rfl rfl)
theorem dX3_errorPosition_23 : decode cX3_errorPosition 23 = .ok (.goto 4, 3) := dk_167 0 4 (dk_at dksX3_errorPosition_1 0 rfl rfl)
theorem dX3_errorPosition_26 : decode cX3_errorPosition 26 = .ok (.iconst 0, 1) := dk_3 (dk_at dksX3_errorPosition_1 3 rfl rfl)
theorem dX3_errorPosition_27 : decode cX3_errorPosition 27 = .ok (.ireturn, 1) := dk_172 (dk_at dksX3_errorPosition_1 4 rfl rfl)
abbrev cX3_failedCommand : ByteArray := prog_10_method_109_code
def yX3_failedCommand : MethodName := ⟨RX3, "failedCommand", "()I"⟩
def dkwX3_failedCommand_1 : List UInt8 := [167, 0, 4, 3, 172]
abbrev dktX3_failedCommand_1 : List UInt8 := dkwX3_failedCommand_1 ++ []
def dkwX3_failedCommand_0 : List UInt8 := [42, 42, 180, 0, 33, 155, 0, 7, 4, 167, 0, 4, 3, 182, 0, 119, 153, 0, 10, 42, 180, 0, 33]
abbrev dktX3_failedCommand_0 : List UInt8 := dkwX3_failedCommand_0 ++ dktX3_failedCommand_1
theorem dksX3_failedCommand_0 : cX3_failedCommand.data.toList.drop 0 = dktX3_failedCommand_0 := by decide +kernel
theorem dksX3_failedCommand_1 : cX3_failedCommand.data.toList.drop 23 = dktX3_failedCommand_1 := dk_seg dksX3_failedCommand_0 23 rfl rfl
theorem dX3_failedCommand_0 : decode cX3_failedCommand 0 = .ok (.aload_n 0, 1) := dk_42 (dk_at dksX3_failedCommand_0 0 rfl rfl)
theorem dX3_failedCommand_1 : decode cX3_failedCommand 1 = .ok (.aload_n 0, 1) := dk_42 (dk_at dksX3_failedCommand_0 1 rfl rfl)
theorem dX3_failedCommand_2 : decode cX3_failedCommand 2 = .ok (.getfield 33, 3) := dk_180 0 33 (dk_at dksX3_failedCommand_0 2 rfl rfl)
theorem dX3_failedCommand_5 : decode cX3_failedCommand 5 = .ok (.ifCond .lt 7, 3) := dk_155 0 7 (dk_at dksX3_failedCommand_0 5 rfl rfl)
theorem dX3_failedCommand_8 : decode cX3_failedCommand 8 = .ok (.iconst 1, 1) := dk_4 (dk_at dksX3_failedCommand_0 8 rfl rfl)
theorem dX3_failedCommand_9 : decode cX3_failedCommand 9 = .ok (.goto 4, 3) := dk_167 0 4 (dk_at dksX3_failedCommand_0 9 rfl rfl)
theorem dX3_failedCommand_12 : decode cX3_failedCommand 12 = .ok (.iconst 0, 1) := dk_3 (dk_at dksX3_failedCommand_0 12 rfl rfl)
theorem dX3_failedCommand_13 : decode cX3_failedCommand 13 = .ok (.invokevirtual 119, 3) := dk_182 0 119 (dk_at dksX3_failedCommand_0 13 rfl rfl)
theorem dX3_failedCommand_16 : decode cX3_failedCommand 16 = .ok (.ifCond .eq 10, 3) := dk_153 0 10 (dk_at dksX3_failedCommand_0 16 rfl rfl)
theorem dX3_failedCommand_19 : decode cX3_failedCommand 19 = .ok (.aload_n 0, 1) := dk_42 (dk_at dksX3_failedCommand_0 19 rfl rfl)
theorem dX3_failedCommand_20 : decode cX3_failedCommand 20 = .ok (.getfield 33, 3) := dk_180 0 33 (dk_at dksX3_failedCommand_0 20 rfl rfl)
theorem dX3_failedCommand_23 : decode cX3_failedCommand 23 = .ok (.goto 4, 3) := dk_167 0 4 (dk_at dksX3_failedCommand_1 0 rfl rfl)
theorem dX3_failedCommand_26 : decode cX3_failedCommand 26 = .ok (.iconst 0, 1) := dk_3 (dk_at dksX3_failedCommand_1 3 rfl rfl)
theorem dX3_failedCommand_27 : decode cX3_failedCommand 27 = .ok (.ireturn, 1) := dk_172 (dk_at dksX3_failedCommand_1 4 rfl rfl)
abbrev cX3_undo : ByteArray := prog_10_method_110_code
def yX3_undo : MethodName := ⟨RX3, "undo", "()I"⟩
def dkwX3_undo_2 : List UInt8 := [180, 0, 9, 3, 16, 93, 184, 0, 42, 42, 180, 0, 48, 172]
abbrev dktX3_undo_2 : List UInt8 := dkwX3_undo_2 ++ []
def dkwX3_undo_1 : List UInt8 := [172, 42, 89, 180, 0, 48, 4, 100, 181, 0, 48, 42, 180, 0, 19, 16, 93, 42, 180, 0, 48, 104, 42]
abbrev dktX3_undo_1 : List UInt8 := dkwX3_undo_1 ++ dktX3_undo_2
def dkwX3_undo_0 : List UInt8 := [42, 42, 180, 0, 48, 154, 0, 7, 4, 167, 0, 4, 3, 181, 0, 39, 42, 180, 0, 39, 158, 0, 5, 3]
abbrev dktX3_undo_0 : List UInt8 := dkwX3_undo_0 ++ dktX3_undo_1
theorem dksX3_undo_0 : cX3_undo.data.toList.drop 0 = dktX3_undo_0 := by decide +kernel
theorem dksX3_undo_1 : cX3_undo.data.toList.drop 24 = dktX3_undo_1 := dk_seg dksX3_undo_0 24 rfl rfl
theorem dksX3_undo_2 : cX3_undo.data.toList.drop 47 = dktX3_undo_2 := dk_seg dksX3_undo_1 23 rfl rfl
theorem dX3_undo_0 : decode cX3_undo 0 = .ok (.aload_n 0, 1) := dk_42 (dk_at dksX3_undo_0 0 rfl rfl)
theorem dX3_undo_1 : decode cX3_undo 1 = .ok (.aload_n 0, 1) := dk_42 (dk_at dksX3_undo_0 1 rfl rfl)
theorem dX3_undo_2 : decode cX3_undo 2 = .ok (.getfield 48, 3) := dk_180 0 48 (dk_at dksX3_undo_0 2 rfl rfl)
theorem dX3_undo_5 : decode cX3_undo 5 = .ok (.ifCond .ne 7, 3) := dk_154 0 7 (dk_at dksX3_undo_0 5 rfl rfl)
theorem dX3_undo_8 : decode cX3_undo 8 = .ok (.iconst 1, 1) := dk_4 (dk_at dksX3_undo_0 8 rfl rfl)
theorem dX3_undo_9 : decode cX3_undo 9 = .ok (.goto 4, 3) := dk_167 0 4 (dk_at dksX3_undo_0 9 rfl rfl)
theorem dX3_undo_12 : decode cX3_undo 12 = .ok (.iconst 0, 1) := dk_3 (dk_at dksX3_undo_0 12 rfl rfl)
theorem dX3_undo_13 : decode cX3_undo 13 = .ok (.putfield 39, 3) := dk_181 0 39 (dk_at dksX3_undo_0 13 rfl rfl)
theorem dX3_undo_16 : decode cX3_undo 16 = .ok (.aload_n 0, 1) := dk_42 (dk_at dksX3_undo_0 16 rfl rfl)
theorem dX3_undo_17 : decode cX3_undo 17 = .ok (.getfield 39, 3) := dk_180 0 39 (dk_at dksX3_undo_0 17 rfl rfl)
theorem dX3_undo_20 : decode cX3_undo 20 = .ok (.ifCond .le 5, 3) := dk_158 0 5 (dk_at dksX3_undo_0 20 rfl rfl)
theorem dX3_undo_23 : decode cX3_undo 23 = .ok (.iconst 0, 1) := dk_3 (dk_at dksX3_undo_0 23 rfl rfl)
theorem dX3_undo_24 : decode cX3_undo 24 = .ok (.ireturn, 1) := dk_172 (dk_at dksX3_undo_1 0 rfl rfl)
theorem dX3_undo_25 : decode cX3_undo 25 = .ok (.aload_n 0, 1) := dk_42 (dk_at dksX3_undo_1 1 rfl rfl)
theorem dX3_undo_26 : decode cX3_undo 26 = .ok (.dup, 1) := dk_89 (dk_at dksX3_undo_1 2 rfl rfl)
theorem dX3_undo_27 : decode cX3_undo 27 = .ok (.getfield 48, 3) := dk_180 0 48 (dk_at dksX3_undo_1 3 rfl rfl)
theorem dX3_undo_30 : decode cX3_undo 30 = .ok (.iconst 1, 1) := dk_4 (dk_at dksX3_undo_1 6 rfl rfl)
theorem dX3_undo_31 : decode cX3_undo 31 = .ok (.isub, 1) := dk_100 (dk_at dksX3_undo_1 7 rfl rfl)
theorem dX3_undo_32 : decode cX3_undo 32 = .ok (.putfield 48, 3) := dk_181 0 48 (dk_at dksX3_undo_1 8 rfl rfl)
theorem dX3_undo_35 : decode cX3_undo 35 = .ok (.aload_n 0, 1) := dk_42 (dk_at dksX3_undo_1 11 rfl rfl)
theorem dX3_undo_36 : decode cX3_undo 36 = .ok (.getfield 19, 3) := dk_180 0 19 (dk_at dksX3_undo_1 12 rfl rfl)
theorem dX3_undo_39 : decode cX3_undo 39 = .ok (.bipush 93, 2) := dk_16 93 (dk_at dksX3_undo_1 15 rfl rfl)
theorem dX3_undo_41 : decode cX3_undo 41 = .ok (.aload_n 0, 1) := dk_42 (dk_at dksX3_undo_1 17 rfl rfl)
theorem dX3_undo_42 : decode cX3_undo 42 = .ok (.getfield 48, 3) := dk_180 0 48 (dk_at dksX3_undo_1 18 rfl rfl)
theorem dX3_undo_45 : decode cX3_undo 45 = .ok (.imul, 1) := dk_104 (dk_at dksX3_undo_1 21 rfl rfl)
theorem dX3_undo_46 : decode cX3_undo 46 = .ok (.aload_n 0, 1) := dk_42 (dk_at dksX3_undo_1 22 rfl rfl)
theorem dX3_undo_47 : decode cX3_undo 47 = .ok (.getfield 9, 3) := dk_180 0 9 (dk_at dksX3_undo_2 0 rfl rfl)
theorem dX3_undo_50 : decode cX3_undo 50 = .ok (.iconst 0, 1) := dk_3 (dk_at dksX3_undo_2 3 rfl rfl)
theorem dX3_undo_51 : decode cX3_undo 51 = .ok (.bipush 93, 2) := dk_16 93 (dk_at dksX3_undo_2 4 rfl rfl)
theorem dX3_undo_53 : decode cX3_undo 53 = .ok (.invokestatic 42, 3) := dk_184 0 42 (dk_at dksX3_undo_2 6 rfl rfl)
theorem dX3_undo_56 : decode cX3_undo 56 = .ok (.aload_n 0, 1) := dk_42 (dk_at dksX3_undo_2 9 rfl rfl)
theorem dX3_undo_57 : decode cX3_undo 57 = .ok (.getfield 48, 3) := dk_180 0 48 (dk_at dksX3_undo_2 10 rfl rfl)
theorem dX3_undo_60 : decode cX3_undo 60 = .ok (.ireturn, 1) := dk_172 (dk_at dksX3_undo_2 13 rfl rfl)
abbrev cX3_undoCount : ByteArray := prog_10_method_111_code
def yX3_undoCount : MethodName := ⟨RX3, "undoCount", "()I"⟩
def dkwX3_undoCount_0 : List UInt8 := [42, 3, 181, 0, 39, 42, 180, 0, 48, 172]
abbrev dktX3_undoCount_0 : List UInt8 := dkwX3_undoCount_0 ++ []
theorem dksX3_undoCount_0 : cX3_undoCount.data.toList.drop 0 = dktX3_undoCount_0 := by decide +kernel
theorem dX3_undoCount_0 : decode cX3_undoCount 0 = .ok (.aload_n 0, 1) := dk_42 (dk_at dksX3_undoCount_0 0 rfl rfl)
theorem dX3_undoCount_1 : decode cX3_undoCount 1 = .ok (.iconst 0, 1) := dk_3 (dk_at dksX3_undoCount_0 1 rfl rfl)
theorem dX3_undoCount_2 : decode cX3_undoCount 2 = .ok (.putfield 39, 3) := dk_181 0 39 (dk_at dksX3_undoCount_0 2 rfl rfl)
theorem dX3_undoCount_5 : decode cX3_undoCount 5 = .ok (.aload_n 0, 1) := dk_42 (dk_at dksX3_undoCount_0 5 rfl rfl)
theorem dX3_undoCount_6 : decode cX3_undoCount 6 = .ok (.getfield 48, 3) := dk_180 0 48 (dk_at dksX3_undoCount_0 6 rfl rfl)
theorem dX3_undoCount_9 : decode cX3_undoCount 9 = .ok (.ireturn, 1) := dk_172 (dk_at dksX3_undoCount_0 9 rfl rfl)
abbrev cX3_save : ByteArray := prog_10_method_112_code
def yX3_save : MethodName := ⟨RX3, "save", "()I"⟩
def dkwX3_save_1 : List UInt8 := [181, 1, 35, 42, 182, 0, 85, 172]
abbrev dktX3_save_1 : List UInt8 := dkwX3_save_1 ++ []
def dkwX3_save_0 : List UInt8 := [42, 3, 181, 0, 39, 42, 180, 0, 9, 3, 42, 180, 0, 16, 3, 16, 93, 184, 0, 42, 42, 4]
abbrev dktX3_save_0 : List UInt8 := dkwX3_save_0 ++ dktX3_save_1
theorem dksX3_save_0 : cX3_save.data.toList.drop 0 = dktX3_save_0 := by decide +kernel
theorem dksX3_save_1 : cX3_save.data.toList.drop 22 = dktX3_save_1 := dk_seg dksX3_save_0 22 rfl rfl
theorem dX3_save_0 : decode cX3_save 0 = .ok (.aload_n 0, 1) := dk_42 (dk_at dksX3_save_0 0 rfl rfl)
theorem dX3_save_1 : decode cX3_save 1 = .ok (.iconst 0, 1) := dk_3 (dk_at dksX3_save_0 1 rfl rfl)
theorem dX3_save_2 : decode cX3_save 2 = .ok (.putfield 39, 3) := dk_181 0 39 (dk_at dksX3_save_0 2 rfl rfl)
theorem dX3_save_5 : decode cX3_save 5 = .ok (.aload_n 0, 1) := dk_42 (dk_at dksX3_save_0 5 rfl rfl)
theorem dX3_save_6 : decode cX3_save 6 = .ok (.getfield 9, 3) := dk_180 0 9 (dk_at dksX3_save_0 6 rfl rfl)
theorem dX3_save_9 : decode cX3_save 9 = .ok (.iconst 0, 1) := dk_3 (dk_at dksX3_save_0 9 rfl rfl)
theorem dX3_save_10 : decode cX3_save 10 = .ok (.aload_n 0, 1) := dk_42 (dk_at dksX3_save_0 10 rfl rfl)
theorem dX3_save_11 : decode cX3_save 11 = .ok (.getfield 16, 3) := dk_180 0 16 (dk_at dksX3_save_0 11 rfl rfl)
theorem dX3_save_14 : decode cX3_save 14 = .ok (.iconst 0, 1) := dk_3 (dk_at dksX3_save_0 14 rfl rfl)
theorem dX3_save_15 : decode cX3_save 15 = .ok (.bipush 93, 2) := dk_16 93 (dk_at dksX3_save_0 15 rfl rfl)
theorem dX3_save_17 : decode cX3_save 17 = .ok (.invokestatic 42, 3) := dk_184 0 42 (dk_at dksX3_save_0 17 rfl rfl)
theorem dX3_save_20 : decode cX3_save 20 = .ok (.aload_n 0, 1) := dk_42 (dk_at dksX3_save_0 20 rfl rfl)
theorem dX3_save_21 : decode cX3_save 21 = .ok (.iconst 1, 1) := dk_4 (dk_at dksX3_save_0 21 rfl rfl)
theorem dX3_save_22 : decode cX3_save 22 = .ok (.putfield 291, 3) := dk_181 1 35 (dk_at dksX3_save_1 0 rfl rfl)
theorem dX3_save_25 : decode cX3_save 25 = .ok (.aload_n 0, 1) := dk_42 (dk_at dksX3_save_1 3 rfl rfl)
theorem dX3_save_26 : decode cX3_save 26 = .ok (.invokevirtual 85, 3) := dk_182 0 85 (dk_at dksX3_save_1 4 rfl rfl)
theorem dX3_save_29 : decode cX3_save 29 = .ok (.ireturn, 1) := dk_172 (dk_at dksX3_save_1 7 rfl rfl)
abbrev cX3_restore : ByteArray := prog_10_method_113_code
def yX3_restore : MethodName := ⟨RX3, "restore", "()I"⟩
def dkwX3_restore_2 : List UInt8 := [182, 0, 85, 172]
abbrev dktX3_restore_2 : List UInt8 := dkwX3_restore_2 ++ []
def dkwX3_restore_1 : List UInt8 := [172, 42, 180, 0, 16, 3, 42, 180, 0, 9, 3, 16, 93, 184, 0, 42, 42, 3, 181, 0, 48, 42]
abbrev dktX3_restore_1 : List UInt8 := dkwX3_restore_1 ++ dktX3_restore_2
def dkwX3_restore_0 : List UInt8 := [42, 42, 180, 1, 35, 153, 0, 7, 3, 167, 0, 4, 4, 181, 0, 39, 42, 180, 0, 39, 158, 0, 5, 3]
abbrev dktX3_restore_0 : List UInt8 := dkwX3_restore_0 ++ dktX3_restore_1
theorem dksX3_restore_0 : cX3_restore.data.toList.drop 0 = dktX3_restore_0 := by decide +kernel
theorem dksX3_restore_1 : cX3_restore.data.toList.drop 24 = dktX3_restore_1 := dk_seg dksX3_restore_0 24 rfl rfl
theorem dksX3_restore_2 : cX3_restore.data.toList.drop 46 = dktX3_restore_2 := dk_seg dksX3_restore_1 22 rfl rfl
theorem dX3_restore_0 : decode cX3_restore 0 = .ok (.aload_n 0, 1) := dk_42 (dk_at dksX3_restore_0 0 rfl rfl)
theorem dX3_restore_1 : decode cX3_restore 1 = .ok (.aload_n 0, 1) := dk_42 (dk_at dksX3_restore_0 1 rfl rfl)
theorem dX3_restore_2 : decode cX3_restore 2 = .ok (.getfield 291, 3) := dk_180 1 35 (dk_at dksX3_restore_0 2 rfl rfl)
theorem dX3_restore_5 : decode cX3_restore 5 = .ok (.ifCond .eq 7, 3) := dk_153 0 7 (dk_at dksX3_restore_0 5 rfl rfl)
theorem dX3_restore_8 : decode cX3_restore 8 = .ok (.iconst 0, 1) := dk_3 (dk_at dksX3_restore_0 8 rfl rfl)
theorem dX3_restore_9 : decode cX3_restore 9 = .ok (.goto 4, 3) := dk_167 0 4 (dk_at dksX3_restore_0 9 rfl rfl)
theorem dX3_restore_12 : decode cX3_restore 12 = .ok (.iconst 1, 1) := dk_4 (dk_at dksX3_restore_0 12 rfl rfl)
theorem dX3_restore_13 : decode cX3_restore 13 = .ok (.putfield 39, 3) := dk_181 0 39 (dk_at dksX3_restore_0 13 rfl rfl)
theorem dX3_restore_16 : decode cX3_restore 16 = .ok (.aload_n 0, 1) := dk_42 (dk_at dksX3_restore_0 16 rfl rfl)
theorem dX3_restore_17 : decode cX3_restore 17 = .ok (.getfield 39, 3) := dk_180 0 39 (dk_at dksX3_restore_0 17 rfl rfl)
theorem dX3_restore_20 : decode cX3_restore 20 = .ok (.ifCond .le 5, 3) := dk_158 0 5 (dk_at dksX3_restore_0 20 rfl rfl)
theorem dX3_restore_23 : decode cX3_restore 23 = .ok (.iconst 0, 1) := dk_3 (dk_at dksX3_restore_0 23 rfl rfl)
theorem dX3_restore_24 : decode cX3_restore 24 = .ok (.ireturn, 1) := dk_172 (dk_at dksX3_restore_1 0 rfl rfl)
theorem dX3_restore_25 : decode cX3_restore 25 = .ok (.aload_n 0, 1) := dk_42 (dk_at dksX3_restore_1 1 rfl rfl)
theorem dX3_restore_26 : decode cX3_restore 26 = .ok (.getfield 16, 3) := dk_180 0 16 (dk_at dksX3_restore_1 2 rfl rfl)
theorem dX3_restore_29 : decode cX3_restore 29 = .ok (.iconst 0, 1) := dk_3 (dk_at dksX3_restore_1 5 rfl rfl)
theorem dX3_restore_30 : decode cX3_restore 30 = .ok (.aload_n 0, 1) := dk_42 (dk_at dksX3_restore_1 6 rfl rfl)
theorem dX3_restore_31 : decode cX3_restore 31 = .ok (.getfield 9, 3) := dk_180 0 9 (dk_at dksX3_restore_1 7 rfl rfl)
theorem dX3_restore_34 : decode cX3_restore 34 = .ok (.iconst 0, 1) := dk_3 (dk_at dksX3_restore_1 10 rfl rfl)
theorem dX3_restore_35 : decode cX3_restore 35 = .ok (.bipush 93, 2) := dk_16 93 (dk_at dksX3_restore_1 11 rfl rfl)
theorem dX3_restore_37 : decode cX3_restore 37 = .ok (.invokestatic 42, 3) := dk_184 0 42 (dk_at dksX3_restore_1 13 rfl rfl)
theorem dX3_restore_40 : decode cX3_restore 40 = .ok (.aload_n 0, 1) := dk_42 (dk_at dksX3_restore_1 16 rfl rfl)
theorem dX3_restore_41 : decode cX3_restore 41 = .ok (.iconst 0, 1) := dk_3 (dk_at dksX3_restore_1 17 rfl rfl)
theorem dX3_restore_42 : decode cX3_restore 42 = .ok (.putfield 48, 3) := dk_181 0 48 (dk_at dksX3_restore_1 18 rfl rfl)
theorem dX3_restore_45 : decode cX3_restore 45 = .ok (.aload_n 0, 1) := dk_42 (dk_at dksX3_restore_1 21 rfl rfl)
theorem dX3_restore_46 : decode cX3_restore 46 = .ok (.invokevirtual 85, 3) := dk_182 0 85 (dk_at dksX3_restore_2 0 rfl rfl)
theorem dX3_restore_49 : decode cX3_restore 49 = .ok (.ireturn, 1) := dk_172 (dk_at dksX3_restore_2 3 rfl rfl)
theorem q93 : (Jvm.Cond.initialized "CloudInterviewsModel") ∈ lw_all := lw_g (lw_at lw_m1 13 rfl) rfl
theorem q541 : (Jvm.Cond.selects "CloudInterviewsModel" ({ cls := "java/lang/Object", name := "getClass", desc := "()Ljava/lang/Class;" } : Jvm.MethodName) ({ cls := "java/lang/Object", name := "getClass", desc := "()Ljava/lang/Class;" } : Jvm.MethodName)) ∈ lw_all := lw_g (lw_at lw_m2 221 rfl) rfl
theorem q665 : (Jvm.Cond.selects "CloudInterviewsModel" ({ cls := "java/lang/Object", name := "hashCode", desc := "()I" } : Jvm.MethodName) ({ cls := "java/lang/Object", name := "hashCode", desc := "()I" } : Jvm.MethodName)) ∈ lw_all := lw_g (lw_at lw_m3 105 rfl) rfl
theorem q1279 : (Jvm.Cond.selects "CloudInterviewsModel" ({ cls := "java/lang/Object", name := "equals", desc := "(Ljava/lang/Object;)Z" } : Jvm.MethodName) ({ cls := "java/lang/Object", name := "equals", desc := "(Ljava/lang/Object;)Z" } : Jvm.MethodName)) ∈ lw_all := lw_g (lw_at lw_m5 239 rfl) rfl
theorem q2455 : (Jvm.Cond.instantiable "CloudInterviewsModel" (17 : Nat)) ∈ lw_all := lw_g (lw_at lw_m10 215 rfl) rfl
theorem q2457 : (Jvm.Cond.instanceMethod ({ cls := "CloudInterviewsModel", name := "<init>", desc := "()V" } : Jvm.MethodName)) ∈ lw_all := lw_g (lw_at lw_m10 217 rfl) rfl
theorem q2458 : (Jvm.Cond.code ({ cls := "CloudInterviewsModel", name := "<init>", desc := "()V" } : Jvm.MethodName) prog_10_method_1_code (1 : Nat) (Option.none : Option Jvm.ClassFile.FieldType)) ∈ lw_all := lw_g (lw_at lw_m10 218 rfl) rfl
theorem q2459 : (Jvm.Cond.methodLink "CloudInterviewsModel" (3 : Nat) ({ cls := "java/lang/Object", name := "<init>", desc := "()V" } : Jvm.MethodName)) ∈ lw_all := lw_g (lw_at lw_m10 219 rfl) rfl
theorem q2460 : (Jvm.Cond.fieldLink "CloudInterviewsModel" (9 : Nat) "CloudInterviewsModel" "s" "[I") ∈ lw_all := lw_g (lw_at lw_m10 220 rfl) rfl
theorem q2461 : (Jvm.Cond.fieldLink "CloudInterviewsModel" (13 : Nat) "CloudInterviewsModel" "before" "[I") ∈ lw_all := lw_g (lw_at lw_m10 221 rfl) rfl
theorem q2462 : (Jvm.Cond.fieldLink "CloudInterviewsModel" (16 : Nat) "CloudInterviewsModel" "saved" "[I") ∈ lw_all := lw_g (lw_at lw_m10 222 rfl) rfl
theorem q2463 : (Jvm.Cond.fieldLink "CloudInterviewsModel" (291 : Nat) "CloudInterviewsModel" "isSaved" "Z") ∈ lw_all := lw_g (lw_at lw_m10 223 rfl) rfl
theorem q2464 : (Jvm.Cond.fieldLink "CloudInterviewsModel" (19 : Nat) "CloudInterviewsModel" "past" "[I") ∈ lw_all := lw_g (lw_at lw_m10 224 rfl) rfl
theorem q2465 : (Jvm.Cond.fieldLink "CloudInterviewsModel" (48 : Nat) "CloudInterviewsModel" "pastMany" "I") ∈ lw_all := lw_g (lw_at lw_m10 225 rfl) rfl
theorem q2466 : (Jvm.Cond.fieldLink "CloudInterviewsModel" (39 : Nat) "CloudInterviewsModel" "thrown" "I") ∈ lw_all := lw_g (lw_at lw_m10 226 rfl) rfl
theorem q2467 : (Jvm.Cond.fieldLink "CloudInterviewsModel" (22 : Nat) "CloudInterviewsModel" "output" "[C") ∈ lw_all := lw_g (lw_at lw_m10 227 rfl) rfl
theorem q2468 : (Jvm.Cond.fieldLink "CloudInterviewsModel" (207 : Nat) "CloudInterviewsModel" "outputMany" "I") ∈ lw_all := lw_g (lw_at lw_m10 228 rfl) rfl
theorem q2469 : (Jvm.Cond.fieldLink "CloudInterviewsModel" (26 : Nat) "CloudInterviewsModel" "input" "[C") ∈ lw_all := lw_g (lw_at lw_m10 229 rfl) rfl
theorem q2470 : (Jvm.Cond.fieldLink "CloudInterviewsModel" (220 : Nat) "CloudInterviewsModel" "length" "I") ∈ lw_all := lw_g (lw_at lw_m10 230 rfl) rfl
theorem q2471 : (Jvm.Cond.fieldLink "CloudInterviewsModel" (223 : Nat) "CloudInterviewsModel" "at" "I") ∈ lw_all := lw_g (lw_at lw_m10 231 rfl) rfl
theorem q2472 : (Jvm.Cond.fieldLink "CloudInterviewsModel" (230 : Nat) "CloudInterviewsModel" "isWrong" "Z") ∈ lw_all := lw_g (lw_at lw_m10 232 rfl) rfl
theorem q2473 : (Jvm.Cond.fieldLink "CloudInterviewsModel" (29 : Nat) "CloudInterviewsModel" "errorAt" "I") ∈ lw_all := lw_g (lw_at lw_m10 233 rfl) rfl
theorem q2474 : (Jvm.Cond.fieldLink "CloudInterviewsModel" (33 : Nat) "CloudInterviewsModel" "failedAt" "I") ∈ lw_all := lw_g (lw_at lw_m10 234 rfl) rfl
theorem q2475 : (Jvm.Cond.fieldLink "CloudInterviewsModel" (36 : Nat) "CloudInterviewsModel" "commands" "[I") ∈ lw_all := lw_g (lw_at lw_m10 235 rfl) rfl
theorem q2476 : (Jvm.Cond.fieldLink "CloudInterviewsModel" (245 : Nat) "CloudInterviewsModel" "commandMany" "I") ∈ lw_all := lw_g (lw_at lw_m10 236 rfl) rfl
theorem q2477 : (Jvm.Cond.laysFinal "CloudInterviewsModel" "CloudInterviewsModel" "s" "[I") ∈ lw_all := lw_g (lw_at lw_m10 237 rfl) rfl
theorem q2478 : (Jvm.Cond.soleField "CloudInterviewsModel" "s") ∈ lw_all := lw_g (lw_at lw_m10 238 rfl) rfl
theorem q2479 : (Jvm.Cond.laysFinal "CloudInterviewsModel" "CloudInterviewsModel" "before" "[I") ∈ lw_all := lw_g (lw_at lw_m10 239 rfl) rfl
theorem q2480 : (Jvm.Cond.soleField "CloudInterviewsModel" "before") ∈ lw_all := lw_g (lw_at lw_m11 0 rfl) rfl
theorem q2481 : (Jvm.Cond.laysFinal "CloudInterviewsModel" "CloudInterviewsModel" "saved" "[I") ∈ lw_all := lw_g (lw_at lw_m11 1 rfl) rfl
theorem q2482 : (Jvm.Cond.soleField "CloudInterviewsModel" "saved") ∈ lw_all := lw_g (lw_at lw_m11 2 rfl) rfl
theorem q2483 : (Jvm.Cond.lays "CloudInterviewsModel" "CloudInterviewsModel" "isSaved" "Z") ∈ lw_all := lw_g (lw_at lw_m11 3 rfl) rfl
theorem q2484 : (Jvm.Cond.soleField "CloudInterviewsModel" "isSaved") ∈ lw_all := lw_g (lw_at lw_m11 4 rfl) rfl
theorem q2485 : (Jvm.Cond.laysFinal "CloudInterviewsModel" "CloudInterviewsModel" "past" "[I") ∈ lw_all := lw_g (lw_at lw_m11 5 rfl) rfl
theorem q2486 : (Jvm.Cond.soleField "CloudInterviewsModel" "past") ∈ lw_all := lw_g (lw_at lw_m11 6 rfl) rfl
theorem q2487 : (Jvm.Cond.lays "CloudInterviewsModel" "CloudInterviewsModel" "pastMany" "I") ∈ lw_all := lw_g (lw_at lw_m11 7 rfl) rfl
theorem q2488 : (Jvm.Cond.soleField "CloudInterviewsModel" "pastMany") ∈ lw_all := lw_g (lw_at lw_m11 8 rfl) rfl
theorem q2489 : (Jvm.Cond.lays "CloudInterviewsModel" "CloudInterviewsModel" "thrown" "I") ∈ lw_all := lw_g (lw_at lw_m11 9 rfl) rfl
theorem q2490 : (Jvm.Cond.soleField "CloudInterviewsModel" "thrown") ∈ lw_all := lw_g (lw_at lw_m11 10 rfl) rfl
theorem q2491 : (Jvm.Cond.laysFinal "CloudInterviewsModel" "CloudInterviewsModel" "output" "[C") ∈ lw_all := lw_g (lw_at lw_m11 11 rfl) rfl
theorem q2492 : (Jvm.Cond.soleField "CloudInterviewsModel" "output") ∈ lw_all := lw_g (lw_at lw_m11 12 rfl) rfl
theorem q2493 : (Jvm.Cond.lays "CloudInterviewsModel" "CloudInterviewsModel" "outputMany" "I") ∈ lw_all := lw_g (lw_at lw_m11 13 rfl) rfl
theorem q2494 : (Jvm.Cond.soleField "CloudInterviewsModel" "outputMany") ∈ lw_all := lw_g (lw_at lw_m11 14 rfl) rfl
theorem q2495 : (Jvm.Cond.laysFinal "CloudInterviewsModel" "CloudInterviewsModel" "input" "[C") ∈ lw_all := lw_g (lw_at lw_m11 15 rfl) rfl
theorem q2496 : (Jvm.Cond.soleField "CloudInterviewsModel" "input") ∈ lw_all := lw_g (lw_at lw_m11 16 rfl) rfl
theorem q2497 : (Jvm.Cond.lays "CloudInterviewsModel" "CloudInterviewsModel" "length" "I") ∈ lw_all := lw_g (lw_at lw_m11 17 rfl) rfl
theorem q2498 : (Jvm.Cond.soleField "CloudInterviewsModel" "length") ∈ lw_all := lw_g (lw_at lw_m11 18 rfl) rfl
theorem q2499 : (Jvm.Cond.lays "CloudInterviewsModel" "CloudInterviewsModel" "at" "I") ∈ lw_all := lw_g (lw_at lw_m11 19 rfl) rfl
theorem q2500 : (Jvm.Cond.soleField "CloudInterviewsModel" "at") ∈ lw_all := lw_g (lw_at lw_m11 20 rfl) rfl
theorem q2501 : (Jvm.Cond.lays "CloudInterviewsModel" "CloudInterviewsModel" "isWrong" "Z") ∈ lw_all := lw_g (lw_at lw_m11 21 rfl) rfl
theorem q2502 : (Jvm.Cond.soleField "CloudInterviewsModel" "isWrong") ∈ lw_all := lw_g (lw_at lw_m11 22 rfl) rfl
theorem q2503 : (Jvm.Cond.lays "CloudInterviewsModel" "CloudInterviewsModel" "errorAt" "I") ∈ lw_all := lw_g (lw_at lw_m11 23 rfl) rfl
theorem q2504 : (Jvm.Cond.soleField "CloudInterviewsModel" "errorAt") ∈ lw_all := lw_g (lw_at lw_m11 24 rfl) rfl
theorem q2505 : (Jvm.Cond.lays "CloudInterviewsModel" "CloudInterviewsModel" "failedAt" "I") ∈ lw_all := lw_g (lw_at lw_m11 25 rfl) rfl
theorem q2506 : (Jvm.Cond.soleField "CloudInterviewsModel" "failedAt") ∈ lw_all := lw_g (lw_at lw_m11 26 rfl) rfl
theorem q2507 : (Jvm.Cond.laysFinal "CloudInterviewsModel" "CloudInterviewsModel" "commands" "[I") ∈ lw_all := lw_g (lw_at lw_m11 27 rfl) rfl
theorem q2508 : (Jvm.Cond.soleField "CloudInterviewsModel" "commands") ∈ lw_all := lw_g (lw_at lw_m11 28 rfl) rfl
theorem q2509 : (Jvm.Cond.lays "CloudInterviewsModel" "CloudInterviewsModel" "commandMany" "I") ∈ lw_all := lw_g (lw_at lw_m11 29 rfl) rfl
theorem q2510 : (Jvm.Cond.soleField "CloudInterviewsModel" "commandMany") ∈ lw_all := lw_g (lw_at lw_m11 30 rfl) rfl
theorem q2511 : (Jvm.Cond.superclass "CloudInterviewsModel" "java/lang/Object") ∈ lw_all := lw_g (lw_at lw_m11 31 rfl) rfl
theorem q2514 : (Jvm.Cond.instanceMethod ({ cls := "CloudInterviewsModel", name := "thrown", desc := "()I" } : Jvm.MethodName)) ∈ lw_all := lw_g (lw_at lw_m11 34 rfl) rfl
theorem q2515 : (Jvm.Cond.selects "CloudInterviewsModel" ({ cls := "CloudInterviewsModel", name := "thrown", desc := "()I" } : Jvm.MethodName) ({ cls := "CloudInterviewsModel", name := "thrown", desc := "()I" } : Jvm.MethodName)) ∈ lw_all := lw_g (lw_at lw_m11 35 rfl) rfl
theorem q2516 : (Jvm.Cond.code ({ cls := "CloudInterviewsModel", name := "thrown", desc := "()I" } : Jvm.MethodName) prog_10_method_2_code (1 : Nat) (Option.some Jvm.ClassFile.FieldType.int)) ∈ lw_all := lw_g (lw_at lw_m11 36 rfl) rfl
theorem q2518 : (Jvm.Cond.instanceMethod ({ cls := "CloudInterviewsModel", name := "addApplicant", desc := "(CII)I" } : Jvm.MethodName)) ∈ lw_all := lw_g (lw_at lw_m11 38 rfl) rfl
theorem q2519 : (Jvm.Cond.selects "CloudInterviewsModel" ({ cls := "CloudInterviewsModel", name := "addApplicant", desc := "(CII)I" } : Jvm.MethodName) ({ cls := "CloudInterviewsModel", name := "addApplicant", desc := "(CII)I" } : Jvm.MethodName)) ∈ lw_all := lw_g (lw_at lw_m11 39 rfl) rfl
theorem q2520 : (Jvm.Cond.code ({ cls := "CloudInterviewsModel", name := "addApplicant", desc := "(CII)I" } : Jvm.MethodName) prog_10_method_25_code (4 : Nat) (Option.some Jvm.ClassFile.FieldType.int)) ∈ lw_all := lw_g (lw_at lw_m11 40 rfl) rfl
theorem q2521 : (Jvm.Cond.methodLink "CloudInterviewsModel" (93 : Nat) ({ cls := "CloudInterviewsModel", name := "keep", desc := "()V" } : Jvm.MethodName)) ∈ lw_all := lw_g (lw_at lw_m11 41 rfl) rfl
theorem q2522 : (Jvm.Cond.privateMethod ({ cls := "CloudInterviewsModel", name := "keep", desc := "()V" } : Jvm.MethodName)) ∈ lw_tbl := lw_at lw_m11 42 rfl
theorem q2523 : (Jvm.Cond.instanceMethod ({ cls := "CloudInterviewsModel", name := "keep", desc := "()V" } : Jvm.MethodName)) ∈ lw_all := lw_g (lw_at lw_m11 43 rfl) rfl
theorem q2524 : (Jvm.Cond.code ({ cls := "CloudInterviewsModel", name := "keep", desc := "()V" } : Jvm.MethodName) prog_10_method_4_code (1 : Nat) (Option.none : Option Jvm.ClassFile.FieldType)) ∈ lw_all := lw_g (lw_at lw_m11 44 rfl) rfl
theorem q2525 : (Jvm.Cond.methodLink "CloudInterviewsModel" (42 : Nat) ({ cls := "java/lang/System", name := "arraycopy", desc := "(Ljava/lang/Object;ILjava/lang/Object;II)V" } : Jvm.MethodName)) ∈ lw_all := lw_g (lw_at lw_m11 45 rfl) rfl
theorem q2526 : (Jvm.Cond.methodLink "CloudInterviewsModel" (96 : Nat) ({ cls := "CloudInterviewsModel", name := "doAddApplicant", desc := "(CII)I" } : Jvm.MethodName)) ∈ lw_all := lw_g (lw_at lw_m11 46 rfl) rfl
theorem q2527 : (Jvm.Cond.privateMethod ({ cls := "CloudInterviewsModel", name := "doAddApplicant", desc := "(CII)I" } : Jvm.MethodName)) ∈ lw_tbl := lw_at lw_m11 47 rfl
theorem q2528 : (Jvm.Cond.instanceMethod ({ cls := "CloudInterviewsModel", name := "doAddApplicant", desc := "(CII)I" } : Jvm.MethodName)) ∈ lw_all := lw_g (lw_at lw_m11 48 rfl) rfl
theorem q2529 : (Jvm.Cond.code ({ cls := "CloudInterviewsModel", name := "doAddApplicant", desc := "(CII)I" } : Jvm.MethodName) prog_10_method_24_code (6 : Nat) (Option.some Jvm.ClassFile.FieldType.int)) ∈ lw_all := lw_g (lw_at lw_m11 49 rfl) rfl
theorem q2530 : (Jvm.Cond.methodLink "CloudInterviewsModel" (79 : Nat) ({ cls := "CloudInterviewsModel", name := "isShape", desc := "(I)Z" } : Jvm.MethodName)) ∈ lw_all := lw_g (lw_at lw_m11 50 rfl) rfl
theorem q2531 : (Jvm.Cond.static ({ cls := "CloudInterviewsModel", name := "isShape", desc := "(I)Z" } : Jvm.MethodName)) ∈ lw_all := lw_g (lw_at lw_m11 51 rfl) rfl
theorem q2532 : (Jvm.Cond.code ({ cls := "CloudInterviewsModel", name := "isShape", desc := "(I)Z" } : Jvm.MethodName) prog_10_method_18_code (1 : Nat) (Option.some Jvm.ClassFile.FieldType.boolean)) ∈ lw_all := lw_g (lw_at lw_m11 52 rfl) rfl
theorem q2533 : (Jvm.Cond.methodLink "CloudInterviewsModel" (51 : Nat) ({ cls := "CloudInterviewsModel", name := "in", desc := "(III)Z" } : Jvm.MethodName)) ∈ lw_all := lw_g (lw_at lw_m11 53 rfl) rfl
theorem q2534 : (Jvm.Cond.static ({ cls := "CloudInterviewsModel", name := "in", desc := "(III)Z" } : Jvm.MethodName)) ∈ lw_all := lw_g (lw_at lw_m11 54 rfl) rfl
theorem q2535 : (Jvm.Cond.code ({ cls := "CloudInterviewsModel", name := "in", desc := "(III)Z" } : Jvm.MethodName) prog_10_method_3_code (3 : Nat) (Option.some Jvm.ClassFile.FieldType.boolean)) ∈ lw_all := lw_g (lw_at lw_m11 55 rfl) rfl
theorem q2536 : (Jvm.Cond.methodLink "CloudInterviewsModel" (82 : Nat) ({ cls := "CloudInterviewsModel", name := "fails", desc := "(I)I" } : Jvm.MethodName)) ∈ lw_all := lw_g (lw_at lw_m11 56 rfl) rfl
theorem q2537 : (Jvm.Cond.privateMethod ({ cls := "CloudInterviewsModel", name := "fails", desc := "(I)I" } : Jvm.MethodName)) ∈ lw_tbl := lw_at lw_m11 57 rfl
theorem q2538 : (Jvm.Cond.instanceMethod ({ cls := "CloudInterviewsModel", name := "fails", desc := "(I)I" } : Jvm.MethodName)) ∈ lw_all := lw_g (lw_at lw_m11 58 rfl) rfl
theorem q2539 : (Jvm.Cond.code ({ cls := "CloudInterviewsModel", name := "fails", desc := "(I)I" } : Jvm.MethodName) prog_10_method_6_code (2 : Nat) (Option.some Jvm.ClassFile.FieldType.int)) ∈ lw_all := lw_g (lw_at lw_m11 59 rfl) rfl
theorem q2540 : (Jvm.Cond.methodLink "CloudInterviewsModel" (85 : Nat) ({ cls := "CloudInterviewsModel", name := "applicants", desc := "()I" } : Jvm.MethodName)) ∈ lw_all := lw_g (lw_at lw_m11 60 rfl) rfl
theorem q2541 : (Jvm.Cond.privateMethod ({ cls := "CloudInterviewsModel", name := "applicants", desc := "()I" } : Jvm.MethodName)) ∈ lw_tbl := lw_at lw_m11 61 rfl
theorem q2542 : (Jvm.Cond.instanceMethod ({ cls := "CloudInterviewsModel", name := "applicants", desc := "()I" } : Jvm.MethodName)) ∈ lw_all := lw_g (lw_at lw_m11 62 rfl) rfl
theorem q2543 : (Jvm.Cond.code ({ cls := "CloudInterviewsModel", name := "applicants", desc := "()I" } : Jvm.MethodName) prog_10_method_17_code (3 : Nat) (Option.some Jvm.ClassFile.FieldType.int)) ∈ lw_all := lw_g (lw_at lw_m11 63 rfl) rfl
theorem q2544 : (Jvm.Cond.methodLink "CloudInterviewsModel" (62 : Nat) ({ cls := "CloudInterviewsModel", name := "isUsed", desc := "(I)Z" } : Jvm.MethodName)) ∈ lw_all := lw_g (lw_at lw_m11 64 rfl) rfl
theorem q2545 : (Jvm.Cond.privateMethod ({ cls := "CloudInterviewsModel", name := "isUsed", desc := "(I)Z" } : Jvm.MethodName)) ∈ lw_tbl := lw_at lw_m11 65 rfl
theorem q2546 : (Jvm.Cond.instanceMethod ({ cls := "CloudInterviewsModel", name := "isUsed", desc := "(I)Z" } : Jvm.MethodName)) ∈ lw_all := lw_g (lw_at lw_m11 66 rfl) rfl
theorem q2547 : (Jvm.Cond.code ({ cls := "CloudInterviewsModel", name := "isUsed", desc := "(I)Z" } : Jvm.MethodName) prog_10_method_12_code (2 : Nat) (Option.some Jvm.ClassFile.FieldType.boolean)) ∈ lw_all := lw_g (lw_at lw_m11 67 rfl) rfl
theorem q2548 : (Jvm.Cond.methodLink "CloudInterviewsModel" (55 : Nat) ({ cls := "CloudInterviewsModel", name := "of", desc := "(II)I" } : Jvm.MethodName)) ∈ lw_all := lw_g (lw_at lw_m11 68 rfl) rfl
theorem q2549 : (Jvm.Cond.privateMethod ({ cls := "CloudInterviewsModel", name := "of", desc := "(II)I" } : Jvm.MethodName)) ∈ lw_tbl := lw_at lw_m11 69 rfl
theorem q2550 : (Jvm.Cond.instanceMethod ({ cls := "CloudInterviewsModel", name := "of", desc := "(II)I" } : Jvm.MethodName)) ∈ lw_all := lw_g (lw_at lw_m11 70 rfl) rfl
theorem q2551 : (Jvm.Cond.code ({ cls := "CloudInterviewsModel", name := "of", desc := "(II)I" } : Jvm.MethodName) prog_10_method_8_code (3 : Nat) (Option.some Jvm.ClassFile.FieldType.int)) ∈ lw_all := lw_g (lw_at lw_m11 71 rfl) rfl
theorem q2552 : (Jvm.Cond.methodLink "CloudInterviewsModel" (89 : Nat) ({ cls := "CloudInterviewsModel", name := "sets", desc := "(III)V" } : Jvm.MethodName)) ∈ lw_all := lw_g (lw_at lw_m11 72 rfl) rfl
theorem q2553 : (Jvm.Cond.privateMethod ({ cls := "CloudInterviewsModel", name := "sets", desc := "(III)V" } : Jvm.MethodName)) ∈ lw_tbl := lw_at lw_m11 73 rfl
theorem q2554 : (Jvm.Cond.instanceMethod ({ cls := "CloudInterviewsModel", name := "sets", desc := "(III)V" } : Jvm.MethodName)) ∈ lw_all := lw_g (lw_at lw_m11 74 rfl) rfl
theorem q2555 : (Jvm.Cond.code ({ cls := "CloudInterviewsModel", name := "sets", desc := "(III)V" } : Jvm.MethodName) prog_10_method_9_code (4 : Nat) (Option.none : Option Jvm.ClassFile.FieldType)) ∈ lw_all := lw_g (lw_at lw_m11 75 rfl) rfl
theorem q2556 : (Jvm.Cond.methodLink "CloudInterviewsModel" (100 : Nat) ({ cls := "CloudInterviewsModel", name := "ends", desc := "(I)I" } : Jvm.MethodName)) ∈ lw_all := lw_g (lw_at lw_m11 76 rfl) rfl
theorem q2557 : (Jvm.Cond.privateMethod ({ cls := "CloudInterviewsModel", name := "ends", desc := "(I)I" } : Jvm.MethodName)) ∈ lw_tbl := lw_at lw_m11 77 rfl
theorem q2558 : (Jvm.Cond.instanceMethod ({ cls := "CloudInterviewsModel", name := "ends", desc := "(I)I" } : Jvm.MethodName)) ∈ lw_all := lw_g (lw_at lw_m11 78 rfl) rfl
theorem q2559 : (Jvm.Cond.code ({ cls := "CloudInterviewsModel", name := "ends", desc := "(I)I" } : Jvm.MethodName) prog_10_method_5_code (2 : Nat) (Option.some Jvm.ClassFile.FieldType.int)) ∈ lw_all := lw_g (lw_at lw_m11 79 rfl) rfl
theorem q2561 : (Jvm.Cond.instanceMethod ({ cls := "CloudInterviewsModel", name := "removeApplicant", desc := "(I)I" } : Jvm.MethodName)) ∈ lw_all := lw_g (lw_at lw_m11 81 rfl) rfl
theorem q2562 : (Jvm.Cond.selects "CloudInterviewsModel" ({ cls := "CloudInterviewsModel", name := "removeApplicant", desc := "(I)I" } : Jvm.MethodName) ({ cls := "CloudInterviewsModel", name := "removeApplicant", desc := "(I)I" } : Jvm.MethodName)) ∈ lw_all := lw_g (lw_at lw_m11 82 rfl) rfl
theorem q2563 : (Jvm.Cond.code ({ cls := "CloudInterviewsModel", name := "removeApplicant", desc := "(I)I" } : Jvm.MethodName) prog_10_method_28_code (2 : Nat) (Option.some Jvm.ClassFile.FieldType.int)) ∈ lw_all := lw_g (lw_at lw_m11 83 rfl) rfl
theorem q2564 : (Jvm.Cond.methodLink "CloudInterviewsModel" (110 : Nat) ({ cls := "CloudInterviewsModel", name := "doRemoveApplicant", desc := "(I)I" } : Jvm.MethodName)) ∈ lw_all := lw_g (lw_at lw_m11 84 rfl) rfl
theorem q2565 : (Jvm.Cond.privateMethod ({ cls := "CloudInterviewsModel", name := "doRemoveApplicant", desc := "(I)I" } : Jvm.MethodName)) ∈ lw_tbl := lw_at lw_m11 85 rfl
theorem q2566 : (Jvm.Cond.instanceMethod ({ cls := "CloudInterviewsModel", name := "doRemoveApplicant", desc := "(I)I" } : Jvm.MethodName)) ∈ lw_all := lw_g (lw_at lw_m11 86 rfl) rfl
theorem q2567 : (Jvm.Cond.code ({ cls := "CloudInterviewsModel", name := "doRemoveApplicant", desc := "(I)I" } : Jvm.MethodName) prog_10_method_27_code (4 : Nat) (Option.some Jvm.ClassFile.FieldType.int)) ∈ lw_all := lw_g (lw_at lw_m11 87 rfl) rfl
theorem q2568 : (Jvm.Cond.methodLink "CloudInterviewsModel" (103 : Nat) ({ cls := "CloudInterviewsModel", name := "slotOf", desc := "(I)I" } : Jvm.MethodName)) ∈ lw_all := lw_g (lw_at lw_m11 88 rfl) rfl
theorem q2569 : (Jvm.Cond.privateMethod ({ cls := "CloudInterviewsModel", name := "slotOf", desc := "(I)I" } : Jvm.MethodName)) ∈ lw_tbl := lw_at lw_m11 89 rfl
theorem q2570 : (Jvm.Cond.instanceMethod ({ cls := "CloudInterviewsModel", name := "slotOf", desc := "(I)I" } : Jvm.MethodName)) ∈ lw_all := lw_g (lw_at lw_m11 90 rfl) rfl
theorem q2571 : (Jvm.Cond.code ({ cls := "CloudInterviewsModel", name := "slotOf", desc := "(I)I" } : Jvm.MethodName) prog_10_method_13_code (4 : Nat) (Option.some Jvm.ClassFile.FieldType.int)) ∈ lw_all := lw_g (lw_at lw_m11 91 rfl) rfl
theorem q2572 : (Jvm.Cond.methodLink "CloudInterviewsModel" (106 : Nat) ({ cls := "CloudInterviewsModel", name := "goes", desc := "(I)V" } : Jvm.MethodName)) ∈ lw_all := lw_g (lw_at lw_m11 92 rfl) rfl
theorem q2573 : (Jvm.Cond.privateMethod ({ cls := "CloudInterviewsModel", name := "goes", desc := "(I)V" } : Jvm.MethodName)) ∈ lw_tbl := lw_at lw_m11 93 rfl
theorem q2574 : (Jvm.Cond.instanceMethod ({ cls := "CloudInterviewsModel", name := "goes", desc := "(I)V" } : Jvm.MethodName)) ∈ lw_all := lw_g (lw_at lw_m11 94 rfl) rfl
theorem q2575 : (Jvm.Cond.code ({ cls := "CloudInterviewsModel", name := "goes", desc := "(I)V" } : Jvm.MethodName) prog_10_method_26_code (4 : Nat) (Option.none : Option Jvm.ClassFile.FieldType)) ∈ lw_all := lw_g (lw_at lw_m11 95 rfl) rfl
theorem q2576 : (Jvm.Cond.methodLink "CloudInterviewsModel" (66 : Nat) ({ cls := "CloudInterviewsModel", name := "filledWith", desc := "(I)I" } : Jvm.MethodName)) ∈ lw_all := lw_g (lw_at lw_m11 96 rfl) rfl
theorem q2577 : (Jvm.Cond.privateMethod ({ cls := "CloudInterviewsModel", name := "filledWith", desc := "(I)I" } : Jvm.MethodName)) ∈ lw_tbl := lw_at lw_m11 97 rfl
theorem q2578 : (Jvm.Cond.instanceMethod ({ cls := "CloudInterviewsModel", name := "filledWith", desc := "(I)I" } : Jvm.MethodName)) ∈ lw_all := lw_g (lw_at lw_m11 98 rfl) rfl
theorem q2579 : (Jvm.Cond.code ({ cls := "CloudInterviewsModel", name := "filledWith", desc := "(I)I" } : Jvm.MethodName) prog_10_method_15_code (4 : Nat) (Option.some Jvm.ClassFile.FieldType.int)) ∈ lw_all := lw_g (lw_at lw_m11 99 rfl) rfl
theorem q2580 : (Jvm.Cond.methodLink "CloudInterviewsModel" (59 : Nat) ({ cls := "CloudInterviewsModel", name := "ofPost", desc := "(II)I" } : Jvm.MethodName)) ∈ lw_all := lw_g (lw_at lw_m11 100 rfl) rfl
theorem q2581 : (Jvm.Cond.privateMethod ({ cls := "CloudInterviewsModel", name := "ofPost", desc := "(II)I" } : Jvm.MethodName)) ∈ lw_tbl := lw_at lw_m11 101 rfl
theorem q2582 : (Jvm.Cond.instanceMethod ({ cls := "CloudInterviewsModel", name := "ofPost", desc := "(II)I" } : Jvm.MethodName)) ∈ lw_all := lw_g (lw_at lw_m11 102 rfl) rfl
theorem q2583 : (Jvm.Cond.code ({ cls := "CloudInterviewsModel", name := "ofPost", desc := "(II)I" } : Jvm.MethodName) prog_10_method_10_code (3 : Nat) (Option.some Jvm.ClassFile.FieldType.int)) ∈ lw_all := lw_g (lw_at lw_m11 103 rfl) rfl
theorem q2585 : (Jvm.Cond.instanceMethod ({ cls := "CloudInterviewsModel", name := "rejectRainy", desc := "(I)I" } : Jvm.MethodName)) ∈ lw_all := lw_g (lw_at lw_m11 105 rfl) rfl
theorem q2586 : (Jvm.Cond.selects "CloudInterviewsModel" ({ cls := "CloudInterviewsModel", name := "rejectRainy", desc := "(I)I" } : Jvm.MethodName) ({ cls := "CloudInterviewsModel", name := "rejectRainy", desc := "(I)I" } : Jvm.MethodName)) ∈ lw_all := lw_g (lw_at lw_m11 106 rfl) rfl
theorem q2587 : (Jvm.Cond.code ({ cls := "CloudInterviewsModel", name := "rejectRainy", desc := "(I)I" } : Jvm.MethodName) prog_10_method_30_code (2 : Nat) (Option.some Jvm.ClassFile.FieldType.int)) ∈ lw_all := lw_g (lw_at lw_m11 107 rfl) rfl
theorem q2588 : (Jvm.Cond.methodLink "CloudInterviewsModel" (116 : Nat) ({ cls := "CloudInterviewsModel", name := "doRejectRainy", desc := "(I)I" } : Jvm.MethodName)) ∈ lw_all := lw_g (lw_at lw_m11 108 rfl) rfl
theorem q2589 : (Jvm.Cond.privateMethod ({ cls := "CloudInterviewsModel", name := "doRejectRainy", desc := "(I)I" } : Jvm.MethodName)) ∈ lw_tbl := lw_at lw_m11 109 rfl
theorem q2590 : (Jvm.Cond.instanceMethod ({ cls := "CloudInterviewsModel", name := "doRejectRainy", desc := "(I)I" } : Jvm.MethodName)) ∈ lw_all := lw_g (lw_at lw_m11 110 rfl) rfl
theorem q2591 : (Jvm.Cond.code ({ cls := "CloudInterviewsModel", name := "doRejectRainy", desc := "(I)I" } : Jvm.MethodName) prog_10_method_29_code (4 : Nat) (Option.some Jvm.ClassFile.FieldType.int)) ∈ lw_all := lw_g (lw_at lw_m11 111 rfl) rfl
theorem q2592 : (Jvm.Cond.methodLink "CloudInterviewsModel" (113 : Nat) ({ cls := "CloudInterviewsModel", name := "isWaiting", desc := "(I)Z" } : Jvm.MethodName)) ∈ lw_all := lw_g (lw_at lw_m11 112 rfl) rfl
theorem q2593 : (Jvm.Cond.privateMethod ({ cls := "CloudInterviewsModel", name := "isWaiting", desc := "(I)Z" } : Jvm.MethodName)) ∈ lw_tbl := lw_at lw_m11 113 rfl
theorem q2594 : (Jvm.Cond.instanceMethod ({ cls := "CloudInterviewsModel", name := "isWaiting", desc := "(I)Z" } : Jvm.MethodName)) ∈ lw_all := lw_g (lw_at lw_m11 114 rfl) rfl
theorem q2595 : (Jvm.Cond.code ({ cls := "CloudInterviewsModel", name := "isWaiting", desc := "(I)Z" } : Jvm.MethodName) prog_10_method_16_code (2 : Nat) (Option.some Jvm.ClassFile.FieldType.boolean)) ∈ lw_all := lw_g (lw_at lw_m11 115 rfl) rfl
theorem q2597 : (Jvm.Cond.instanceMethod ({ cls := "CloudInterviewsModel", name := "applicantCount", desc := "()I" } : Jvm.MethodName)) ∈ lw_all := lw_g (lw_at lw_m11 117 rfl) rfl
theorem q2598 : (Jvm.Cond.selects "CloudInterviewsModel" ({ cls := "CloudInterviewsModel", name := "applicantCount", desc := "()I" } : Jvm.MethodName) ({ cls := "CloudInterviewsModel", name := "applicantCount", desc := "()I" } : Jvm.MethodName)) ∈ lw_all := lw_g (lw_at lw_m11 118 rfl) rfl
theorem q2599 : (Jvm.Cond.code ({ cls := "CloudInterviewsModel", name := "applicantCount", desc := "()I" } : Jvm.MethodName) prog_10_method_31_code (1 : Nat) (Option.some Jvm.ClassFile.FieldType.int)) ∈ lw_all := lw_g (lw_at lw_m11 119 rfl) rfl
theorem q2601 : (Jvm.Cond.instanceMethod ({ cls := "CloudInterviewsModel", name := "waitingCount", desc := "()I" } : Jvm.MethodName)) ∈ lw_all := lw_g (lw_at lw_m11 121 rfl) rfl
theorem q2602 : (Jvm.Cond.selects "CloudInterviewsModel" ({ cls := "CloudInterviewsModel", name := "waitingCount", desc := "()I" } : Jvm.MethodName) ({ cls := "CloudInterviewsModel", name := "waitingCount", desc := "()I" } : Jvm.MethodName)) ∈ lw_all := lw_g (lw_at lw_m11 122 rfl) rfl
theorem q2603 : (Jvm.Cond.code ({ cls := "CloudInterviewsModel", name := "waitingCount", desc := "()I" } : Jvm.MethodName) prog_10_method_32_code (3 : Nat) (Option.some Jvm.ClassFile.FieldType.int)) ∈ lw_all := lw_g (lw_at lw_m11 123 rfl) rfl
theorem q2605 : (Jvm.Cond.instanceMethod ({ cls := "CloudInterviewsModel", name := "applicant", desc := "(I)I" } : Jvm.MethodName)) ∈ lw_all := lw_g (lw_at lw_m11 125 rfl) rfl
theorem q2606 : (Jvm.Cond.selects "CloudInterviewsModel" ({ cls := "CloudInterviewsModel", name := "applicant", desc := "(I)I" } : Jvm.MethodName) ({ cls := "CloudInterviewsModel", name := "applicant", desc := "(I)I" } : Jvm.MethodName)) ∈ lw_all := lw_g (lw_at lw_m11 126 rfl) rfl
theorem q2607 : (Jvm.Cond.code ({ cls := "CloudInterviewsModel", name := "applicant", desc := "(I)I" } : Jvm.MethodName) prog_10_method_33_code (7 : Nat) (Option.some Jvm.ClassFile.FieldType.int)) ∈ lw_all := lw_g (lw_at lw_m11 127 rfl) rfl
theorem q2608 : (Jvm.Cond.methodLink "CloudInterviewsModel" (119 : Nat) ({ cls := "CloudInterviewsModel", name := "isThere", desc := "(Z)Z" } : Jvm.MethodName)) ∈ lw_all := lw_g (lw_at lw_m11 128 rfl) rfl
theorem q2609 : (Jvm.Cond.privateMethod ({ cls := "CloudInterviewsModel", name := "isThere", desc := "(Z)Z" } : Jvm.MethodName)) ∈ lw_tbl := lw_at lw_m11 129 rfl
theorem q2610 : (Jvm.Cond.instanceMethod ({ cls := "CloudInterviewsModel", name := "isThere", desc := "(Z)Z" } : Jvm.MethodName)) ∈ lw_all := lw_g (lw_at lw_m11 130 rfl) rfl
theorem q2611 : (Jvm.Cond.code ({ cls := "CloudInterviewsModel", name := "isThere", desc := "(Z)Z" } : Jvm.MethodName) prog_10_method_7_code (2 : Nat) (Option.some Jvm.ClassFile.FieldType.boolean)) ∈ lw_all := lw_g (lw_at lw_m11 131 rfl) rfl
theorem q2612 : (Jvm.Cond.methodLink "CloudInterviewsModel" (76 : Nat) ({ cls := "CloudInterviewsModel", name := "idOf", desc := "(I)I" } : Jvm.MethodName)) ∈ lw_all := lw_g (lw_at lw_m11 132 rfl) rfl
theorem q2613 : (Jvm.Cond.privateMethod ({ cls := "CloudInterviewsModel", name := "idOf", desc := "(I)I" } : Jvm.MethodName)) ∈ lw_tbl := lw_at lw_m11 133 rfl
theorem q2614 : (Jvm.Cond.instanceMethod ({ cls := "CloudInterviewsModel", name := "idOf", desc := "(I)I" } : Jvm.MethodName)) ∈ lw_all := lw_g (lw_at lw_m11 134 rfl) rfl
theorem q2615 : (Jvm.Cond.code ({ cls := "CloudInterviewsModel", name := "idOf", desc := "(I)I" } : Jvm.MethodName) prog_10_method_14_code (2 : Nat) (Option.some Jvm.ClassFile.FieldType.int)) ∈ lw_all := lw_g (lw_at lw_m11 135 rfl) rfl
theorem q2617 : (Jvm.Cond.instanceMethod ({ cls := "CloudInterviewsModel", name := "shape", desc := "(I)C" } : Jvm.MethodName)) ∈ lw_all := lw_g (lw_at lw_m11 137 rfl) rfl
theorem q2618 : (Jvm.Cond.selects "CloudInterviewsModel" ({ cls := "CloudInterviewsModel", name := "shape", desc := "(I)C" } : Jvm.MethodName) ({ cls := "CloudInterviewsModel", name := "shape", desc := "(I)C" } : Jvm.MethodName)) ∈ lw_all := lw_g (lw_at lw_m11 138 rfl) rfl
theorem q2619 : (Jvm.Cond.code ({ cls := "CloudInterviewsModel", name := "shape", desc := "(I)C" } : Jvm.MethodName) prog_10_method_35_code (3 : Nat) (Option.some Jvm.ClassFile.FieldType.char)) ∈ lw_all := lw_g (lw_at lw_m11 139 rfl) rfl
theorem q2620 : (Jvm.Cond.methodLink "CloudInterviewsModel" (123 : Nat) ({ cls := "CloudInterviewsModel", name := "told", desc := "(II)I" } : Jvm.MethodName)) ∈ lw_all := lw_g (lw_at lw_m11 140 rfl) rfl
theorem q2621 : (Jvm.Cond.privateMethod ({ cls := "CloudInterviewsModel", name := "told", desc := "(II)I" } : Jvm.MethodName)) ∈ lw_tbl := lw_at lw_m11 141 rfl
theorem q2622 : (Jvm.Cond.instanceMethod ({ cls := "CloudInterviewsModel", name := "told", desc := "(II)I" } : Jvm.MethodName)) ∈ lw_all := lw_g (lw_at lw_m11 142 rfl) rfl
theorem q2623 : (Jvm.Cond.code ({ cls := "CloudInterviewsModel", name := "told", desc := "(II)I" } : Jvm.MethodName) prog_10_method_34_code (4 : Nat) (Option.some Jvm.ClassFile.FieldType.int)) ∈ lw_all := lw_g (lw_at lw_m11 143 rfl) rfl
theorem q2625 : (Jvm.Cond.instanceMethod ({ cls := "CloudInterviewsModel", name := "whiteness", desc := "(I)I" } : Jvm.MethodName)) ∈ lw_all := lw_g (lw_at lw_m11 145 rfl) rfl
theorem q2626 : (Jvm.Cond.selects "CloudInterviewsModel" ({ cls := "CloudInterviewsModel", name := "whiteness", desc := "(I)I" } : Jvm.MethodName) ({ cls := "CloudInterviewsModel", name := "whiteness", desc := "(I)I" } : Jvm.MethodName)) ∈ lw_all := lw_g (lw_at lw_m11 146 rfl) rfl
theorem q2627 : (Jvm.Cond.code ({ cls := "CloudInterviewsModel", name := "whiteness", desc := "(I)I" } : Jvm.MethodName) prog_10_method_36_code (2 : Nat) (Option.some Jvm.ClassFile.FieldType.int)) ∈ lw_all := lw_g (lw_at lw_m11 147 rfl) rfl
theorem q2629 : (Jvm.Cond.instanceMethod ({ cls := "CloudInterviewsModel", name := "rain", desc := "(I)I" } : Jvm.MethodName)) ∈ lw_all := lw_g (lw_at lw_m11 149 rfl) rfl
theorem q2630 : (Jvm.Cond.selects "CloudInterviewsModel" ({ cls := "CloudInterviewsModel", name := "rain", desc := "(I)I" } : Jvm.MethodName) ({ cls := "CloudInterviewsModel", name := "rain", desc := "(I)I" } : Jvm.MethodName)) ∈ lw_all := lw_g (lw_at lw_m11 150 rfl) rfl
theorem q2631 : (Jvm.Cond.code ({ cls := "CloudInterviewsModel", name := "rain", desc := "(I)I" } : Jvm.MethodName) prog_10_method_37_code (2 : Nat) (Option.some Jvm.ClassFile.FieldType.int)) ∈ lw_all := lw_g (lw_at lw_m11 151 rfl) rfl
theorem q2633 : (Jvm.Cond.instanceMethod ({ cls := "CloudInterviewsModel", name := "coins", desc := "(I)I" } : Jvm.MethodName)) ∈ lw_all := lw_g (lw_at lw_m11 153 rfl) rfl
theorem q2634 : (Jvm.Cond.selects "CloudInterviewsModel" ({ cls := "CloudInterviewsModel", name := "coins", desc := "(I)I" } : Jvm.MethodName) ({ cls := "CloudInterviewsModel", name := "coins", desc := "(I)I" } : Jvm.MethodName)) ∈ lw_all := lw_g (lw_at lw_m11 154 rfl) rfl
theorem q2635 : (Jvm.Cond.code ({ cls := "CloudInterviewsModel", name := "coins", desc := "(I)I" } : Jvm.MethodName) prog_10_method_38_code (2 : Nat) (Option.some Jvm.ClassFile.FieldType.int)) ∈ lw_all := lw_g (lw_at lw_m11 155 rfl) rfl
theorem q2637 : (Jvm.Cond.instanceMethod ({ cls := "CloudInterviewsModel", name := "isHired", desc := "(I)Z" } : Jvm.MethodName)) ∈ lw_all := lw_g (lw_at lw_m11 157 rfl) rfl
theorem q2638 : (Jvm.Cond.selects "CloudInterviewsModel" ({ cls := "CloudInterviewsModel", name := "isHired", desc := "(I)Z" } : Jvm.MethodName) ({ cls := "CloudInterviewsModel", name := "isHired", desc := "(I)Z" } : Jvm.MethodName)) ∈ lw_all := lw_g (lw_at lw_m11 158 rfl) rfl
theorem q2639 : (Jvm.Cond.code ({ cls := "CloudInterviewsModel", name := "isHired", desc := "(I)Z" } : Jvm.MethodName) prog_10_method_39_code (3 : Nat) (Option.some Jvm.ClassFile.FieldType.boolean)) ∈ lw_all := lw_g (lw_at lw_m11 159 rfl) rfl
theorem q2641 : (Jvm.Cond.instanceMethod ({ cls := "CloudInterviewsModel", name := "postOf", desc := "(I)I" } : Jvm.MethodName)) ∈ lw_all := lw_g (lw_at lw_m11 161 rfl) rfl
theorem q2642 : (Jvm.Cond.selects "CloudInterviewsModel" ({ cls := "CloudInterviewsModel", name := "postOf", desc := "(I)I" } : Jvm.MethodName) ({ cls := "CloudInterviewsModel", name := "postOf", desc := "(I)I" } : Jvm.MethodName)) ∈ lw_all := lw_g (lw_at lw_m11 162 rfl) rfl
theorem q2643 : (Jvm.Cond.code ({ cls := "CloudInterviewsModel", name := "postOf", desc := "(I)I" } : Jvm.MethodName) prog_10_method_40_code (4 : Nat) (Option.some Jvm.ClassFile.FieldType.int)) ∈ lw_all := lw_g (lw_at lw_m11 163 rfl) rfl
theorem q2645 : (Jvm.Cond.instanceMethod ({ cls := "CloudInterviewsModel", name := "score", desc := "(I)I" } : Jvm.MethodName)) ∈ lw_all := lw_g (lw_at lw_m11 165 rfl) rfl
theorem q2646 : (Jvm.Cond.selects "CloudInterviewsModel" ({ cls := "CloudInterviewsModel", name := "score", desc := "(I)I" } : Jvm.MethodName) ({ cls := "CloudInterviewsModel", name := "score", desc := "(I)I" } : Jvm.MethodName)) ∈ lw_all := lw_g (lw_at lw_m11 166 rfl) rfl
theorem q2647 : (Jvm.Cond.code ({ cls := "CloudInterviewsModel", name := "score", desc := "(I)I" } : Jvm.MethodName) prog_10_method_41_code (3 : Nat) (Option.some Jvm.ClassFile.FieldType.int)) ∈ lw_all := lw_g (lw_at lw_m11 167 rfl) rfl
theorem q2648 : (Jvm.Cond.methodLink "CloudInterviewsModel" (73 : Nat) ({ cls := "CloudInterviewsModel", name := "points", desc := "(I)I" } : Jvm.MethodName)) ∈ lw_all := lw_g (lw_at lw_m11 168 rfl) rfl
theorem q2649 : (Jvm.Cond.privateMethod ({ cls := "CloudInterviewsModel", name := "points", desc := "(I)I" } : Jvm.MethodName)) ∈ lw_tbl := lw_at lw_m11 169 rfl
theorem q2650 : (Jvm.Cond.instanceMethod ({ cls := "CloudInterviewsModel", name := "points", desc := "(I)I" } : Jvm.MethodName)) ∈ lw_all := lw_g (lw_at lw_m11 170 rfl) rfl
theorem q2651 : (Jvm.Cond.code ({ cls := "CloudInterviewsModel", name := "points", desc := "(I)I" } : Jvm.MethodName) prog_10_method_20_code (2 : Nat) (Option.some Jvm.ClassFile.FieldType.int)) ∈ lw_all := lw_g (lw_at lw_m11 171 rfl) rfl
theorem q2652 : (Jvm.Cond.methodLink "CloudInterviewsModel" (70 : Nat) ({ cls := "CloudInterviewsModel", name := "bits", desc := "(I)I" } : Jvm.MethodName)) ∈ lw_all := lw_g (lw_at lw_m11 172 rfl) rfl
theorem q2653 : (Jvm.Cond.static ({ cls := "CloudInterviewsModel", name := "bits", desc := "(I)I" } : Jvm.MethodName)) ∈ lw_all := lw_g (lw_at lw_m11 173 rfl) rfl
theorem q2654 : (Jvm.Cond.code ({ cls := "CloudInterviewsModel", name := "bits", desc := "(I)I" } : Jvm.MethodName) prog_10_method_19_code (3 : Nat) (Option.some Jvm.ClassFile.FieldType.int)) ∈ lw_all := lw_g (lw_at lw_m11 174 rfl) rfl
theorem q2656 : (Jvm.Cond.instanceMethod ({ cls := "CloudInterviewsModel", name := "applicantByScore", desc := "(I)I" } : Jvm.MethodName)) ∈ lw_all := lw_g (lw_at lw_m11 176 rfl) rfl
theorem q2657 : (Jvm.Cond.selects "CloudInterviewsModel" ({ cls := "CloudInterviewsModel", name := "applicantByScore", desc := "(I)I" } : Jvm.MethodName) ({ cls := "CloudInterviewsModel", name := "applicantByScore", desc := "(I)I" } : Jvm.MethodName)) ∈ lw_all := lw_g (lw_at lw_m11 177 rfl) rfl
theorem q2658 : (Jvm.Cond.code ({ cls := "CloudInterviewsModel", name := "applicantByScore", desc := "(I)I" } : Jvm.MethodName) prog_10_method_42_code (7 : Nat) (Option.some Jvm.ClassFile.FieldType.int)) ∈ lw_all := lw_g (lw_at lw_m11 178 rfl) rfl
theorem q2659 : (Jvm.Cond.methodLink "CloudInterviewsModel" (126 : Nat) ({ cls := "CloudInterviewsModel", name := "isBetter", desc := "(II)Z" } : Jvm.MethodName)) ∈ lw_all := lw_g (lw_at lw_m11 179 rfl) rfl
theorem q2660 : (Jvm.Cond.privateMethod ({ cls := "CloudInterviewsModel", name := "isBetter", desc := "(II)Z" } : Jvm.MethodName)) ∈ lw_tbl := lw_at lw_m11 180 rfl
theorem q2661 : (Jvm.Cond.instanceMethod ({ cls := "CloudInterviewsModel", name := "isBetter", desc := "(II)Z" } : Jvm.MethodName)) ∈ lw_all := lw_g (lw_at lw_m11 181 rfl) rfl
theorem q2662 : (Jvm.Cond.code ({ cls := "CloudInterviewsModel", name := "isBetter", desc := "(II)Z" } : Jvm.MethodName) prog_10_method_21_code (4 : Nat) (Option.some Jvm.ClassFile.FieldType.boolean)) ∈ lw_all := lw_g (lw_at lw_m11 182 rfl) rfl
theorem q2664 : (Jvm.Cond.instanceMethod ({ cls := "CloudInterviewsModel", name := "addReference", desc := "(II)I" } : Jvm.MethodName)) ∈ lw_all := lw_g (lw_at lw_m11 184 rfl) rfl
theorem q2665 : (Jvm.Cond.selects "CloudInterviewsModel" ({ cls := "CloudInterviewsModel", name := "addReference", desc := "(II)I" } : Jvm.MethodName) ({ cls := "CloudInterviewsModel", name := "addReference", desc := "(II)I" } : Jvm.MethodName)) ∈ lw_all := lw_g (lw_at lw_m11 185 rfl) rfl
theorem q2666 : (Jvm.Cond.code ({ cls := "CloudInterviewsModel", name := "addReference", desc := "(II)I" } : Jvm.MethodName) prog_10_method_44_code (3 : Nat) (Option.some Jvm.ClassFile.FieldType.int)) ∈ lw_all := lw_g (lw_at lw_m11 186 rfl) rfl
theorem q2667 : (Jvm.Cond.methodLink "CloudInterviewsModel" (130 : Nat) ({ cls := "CloudInterviewsModel", name := "doAddReference", desc := "(II)I" } : Jvm.MethodName)) ∈ lw_all := lw_g (lw_at lw_m11 187 rfl) rfl
theorem q2668 : (Jvm.Cond.privateMethod ({ cls := "CloudInterviewsModel", name := "doAddReference", desc := "(II)I" } : Jvm.MethodName)) ∈ lw_tbl := lw_at lw_m11 188 rfl
theorem q2669 : (Jvm.Cond.instanceMethod ({ cls := "CloudInterviewsModel", name := "doAddReference", desc := "(II)I" } : Jvm.MethodName)) ∈ lw_all := lw_g (lw_at lw_m11 189 rfl) rfl
theorem q2670 : (Jvm.Cond.code ({ cls := "CloudInterviewsModel", name := "doAddReference", desc := "(II)I" } : Jvm.MethodName) prog_10_method_43_code (6 : Nat) (Option.some Jvm.ClassFile.FieldType.int)) ∈ lw_all := lw_g (lw_at lw_m11 190 rfl) rfl
theorem q2672 : (Jvm.Cond.instanceMethod ({ cls := "CloudInterviewsModel", name := "removeReference", desc := "(II)I" } : Jvm.MethodName)) ∈ lw_all := lw_g (lw_at lw_m11 192 rfl) rfl
theorem q2673 : (Jvm.Cond.selects "CloudInterviewsModel" ({ cls := "CloudInterviewsModel", name := "removeReference", desc := "(II)I" } : Jvm.MethodName) ({ cls := "CloudInterviewsModel", name := "removeReference", desc := "(II)I" } : Jvm.MethodName)) ∈ lw_all := lw_g (lw_at lw_m11 193 rfl) rfl
theorem q2674 : (Jvm.Cond.code ({ cls := "CloudInterviewsModel", name := "removeReference", desc := "(II)I" } : Jvm.MethodName) prog_10_method_47_code (3 : Nat) (Option.some Jvm.ClassFile.FieldType.int)) ∈ lw_all := lw_g (lw_at lw_m11 194 rfl) rfl
theorem q2675 : (Jvm.Cond.methodLink "CloudInterviewsModel" (136 : Nat) ({ cls := "CloudInterviewsModel", name := "doRemoveReference", desc := "(II)I" } : Jvm.MethodName)) ∈ lw_all := lw_g (lw_at lw_m11 195 rfl) rfl
theorem q2676 : (Jvm.Cond.privateMethod ({ cls := "CloudInterviewsModel", name := "doRemoveReference", desc := "(II)I" } : Jvm.MethodName)) ∈ lw_tbl := lw_at lw_m11 196 rfl
theorem q2677 : (Jvm.Cond.instanceMethod ({ cls := "CloudInterviewsModel", name := "doRemoveReference", desc := "(II)I" } : Jvm.MethodName)) ∈ lw_all := lw_g (lw_at lw_m11 197 rfl) rfl
theorem q2678 : (Jvm.Cond.code ({ cls := "CloudInterviewsModel", name := "doRemoveReference", desc := "(II)I" } : Jvm.MethodName) prog_10_method_46_code (4 : Nat) (Option.some Jvm.ClassFile.FieldType.int)) ∈ lw_all := lw_g (lw_at lw_m11 198 rfl) rfl
theorem q2679 : (Jvm.Cond.methodLink "CloudInterviewsModel" (133 : Nat) ({ cls := "CloudInterviewsModel", name := "isGiven", desc := "(II)Z" } : Jvm.MethodName)) ∈ lw_all := lw_g (lw_at lw_m11 199 rfl) rfl
theorem q2680 : (Jvm.Cond.privateMethod ({ cls := "CloudInterviewsModel", name := "isGiven", desc := "(II)Z" } : Jvm.MethodName)) ∈ lw_tbl := lw_at lw_m11 200 rfl
theorem q2681 : (Jvm.Cond.instanceMethod ({ cls := "CloudInterviewsModel", name := "isGiven", desc := "(II)Z" } : Jvm.MethodName)) ∈ lw_all := lw_g (lw_at lw_m11 201 rfl) rfl
theorem q2682 : (Jvm.Cond.code ({ cls := "CloudInterviewsModel", name := "isGiven", desc := "(II)Z" } : Jvm.MethodName) prog_10_method_45_code (5 : Nat) (Option.some Jvm.ClassFile.FieldType.boolean)) ∈ lw_all := lw_g (lw_at lw_m11 202 rfl) rfl
theorem q2684 : (Jvm.Cond.instanceMethod ({ cls := "CloudInterviewsModel", name := "hasReference", desc := "(II)Z" } : Jvm.MethodName)) ∈ lw_all := lw_g (lw_at lw_m11 204 rfl) rfl
theorem q2685 : (Jvm.Cond.selects "CloudInterviewsModel" ({ cls := "CloudInterviewsModel", name := "hasReference", desc := "(II)Z" } : Jvm.MethodName) ({ cls := "CloudInterviewsModel", name := "hasReference", desc := "(II)Z" } : Jvm.MethodName)) ∈ lw_all := lw_g (lw_at lw_m11 205 rfl) rfl
theorem q2686 : (Jvm.Cond.code ({ cls := "CloudInterviewsModel", name := "hasReference", desc := "(II)Z" } : Jvm.MethodName) prog_10_method_48_code (3 : Nat) (Option.some Jvm.ClassFile.FieldType.boolean)) ∈ lw_all := lw_g (lw_at lw_m11 206 rfl) rfl
theorem q2688 : (Jvm.Cond.instanceMethod ({ cls := "CloudInterviewsModel", name := "referencesFor", desc := "(I)I" } : Jvm.MethodName)) ∈ lw_all := lw_g (lw_at lw_m11 208 rfl) rfl
theorem q2689 : (Jvm.Cond.selects "CloudInterviewsModel" ({ cls := "CloudInterviewsModel", name := "referencesFor", desc := "(I)I" } : Jvm.MethodName) ({ cls := "CloudInterviewsModel", name := "referencesFor", desc := "(I)I" } : Jvm.MethodName)) ∈ lw_all := lw_g (lw_at lw_m11 209 rfl) rfl
theorem q2690 : (Jvm.Cond.code ({ cls := "CloudInterviewsModel", name := "referencesFor", desc := "(I)I" } : Jvm.MethodName) prog_10_method_49_code (3 : Nat) (Option.some Jvm.ClassFile.FieldType.int)) ∈ lw_all := lw_g (lw_at lw_m11 210 rfl) rfl
theorem q2692 : (Jvm.Cond.instanceMethod ({ cls := "CloudInterviewsModel", name := "referencesFrom", desc := "(I)I" } : Jvm.MethodName)) ∈ lw_all := lw_g (lw_at lw_m11 212 rfl) rfl
theorem q2693 : (Jvm.Cond.selects "CloudInterviewsModel" ({ cls := "CloudInterviewsModel", name := "referencesFrom", desc := "(I)I" } : Jvm.MethodName) ({ cls := "CloudInterviewsModel", name := "referencesFrom", desc := "(I)I" } : Jvm.MethodName)) ∈ lw_all := lw_g (lw_at lw_m11 213 rfl) rfl
theorem q2694 : (Jvm.Cond.code ({ cls := "CloudInterviewsModel", name := "referencesFrom", desc := "(I)I" } : Jvm.MethodName) prog_10_method_50_code (6 : Nat) (Option.some Jvm.ClassFile.FieldType.int)) ∈ lw_all := lw_g (lw_at lw_m11 214 rfl) rfl
theorem q2696 : (Jvm.Cond.instanceMethod ({ cls := "CloudInterviewsModel", name := "openPost", desc := "(CIII)I" } : Jvm.MethodName)) ∈ lw_all := lw_g (lw_at lw_m11 216 rfl) rfl
theorem q2697 : (Jvm.Cond.selects "CloudInterviewsModel" ({ cls := "CloudInterviewsModel", name := "openPost", desc := "(CIII)I" } : Jvm.MethodName) ({ cls := "CloudInterviewsModel", name := "openPost", desc := "(CIII)I" } : Jvm.MethodName)) ∈ lw_all := lw_g (lw_at lw_m11 217 rfl) rfl
theorem q2698 : (Jvm.Cond.code ({ cls := "CloudInterviewsModel", name := "openPost", desc := "(CIII)I" } : Jvm.MethodName) prog_10_method_52_code (5 : Nat) (Option.some Jvm.ClassFile.FieldType.int)) ∈ lw_all := lw_g (lw_at lw_m11 218 rfl) rfl
theorem q2699 : (Jvm.Cond.methodLink "CloudInterviewsModel" (139 : Nat) ({ cls := "CloudInterviewsModel", name := "doOpenPost", desc := "(CIII)I" } : Jvm.MethodName)) ∈ lw_all := lw_g (lw_at lw_m11 219 rfl) rfl
theorem q2700 : (Jvm.Cond.privateMethod ({ cls := "CloudInterviewsModel", name := "doOpenPost", desc := "(CIII)I" } : Jvm.MethodName)) ∈ lw_tbl := lw_at lw_m11 220 rfl
theorem q2701 : (Jvm.Cond.instanceMethod ({ cls := "CloudInterviewsModel", name := "doOpenPost", desc := "(CIII)I" } : Jvm.MethodName)) ∈ lw_all := lw_g (lw_at lw_m11 221 rfl) rfl
theorem q2702 : (Jvm.Cond.code ({ cls := "CloudInterviewsModel", name := "doOpenPost", desc := "(CIII)I" } : Jvm.MethodName) prog_10_method_51_code (8 : Nat) (Option.some Jvm.ClassFile.FieldType.int)) ∈ lw_all := lw_g (lw_at lw_m11 222 rfl) rfl
theorem q2704 : (Jvm.Cond.instanceMethod ({ cls := "CloudInterviewsModel", name := "closePost", desc := "(I)Z" } : Jvm.MethodName)) ∈ lw_all := lw_g (lw_at lw_m11 224 rfl) rfl
theorem q2705 : (Jvm.Cond.selects "CloudInterviewsModel" ({ cls := "CloudInterviewsModel", name := "closePost", desc := "(I)Z" } : Jvm.MethodName) ({ cls := "CloudInterviewsModel", name := "closePost", desc := "(I)Z" } : Jvm.MethodName)) ∈ lw_all := lw_g (lw_at lw_m11 225 rfl) rfl
theorem q2706 : (Jvm.Cond.code ({ cls := "CloudInterviewsModel", name := "closePost", desc := "(I)Z" } : Jvm.MethodName) prog_10_method_54_code (2 : Nat) (Option.some Jvm.ClassFile.FieldType.boolean)) ∈ lw_all := lw_g (lw_at lw_m11 226 rfl) rfl
theorem q2707 : (Jvm.Cond.methodLink "CloudInterviewsModel" (146 : Nat) ({ cls := "CloudInterviewsModel", name := "doClosePost", desc := "(I)I" } : Jvm.MethodName)) ∈ lw_all := lw_g (lw_at lw_m11 227 rfl) rfl
theorem q2708 : (Jvm.Cond.privateMethod ({ cls := "CloudInterviewsModel", name := "doClosePost", desc := "(I)I" } : Jvm.MethodName)) ∈ lw_tbl := lw_at lw_m11 228 rfl
theorem q2709 : (Jvm.Cond.instanceMethod ({ cls := "CloudInterviewsModel", name := "doClosePost", desc := "(I)I" } : Jvm.MethodName)) ∈ lw_all := lw_g (lw_at lw_m11 229 rfl) rfl
theorem q2710 : (Jvm.Cond.code ({ cls := "CloudInterviewsModel", name := "doClosePost", desc := "(I)I" } : Jvm.MethodName) prog_10_method_53_code (5 : Nat) (Option.some Jvm.ClassFile.FieldType.int)) ∈ lw_all := lw_g (lw_at lw_m11 230 rfl) rfl
theorem q2711 : (Jvm.Cond.methodLink "CloudInterviewsModel" (143 : Nat) ({ cls := "CloudInterviewsModel", name := "isPost", desc := "(I)Z" } : Jvm.MethodName)) ∈ lw_all := lw_g (lw_at lw_m11 231 rfl) rfl
theorem q2712 : (Jvm.Cond.privateMethod ({ cls := "CloudInterviewsModel", name := "isPost", desc := "(I)Z" } : Jvm.MethodName)) ∈ lw_tbl := lw_at lw_m11 232 rfl
theorem q2713 : (Jvm.Cond.instanceMethod ({ cls := "CloudInterviewsModel", name := "isPost", desc := "(I)Z" } : Jvm.MethodName)) ∈ lw_all := lw_g (lw_at lw_m11 233 rfl) rfl
theorem q2714 : (Jvm.Cond.code ({ cls := "CloudInterviewsModel", name := "isPost", desc := "(I)Z" } : Jvm.MethodName) prog_10_method_11_code (2 : Nat) (Option.some Jvm.ClassFile.FieldType.boolean)) ∈ lw_all := lw_g (lw_at lw_m11 234 rfl) rfl
theorem q2716 : (Jvm.Cond.instanceMethod ({ cls := "CloudInterviewsModel", name := "postCount", desc := "()I" } : Jvm.MethodName)) ∈ lw_all := lw_g (lw_at lw_m11 236 rfl) rfl
theorem q2717 : (Jvm.Cond.selects "CloudInterviewsModel" ({ cls := "CloudInterviewsModel", name := "postCount", desc := "()I" } : Jvm.MethodName) ({ cls := "CloudInterviewsModel", name := "postCount", desc := "()I" } : Jvm.MethodName)) ∈ lw_all := lw_g (lw_at lw_m11 237 rfl) rfl
theorem q2718 : (Jvm.Cond.code ({ cls := "CloudInterviewsModel", name := "postCount", desc := "()I" } : Jvm.MethodName) prog_10_method_55_code (1 : Nat) (Option.some Jvm.ClassFile.FieldType.int)) ∈ lw_all := lw_g (lw_at lw_m11 238 rfl) rfl
theorem q2720 : (Jvm.Cond.instanceMethod ({ cls := "CloudInterviewsModel", name := "vacantCount", desc := "()I" } : Jvm.MethodName)) ∈ lw_all := lw_g (lw_at lw_m12 0 rfl) rfl
theorem q2721 : (Jvm.Cond.selects "CloudInterviewsModel" ({ cls := "CloudInterviewsModel", name := "vacantCount", desc := "()I" } : Jvm.MethodName) ({ cls := "CloudInterviewsModel", name := "vacantCount", desc := "()I" } : Jvm.MethodName)) ∈ lw_all := lw_g (lw_at lw_m12 1 rfl) rfl
theorem q2722 : (Jvm.Cond.code ({ cls := "CloudInterviewsModel", name := "vacantCount", desc := "()I" } : Jvm.MethodName) prog_10_method_57_code (1 : Nat) (Option.some Jvm.ClassFile.FieldType.int)) ∈ lw_all := lw_g (lw_at lw_m12 2 rfl) rfl
theorem q2723 : (Jvm.Cond.methodLink "CloudInterviewsModel" (149 : Nat) ({ cls := "CloudInterviewsModel", name := "vacancies", desc := "()I" } : Jvm.MethodName)) ∈ lw_all := lw_g (lw_at lw_m12 3 rfl) rfl
theorem q2724 : (Jvm.Cond.privateMethod ({ cls := "CloudInterviewsModel", name := "vacancies", desc := "()I" } : Jvm.MethodName)) ∈ lw_tbl := lw_at lw_m12 4 rfl
theorem q2725 : (Jvm.Cond.instanceMethod ({ cls := "CloudInterviewsModel", name := "vacancies", desc := "()I" } : Jvm.MethodName)) ∈ lw_all := lw_g (lw_at lw_m12 5 rfl) rfl
theorem q2726 : (Jvm.Cond.code ({ cls := "CloudInterviewsModel", name := "vacancies", desc := "()I" } : Jvm.MethodName) prog_10_method_56_code (3 : Nat) (Option.some Jvm.ClassFile.FieldType.int)) ∈ lw_all := lw_g (lw_at lw_m12 6 rfl) rfl
theorem q2728 : (Jvm.Cond.instanceMethod ({ cls := "CloudInterviewsModel", name := "requiredShape", desc := "(I)C" } : Jvm.MethodName)) ∈ lw_all := lw_g (lw_at lw_m12 8 rfl) rfl
theorem q2729 : (Jvm.Cond.selects "CloudInterviewsModel" ({ cls := "CloudInterviewsModel", name := "requiredShape", desc := "(I)C" } : Jvm.MethodName) ({ cls := "CloudInterviewsModel", name := "requiredShape", desc := "(I)C" } : Jvm.MethodName)) ∈ lw_all := lw_g (lw_at lw_m12 9 rfl) rfl
theorem q2730 : (Jvm.Cond.code ({ cls := "CloudInterviewsModel", name := "requiredShape", desc := "(I)C" } : Jvm.MethodName) prog_10_method_58_code (2 : Nat) (Option.some Jvm.ClassFile.FieldType.char)) ∈ lw_all := lw_g (lw_at lw_m12 10 rfl) rfl
theorem q2732 : (Jvm.Cond.instanceMethod ({ cls := "CloudInterviewsModel", name := "lowestWhiteness", desc := "(I)I" } : Jvm.MethodName)) ∈ lw_all := lw_g (lw_at lw_m12 12 rfl) rfl
theorem q2733 : (Jvm.Cond.selects "CloudInterviewsModel" ({ cls := "CloudInterviewsModel", name := "lowestWhiteness", desc := "(I)I" } : Jvm.MethodName) ({ cls := "CloudInterviewsModel", name := "lowestWhiteness", desc := "(I)I" } : Jvm.MethodName)) ∈ lw_all := lw_g (lw_at lw_m12 13 rfl) rfl
theorem q2734 : (Jvm.Cond.code ({ cls := "CloudInterviewsModel", name := "lowestWhiteness", desc := "(I)I" } : Jvm.MethodName) prog_10_method_59_code (2 : Nat) (Option.some Jvm.ClassFile.FieldType.int)) ∈ lw_all := lw_g (lw_at lw_m12 14 rfl) rfl
theorem q2736 : (Jvm.Cond.instanceMethod ({ cls := "CloudInterviewsModel", name := "highestRain", desc := "(I)I" } : Jvm.MethodName)) ∈ lw_all := lw_g (lw_at lw_m12 16 rfl) rfl
theorem q2737 : (Jvm.Cond.selects "CloudInterviewsModel" ({ cls := "CloudInterviewsModel", name := "highestRain", desc := "(I)I" } : Jvm.MethodName) ({ cls := "CloudInterviewsModel", name := "highestRain", desc := "(I)I" } : Jvm.MethodName)) ∈ lw_all := lw_g (lw_at lw_m12 17 rfl) rfl
theorem q2738 : (Jvm.Cond.code ({ cls := "CloudInterviewsModel", name := "highestRain", desc := "(I)I" } : Jvm.MethodName) prog_10_method_60_code (2 : Nat) (Option.some Jvm.ClassFile.FieldType.int)) ∈ lw_all := lw_g (lw_at lw_m12 18 rfl) rfl
theorem q2740 : (Jvm.Cond.instanceMethod ({ cls := "CloudInterviewsModel", name := "wage", desc := "(I)I" } : Jvm.MethodName)) ∈ lw_all := lw_g (lw_at lw_m12 20 rfl) rfl
theorem q2741 : (Jvm.Cond.selects "CloudInterviewsModel" ({ cls := "CloudInterviewsModel", name := "wage", desc := "(I)I" } : Jvm.MethodName) ({ cls := "CloudInterviewsModel", name := "wage", desc := "(I)I" } : Jvm.MethodName)) ∈ lw_all := lw_g (lw_at lw_m12 21 rfl) rfl
theorem q2742 : (Jvm.Cond.code ({ cls := "CloudInterviewsModel", name := "wage", desc := "(I)I" } : Jvm.MethodName) prog_10_method_61_code (2 : Nat) (Option.some Jvm.ClassFile.FieldType.int)) ∈ lw_all := lw_g (lw_at lw_m12 22 rfl) rfl
theorem q2744 : (Jvm.Cond.instanceMethod ({ cls := "CloudInterviewsModel", name := "filledBy", desc := "(I)I" } : Jvm.MethodName)) ∈ lw_all := lw_g (lw_at lw_m12 24 rfl) rfl
theorem q2745 : (Jvm.Cond.selects "CloudInterviewsModel" ({ cls := "CloudInterviewsModel", name := "filledBy", desc := "(I)I" } : Jvm.MethodName) ({ cls := "CloudInterviewsModel", name := "filledBy", desc := "(I)I" } : Jvm.MethodName)) ∈ lw_all := lw_g (lw_at lw_m12 25 rfl) rfl
theorem q2746 : (Jvm.Cond.code ({ cls := "CloudInterviewsModel", name := "filledBy", desc := "(I)I" } : Jvm.MethodName) prog_10_method_62_code (2 : Nat) (Option.some Jvm.ClassFile.FieldType.int)) ∈ lw_all := lw_g (lw_at lw_m12 26 rfl) rfl
theorem q2748 : (Jvm.Cond.instanceMethod ({ cls := "CloudInterviewsModel", name := "suits", desc := "(II)Z" } : Jvm.MethodName)) ∈ lw_all := lw_g (lw_at lw_m12 28 rfl) rfl
theorem q2749 : (Jvm.Cond.selects "CloudInterviewsModel" ({ cls := "CloudInterviewsModel", name := "suits", desc := "(II)Z" } : Jvm.MethodName) ({ cls := "CloudInterviewsModel", name := "suits", desc := "(II)Z" } : Jvm.MethodName)) ∈ lw_all := lw_g (lw_at lw_m12 29 rfl) rfl
theorem q2750 : (Jvm.Cond.code ({ cls := "CloudInterviewsModel", name := "suits", desc := "(II)Z" } : Jvm.MethodName) prog_10_method_63_code (4 : Nat) (Option.some Jvm.ClassFile.FieldType.boolean)) ∈ lw_all := lw_g (lw_at lw_m12 30 rfl) rfl
theorem q2751 : (Jvm.Cond.methodLink "CloudInterviewsModel" (152 : Nat) ({ cls := "CloudInterviewsModel", name := "fits", desc := "(II)Z" } : Jvm.MethodName)) ∈ lw_all := lw_g (lw_at lw_m12 31 rfl) rfl
theorem q2752 : (Jvm.Cond.privateMethod ({ cls := "CloudInterviewsModel", name := "fits", desc := "(II)Z" } : Jvm.MethodName)) ∈ lw_tbl := lw_at lw_m12 32 rfl
theorem q2753 : (Jvm.Cond.instanceMethod ({ cls := "CloudInterviewsModel", name := "fits", desc := "(II)Z" } : Jvm.MethodName)) ∈ lw_all := lw_g (lw_at lw_m12 33 rfl) rfl
theorem q2754 : (Jvm.Cond.code ({ cls := "CloudInterviewsModel", name := "fits", desc := "(II)Z" } : Jvm.MethodName) prog_10_method_23_code (4 : Nat) (Option.some Jvm.ClassFile.FieldType.boolean)) ∈ lw_all := lw_g (lw_at lw_m12 34 rfl) rfl
theorem q2756 : (Jvm.Cond.instanceMethod ({ cls := "CloudInterviewsModel", name := "favouritePost", desc := "(I)I" } : Jvm.MethodName)) ∈ lw_all := lw_g (lw_at lw_m12 36 rfl) rfl
theorem q2757 : (Jvm.Cond.selects "CloudInterviewsModel" ({ cls := "CloudInterviewsModel", name := "favouritePost", desc := "(I)I" } : Jvm.MethodName) ({ cls := "CloudInterviewsModel", name := "favouritePost", desc := "(I)I" } : Jvm.MethodName)) ∈ lw_all := lw_g (lw_at lw_m12 37 rfl) rfl
theorem q2758 : (Jvm.Cond.code ({ cls := "CloudInterviewsModel", name := "favouritePost", desc := "(I)I" } : Jvm.MethodName) prog_10_method_65_code (4 : Nat) (Option.some Jvm.ClassFile.FieldType.int)) ∈ lw_all := lw_g (lw_at lw_m12 38 rfl) rfl
theorem q2759 : (Jvm.Cond.methodLink "CloudInterviewsModel" (158 : Nat) ({ cls := "CloudInterviewsModel", name := "favourite", desc := "(IZ)I" } : Jvm.MethodName)) ∈ lw_all := lw_g (lw_at lw_m12 39 rfl) rfl
theorem q2760 : (Jvm.Cond.privateMethod ({ cls := "CloudInterviewsModel", name := "favourite", desc := "(IZ)I" } : Jvm.MethodName)) ∈ lw_tbl := lw_at lw_m12 40 rfl
theorem q2761 : (Jvm.Cond.instanceMethod ({ cls := "CloudInterviewsModel", name := "favourite", desc := "(IZ)I" } : Jvm.MethodName)) ∈ lw_all := lw_g (lw_at lw_m12 41 rfl) rfl
theorem q2762 : (Jvm.Cond.code ({ cls := "CloudInterviewsModel", name := "favourite", desc := "(IZ)I" } : Jvm.MethodName) prog_10_method_64_code (6 : Nat) (Option.some Jvm.ClassFile.FieldType.int)) ∈ lw_all := lw_g (lw_at lw_m12 42 rfl) rfl
theorem q2763 : (Jvm.Cond.methodLink "CloudInterviewsModel" (155 : Nat) ({ cls := "CloudInterviewsModel", name := "isPreferred", desc := "(II)Z" } : Jvm.MethodName)) ∈ lw_all := lw_g (lw_at lw_m12 43 rfl) rfl
theorem q2764 : (Jvm.Cond.privateMethod ({ cls := "CloudInterviewsModel", name := "isPreferred", desc := "(II)Z" } : Jvm.MethodName)) ∈ lw_tbl := lw_at lw_m12 44 rfl
theorem q2765 : (Jvm.Cond.instanceMethod ({ cls := "CloudInterviewsModel", name := "isPreferred", desc := "(II)Z" } : Jvm.MethodName)) ∈ lw_all := lw_g (lw_at lw_m12 45 rfl) rfl
theorem q2766 : (Jvm.Cond.code ({ cls := "CloudInterviewsModel", name := "isPreferred", desc := "(II)Z" } : Jvm.MethodName) prog_10_method_22_code (4 : Nat) (Option.some Jvm.ClassFile.FieldType.boolean)) ∈ lw_all := lw_g (lw_at lw_m12 46 rfl) rfl
theorem q2768 : (Jvm.Cond.instanceMethod ({ cls := "CloudInterviewsModel", name := "bestCandidate", desc := "(I)I" } : Jvm.MethodName)) ∈ lw_all := lw_g (lw_at lw_m12 48 rfl) rfl
theorem q2769 : (Jvm.Cond.selects "CloudInterviewsModel" ({ cls := "CloudInterviewsModel", name := "bestCandidate", desc := "(I)I" } : Jvm.MethodName) ({ cls := "CloudInterviewsModel", name := "bestCandidate", desc := "(I)I" } : Jvm.MethodName)) ∈ lw_all := lw_g (lw_at lw_m12 49 rfl) rfl
theorem q2770 : (Jvm.Cond.code ({ cls := "CloudInterviewsModel", name := "bestCandidate", desc := "(I)I" } : Jvm.MethodName) prog_10_method_67_code (2 : Nat) (Option.some Jvm.ClassFile.FieldType.int)) ∈ lw_all := lw_g (lw_at lw_m12 50 rfl) rfl
theorem q2771 : (Jvm.Cond.methodLink "CloudInterviewsModel" (162 : Nat) ({ cls := "CloudInterviewsModel", name := "candidate", desc := "(I)I" } : Jvm.MethodName)) ∈ lw_all := lw_g (lw_at lw_m12 51 rfl) rfl
theorem q2772 : (Jvm.Cond.privateMethod ({ cls := "CloudInterviewsModel", name := "candidate", desc := "(I)I" } : Jvm.MethodName)) ∈ lw_tbl := lw_at lw_m12 52 rfl
theorem q2773 : (Jvm.Cond.instanceMethod ({ cls := "CloudInterviewsModel", name := "candidate", desc := "(I)I" } : Jvm.MethodName)) ∈ lw_all := lw_g (lw_at lw_m12 53 rfl) rfl
theorem q2774 : (Jvm.Cond.code ({ cls := "CloudInterviewsModel", name := "candidate", desc := "(I)I" } : Jvm.MethodName) prog_10_method_66_code (5 : Nat) (Option.some Jvm.ClassFile.FieldType.int)) ∈ lw_all := lw_g (lw_at lw_m12 54 rfl) rfl
theorem q2776 : (Jvm.Cond.instanceMethod ({ cls := "CloudInterviewsModel", name := "candidateCount", desc := "(I)I" } : Jvm.MethodName)) ∈ lw_all := lw_g (lw_at lw_m12 56 rfl) rfl
theorem q2777 : (Jvm.Cond.selects "CloudInterviewsModel" ({ cls := "CloudInterviewsModel", name := "candidateCount", desc := "(I)I" } : Jvm.MethodName) ({ cls := "CloudInterviewsModel", name := "candidateCount", desc := "(I)I" } : Jvm.MethodName)) ∈ lw_all := lw_g (lw_at lw_m12 57 rfl) rfl
theorem q2778 : (Jvm.Cond.code ({ cls := "CloudInterviewsModel", name := "candidateCount", desc := "(I)I" } : Jvm.MethodName) prog_10_method_68_code (5 : Nat) (Option.some Jvm.ClassFile.FieldType.int)) ∈ lw_all := lw_g (lw_at lw_m12 58 rfl) rfl
theorem q2780 : (Jvm.Cond.instanceMethod ({ cls := "CloudInterviewsModel", name := "hire", desc := "(II)I" } : Jvm.MethodName)) ∈ lw_all := lw_g (lw_at lw_m12 60 rfl) rfl
theorem q2781 : (Jvm.Cond.selects "CloudInterviewsModel" ({ cls := "CloudInterviewsModel", name := "hire", desc := "(II)I" } : Jvm.MethodName) ({ cls := "CloudInterviewsModel", name := "hire", desc := "(II)I" } : Jvm.MethodName)) ∈ lw_all := lw_g (lw_at lw_m12 61 rfl) rfl
theorem q2782 : (Jvm.Cond.code ({ cls := "CloudInterviewsModel", name := "hire", desc := "(II)I" } : Jvm.MethodName) prog_10_method_71_code (3 : Nat) (Option.some Jvm.ClassFile.FieldType.int)) ∈ lw_all := lw_g (lw_at lw_m12 62 rfl) rfl
theorem q2783 : (Jvm.Cond.methodLink "CloudInterviewsModel" (169 : Nat) ({ cls := "CloudInterviewsModel", name := "doHire", desc := "(II)I" } : Jvm.MethodName)) ∈ lw_all := lw_g (lw_at lw_m12 63 rfl) rfl
theorem q2784 : (Jvm.Cond.privateMethod ({ cls := "CloudInterviewsModel", name := "doHire", desc := "(II)I" } : Jvm.MethodName)) ∈ lw_tbl := lw_at lw_m12 64 rfl
theorem q2785 : (Jvm.Cond.instanceMethod ({ cls := "CloudInterviewsModel", name := "doHire", desc := "(II)I" } : Jvm.MethodName)) ∈ lw_all := lw_g (lw_at lw_m12 65 rfl) rfl
theorem q2786 : (Jvm.Cond.code ({ cls := "CloudInterviewsModel", name := "doHire", desc := "(II)I" } : Jvm.MethodName) prog_10_method_70_code (4 : Nat) (Option.some Jvm.ClassFile.FieldType.int)) ∈ lw_all := lw_g (lw_at lw_m12 66 rfl) rfl
theorem q2787 : (Jvm.Cond.methodLink "CloudInterviewsModel" (165 : Nat) ({ cls := "CloudInterviewsModel", name := "fills", desc := "(II)V" } : Jvm.MethodName)) ∈ lw_all := lw_g (lw_at lw_m12 67 rfl) rfl
theorem q2788 : (Jvm.Cond.privateMethod ({ cls := "CloudInterviewsModel", name := "fills", desc := "(II)V" } : Jvm.MethodName)) ∈ lw_tbl := lw_at lw_m12 68 rfl
theorem q2789 : (Jvm.Cond.instanceMethod ({ cls := "CloudInterviewsModel", name := "fills", desc := "(II)V" } : Jvm.MethodName)) ∈ lw_all := lw_g (lw_at lw_m12 69 rfl) rfl
theorem q2790 : (Jvm.Cond.code ({ cls := "CloudInterviewsModel", name := "fills", desc := "(II)V" } : Jvm.MethodName) prog_10_method_69_code (3 : Nat) (Option.none : Option Jvm.ClassFile.FieldType)) ∈ lw_all := lw_g (lw_at lw_m12 70 rfl) rfl
theorem q2792 : (Jvm.Cond.instanceMethod ({ cls := "CloudInterviewsModel", name := "hireBest", desc := "(I)I" } : Jvm.MethodName)) ∈ lw_all := lw_g (lw_at lw_m12 72 rfl) rfl
theorem q2793 : (Jvm.Cond.selects "CloudInterviewsModel" ({ cls := "CloudInterviewsModel", name := "hireBest", desc := "(I)I" } : Jvm.MethodName) ({ cls := "CloudInterviewsModel", name := "hireBest", desc := "(I)I" } : Jvm.MethodName)) ∈ lw_all := lw_g (lw_at lw_m12 73 rfl) rfl
theorem q2794 : (Jvm.Cond.code ({ cls := "CloudInterviewsModel", name := "hireBest", desc := "(I)I" } : Jvm.MethodName) prog_10_method_73_code (2 : Nat) (Option.some Jvm.ClassFile.FieldType.int)) ∈ lw_all := lw_g (lw_at lw_m12 74 rfl) rfl
theorem q2795 : (Jvm.Cond.methodLink "CloudInterviewsModel" (172 : Nat) ({ cls := "CloudInterviewsModel", name := "doHireBest", desc := "(I)I" } : Jvm.MethodName)) ∈ lw_all := lw_g (lw_at lw_m12 75 rfl) rfl
theorem q2796 : (Jvm.Cond.privateMethod ({ cls := "CloudInterviewsModel", name := "doHireBest", desc := "(I)I" } : Jvm.MethodName)) ∈ lw_tbl := lw_at lw_m12 76 rfl
theorem q2797 : (Jvm.Cond.instanceMethod ({ cls := "CloudInterviewsModel", name := "doHireBest", desc := "(I)I" } : Jvm.MethodName)) ∈ lw_all := lw_g (lw_at lw_m12 77 rfl) rfl
theorem q2798 : (Jvm.Cond.code ({ cls := "CloudInterviewsModel", name := "doHireBest", desc := "(I)I" } : Jvm.MethodName) prog_10_method_72_code (3 : Nat) (Option.some Jvm.ClassFile.FieldType.int)) ∈ lw_all := lw_g (lw_at lw_m12 78 rfl) rfl
theorem q2800 : (Jvm.Cond.instanceMethod ({ cls := "CloudInterviewsModel", name := "dismiss", desc := "(I)I" } : Jvm.MethodName)) ∈ lw_all := lw_g (lw_at lw_m12 80 rfl) rfl
theorem q2801 : (Jvm.Cond.selects "CloudInterviewsModel" ({ cls := "CloudInterviewsModel", name := "dismiss", desc := "(I)I" } : Jvm.MethodName) ({ cls := "CloudInterviewsModel", name := "dismiss", desc := "(I)I" } : Jvm.MethodName)) ∈ lw_all := lw_g (lw_at lw_m12 81 rfl) rfl
theorem q2802 : (Jvm.Cond.code ({ cls := "CloudInterviewsModel", name := "dismiss", desc := "(I)I" } : Jvm.MethodName) prog_10_method_75_code (2 : Nat) (Option.some Jvm.ClassFile.FieldType.int)) ∈ lw_all := lw_g (lw_at lw_m12 82 rfl) rfl
theorem q2803 : (Jvm.Cond.methodLink "CloudInterviewsModel" (175 : Nat) ({ cls := "CloudInterviewsModel", name := "doDismiss", desc := "(I)I" } : Jvm.MethodName)) ∈ lw_all := lw_g (lw_at lw_m12 83 rfl) rfl
theorem q2804 : (Jvm.Cond.privateMethod ({ cls := "CloudInterviewsModel", name := "doDismiss", desc := "(I)I" } : Jvm.MethodName)) ∈ lw_tbl := lw_at lw_m12 84 rfl
theorem q2805 : (Jvm.Cond.instanceMethod ({ cls := "CloudInterviewsModel", name := "doDismiss", desc := "(I)I" } : Jvm.MethodName)) ∈ lw_all := lw_g (lw_at lw_m12 85 rfl) rfl
theorem q2806 : (Jvm.Cond.code ({ cls := "CloudInterviewsModel", name := "doDismiss", desc := "(I)I" } : Jvm.MethodName) prog_10_method_74_code (3 : Nat) (Option.some Jvm.ClassFile.FieldType.int)) ∈ lw_all := lw_g (lw_at lw_m12 86 rfl) rfl
theorem q2808 : (Jvm.Cond.instanceMethod ({ cls := "CloudInterviewsModel", name := "match", desc := "()I" } : Jvm.MethodName)) ∈ lw_all := lw_g (lw_at lw_m12 88 rfl) rfl
theorem q2809 : (Jvm.Cond.selects "CloudInterviewsModel" ({ cls := "CloudInterviewsModel", name := "match", desc := "()I" } : Jvm.MethodName) ({ cls := "CloudInterviewsModel", name := "match", desc := "()I" } : Jvm.MethodName)) ∈ lw_all := lw_g (lw_at lw_m12 89 rfl) rfl
theorem q2810 : (Jvm.Cond.code ({ cls := "CloudInterviewsModel", name := "match", desc := "()I" } : Jvm.MethodName) prog_10_method_78_code (1 : Nat) (Option.some Jvm.ClassFile.FieldType.int)) ∈ lw_all := lw_g (lw_at lw_m12 90 rfl) rfl
theorem q2811 : (Jvm.Cond.methodLink "CloudInterviewsModel" (181 : Nat) ({ cls := "CloudInterviewsModel", name := "doMatch", desc := "()I" } : Jvm.MethodName)) ∈ lw_all := lw_g (lw_at lw_m12 91 rfl) rfl
theorem q2812 : (Jvm.Cond.privateMethod ({ cls := "CloudInterviewsModel", name := "doMatch", desc := "()I" } : Jvm.MethodName)) ∈ lw_tbl := lw_at lw_m12 92 rfl
theorem q2813 : (Jvm.Cond.instanceMethod ({ cls := "CloudInterviewsModel", name := "doMatch", desc := "()I" } : Jvm.MethodName)) ∈ lw_all := lw_g (lw_at lw_m12 93 rfl) rfl
theorem q2814 : (Jvm.Cond.code ({ cls := "CloudInterviewsModel", name := "doMatch", desc := "()I" } : Jvm.MethodName) prog_10_method_76_code (3 : Nat) (Option.some Jvm.ClassFile.FieldType.int)) ∈ lw_all := lw_g (lw_at lw_m12 94 rfl) rfl
theorem q2815 : (Jvm.Cond.methodLink "CloudInterviewsModel" (178 : Nat) ({ cls := "CloudInterviewsModel", name := "nextToHire", desc := "()I" } : Jvm.MethodName)) ∈ lw_all := lw_g (lw_at lw_m12 95 rfl) rfl
theorem q2816 : (Jvm.Cond.privateMethod ({ cls := "CloudInterviewsModel", name := "nextToHire", desc := "()I" } : Jvm.MethodName)) ∈ lw_tbl := lw_at lw_m12 96 rfl
theorem q2817 : (Jvm.Cond.instanceMethod ({ cls := "CloudInterviewsModel", name := "nextToHire", desc := "()I" } : Jvm.MethodName)) ∈ lw_all := lw_g (lw_at lw_m12 97 rfl) rfl
theorem q2818 : (Jvm.Cond.code ({ cls := "CloudInterviewsModel", name := "nextToHire", desc := "()I" } : Jvm.MethodName) prog_10_method_77_code (4 : Nat) (Option.some Jvm.ClassFile.FieldType.int)) ∈ lw_all := lw_g (lw_at lw_m12 98 rfl) rfl
theorem q2820 : (Jvm.Cond.instanceMethod ({ cls := "CloudInterviewsModel", name := "mostHires", desc := "()I" } : Jvm.MethodName)) ∈ lw_all := lw_g (lw_at lw_m12 100 rfl) rfl
theorem q2821 : (Jvm.Cond.selects "CloudInterviewsModel" ({ cls := "CloudInterviewsModel", name := "mostHires", desc := "()I" } : Jvm.MethodName) ({ cls := "CloudInterviewsModel", name := "mostHires", desc := "()I" } : Jvm.MethodName)) ∈ lw_all := lw_g (lw_at lw_m12 101 rfl) rfl
theorem q2822 : (Jvm.Cond.code ({ cls := "CloudInterviewsModel", name := "mostHires", desc := "()I" } : Jvm.MethodName) prog_10_method_79_code (7 : Nat) (Option.some Jvm.ClassFile.FieldType.int)) ∈ lw_all := lw_g (lw_at lw_m12 102 rfl) rfl
theorem q2823 : (Jvm.Cond.methodLink "CloudInterviewsModel" (184 : Nat) ({ cls := "java/lang/Math", name := "max", desc := "(II)I" } : Jvm.MethodName)) ∈ lw_all := lw_g (lw_at lw_m12 103 rfl) rfl
theorem q2825 : (Jvm.Cond.instanceMethod ({ cls := "CloudInterviewsModel", name := "mostHiresBySets", desc := "()I" } : Jvm.MethodName)) ∈ lw_all := lw_g (lw_at lw_m12 105 rfl) rfl
theorem q2826 : (Jvm.Cond.selects "CloudInterviewsModel" ({ cls := "CloudInterviewsModel", name := "mostHiresBySets", desc := "()I" } : Jvm.MethodName) ({ cls := "CloudInterviewsModel", name := "mostHiresBySets", desc := "()I" } : Jvm.MethodName)) ∈ lw_all := lw_g (lw_at lw_m12 106 rfl) rfl
theorem q2827 : (Jvm.Cond.code ({ cls := "CloudInterviewsModel", name := "mostHiresBySets", desc := "()I" } : Jvm.MethodName) prog_10_method_80_code (1 : Nat) (Option.some Jvm.ClassFile.FieldType.int)) ∈ lw_all := lw_g (lw_at lw_m12 107 rfl) rfl
theorem q2828 : (Jvm.Cond.methodLink "CloudInterviewsModel" (189 : Nat) ({ cls := "CloudInterviewsModel", name := "mostHires", desc := "()I" } : Jvm.MethodName)) ∈ lw_all := lw_g (lw_at lw_m12 108 rfl) rfl
theorem q2830 : (Jvm.Cond.instanceMethod ({ cls := "CloudInterviewsModel", name := "blockingPairs", desc := "()I" } : Jvm.MethodName)) ∈ lw_all := lw_g (lw_at lw_m12 110 rfl) rfl
theorem q2831 : (Jvm.Cond.selects "CloudInterviewsModel" ({ cls := "CloudInterviewsModel", name := "blockingPairs", desc := "()I" } : Jvm.MethodName) ({ cls := "CloudInterviewsModel", name := "blockingPairs", desc := "()I" } : Jvm.MethodName)) ∈ lw_all := lw_g (lw_at lw_m12 111 rfl) rfl
theorem q2832 : (Jvm.Cond.code ({ cls := "CloudInterviewsModel", name := "blockingPairs", desc := "()I" } : Jvm.MethodName) prog_10_method_82_code (4 : Nat) (Option.some Jvm.ClassFile.FieldType.int)) ∈ lw_all := lw_g (lw_at lw_m12 112 rfl) rfl
theorem q2833 : (Jvm.Cond.methodLink "CloudInterviewsModel" (192 : Nat) ({ cls := "CloudInterviewsModel", name := "isBlocking", desc := "(II)Z" } : Jvm.MethodName)) ∈ lw_all := lw_g (lw_at lw_m12 113 rfl) rfl
theorem q2834 : (Jvm.Cond.privateMethod ({ cls := "CloudInterviewsModel", name := "isBlocking", desc := "(II)Z" } : Jvm.MethodName)) ∈ lw_tbl := lw_at lw_m12 114 rfl
theorem q2835 : (Jvm.Cond.instanceMethod ({ cls := "CloudInterviewsModel", name := "isBlocking", desc := "(II)Z" } : Jvm.MethodName)) ∈ lw_all := lw_g (lw_at lw_m12 115 rfl) rfl
theorem q2836 : (Jvm.Cond.code ({ cls := "CloudInterviewsModel", name := "isBlocking", desc := "(II)Z" } : Jvm.MethodName) prog_10_method_81_code (5 : Nat) (Option.some Jvm.ClassFile.FieldType.boolean)) ∈ lw_all := lw_g (lw_at lw_m12 116 rfl) rfl
theorem q2838 : (Jvm.Cond.instanceMethod ({ cls := "CloudInterviewsModel", name := "blockingPairsByPreference", desc := "()I" } : Jvm.MethodName)) ∈ lw_all := lw_g (lw_at lw_m12 118 rfl) rfl
theorem q2839 : (Jvm.Cond.selects "CloudInterviewsModel" ({ cls := "CloudInterviewsModel", name := "blockingPairsByPreference", desc := "()I" } : Jvm.MethodName) ({ cls := "CloudInterviewsModel", name := "blockingPairsByPreference", desc := "()I" } : Jvm.MethodName)) ∈ lw_all := lw_g (lw_at lw_m12 119 rfl) rfl
theorem q2840 : (Jvm.Cond.code ({ cls := "CloudInterviewsModel", name := "blockingPairsByPreference", desc := "()I" } : Jvm.MethodName) prog_10_method_83_code (1 : Nat) (Option.some Jvm.ClassFile.FieldType.int)) ∈ lw_all := lw_g (lw_at lw_m12 120 rfl) rfl
theorem q2841 : (Jvm.Cond.methodLink "CloudInterviewsModel" (195 : Nat) ({ cls := "CloudInterviewsModel", name := "blockingPairs", desc := "()I" } : Jvm.MethodName)) ∈ lw_all := lw_g (lw_at lw_m12 121 rfl) rfl
theorem q2843 : (Jvm.Cond.instanceMethod ({ cls := "CloudInterviewsModel", name := "passDays", desc := "(I)I" } : Jvm.MethodName)) ∈ lw_all := lw_g (lw_at lw_m12 123 rfl) rfl
theorem q2844 : (Jvm.Cond.selects "CloudInterviewsModel" ({ cls := "CloudInterviewsModel", name := "passDays", desc := "(I)I" } : Jvm.MethodName) ({ cls := "CloudInterviewsModel", name := "passDays", desc := "(I)I" } : Jvm.MethodName)) ∈ lw_all := lw_g (lw_at lw_m12 124 rfl) rfl
theorem q2845 : (Jvm.Cond.code ({ cls := "CloudInterviewsModel", name := "passDays", desc := "(I)I" } : Jvm.MethodName) prog_10_method_86_code (2 : Nat) (Option.some Jvm.ClassFile.FieldType.int)) ∈ lw_all := lw_g (lw_at lw_m12 125 rfl) rfl
theorem q2846 : (Jvm.Cond.methodLink "CloudInterviewsModel" (204 : Nat) ({ cls := "CloudInterviewsModel", name := "doPassDays", desc := "(I)I" } : Jvm.MethodName)) ∈ lw_all := lw_g (lw_at lw_m12 126 rfl) rfl
theorem q2847 : (Jvm.Cond.privateMethod ({ cls := "CloudInterviewsModel", name := "doPassDays", desc := "(I)I" } : Jvm.MethodName)) ∈ lw_tbl := lw_at lw_m12 127 rfl
theorem q2848 : (Jvm.Cond.instanceMethod ({ cls := "CloudInterviewsModel", name := "doPassDays", desc := "(I)I" } : Jvm.MethodName)) ∈ lw_all := lw_g (lw_at lw_m12 128 rfl) rfl
theorem q2849 : (Jvm.Cond.code ({ cls := "CloudInterviewsModel", name := "doPassDays", desc := "(I)I" } : Jvm.MethodName) prog_10_method_85_code (4 : Nat) (Option.some Jvm.ClassFile.FieldType.int)) ∈ lw_all := lw_g (lw_at lw_m12 129 rfl) rfl
theorem q2850 : (Jvm.Cond.methodLink "CloudInterviewsModel" (201 : Nat) ({ cls := "CloudInterviewsModel", name := "doPassDay", desc := "()I" } : Jvm.MethodName)) ∈ lw_all := lw_g (lw_at lw_m12 130 rfl) rfl
theorem q2851 : (Jvm.Cond.privateMethod ({ cls := "CloudInterviewsModel", name := "doPassDay", desc := "()I" } : Jvm.MethodName)) ∈ lw_tbl := lw_at lw_m12 131 rfl
theorem q2852 : (Jvm.Cond.instanceMethod ({ cls := "CloudInterviewsModel", name := "doPassDay", desc := "()I" } : Jvm.MethodName)) ∈ lw_all := lw_g (lw_at lw_m12 132 rfl) rfl
theorem q2853 : (Jvm.Cond.code ({ cls := "CloudInterviewsModel", name := "doPassDay", desc := "()I" } : Jvm.MethodName) prog_10_method_84_code (4 : Nat) (Option.some Jvm.ClassFile.FieldType.int)) ∈ lw_all := lw_g (lw_at lw_m12 133 rfl) rfl
theorem q2854 : (Jvm.Cond.methodLink "CloudInterviewsModel" (198 : Nat) ({ cls := "java/lang/Math", name := "min", desc := "(II)I" } : Jvm.MethodName)) ∈ lw_all := lw_g (lw_at lw_m12 134 rfl) rfl
theorem q2856 : (Jvm.Cond.instanceMethod ({ cls := "CloudInterviewsModel", name := "day", desc := "()I" } : Jvm.MethodName)) ∈ lw_all := lw_g (lw_at lw_m12 136 rfl) rfl
theorem q2857 : (Jvm.Cond.selects "CloudInterviewsModel" ({ cls := "CloudInterviewsModel", name := "day", desc := "()I" } : Jvm.MethodName) ({ cls := "CloudInterviewsModel", name := "day", desc := "()I" } : Jvm.MethodName)) ∈ lw_all := lw_g (lw_at lw_m12 137 rfl) rfl
theorem q2858 : (Jvm.Cond.code ({ cls := "CloudInterviewsModel", name := "day", desc := "()I" } : Jvm.MethodName) prog_10_method_87_code (1 : Nat) (Option.some Jvm.ClassFile.FieldType.int)) ∈ lw_all := lw_g (lw_at lw_m12 138 rfl) rfl
theorem q2860 : (Jvm.Cond.instanceMethod ({ cls := "CloudInterviewsModel", name := "daysUntilDismissal", desc := "(I)I" } : Jvm.MethodName)) ∈ lw_all := lw_g (lw_at lw_m12 140 rfl) rfl
theorem q2861 : (Jvm.Cond.selects "CloudInterviewsModel" ({ cls := "CloudInterviewsModel", name := "daysUntilDismissal", desc := "(I)I" } : Jvm.MethodName) ({ cls := "CloudInterviewsModel", name := "daysUntilDismissal", desc := "(I)I" } : Jvm.MethodName)) ∈ lw_all := lw_g (lw_at lw_m12 141 rfl) rfl
theorem q2862 : (Jvm.Cond.code ({ cls := "CloudInterviewsModel", name := "daysUntilDismissal", desc := "(I)I" } : Jvm.MethodName) prog_10_method_88_code (5 : Nat) (Option.some Jvm.ClassFile.FieldType.int)) ∈ lw_all := lw_g (lw_at lw_m12 142 rfl) rfl
theorem q2864 : (Jvm.Cond.instanceMethod ({ cls := "CloudInterviewsModel", name := "dailyWages", desc := "()I" } : Jvm.MethodName)) ∈ lw_all := lw_g (lw_at lw_m12 144 rfl) rfl
theorem q2865 : (Jvm.Cond.selects "CloudInterviewsModel" ({ cls := "CloudInterviewsModel", name := "dailyWages", desc := "()I" } : Jvm.MethodName) ({ cls := "CloudInterviewsModel", name := "dailyWages", desc := "()I" } : Jvm.MethodName)) ∈ lw_all := lw_g (lw_at lw_m12 145 rfl) rfl
theorem q2866 : (Jvm.Cond.code ({ cls := "CloudInterviewsModel", name := "dailyWages", desc := "()I" } : Jvm.MethodName) prog_10_method_89_code (3 : Nat) (Option.some Jvm.ClassFile.FieldType.int)) ∈ lw_all := lw_g (lw_at lw_m12 146 rfl) rfl
theorem q2868 : (Jvm.Cond.instanceMethod ({ cls := "CloudInterviewsModel", name := "meanScore", desc := "()D" } : Jvm.MethodName)) ∈ lw_all := lw_g (lw_at lw_m12 148 rfl) rfl
theorem q2869 : (Jvm.Cond.selects "CloudInterviewsModel" ({ cls := "CloudInterviewsModel", name := "meanScore", desc := "()D" } : Jvm.MethodName) ({ cls := "CloudInterviewsModel", name := "meanScore", desc := "()D" } : Jvm.MethodName)) ∈ lw_all := lw_g (lw_at lw_m12 149 rfl) rfl
theorem q2870 : (Jvm.Cond.code ({ cls := "CloudInterviewsModel", name := "meanScore", desc := "()D" } : Jvm.MethodName) prog_10_method_90_code (4 : Nat) (Option.some Jvm.ClassFile.FieldType.double)) ∈ lw_all := lw_g (lw_at lw_m12 150 rfl) rfl
theorem q2872 : (Jvm.Cond.instanceMethod ({ cls := "CloudInterviewsModel", name := "filledFraction", desc := "()F" } : Jvm.MethodName)) ∈ lw_all := lw_g (lw_at lw_m12 152 rfl) rfl
theorem q2873 : (Jvm.Cond.selects "CloudInterviewsModel" ({ cls := "CloudInterviewsModel", name := "filledFraction", desc := "()F" } : Jvm.MethodName) ({ cls := "CloudInterviewsModel", name := "filledFraction", desc := "()F" } : Jvm.MethodName)) ∈ lw_all := lw_g (lw_at lw_m12 153 rfl) rfl
theorem q2874 : (Jvm.Cond.code ({ cls := "CloudInterviewsModel", name := "filledFraction", desc := "()F" } : Jvm.MethodName) prog_10_method_91_code (2 : Nat) (Option.some Jvm.ClassFile.FieldType.float)) ∈ lw_all := lw_g (lw_at lw_m12 154 rfl) rfl
theorem q2876 : (Jvm.Cond.instanceMethod ({ cls := "CloudInterviewsModel", name := "isConsistent", desc := "()Z" } : Jvm.MethodName)) ∈ lw_all := lw_g (lw_at lw_m12 156 rfl) rfl
theorem q2877 : (Jvm.Cond.selects "CloudInterviewsModel" ({ cls := "CloudInterviewsModel", name := "isConsistent", desc := "()Z" } : Jvm.MethodName) ({ cls := "CloudInterviewsModel", name := "isConsistent", desc := "()Z" } : Jvm.MethodName)) ∈ lw_all := lw_g (lw_at lw_m12 157 rfl) rfl
theorem q2878 : (Jvm.Cond.code ({ cls := "CloudInterviewsModel", name := "isConsistent", desc := "()Z" } : Jvm.MethodName) prog_10_method_92_code (1 : Nat) (Option.some Jvm.ClassFile.FieldType.boolean)) ∈ lw_all := lw_g (lw_at lw_m12 158 rfl) rfl
theorem q2880 : (Jvm.Cond.instanceMethod ({ cls := "CloudInterviewsModel", name := "writeApplicant", desc := "(I)I" } : Jvm.MethodName)) ∈ lw_all := lw_g (lw_at lw_m12 160 rfl) rfl
theorem q2881 : (Jvm.Cond.selects "CloudInterviewsModel" ({ cls := "CloudInterviewsModel", name := "writeApplicant", desc := "(I)I" } : Jvm.MethodName) ({ cls := "CloudInterviewsModel", name := "writeApplicant", desc := "(I)I" } : Jvm.MethodName)) ∈ lw_all := lw_g (lw_at lw_m12 161 rfl) rfl
theorem q2882 : (Jvm.Cond.code ({ cls := "CloudInterviewsModel", name := "writeApplicant", desc := "(I)I" } : Jvm.MethodName) prog_10_method_96_code (4 : Nat) (Option.some Jvm.ClassFile.FieldType.int)) ∈ lw_all := lw_g (lw_at lw_m12 162 rfl) rfl
theorem q2883 : (Jvm.Cond.methodLink "CloudInterviewsModel" (213 : Nat) ({ cls := "CloudInterviewsModel", name := "says", desc := "(I)V" } : Jvm.MethodName)) ∈ lw_all := lw_g (lw_at lw_m12 163 rfl) rfl
theorem q2884 : (Jvm.Cond.privateMethod ({ cls := "CloudInterviewsModel", name := "says", desc := "(I)V" } : Jvm.MethodName)) ∈ lw_tbl := lw_at lw_m12 164 rfl
theorem q2885 : (Jvm.Cond.instanceMethod ({ cls := "CloudInterviewsModel", name := "says", desc := "(I)V" } : Jvm.MethodName)) ∈ lw_all := lw_g (lw_at lw_m12 165 rfl) rfl
theorem q2886 : (Jvm.Cond.code ({ cls := "CloudInterviewsModel", name := "says", desc := "(I)V" } : Jvm.MethodName) prog_10_method_93_code (2 : Nat) (Option.none : Option Jvm.ClassFile.FieldType)) ∈ lw_all := lw_g (lw_at lw_m12 166 rfl) rfl
theorem q2887 : (Jvm.Cond.methodLink "CloudInterviewsModel" (210 : Nat) ({ cls := "CloudInterviewsModel", name := "saysNumber", desc := "(I)V" } : Jvm.MethodName)) ∈ lw_all := lw_g (lw_at lw_m12 167 rfl) rfl
theorem q2888 : (Jvm.Cond.privateMethod ({ cls := "CloudInterviewsModel", name := "saysNumber", desc := "(I)V" } : Jvm.MethodName)) ∈ lw_tbl := lw_at lw_m12 168 rfl
theorem q2889 : (Jvm.Cond.instanceMethod ({ cls := "CloudInterviewsModel", name := "saysNumber", desc := "(I)V" } : Jvm.MethodName)) ∈ lw_all := lw_g (lw_at lw_m12 169 rfl) rfl
theorem q2890 : (Jvm.Cond.code ({ cls := "CloudInterviewsModel", name := "saysNumber", desc := "(I)V" } : Jvm.MethodName) prog_10_method_94_code (2 : Nat) (Option.none : Option Jvm.ClassFile.FieldType)) ∈ lw_all := lw_g (lw_at lw_m12 170 rfl) rfl
theorem q2891 : (Jvm.Cond.methodLink "CloudInterviewsModel" (216 : Nat) ({ cls := "CloudInterviewsModel", name := "saysIf", desc := "(ZCI)V" } : Jvm.MethodName)) ∈ lw_all := lw_g (lw_at lw_m12 171 rfl) rfl
theorem q2892 : (Jvm.Cond.privateMethod ({ cls := "CloudInterviewsModel", name := "saysIf", desc := "(ZCI)V" } : Jvm.MethodName)) ∈ lw_tbl := lw_at lw_m12 172 rfl
theorem q2893 : (Jvm.Cond.instanceMethod ({ cls := "CloudInterviewsModel", name := "saysIf", desc := "(ZCI)V" } : Jvm.MethodName)) ∈ lw_all := lw_g (lw_at lw_m12 173 rfl) rfl
theorem q2894 : (Jvm.Cond.code ({ cls := "CloudInterviewsModel", name := "saysIf", desc := "(ZCI)V" } : Jvm.MethodName) prog_10_method_95_code (4 : Nat) (Option.none : Option Jvm.ClassFile.FieldType)) ∈ lw_all := lw_g (lw_at lw_m12 174 rfl) rfl
theorem q2896 : (Jvm.Cond.instanceMethod ({ cls := "CloudInterviewsModel", name := "writePosts", desc := "()I" } : Jvm.MethodName)) ∈ lw_all := lw_g (lw_at lw_m12 176 rfl) rfl
theorem q2897 : (Jvm.Cond.selects "CloudInterviewsModel" ({ cls := "CloudInterviewsModel", name := "writePosts", desc := "()I" } : Jvm.MethodName) ({ cls := "CloudInterviewsModel", name := "writePosts", desc := "()I" } : Jvm.MethodName)) ∈ lw_all := lw_g (lw_at lw_m12 177 rfl) rfl
theorem q2898 : (Jvm.Cond.code ({ cls := "CloudInterviewsModel", name := "writePosts", desc := "()I" } : Jvm.MethodName) prog_10_method_97_code (3 : Nat) (Option.some Jvm.ClassFile.FieldType.int)) ∈ lw_all := lw_g (lw_at lw_m12 178 rfl) rfl
theorem q2900 : (Jvm.Cond.instanceMethod ({ cls := "CloudInterviewsModel", name := "outputCharacter", desc := "(I)C" } : Jvm.MethodName)) ∈ lw_all := lw_g (lw_at lw_m12 180 rfl) rfl
theorem q2901 : (Jvm.Cond.selects "CloudInterviewsModel" ({ cls := "CloudInterviewsModel", name := "outputCharacter", desc := "(I)C" } : Jvm.MethodName) ({ cls := "CloudInterviewsModel", name := "outputCharacter", desc := "(I)C" } : Jvm.MethodName)) ∈ lw_all := lw_g (lw_at lw_m12 181 rfl) rfl
theorem q2902 : (Jvm.Cond.code ({ cls := "CloudInterviewsModel", name := "outputCharacter", desc := "(I)C" } : Jvm.MethodName) prog_10_method_98_code (2 : Nat) (Option.some Jvm.ClassFile.FieldType.char)) ∈ lw_all := lw_g (lw_at lw_m12 182 rfl) rfl
theorem q2904 : (Jvm.Cond.instanceMethod ({ cls := "CloudInterviewsModel", name := "feed", desc := "(C)I" } : Jvm.MethodName)) ∈ lw_all := lw_g (lw_at lw_m12 184 rfl) rfl
theorem q2905 : (Jvm.Cond.selects "CloudInterviewsModel" ({ cls := "CloudInterviewsModel", name := "feed", desc := "(C)I" } : Jvm.MethodName) ({ cls := "CloudInterviewsModel", name := "feed", desc := "(C)I" } : Jvm.MethodName)) ∈ lw_all := lw_g (lw_at lw_m12 185 rfl) rfl
theorem q2906 : (Jvm.Cond.code ({ cls := "CloudInterviewsModel", name := "feed", desc := "(C)I" } : Jvm.MethodName) prog_10_method_99_code (2 : Nat) (Option.some Jvm.ClassFile.FieldType.int)) ∈ lw_all := lw_g (lw_at lw_m12 186 rfl) rfl
theorem q2908 : (Jvm.Cond.instanceMethod ({ cls := "CloudInterviewsModel", name := "execute", desc := "()I" } : Jvm.MethodName)) ∈ lw_all := lw_g (lw_at lw_m12 188 rfl) rfl
theorem q2909 : (Jvm.Cond.selects "CloudInterviewsModel" ({ cls := "CloudInterviewsModel", name := "execute", desc := "()I" } : Jvm.MethodName) ({ cls := "CloudInterviewsModel", name := "execute", desc := "()I" } : Jvm.MethodName)) ∈ lw_all := lw_g (lw_at lw_m12 189 rfl) rfl
theorem q2910 : (Jvm.Cond.code ({ cls := "CloudInterviewsModel", name := "execute", desc := "()I" } : Jvm.MethodName) prog_10_method_107_code (2 : Nat) (Option.some Jvm.ClassFile.FieldType.int)) ∈ lw_all := lw_g (lw_at lw_m12 190 rfl) rfl
theorem q2911 : (Jvm.Cond.methodLink "CloudInterviewsModel" (285 : Nat) ({ cls := "CloudInterviewsModel", name := "readCommand", desc := "()V" } : Jvm.MethodName)) ∈ lw_all := lw_g (lw_at lw_m12 191 rfl) rfl
theorem q2912 : (Jvm.Cond.privateMethod ({ cls := "CloudInterviewsModel", name := "readCommand", desc := "()V" } : Jvm.MethodName)) ∈ lw_tbl := lw_at lw_m12 192 rfl
theorem q2913 : (Jvm.Cond.instanceMethod ({ cls := "CloudInterviewsModel", name := "readCommand", desc := "()V" } : Jvm.MethodName)) ∈ lw_all := lw_g (lw_at lw_m12 193 rfl) rfl
theorem q2914 : (Jvm.Cond.code ({ cls := "CloudInterviewsModel", name := "readCommand", desc := "()V" } : Jvm.MethodName) prog_10_method_105_code (3 : Nat) (Option.none : Option Jvm.ClassFile.FieldType)) ∈ lw_all := lw_g (lw_at lw_m12 194 rfl) rfl
theorem q2915 : (Jvm.Cond.methodLink "CloudInterviewsModel" (234 : Nat) ({ cls := "CloudInterviewsModel", name := "behind", desc := "(I)I" } : Jvm.MethodName)) ∈ lw_all := lw_g (lw_at lw_m12 195 rfl) rfl
theorem q2916 : (Jvm.Cond.privateMethod ({ cls := "CloudInterviewsModel", name := "behind", desc := "(I)I" } : Jvm.MethodName)) ∈ lw_tbl := lw_at lw_m12 196 rfl
theorem q2917 : (Jvm.Cond.instanceMethod ({ cls := "CloudInterviewsModel", name := "behind", desc := "(I)I" } : Jvm.MethodName)) ∈ lw_all := lw_g (lw_at lw_m12 197 rfl) rfl
theorem q2918 : (Jvm.Cond.code ({ cls := "CloudInterviewsModel", name := "behind", desc := "(I)I" } : Jvm.MethodName) prog_10_method_100_code (2 : Nat) (Option.some Jvm.ClassFile.FieldType.int)) ∈ lw_all := lw_g (lw_at lw_m12 198 rfl) rfl
theorem q2919 : (Jvm.Cond.stringRef "CloudInterviewsModel" (248 : Nat) "dismiss ") ∈ lw_tbl := lw_at lw_m12 199 rfl
theorem q2920 : (Jvm.Cond.stringRef "CloudInterviewsModel" (250 : Nat) "day") ∈ lw_tbl := lw_at lw_m12 200 rfl
theorem q2921 : (Jvm.Cond.methodLink "CloudInterviewsModel" (252 : Nat) ({ cls := "CloudInterviewsModel", name := "skip", desc := "(Ljava/lang/String;)V" } : Jvm.MethodName)) ∈ lw_all := lw_g (lw_at lw_m12 201 rfl) rfl
theorem q2922 : (Jvm.Cond.privateMethod ({ cls := "CloudInterviewsModel", name := "skip", desc := "(Ljava/lang/String;)V" } : Jvm.MethodName)) ∈ lw_tbl := lw_at lw_m12 202 rfl
theorem q2923 : (Jvm.Cond.instanceMethod ({ cls := "CloudInterviewsModel", name := "skip", desc := "(Ljava/lang/String;)V" } : Jvm.MethodName)) ∈ lw_all := lw_g (lw_at lw_m12 203 rfl) rfl
theorem q2924 : (Jvm.Cond.code ({ cls := "CloudInterviewsModel", name := "skip", desc := "(Ljava/lang/String;)V" } : Jvm.MethodName) prog_10_method_101_code (3 : Nat) (Option.none : Option Jvm.ClassFile.FieldType)) ∈ lw_all := lw_g (lw_at lw_m12 204 rfl) rfl
theorem q2925 : (Jvm.Cond.methodLink "CloudInterviewsModel" (226 : Nat) ({ cls := "java/lang/String", name := "length", desc := "()I" } : Jvm.MethodName)) ∈ lw_all := lw_g (lw_at lw_m12 205 rfl) rfl
theorem q2926 : (Jvm.Cond.methodLink "CloudInterviewsModel" (237 : Nat) ({ cls := "java/lang/String", name := "charAt", desc := "(I)C" } : Jvm.MethodName)) ∈ lw_all := lw_g (lw_at lw_m12 206 rfl) rfl
theorem q2927 : (Jvm.Cond.methodLink "CloudInterviewsModel" (256 : Nat) ({ cls := "CloudInterviewsModel", name := "readNumber", desc := "(I)I" } : Jvm.MethodName)) ∈ lw_all := lw_g (lw_at lw_m12 207 rfl) rfl
theorem q2928 : (Jvm.Cond.privateMethod ({ cls := "CloudInterviewsModel", name := "readNumber", desc := "(I)I" } : Jvm.MethodName)) ∈ lw_tbl := lw_at lw_m12 208 rfl
theorem q2929 : (Jvm.Cond.instanceMethod ({ cls := "CloudInterviewsModel", name := "readNumber", desc := "(I)I" } : Jvm.MethodName)) ∈ lw_all := lw_g (lw_at lw_m12 209 rfl) rfl
theorem q2930 : (Jvm.Cond.code ({ cls := "CloudInterviewsModel", name := "readNumber", desc := "(I)I" } : Jvm.MethodName) prog_10_method_103_code (4 : Nat) (Option.some Jvm.ClassFile.FieldType.int)) ∈ lw_all := lw_g (lw_at lw_m12 210 rfl) rfl
theorem q2931 : (Jvm.Cond.methodLink "CloudInterviewsModel" (241 : Nat) ({ cls := "CloudInterviewsModel", name := "isDigit", desc := "()Z" } : Jvm.MethodName)) ∈ lw_all := lw_g (lw_at lw_m12 211 rfl) rfl
theorem q2932 : (Jvm.Cond.privateMethod ({ cls := "CloudInterviewsModel", name := "isDigit", desc := "()Z" } : Jvm.MethodName)) ∈ lw_tbl := lw_at lw_m12 212 rfl
theorem q2933 : (Jvm.Cond.instanceMethod ({ cls := "CloudInterviewsModel", name := "isDigit", desc := "()Z" } : Jvm.MethodName)) ∈ lw_all := lw_g (lw_at lw_m12 213 rfl) rfl
theorem q2934 : (Jvm.Cond.code ({ cls := "CloudInterviewsModel", name := "isDigit", desc := "()Z" } : Jvm.MethodName) prog_10_method_102_code (1 : Nat) (Option.some Jvm.ClassFile.FieldType.boolean)) ∈ lw_all := lw_g (lw_at lw_m12 214 rfl) rfl
theorem q2935 : (Jvm.Cond.stringRef "CloudInterviewsModel" (259 : Nat) "apply ") ∈ lw_tbl := lw_at lw_m12 215 rfl
theorem q2936 : (Jvm.Cond.methodLink "CloudInterviewsModel" (261 : Nat) ({ cls := "CloudInterviewsModel", name := "readShape", desc := "(Z)I" } : Jvm.MethodName)) ∈ lw_all := lw_g (lw_at lw_m12 216 rfl) rfl
theorem q2937 : (Jvm.Cond.privateMethod ({ cls := "CloudInterviewsModel", name := "readShape", desc := "(Z)I" } : Jvm.MethodName)) ∈ lw_tbl := lw_at lw_m12 217 rfl
theorem q2938 : (Jvm.Cond.instanceMethod ({ cls := "CloudInterviewsModel", name := "readShape", desc := "(Z)I" } : Jvm.MethodName)) ∈ lw_all := lw_g (lw_at lw_m12 218 rfl) rfl
theorem q2939 : (Jvm.Cond.code ({ cls := "CloudInterviewsModel", name := "readShape", desc := "(Z)I" } : Jvm.MethodName) prog_10_method_104_code (3 : Nat) (Option.some Jvm.ClassFile.FieldType.int)) ∈ lw_all := lw_g (lw_at lw_m12 219 rfl) rfl
theorem q2940 : (Jvm.Cond.stringRef "CloudInterviewsModel" (265 : Nat) "/") ∈ lw_tbl := lw_at lw_m12 220 rfl
theorem q2941 : (Jvm.Cond.stringRef "CloudInterviewsModel" (267 : Nat) "post ") ∈ lw_tbl := lw_at lw_m12 221 rfl
theorem q2942 : (Jvm.Cond.stringRef "CloudInterviewsModel" (269 : Nat) "=") ∈ lw_tbl := lw_at lw_m12 222 rfl
theorem q2943 : (Jvm.Cond.stringRef "CloudInterviewsModel" (271 : Nat) "leave ") ∈ lw_tbl := lw_at lw_m12 223 rfl
theorem q2944 : (Jvm.Cond.stringRef "CloudInterviewsModel" (273 : Nat) "close ") ∈ lw_tbl := lw_at lw_m12 224 rfl
theorem q2945 : (Jvm.Cond.stringRef "CloudInterviewsModel" (275 : Nat) "hire ") ∈ lw_tbl := lw_at lw_m12 225 rfl
theorem q2946 : (Jvm.Cond.stringRef "CloudInterviewsModel" (277 : Nat) "<") ∈ lw_tbl := lw_at lw_m12 226 rfl
theorem q2947 : (Jvm.Cond.stringRef "CloudInterviewsModel" (279 : Nat) "refer ") ∈ lw_tbl := lw_at lw_m12 227 rfl
theorem q2948 : (Jvm.Cond.stringRef "CloudInterviewsModel" (281 : Nat) ">") ∈ lw_tbl := lw_at lw_m12 228 rfl
theorem q2949 : (Jvm.Cond.stringRef "CloudInterviewsModel" (283 : Nat) "match") ∈ lw_tbl := lw_at lw_m12 229 rfl
theorem q2950 : (Jvm.Cond.methodLink "CloudInterviewsModel" (288 : Nat) ({ cls := "CloudInterviewsModel", name := "does", desc := "(I)V" } : Jvm.MethodName)) ∈ lw_all := lw_g (lw_at lw_m12 230 rfl) rfl
theorem q2951 : (Jvm.Cond.privateMethod ({ cls := "CloudInterviewsModel", name := "does", desc := "(I)V" } : Jvm.MethodName)) ∈ lw_tbl := lw_at lw_m12 231 rfl
theorem q2952 : (Jvm.Cond.instanceMethod ({ cls := "CloudInterviewsModel", name := "does", desc := "(I)V" } : Jvm.MethodName)) ∈ lw_all := lw_g (lw_at lw_m12 232 rfl) rfl
theorem q2953 : (Jvm.Cond.code ({ cls := "CloudInterviewsModel", name := "does", desc := "(I)V" } : Jvm.MethodName) prog_10_method_106_code (6 : Nat) (Option.none : Option Jvm.ClassFile.FieldType)) ∈ lw_all := lw_g (lw_at lw_m12 233 rfl) rfl
theorem q2955 : (Jvm.Cond.instanceMethod ({ cls := "CloudInterviewsModel", name := "errorPosition", desc := "()I" } : Jvm.MethodName)) ∈ lw_all := lw_g (lw_at lw_m12 235 rfl) rfl
theorem q2956 : (Jvm.Cond.selects "CloudInterviewsModel" ({ cls := "CloudInterviewsModel", name := "errorPosition", desc := "()I" } : Jvm.MethodName) ({ cls := "CloudInterviewsModel", name := "errorPosition", desc := "()I" } : Jvm.MethodName)) ∈ lw_all := lw_g (lw_at lw_m12 236 rfl) rfl
theorem q2957 : (Jvm.Cond.code ({ cls := "CloudInterviewsModel", name := "errorPosition", desc := "()I" } : Jvm.MethodName) prog_10_method_108_code (1 : Nat) (Option.some Jvm.ClassFile.FieldType.int)) ∈ lw_all := lw_g (lw_at lw_m12 237 rfl) rfl
theorem q2959 : (Jvm.Cond.instanceMethod ({ cls := "CloudInterviewsModel", name := "failedCommand", desc := "()I" } : Jvm.MethodName)) ∈ lw_all := lw_g (lw_at lw_m12 239 rfl) rfl
theorem q2960 : (Jvm.Cond.selects "CloudInterviewsModel" ({ cls := "CloudInterviewsModel", name := "failedCommand", desc := "()I" } : Jvm.MethodName) ({ cls := "CloudInterviewsModel", name := "failedCommand", desc := "()I" } : Jvm.MethodName)) ∈ lw_all := lw_g (lw_at lw_m13 0 rfl) rfl
theorem q2961 : (Jvm.Cond.code ({ cls := "CloudInterviewsModel", name := "failedCommand", desc := "()I" } : Jvm.MethodName) prog_10_method_109_code (1 : Nat) (Option.some Jvm.ClassFile.FieldType.int)) ∈ lw_all := lw_g (lw_at lw_m13 1 rfl) rfl
theorem q2963 : (Jvm.Cond.instanceMethod ({ cls := "CloudInterviewsModel", name := "undo", desc := "()I" } : Jvm.MethodName)) ∈ lw_all := lw_g (lw_at lw_m13 3 rfl) rfl
theorem q2964 : (Jvm.Cond.selects "CloudInterviewsModel" ({ cls := "CloudInterviewsModel", name := "undo", desc := "()I" } : Jvm.MethodName) ({ cls := "CloudInterviewsModel", name := "undo", desc := "()I" } : Jvm.MethodName)) ∈ lw_all := lw_g (lw_at lw_m13 4 rfl) rfl
theorem q2965 : (Jvm.Cond.code ({ cls := "CloudInterviewsModel", name := "undo", desc := "()I" } : Jvm.MethodName) prog_10_method_110_code (1 : Nat) (Option.some Jvm.ClassFile.FieldType.int)) ∈ lw_all := lw_g (lw_at lw_m13 5 rfl) rfl
theorem q2967 : (Jvm.Cond.instanceMethod ({ cls := "CloudInterviewsModel", name := "undoCount", desc := "()I" } : Jvm.MethodName)) ∈ lw_all := lw_g (lw_at lw_m13 7 rfl) rfl
theorem q2968 : (Jvm.Cond.selects "CloudInterviewsModel" ({ cls := "CloudInterviewsModel", name := "undoCount", desc := "()I" } : Jvm.MethodName) ({ cls := "CloudInterviewsModel", name := "undoCount", desc := "()I" } : Jvm.MethodName)) ∈ lw_all := lw_g (lw_at lw_m13 8 rfl) rfl
theorem q2969 : (Jvm.Cond.code ({ cls := "CloudInterviewsModel", name := "undoCount", desc := "()I" } : Jvm.MethodName) prog_10_method_111_code (1 : Nat) (Option.some Jvm.ClassFile.FieldType.int)) ∈ lw_all := lw_g (lw_at lw_m13 9 rfl) rfl
theorem q2971 : (Jvm.Cond.instanceMethod ({ cls := "CloudInterviewsModel", name := "save", desc := "()I" } : Jvm.MethodName)) ∈ lw_all := lw_g (lw_at lw_m13 11 rfl) rfl
theorem q2972 : (Jvm.Cond.selects "CloudInterviewsModel" ({ cls := "CloudInterviewsModel", name := "save", desc := "()I" } : Jvm.MethodName) ({ cls := "CloudInterviewsModel", name := "save", desc := "()I" } : Jvm.MethodName)) ∈ lw_all := lw_g (lw_at lw_m13 12 rfl) rfl
theorem q2973 : (Jvm.Cond.code ({ cls := "CloudInterviewsModel", name := "save", desc := "()I" } : Jvm.MethodName) prog_10_method_112_code (1 : Nat) (Option.some Jvm.ClassFile.FieldType.int)) ∈ lw_all := lw_g (lw_at lw_m13 13 rfl) rfl
theorem q2975 : (Jvm.Cond.instanceMethod ({ cls := "CloudInterviewsModel", name := "restore", desc := "()I" } : Jvm.MethodName)) ∈ lw_all := lw_g (lw_at lw_m13 15 rfl) rfl
theorem q2976 : (Jvm.Cond.selects "CloudInterviewsModel" ({ cls := "CloudInterviewsModel", name := "restore", desc := "()I" } : Jvm.MethodName) ({ cls := "CloudInterviewsModel", name := "restore", desc := "()I" } : Jvm.MethodName)) ∈ lw_all := lw_g (lw_at lw_m13 16 rfl) rfl
theorem q2977 : (Jvm.Cond.code ({ cls := "CloudInterviewsModel", name := "restore", desc := "()I" } : Jvm.MethodName) prog_10_method_113_code (1 : Nat) (Option.some Jvm.ClassFile.FieldType.int)) ∈ lw_all := lw_g (lw_at lw_m13 17 rfl) rfl
theorem q3006 : (Jvm.Cond.castable "CloudInterviewsModel" "java/lang/Object") ∈ lw_tbl := lw_at lw_m13 46 rfl
theorem in_X3 : ∀ w ∈ wsX30, w ∈ lw_all := lw_in wsX30 [2477, 2479, 2481, 2483, 2485, 2487, 2489, 2491, 2493, 2495, 2497, 2499, 2501, 2503, 2505, 2507, 2509] (by decide +kernel) (by decide +kernel)

