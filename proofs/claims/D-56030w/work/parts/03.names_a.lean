/-! CloudInterviews$Post -/
set_option maxRecDepth 100000
def RX4 : String := "CloudInterviews$Post"
def TX4 : u_T := fun k => match k with
  | 0 => ("CloudInterviews$Post", "shape", "C", true)
  | 1 => ("CloudInterviews$Post", "lowestWhiteness", "I", true)
  | 2 => ("CloudInterviews$Post", "highestRain", "I", true)
  | 3 => ("CloudInterviews$Post", "wage", "I", true)
  | _ => ("CloudInterviews$Post", "holder", "LCloudInterviews$Applicant;", false)
def tyX4 : Nat → FieldType := fun k => match k with
  | 0 => .char
  | 1 => .int
  | 2 => .int
  | 3 => .int
  | _ => .object "CloudInterviews$Applicant"
abbrev wsX40 : List Cond := u_ws RX4 TX4 5
theorem nmX4 : ∀ a, a < 5 → ∀ b, b < 5 → a ≠ b → (TX4 a).2.1 ≠ (TX4 b).2.1 := by decide +kernel
theorem tyX4_ok : ∀ k, k < 5 → parseFieldDescriptor (TX4 k).2.2.1 = some (tyX4 k) := by decide +kernel
abbrev cX4_isVacant : ByteArray := prog_6_method_2_code
def yX4_isVacant : MethodName := ⟨RX4, "isVacant", "()Z"⟩
def dkwX4_isVacant_0 : List UInt8 := [42, 180, 0, 25, 199, 0, 7, 4, 167, 0, 4, 3, 172]
abbrev dktX4_isVacant_0 : List UInt8 := dkwX4_isVacant_0 ++ []
theorem dksX4_isVacant_0 : cX4_isVacant.data.toList.drop 0 = dktX4_isVacant_0 := by decide +kernel
theorem dX4_isVacant_0 : decode cX4_isVacant 0 = .ok (.aload_n 0, 1) := dk_42 (dk_at dksX4_isVacant_0 0 rfl rfl)
theorem dX4_isVacant_1 : decode cX4_isVacant 1 = .ok (.getfield 25, 3) := dk_180 0 25 (dk_at dksX4_isVacant_0 1 rfl rfl)
theorem dX4_isVacant_4 : decode cX4_isVacant 4 = .ok (.ifnonnull 7, 3) := dk_199 0 7 (dk_at dksX4_isVacant_0 4 rfl rfl)
theorem dX4_isVacant_7 : decode cX4_isVacant 7 = .ok (.iconst 1, 1) := dk_4 (dk_at dksX4_isVacant_0 7 rfl rfl)
theorem dX4_isVacant_8 : decode cX4_isVacant 8 = .ok (.goto 4, 3) := dk_167 0 4 (dk_at dksX4_isVacant_0 8 rfl rfl)
theorem dX4_isVacant_11 : decode cX4_isVacant 11 = .ok (.iconst 0, 1) := dk_3 (dk_at dksX4_isVacant_0 11 rfl rfl)
theorem dX4_isVacant_12 : decode cX4_isVacant 12 = .ok (.ireturn, 1) := dk_172 (dk_at dksX4_isVacant_0 12 rfl rfl)
abbrev cX4_copy : ByteArray := prog_6_method_4_code
def yX4_copy : MethodName := ⟨RX4, "copy", "()LCloudInterviews$Post;"⟩
def dkwX4_copy_0 : List UInt8 := [187, 0, 10, 89, 42, 180, 0, 9, 42, 180, 0, 15, 42, 180, 0, 19, 42, 180, 0, 22, 183, 0, 38, 176]
abbrev dktX4_copy_0 : List UInt8 := dkwX4_copy_0 ++ []
theorem dksX4_copy_0 : cX4_copy.data.toList.drop 0 = dktX4_copy_0 := by decide +kernel
theorem dX4_copy_0 : decode cX4_copy 0 = .ok (.new 10, 3) := dk_187 0 10 (dk_at dksX4_copy_0 0 rfl rfl)
theorem dX4_copy_3 : decode cX4_copy 3 = .ok (.dup, 1) := dk_89 (dk_at dksX4_copy_0 3 rfl rfl)
theorem dX4_copy_4 : decode cX4_copy 4 = .ok (.aload_n 0, 1) := dk_42 (dk_at dksX4_copy_0 4 rfl rfl)
theorem dX4_copy_5 : decode cX4_copy 5 = .ok (.getfield 9, 3) := dk_180 0 9 (dk_at dksX4_copy_0 5 rfl rfl)
theorem dX4_copy_8 : decode cX4_copy 8 = .ok (.aload_n 0, 1) := dk_42 (dk_at dksX4_copy_0 8 rfl rfl)
theorem dX4_copy_9 : decode cX4_copy 9 = .ok (.getfield 15, 3) := dk_180 0 15 (dk_at dksX4_copy_0 9 rfl rfl)
theorem dX4_copy_12 : decode cX4_copy 12 = .ok (.aload_n 0, 1) := dk_42 (dk_at dksX4_copy_0 12 rfl rfl)
theorem dX4_copy_13 : decode cX4_copy 13 = .ok (.getfield 19, 3) := dk_180 0 19 (dk_at dksX4_copy_0 13 rfl rfl)
theorem dX4_copy_16 : decode cX4_copy 16 = .ok (.aload_n 0, 1) := dk_42 (dk_at dksX4_copy_0 16 rfl rfl)
theorem dX4_copy_17 : decode cX4_copy 17 = .ok (.getfield 22, 3) := dk_180 0 22 (dk_at dksX4_copy_0 17 rfl rfl)
theorem dX4_copy_20 : decode cX4_copy 20 = .ok (.invokespecial 38, 3) := dk_183 0 38 (dk_at dksX4_copy_0 20 rfl rfl)
theorem dX4_copy_23 : decode cX4_copy 23 = .ok (.areturn, 1) := dk_176 (dk_at dksX4_copy_0 23 rfl rfl)
abbrev cX4_init : ByteArray := prog_6_method_1_code
def yX4_init : MethodName := ⟨RX4, "<init>", "(CIII)V"⟩
def dkwX4_init_1 : List UInt8 := [181, 0, 22, 177]
abbrev dktX4_init_1 : List UInt8 := dkwX4_init_1 ++ []
def dkwX4_init_0 : List UInt8 := [42, 183, 0, 3, 42, 27, 181, 0, 9, 42, 28, 181, 0, 15, 42, 29, 181, 0, 19, 42, 21, 4]
abbrev dktX4_init_0 : List UInt8 := dkwX4_init_0 ++ dktX4_init_1
theorem dksX4_init_0 : cX4_init.data.toList.drop 0 = dktX4_init_0 := by decide +kernel
theorem dksX4_init_1 : cX4_init.data.toList.drop 22 = dktX4_init_1 := dk_seg dksX4_init_0 22 rfl rfl
theorem dX4_init_0 : decode cX4_init 0 = .ok (.aload_n 0, 1) := dk_42 (dk_at dksX4_init_0 0 rfl rfl)
theorem dX4_init_1 : decode cX4_init 1 = .ok (.invokespecial 3, 3) := dk_183 0 3 (dk_at dksX4_init_0 1 rfl rfl)
theorem dX4_init_4 : decode cX4_init 4 = .ok (.aload_n 0, 1) := dk_42 (dk_at dksX4_init_0 4 rfl rfl)
theorem dX4_init_5 : decode cX4_init 5 = .ok (.iload_n 1, 1) := dk_27 (dk_at dksX4_init_0 5 rfl rfl)
theorem dX4_init_6 : decode cX4_init 6 = .ok (.putfield 9, 3) := dk_181 0 9 (dk_at dksX4_init_0 6 rfl rfl)
theorem dX4_init_9 : decode cX4_init 9 = .ok (.aload_n 0, 1) := dk_42 (dk_at dksX4_init_0 9 rfl rfl)
theorem dX4_init_10 : decode cX4_init 10 = .ok (.iload_n 2, 1) := dk_28 (dk_at dksX4_init_0 10 rfl rfl)
theorem dX4_init_11 : decode cX4_init 11 = .ok (.putfield 15, 3) := dk_181 0 15 (dk_at dksX4_init_0 11 rfl rfl)
theorem dX4_init_14 : decode cX4_init 14 = .ok (.aload_n 0, 1) := dk_42 (dk_at dksX4_init_0 14 rfl rfl)
theorem dX4_init_15 : decode cX4_init 15 = .ok (.iload_n 3, 1) := dk_29 (dk_at dksX4_init_0 15 rfl rfl)
theorem dX4_init_16 : decode cX4_init 16 = .ok (.putfield 19, 3) := dk_181 0 19 (dk_at dksX4_init_0 16 rfl rfl)
theorem dX4_init_19 : decode cX4_init 19 = .ok (.aload_n 0, 1) := dk_42 (dk_at dksX4_init_0 19 rfl rfl)
theorem dX4_init_20 : decode cX4_init 20 = .ok (.iload 4, 2) := dk_21 4 (dk_at dksX4_init_0 20 rfl rfl)
theorem dX4_init_22 : decode cX4_init 22 = .ok (.putfield 22, 3) := dk_181 0 22 (dk_at dksX4_init_1 0 rfl rfl)
theorem dX4_init_25 : decode cX4_init 25 = .ok (.return_, 1) := dk_177 (dk_at dksX4_init_1 3 rfl rfl)
abbrev cX4_fill : ByteArray := prog_6_method_5_code
def yX4_fill : MethodName := ⟨RX4, "fill", "(LCloudInterviews$Applicant;)V"⟩
def dkwX4_fill_0 : List UInt8 := [42, 43, 181, 0, 25, 43, 42, 181, 0, 41, 177]
abbrev dktX4_fill_0 : List UInt8 := dkwX4_fill_0 ++ []
theorem dksX4_fill_0 : cX4_fill.data.toList.drop 0 = dktX4_fill_0 := by decide +kernel
theorem dX4_fill_0 : decode cX4_fill 0 = .ok (.aload_n 0, 1) := dk_42 (dk_at dksX4_fill_0 0 rfl rfl)
theorem dX4_fill_1 : decode cX4_fill 1 = .ok (.aload_n 1, 1) := dk_43 (dk_at dksX4_fill_0 1 rfl rfl)
theorem dX4_fill_2 : decode cX4_fill 2 = .ok (.putfield 25, 3) := dk_181 0 25 (dk_at dksX4_fill_0 2 rfl rfl)
theorem dX4_fill_5 : decode cX4_fill 5 = .ok (.aload_n 1, 1) := dk_43 (dk_at dksX4_fill_0 5 rfl rfl)
theorem dX4_fill_6 : decode cX4_fill 6 = .ok (.aload_n 0, 1) := dk_42 (dk_at dksX4_fill_0 6 rfl rfl)
theorem dX4_fill_7 : decode cX4_fill 7 = .ok (.putfield 41, 3) := dk_181 0 41 (dk_at dksX4_fill_0 7 rfl rfl)
theorem dX4_fill_10 : decode cX4_fill 10 = .ok (.return_, 1) := dk_177 (dk_at dksX4_fill_0 10 rfl rfl)
abbrev cX4_empty : ByteArray := prog_6_method_6_code
def yX4_empty : MethodName := ⟨RX4, "empty", "()LCloudInterviews$Applicant;"⟩
def dkwX4_empty_0 : List UInt8 := [42, 180, 0, 25, 76, 42, 1, 181, 0, 25, 43, 1, 181, 0, 41, 43, 176]
abbrev dktX4_empty_0 : List UInt8 := dkwX4_empty_0 ++ []
theorem dksX4_empty_0 : cX4_empty.data.toList.drop 0 = dktX4_empty_0 := by decide +kernel
theorem dX4_empty_0 : decode cX4_empty 0 = .ok (.aload_n 0, 1) := dk_42 (dk_at dksX4_empty_0 0 rfl rfl)
theorem dX4_empty_1 : decode cX4_empty 1 = .ok (.getfield 25, 3) := dk_180 0 25 (dk_at dksX4_empty_0 1 rfl rfl)
theorem dX4_empty_4 : decode cX4_empty 4 = .ok (.astore_n 1, 1) := dk_76 (dk_at dksX4_empty_0 4 rfl rfl)
theorem dX4_empty_5 : decode cX4_empty 5 = .ok (.aload_n 0, 1) := dk_42 (dk_at dksX4_empty_0 5 rfl rfl)
theorem dX4_empty_6 : decode cX4_empty 6 = .ok (.aconst_null, 1) := dk_1 (dk_at dksX4_empty_0 6 rfl rfl)
theorem dX4_empty_7 : decode cX4_empty 7 = .ok (.putfield 25, 3) := dk_181 0 25 (dk_at dksX4_empty_0 7 rfl rfl)
theorem dX4_empty_10 : decode cX4_empty 10 = .ok (.aload_n 1, 1) := dk_43 (dk_at dksX4_empty_0 10 rfl rfl)
theorem dX4_empty_11 : decode cX4_empty 11 = .ok (.aconst_null, 1) := dk_1 (dk_at dksX4_empty_0 11 rfl rfl)
theorem dX4_empty_12 : decode cX4_empty 12 = .ok (.putfield 41, 3) := dk_181 0 41 (dk_at dksX4_empty_0 12 rfl rfl)
theorem dX4_empty_15 : decode cX4_empty 15 = .ok (.aload_n 1, 1) := dk_43 (dk_at dksX4_empty_0 15 rfl rfl)
theorem dX4_empty_16 : decode cX4_empty 16 = .ok (.areturn, 1) := dk_176 (dk_at dksX4_empty_0 16 rfl rfl)
abbrev cX4_fits : ByteArray := prog_6_method_3_code
def yX4_fits : MethodName := ⟨RX4, "fits", "(LCloudInterviews$Applicant;)Z"⟩
def dkwX4_fits_2 : List UInt8 := [180, 0, 19, 163, 0, 7, 4, 167, 0, 4, 3, 172]
abbrev dktX4_fits_2 : List UInt8 := dkwX4_fits_2 ++ []
def dkwX4_fits_1 : List UInt8 := [3, 61, 28, 153, 0, 29, 43, 180, 0, 32, 42, 180, 0, 15, 161, 0, 18, 43, 180, 0, 35, 42]
abbrev dktX4_fits_1 : List UInt8 := dkwX4_fits_1 ++ dktX4_fits_2
def dkwX4_fits_0 : List UInt8 := [42, 180, 0, 9, 16, 42, 159, 0, 14, 42, 180, 0, 9, 43, 180, 0, 29, 160, 0, 7, 4, 167, 0, 4]
abbrev dktX4_fits_0 : List UInt8 := dkwX4_fits_0 ++ dktX4_fits_1
theorem dksX4_fits_0 : cX4_fits.data.toList.drop 0 = dktX4_fits_0 := by decide +kernel
theorem dksX4_fits_1 : cX4_fits.data.toList.drop 24 = dktX4_fits_1 := dk_seg dksX4_fits_0 24 rfl rfl
theorem dksX4_fits_2 : cX4_fits.data.toList.drop 46 = dktX4_fits_2 := dk_seg dksX4_fits_1 22 rfl rfl
theorem dX4_fits_0 : decode cX4_fits 0 = .ok (.aload_n 0, 1) := dk_42 (dk_at dksX4_fits_0 0 rfl rfl)
theorem dX4_fits_1 : decode cX4_fits 1 = .ok (.getfield 9, 3) := dk_180 0 9 (dk_at dksX4_fits_0 1 rfl rfl)
theorem dX4_fits_4 : decode cX4_fits 4 = .ok (.bipush 42, 2) := dk_16 42 (dk_at dksX4_fits_0 4 rfl rfl)
theorem dX4_fits_6 : decode cX4_fits 6 = .ok (.if_icmp .eq 14, 3) := dk_159 0 14 (dk_at dksX4_fits_0 6 rfl rfl)
theorem dX4_fits_9 : decode cX4_fits 9 = .ok (.aload_n 0, 1) := dk_42 (dk_at dksX4_fits_0 9 rfl rfl)
theorem dX4_fits_10 : decode cX4_fits 10 = .ok (.getfield 9, 3) := dk_180 0 9 (dk_at dksX4_fits_0 10 rfl rfl)
theorem dX4_fits_13 : decode cX4_fits 13 = .ok (.aload_n 1, 1) := dk_43 (dk_at dksX4_fits_0 13 rfl rfl)
theorem dX4_fits_14 : decode cX4_fits 14 = .ok (.getfield 29, 3) := dk_180 0 29 (dk_at dksX4_fits_0 14 rfl rfl)
theorem dX4_fits_17 : decode cX4_fits 17 = .ok (.if_icmp .ne 7, 3) := dk_160 0 7 (dk_at dksX4_fits_0 17 rfl rfl)
theorem dX4_fits_20 : decode cX4_fits 20 = .ok (.iconst 1, 1) := dk_4 (dk_at dksX4_fits_0 20 rfl rfl)
theorem dX4_fits_21 : decode cX4_fits 21 = .ok (.goto 4, 3) := dk_167 0 4 (dk_at dksX4_fits_0 21 rfl rfl)
theorem dX4_fits_24 : decode cX4_fits 24 = .ok (.iconst 0, 1) := dk_3 (dk_at dksX4_fits_1 0 rfl rfl)
theorem dX4_fits_25 : decode cX4_fits 25 = .ok (.istore_n 2, 1) := dk_61 (dk_at dksX4_fits_1 1 rfl rfl)
theorem dX4_fits_26 : decode cX4_fits 26 = .ok (.iload_n 2, 1) := dk_28 (dk_at dksX4_fits_1 2 rfl rfl)
theorem dX4_fits_27 : decode cX4_fits 27 = .ok (.ifCond .eq 29, 3) := dk_153 0 29 (dk_at dksX4_fits_1 3 rfl rfl)
theorem dX4_fits_30 : decode cX4_fits 30 = .ok (.aload_n 1, 1) := dk_43 (dk_at dksX4_fits_1 6 rfl rfl)
theorem dX4_fits_31 : decode cX4_fits 31 = .ok (.getfield 32, 3) := dk_180 0 32 (dk_at dksX4_fits_1 7 rfl rfl)
theorem dX4_fits_34 : decode cX4_fits 34 = .ok (.aload_n 0, 1) := dk_42 (dk_at dksX4_fits_1 10 rfl rfl)
theorem dX4_fits_35 : decode cX4_fits 35 = .ok (.getfield 15, 3) := dk_180 0 15 (dk_at dksX4_fits_1 11 rfl rfl)
theorem dX4_fits_38 : decode cX4_fits 38 = .ok (.if_icmp .lt 18, 3) := dk_161 0 18 (dk_at dksX4_fits_1 14 rfl rfl)
theorem dX4_fits_41 : decode cX4_fits 41 = .ok (.aload_n 1, 1) := dk_43 (dk_at dksX4_fits_1 17 rfl rfl)
theorem dX4_fits_42 : decode cX4_fits 42 = .ok (.getfield 35, 3) := dk_180 0 35 (dk_at dksX4_fits_1 18 rfl rfl)
theorem dX4_fits_45 : decode cX4_fits 45 = .ok (.aload_n 0, 1) := dk_42 (dk_at dksX4_fits_1 21 rfl rfl)
theorem dX4_fits_46 : decode cX4_fits 46 = .ok (.getfield 19, 3) := dk_180 0 19 (dk_at dksX4_fits_2 0 rfl rfl)
theorem dX4_fits_49 : decode cX4_fits 49 = .ok (.if_icmp .gt 7, 3) := dk_163 0 7 (dk_at dksX4_fits_2 3 rfl rfl)
theorem dX4_fits_52 : decode cX4_fits 52 = .ok (.iconst 1, 1) := dk_4 (dk_at dksX4_fits_2 6 rfl rfl)
theorem dX4_fits_53 : decode cX4_fits 53 = .ok (.goto 4, 3) := dk_167 0 4 (dk_at dksX4_fits_2 7 rfl rfl)
theorem dX4_fits_56 : decode cX4_fits 56 = .ok (.iconst 0, 1) := dk_3 (dk_at dksX4_fits_2 10 rfl rfl)
theorem dX4_fits_57 : decode cX4_fits 57 = .ok (.ireturn, 1) := dk_172 (dk_at dksX4_fits_2 11 rfl rfl)
theorem q99 : (Jvm.Cond.initialized "CloudInterviews$Post") ∈ lw_all := lw_g (lw_at lw_m1 19 rfl) rfl
theorem q448 : (Jvm.Cond.instanceMethod ({ cls := "CloudInterviews$Post", name := "isVacant", desc := "()Z" } : Jvm.MethodName)) ∈ lw_all := lw_g (lw_at lw_m2 128 rfl) rfl
theorem q449 : (Jvm.Cond.selects "CloudInterviews$Post" ({ cls := "CloudInterviews$Post", name := "isVacant", desc := "()Z" } : Jvm.MethodName) ({ cls := "CloudInterviews$Post", name := "isVacant", desc := "()Z" } : Jvm.MethodName)) ∈ lw_all := lw_g (lw_at lw_m2 129 rfl) rfl
theorem q450 : (Jvm.Cond.code ({ cls := "CloudInterviews$Post", name := "isVacant", desc := "()Z" } : Jvm.MethodName) prog_6_method_2_code (1 : Nat) (Option.some Jvm.ClassFile.FieldType.boolean)) ∈ lw_all := lw_g (lw_at lw_m2 130 rfl) rfl
theorem q467 : (Jvm.Cond.instanceMethod ({ cls := "CloudInterviews$Post", name := "copy", desc := "()LCloudInterviews$Post;" } : Jvm.MethodName)) ∈ lw_all := lw_g (lw_at lw_m2 147 rfl) rfl
theorem q468 : (Jvm.Cond.selects "CloudInterviews$Post" ({ cls := "CloudInterviews$Post", name := "copy", desc := "()LCloudInterviews$Post;" } : Jvm.MethodName) ({ cls := "CloudInterviews$Post", name := "copy", desc := "()LCloudInterviews$Post;" } : Jvm.MethodName)) ∈ lw_all := lw_g (lw_at lw_m2 148 rfl) rfl
theorem q469 : (Jvm.Cond.code ({ cls := "CloudInterviews$Post", name := "copy", desc := "()LCloudInterviews$Post;" } : Jvm.MethodName) prog_6_method_4_code (1 : Nat) (Option.some (Jvm.ClassFile.FieldType.object "CloudInterviews$Post"))) ∈ lw_all := lw_g (lw_at lw_m2 149 rfl) rfl
theorem q470 : (Jvm.Cond.classLink "CloudInterviews$Post" (10 : Nat) "CloudInterviews$Post") ∈ lw_all := lw_g (lw_at lw_m2 150 rfl) rfl
theorem q471 : (Jvm.Cond.instantiable "CloudInterviews$Post" (5 : Nat)) ∈ lw_all := lw_g (lw_at lw_m2 151 rfl) rfl
theorem q472 : (Jvm.Cond.methodLink "CloudInterviews$Post" (38 : Nat) ({ cls := "CloudInterviews$Post", name := "<init>", desc := "(CIII)V" } : Jvm.MethodName)) ∈ lw_all := lw_g (lw_at lw_m2 152 rfl) rfl
theorem q473 : (Jvm.Cond.instanceMethod ({ cls := "CloudInterviews$Post", name := "<init>", desc := "(CIII)V" } : Jvm.MethodName)) ∈ lw_all := lw_g (lw_at lw_m2 153 rfl) rfl
theorem q474 : (Jvm.Cond.code ({ cls := "CloudInterviews$Post", name := "<init>", desc := "(CIII)V" } : Jvm.MethodName) prog_6_method_1_code (5 : Nat) (Option.none : Option Jvm.ClassFile.FieldType)) ∈ lw_all := lw_g (lw_at lw_m2 154 rfl) rfl
theorem q475 : (Jvm.Cond.methodLink "CloudInterviews$Post" (3 : Nat) ({ cls := "java/lang/Object", name := "<init>", desc := "()V" } : Jvm.MethodName)) ∈ lw_all := lw_g (lw_at lw_m2 155 rfl) rfl
theorem q476 : (Jvm.Cond.fieldLink "CloudInterviews$Post" (9 : Nat) "CloudInterviews$Post" "shape" "C") ∈ lw_all := lw_g (lw_at lw_m2 156 rfl) rfl
theorem q478 : (Jvm.Cond.fieldLink "CloudInterviews$Post" (15 : Nat) "CloudInterviews$Post" "lowestWhiteness" "I") ∈ lw_all := lw_g (lw_at lw_m2 158 rfl) rfl
theorem q480 : (Jvm.Cond.fieldLink "CloudInterviews$Post" (19 : Nat) "CloudInterviews$Post" "highestRain" "I") ∈ lw_all := lw_g (lw_at lw_m2 160 rfl) rfl
theorem q483 : (Jvm.Cond.fieldLink "CloudInterviews$Post" (22 : Nat) "CloudInterviews$Post" "wage" "I") ∈ lw_all := lw_g (lw_at lw_m2 163 rfl) rfl
theorem q486 : (Jvm.Cond.fieldLink "CloudInterviews$Post" (25 : Nat) "CloudInterviews$Post" "holder" "LCloudInterviews$Applicant;") ∈ lw_all := lw_g (lw_at lw_m2 166 rfl) rfl
theorem q489 : (Jvm.Cond.laysFinal "CloudInterviews$Post" "CloudInterviews$Post" "shape" "C") ∈ lw_all := lw_g (lw_at lw_m2 169 rfl) rfl
theorem q490 : (Jvm.Cond.soleField "CloudInterviews$Post" "shape") ∈ lw_all := lw_g (lw_at lw_m2 170 rfl) rfl
theorem q491 : (Jvm.Cond.laysFinal "CloudInterviews$Post" "CloudInterviews$Post" "lowestWhiteness" "I") ∈ lw_all := lw_g (lw_at lw_m2 171 rfl) rfl
theorem q492 : (Jvm.Cond.soleField "CloudInterviews$Post" "lowestWhiteness") ∈ lw_all := lw_g (lw_at lw_m2 172 rfl) rfl
theorem q493 : (Jvm.Cond.laysFinal "CloudInterviews$Post" "CloudInterviews$Post" "highestRain" "I") ∈ lw_all := lw_g (lw_at lw_m2 173 rfl) rfl
theorem q494 : (Jvm.Cond.soleField "CloudInterviews$Post" "highestRain") ∈ lw_all := lw_g (lw_at lw_m2 174 rfl) rfl
theorem q495 : (Jvm.Cond.laysFinal "CloudInterviews$Post" "CloudInterviews$Post" "wage" "I") ∈ lw_all := lw_g (lw_at lw_m2 175 rfl) rfl
theorem q496 : (Jvm.Cond.soleField "CloudInterviews$Post" "wage") ∈ lw_all := lw_g (lw_at lw_m2 176 rfl) rfl
theorem q497 : (Jvm.Cond.lays "CloudInterviews$Post" "CloudInterviews$Post" "holder" "LCloudInterviews$Applicant;") ∈ lw_all := lw_g (lw_at lw_m2 177 rfl) rfl
theorem q498 : (Jvm.Cond.soleField "CloudInterviews$Post" "holder") ∈ lw_all := lw_g (lw_at lw_m2 178 rfl) rfl
theorem q499 : (Jvm.Cond.superclass "CloudInterviews$Post" "java/lang/Object") ∈ lw_all := lw_g (lw_at lw_m2 179 rfl) rfl
theorem q538 : (Jvm.Cond.selects "CloudInterviews$Post" ({ cls := "java/lang/Object", name := "getClass", desc := "()Ljava/lang/Class;" } : Jvm.MethodName) ({ cls := "java/lang/Object", name := "getClass", desc := "()Ljava/lang/Class;" } : Jvm.MethodName)) ∈ lw_all := lw_g (lw_at lw_m2 218 rfl) rfl
theorem q589 : (Jvm.Cond.fieldLinkNest "CloudInterviews$Post" (29 : Nat) "CloudInterviews$Applicant" "shape" "C" "CloudInterviews") ∈ lw_tbl := lw_at lw_m3 29 rfl
theorem q593 : (Jvm.Cond.fieldLinkNest "CloudInterviews$Post" (32 : Nat) "CloudInterviews$Applicant" "whiteness" "I" "CloudInterviews") ∈ lw_tbl := lw_at lw_m3 33 rfl
theorem q597 : (Jvm.Cond.fieldLinkNest "CloudInterviews$Post" (35 : Nat) "CloudInterviews$Applicant" "rain" "I" "CloudInterviews") ∈ lw_tbl := lw_at lw_m3 37 rfl
theorem q605 : (Jvm.Cond.fieldLinkNest "CloudInterviews$Post" (41 : Nat) "CloudInterviews$Applicant" "post" "LCloudInterviews$Post;" "CloudInterviews") ∈ lw_tbl := lw_at lw_m3 45 rfl
theorem q660 : (Jvm.Cond.selects "CloudInterviews$Post" ({ cls := "java/lang/Object", name := "hashCode", desc := "()I" } : Jvm.MethodName) ({ cls := "java/lang/Object", name := "hashCode", desc := "()I" } : Jvm.MethodName)) ∈ lw_all := lw_g (lw_at lw_m3 100 rfl) rfl
theorem q1273 : (Jvm.Cond.selects "CloudInterviews$Post" ({ cls := "java/lang/Object", name := "equals", desc := "(Ljava/lang/Object;)Z" } : Jvm.MethodName) ({ cls := "java/lang/Object", name := "equals", desc := "(Ljava/lang/Object;)Z" } : Jvm.MethodName)) ∈ lw_all := lw_g (lw_at lw_m5 233 rfl) rfl
theorem q1396 : (Jvm.Cond.instanceMethod ({ cls := "CloudInterviews$Post", name := "fill", desc := "(LCloudInterviews$Applicant;)V" } : Jvm.MethodName)) ∈ lw_all := lw_g (lw_at lw_m6 116 rfl) rfl
theorem q1397 : (Jvm.Cond.selects "CloudInterviews$Post" ({ cls := "CloudInterviews$Post", name := "fill", desc := "(LCloudInterviews$Applicant;)V" } : Jvm.MethodName) ({ cls := "CloudInterviews$Post", name := "fill", desc := "(LCloudInterviews$Applicant;)V" } : Jvm.MethodName)) ∈ lw_all := lw_g (lw_at lw_m6 117 rfl) rfl
theorem q1398 : (Jvm.Cond.code ({ cls := "CloudInterviews$Post", name := "fill", desc := "(LCloudInterviews$Applicant;)V" } : Jvm.MethodName) prog_6_method_5_code (2 : Nat) (Option.none : Option Jvm.ClassFile.FieldType)) ∈ lw_all := lw_g (lw_at lw_m6 118 rfl) rfl
theorem q1547 : (Jvm.Cond.instanceMethod ({ cls := "CloudInterviews$Post", name := "empty", desc := "()LCloudInterviews$Applicant;" } : Jvm.MethodName)) ∈ lw_all := lw_g (lw_at lw_m7 27 rfl) rfl
theorem q1548 : (Jvm.Cond.selects "CloudInterviews$Post" ({ cls := "CloudInterviews$Post", name := "empty", desc := "()LCloudInterviews$Applicant;" } : Jvm.MethodName) ({ cls := "CloudInterviews$Post", name := "empty", desc := "()LCloudInterviews$Applicant;" } : Jvm.MethodName)) ∈ lw_all := lw_g (lw_at lw_m7 28 rfl) rfl
theorem q1549 : (Jvm.Cond.code ({ cls := "CloudInterviews$Post", name := "empty", desc := "()LCloudInterviews$Applicant;" } : Jvm.MethodName) prog_6_method_6_code (2 : Nat) (Option.some (Jvm.ClassFile.FieldType.object "CloudInterviews$Applicant"))) ∈ lw_all := lw_g (lw_at lw_m7 29 rfl) rfl
theorem q1602 : (Jvm.Cond.instanceMethod ({ cls := "CloudInterviews$Post", name := "fits", desc := "(LCloudInterviews$Applicant;)Z" } : Jvm.MethodName)) ∈ lw_all := lw_g (lw_at lw_m7 82 rfl) rfl
theorem q1603 : (Jvm.Cond.selects "CloudInterviews$Post" ({ cls := "CloudInterviews$Post", name := "fits", desc := "(LCloudInterviews$Applicant;)Z" } : Jvm.MethodName) ({ cls := "CloudInterviews$Post", name := "fits", desc := "(LCloudInterviews$Applicant;)Z" } : Jvm.MethodName)) ∈ lw_all := lw_g (lw_at lw_m7 83 rfl) rfl
theorem q1604 : (Jvm.Cond.code ({ cls := "CloudInterviews$Post", name := "fits", desc := "(LCloudInterviews$Applicant;)Z" } : Jvm.MethodName) prog_6_method_3_code (3 : Nat) (Option.some Jvm.ClassFile.FieldType.boolean)) ∈ lw_all := lw_g (lw_at lw_m7 84 rfl) rfl
theorem q3009 : (Jvm.Cond.castable "CloudInterviews$Post" "java/lang/Object") ∈ lw_tbl := lw_at lw_m13 49 rfl
theorem in_X4 : ∀ w ∈ wsX40, w ∈ lw_all := lw_in wsX40 [489, 491, 493, 495, 497] (by decide +kernel) (by decide +kernel)

/-! CloudInterviews$Applicant -/
set_option maxRecDepth 100000
def RX5 : String := "CloudInterviews$Applicant"
def TX5 : u_T := fun k => match k with
  | 0 => ("CloudInterviews$Applicant", "id", "I", true)
  | 1 => ("CloudInterviews$Applicant", "shape", "C", true)
  | 2 => ("CloudInterviews$Applicant", "whiteness", "I", true)
  | 3 => ("CloudInterviews$Applicant", "rain", "I", false)
  | 4 => ("CloudInterviews$Applicant", "coins", "I", false)
  | _ => ("CloudInterviews$Applicant", "post", "LCloudInterviews$Post;", false)
def tyX5 : Nat → FieldType := fun k => match k with
  | 0 => .int
  | 1 => .char
  | 2 => .int
  | 3 => .int
  | 4 => .int
  | _ => .object "CloudInterviews$Post"
abbrev wsX50 : List Cond := u_ws RX5 TX5 6
theorem nmX5 : ∀ a, a < 6 → ∀ b, b < 6 → a ≠ b → (TX5 a).2.1 ≠ (TX5 b).2.1 := by decide +kernel
theorem tyX5_ok : ∀ k, k < 6 → parseFieldDescriptor (TX5 k).2.2.1 = some (tyX5 k) := by decide +kernel
abbrev cX5_isHired : ByteArray := prog_2_method_2_code
def yX5_isHired : MethodName := ⟨RX5, "isHired", "()Z"⟩
def dkwX5_isHired_0 : List UInt8 := [42, 180, 0, 26, 198, 0, 7, 4, 167, 0, 4, 3, 172]
abbrev dktX5_isHired_0 : List UInt8 := dkwX5_isHired_0 ++ []
theorem dksX5_isHired_0 : cX5_isHired.data.toList.drop 0 = dktX5_isHired_0 := by decide +kernel
theorem dX5_isHired_0 : decode cX5_isHired 0 = .ok (.aload_n 0, 1) := dk_42 (dk_at dksX5_isHired_0 0 rfl rfl)
theorem dX5_isHired_1 : decode cX5_isHired 1 = .ok (.getfield 26, 3) := dk_180 0 26 (dk_at dksX5_isHired_0 1 rfl rfl)
theorem dX5_isHired_4 : decode cX5_isHired 4 = .ok (.ifnull 7, 3) := dk_198 0 7 (dk_at dksX5_isHired_0 4 rfl rfl)
theorem dX5_isHired_7 : decode cX5_isHired 7 = .ok (.iconst 1, 1) := dk_4 (dk_at dksX5_isHired_0 7 rfl rfl)
theorem dX5_isHired_8 : decode cX5_isHired 8 = .ok (.goto 4, 3) := dk_167 0 4 (dk_at dksX5_isHired_0 8 rfl rfl)
theorem dX5_isHired_11 : decode cX5_isHired 11 = .ok (.iconst 0, 1) := dk_3 (dk_at dksX5_isHired_0 11 rfl rfl)
theorem dX5_isHired_12 : decode cX5_isHired 12 = .ok (.ireturn, 1) := dk_172 (dk_at dksX5_isHired_0 12 rfl rfl)
abbrev cX5_copy : ByteArray := prog_2_method_3_code
def yX5_copy : MethodName := ⟨RX5, "copy", "()LCloudInterviews$Applicant;"⟩
def dkwX5_copy_1 : List UInt8 := [183, 0, 30, 176]
abbrev dktX5_copy_1 : List UInt8 := dkwX5_copy_1 ++ []
def dkwX5_copy_0 : List UInt8 := [187, 0, 8, 89, 42, 180, 0, 7, 42, 180, 0, 13, 42, 180, 0, 17, 42, 180, 0, 20, 42, 180, 0, 23]
abbrev dktX5_copy_0 : List UInt8 := dkwX5_copy_0 ++ dktX5_copy_1
theorem dksX5_copy_0 : cX5_copy.data.toList.drop 0 = dktX5_copy_0 := by decide +kernel
theorem dksX5_copy_1 : cX5_copy.data.toList.drop 24 = dktX5_copy_1 := dk_seg dksX5_copy_0 24 rfl rfl
theorem dX5_copy_0 : decode cX5_copy 0 = .ok (.new 8, 3) := dk_187 0 8 (dk_at dksX5_copy_0 0 rfl rfl)
theorem dX5_copy_3 : decode cX5_copy 3 = .ok (.dup, 1) := dk_89 (dk_at dksX5_copy_0 3 rfl rfl)
theorem dX5_copy_4 : decode cX5_copy 4 = .ok (.aload_n 0, 1) := dk_42 (dk_at dksX5_copy_0 4 rfl rfl)
theorem dX5_copy_5 : decode cX5_copy 5 = .ok (.getfield 7, 3) := dk_180 0 7 (dk_at dksX5_copy_0 5 rfl rfl)
theorem dX5_copy_8 : decode cX5_copy 8 = .ok (.aload_n 0, 1) := dk_42 (dk_at dksX5_copy_0 8 rfl rfl)
theorem dX5_copy_9 : decode cX5_copy 9 = .ok (.getfield 13, 3) := dk_180 0 13 (dk_at dksX5_copy_0 9 rfl rfl)
theorem dX5_copy_12 : decode cX5_copy 12 = .ok (.aload_n 0, 1) := dk_42 (dk_at dksX5_copy_0 12 rfl rfl)
theorem dX5_copy_13 : decode cX5_copy 13 = .ok (.getfield 17, 3) := dk_180 0 17 (dk_at dksX5_copy_0 13 rfl rfl)
theorem dX5_copy_16 : decode cX5_copy 16 = .ok (.aload_n 0, 1) := dk_42 (dk_at dksX5_copy_0 16 rfl rfl)
theorem dX5_copy_17 : decode cX5_copy 17 = .ok (.getfield 20, 3) := dk_180 0 20 (dk_at dksX5_copy_0 17 rfl rfl)
theorem dX5_copy_20 : decode cX5_copy 20 = .ok (.aload_n 0, 1) := dk_42 (dk_at dksX5_copy_0 20 rfl rfl)
theorem dX5_copy_21 : decode cX5_copy 21 = .ok (.getfield 23, 3) := dk_180 0 23 (dk_at dksX5_copy_0 21 rfl rfl)
theorem dX5_copy_24 : decode cX5_copy 24 = .ok (.invokespecial 30, 3) := dk_183 0 30 (dk_at dksX5_copy_1 0 rfl rfl)
theorem dX5_copy_27 : decode cX5_copy 27 = .ok (.areturn, 1) := dk_176 (dk_at dksX5_copy_1 3 rfl rfl)
abbrev cX5_init : ByteArray := prog_2_method_1_code
def yX5_init : MethodName := ⟨RX5, "<init>", "(ICIII)V"⟩
def dkwX5_init_1 : List UInt8 := [181, 0, 20, 42, 21, 5, 181, 0, 23, 177]
abbrev dktX5_init_1 : List UInt8 := dkwX5_init_1 ++ []
def dkwX5_init_0 : List UInt8 := [42, 183, 0, 1, 42, 27, 181, 0, 7, 42, 28, 181, 0, 13, 42, 29, 181, 0, 17, 42, 21, 4]
abbrev dktX5_init_0 : List UInt8 := dkwX5_init_0 ++ dktX5_init_1
theorem dksX5_init_0 : cX5_init.data.toList.drop 0 = dktX5_init_0 := by decide +kernel
theorem dksX5_init_1 : cX5_init.data.toList.drop 22 = dktX5_init_1 := dk_seg dksX5_init_0 22 rfl rfl
theorem dX5_init_0 : decode cX5_init 0 = .ok (.aload_n 0, 1) := dk_42 (dk_at dksX5_init_0 0 rfl rfl)
theorem dX5_init_1 : decode cX5_init 1 = .ok (.invokespecial 1, 3) := dk_183 0 1 (dk_at dksX5_init_0 1 rfl rfl)
theorem dX5_init_4 : decode cX5_init 4 = .ok (.aload_n 0, 1) := dk_42 (dk_at dksX5_init_0 4 rfl rfl)
theorem dX5_init_5 : decode cX5_init 5 = .ok (.iload_n 1, 1) := dk_27 (dk_at dksX5_init_0 5 rfl rfl)
theorem dX5_init_6 : decode cX5_init 6 = .ok (.putfield 7, 3) := dk_181 0 7 (dk_at dksX5_init_0 6 rfl rfl)
theorem dX5_init_9 : decode cX5_init 9 = .ok (.aload_n 0, 1) := dk_42 (dk_at dksX5_init_0 9 rfl rfl)
theorem dX5_init_10 : decode cX5_init 10 = .ok (.iload_n 2, 1) := dk_28 (dk_at dksX5_init_0 10 rfl rfl)
theorem dX5_init_11 : decode cX5_init 11 = .ok (.putfield 13, 3) := dk_181 0 13 (dk_at dksX5_init_0 11 rfl rfl)
theorem dX5_init_14 : decode cX5_init 14 = .ok (.aload_n 0, 1) := dk_42 (dk_at dksX5_init_0 14 rfl rfl)
theorem dX5_init_15 : decode cX5_init 15 = .ok (.iload_n 3, 1) := dk_29 (dk_at dksX5_init_0 15 rfl rfl)
theorem dX5_init_16 : decode cX5_init 16 = .ok (.putfield 17, 3) := dk_181 0 17 (dk_at dksX5_init_0 16 rfl rfl)
theorem dX5_init_19 : decode cX5_init 19 = .ok (.aload_n 0, 1) := dk_42 (dk_at dksX5_init_0 19 rfl rfl)
theorem dX5_init_20 : decode cX5_init 20 = .ok (.iload 4, 2) := dk_21 4 (dk_at dksX5_init_0 20 rfl rfl)
theorem dX5_init_22 : decode cX5_init 22 = .ok (.putfield 20, 3) := dk_181 0 20 (dk_at dksX5_init_1 0 rfl rfl)
theorem dX5_init_25 : decode cX5_init 25 = .ok (.aload_n 0, 1) := dk_42 (dk_at dksX5_init_1 3 rfl rfl)
theorem dX5_init_26 : decode cX5_init 26 = .ok (.iload 5, 2) := dk_21 5 (dk_at dksX5_init_1 4 rfl rfl)
theorem dX5_init_28 : decode cX5_init 28 = .ok (.putfield 23, 3) := dk_181 0 23 (dk_at dksX5_init_1 6 rfl rfl)
theorem dX5_init_31 : decode cX5_init 31 = .ok (.return_, 1) := dk_177 (dk_at dksX5_init_1 9 rfl rfl)
theorem q104 : (Jvm.Cond.initialized "CloudInterviews$Applicant") ∈ lw_all := lw_g (lw_at lw_m1 24 rfl) rfl
theorem q431 : (Jvm.Cond.instanceMethod ({ cls := "CloudInterviews$Applicant", name := "isHired", desc := "()Z" } : Jvm.MethodName)) ∈ lw_all := lw_g (lw_at lw_m2 111 rfl) rfl
theorem q432 : (Jvm.Cond.selects "CloudInterviews$Applicant" ({ cls := "CloudInterviews$Applicant", name := "isHired", desc := "()Z" } : Jvm.MethodName) ({ cls := "CloudInterviews$Applicant", name := "isHired", desc := "()Z" } : Jvm.MethodName)) ∈ lw_all := lw_g (lw_at lw_m2 112 rfl) rfl
theorem q433 : (Jvm.Cond.code ({ cls := "CloudInterviews$Applicant", name := "isHired", desc := "()Z" } : Jvm.MethodName) prog_2_method_2_code (1 : Nat) (Option.some Jvm.ClassFile.FieldType.boolean)) ∈ lw_all := lw_g (lw_at lw_m2 113 rfl) rfl
theorem q534 : (Jvm.Cond.selects "CloudInterviews$Applicant" ({ cls := "java/lang/Object", name := "getClass", desc := "()Ljava/lang/Class;" } : Jvm.MethodName) ({ cls := "java/lang/Object", name := "getClass", desc := "()Ljava/lang/Class;" } : Jvm.MethodName)) ∈ lw_all := lw_g (lw_at lw_m2 214 rfl) rfl
theorem q576 : (Jvm.Cond.instanceMethod ({ cls := "CloudInterviews$Applicant", name := "copy", desc := "()LCloudInterviews$Applicant;" } : Jvm.MethodName)) ∈ lw_all := lw_g (lw_at lw_m3 16 rfl) rfl
theorem q577 : (Jvm.Cond.selects "CloudInterviews$Applicant" ({ cls := "CloudInterviews$Applicant", name := "copy", desc := "()LCloudInterviews$Applicant;" } : Jvm.MethodName) ({ cls := "CloudInterviews$Applicant", name := "copy", desc := "()LCloudInterviews$Applicant;" } : Jvm.MethodName)) ∈ lw_all := lw_g (lw_at lw_m3 17 rfl) rfl
theorem q578 : (Jvm.Cond.code ({ cls := "CloudInterviews$Applicant", name := "copy", desc := "()LCloudInterviews$Applicant;" } : Jvm.MethodName) prog_2_method_3_code (1 : Nat) (Option.some (Jvm.ClassFile.FieldType.object "CloudInterviews$Applicant"))) ∈ lw_all := lw_g (lw_at lw_m3 18 rfl) rfl
theorem q579 : (Jvm.Cond.classLink "CloudInterviews$Applicant" (8 : Nat) "CloudInterviews$Applicant") ∈ lw_all := lw_g (lw_at lw_m3 19 rfl) rfl
theorem q580 : (Jvm.Cond.instantiable "CloudInterviews$Applicant" (6 : Nat)) ∈ lw_all := lw_g (lw_at lw_m3 20 rfl) rfl
theorem q581 : (Jvm.Cond.methodLink "CloudInterviews$Applicant" (30 : Nat) ({ cls := "CloudInterviews$Applicant", name := "<init>", desc := "(ICIII)V" } : Jvm.MethodName)) ∈ lw_all := lw_g (lw_at lw_m3 21 rfl) rfl
theorem q582 : (Jvm.Cond.instanceMethod ({ cls := "CloudInterviews$Applicant", name := "<init>", desc := "(ICIII)V" } : Jvm.MethodName)) ∈ lw_all := lw_g (lw_at lw_m3 22 rfl) rfl
theorem q583 : (Jvm.Cond.code ({ cls := "CloudInterviews$Applicant", name := "<init>", desc := "(ICIII)V" } : Jvm.MethodName) prog_2_method_1_code (6 : Nat) (Option.none : Option Jvm.ClassFile.FieldType)) ∈ lw_all := lw_g (lw_at lw_m3 23 rfl) rfl
theorem q584 : (Jvm.Cond.methodLink "CloudInterviews$Applicant" (1 : Nat) ({ cls := "java/lang/Object", name := "<init>", desc := "()V" } : Jvm.MethodName)) ∈ lw_all := lw_g (lw_at lw_m3 24 rfl) rfl
theorem q585 : (Jvm.Cond.fieldLink "CloudInterviews$Applicant" (7 : Nat) "CloudInterviews$Applicant" "id" "I") ∈ lw_all := lw_g (lw_at lw_m3 25 rfl) rfl
theorem q588 : (Jvm.Cond.fieldLink "CloudInterviews$Applicant" (13 : Nat) "CloudInterviews$Applicant" "shape" "C") ∈ lw_all := lw_g (lw_at lw_m3 28 rfl) rfl
theorem q592 : (Jvm.Cond.fieldLink "CloudInterviews$Applicant" (17 : Nat) "CloudInterviews$Applicant" "whiteness" "I") ∈ lw_all := lw_g (lw_at lw_m3 32 rfl) rfl
theorem q596 : (Jvm.Cond.fieldLink "CloudInterviews$Applicant" (20 : Nat) "CloudInterviews$Applicant" "rain" "I") ∈ lw_all := lw_g (lw_at lw_m3 36 rfl) rfl
theorem q600 : (Jvm.Cond.fieldLink "CloudInterviews$Applicant" (23 : Nat) "CloudInterviews$Applicant" "coins" "I") ∈ lw_all := lw_g (lw_at lw_m3 40 rfl) rfl
theorem q603 : (Jvm.Cond.fieldLink "CloudInterviews$Applicant" (26 : Nat) "CloudInterviews$Applicant" "post" "LCloudInterviews$Post;") ∈ lw_all := lw_g (lw_at lw_m3 43 rfl) rfl
theorem q607 : (Jvm.Cond.laysFinal "CloudInterviews$Applicant" "CloudInterviews$Applicant" "id" "I") ∈ lw_all := lw_g (lw_at lw_m3 47 rfl) rfl
theorem q608 : (Jvm.Cond.soleField "CloudInterviews$Applicant" "id") ∈ lw_all := lw_g (lw_at lw_m3 48 rfl) rfl
theorem q609 : (Jvm.Cond.laysFinal "CloudInterviews$Applicant" "CloudInterviews$Applicant" "shape" "C") ∈ lw_all := lw_g (lw_at lw_m3 49 rfl) rfl
theorem q610 : (Jvm.Cond.soleField "CloudInterviews$Applicant" "shape") ∈ lw_all := lw_g (lw_at lw_m3 50 rfl) rfl
theorem q611 : (Jvm.Cond.laysFinal "CloudInterviews$Applicant" "CloudInterviews$Applicant" "whiteness" "I") ∈ lw_all := lw_g (lw_at lw_m3 51 rfl) rfl
theorem q612 : (Jvm.Cond.soleField "CloudInterviews$Applicant" "whiteness") ∈ lw_all := lw_g (lw_at lw_m3 52 rfl) rfl
theorem q613 : (Jvm.Cond.lays "CloudInterviews$Applicant" "CloudInterviews$Applicant" "rain" "I") ∈ lw_all := lw_g (lw_at lw_m3 53 rfl) rfl
theorem q614 : (Jvm.Cond.soleField "CloudInterviews$Applicant" "rain") ∈ lw_all := lw_g (lw_at lw_m3 54 rfl) rfl
theorem q615 : (Jvm.Cond.lays "CloudInterviews$Applicant" "CloudInterviews$Applicant" "coins" "I") ∈ lw_all := lw_g (lw_at lw_m3 55 rfl) rfl
theorem q616 : (Jvm.Cond.soleField "CloudInterviews$Applicant" "coins") ∈ lw_all := lw_g (lw_at lw_m3 56 rfl) rfl
theorem q617 : (Jvm.Cond.lays "CloudInterviews$Applicant" "CloudInterviews$Applicant" "post" "LCloudInterviews$Post;") ∈ lw_all := lw_g (lw_at lw_m3 57 rfl) rfl
theorem q618 : (Jvm.Cond.soleField "CloudInterviews$Applicant" "post") ∈ lw_all := lw_g (lw_at lw_m3 58 rfl) rfl
theorem q619 : (Jvm.Cond.superclass "CloudInterviews$Applicant" "java/lang/Object") ∈ lw_all := lw_g (lw_at lw_m3 59 rfl) rfl
theorem q656 : (Jvm.Cond.selects "CloudInterviews$Applicant" ({ cls := "java/lang/Object", name := "hashCode", desc := "()I" } : Jvm.MethodName) ({ cls := "java/lang/Object", name := "hashCode", desc := "()I" } : Jvm.MethodName)) ∈ lw_all := lw_g (lw_at lw_m3 96 rfl) rfl
theorem q1269 : (Jvm.Cond.selects "CloudInterviews$Applicant" ({ cls := "java/lang/Object", name := "equals", desc := "(Ljava/lang/Object;)Z" } : Jvm.MethodName) ({ cls := "java/lang/Object", name := "equals", desc := "(Ljava/lang/Object;)Z" } : Jvm.MethodName)) ∈ lw_all := lw_g (lw_at lw_m5 229 rfl) rfl
theorem q2998 : (Jvm.Cond.castable "CloudInterviews$Applicant" "java/lang/Object") ∈ lw_tbl := lw_at lw_m13 38 rfl
theorem in_X5 : ∀ w ∈ wsX50, w ∈ lw_all := lw_in wsX50 [607, 609, 611, 613, 615, 617] (by decide +kernel) (by decide +kernel)

/-! CloudInterviews$Reference -/
set_option maxRecDepth 100000
def RX6 : String := "CloudInterviews$Reference"
def TX6 : u_T := fun k => match k with
  | 0 => ("CloudInterviews$Reference", "from", "I", true)
  | _ => ("CloudInterviews$Reference", "to", "I", true)
def tyX6 : Nat → FieldType := fun k => match k with
  | 0 => .int
  | _ => .int
abbrev wsX60 : List Cond := u_ws RX6 TX6 2
theorem nmX6 : ∀ a, a < 2 → ∀ b, b < 2 → a ≠ b → (TX6 a).2.1 ≠ (TX6 b).2.1 := by decide +kernel
theorem tyX6_ok : ∀ k, k < 2 → parseFieldDescriptor (TX6 k).2.2.1 = some (tyX6 k) := by decide +kernel
abbrev cX6_hashCode : ByteArray := prog_7_method_4_code
def yX6_hashCode : MethodName := ⟨RX6, "hashCode", "()I"⟩
def dkwX6_hashCode_0 : List UInt8 := [17, 3, 232, 42, 180, 0, 7, 104, 42, 180, 0, 13, 96, 172]
abbrev dktX6_hashCode_0 : List UInt8 := dkwX6_hashCode_0 ++ []
theorem dksX6_hashCode_0 : cX6_hashCode.data.toList.drop 0 = dktX6_hashCode_0 := by decide +kernel
theorem dX6_hashCode_0 : decode cX6_hashCode 0 = .ok (.sipush 1000, 3) := dk_17 3 232 (dk_at dksX6_hashCode_0 0 rfl rfl)
theorem dX6_hashCode_3 : decode cX6_hashCode 3 = .ok (.aload_n 0, 1) := dk_42 (dk_at dksX6_hashCode_0 3 rfl rfl)
theorem dX6_hashCode_4 : decode cX6_hashCode 4 = .ok (.getfield 7, 3) := dk_180 0 7 (dk_at dksX6_hashCode_0 4 rfl rfl)
theorem dX6_hashCode_7 : decode cX6_hashCode 7 = .ok (.imul, 1) := dk_104 (dk_at dksX6_hashCode_0 7 rfl rfl)
theorem dX6_hashCode_8 : decode cX6_hashCode 8 = .ok (.aload_n 0, 1) := dk_42 (dk_at dksX6_hashCode_0 8 rfl rfl)
theorem dX6_hashCode_9 : decode cX6_hashCode 9 = .ok (.getfield 13, 3) := dk_180 0 13 (dk_at dksX6_hashCode_0 9 rfl rfl)
theorem dX6_hashCode_12 : decode cX6_hashCode 12 = .ok (.iadd, 1) := dk_96 (dk_at dksX6_hashCode_0 12 rfl rfl)
theorem dX6_hashCode_13 : decode cX6_hashCode 13 = .ok (.ireturn, 1) := dk_172 (dk_at dksX6_hashCode_0 13 rfl rfl)
abbrev cX6_equals : ByteArray := prog_7_method_3_code
def yX6_equals : MethodName := ⟨RX6, "equals", "(Ljava/lang/Object;)Z"⟩
def dkwX6_equals_1 : List UInt8 := [160, 0, 18, 42, 180, 0, 13, 44, 180, 0, 13, 160, 0, 7, 4, 167, 0, 4, 3, 172]
abbrev dktX6_equals_1 : List UInt8 := dkwX6_equals_1 ++ []
def dkwX6_equals_0 : List UInt8 := [43, 193, 0, 8, 154, 0, 5, 3, 172, 43, 192, 0, 8, 77, 42, 180, 0, 7, 44, 180, 0, 7]
abbrev dktX6_equals_0 : List UInt8 := dkwX6_equals_0 ++ dktX6_equals_1
theorem dksX6_equals_0 : cX6_equals.data.toList.drop 0 = dktX6_equals_0 := by decide +kernel
theorem dksX6_equals_1 : cX6_equals.data.toList.drop 22 = dktX6_equals_1 := dk_seg dksX6_equals_0 22 rfl rfl
theorem dX6_equals_0 : decode cX6_equals 0 = .ok (.aload_n 1, 1) := dk_43 (dk_at dksX6_equals_0 0 rfl rfl)
theorem dX6_equals_1 : decode cX6_equals 1 = .ok (.instanceof 8, 3) := dk_193 0 8 (dk_at dksX6_equals_0 1 rfl rfl)
theorem dX6_equals_4 : decode cX6_equals 4 = .ok (.ifCond .ne 5, 3) := dk_154 0 5 (dk_at dksX6_equals_0 4 rfl rfl)
theorem dX6_equals_7 : decode cX6_equals 7 = .ok (.iconst 0, 1) := dk_3 (dk_at dksX6_equals_0 7 rfl rfl)
theorem dX6_equals_8 : decode cX6_equals 8 = .ok (.ireturn, 1) := dk_172 (dk_at dksX6_equals_0 8 rfl rfl)
theorem dX6_equals_9 : decode cX6_equals 9 = .ok (.aload_n 1, 1) := dk_43 (dk_at dksX6_equals_0 9 rfl rfl)
theorem dX6_equals_10 : decode cX6_equals 10 = .ok (.checkcast 8, 3) := dk_192 0 8 (dk_at dksX6_equals_0 10 rfl rfl)
theorem dX6_equals_13 : decode cX6_equals 13 = .ok (.astore_n 2, 1) := dk_77 (dk_at dksX6_equals_0 13 rfl rfl)
theorem dX6_equals_14 : decode cX6_equals 14 = .ok (.aload_n 0, 1) := dk_42 (dk_at dksX6_equals_0 14 rfl rfl)
theorem dX6_equals_15 : decode cX6_equals 15 = .ok (.getfield 7, 3) := dk_180 0 7 (dk_at dksX6_equals_0 15 rfl rfl)
theorem dX6_equals_18 : decode cX6_equals 18 = .ok (.aload_n 2, 1) := dk_44 (dk_at dksX6_equals_0 18 rfl rfl)
theorem dX6_equals_19 : decode cX6_equals 19 = .ok (.getfield 7, 3) := dk_180 0 7 (dk_at dksX6_equals_0 19 rfl rfl)
theorem dX6_equals_22 : decode cX6_equals 22 = .ok (.if_icmp .ne 18, 3) := dk_160 0 18 (dk_at dksX6_equals_1 0 rfl rfl)
theorem dX6_equals_25 : decode cX6_equals 25 = .ok (.aload_n 0, 1) := dk_42 (dk_at dksX6_equals_1 3 rfl rfl)
theorem dX6_equals_26 : decode cX6_equals 26 = .ok (.getfield 13, 3) := dk_180 0 13 (dk_at dksX6_equals_1 4 rfl rfl)
theorem dX6_equals_29 : decode cX6_equals 29 = .ok (.aload_n 2, 1) := dk_44 (dk_at dksX6_equals_1 7 rfl rfl)
theorem dX6_equals_30 : decode cX6_equals 30 = .ok (.getfield 13, 3) := dk_180 0 13 (dk_at dksX6_equals_1 8 rfl rfl)
theorem dX6_equals_33 : decode cX6_equals 33 = .ok (.if_icmp .ne 7, 3) := dk_160 0 7 (dk_at dksX6_equals_1 11 rfl rfl)
theorem dX6_equals_36 : decode cX6_equals 36 = .ok (.iconst 1, 1) := dk_4 (dk_at dksX6_equals_1 14 rfl rfl)
theorem dX6_equals_37 : decode cX6_equals 37 = .ok (.goto 4, 3) := dk_167 0 4 (dk_at dksX6_equals_1 15 rfl rfl)
theorem dX6_equals_40 : decode cX6_equals 40 = .ok (.iconst 0, 1) := dk_3 (dk_at dksX6_equals_1 18 rfl rfl)
theorem dX6_equals_41 : decode cX6_equals 41 = .ok (.ireturn, 1) := dk_172 (dk_at dksX6_equals_1 19 rfl rfl)
abbrev cX6_init : ByteArray := prog_7_method_1_code
def yX6_init : MethodName := ⟨RX6, "<init>", "(II)V"⟩
def dkwX6_init_0 : List UInt8 := [42, 183, 0, 1, 42, 27, 181, 0, 7, 42, 28, 181, 0, 13, 177]
abbrev dktX6_init_0 : List UInt8 := dkwX6_init_0 ++ []
theorem dksX6_init_0 : cX6_init.data.toList.drop 0 = dktX6_init_0 := by decide +kernel
theorem dX6_init_0 : decode cX6_init 0 = .ok (.aload_n 0, 1) := dk_42 (dk_at dksX6_init_0 0 rfl rfl)
theorem dX6_init_1 : decode cX6_init 1 = .ok (.invokespecial 1, 3) := dk_183 0 1 (dk_at dksX6_init_0 1 rfl rfl)
theorem dX6_init_4 : decode cX6_init 4 = .ok (.aload_n 0, 1) := dk_42 (dk_at dksX6_init_0 4 rfl rfl)
theorem dX6_init_5 : decode cX6_init 5 = .ok (.iload_n 1, 1) := dk_27 (dk_at dksX6_init_0 5 rfl rfl)
theorem dX6_init_6 : decode cX6_init 6 = .ok (.putfield 7, 3) := dk_181 0 7 (dk_at dksX6_init_0 6 rfl rfl)
theorem dX6_init_9 : decode cX6_init 9 = .ok (.aload_n 0, 1) := dk_42 (dk_at dksX6_init_0 9 rfl rfl)
theorem dX6_init_10 : decode cX6_init 10 = .ok (.iload_n 2, 1) := dk_28 (dk_at dksX6_init_0 10 rfl rfl)
theorem dX6_init_11 : decode cX6_init 11 = .ok (.putfield 13, 3) := dk_181 0 13 (dk_at dksX6_init_0 11 rfl rfl)
theorem dX6_init_14 : decode cX6_init 14 = .ok (.return_, 1) := dk_177 (dk_at dksX6_init_0 14 rfl rfl)
theorem q119 : (Jvm.Cond.initialized "CloudInterviews$Reference") ∈ lw_all := lw_g (lw_at lw_m1 39 rfl) rfl
theorem q539 : (Jvm.Cond.selects "CloudInterviews$Reference" ({ cls := "java/lang/Object", name := "getClass", desc := "()Ljava/lang/Class;" } : Jvm.MethodName) ({ cls := "java/lang/Object", name := "getClass", desc := "()Ljava/lang/Class;" } : Jvm.MethodName)) ∈ lw_all := lw_g (lw_at lw_m2 219 rfl) rfl
theorem q661 : (Jvm.Cond.selects "CloudInterviews$Reference" ({ cls := "java/lang/Object", name := "hashCode", desc := "()I" } : Jvm.MethodName) ({ cls := "CloudInterviews$Reference", name := "hashCode", desc := "()I" } : Jvm.MethodName)) ∈ lw_all := lw_g (lw_at lw_m3 101 rfl) rfl
theorem q662 : (Jvm.Cond.instanceMethod ({ cls := "CloudInterviews$Reference", name := "hashCode", desc := "()I" } : Jvm.MethodName)) ∈ lw_all := lw_g (lw_at lw_m3 102 rfl) rfl
theorem q663 : (Jvm.Cond.code ({ cls := "CloudInterviews$Reference", name := "hashCode", desc := "()I" } : Jvm.MethodName) prog_7_method_4_code (1 : Nat) (Option.some Jvm.ClassFile.FieldType.int)) ∈ lw_all := lw_g (lw_at lw_m3 103 rfl) rfl
theorem q1274 : (Jvm.Cond.selects "CloudInterviews$Reference" ({ cls := "java/lang/Object", name := "equals", desc := "(Ljava/lang/Object;)Z" } : Jvm.MethodName) ({ cls := "CloudInterviews$Reference", name := "equals", desc := "(Ljava/lang/Object;)Z" } : Jvm.MethodName)) ∈ lw_all := lw_g (lw_at lw_m5 234 rfl) rfl
theorem q1275 : (Jvm.Cond.instanceMethod ({ cls := "CloudInterviews$Reference", name := "equals", desc := "(Ljava/lang/Object;)Z" } : Jvm.MethodName)) ∈ lw_all := lw_g (lw_at lw_m5 235 rfl) rfl
theorem q1276 : (Jvm.Cond.code ({ cls := "CloudInterviews$Reference", name := "equals", desc := "(Ljava/lang/Object;)Z" } : Jvm.MethodName) prog_7_method_3_code (3 : Nat) (Option.some Jvm.ClassFile.FieldType.boolean)) ∈ lw_all := lw_g (lw_at lw_m5 236 rfl) rfl
theorem q1277 : (Jvm.Cond.classLink "CloudInterviews$Reference" (8 : Nat) "CloudInterviews$Reference") ∈ lw_all := lw_g (lw_at lw_m5 237 rfl) rfl
theorem q1404 : (Jvm.Cond.instantiable "CloudInterviews$Reference" (2 : Nat)) ∈ lw_all := lw_g (lw_at lw_m6 124 rfl) rfl
theorem q1406 : (Jvm.Cond.instanceMethod ({ cls := "CloudInterviews$Reference", name := "<init>", desc := "(II)V" } : Jvm.MethodName)) ∈ lw_all := lw_g (lw_at lw_m6 126 rfl) rfl
theorem q1407 : (Jvm.Cond.code ({ cls := "CloudInterviews$Reference", name := "<init>", desc := "(II)V" } : Jvm.MethodName) prog_7_method_1_code (3 : Nat) (Option.none : Option Jvm.ClassFile.FieldType)) ∈ lw_all := lw_g (lw_at lw_m6 127 rfl) rfl
theorem q1408 : (Jvm.Cond.methodLink "CloudInterviews$Reference" (1 : Nat) ({ cls := "java/lang/Object", name := "<init>", desc := "()V" } : Jvm.MethodName)) ∈ lw_all := lw_g (lw_at lw_m6 128 rfl) rfl
theorem q1409 : (Jvm.Cond.fieldLink "CloudInterviews$Reference" (7 : Nat) "CloudInterviews$Reference" "from" "I") ∈ lw_all := lw_g (lw_at lw_m6 129 rfl) rfl
theorem q1410 : (Jvm.Cond.fieldLink "CloudInterviews$Reference" (13 : Nat) "CloudInterviews$Reference" "to" "I") ∈ lw_all := lw_g (lw_at lw_m6 130 rfl) rfl
theorem q1411 : (Jvm.Cond.laysFinal "CloudInterviews$Reference" "CloudInterviews$Reference" "from" "I") ∈ lw_all := lw_g (lw_at lw_m6 131 rfl) rfl
theorem q1412 : (Jvm.Cond.soleField "CloudInterviews$Reference" "from") ∈ lw_all := lw_g (lw_at lw_m6 132 rfl) rfl
theorem q1413 : (Jvm.Cond.laysFinal "CloudInterviews$Reference" "CloudInterviews$Reference" "to" "I") ∈ lw_all := lw_g (lw_at lw_m6 133 rfl) rfl
theorem q1414 : (Jvm.Cond.soleField "CloudInterviews$Reference" "to") ∈ lw_all := lw_g (lw_at lw_m6 134 rfl) rfl
theorem q1415 : (Jvm.Cond.superclass "CloudInterviews$Reference" "java/lang/Object") ∈ lw_all := lw_g (lw_at lw_m6 135 rfl) rfl
theorem q3015 : (Jvm.Cond.castable "CloudInterviews$Reference" "java/lang/Object") ∈ lw_tbl := lw_at lw_m13 55 rfl
theorem in_X6 : ∀ w ∈ wsX60, w ∈ lw_all := lw_in wsX60 [1411, 1413] (by decide +kernel) (by decide +kernel)

/-! CloudInterviews$Command -/
set_option maxRecDepth 100000
def RX7 : String := "CloudInterviews$Command"
def TX7 : u_T := fun k => match k with
  | 0 => ("CloudInterviews$Command", "keyword", "Ljava/lang/String;", true)
  | _ => ("CloudInterviews$Command", "numbers", "[I", true)
def tyX7 : Nat → FieldType := fun k => match k with
  | 0 => .object "java/lang/String"
  | _ => .array .int
abbrev wsX70 : List Cond := u_ws RX7 TX7 2
theorem nmX7 : ∀ a, a < 2 → ∀ b, b < 2 → a ≠ b → (TX7 a).2.1 ≠ (TX7 b).2.1 := by decide +kernel
theorem tyX7_ok : ∀ k, k < 2 → parseFieldDescriptor (TX7 k).2.2.1 = some (tyX7 k) := by decide +kernel
abbrev cX7_init : ByteArray := prog_4_method_1_code
def yX7_init : MethodName := ⟨RX7, "<init>", "(Ljava/lang/String;[I)V"⟩
def dkwX7_init_0 : List UInt8 := [42, 183, 0, 1, 42, 43, 181, 0, 7, 42, 44, 181, 0, 13, 177]
abbrev dktX7_init_0 : List UInt8 := dkwX7_init_0 ++ []
theorem dksX7_init_0 : cX7_init.data.toList.drop 0 = dktX7_init_0 := by decide +kernel
theorem dX7_init_0 : decode cX7_init 0 = .ok (.aload_n 0, 1) := dk_42 (dk_at dksX7_init_0 0 rfl rfl)
theorem dX7_init_1 : decode cX7_init 1 = .ok (.invokespecial 1, 3) := dk_183 0 1 (dk_at dksX7_init_0 1 rfl rfl)
theorem dX7_init_4 : decode cX7_init 4 = .ok (.aload_n 0, 1) := dk_42 (dk_at dksX7_init_0 4 rfl rfl)
theorem dX7_init_5 : decode cX7_init 5 = .ok (.aload_n 1, 1) := dk_43 (dk_at dksX7_init_0 5 rfl rfl)
theorem dX7_init_6 : decode cX7_init 6 = .ok (.putfield 7, 3) := dk_181 0 7 (dk_at dksX7_init_0 6 rfl rfl)
theorem dX7_init_9 : decode cX7_init 9 = .ok (.aload_n 0, 1) := dk_42 (dk_at dksX7_init_0 9 rfl rfl)
theorem dX7_init_10 : decode cX7_init 10 = .ok (.aload_n 2, 1) := dk_44 (dk_at dksX7_init_0 10 rfl rfl)
theorem dX7_init_11 : decode cX7_init 11 = .ok (.putfield 13, 3) := dk_181 0 13 (dk_at dksX7_init_0 11 rfl rfl)
theorem dX7_init_14 : decode cX7_init 14 = .ok (.return_, 1) := dk_177 (dk_at dksX7_init_0 14 rfl rfl)
abbrev cX7_runOn : ByteArray := prog_4_method_2_code
def yX7_runOn : MethodName := ⟨RX7, "runOn", "(LCloudInterviews$Board;)I"⟩
def dkwX7_runOn_17 : List UInt8 := [182, 0, 84, 172, 43, 42, 180, 0, 13, 3, 46, 182, 0, 87, 172]
abbrev dktX7_runOn_17 : List UInt8 := dkwX7_runOn_17 ++ []
def dkwX7_runOn_16 : List UInt8 := [180, 0, 13, 3, 46, 182, 0, 81, 172, 43, 42, 180, 0, 13, 3, 46, 42, 180, 0, 13, 4, 46]
abbrev dktX7_runOn_16 : List UInt8 := dkwX7_runOn_16 ++ dktX7_runOn_17
def dkwX7_runOn_15 : List UInt8 := [182, 0, 73, 172, 43, 182, 0, 76, 172, 43, 42, 180, 0, 13, 3, 46, 182, 0, 78, 172, 43, 42]
abbrev dktX7_runOn_15 : List UInt8 := dkwX7_runOn_15 ++ dktX7_runOn_16
def dkwX7_runOn_14 : List UInt8 := [180, 0, 13, 3, 46, 182, 0, 70, 172, 43, 42, 180, 0, 13, 3, 46, 42, 180, 0, 13, 4, 46]
abbrev dktX7_runOn_14 : List UInt8 := dkwX7_runOn_14 ++ dktX7_runOn_15
def dkwX7_runOn_13 : List UInt8 := [182, 0, 63, 172, 43, 42, 180, 0, 13, 3, 46, 42, 180, 0, 13, 4, 46, 182, 0, 66, 172, 43, 42]
abbrev dktX7_runOn_13 : List UInt8 := dkwX7_runOn_13 ++ dktX7_runOn_14
def dkwX7_runOn_12 : List UInt8 := [46, 42, 180, 0, 13, 5, 46, 42, 180, 0, 13, 6, 46, 182, 0, 59, 172, 43, 42, 180, 0, 13, 3, 46]
abbrev dktX7_runOn_12 : List UInt8 := dkwX7_runOn_12 ++ dktX7_runOn_13
def dkwX7_runOn_11 : List UInt8 := [43, 42, 180, 0, 13, 3, 46, 182, 0, 55, 172, 43, 42, 180, 0, 13, 3, 46, 146, 42, 180, 0, 13, 4]
abbrev dktX7_runOn_11 : List UInt8 := dkwX7_runOn_11 ++ dktX7_runOn_12
def dkwX7_runOn_10 : List UInt8 := [43, 42, 180, 0, 13, 3, 46, 146, 42, 180, 0, 13, 4, 46, 42, 180, 0, 13, 5, 46, 182, 0, 49, 172]
abbrev dktX7_runOn_10 : List UInt8 := dkwX7_runOn_10 ++ dktX7_runOn_11
def dkwX7_runOn_9 : List UInt8 := [170, 0, 0, 0, 0, 0, 224, 0, 0, 0, 0, 0, 0, 0, 10, 0, 0, 0, 59, 0, 0, 0, 83, 0, 0, 0, 94, 0, 0, 0, 124, 0, 0, 0, 135, 0, 0, 0, 152, 0, 0, 0, 163, 0, 0, 0, 180, 0, 0, 0, 185, 0, 0, 0, 196, 0, 0, 0, 207]
abbrev dktX7_runOn_9 : List UInt8 := dkwX7_runOn_9 ++ dktX7_runOn_10
def dkwX7_runOn_8 : List UInt8 := [167, 0, 15, 44, 18, 47, 182, 0, 25, 153, 0, 6, 16, 10, 62, 29]
abbrev dktX7_runOn_8 : List UInt8 := dkwX7_runOn_8 ++ dktX7_runOn_9
def dkwX7_runOn_7 : List UInt8 := [182, 0, 25, 153, 0, 36, 16, 8, 62, 167, 0, 30, 44, 18, 45, 182, 0, 25, 153, 0, 21, 16, 9, 62]
abbrev dktX7_runOn_7 : List UInt8 := dkwX7_runOn_7 ++ dktX7_runOn_8
def dkwX7_runOn_6 : List UInt8 := [62, 167, 0, 60, 44, 18, 41, 182, 0, 25, 153, 0, 51, 16, 7, 62, 167, 0, 45, 44, 18, 43]
abbrev dktX7_runOn_6 : List UInt8 := dkwX7_runOn_6 ++ dktX7_runOn_7
def dkwX7_runOn_5 : List UInt8 := [18, 37, 182, 0, 25, 153, 0, 80, 8, 62, 167, 0, 75, 44, 18, 39, 182, 0, 25, 153, 0, 66, 16, 6]
abbrev dktX7_runOn_5 : List UInt8 := dkwX7_runOn_5 ++ dktX7_runOn_6
def dkwX7_runOn_4 : List UInt8 := [153, 0, 108, 6, 62, 167, 0, 103, 44, 18, 35, 182, 0, 25, 153, 0, 94, 7, 62, 167, 0, 89, 44]
abbrev dktX7_runOn_4 : List UInt8 := dkwX7_runOn_4 ++ dktX7_runOn_5
def dkwX7_runOn_3 : List UInt8 := [62, 167, 0, 131, 44, 18, 31, 182, 0, 25, 153, 0, 122, 5, 62, 167, 0, 117, 44, 18, 33, 182, 0, 25]
abbrev dktX7_runOn_3 : List UInt8 := dkwX7_runOn_3 ++ dktX7_runOn_4
def dkwX7_runOn_2 : List UInt8 := [44, 18, 23, 182, 0, 25, 153, 0, 150, 3, 62, 167, 0, 145, 44, 18, 29, 182, 0, 25, 153, 0, 136, 4]
abbrev dktX7_runOn_2 : List UInt8 := dkwX7_runOn_2 ++ dktX7_runOn_3
def dkwX7_runOn_1 : List UInt8 := [171, 0, 0, 0, 253, 0, 0, 0, 11, 171, 228, 234, 114, 0, 0, 0, 97, 175, 21, 225, 40, 0, 0, 0, 139, 190, 8, 136, 73, 0, 0, 0, 111, 200, 71, 163, 160, 0, 0, 0, 181, 239, 100, 21, 135, 0, 0, 0, 241, 0, 1, 131, 156, 0, 0, 0, 211, 5, 234, 255, 172, 0, 0, 0, 153, 6, 45, 217, 197, 0, 0, 0, 196, 6, 94, 123, 128, 0, 0, 0, 125, 16, 210, 158, 214, 0, 0, 0, 167, 19, 249, 95, 144, 0, 0, 0, 226]
abbrev dktX7_runOn_1 : List UInt8 := dkwX7_runOn_1 ++ dktX7_runOn_2
def dkwX7_runOn_0 : List UInt8 := [42, 180, 0, 7, 77, 2, 62, 44, 182, 0, 17]
abbrev dktX7_runOn_0 : List UInt8 := dkwX7_runOn_0 ++ dktX7_runOn_1
theorem dksX7_runOn_0 : cX7_runOn.data.toList.drop 0 = dktX7_runOn_0 := by decide +kernel
theorem dksX7_runOn_1 : cX7_runOn.data.toList.drop 11 = dktX7_runOn_1 := dk_seg dksX7_runOn_0 11 rfl rfl
theorem dksX7_runOn_2 : cX7_runOn.data.toList.drop 108 = dktX7_runOn_2 := dk_seg dksX7_runOn_1 97 rfl rfl
theorem dksX7_runOn_3 : cX7_runOn.data.toList.drop 132 = dktX7_runOn_3 := dk_seg dksX7_runOn_2 24 rfl rfl
theorem dksX7_runOn_4 : cX7_runOn.data.toList.drop 156 = dktX7_runOn_4 := dk_seg dksX7_runOn_3 24 rfl rfl
theorem dksX7_runOn_5 : cX7_runOn.data.toList.drop 179 = dktX7_runOn_5 := dk_seg dksX7_runOn_4 23 rfl rfl
theorem dksX7_runOn_6 : cX7_runOn.data.toList.drop 203 = dktX7_runOn_6 := dk_seg dksX7_runOn_5 24 rfl rfl
theorem dksX7_runOn_7 : cX7_runOn.data.toList.drop 225 = dktX7_runOn_7 := dk_seg dksX7_runOn_6 22 rfl rfl
theorem dksX7_runOn_8 : cX7_runOn.data.toList.drop 249 = dktX7_runOn_8 := dk_seg dksX7_runOn_7 24 rfl rfl
theorem dksX7_runOn_9 : cX7_runOn.data.toList.drop 265 = dktX7_runOn_9 := dk_seg dksX7_runOn_8 16 rfl rfl
theorem dksX7_runOn_10 : cX7_runOn.data.toList.drop 324 = dktX7_runOn_10 := dk_seg dksX7_runOn_9 59 rfl rfl
theorem dksX7_runOn_11 : cX7_runOn.data.toList.drop 348 = dktX7_runOn_11 := dk_seg dksX7_runOn_10 24 rfl rfl
theorem dksX7_runOn_12 : cX7_runOn.data.toList.drop 372 = dktX7_runOn_12 := dk_seg dksX7_runOn_11 24 rfl rfl
theorem dksX7_runOn_13 : cX7_runOn.data.toList.drop 396 = dktX7_runOn_13 := dk_seg dksX7_runOn_12 24 rfl rfl
theorem dksX7_runOn_14 : cX7_runOn.data.toList.drop 419 = dktX7_runOn_14 := dk_seg dksX7_runOn_13 23 rfl rfl
theorem dksX7_runOn_15 : cX7_runOn.data.toList.drop 441 = dktX7_runOn_15 := dk_seg dksX7_runOn_14 22 rfl rfl
theorem dksX7_runOn_16 : cX7_runOn.data.toList.drop 463 = dktX7_runOn_16 := dk_seg dksX7_runOn_15 22 rfl rfl
theorem dksX7_runOn_17 : cX7_runOn.data.toList.drop 485 = dktX7_runOn_17 := dk_seg dksX7_runOn_16 22 rfl rfl
theorem dX7_runOn_0 : decode cX7_runOn 0 = .ok (.aload_n 0, 1) := dk_42 (dk_at dksX7_runOn_0 0 rfl rfl)
theorem dX7_runOn_1 : decode cX7_runOn 1 = .ok (.getfield 7, 3) := dk_180 0 7 (dk_at dksX7_runOn_0 1 rfl rfl)
theorem dX7_runOn_4 : decode cX7_runOn 4 = .ok (.astore_n 2, 1) := dk_77 (dk_at dksX7_runOn_0 4 rfl rfl)
theorem dX7_runOn_5 : decode cX7_runOn 5 = .ok (.iconst (-1), 1) := dk_2 (dk_at dksX7_runOn_0 5 rfl rfl)
theorem dX7_runOn_6 : decode cX7_runOn 6 = .ok (.istore_n 3, 1) := dk_62 (dk_at dksX7_runOn_0 6 rfl rfl)
theorem dX7_runOn_7 : decode cX7_runOn 7 = .ok (.aload_n 2, 1) := dk_44 (dk_at dksX7_runOn_0 7 rfl rfl)
theorem dX7_runOn_8 : decode cX7_runOn 8 = .ok (.invokevirtual 17, 3) := dk_182 0 17 (dk_at dksX7_runOn_0 8 rfl rfl)
theorem dX7_runOn_11 : decode cX7_runOn 11 = .ok (.lookupswitch 253 #[(-1411061134, 97), (-1357520600, 139), (-1106737079, 111), (-934829152, 181), (-278653561, 241), (99228, 211), (99286956, 153), (103668165, 196), (106855296, 125), (282238678, 167), (335110032, 226)], 97) := by decide +kernel
theorem dX7_runOn_108 : decode cX7_runOn 108 = .ok (.aload_n 2, 1) := dk_44 (dk_at dksX7_runOn_2 0 rfl rfl)
theorem dX7_runOn_109 : decode cX7_runOn 109 = .ok (.ldc 23, 2) := dk_18 23 (dk_at dksX7_runOn_2 1 rfl rfl)
theorem dX7_runOn_111 : decode cX7_runOn 111 = .ok (.invokevirtual 25, 3) := dk_182 0 25 (dk_at dksX7_runOn_2 3 rfl rfl)
theorem dX7_runOn_114 : decode cX7_runOn 114 = .ok (.ifCond .eq 150, 3) := dk_153 0 150 (dk_at dksX7_runOn_2 6 rfl rfl)
theorem dX7_runOn_117 : decode cX7_runOn 117 = .ok (.iconst 0, 1) := dk_3 (dk_at dksX7_runOn_2 9 rfl rfl)
theorem dX7_runOn_118 : decode cX7_runOn 118 = .ok (.istore_n 3, 1) := dk_62 (dk_at dksX7_runOn_2 10 rfl rfl)
theorem dX7_runOn_119 : decode cX7_runOn 119 = .ok (.goto 145, 3) := dk_167 0 145 (dk_at dksX7_runOn_2 11 rfl rfl)
theorem dX7_runOn_122 : decode cX7_runOn 122 = .ok (.aload_n 2, 1) := dk_44 (dk_at dksX7_runOn_2 14 rfl rfl)
theorem dX7_runOn_123 : decode cX7_runOn 123 = .ok (.ldc 29, 2) := dk_18 29 (dk_at dksX7_runOn_2 15 rfl rfl)
theorem dX7_runOn_125 : decode cX7_runOn 125 = .ok (.invokevirtual 25, 3) := dk_182 0 25 (dk_at dksX7_runOn_2 17 rfl rfl)
theorem dX7_runOn_128 : decode cX7_runOn 128 = .ok (.ifCond .eq 136, 3) := dk_153 0 136 (dk_at dksX7_runOn_2 20 rfl rfl)
theorem dX7_runOn_131 : decode cX7_runOn 131 = .ok (.iconst 1, 1) := dk_4 (dk_at dksX7_runOn_2 23 rfl rfl)
theorem dX7_runOn_132 : decode cX7_runOn 132 = .ok (.istore_n 3, 1) := dk_62 (dk_at dksX7_runOn_3 0 rfl rfl)
theorem dX7_runOn_133 : decode cX7_runOn 133 = .ok (.goto 131, 3) := dk_167 0 131 (dk_at dksX7_runOn_3 1 rfl rfl)
theorem dX7_runOn_136 : decode cX7_runOn 136 = .ok (.aload_n 2, 1) := dk_44 (dk_at dksX7_runOn_3 4 rfl rfl)
theorem dX7_runOn_137 : decode cX7_runOn 137 = .ok (.ldc 31, 2) := dk_18 31 (dk_at dksX7_runOn_3 5 rfl rfl)
theorem dX7_runOn_139 : decode cX7_runOn 139 = .ok (.invokevirtual 25, 3) := dk_182 0 25 (dk_at dksX7_runOn_3 7 rfl rfl)
theorem dX7_runOn_142 : decode cX7_runOn 142 = .ok (.ifCond .eq 122, 3) := dk_153 0 122 (dk_at dksX7_runOn_3 10 rfl rfl)
theorem dX7_runOn_145 : decode cX7_runOn 145 = .ok (.iconst 2, 1) := dk_5 (dk_at dksX7_runOn_3 13 rfl rfl)
theorem dX7_runOn_146 : decode cX7_runOn 146 = .ok (.istore_n 3, 1) := dk_62 (dk_at dksX7_runOn_3 14 rfl rfl)
theorem dX7_runOn_147 : decode cX7_runOn 147 = .ok (.goto 117, 3) := dk_167 0 117 (dk_at dksX7_runOn_3 15 rfl rfl)
theorem dX7_runOn_150 : decode cX7_runOn 150 = .ok (.aload_n 2, 1) := dk_44 (dk_at dksX7_runOn_3 18 rfl rfl)
theorem dX7_runOn_151 : decode cX7_runOn 151 = .ok (.ldc 33, 2) := dk_18 33 (dk_at dksX7_runOn_3 19 rfl rfl)
theorem dX7_runOn_153 : decode cX7_runOn 153 = .ok (.invokevirtual 25, 3) := dk_182 0 25 (dk_at dksX7_runOn_3 21 rfl rfl)
theorem dX7_runOn_156 : decode cX7_runOn 156 = .ok (.ifCond .eq 108, 3) := dk_153 0 108 (dk_at dksX7_runOn_4 0 rfl rfl)
theorem dX7_runOn_159 : decode cX7_runOn 159 = .ok (.iconst 3, 1) := dk_6 (dk_at dksX7_runOn_4 3 rfl rfl)
theorem dX7_runOn_160 : decode cX7_runOn 160 = .ok (.istore_n 3, 1) := dk_62 (dk_at dksX7_runOn_4 4 rfl rfl)
theorem dX7_runOn_161 : decode cX7_runOn 161 = .ok (.goto 103, 3) := dk_167 0 103 (dk_at dksX7_runOn_4 5 rfl rfl)
theorem dX7_runOn_164 : decode cX7_runOn 164 = .ok (.aload_n 2, 1) := dk_44 (dk_at dksX7_runOn_4 8 rfl rfl)
theorem dX7_runOn_165 : decode cX7_runOn 165 = .ok (.ldc 35, 2) := dk_18 35 (dk_at dksX7_runOn_4 9 rfl rfl)
theorem dX7_runOn_167 : decode cX7_runOn 167 = .ok (.invokevirtual 25, 3) := dk_182 0 25 (dk_at dksX7_runOn_4 11 rfl rfl)
theorem dX7_runOn_170 : decode cX7_runOn 170 = .ok (.ifCond .eq 94, 3) := dk_153 0 94 (dk_at dksX7_runOn_4 14 rfl rfl)
theorem dX7_runOn_173 : decode cX7_runOn 173 = .ok (.iconst 4, 1) := dk_7 (dk_at dksX7_runOn_4 17 rfl rfl)
theorem dX7_runOn_174 : decode cX7_runOn 174 = .ok (.istore_n 3, 1) := dk_62 (dk_at dksX7_runOn_4 18 rfl rfl)
theorem dX7_runOn_175 : decode cX7_runOn 175 = .ok (.goto 89, 3) := dk_167 0 89 (dk_at dksX7_runOn_4 19 rfl rfl)
theorem dX7_runOn_178 : decode cX7_runOn 178 = .ok (.aload_n 2, 1) := dk_44 (dk_at dksX7_runOn_4 22 rfl rfl)
theorem dX7_runOn_179 : decode cX7_runOn 179 = .ok (.ldc 37, 2) := dk_18 37 (dk_at dksX7_runOn_5 0 rfl rfl)
theorem dX7_runOn_181 : decode cX7_runOn 181 = .ok (.invokevirtual 25, 3) := dk_182 0 25 (dk_at dksX7_runOn_5 2 rfl rfl)
theorem dX7_runOn_184 : decode cX7_runOn 184 = .ok (.ifCond .eq 80, 3) := dk_153 0 80 (dk_at dksX7_runOn_5 5 rfl rfl)
theorem dX7_runOn_187 : decode cX7_runOn 187 = .ok (.iconst 5, 1) := dk_8 (dk_at dksX7_runOn_5 8 rfl rfl)
theorem dX7_runOn_188 : decode cX7_runOn 188 = .ok (.istore_n 3, 1) := dk_62 (dk_at dksX7_runOn_5 9 rfl rfl)
theorem dX7_runOn_189 : decode cX7_runOn 189 = .ok (.goto 75, 3) := dk_167 0 75 (dk_at dksX7_runOn_5 10 rfl rfl)
theorem dX7_runOn_192 : decode cX7_runOn 192 = .ok (.aload_n 2, 1) := dk_44 (dk_at dksX7_runOn_5 13 rfl rfl)
theorem dX7_runOn_193 : decode cX7_runOn 193 = .ok (.ldc 39, 2) := dk_18 39 (dk_at dksX7_runOn_5 14 rfl rfl)
theorem dX7_runOn_195 : decode cX7_runOn 195 = .ok (.invokevirtual 25, 3) := dk_182 0 25 (dk_at dksX7_runOn_5 16 rfl rfl)
theorem dX7_runOn_198 : decode cX7_runOn 198 = .ok (.ifCond .eq 66, 3) := dk_153 0 66 (dk_at dksX7_runOn_5 19 rfl rfl)
theorem dX7_runOn_201 : decode cX7_runOn 201 = .ok (.bipush 6, 2) := dk_16 6 (dk_at dksX7_runOn_5 22 rfl rfl)
theorem dX7_runOn_203 : decode cX7_runOn 203 = .ok (.istore_n 3, 1) := dk_62 (dk_at dksX7_runOn_6 0 rfl rfl)
theorem dX7_runOn_204 : decode cX7_runOn 204 = .ok (.goto 60, 3) := dk_167 0 60 (dk_at dksX7_runOn_6 1 rfl rfl)
theorem dX7_runOn_207 : decode cX7_runOn 207 = .ok (.aload_n 2, 1) := dk_44 (dk_at dksX7_runOn_6 4 rfl rfl)
theorem dX7_runOn_208 : decode cX7_runOn 208 = .ok (.ldc 41, 2) := dk_18 41 (dk_at dksX7_runOn_6 5 rfl rfl)
theorem dX7_runOn_210 : decode cX7_runOn 210 = .ok (.invokevirtual 25, 3) := dk_182 0 25 (dk_at dksX7_runOn_6 7 rfl rfl)
theorem dX7_runOn_213 : decode cX7_runOn 213 = .ok (.ifCond .eq 51, 3) := dk_153 0 51 (dk_at dksX7_runOn_6 10 rfl rfl)
theorem dX7_runOn_216 : decode cX7_runOn 216 = .ok (.bipush 7, 2) := dk_16 7 (dk_at dksX7_runOn_6 13 rfl rfl)
theorem dX7_runOn_218 : decode cX7_runOn 218 = .ok (.istore_n 3, 1) := dk_62 (dk_at dksX7_runOn_6 15 rfl rfl)
theorem dX7_runOn_219 : decode cX7_runOn 219 = .ok (.goto 45, 3) := dk_167 0 45 (dk_at dksX7_runOn_6 16 rfl rfl)
theorem dX7_runOn_222 : decode cX7_runOn 222 = .ok (.aload_n 2, 1) := dk_44 (dk_at dksX7_runOn_6 19 rfl rfl)
theorem dX7_runOn_223 : decode cX7_runOn 223 = .ok (.ldc 43, 2) := dk_18 43 (dk_at dksX7_runOn_6 20 rfl rfl)
theorem dX7_runOn_225 : decode cX7_runOn 225 = .ok (.invokevirtual 25, 3) := dk_182 0 25 (dk_at dksX7_runOn_7 0 rfl rfl)
theorem dX7_runOn_228 : decode cX7_runOn 228 = .ok (.ifCond .eq 36, 3) := dk_153 0 36 (dk_at dksX7_runOn_7 3 rfl rfl)
theorem dX7_runOn_231 : decode cX7_runOn 231 = .ok (.bipush 8, 2) := dk_16 8 (dk_at dksX7_runOn_7 6 rfl rfl)
theorem dX7_runOn_233 : decode cX7_runOn 233 = .ok (.istore_n 3, 1) := dk_62 (dk_at dksX7_runOn_7 8 rfl rfl)
theorem dX7_runOn_234 : decode cX7_runOn 234 = .ok (.goto 30, 3) := dk_167 0 30 (dk_at dksX7_runOn_7 9 rfl rfl)
theorem dX7_runOn_237 : decode cX7_runOn 237 = .ok (.aload_n 2, 1) := dk_44 (dk_at dksX7_runOn_7 12 rfl rfl)
theorem dX7_runOn_238 : decode cX7_runOn 238 = .ok (.ldc 45, 2) := dk_18 45 (dk_at dksX7_runOn_7 13 rfl rfl)
theorem dX7_runOn_240 : decode cX7_runOn 240 = .ok (.invokevirtual 25, 3) := dk_182 0 25 (dk_at dksX7_runOn_7 15 rfl rfl)
theorem dX7_runOn_243 : decode cX7_runOn 243 = .ok (.ifCond .eq 21, 3) := dk_153 0 21 (dk_at dksX7_runOn_7 18 rfl rfl)
theorem dX7_runOn_246 : decode cX7_runOn 246 = .ok (.bipush 9, 2) := dk_16 9 (dk_at dksX7_runOn_7 21 rfl rfl)
theorem dX7_runOn_248 : decode cX7_runOn 248 = .ok (.istore_n 3, 1) := dk_62 (dk_at dksX7_runOn_7 23 rfl rfl)
theorem dX7_runOn_249 : decode cX7_runOn 249 = .ok (.goto 15, 3) := dk_167 0 15 (dk_at dksX7_runOn_8 0 rfl rfl)
theorem dX7_runOn_252 : decode cX7_runOn 252 = .ok (.aload_n 2, 1) := dk_44 (dk_at dksX7_runOn_8 3 rfl rfl)
theorem dX7_runOn_253 : decode cX7_runOn 253 = .ok (.ldc 47, 2) := dk_18 47 (dk_at dksX7_runOn_8 4 rfl rfl)
theorem dX7_runOn_255 : decode cX7_runOn 255 = .ok (.invokevirtual 25, 3) := dk_182 0 25 (dk_at dksX7_runOn_8 6 rfl rfl)
theorem dX7_runOn_258 : decode cX7_runOn 258 = .ok (.ifCond .eq 6, 3) := dk_153 0 6 (dk_at dksX7_runOn_8 9 rfl rfl)
theorem dX7_runOn_261 : decode cX7_runOn 261 = .ok (.bipush 10, 2) := dk_16 10 (dk_at dksX7_runOn_8 12 rfl rfl)
theorem dX7_runOn_263 : decode cX7_runOn 263 = .ok (.istore_n 3, 1) := dk_62 (dk_at dksX7_runOn_8 14 rfl rfl)
theorem dX7_runOn_264 : decode cX7_runOn 264 = .ok (.iload_n 3, 1) := dk_29 (dk_at dksX7_runOn_8 15 rfl rfl)
theorem dX7_runOn_265 : decode cX7_runOn 265 = .ok (.tableswitch 224 0 10 #[59, 83, 94, 124, 135, 152, 163, 180, 185, 196, 207], 59) := by decide +kernel
theorem dX7_runOn_324 : decode cX7_runOn 324 = .ok (.aload_n 1, 1) := dk_43 (dk_at dksX7_runOn_10 0 rfl rfl)
theorem dX7_runOn_325 : decode cX7_runOn 325 = .ok (.aload_n 0, 1) := dk_42 (dk_at dksX7_runOn_10 1 rfl rfl)
theorem dX7_runOn_326 : decode cX7_runOn 326 = .ok (.getfield 13, 3) := dk_180 0 13 (dk_at dksX7_runOn_10 2 rfl rfl)
theorem dX7_runOn_329 : decode cX7_runOn 329 = .ok (.iconst 0, 1) := dk_3 (dk_at dksX7_runOn_10 5 rfl rfl)
theorem dX7_runOn_330 : decode cX7_runOn 330 = .ok (.iaload, 1) := dk_46 (dk_at dksX7_runOn_10 6 rfl rfl)
theorem dX7_runOn_331 : decode cX7_runOn 331 = .ok (.i2c, 1) := dk_146 (dk_at dksX7_runOn_10 7 rfl rfl)
theorem dX7_runOn_332 : decode cX7_runOn 332 = .ok (.aload_n 0, 1) := dk_42 (dk_at dksX7_runOn_10 8 rfl rfl)
theorem dX7_runOn_333 : decode cX7_runOn 333 = .ok (.getfield 13, 3) := dk_180 0 13 (dk_at dksX7_runOn_10 9 rfl rfl)
theorem dX7_runOn_336 : decode cX7_runOn 336 = .ok (.iconst 1, 1) := dk_4 (dk_at dksX7_runOn_10 12 rfl rfl)
theorem dX7_runOn_337 : decode cX7_runOn 337 = .ok (.iaload, 1) := dk_46 (dk_at dksX7_runOn_10 13 rfl rfl)
theorem dX7_runOn_338 : decode cX7_runOn 338 = .ok (.aload_n 0, 1) := dk_42 (dk_at dksX7_runOn_10 14 rfl rfl)
theorem dX7_runOn_339 : decode cX7_runOn 339 = .ok (.getfield 13, 3) := dk_180 0 13 (dk_at dksX7_runOn_10 15 rfl rfl)
theorem dX7_runOn_342 : decode cX7_runOn 342 = .ok (.iconst 2, 1) := dk_5 (dk_at dksX7_runOn_10 18 rfl rfl)
theorem dX7_runOn_343 : decode cX7_runOn 343 = .ok (.iaload, 1) := dk_46 (dk_at dksX7_runOn_10 19 rfl rfl)
theorem dX7_runOn_344 : decode cX7_runOn 344 = .ok (.invokevirtual 49, 3) := dk_182 0 49 (dk_at dksX7_runOn_10 20 rfl rfl)
theorem dX7_runOn_347 : decode cX7_runOn 347 = .ok (.ireturn, 1) := dk_172 (dk_at dksX7_runOn_10 23 rfl rfl)
theorem dX7_runOn_348 : decode cX7_runOn 348 = .ok (.aload_n 1, 1) := dk_43 (dk_at dksX7_runOn_11 0 rfl rfl)
theorem dX7_runOn_349 : decode cX7_runOn 349 = .ok (.aload_n 0, 1) := dk_42 (dk_at dksX7_runOn_11 1 rfl rfl)
theorem dX7_runOn_350 : decode cX7_runOn 350 = .ok (.getfield 13, 3) := dk_180 0 13 (dk_at dksX7_runOn_11 2 rfl rfl)
theorem dX7_runOn_353 : decode cX7_runOn 353 = .ok (.iconst 0, 1) := dk_3 (dk_at dksX7_runOn_11 5 rfl rfl)
theorem dX7_runOn_354 : decode cX7_runOn 354 = .ok (.iaload, 1) := dk_46 (dk_at dksX7_runOn_11 6 rfl rfl)
theorem dX7_runOn_355 : decode cX7_runOn 355 = .ok (.invokevirtual 55, 3) := dk_182 0 55 (dk_at dksX7_runOn_11 7 rfl rfl)
theorem dX7_runOn_358 : decode cX7_runOn 358 = .ok (.ireturn, 1) := dk_172 (dk_at dksX7_runOn_11 10 rfl rfl)
theorem dX7_runOn_359 : decode cX7_runOn 359 = .ok (.aload_n 1, 1) := dk_43 (dk_at dksX7_runOn_11 11 rfl rfl)
theorem dX7_runOn_360 : decode cX7_runOn 360 = .ok (.aload_n 0, 1) := dk_42 (dk_at dksX7_runOn_11 12 rfl rfl)
theorem dX7_runOn_361 : decode cX7_runOn 361 = .ok (.getfield 13, 3) := dk_180 0 13 (dk_at dksX7_runOn_11 13 rfl rfl)
theorem dX7_runOn_364 : decode cX7_runOn 364 = .ok (.iconst 0, 1) := dk_3 (dk_at dksX7_runOn_11 16 rfl rfl)
theorem dX7_runOn_365 : decode cX7_runOn 365 = .ok (.iaload, 1) := dk_46 (dk_at dksX7_runOn_11 17 rfl rfl)
theorem dX7_runOn_366 : decode cX7_runOn 366 = .ok (.i2c, 1) := dk_146 (dk_at dksX7_runOn_11 18 rfl rfl)
theorem dX7_runOn_367 : decode cX7_runOn 367 = .ok (.aload_n 0, 1) := dk_42 (dk_at dksX7_runOn_11 19 rfl rfl)
theorem dX7_runOn_368 : decode cX7_runOn 368 = .ok (.getfield 13, 3) := dk_180 0 13 (dk_at dksX7_runOn_11 20 rfl rfl)
theorem dX7_runOn_371 : decode cX7_runOn 371 = .ok (.iconst 1, 1) := dk_4 (dk_at dksX7_runOn_11 23 rfl rfl)
theorem dX7_runOn_372 : decode cX7_runOn 372 = .ok (.iaload, 1) := dk_46 (dk_at dksX7_runOn_12 0 rfl rfl)
theorem dX7_runOn_373 : decode cX7_runOn 373 = .ok (.aload_n 0, 1) := dk_42 (dk_at dksX7_runOn_12 1 rfl rfl)
theorem dX7_runOn_374 : decode cX7_runOn 374 = .ok (.getfield 13, 3) := dk_180 0 13 (dk_at dksX7_runOn_12 2 rfl rfl)
theorem dX7_runOn_377 : decode cX7_runOn 377 = .ok (.iconst 2, 1) := dk_5 (dk_at dksX7_runOn_12 5 rfl rfl)
theorem dX7_runOn_378 : decode cX7_runOn 378 = .ok (.iaload, 1) := dk_46 (dk_at dksX7_runOn_12 6 rfl rfl)
theorem dX7_runOn_379 : decode cX7_runOn 379 = .ok (.aload_n 0, 1) := dk_42 (dk_at dksX7_runOn_12 7 rfl rfl)
theorem dX7_runOn_380 : decode cX7_runOn 380 = .ok (.getfield 13, 3) := dk_180 0 13 (dk_at dksX7_runOn_12 8 rfl rfl)
theorem dX7_runOn_383 : decode cX7_runOn 383 = .ok (.iconst 3, 1) := dk_6 (dk_at dksX7_runOn_12 11 rfl rfl)
theorem dX7_runOn_384 : decode cX7_runOn 384 = .ok (.iaload, 1) := dk_46 (dk_at dksX7_runOn_12 12 rfl rfl)
theorem dX7_runOn_385 : decode cX7_runOn 385 = .ok (.invokevirtual 59, 3) := dk_182 0 59 (dk_at dksX7_runOn_12 13 rfl rfl)
theorem dX7_runOn_388 : decode cX7_runOn 388 = .ok (.ireturn, 1) := dk_172 (dk_at dksX7_runOn_12 16 rfl rfl)
theorem dX7_runOn_389 : decode cX7_runOn 389 = .ok (.aload_n 1, 1) := dk_43 (dk_at dksX7_runOn_12 17 rfl rfl)
theorem dX7_runOn_390 : decode cX7_runOn 390 = .ok (.aload_n 0, 1) := dk_42 (dk_at dksX7_runOn_12 18 rfl rfl)
theorem dX7_runOn_391 : decode cX7_runOn 391 = .ok (.getfield 13, 3) := dk_180 0 13 (dk_at dksX7_runOn_12 19 rfl rfl)
theorem dX7_runOn_394 : decode cX7_runOn 394 = .ok (.iconst 0, 1) := dk_3 (dk_at dksX7_runOn_12 22 rfl rfl)
theorem dX7_runOn_395 : decode cX7_runOn 395 = .ok (.iaload, 1) := dk_46 (dk_at dksX7_runOn_12 23 rfl rfl)
theorem dX7_runOn_396 : decode cX7_runOn 396 = .ok (.invokevirtual 63, 3) := dk_182 0 63 (dk_at dksX7_runOn_13 0 rfl rfl)
theorem dX7_runOn_399 : decode cX7_runOn 399 = .ok (.ireturn, 1) := dk_172 (dk_at dksX7_runOn_13 3 rfl rfl)
theorem dX7_runOn_400 : decode cX7_runOn 400 = .ok (.aload_n 1, 1) := dk_43 (dk_at dksX7_runOn_13 4 rfl rfl)
theorem dX7_runOn_401 : decode cX7_runOn 401 = .ok (.aload_n 0, 1) := dk_42 (dk_at dksX7_runOn_13 5 rfl rfl)
theorem dX7_runOn_402 : decode cX7_runOn 402 = .ok (.getfield 13, 3) := dk_180 0 13 (dk_at dksX7_runOn_13 6 rfl rfl)
theorem dX7_runOn_405 : decode cX7_runOn 405 = .ok (.iconst 0, 1) := dk_3 (dk_at dksX7_runOn_13 9 rfl rfl)
theorem dX7_runOn_406 : decode cX7_runOn 406 = .ok (.iaload, 1) := dk_46 (dk_at dksX7_runOn_13 10 rfl rfl)
theorem dX7_runOn_407 : decode cX7_runOn 407 = .ok (.aload_n 0, 1) := dk_42 (dk_at dksX7_runOn_13 11 rfl rfl)
theorem dX7_runOn_408 : decode cX7_runOn 408 = .ok (.getfield 13, 3) := dk_180 0 13 (dk_at dksX7_runOn_13 12 rfl rfl)
theorem dX7_runOn_411 : decode cX7_runOn 411 = .ok (.iconst 1, 1) := dk_4 (dk_at dksX7_runOn_13 15 rfl rfl)
theorem dX7_runOn_412 : decode cX7_runOn 412 = .ok (.iaload, 1) := dk_46 (dk_at dksX7_runOn_13 16 rfl rfl)
theorem dX7_runOn_413 : decode cX7_runOn 413 = .ok (.invokevirtual 66, 3) := dk_182 0 66 (dk_at dksX7_runOn_13 17 rfl rfl)
theorem dX7_runOn_416 : decode cX7_runOn 416 = .ok (.ireturn, 1) := dk_172 (dk_at dksX7_runOn_13 20 rfl rfl)
theorem dX7_runOn_417 : decode cX7_runOn 417 = .ok (.aload_n 1, 1) := dk_43 (dk_at dksX7_runOn_13 21 rfl rfl)
theorem dX7_runOn_418 : decode cX7_runOn 418 = .ok (.aload_n 0, 1) := dk_42 (dk_at dksX7_runOn_13 22 rfl rfl)
theorem dX7_runOn_419 : decode cX7_runOn 419 = .ok (.getfield 13, 3) := dk_180 0 13 (dk_at dksX7_runOn_14 0 rfl rfl)
theorem dX7_runOn_422 : decode cX7_runOn 422 = .ok (.iconst 0, 1) := dk_3 (dk_at dksX7_runOn_14 3 rfl rfl)
theorem dX7_runOn_423 : decode cX7_runOn 423 = .ok (.iaload, 1) := dk_46 (dk_at dksX7_runOn_14 4 rfl rfl)
theorem dX7_runOn_424 : decode cX7_runOn 424 = .ok (.invokevirtual 70, 3) := dk_182 0 70 (dk_at dksX7_runOn_14 5 rfl rfl)
theorem dX7_runOn_427 : decode cX7_runOn 427 = .ok (.ireturn, 1) := dk_172 (dk_at dksX7_runOn_14 8 rfl rfl)
theorem dX7_runOn_428 : decode cX7_runOn 428 = .ok (.aload_n 1, 1) := dk_43 (dk_at dksX7_runOn_14 9 rfl rfl)
theorem dX7_runOn_429 : decode cX7_runOn 429 = .ok (.aload_n 0, 1) := dk_42 (dk_at dksX7_runOn_14 10 rfl rfl)
theorem dX7_runOn_430 : decode cX7_runOn 430 = .ok (.getfield 13, 3) := dk_180 0 13 (dk_at dksX7_runOn_14 11 rfl rfl)
theorem dX7_runOn_433 : decode cX7_runOn 433 = .ok (.iconst 0, 1) := dk_3 (dk_at dksX7_runOn_14 14 rfl rfl)
theorem dX7_runOn_434 : decode cX7_runOn 434 = .ok (.iaload, 1) := dk_46 (dk_at dksX7_runOn_14 15 rfl rfl)
theorem dX7_runOn_435 : decode cX7_runOn 435 = .ok (.aload_n 0, 1) := dk_42 (dk_at dksX7_runOn_14 16 rfl rfl)
theorem dX7_runOn_436 : decode cX7_runOn 436 = .ok (.getfield 13, 3) := dk_180 0 13 (dk_at dksX7_runOn_14 17 rfl rfl)
theorem dX7_runOn_439 : decode cX7_runOn 439 = .ok (.iconst 1, 1) := dk_4 (dk_at dksX7_runOn_14 20 rfl rfl)
theorem dX7_runOn_440 : decode cX7_runOn 440 = .ok (.iaload, 1) := dk_46 (dk_at dksX7_runOn_14 21 rfl rfl)
theorem dX7_runOn_441 : decode cX7_runOn 441 = .ok (.invokevirtual 73, 3) := dk_182 0 73 (dk_at dksX7_runOn_15 0 rfl rfl)
theorem dX7_runOn_444 : decode cX7_runOn 444 = .ok (.ireturn, 1) := dk_172 (dk_at dksX7_runOn_15 3 rfl rfl)
theorem dX7_runOn_445 : decode cX7_runOn 445 = .ok (.aload_n 1, 1) := dk_43 (dk_at dksX7_runOn_15 4 rfl rfl)
theorem dX7_runOn_446 : decode cX7_runOn 446 = .ok (.invokevirtual 76, 3) := dk_182 0 76 (dk_at dksX7_runOn_15 5 rfl rfl)
theorem dX7_runOn_449 : decode cX7_runOn 449 = .ok (.ireturn, 1) := dk_172 (dk_at dksX7_runOn_15 8 rfl rfl)
theorem dX7_runOn_450 : decode cX7_runOn 450 = .ok (.aload_n 1, 1) := dk_43 (dk_at dksX7_runOn_15 9 rfl rfl)
theorem dX7_runOn_451 : decode cX7_runOn 451 = .ok (.aload_n 0, 1) := dk_42 (dk_at dksX7_runOn_15 10 rfl rfl)
theorem dX7_runOn_452 : decode cX7_runOn 452 = .ok (.getfield 13, 3) := dk_180 0 13 (dk_at dksX7_runOn_15 11 rfl rfl)
theorem dX7_runOn_455 : decode cX7_runOn 455 = .ok (.iconst 0, 1) := dk_3 (dk_at dksX7_runOn_15 14 rfl rfl)
theorem dX7_runOn_456 : decode cX7_runOn 456 = .ok (.iaload, 1) := dk_46 (dk_at dksX7_runOn_15 15 rfl rfl)
theorem dX7_runOn_457 : decode cX7_runOn 457 = .ok (.invokevirtual 78, 3) := dk_182 0 78 (dk_at dksX7_runOn_15 16 rfl rfl)
theorem dX7_runOn_460 : decode cX7_runOn 460 = .ok (.ireturn, 1) := dk_172 (dk_at dksX7_runOn_15 19 rfl rfl)
theorem dX7_runOn_461 : decode cX7_runOn 461 = .ok (.aload_n 1, 1) := dk_43 (dk_at dksX7_runOn_15 20 rfl rfl)
theorem dX7_runOn_462 : decode cX7_runOn 462 = .ok (.aload_n 0, 1) := dk_42 (dk_at dksX7_runOn_15 21 rfl rfl)
theorem dX7_runOn_463 : decode cX7_runOn 463 = .ok (.getfield 13, 3) := dk_180 0 13 (dk_at dksX7_runOn_16 0 rfl rfl)
theorem dX7_runOn_466 : decode cX7_runOn 466 = .ok (.iconst 0, 1) := dk_3 (dk_at dksX7_runOn_16 3 rfl rfl)
theorem dX7_runOn_467 : decode cX7_runOn 467 = .ok (.iaload, 1) := dk_46 (dk_at dksX7_runOn_16 4 rfl rfl)
theorem dX7_runOn_468 : decode cX7_runOn 468 = .ok (.invokevirtual 81, 3) := dk_182 0 81 (dk_at dksX7_runOn_16 5 rfl rfl)
theorem dX7_runOn_471 : decode cX7_runOn 471 = .ok (.ireturn, 1) := dk_172 (dk_at dksX7_runOn_16 8 rfl rfl)
theorem dX7_runOn_472 : decode cX7_runOn 472 = .ok (.aload_n 1, 1) := dk_43 (dk_at dksX7_runOn_16 9 rfl rfl)
theorem dX7_runOn_473 : decode cX7_runOn 473 = .ok (.aload_n 0, 1) := dk_42 (dk_at dksX7_runOn_16 10 rfl rfl)
theorem dX7_runOn_474 : decode cX7_runOn 474 = .ok (.getfield 13, 3) := dk_180 0 13 (dk_at dksX7_runOn_16 11 rfl rfl)
theorem dX7_runOn_477 : decode cX7_runOn 477 = .ok (.iconst 0, 1) := dk_3 (dk_at dksX7_runOn_16 14 rfl rfl)
theorem dX7_runOn_478 : decode cX7_runOn 478 = .ok (.iaload, 1) := dk_46 (dk_at dksX7_runOn_16 15 rfl rfl)
theorem dX7_runOn_479 : decode cX7_runOn 479 = .ok (.aload_n 0, 1) := dk_42 (dk_at dksX7_runOn_16 16 rfl rfl)
theorem dX7_runOn_480 : decode cX7_runOn 480 = .ok (.getfield 13, 3) := dk_180 0 13 (dk_at dksX7_runOn_16 17 rfl rfl)
theorem dX7_runOn_483 : decode cX7_runOn 483 = .ok (.iconst 1, 1) := dk_4 (dk_at dksX7_runOn_16 20 rfl rfl)
theorem dX7_runOn_484 : decode cX7_runOn 484 = .ok (.iaload, 1) := dk_46 (dk_at dksX7_runOn_16 21 rfl rfl)
theorem dX7_runOn_485 : decode cX7_runOn 485 = .ok (.invokevirtual 84, 3) := dk_182 0 84 (dk_at dksX7_runOn_17 0 rfl rfl)
theorem dX7_runOn_488 : decode cX7_runOn 488 = .ok (.ireturn, 1) := dk_172 (dk_at dksX7_runOn_17 3 rfl rfl)
theorem dX7_runOn_489 : decode cX7_runOn 489 = .ok (.aload_n 1, 1) := dk_43 (dk_at dksX7_runOn_17 4 rfl rfl)
theorem dX7_runOn_490 : decode cX7_runOn 490 = .ok (.aload_n 0, 1) := dk_42 (dk_at dksX7_runOn_17 5 rfl rfl)
theorem dX7_runOn_491 : decode cX7_runOn 491 = .ok (.getfield 13, 3) := dk_180 0 13 (dk_at dksX7_runOn_17 6 rfl rfl)
theorem dX7_runOn_494 : decode cX7_runOn 494 = .ok (.iconst 0, 1) := dk_3 (dk_at dksX7_runOn_17 9 rfl rfl)
theorem dX7_runOn_495 : decode cX7_runOn 495 = .ok (.iaload, 1) := dk_46 (dk_at dksX7_runOn_17 10 rfl rfl)
theorem dX7_runOn_496 : decode cX7_runOn 496 = .ok (.invokevirtual 87, 3) := dk_182 0 87 (dk_at dksX7_runOn_17 11 rfl rfl)
theorem dX7_runOn_499 : decode cX7_runOn 499 = .ok (.ireturn, 1) := dk_172 (dk_at dksX7_runOn_17 14 rfl rfl)
theorem q120 : (Jvm.Cond.initialized "CloudInterviews$Command") ∈ lw_all := lw_g (lw_at lw_m1 40 rfl) rfl
theorem q536 : (Jvm.Cond.selects "CloudInterviews$Command" ({ cls := "java/lang/Object", name := "getClass", desc := "()Ljava/lang/Class;" } : Jvm.MethodName) ({ cls := "java/lang/Object", name := "getClass", desc := "()Ljava/lang/Class;" } : Jvm.MethodName)) ∈ lw_all := lw_g (lw_at lw_m2 216 rfl) rfl
theorem q658 : (Jvm.Cond.selects "CloudInterviews$Command" ({ cls := "java/lang/Object", name := "hashCode", desc := "()I" } : Jvm.MethodName) ({ cls := "java/lang/Object", name := "hashCode", desc := "()I" } : Jvm.MethodName)) ∈ lw_all := lw_g (lw_at lw_m3 98 rfl) rfl
theorem q1271 : (Jvm.Cond.selects "CloudInterviews$Command" ({ cls := "java/lang/Object", name := "equals", desc := "(Ljava/lang/Object;)Z" } : Jvm.MethodName) ({ cls := "java/lang/Object", name := "equals", desc := "(Ljava/lang/Object;)Z" } : Jvm.MethodName)) ∈ lw_all := lw_g (lw_at lw_m5 231 rfl) rfl
theorem q1460 : (Jvm.Cond.instantiable "CloudInterviews$Command" (2 : Nat)) ∈ lw_all := lw_g (lw_at lw_m6 180 rfl) rfl
theorem q1462 : (Jvm.Cond.instanceMethod ({ cls := "CloudInterviews$Command", name := "<init>", desc := "(Ljava/lang/String;[I)V" } : Jvm.MethodName)) ∈ lw_all := lw_g (lw_at lw_m6 182 rfl) rfl
theorem q1463 : (Jvm.Cond.code ({ cls := "CloudInterviews$Command", name := "<init>", desc := "(Ljava/lang/String;[I)V" } : Jvm.MethodName) prog_4_method_1_code (3 : Nat) (Option.none : Option Jvm.ClassFile.FieldType)) ∈ lw_all := lw_g (lw_at lw_m6 183 rfl) rfl
theorem q1464 : (Jvm.Cond.methodLink "CloudInterviews$Command" (1 : Nat) ({ cls := "java/lang/Object", name := "<init>", desc := "()V" } : Jvm.MethodName)) ∈ lw_all := lw_g (lw_at lw_m6 184 rfl) rfl
theorem q1465 : (Jvm.Cond.fieldLink "CloudInterviews$Command" (7 : Nat) "CloudInterviews$Command" "keyword" "Ljava/lang/String;") ∈ lw_all := lw_g (lw_at lw_m6 185 rfl) rfl
theorem q1466 : (Jvm.Cond.fieldLink "CloudInterviews$Command" (13 : Nat) "CloudInterviews$Command" "numbers" "[I") ∈ lw_all := lw_g (lw_at lw_m6 186 rfl) rfl
theorem q1467 : (Jvm.Cond.laysFinal "CloudInterviews$Command" "CloudInterviews$Command" "keyword" "Ljava/lang/String;") ∈ lw_all := lw_g (lw_at lw_m6 187 rfl) rfl
theorem q1468 : (Jvm.Cond.soleField "CloudInterviews$Command" "keyword") ∈ lw_all := lw_g (lw_at lw_m6 188 rfl) rfl
theorem q1469 : (Jvm.Cond.laysFinal "CloudInterviews$Command" "CloudInterviews$Command" "numbers" "[I") ∈ lw_all := lw_g (lw_at lw_m6 189 rfl) rfl
theorem q1470 : (Jvm.Cond.soleField "CloudInterviews$Command" "numbers") ∈ lw_all := lw_g (lw_at lw_m6 190 rfl) rfl
theorem q1471 : (Jvm.Cond.superclass "CloudInterviews$Command" "java/lang/Object") ∈ lw_all := lw_g (lw_at lw_m6 191 rfl) rfl
theorem q1473 : (Jvm.Cond.instanceMethod ({ cls := "CloudInterviews$Command", name := "runOn", desc := "(LCloudInterviews$Board;)I" } : Jvm.MethodName)) ∈ lw_all := lw_g (lw_at lw_m6 193 rfl) rfl
theorem q1474 : (Jvm.Cond.selects "CloudInterviews$Command" ({ cls := "CloudInterviews$Command", name := "runOn", desc := "(LCloudInterviews$Board;)I" } : Jvm.MethodName) ({ cls := "CloudInterviews$Command", name := "runOn", desc := "(LCloudInterviews$Board;)I" } : Jvm.MethodName)) ∈ lw_all := lw_g (lw_at lw_m6 194 rfl) rfl
theorem q1475 : (Jvm.Cond.code ({ cls := "CloudInterviews$Command", name := "runOn", desc := "(LCloudInterviews$Board;)I" } : Jvm.MethodName) prog_4_method_2_code (4 : Nat) (Option.some Jvm.ClassFile.FieldType.int)) ∈ lw_all := lw_g (lw_at lw_m6 195 rfl) rfl
theorem q1476 : (Jvm.Cond.methodLink "CloudInterviews$Command" (17 : Nat) ({ cls := "java/lang/String", name := "hashCode", desc := "()I" } : Jvm.MethodName)) ∈ lw_all := lw_g (lw_at lw_m6 196 rfl) rfl
theorem q1477 : (Jvm.Cond.stringRef "CloudInterviews$Command" (23 : Nat) "apply ") ∈ lw_tbl := lw_at lw_m6 197 rfl
theorem q1478 : (Jvm.Cond.methodLink "CloudInterviews$Command" (25 : Nat) ({ cls := "java/lang/String", name := "equals", desc := "(Ljava/lang/Object;)Z" } : Jvm.MethodName)) ∈ lw_all := lw_g (lw_at lw_m6 198 rfl) rfl
theorem q1479 : (Jvm.Cond.stringRef "CloudInterviews$Command" (29 : Nat) "leave ") ∈ lw_tbl := lw_at lw_m6 199 rfl
theorem q1480 : (Jvm.Cond.stringRef "CloudInterviews$Command" (31 : Nat) "post ") ∈ lw_tbl := lw_at lw_m6 200 rfl
theorem q1481 : (Jvm.Cond.stringRef "CloudInterviews$Command" (33 : Nat) "close ") ∈ lw_tbl := lw_at lw_m6 201 rfl
theorem q1482 : (Jvm.Cond.stringRef "CloudInterviews$Command" (35 : Nat) "hire ") ∈ lw_tbl := lw_at lw_m6 202 rfl
theorem q1483 : (Jvm.Cond.stringRef "CloudInterviews$Command" (37 : Nat) "dismiss ") ∈ lw_tbl := lw_at lw_m6 203 rfl
theorem q1484 : (Jvm.Cond.stringRef "CloudInterviews$Command" (39 : Nat) "refer ") ∈ lw_tbl := lw_at lw_m6 204 rfl
theorem q1485 : (Jvm.Cond.stringRef "CloudInterviews$Command" (41 : Nat) "match") ∈ lw_tbl := lw_at lw_m6 205 rfl
theorem q1486 : (Jvm.Cond.stringRef "CloudInterviews$Command" (43 : Nat) "day") ∈ lw_tbl := lw_at lw_m6 206 rfl
theorem q1487 : (Jvm.Cond.stringRef "CloudInterviews$Command" (45 : Nat) "hire best") ∈ lw_tbl := lw_at lw_m6 207 rfl
theorem q1488 : (Jvm.Cond.stringRef "CloudInterviews$Command" (47 : Nat) "unrefer") ∈ lw_tbl := lw_at lw_m6 208 rfl
theorem q1489 : (Jvm.Cond.methodLink "CloudInterviews$Command" (49 : Nat) ({ cls := "CloudInterviews$Board", name := "addApplicant", desc := "(CII)I" } : Jvm.MethodName)) ∈ lw_all := lw_g (lw_at lw_m6 209 rfl) rfl
theorem q1529 : (Jvm.Cond.methodLink "CloudInterviews$Command" (55 : Nat) ({ cls := "CloudInterviews$Board", name := "remove", desc := "(I)I" } : Jvm.MethodName)) ∈ lw_all := lw_g (lw_at lw_m7 9 rfl) rfl
theorem q1560 : (Jvm.Cond.methodLink "CloudInterviews$Command" (59 : Nat) ({ cls := "CloudInterviews$Board", name := "open", desc := "(CIII)I" } : Jvm.MethodName)) ∈ lw_all := lw_g (lw_at lw_m7 40 rfl) rfl
theorem q1566 : (Jvm.Cond.methodLink "CloudInterviews$Command" (63 : Nat) ({ cls := "CloudInterviews$Board", name := "close", desc := "(I)I" } : Jvm.MethodName)) ∈ lw_all := lw_g (lw_at lw_m7 46 rfl) rfl
theorem q1597 : (Jvm.Cond.methodLink "CloudInterviews$Command" (66 : Nat) ({ cls := "CloudInterviews$Board", name := "hire", desc := "(II)I" } : Jvm.MethodName)) ∈ lw_all := lw_g (lw_at lw_m7 77 rfl) rfl
theorem q1624 : (Jvm.Cond.methodLink "CloudInterviews$Command" (70 : Nat) ({ cls := "CloudInterviews$Board", name := "dismiss", desc := "(I)I" } : Jvm.MethodName)) ∈ lw_all := lw_g (lw_at lw_m7 104 rfl) rfl
theorem q1628 : (Jvm.Cond.methodLink "CloudInterviews$Command" (73 : Nat) ({ cls := "CloudInterviews$Board", name := "addReference", desc := "(II)I" } : Jvm.MethodName)) ∈ lw_all := lw_g (lw_at lw_m7 108 rfl) rfl
theorem q1636 : (Jvm.Cond.methodLink "CloudInterviews$Command" (76 : Nat) ({ cls := "CloudInterviews$Board", name := "match", desc := "()I" } : Jvm.MethodName)) ∈ lw_all := lw_g (lw_at lw_m7 116 rfl) rfl
theorem q1685 : (Jvm.Cond.methodLink "CloudInterviews$Command" (78 : Nat) ({ cls := "CloudInterviews$Board", name := "passDays", desc := "(I)I" } : Jvm.MethodName)) ∈ lw_all := lw_g (lw_at lw_m7 165 rfl) rfl
theorem q1695 : (Jvm.Cond.methodLink "CloudInterviews$Command" (81 : Nat) ({ cls := "CloudInterviews$Board", name := "hireBest", desc := "(I)I" } : Jvm.MethodName)) ∈ lw_all := lw_g (lw_at lw_m7 175 rfl) rfl
theorem q1703 : (Jvm.Cond.methodLink "CloudInterviews$Command" (84 : Nat) ({ cls := "CloudInterviews$Board", name := "removeReference", desc := "(II)I" } : Jvm.MethodName)) ∈ lw_all := lw_g (lw_at lw_m7 183 rfl) rfl
theorem q1707 : (Jvm.Cond.methodLink "CloudInterviews$Command" (87 : Nat) ({ cls := "CloudInterviews$Board", name := "rejectRainy", desc := "(I)I" } : Jvm.MethodName)) ∈ lw_all := lw_g (lw_at lw_m7 187 rfl) rfl
theorem q3017 : (Jvm.Cond.castable "CloudInterviews$Command" "java/lang/Object") ∈ lw_tbl := lw_at lw_m13 57 rfl
theorem in_X7 : ∀ w ∈ wsX70, w ∈ lw_all := lw_in wsX70 [1467, 1469] (by decide +kernel) (by decide +kernel)

/-! CloudInterviews$Parser -/
set_option maxRecDepth 100000
def RX8 : String := "CloudInterviews$Parser"
def TX8 : u_T := fun k => match k with
  | 0 => ("CloudInterviews$Parser", "text", "Ljava/lang/CharSequence;", true)
  | _ => ("CloudInterviews$Parser", "position", "I", false)
def tyX8 : Nat → FieldType := fun k => match k with
  | 0 => .object "java/lang/CharSequence"
  | _ => .int
abbrev wsX80 : List Cond := u_ws RX8 TX8 2
theorem nmX8 : ∀ a, a < 2 → ∀ b, b < 2 → a ≠ b → (TX8 a).2.1 ≠ (TX8 b).2.1 := by decide +kernel
theorem tyX8_ok : ∀ k, k < 2 → parseFieldDescriptor (TX8 k).2.2.1 = some (tyX8 k) := by decide +kernel
abbrev cX8_init : ByteArray := prog_5_method_1_code
def yX8_init : MethodName := ⟨RX8, "<init>", "(Ljava/lang/CharSequence;)V"⟩
def dkwX8_init_0 : List UInt8 := [42, 183, 0, 3, 42, 43, 181, 0, 9, 177]
abbrev dktX8_init_0 : List UInt8 := dkwX8_init_0 ++ []
theorem dksX8_init_0 : cX8_init.data.toList.drop 0 = dktX8_init_0 := by decide +kernel
theorem dX8_init_0 : decode cX8_init 0 = .ok (.aload_n 0, 1) := dk_42 (dk_at dksX8_init_0 0 rfl rfl)
theorem dX8_init_1 : decode cX8_init 1 = .ok (.invokespecial 3, 3) := dk_183 0 3 (dk_at dksX8_init_0 1 rfl rfl)
theorem dX8_init_4 : decode cX8_init 4 = .ok (.aload_n 0, 1) := dk_42 (dk_at dksX8_init_0 4 rfl rfl)
theorem dX8_init_5 : decode cX8_init 5 = .ok (.aload_n 1, 1) := dk_43 (dk_at dksX8_init_0 5 rfl rfl)
theorem dX8_init_6 : decode cX8_init 6 = .ok (.putfield 9, 3) := dk_181 0 9 (dk_at dksX8_init_0 6 rfl rfl)
theorem dX8_init_9 : decode cX8_init 9 = .ok (.return_, 1) := dk_177 (dk_at dksX8_init_0 9 rfl rfl)
abbrev cX8_commands : ByteArray := prog_5_method_11_code
def yX8_commands : MethodName := ⟨RX8, "commands", "()Ljava/util/ArrayList;"⟩
def dkwX8_commands_2 : List UInt8 := [182, 0, 115, 182, 0, 119, 61, 167, 255, 222, 43, 176]
abbrev dktX8_commands_2 : List UInt8 := dkwX8_commands_2 ++ []
def dkwX8_commands_1 : List UInt8 := [180, 0, 9, 185, 0, 19, 1, 0, 162, 0, 24, 42, 16, 59, 16, 59, 182, 0, 42, 62, 43, 42]
abbrev dktX8_commands_1 : List UInt8 := dkwX8_commands_1 ++ dktX8_commands_2
def dkwX8_commands_0 : List UInt8 := [187, 0, 112, 89, 183, 0, 114, 76, 43, 42, 182, 0, 115, 182, 0, 119, 61, 42, 180, 0, 15, 42]
abbrev dktX8_commands_0 : List UInt8 := dkwX8_commands_0 ++ dktX8_commands_1
theorem dksX8_commands_0 : cX8_commands.data.toList.drop 0 = dktX8_commands_0 := by decide +kernel
theorem dksX8_commands_1 : cX8_commands.data.toList.drop 22 = dktX8_commands_1 := dk_seg dksX8_commands_0 22 rfl rfl
theorem dksX8_commands_2 : cX8_commands.data.toList.drop 44 = dktX8_commands_2 := dk_seg dksX8_commands_1 22 rfl rfl
theorem dX8_commands_0 : decode cX8_commands 0 = .ok (.new 112, 3) := dk_187 0 112 (dk_at dksX8_commands_0 0 rfl rfl)
theorem dX8_commands_3 : decode cX8_commands 3 = .ok (.dup, 1) := dk_89 (dk_at dksX8_commands_0 3 rfl rfl)
theorem dX8_commands_4 : decode cX8_commands 4 = .ok (.invokespecial 114, 3) := dk_183 0 114 (dk_at dksX8_commands_0 4 rfl rfl)
theorem dX8_commands_7 : decode cX8_commands 7 = .ok (.astore_n 1, 1) := dk_76 (dk_at dksX8_commands_0 7 rfl rfl)
theorem dX8_commands_8 : decode cX8_commands 8 = .ok (.aload_n 1, 1) := dk_43 (dk_at dksX8_commands_0 8 rfl rfl)
theorem dX8_commands_9 : decode cX8_commands 9 = .ok (.aload_n 0, 1) := dk_42 (dk_at dksX8_commands_0 9 rfl rfl)
theorem dX8_commands_10 : decode cX8_commands 10 = .ok (.invokevirtual 115, 3) := dk_182 0 115 (dk_at dksX8_commands_0 10 rfl rfl)
theorem dX8_commands_13 : decode cX8_commands 13 = .ok (.invokevirtual 119, 3) := dk_182 0 119 (dk_at dksX8_commands_0 13 rfl rfl)
theorem dX8_commands_16 : decode cX8_commands 16 = .ok (.istore_n 2, 1) := dk_61 (dk_at dksX8_commands_0 16 rfl rfl)
theorem dX8_commands_17 : decode cX8_commands 17 = .ok (.aload_n 0, 1) := dk_42 (dk_at dksX8_commands_0 17 rfl rfl)
theorem dX8_commands_18 : decode cX8_commands 18 = .ok (.getfield 15, 3) := dk_180 0 15 (dk_at dksX8_commands_0 18 rfl rfl)
theorem dX8_commands_21 : decode cX8_commands 21 = .ok (.aload_n 0, 1) := dk_42 (dk_at dksX8_commands_0 21 rfl rfl)
theorem dX8_commands_22 : decode cX8_commands 22 = .ok (.getfield 9, 3) := dk_180 0 9 (dk_at dksX8_commands_1 0 rfl rfl)
theorem dX8_commands_25 : decode cX8_commands 25 = .ok (.invokeinterface 19 1, 5) := by decide +kernel
theorem dX8_commands_30 : decode cX8_commands 30 = .ok (.if_icmp .ge 24, 3) := dk_162 0 24 (dk_at dksX8_commands_1 8 rfl rfl)
theorem dX8_commands_33 : decode cX8_commands 33 = .ok (.aload_n 0, 1) := dk_42 (dk_at dksX8_commands_1 11 rfl rfl)
theorem dX8_commands_34 : decode cX8_commands 34 = .ok (.bipush 59, 2) := dk_16 59 (dk_at dksX8_commands_1 12 rfl rfl)
theorem dX8_commands_36 : decode cX8_commands 36 = .ok (.bipush 59, 2) := dk_16 59 (dk_at dksX8_commands_1 14 rfl rfl)
theorem dX8_commands_38 : decode cX8_commands 38 = .ok (.invokevirtual 42, 3) := dk_182 0 42 (dk_at dksX8_commands_1 16 rfl rfl)
theorem dX8_commands_41 : decode cX8_commands 41 = .ok (.istore_n 3, 1) := dk_62 (dk_at dksX8_commands_1 19 rfl rfl)
theorem dX8_commands_42 : decode cX8_commands 42 = .ok (.aload_n 1, 1) := dk_43 (dk_at dksX8_commands_1 20 rfl rfl)
theorem dX8_commands_43 : decode cX8_commands 43 = .ok (.aload_n 0, 1) := dk_42 (dk_at dksX8_commands_1 21 rfl rfl)
theorem dX8_commands_44 : decode cX8_commands 44 = .ok (.invokevirtual 115, 3) := dk_182 0 115 (dk_at dksX8_commands_2 0 rfl rfl)
theorem dX8_commands_47 : decode cX8_commands 47 = .ok (.invokevirtual 119, 3) := dk_182 0 119 (dk_at dksX8_commands_2 3 rfl rfl)
theorem dX8_commands_50 : decode cX8_commands 50 = .ok (.istore_n 2, 1) := dk_61 (dk_at dksX8_commands_2 6 rfl rfl)
theorem dX8_commands_51 : decode cX8_commands 51 = .ok (.goto (-34), 3) := dk_167 255 222 (dk_at dksX8_commands_2 7 rfl rfl)
theorem dX8_commands_54 : decode cX8_commands 54 = .ok (.aload_n 1, 1) := dk_43 (dk_at dksX8_commands_2 10 rfl rfl)
theorem dX8_commands_55 : decode cX8_commands 55 = .ok (.areturn, 1) := dk_176 (dk_at dksX8_commands_2 11 rfl rfl)
abbrev cX8_command : ByteArray := prog_5_method_10_code
def yX8_command : MethodName := ⟨RX8, "command", "()LCloudInterviews$Command;"⟩
def dkwX8_command_19 : List UInt8 := [187, 0, 99, 89, 43, 4, 188, 10, 89, 3, 42, 182, 0, 46, 79, 183, 0, 101, 176]
abbrev dktX8_command_19 : List UInt8 := dkwX8_command_19 ++ []
def dkwX8_command_18 : List UInt8 := [183, 0, 101, 176, 187, 0, 99, 89, 43, 4, 188, 10, 89, 3, 42, 182, 0, 49, 79, 183, 0, 101, 176]
abbrev dktX8_command_18 : List UInt8 := dkwX8_command_18 ++ dktX8_command_19
def dkwX8_command_17 : List UInt8 := [54, 4, 187, 0, 99, 89, 43, 5, 188, 10, 89, 3, 21, 4, 79, 89, 4, 42, 16, 62, 182, 0, 108, 79]
abbrev dktX8_command_17 : List UInt8 := dkwX8_command_17 ++ dktX8_command_18
def dkwX8_command_16 : List UInt8 := [188, 10, 89, 3, 21, 4, 79, 89, 4, 42, 16, 60, 182, 0, 108, 79, 183, 0, 101, 176, 42, 182, 0, 49]
abbrev dktX8_command_16 : List UInt8 := dkwX8_command_16 ++ dktX8_command_17
def dkwX8_command_15 : List UInt8 := [6, 42, 16, 61, 182, 0, 108, 79, 183, 0, 101, 176, 42, 182, 0, 46, 54, 4, 187, 0, 99, 89, 43, 5]
abbrev dktX8_command_15 : List UInt8 := dkwX8_command_15 ++ dktX8_command_16
def dkwX8_command_14 : List UInt8 := [187, 0, 99, 89, 43, 7, 188, 10, 89, 3, 21, 4, 79, 89, 4, 21, 5, 79, 89, 5, 21, 6, 79, 89]
abbrev dktX8_command_14 : List UInt8 := dkwX8_command_14 ++ dktX8_command_15
def dkwX8_command_13 : List UInt8 := [176, 42, 4, 182, 0, 104, 54, 4, 42, 182, 0, 49, 54, 5, 42, 16, 47, 182, 0, 108, 54, 6]
abbrev dktX8_command_13 : List UInt8 := dkwX8_command_13 ++ dktX8_command_14
def dkwX8_command_12 : List UInt8 := [188, 10, 89, 3, 21, 4, 79, 89, 4, 21, 5, 79, 89, 5, 42, 16, 47, 182, 0, 108, 79, 183, 0, 101]
abbrev dktX8_command_12 : List UInt8 := dkwX8_command_12 ++ dktX8_command_13
def dkwX8_command_11 : List UInt8 := [183, 0, 101, 176, 42, 3, 182, 0, 104, 54, 4, 42, 182, 0, 49, 54, 5, 187, 0, 99, 89, 43, 6]
abbrev dktX8_command_11 : List UInt8 := dkwX8_command_11 ++ dktX8_command_12
def dkwX8_command_10 : List UInt8 := [187, 0, 99, 89, 43, 3, 188, 10, 183, 0, 101, 176, 187, 0, 99, 89, 43, 4, 188, 10, 89, 3, 4, 79]
abbrev dktX8_command_10 : List UInt8 := dkwX8_command_10 ++ dktX8_command_11
def dkwX8_command_9 : List UInt8 := [170, 0, 0, 0, 0, 0, 255, 0, 0, 0, 0, 0, 0, 0, 6, 0, 0, 0, 43, 0, 0, 0, 55, 0, 0, 0, 71, 0, 0, 0, 115, 0, 0, 0, 172, 0, 0, 0, 204, 0, 0, 0, 236]
abbrev dktX8_command_9 : List UInt8 := dkwX8_command_9 ++ dktX8_command_10
def dkwX8_command_8 : List UInt8 := [62, 29]
abbrev dktX8_command_8 : List UInt8 := dkwX8_command_8 ++ dktX8_command_9
def dkwX8_command_7 : List UInt8 := [18, 82, 182, 0, 95, 153, 0, 20, 8, 62, 167, 0, 15, 44, 18, 72, 182, 0, 95, 153, 0, 6, 16, 6]
abbrev dktX8_command_7 : List UInt8 := dkwX8_command_7 ++ dktX8_command_8
def dkwX8_command_6 : List UInt8 := [153, 0, 48, 6, 62, 167, 0, 43, 44, 18, 78, 182, 0, 95, 153, 0, 34, 7, 62, 167, 0, 29, 44]
abbrev dktX8_command_6 : List UInt8 := dkwX8_command_6 ++ dktX8_command_7
def dkwX8_command_5 : List UInt8 := [62, 167, 0, 71, 44, 18, 70, 182, 0, 95, 153, 0, 62, 5, 62, 167, 0, 57, 44, 18, 74, 182, 0, 95]
abbrev dktX8_command_5 : List UInt8 := dkwX8_command_5 ++ dktX8_command_6
def dkwX8_command_4 : List UInt8 := [44, 18, 84, 182, 0, 95, 153, 0, 90, 3, 62, 167, 0, 85, 44, 18, 86, 182, 0, 95, 153, 0, 76, 4]
abbrev dktX8_command_4 : List UInt8 := dkwX8_command_4 ++ dktX8_command_5
def dkwX8_command_3 : List UInt8 := [171, 0, 0, 0, 0, 162, 0, 0, 0, 7, 171, 228, 234, 114, 0, 0, 0, 94, 190, 8, 136, 73, 0, 0, 0, 150, 200, 71, 163, 160, 0, 0, 0, 136, 0, 1, 131, 156, 0, 0, 0, 80, 5, 234, 255, 172, 0, 0, 0, 122, 6, 45, 217, 197, 0, 0, 0, 66, 6, 94, 123, 128, 0, 0, 0, 108]
abbrev dktX8_command_3 : List UInt8 := dkwX8_command_3 ++ dktX8_command_4
def dkwX8_command_2 : List UInt8 := [83, 89, 16, 8, 18, 86, 83, 182, 0, 88, 76, 43, 77, 2, 62, 44, 182, 0, 92]
abbrev dktX8_command_2 : List UInt8 := dkwX8_command_2 ++ dktX8_command_3
def dkwX8_command_1 : List UInt8 := [18, 76, 83, 89, 7, 18, 78, 83, 89, 8, 18, 80, 83, 89, 16, 6, 18, 82, 83, 89, 16, 7, 18, 84]
abbrev dktX8_command_1 : List UInt8 := dkwX8_command_1 ++ dktX8_command_2
def dkwX8_command_0 : List UInt8 := [42, 16, 9, 189, 0, 57, 89, 3, 18, 70, 83, 89, 4, 18, 72, 83, 89, 5, 18, 74, 83, 89, 6]
abbrev dktX8_command_0 : List UInt8 := dkwX8_command_0 ++ dktX8_command_1
theorem dksX8_command_0 : cX8_command.data.toList.drop 0 = dktX8_command_0 := by decide +kernel
theorem dksX8_command_1 : cX8_command.data.toList.drop 23 = dktX8_command_1 := dk_seg dksX8_command_0 23 rfl rfl
theorem dksX8_command_2 : cX8_command.data.toList.drop 47 = dktX8_command_2 := dk_seg dksX8_command_1 24 rfl rfl
theorem dksX8_command_3 : cX8_command.data.toList.drop 66 = dktX8_command_3 := dk_seg dksX8_command_2 19 rfl rfl
theorem dksX8_command_4 : cX8_command.data.toList.drop 132 = dktX8_command_4 := dk_seg dksX8_command_3 66 rfl rfl
theorem dksX8_command_5 : cX8_command.data.toList.drop 156 = dktX8_command_5 := dk_seg dksX8_command_4 24 rfl rfl
theorem dksX8_command_6 : cX8_command.data.toList.drop 180 = dktX8_command_6 := dk_seg dksX8_command_5 24 rfl rfl
theorem dksX8_command_7 : cX8_command.data.toList.drop 203 = dktX8_command_7 := dk_seg dksX8_command_6 23 rfl rfl
theorem dksX8_command_8 : cX8_command.data.toList.drop 227 = dktX8_command_8 := dk_seg dksX8_command_7 24 rfl rfl
theorem dksX8_command_9 : cX8_command.data.toList.drop 229 = dktX8_command_9 := dk_seg dksX8_command_8 2 rfl rfl
theorem dksX8_command_10 : cX8_command.data.toList.drop 272 = dktX8_command_10 := dk_seg dksX8_command_9 43 rfl rfl
theorem dksX8_command_11 : cX8_command.data.toList.drop 296 = dktX8_command_11 := dk_seg dksX8_command_10 24 rfl rfl
theorem dksX8_command_12 : cX8_command.data.toList.drop 319 = dktX8_command_12 := dk_seg dksX8_command_11 23 rfl rfl
theorem dksX8_command_13 : cX8_command.data.toList.drop 343 = dktX8_command_13 := dk_seg dksX8_command_12 24 rfl rfl
theorem dksX8_command_14 : cX8_command.data.toList.drop 365 = dktX8_command_14 := dk_seg dksX8_command_13 22 rfl rfl
theorem dksX8_command_15 : cX8_command.data.toList.drop 389 = dktX8_command_15 := dk_seg dksX8_command_14 24 rfl rfl
theorem dksX8_command_16 : cX8_command.data.toList.drop 413 = dktX8_command_16 := dk_seg dksX8_command_15 24 rfl rfl
theorem dksX8_command_17 : cX8_command.data.toList.drop 437 = dktX8_command_17 := dk_seg dksX8_command_16 24 rfl rfl
theorem dksX8_command_18 : cX8_command.data.toList.drop 461 = dktX8_command_18 := dk_seg dksX8_command_17 24 rfl rfl
theorem dksX8_command_19 : cX8_command.data.toList.drop 484 = dktX8_command_19 := dk_seg dksX8_command_18 23 rfl rfl
theorem dX8_command_0 : decode cX8_command 0 = .ok (.aload_n 0, 1) := dk_42 (dk_at dksX8_command_0 0 rfl rfl)
theorem dX8_command_1 : decode cX8_command 1 = .ok (.bipush 9, 2) := dk_16 9 (dk_at dksX8_command_0 1 rfl rfl)
theorem dX8_command_3 : decode cX8_command 3 = .ok (.anewarray 57, 3) := dk_189 0 57 (dk_at dksX8_command_0 3 rfl rfl)
theorem dX8_command_6 : decode cX8_command 6 = .ok (.dup, 1) := dk_89 (dk_at dksX8_command_0 6 rfl rfl)
theorem dX8_command_7 : decode cX8_command 7 = .ok (.iconst 0, 1) := dk_3 (dk_at dksX8_command_0 7 rfl rfl)
theorem dX8_command_8 : decode cX8_command 8 = .ok (.ldc 70, 2) := dk_18 70 (dk_at dksX8_command_0 8 rfl rfl)
theorem dX8_command_10 : decode cX8_command 10 = .ok (.aastore, 1) := dk_83 (dk_at dksX8_command_0 10 rfl rfl)
theorem dX8_command_11 : decode cX8_command 11 = .ok (.dup, 1) := dk_89 (dk_at dksX8_command_0 11 rfl rfl)
theorem dX8_command_12 : decode cX8_command 12 = .ok (.iconst 1, 1) := dk_4 (dk_at dksX8_command_0 12 rfl rfl)
theorem dX8_command_13 : decode cX8_command 13 = .ok (.ldc 72, 2) := dk_18 72 (dk_at dksX8_command_0 13 rfl rfl)
theorem dX8_command_15 : decode cX8_command 15 = .ok (.aastore, 1) := dk_83 (dk_at dksX8_command_0 15 rfl rfl)
theorem dX8_command_16 : decode cX8_command 16 = .ok (.dup, 1) := dk_89 (dk_at dksX8_command_0 16 rfl rfl)
theorem dX8_command_17 : decode cX8_command 17 = .ok (.iconst 2, 1) := dk_5 (dk_at dksX8_command_0 17 rfl rfl)
theorem dX8_command_18 : decode cX8_command 18 = .ok (.ldc 74, 2) := dk_18 74 (dk_at dksX8_command_0 18 rfl rfl)
theorem dX8_command_20 : decode cX8_command 20 = .ok (.aastore, 1) := dk_83 (dk_at dksX8_command_0 20 rfl rfl)
theorem dX8_command_21 : decode cX8_command 21 = .ok (.dup, 1) := dk_89 (dk_at dksX8_command_0 21 rfl rfl)
theorem dX8_command_22 : decode cX8_command 22 = .ok (.iconst 3, 1) := dk_6 (dk_at dksX8_command_0 22 rfl rfl)
theorem dX8_command_23 : decode cX8_command 23 = .ok (.ldc 76, 2) := dk_18 76 (dk_at dksX8_command_1 0 rfl rfl)
theorem dX8_command_25 : decode cX8_command 25 = .ok (.aastore, 1) := dk_83 (dk_at dksX8_command_1 2 rfl rfl)
theorem dX8_command_26 : decode cX8_command 26 = .ok (.dup, 1) := dk_89 (dk_at dksX8_command_1 3 rfl rfl)
theorem dX8_command_27 : decode cX8_command 27 = .ok (.iconst 4, 1) := dk_7 (dk_at dksX8_command_1 4 rfl rfl)
theorem dX8_command_28 : decode cX8_command 28 = .ok (.ldc 78, 2) := dk_18 78 (dk_at dksX8_command_1 5 rfl rfl)
theorem dX8_command_30 : decode cX8_command 30 = .ok (.aastore, 1) := dk_83 (dk_at dksX8_command_1 7 rfl rfl)
theorem dX8_command_31 : decode cX8_command 31 = .ok (.dup, 1) := dk_89 (dk_at dksX8_command_1 8 rfl rfl)
theorem dX8_command_32 : decode cX8_command 32 = .ok (.iconst 5, 1) := dk_8 (dk_at dksX8_command_1 9 rfl rfl)
theorem dX8_command_33 : decode cX8_command 33 = .ok (.ldc 80, 2) := dk_18 80 (dk_at dksX8_command_1 10 rfl rfl)
theorem dX8_command_35 : decode cX8_command 35 = .ok (.aastore, 1) := dk_83 (dk_at dksX8_command_1 12 rfl rfl)
theorem dX8_command_36 : decode cX8_command 36 = .ok (.dup, 1) := dk_89 (dk_at dksX8_command_1 13 rfl rfl)
theorem dX8_command_37 : decode cX8_command 37 = .ok (.bipush 6, 2) := dk_16 6 (dk_at dksX8_command_1 14 rfl rfl)
theorem dX8_command_39 : decode cX8_command 39 = .ok (.ldc 82, 2) := dk_18 82 (dk_at dksX8_command_1 16 rfl rfl)
theorem dX8_command_41 : decode cX8_command 41 = .ok (.aastore, 1) := dk_83 (dk_at dksX8_command_1 18 rfl rfl)
theorem dX8_command_42 : decode cX8_command 42 = .ok (.dup, 1) := dk_89 (dk_at dksX8_command_1 19 rfl rfl)
theorem dX8_command_43 : decode cX8_command 43 = .ok (.bipush 7, 2) := dk_16 7 (dk_at dksX8_command_1 20 rfl rfl)
theorem dX8_command_45 : decode cX8_command 45 = .ok (.ldc 84, 2) := dk_18 84 (dk_at dksX8_command_1 22 rfl rfl)
theorem dX8_command_47 : decode cX8_command 47 = .ok (.aastore, 1) := dk_83 (dk_at dksX8_command_2 0 rfl rfl)
theorem dX8_command_48 : decode cX8_command 48 = .ok (.dup, 1) := dk_89 (dk_at dksX8_command_2 1 rfl rfl)
theorem dX8_command_49 : decode cX8_command 49 = .ok (.bipush 8, 2) := dk_16 8 (dk_at dksX8_command_2 2 rfl rfl)
theorem dX8_command_51 : decode cX8_command 51 = .ok (.ldc 86, 2) := dk_18 86 (dk_at dksX8_command_2 4 rfl rfl)
theorem dX8_command_53 : decode cX8_command 53 = .ok (.aastore, 1) := dk_83 (dk_at dksX8_command_2 6 rfl rfl)
theorem dX8_command_54 : decode cX8_command 54 = .ok (.invokevirtual 88, 3) := dk_182 0 88 (dk_at dksX8_command_2 7 rfl rfl)
theorem dX8_command_57 : decode cX8_command 57 = .ok (.astore_n 1, 1) := dk_76 (dk_at dksX8_command_2 10 rfl rfl)
theorem dX8_command_58 : decode cX8_command 58 = .ok (.aload_n 1, 1) := dk_43 (dk_at dksX8_command_2 11 rfl rfl)
theorem dX8_command_59 : decode cX8_command 59 = .ok (.astore_n 2, 1) := dk_77 (dk_at dksX8_command_2 12 rfl rfl)
theorem dX8_command_60 : decode cX8_command 60 = .ok (.iconst (-1), 1) := dk_2 (dk_at dksX8_command_2 13 rfl rfl)
theorem dX8_command_61 : decode cX8_command 61 = .ok (.istore_n 3, 1) := dk_62 (dk_at dksX8_command_2 14 rfl rfl)
theorem dX8_command_62 : decode cX8_command 62 = .ok (.aload_n 2, 1) := dk_44 (dk_at dksX8_command_2 15 rfl rfl)
theorem dX8_command_63 : decode cX8_command 63 = .ok (.invokevirtual 92, 3) := dk_182 0 92 (dk_at dksX8_command_2 16 rfl rfl)
theorem dX8_command_66 : decode cX8_command 66 = .ok (.lookupswitch 162 #[(-1411061134, 94), (-1106737079, 150), (-934829152, 136), (99228, 80), (99286956, 122), (103668165, 66), (106855296, 108)], 66) := by decide +kernel
theorem dX8_command_132 : decode cX8_command 132 = .ok (.aload_n 2, 1) := dk_44 (dk_at dksX8_command_4 0 rfl rfl)
theorem dX8_command_133 : decode cX8_command 133 = .ok (.ldc 84, 2) := dk_18 84 (dk_at dksX8_command_4 1 rfl rfl)
theorem dX8_command_135 : decode cX8_command 135 = .ok (.invokevirtual 95, 3) := dk_182 0 95 (dk_at dksX8_command_4 3 rfl rfl)
theorem dX8_command_138 : decode cX8_command 138 = .ok (.ifCond .eq 90, 3) := dk_153 0 90 (dk_at dksX8_command_4 6 rfl rfl)
theorem dX8_command_141 : decode cX8_command 141 = .ok (.iconst 0, 1) := dk_3 (dk_at dksX8_command_4 9 rfl rfl)
theorem dX8_command_142 : decode cX8_command 142 = .ok (.istore_n 3, 1) := dk_62 (dk_at dksX8_command_4 10 rfl rfl)
theorem dX8_command_143 : decode cX8_command 143 = .ok (.goto 85, 3) := dk_167 0 85 (dk_at dksX8_command_4 11 rfl rfl)
theorem dX8_command_146 : decode cX8_command 146 = .ok (.aload_n 2, 1) := dk_44 (dk_at dksX8_command_4 14 rfl rfl)
theorem dX8_command_147 : decode cX8_command 147 = .ok (.ldc 86, 2) := dk_18 86 (dk_at dksX8_command_4 15 rfl rfl)
theorem dX8_command_149 : decode cX8_command 149 = .ok (.invokevirtual 95, 3) := dk_182 0 95 (dk_at dksX8_command_4 17 rfl rfl)
theorem dX8_command_152 : decode cX8_command 152 = .ok (.ifCond .eq 76, 3) := dk_153 0 76 (dk_at dksX8_command_4 20 rfl rfl)
theorem dX8_command_155 : decode cX8_command 155 = .ok (.iconst 1, 1) := dk_4 (dk_at dksX8_command_4 23 rfl rfl)
theorem dX8_command_156 : decode cX8_command 156 = .ok (.istore_n 3, 1) := dk_62 (dk_at dksX8_command_5 0 rfl rfl)
theorem dX8_command_157 : decode cX8_command 157 = .ok (.goto 71, 3) := dk_167 0 71 (dk_at dksX8_command_5 1 rfl rfl)
theorem dX8_command_160 : decode cX8_command 160 = .ok (.aload_n 2, 1) := dk_44 (dk_at dksX8_command_5 4 rfl rfl)
theorem dX8_command_161 : decode cX8_command 161 = .ok (.ldc 70, 2) := dk_18 70 (dk_at dksX8_command_5 5 rfl rfl)
theorem dX8_command_163 : decode cX8_command 163 = .ok (.invokevirtual 95, 3) := dk_182 0 95 (dk_at dksX8_command_5 7 rfl rfl)
theorem dX8_command_166 : decode cX8_command 166 = .ok (.ifCond .eq 62, 3) := dk_153 0 62 (dk_at dksX8_command_5 10 rfl rfl)
theorem dX8_command_169 : decode cX8_command 169 = .ok (.iconst 2, 1) := dk_5 (dk_at dksX8_command_5 13 rfl rfl)
theorem dX8_command_170 : decode cX8_command 170 = .ok (.istore_n 3, 1) := dk_62 (dk_at dksX8_command_5 14 rfl rfl)
theorem dX8_command_171 : decode cX8_command 171 = .ok (.goto 57, 3) := dk_167 0 57 (dk_at dksX8_command_5 15 rfl rfl)
theorem dX8_command_174 : decode cX8_command 174 = .ok (.aload_n 2, 1) := dk_44 (dk_at dksX8_command_5 18 rfl rfl)
theorem dX8_command_175 : decode cX8_command 175 = .ok (.ldc 74, 2) := dk_18 74 (dk_at dksX8_command_5 19 rfl rfl)
theorem dX8_command_177 : decode cX8_command 177 = .ok (.invokevirtual 95, 3) := dk_182 0 95 (dk_at dksX8_command_5 21 rfl rfl)
theorem dX8_command_180 : decode cX8_command 180 = .ok (.ifCond .eq 48, 3) := dk_153 0 48 (dk_at dksX8_command_6 0 rfl rfl)
theorem dX8_command_183 : decode cX8_command 183 = .ok (.iconst 3, 1) := dk_6 (dk_at dksX8_command_6 3 rfl rfl)
theorem dX8_command_184 : decode cX8_command 184 = .ok (.istore_n 3, 1) := dk_62 (dk_at dksX8_command_6 4 rfl rfl)
theorem dX8_command_185 : decode cX8_command 185 = .ok (.goto 43, 3) := dk_167 0 43 (dk_at dksX8_command_6 5 rfl rfl)
theorem dX8_command_188 : decode cX8_command 188 = .ok (.aload_n 2, 1) := dk_44 (dk_at dksX8_command_6 8 rfl rfl)
theorem dX8_command_189 : decode cX8_command 189 = .ok (.ldc 78, 2) := dk_18 78 (dk_at dksX8_command_6 9 rfl rfl)
theorem dX8_command_191 : decode cX8_command 191 = .ok (.invokevirtual 95, 3) := dk_182 0 95 (dk_at dksX8_command_6 11 rfl rfl)
theorem dX8_command_194 : decode cX8_command 194 = .ok (.ifCond .eq 34, 3) := dk_153 0 34 (dk_at dksX8_command_6 14 rfl rfl)
theorem dX8_command_197 : decode cX8_command 197 = .ok (.iconst 4, 1) := dk_7 (dk_at dksX8_command_6 17 rfl rfl)
theorem dX8_command_198 : decode cX8_command 198 = .ok (.istore_n 3, 1) := dk_62 (dk_at dksX8_command_6 18 rfl rfl)
theorem dX8_command_199 : decode cX8_command 199 = .ok (.goto 29, 3) := dk_167 0 29 (dk_at dksX8_command_6 19 rfl rfl)
theorem dX8_command_202 : decode cX8_command 202 = .ok (.aload_n 2, 1) := dk_44 (dk_at dksX8_command_6 22 rfl rfl)
theorem dX8_command_203 : decode cX8_command 203 = .ok (.ldc 82, 2) := dk_18 82 (dk_at dksX8_command_7 0 rfl rfl)
theorem dX8_command_205 : decode cX8_command 205 = .ok (.invokevirtual 95, 3) := dk_182 0 95 (dk_at dksX8_command_7 2 rfl rfl)
theorem dX8_command_208 : decode cX8_command 208 = .ok (.ifCond .eq 20, 3) := dk_153 0 20 (dk_at dksX8_command_7 5 rfl rfl)
theorem dX8_command_211 : decode cX8_command 211 = .ok (.iconst 5, 1) := dk_8 (dk_at dksX8_command_7 8 rfl rfl)
theorem dX8_command_212 : decode cX8_command 212 = .ok (.istore_n 3, 1) := dk_62 (dk_at dksX8_command_7 9 rfl rfl)
theorem dX8_command_213 : decode cX8_command 213 = .ok (.goto 15, 3) := dk_167 0 15 (dk_at dksX8_command_7 10 rfl rfl)
theorem dX8_command_216 : decode cX8_command 216 = .ok (.aload_n 2, 1) := dk_44 (dk_at dksX8_command_7 13 rfl rfl)
theorem dX8_command_217 : decode cX8_command 217 = .ok (.ldc 72, 2) := dk_18 72 (dk_at dksX8_command_7 14 rfl rfl)
theorem dX8_command_219 : decode cX8_command 219 = .ok (.invokevirtual 95, 3) := dk_182 0 95 (dk_at dksX8_command_7 16 rfl rfl)
theorem dX8_command_222 : decode cX8_command 222 = .ok (.ifCond .eq 6, 3) := dk_153 0 6 (dk_at dksX8_command_7 19 rfl rfl)
theorem dX8_command_225 : decode cX8_command 225 = .ok (.bipush 6, 2) := dk_16 6 (dk_at dksX8_command_7 22 rfl rfl)
theorem dX8_command_227 : decode cX8_command 227 = .ok (.istore_n 3, 1) := dk_62 (dk_at dksX8_command_8 0 rfl rfl)
theorem dX8_command_228 : decode cX8_command 228 = .ok (.iload_n 3, 1) := dk_29 (dk_at dksX8_command_8 1 rfl rfl)
theorem dX8_command_229 : decode cX8_command 229 = .ok (.tableswitch 255 0 6 #[43, 55, 71, 115, 172, 204, 236], 43) := by decide +kernel
theorem dX8_command_272 : decode cX8_command 272 = .ok (.new 99, 3) := dk_187 0 99 (dk_at dksX8_command_10 0 rfl rfl)
theorem dX8_command_275 : decode cX8_command 275 = .ok (.dup, 1) := dk_89 (dk_at dksX8_command_10 3 rfl rfl)
theorem dX8_command_276 : decode cX8_command 276 = .ok (.aload_n 1, 1) := dk_43 (dk_at dksX8_command_10 4 rfl rfl)
theorem dX8_command_277 : decode cX8_command 277 = .ok (.iconst 0, 1) := dk_3 (dk_at dksX8_command_10 5 rfl rfl)
theorem dX8_command_278 : decode cX8_command 278 = .ok (.newarray .int, 2) := dk_188_10 (dk_at dksX8_command_10 6 rfl rfl)
theorem dX8_command_280 : decode cX8_command 280 = .ok (.invokespecial 101, 3) := dk_183 0 101 (dk_at dksX8_command_10 8 rfl rfl)
theorem dX8_command_283 : decode cX8_command 283 = .ok (.areturn, 1) := dk_176 (dk_at dksX8_command_10 11 rfl rfl)
theorem dX8_command_284 : decode cX8_command 284 = .ok (.new 99, 3) := dk_187 0 99 (dk_at dksX8_command_10 12 rfl rfl)
theorem dX8_command_287 : decode cX8_command 287 = .ok (.dup, 1) := dk_89 (dk_at dksX8_command_10 15 rfl rfl)
theorem dX8_command_288 : decode cX8_command 288 = .ok (.aload_n 1, 1) := dk_43 (dk_at dksX8_command_10 16 rfl rfl)
theorem dX8_command_289 : decode cX8_command 289 = .ok (.iconst 1, 1) := dk_4 (dk_at dksX8_command_10 17 rfl rfl)
theorem dX8_command_290 : decode cX8_command 290 = .ok (.newarray .int, 2) := dk_188_10 (dk_at dksX8_command_10 18 rfl rfl)
theorem dX8_command_292 : decode cX8_command 292 = .ok (.dup, 1) := dk_89 (dk_at dksX8_command_10 20 rfl rfl)
theorem dX8_command_293 : decode cX8_command 293 = .ok (.iconst 0, 1) := dk_3 (dk_at dksX8_command_10 21 rfl rfl)
theorem dX8_command_294 : decode cX8_command 294 = .ok (.iconst 1, 1) := dk_4 (dk_at dksX8_command_10 22 rfl rfl)
theorem dX8_command_295 : decode cX8_command 295 = .ok (.iastore, 1) := dk_79 (dk_at dksX8_command_10 23 rfl rfl)
theorem dX8_command_296 : decode cX8_command 296 = .ok (.invokespecial 101, 3) := dk_183 0 101 (dk_at dksX8_command_11 0 rfl rfl)
theorem dX8_command_299 : decode cX8_command 299 = .ok (.areturn, 1) := dk_176 (dk_at dksX8_command_11 3 rfl rfl)
theorem dX8_command_300 : decode cX8_command 300 = .ok (.aload_n 0, 1) := dk_42 (dk_at dksX8_command_11 4 rfl rfl)
theorem dX8_command_301 : decode cX8_command 301 = .ok (.iconst 0, 1) := dk_3 (dk_at dksX8_command_11 5 rfl rfl)
theorem dX8_command_302 : decode cX8_command 302 = .ok (.invokevirtual 104, 3) := dk_182 0 104 (dk_at dksX8_command_11 6 rfl rfl)
theorem dX8_command_305 : decode cX8_command 305 = .ok (.istore 4, 2) := dk_54 4 (dk_at dksX8_command_11 9 rfl rfl)
theorem dX8_command_307 : decode cX8_command 307 = .ok (.aload_n 0, 1) := dk_42 (dk_at dksX8_command_11 11 rfl rfl)
theorem dX8_command_308 : decode cX8_command 308 = .ok (.invokevirtual 49, 3) := dk_182 0 49 (dk_at dksX8_command_11 12 rfl rfl)
theorem dX8_command_311 : decode cX8_command 311 = .ok (.istore 5, 2) := dk_54 5 (dk_at dksX8_command_11 15 rfl rfl)
theorem dX8_command_313 : decode cX8_command 313 = .ok (.new 99, 3) := dk_187 0 99 (dk_at dksX8_command_11 17 rfl rfl)
theorem dX8_command_316 : decode cX8_command 316 = .ok (.dup, 1) := dk_89 (dk_at dksX8_command_11 20 rfl rfl)
theorem dX8_command_317 : decode cX8_command 317 = .ok (.aload_n 1, 1) := dk_43 (dk_at dksX8_command_11 21 rfl rfl)
theorem dX8_command_318 : decode cX8_command 318 = .ok (.iconst 3, 1) := dk_6 (dk_at dksX8_command_11 22 rfl rfl)
theorem dX8_command_319 : decode cX8_command 319 = .ok (.newarray .int, 2) := dk_188_10 (dk_at dksX8_command_12 0 rfl rfl)
theorem dX8_command_321 : decode cX8_command 321 = .ok (.dup, 1) := dk_89 (dk_at dksX8_command_12 2 rfl rfl)
theorem dX8_command_322 : decode cX8_command 322 = .ok (.iconst 0, 1) := dk_3 (dk_at dksX8_command_12 3 rfl rfl)
theorem dX8_command_323 : decode cX8_command 323 = .ok (.iload 4, 2) := dk_21 4 (dk_at dksX8_command_12 4 rfl rfl)
theorem dX8_command_325 : decode cX8_command 325 = .ok (.iastore, 1) := dk_79 (dk_at dksX8_command_12 6 rfl rfl)
theorem dX8_command_326 : decode cX8_command 326 = .ok (.dup, 1) := dk_89 (dk_at dksX8_command_12 7 rfl rfl)
theorem dX8_command_327 : decode cX8_command 327 = .ok (.iconst 1, 1) := dk_4 (dk_at dksX8_command_12 8 rfl rfl)
theorem dX8_command_328 : decode cX8_command 328 = .ok (.iload 5, 2) := dk_21 5 (dk_at dksX8_command_12 9 rfl rfl)
theorem dX8_command_330 : decode cX8_command 330 = .ok (.iastore, 1) := dk_79 (dk_at dksX8_command_12 11 rfl rfl)
theorem dX8_command_331 : decode cX8_command 331 = .ok (.dup, 1) := dk_89 (dk_at dksX8_command_12 12 rfl rfl)
theorem dX8_command_332 : decode cX8_command 332 = .ok (.iconst 2, 1) := dk_5 (dk_at dksX8_command_12 13 rfl rfl)
theorem dX8_command_333 : decode cX8_command 333 = .ok (.aload_n 0, 1) := dk_42 (dk_at dksX8_command_12 14 rfl rfl)
theorem dX8_command_334 : decode cX8_command 334 = .ok (.bipush 47, 2) := dk_16 47 (dk_at dksX8_command_12 15 rfl rfl)
theorem dX8_command_336 : decode cX8_command 336 = .ok (.invokevirtual 108, 3) := dk_182 0 108 (dk_at dksX8_command_12 17 rfl rfl)
theorem dX8_command_339 : decode cX8_command 339 = .ok (.iastore, 1) := dk_79 (dk_at dksX8_command_12 20 rfl rfl)
theorem dX8_command_340 : decode cX8_command 340 = .ok (.invokespecial 101, 3) := dk_183 0 101 (dk_at dksX8_command_12 21 rfl rfl)
theorem dX8_command_343 : decode cX8_command 343 = .ok (.areturn, 1) := dk_176 (dk_at dksX8_command_13 0 rfl rfl)
theorem dX8_command_344 : decode cX8_command 344 = .ok (.aload_n 0, 1) := dk_42 (dk_at dksX8_command_13 1 rfl rfl)
theorem dX8_command_345 : decode cX8_command 345 = .ok (.iconst 1, 1) := dk_4 (dk_at dksX8_command_13 2 rfl rfl)
theorem dX8_command_346 : decode cX8_command 346 = .ok (.invokevirtual 104, 3) := dk_182 0 104 (dk_at dksX8_command_13 3 rfl rfl)
theorem dX8_command_349 : decode cX8_command 349 = .ok (.istore 4, 2) := dk_54 4 (dk_at dksX8_command_13 6 rfl rfl)
theorem dX8_command_351 : decode cX8_command 351 = .ok (.aload_n 0, 1) := dk_42 (dk_at dksX8_command_13 8 rfl rfl)
theorem dX8_command_352 : decode cX8_command 352 = .ok (.invokevirtual 49, 3) := dk_182 0 49 (dk_at dksX8_command_13 9 rfl rfl)
theorem dX8_command_355 : decode cX8_command 355 = .ok (.istore 5, 2) := dk_54 5 (dk_at dksX8_command_13 12 rfl rfl)
theorem dX8_command_357 : decode cX8_command 357 = .ok (.aload_n 0, 1) := dk_42 (dk_at dksX8_command_13 14 rfl rfl)
theorem dX8_command_358 : decode cX8_command 358 = .ok (.bipush 47, 2) := dk_16 47 (dk_at dksX8_command_13 15 rfl rfl)
theorem dX8_command_360 : decode cX8_command 360 = .ok (.invokevirtual 108, 3) := dk_182 0 108 (dk_at dksX8_command_13 17 rfl rfl)
theorem dX8_command_363 : decode cX8_command 363 = .ok (.istore 6, 2) := dk_54 6 (dk_at dksX8_command_13 20 rfl rfl)
theorem dX8_command_365 : decode cX8_command 365 = .ok (.new 99, 3) := dk_187 0 99 (dk_at dksX8_command_14 0 rfl rfl)
theorem dX8_command_368 : decode cX8_command 368 = .ok (.dup, 1) := dk_89 (dk_at dksX8_command_14 3 rfl rfl)
theorem dX8_command_369 : decode cX8_command 369 = .ok (.aload_n 1, 1) := dk_43 (dk_at dksX8_command_14 4 rfl rfl)
theorem dX8_command_370 : decode cX8_command 370 = .ok (.iconst 4, 1) := dk_7 (dk_at dksX8_command_14 5 rfl rfl)
theorem dX8_command_371 : decode cX8_command 371 = .ok (.newarray .int, 2) := dk_188_10 (dk_at dksX8_command_14 6 rfl rfl)
theorem dX8_command_373 : decode cX8_command 373 = .ok (.dup, 1) := dk_89 (dk_at dksX8_command_14 8 rfl rfl)
theorem dX8_command_374 : decode cX8_command 374 = .ok (.iconst 0, 1) := dk_3 (dk_at dksX8_command_14 9 rfl rfl)
theorem dX8_command_375 : decode cX8_command 375 = .ok (.iload 4, 2) := dk_21 4 (dk_at dksX8_command_14 10 rfl rfl)
theorem dX8_command_377 : decode cX8_command 377 = .ok (.iastore, 1) := dk_79 (dk_at dksX8_command_14 12 rfl rfl)
theorem dX8_command_378 : decode cX8_command 378 = .ok (.dup, 1) := dk_89 (dk_at dksX8_command_14 13 rfl rfl)
theorem dX8_command_379 : decode cX8_command 379 = .ok (.iconst 1, 1) := dk_4 (dk_at dksX8_command_14 14 rfl rfl)
theorem dX8_command_380 : decode cX8_command 380 = .ok (.iload 5, 2) := dk_21 5 (dk_at dksX8_command_14 15 rfl rfl)
theorem dX8_command_382 : decode cX8_command 382 = .ok (.iastore, 1) := dk_79 (dk_at dksX8_command_14 17 rfl rfl)
theorem dX8_command_383 : decode cX8_command 383 = .ok (.dup, 1) := dk_89 (dk_at dksX8_command_14 18 rfl rfl)
theorem dX8_command_384 : decode cX8_command 384 = .ok (.iconst 2, 1) := dk_5 (dk_at dksX8_command_14 19 rfl rfl)
theorem dX8_command_385 : decode cX8_command 385 = .ok (.iload 6, 2) := dk_21 6 (dk_at dksX8_command_14 20 rfl rfl)
theorem dX8_command_387 : decode cX8_command 387 = .ok (.iastore, 1) := dk_79 (dk_at dksX8_command_14 22 rfl rfl)
theorem dX8_command_388 : decode cX8_command 388 = .ok (.dup, 1) := dk_89 (dk_at dksX8_command_14 23 rfl rfl)
theorem dX8_command_389 : decode cX8_command 389 = .ok (.iconst 3, 1) := dk_6 (dk_at dksX8_command_15 0 rfl rfl)
theorem dX8_command_390 : decode cX8_command 390 = .ok (.aload_n 0, 1) := dk_42 (dk_at dksX8_command_15 1 rfl rfl)
theorem dX8_command_391 : decode cX8_command 391 = .ok (.bipush 61, 2) := dk_16 61 (dk_at dksX8_command_15 2 rfl rfl)
theorem dX8_command_393 : decode cX8_command 393 = .ok (.invokevirtual 108, 3) := dk_182 0 108 (dk_at dksX8_command_15 4 rfl rfl)
theorem dX8_command_396 : decode cX8_command 396 = .ok (.iastore, 1) := dk_79 (dk_at dksX8_command_15 7 rfl rfl)
theorem dX8_command_397 : decode cX8_command 397 = .ok (.invokespecial 101, 3) := dk_183 0 101 (dk_at dksX8_command_15 8 rfl rfl)
theorem dX8_command_400 : decode cX8_command 400 = .ok (.areturn, 1) := dk_176 (dk_at dksX8_command_15 11 rfl rfl)
theorem dX8_command_401 : decode cX8_command 401 = .ok (.aload_n 0, 1) := dk_42 (dk_at dksX8_command_15 12 rfl rfl)
theorem dX8_command_402 : decode cX8_command 402 = .ok (.invokevirtual 46, 3) := dk_182 0 46 (dk_at dksX8_command_15 13 rfl rfl)
theorem dX8_command_405 : decode cX8_command 405 = .ok (.istore 4, 2) := dk_54 4 (dk_at dksX8_command_15 16 rfl rfl)
theorem dX8_command_407 : decode cX8_command 407 = .ok (.new 99, 3) := dk_187 0 99 (dk_at dksX8_command_15 18 rfl rfl)
theorem dX8_command_410 : decode cX8_command 410 = .ok (.dup, 1) := dk_89 (dk_at dksX8_command_15 21 rfl rfl)
theorem dX8_command_411 : decode cX8_command 411 = .ok (.aload_n 1, 1) := dk_43 (dk_at dksX8_command_15 22 rfl rfl)
theorem dX8_command_412 : decode cX8_command 412 = .ok (.iconst 2, 1) := dk_5 (dk_at dksX8_command_15 23 rfl rfl)
theorem dX8_command_413 : decode cX8_command 413 = .ok (.newarray .int, 2) := dk_188_10 (dk_at dksX8_command_16 0 rfl rfl)
theorem dX8_command_415 : decode cX8_command 415 = .ok (.dup, 1) := dk_89 (dk_at dksX8_command_16 2 rfl rfl)
theorem dX8_command_416 : decode cX8_command 416 = .ok (.iconst 0, 1) := dk_3 (dk_at dksX8_command_16 3 rfl rfl)
theorem dX8_command_417 : decode cX8_command 417 = .ok (.iload 4, 2) := dk_21 4 (dk_at dksX8_command_16 4 rfl rfl)
theorem dX8_command_419 : decode cX8_command 419 = .ok (.iastore, 1) := dk_79 (dk_at dksX8_command_16 6 rfl rfl)
theorem dX8_command_420 : decode cX8_command 420 = .ok (.dup, 1) := dk_89 (dk_at dksX8_command_16 7 rfl rfl)
theorem dX8_command_421 : decode cX8_command 421 = .ok (.iconst 1, 1) := dk_4 (dk_at dksX8_command_16 8 rfl rfl)
theorem dX8_command_422 : decode cX8_command 422 = .ok (.aload_n 0, 1) := dk_42 (dk_at dksX8_command_16 9 rfl rfl)
theorem dX8_command_423 : decode cX8_command 423 = .ok (.bipush 60, 2) := dk_16 60 (dk_at dksX8_command_16 10 rfl rfl)
theorem dX8_command_425 : decode cX8_command 425 = .ok (.invokevirtual 108, 3) := dk_182 0 108 (dk_at dksX8_command_16 12 rfl rfl)
theorem dX8_command_428 : decode cX8_command 428 = .ok (.iastore, 1) := dk_79 (dk_at dksX8_command_16 15 rfl rfl)
theorem dX8_command_429 : decode cX8_command 429 = .ok (.invokespecial 101, 3) := dk_183 0 101 (dk_at dksX8_command_16 16 rfl rfl)
theorem dX8_command_432 : decode cX8_command 432 = .ok (.areturn, 1) := dk_176 (dk_at dksX8_command_16 19 rfl rfl)
theorem dX8_command_433 : decode cX8_command 433 = .ok (.aload_n 0, 1) := dk_42 (dk_at dksX8_command_16 20 rfl rfl)
theorem dX8_command_434 : decode cX8_command 434 = .ok (.invokevirtual 49, 3) := dk_182 0 49 (dk_at dksX8_command_16 21 rfl rfl)
theorem dX8_command_437 : decode cX8_command 437 = .ok (.istore 4, 2) := dk_54 4 (dk_at dksX8_command_17 0 rfl rfl)
theorem dX8_command_439 : decode cX8_command 439 = .ok (.new 99, 3) := dk_187 0 99 (dk_at dksX8_command_17 2 rfl rfl)
theorem dX8_command_442 : decode cX8_command 442 = .ok (.dup, 1) := dk_89 (dk_at dksX8_command_17 5 rfl rfl)
theorem dX8_command_443 : decode cX8_command 443 = .ok (.aload_n 1, 1) := dk_43 (dk_at dksX8_command_17 6 rfl rfl)
theorem dX8_command_444 : decode cX8_command 444 = .ok (.iconst 2, 1) := dk_5 (dk_at dksX8_command_17 7 rfl rfl)
theorem dX8_command_445 : decode cX8_command 445 = .ok (.newarray .int, 2) := dk_188_10 (dk_at dksX8_command_17 8 rfl rfl)
theorem dX8_command_447 : decode cX8_command 447 = .ok (.dup, 1) := dk_89 (dk_at dksX8_command_17 10 rfl rfl)
theorem dX8_command_448 : decode cX8_command 448 = .ok (.iconst 0, 1) := dk_3 (dk_at dksX8_command_17 11 rfl rfl)
theorem dX8_command_449 : decode cX8_command 449 = .ok (.iload 4, 2) := dk_21 4 (dk_at dksX8_command_17 12 rfl rfl)
theorem dX8_command_451 : decode cX8_command 451 = .ok (.iastore, 1) := dk_79 (dk_at dksX8_command_17 14 rfl rfl)
theorem dX8_command_452 : decode cX8_command 452 = .ok (.dup, 1) := dk_89 (dk_at dksX8_command_17 15 rfl rfl)
theorem dX8_command_453 : decode cX8_command 453 = .ok (.iconst 1, 1) := dk_4 (dk_at dksX8_command_17 16 rfl rfl)
theorem dX8_command_454 : decode cX8_command 454 = .ok (.aload_n 0, 1) := dk_42 (dk_at dksX8_command_17 17 rfl rfl)
theorem dX8_command_455 : decode cX8_command 455 = .ok (.bipush 62, 2) := dk_16 62 (dk_at dksX8_command_17 18 rfl rfl)
theorem dX8_command_457 : decode cX8_command 457 = .ok (.invokevirtual 108, 3) := dk_182 0 108 (dk_at dksX8_command_17 20 rfl rfl)
theorem dX8_command_460 : decode cX8_command 460 = .ok (.iastore, 1) := dk_79 (dk_at dksX8_command_17 23 rfl rfl)
theorem dX8_command_461 : decode cX8_command 461 = .ok (.invokespecial 101, 3) := dk_183 0 101 (dk_at dksX8_command_18 0 rfl rfl)
theorem dX8_command_464 : decode cX8_command 464 = .ok (.areturn, 1) := dk_176 (dk_at dksX8_command_18 3 rfl rfl)
theorem dX8_command_465 : decode cX8_command 465 = .ok (.new 99, 3) := dk_187 0 99 (dk_at dksX8_command_18 4 rfl rfl)
theorem dX8_command_468 : decode cX8_command 468 = .ok (.dup, 1) := dk_89 (dk_at dksX8_command_18 7 rfl rfl)
theorem dX8_command_469 : decode cX8_command 469 = .ok (.aload_n 1, 1) := dk_43 (dk_at dksX8_command_18 8 rfl rfl)
theorem dX8_command_470 : decode cX8_command 470 = .ok (.iconst 1, 1) := dk_4 (dk_at dksX8_command_18 9 rfl rfl)
theorem dX8_command_471 : decode cX8_command 471 = .ok (.newarray .int, 2) := dk_188_10 (dk_at dksX8_command_18 10 rfl rfl)
theorem dX8_command_473 : decode cX8_command 473 = .ok (.dup, 1) := dk_89 (dk_at dksX8_command_18 12 rfl rfl)
theorem dX8_command_474 : decode cX8_command 474 = .ok (.iconst 0, 1) := dk_3 (dk_at dksX8_command_18 13 rfl rfl)
theorem dX8_command_475 : decode cX8_command 475 = .ok (.aload_n 0, 1) := dk_42 (dk_at dksX8_command_18 14 rfl rfl)
theorem dX8_command_476 : decode cX8_command 476 = .ok (.invokevirtual 49, 3) := dk_182 0 49 (dk_at dksX8_command_18 15 rfl rfl)
theorem dX8_command_479 : decode cX8_command 479 = .ok (.iastore, 1) := dk_79 (dk_at dksX8_command_18 18 rfl rfl)
theorem dX8_command_480 : decode cX8_command 480 = .ok (.invokespecial 101, 3) := dk_183 0 101 (dk_at dksX8_command_18 19 rfl rfl)
theorem dX8_command_483 : decode cX8_command 483 = .ok (.areturn, 1) := dk_176 (dk_at dksX8_command_18 22 rfl rfl)
theorem dX8_command_484 : decode cX8_command 484 = .ok (.new 99, 3) := dk_187 0 99 (dk_at dksX8_command_19 0 rfl rfl)
theorem dX8_command_487 : decode cX8_command 487 = .ok (.dup, 1) := dk_89 (dk_at dksX8_command_19 3 rfl rfl)
theorem dX8_command_488 : decode cX8_command 488 = .ok (.aload_n 1, 1) := dk_43 (dk_at dksX8_command_19 4 rfl rfl)
theorem dX8_command_489 : decode cX8_command 489 = .ok (.iconst 1, 1) := dk_4 (dk_at dksX8_command_19 5 rfl rfl)
theorem dX8_command_490 : decode cX8_command 490 = .ok (.newarray .int, 2) := dk_188_10 (dk_at dksX8_command_19 6 rfl rfl)
theorem dX8_command_492 : decode cX8_command 492 = .ok (.dup, 1) := dk_89 (dk_at dksX8_command_19 8 rfl rfl)
theorem dX8_command_493 : decode cX8_command 493 = .ok (.iconst 0, 1) := dk_3 (dk_at dksX8_command_19 9 rfl rfl)
theorem dX8_command_494 : decode cX8_command 494 = .ok (.aload_n 0, 1) := dk_42 (dk_at dksX8_command_19 10 rfl rfl)
theorem dX8_command_495 : decode cX8_command 495 = .ok (.invokevirtual 46, 3) := dk_182 0 46 (dk_at dksX8_command_19 11 rfl rfl)
theorem dX8_command_498 : decode cX8_command 498 = .ok (.iastore, 1) := dk_79 (dk_at dksX8_command_19 14 rfl rfl)
theorem dX8_command_499 : decode cX8_command 499 = .ok (.invokespecial 101, 3) := dk_183 0 101 (dk_at dksX8_command_19 15 rfl rfl)
theorem dX8_command_502 : decode cX8_command 502 = .ok (.areturn, 1) := dk_176 (dk_at dksX8_command_19 18 rfl rfl)
abbrev cX8_word : ByteArray := prog_5_method_9_code
def yX8_word : MethodName := ⟨RX8, "word", "([Ljava/lang/String;)Ljava/lang/String;"⟩
def dkwX8_word_3 : List UInt8 := [187, 0, 37, 89, 42, 180, 0, 15, 28, 96, 183, 0, 39, 191]
abbrev dktX8_word_3 : List UInt8 := dkwX8_word_3 ++ []
def dkwX8_word_2 : List UInt8 := [160, 0, 17, 42, 89, 180, 0, 15, 21, 7, 96, 181, 0, 15, 25, 6, 176, 132, 5, 1, 167, 255, 201]
abbrev dktX8_word_2 : List UInt8 := dkwX8_word_2 ++ dktX8_word_3
def dkwX8_word_1 : List UInt8 := [42, 25, 6, 182, 0, 60, 54, 7, 28, 21, 7, 184, 0, 64, 61, 21, 7, 25, 6, 182, 0, 56]
abbrev dktX8_word_1 : List UInt8 := dkwX8_word_1 ++ dktX8_word_2
def dkwX8_word_0 : List UInt8 := [3, 61, 43, 78, 45, 190, 54, 4, 3, 54, 5, 21, 5, 21, 4, 162, 0, 54, 45, 21, 5, 50, 58, 6]
abbrev dktX8_word_0 : List UInt8 := dkwX8_word_0 ++ dktX8_word_1
theorem dksX8_word_0 : cX8_word.data.toList.drop 0 = dktX8_word_0 := by decide +kernel
theorem dksX8_word_1 : cX8_word.data.toList.drop 24 = dktX8_word_1 := dk_seg dksX8_word_0 24 rfl rfl
theorem dksX8_word_2 : cX8_word.data.toList.drop 46 = dktX8_word_2 := dk_seg dksX8_word_1 22 rfl rfl
theorem dksX8_word_3 : cX8_word.data.toList.drop 69 = dktX8_word_3 := dk_seg dksX8_word_2 23 rfl rfl
theorem dX8_word_0 : decode cX8_word 0 = .ok (.iconst 0, 1) := dk_3 (dk_at dksX8_word_0 0 rfl rfl)
theorem dX8_word_1 : decode cX8_word 1 = .ok (.istore_n 2, 1) := dk_61 (dk_at dksX8_word_0 1 rfl rfl)
theorem dX8_word_2 : decode cX8_word 2 = .ok (.aload_n 1, 1) := dk_43 (dk_at dksX8_word_0 2 rfl rfl)
theorem dX8_word_3 : decode cX8_word 3 = .ok (.astore_n 3, 1) := dk_78 (dk_at dksX8_word_0 3 rfl rfl)
theorem dX8_word_4 : decode cX8_word 4 = .ok (.aload_n 3, 1) := dk_45 (dk_at dksX8_word_0 4 rfl rfl)
theorem dX8_word_5 : decode cX8_word 5 = .ok (.arraylength, 1) := dk_190 (dk_at dksX8_word_0 5 rfl rfl)
theorem dX8_word_6 : decode cX8_word 6 = .ok (.istore 4, 2) := dk_54 4 (dk_at dksX8_word_0 6 rfl rfl)
theorem dX8_word_8 : decode cX8_word 8 = .ok (.iconst 0, 1) := dk_3 (dk_at dksX8_word_0 8 rfl rfl)
theorem dX8_word_9 : decode cX8_word 9 = .ok (.istore 5, 2) := dk_54 5 (dk_at dksX8_word_0 9 rfl rfl)
theorem dX8_word_11 : decode cX8_word 11 = .ok (.iload 5, 2) := dk_21 5 (dk_at dksX8_word_0 11 rfl rfl)
theorem dX8_word_13 : decode cX8_word 13 = .ok (.iload 4, 2) := dk_21 4 (dk_at dksX8_word_0 13 rfl rfl)
theorem dX8_word_15 : decode cX8_word 15 = .ok (.if_icmp .ge 54, 3) := dk_162 0 54 (dk_at dksX8_word_0 15 rfl rfl)
theorem dX8_word_18 : decode cX8_word 18 = .ok (.aload_n 3, 1) := dk_45 (dk_at dksX8_word_0 18 rfl rfl)
theorem dX8_word_19 : decode cX8_word 19 = .ok (.iload 5, 2) := dk_21 5 (dk_at dksX8_word_0 19 rfl rfl)
theorem dX8_word_21 : decode cX8_word 21 = .ok (.aaload, 1) := dk_50 (dk_at dksX8_word_0 21 rfl rfl)
theorem dX8_word_22 : decode cX8_word 22 = .ok (.astore 6, 2) := dk_58 6 (dk_at dksX8_word_0 22 rfl rfl)
theorem dX8_word_24 : decode cX8_word 24 = .ok (.aload_n 0, 1) := dk_42 (dk_at dksX8_word_1 0 rfl rfl)
theorem dX8_word_25 : decode cX8_word 25 = .ok (.aload 6, 2) := dk_25 6 (dk_at dksX8_word_1 1 rfl rfl)
theorem dX8_word_27 : decode cX8_word 27 = .ok (.invokevirtual 60, 3) := dk_182 0 60 (dk_at dksX8_word_1 3 rfl rfl)
theorem dX8_word_30 : decode cX8_word 30 = .ok (.istore 7, 2) := dk_54 7 (dk_at dksX8_word_1 6 rfl rfl)
theorem dX8_word_32 : decode cX8_word 32 = .ok (.iload_n 2, 1) := dk_28 (dk_at dksX8_word_1 8 rfl rfl)
theorem dX8_word_33 : decode cX8_word 33 = .ok (.iload 7, 2) := dk_21 7 (dk_at dksX8_word_1 9 rfl rfl)
theorem dX8_word_35 : decode cX8_word 35 = .ok (.invokestatic 64, 3) := dk_184 0 64 (dk_at dksX8_word_1 11 rfl rfl)
theorem dX8_word_38 : decode cX8_word 38 = .ok (.istore_n 2, 1) := dk_61 (dk_at dksX8_word_1 14 rfl rfl)
theorem dX8_word_39 : decode cX8_word 39 = .ok (.iload 7, 2) := dk_21 7 (dk_at dksX8_word_1 15 rfl rfl)
theorem dX8_word_41 : decode cX8_word 41 = .ok (.aload 6, 2) := dk_25 6 (dk_at dksX8_word_1 17 rfl rfl)
theorem dX8_word_43 : decode cX8_word 43 = .ok (.invokevirtual 56, 3) := dk_182 0 56 (dk_at dksX8_word_1 19 rfl rfl)
theorem dX8_word_46 : decode cX8_word 46 = .ok (.if_icmp .ne 17, 3) := dk_160 0 17 (dk_at dksX8_word_2 0 rfl rfl)
theorem dX8_word_49 : decode cX8_word 49 = .ok (.aload_n 0, 1) := dk_42 (dk_at dksX8_word_2 3 rfl rfl)
theorem dX8_word_50 : decode cX8_word 50 = .ok (.dup, 1) := dk_89 (dk_at dksX8_word_2 4 rfl rfl)
theorem dX8_word_51 : decode cX8_word 51 = .ok (.getfield 15, 3) := dk_180 0 15 (dk_at dksX8_word_2 5 rfl rfl)
theorem dX8_word_54 : decode cX8_word 54 = .ok (.iload 7, 2) := dk_21 7 (dk_at dksX8_word_2 8 rfl rfl)
theorem dX8_word_56 : decode cX8_word 56 = .ok (.iadd, 1) := dk_96 (dk_at dksX8_word_2 10 rfl rfl)
theorem dX8_word_57 : decode cX8_word 57 = .ok (.putfield 15, 3) := dk_181 0 15 (dk_at dksX8_word_2 11 rfl rfl)
theorem dX8_word_60 : decode cX8_word 60 = .ok (.aload 6, 2) := dk_25 6 (dk_at dksX8_word_2 14 rfl rfl)
theorem dX8_word_62 : decode cX8_word 62 = .ok (.areturn, 1) := dk_176 (dk_at dksX8_word_2 16 rfl rfl)
theorem dX8_word_63 : decode cX8_word 63 = .ok (.iinc 5 1, 3) := dk_132 5 1 (dk_at dksX8_word_2 17 rfl rfl)
theorem dX8_word_66 : decode cX8_word 66 = .ok (.goto (-55), 3) := dk_167 255 201 (dk_at dksX8_word_2 20 rfl rfl)
theorem dX8_word_69 : decode cX8_word 69 = .ok (.new 37, 3) := dk_187 0 37 (dk_at dksX8_word_3 0 rfl rfl)
theorem dX8_word_72 : decode cX8_word 72 = .ok (.dup, 1) := dk_89 (dk_at dksX8_word_3 3 rfl rfl)
theorem dX8_word_73 : decode cX8_word 73 = .ok (.aload_n 0, 1) := dk_42 (dk_at dksX8_word_3 4 rfl rfl)
theorem dX8_word_74 : decode cX8_word 74 = .ok (.getfield 15, 3) := dk_180 0 15 (dk_at dksX8_word_3 5 rfl rfl)
theorem dX8_word_77 : decode cX8_word 77 = .ok (.iload_n 2, 1) := dk_28 (dk_at dksX8_word_3 8 rfl rfl)
theorem dX8_word_78 : decode cX8_word 78 = .ok (.iadd, 1) := dk_96 (dk_at dksX8_word_3 9 rfl rfl)
theorem dX8_word_79 : decode cX8_word 79 = .ok (.invokespecial 39, 3) := dk_183 0 39 (dk_at dksX8_word_3 10 rfl rfl)
theorem dX8_word_82 : decode cX8_word 82 = .ok (.athrow, 1) := dk_191 (dk_at dksX8_word_3 13 rfl rfl)
abbrev cX8_common : ByteArray := prog_5_method_8_code
def yX8_common : MethodName := ⟨RX8, "common", "(Ljava/lang/String;)I"⟩
def dkwX8_common_2 : List UInt8 := [160, 0, 12, 132, 2, 1, 132, 3, 1, 167, 255, 211, 28, 172]
abbrev dktX8_common_2 : List UInt8 := dkwX8_common_2 ++ []
def dkwX8_common_1 : List UInt8 := [185, 0, 19, 1, 0, 162, 0, 30, 42, 180, 0, 9, 29, 185, 0, 25, 2, 0, 43, 28, 182, 0, 59]
abbrev dktX8_common_1 : List UInt8 := dkwX8_common_1 ++ dktX8_common_2
def dkwX8_common_0 : List UInt8 := [3, 61, 42, 180, 0, 15, 62, 28, 43, 182, 0, 56, 162, 0, 43, 29, 42, 180, 0, 9]
abbrev dktX8_common_0 : List UInt8 := dkwX8_common_0 ++ dktX8_common_1
theorem dksX8_common_0 : cX8_common.data.toList.drop 0 = dktX8_common_0 := by decide +kernel
theorem dksX8_common_1 : cX8_common.data.toList.drop 20 = dktX8_common_1 := dk_seg dksX8_common_0 20 rfl rfl
theorem dksX8_common_2 : cX8_common.data.toList.drop 43 = dktX8_common_2 := dk_seg dksX8_common_1 23 rfl rfl
theorem dX8_common_0 : decode cX8_common 0 = .ok (.iconst 0, 1) := dk_3 (dk_at dksX8_common_0 0 rfl rfl)
theorem dX8_common_1 : decode cX8_common 1 = .ok (.istore_n 2, 1) := dk_61 (dk_at dksX8_common_0 1 rfl rfl)
theorem dX8_common_2 : decode cX8_common 2 = .ok (.aload_n 0, 1) := dk_42 (dk_at dksX8_common_0 2 rfl rfl)
theorem dX8_common_3 : decode cX8_common 3 = .ok (.getfield 15, 3) := dk_180 0 15 (dk_at dksX8_common_0 3 rfl rfl)
theorem dX8_common_6 : decode cX8_common 6 = .ok (.istore_n 3, 1) := dk_62 (dk_at dksX8_common_0 6 rfl rfl)
theorem dX8_common_7 : decode cX8_common 7 = .ok (.iload_n 2, 1) := dk_28 (dk_at dksX8_common_0 7 rfl rfl)
theorem dX8_common_8 : decode cX8_common 8 = .ok (.aload_n 1, 1) := dk_43 (dk_at dksX8_common_0 8 rfl rfl)
theorem dX8_common_9 : decode cX8_common 9 = .ok (.invokevirtual 56, 3) := dk_182 0 56 (dk_at dksX8_common_0 9 rfl rfl)
theorem dX8_common_12 : decode cX8_common 12 = .ok (.if_icmp .ge 43, 3) := dk_162 0 43 (dk_at dksX8_common_0 12 rfl rfl)
theorem dX8_common_15 : decode cX8_common 15 = .ok (.iload_n 3, 1) := dk_29 (dk_at dksX8_common_0 15 rfl rfl)
theorem dX8_common_16 : decode cX8_common 16 = .ok (.aload_n 0, 1) := dk_42 (dk_at dksX8_common_0 16 rfl rfl)
theorem dX8_common_17 : decode cX8_common 17 = .ok (.getfield 9, 3) := dk_180 0 9 (dk_at dksX8_common_0 17 rfl rfl)
theorem dX8_common_20 : decode cX8_common 20 = .ok (.invokeinterface 19 1, 5) := by decide +kernel
theorem dX8_common_25 : decode cX8_common 25 = .ok (.if_icmp .ge 30, 3) := dk_162 0 30 (dk_at dksX8_common_1 5 rfl rfl)
theorem dX8_common_28 : decode cX8_common 28 = .ok (.aload_n 0, 1) := dk_42 (dk_at dksX8_common_1 8 rfl rfl)
theorem dX8_common_29 : decode cX8_common 29 = .ok (.getfield 9, 3) := dk_180 0 9 (dk_at dksX8_common_1 9 rfl rfl)
theorem dX8_common_32 : decode cX8_common 32 = .ok (.iload_n 3, 1) := dk_29 (dk_at dksX8_common_1 12 rfl rfl)
theorem dX8_common_33 : decode cX8_common 33 = .ok (.invokeinterface 25 2, 5) := by decide +kernel
theorem dX8_common_38 : decode cX8_common 38 = .ok (.aload_n 1, 1) := dk_43 (dk_at dksX8_common_1 18 rfl rfl)
theorem dX8_common_39 : decode cX8_common 39 = .ok (.iload_n 2, 1) := dk_28 (dk_at dksX8_common_1 19 rfl rfl)
theorem dX8_common_40 : decode cX8_common 40 = .ok (.invokevirtual 59, 3) := dk_182 0 59 (dk_at dksX8_common_1 20 rfl rfl)
theorem dX8_common_43 : decode cX8_common 43 = .ok (.if_icmp .ne 12, 3) := dk_160 0 12 (dk_at dksX8_common_2 0 rfl rfl)
theorem dX8_common_46 : decode cX8_common 46 = .ok (.iinc 2 1, 3) := dk_132 2 1 (dk_at dksX8_common_2 3 rfl rfl)
theorem dX8_common_49 : decode cX8_common 49 = .ok (.iinc 3 1, 3) := dk_132 3 1 (dk_at dksX8_common_2 6 rfl rfl)
theorem dX8_common_52 : decode cX8_common 52 = .ok (.goto (-45), 3) := dk_167 255 211 (dk_at dksX8_common_2 9 rfl rfl)
theorem dX8_common_55 : decode cX8_common 55 = .ok (.iload_n 2, 1) := dk_28 (dk_at dksX8_common_2 12 rfl rfl)
theorem dX8_common_56 : decode cX8_common 56 = .ok (.ireturn, 1) := dk_172 (dk_at dksX8_common_2 13 rfl rfl)
abbrev cX8_shape : ByteArray := prog_5_method_7_code
def yX8_shape : MethodName := ⟨RX8, "shape", "(Z)C"⟩
def dkwX8_shape_4 : List UInt8 := [180, 0, 15, 4, 100, 185, 0, 25, 2, 0, 172]
abbrev dktX8_shape_4 : List UInt8 := dkwX8_shape_4 ++ []
def dkwX8_shape_3 : List UInt8 := [42, 180, 0, 15, 183, 0, 39, 191, 42, 89, 180, 0, 15, 4, 96, 181, 0, 15, 42, 180, 0, 9, 42]
abbrev dktX8_shape_3 : List UInt8 := dkwX8_shape_3 ++ dktX8_shape_4
def dkwX8_shape_2 : List UInt8 := [185, 0, 25, 2, 0, 16, 42, 160, 0, 7, 4, 167, 0, 4, 3, 61, 28, 154, 0, 15, 187, 0, 37, 89]
abbrev dktX8_shape_2 : List UInt8 := dkwX8_shape_2 ++ dktX8_shape_3
def dkwX8_shape_1 : List UInt8 := [185, 0, 25, 2, 0, 184, 0, 52, 154, 0, 25, 27, 153, 0, 25, 42, 180, 0, 9, 42, 180, 0, 15]
abbrev dktX8_shape_1 : List UInt8 := dkwX8_shape_1 ++ dktX8_shape_2
def dkwX8_shape_0 : List UInt8 := [42, 180, 0, 15, 42, 180, 0, 9, 185, 0, 19, 1, 0, 162, 0, 48, 42, 180, 0, 9, 42, 180, 0, 15]
abbrev dktX8_shape_0 : List UInt8 := dkwX8_shape_0 ++ dktX8_shape_1
theorem dksX8_shape_0 : cX8_shape.data.toList.drop 0 = dktX8_shape_0 := by decide +kernel
theorem dksX8_shape_1 : cX8_shape.data.toList.drop 24 = dktX8_shape_1 := dk_seg dksX8_shape_0 24 rfl rfl
theorem dksX8_shape_2 : cX8_shape.data.toList.drop 47 = dktX8_shape_2 := dk_seg dksX8_shape_1 23 rfl rfl
theorem dksX8_shape_3 : cX8_shape.data.toList.drop 71 = dktX8_shape_3 := dk_seg dksX8_shape_2 24 rfl rfl
theorem dksX8_shape_4 : cX8_shape.data.toList.drop 94 = dktX8_shape_4 := dk_seg dksX8_shape_3 23 rfl rfl
theorem dX8_shape_0 : decode cX8_shape 0 = .ok (.aload_n 0, 1) := dk_42 (dk_at dksX8_shape_0 0 rfl rfl)
theorem dX8_shape_1 : decode cX8_shape 1 = .ok (.getfield 15, 3) := dk_180 0 15 (dk_at dksX8_shape_0 1 rfl rfl)
theorem dX8_shape_4 : decode cX8_shape 4 = .ok (.aload_n 0, 1) := dk_42 (dk_at dksX8_shape_0 4 rfl rfl)
theorem dX8_shape_5 : decode cX8_shape 5 = .ok (.getfield 9, 3) := dk_180 0 9 (dk_at dksX8_shape_0 5 rfl rfl)
theorem dX8_shape_8 : decode cX8_shape 8 = .ok (.invokeinterface 19 1, 5) := by decide +kernel
theorem dX8_shape_13 : decode cX8_shape 13 = .ok (.if_icmp .ge 48, 3) := dk_162 0 48 (dk_at dksX8_shape_0 13 rfl rfl)
theorem dX8_shape_16 : decode cX8_shape 16 = .ok (.aload_n 0, 1) := dk_42 (dk_at dksX8_shape_0 16 rfl rfl)
theorem dX8_shape_17 : decode cX8_shape 17 = .ok (.getfield 9, 3) := dk_180 0 9 (dk_at dksX8_shape_0 17 rfl rfl)
theorem dX8_shape_20 : decode cX8_shape 20 = .ok (.aload_n 0, 1) := dk_42 (dk_at dksX8_shape_0 20 rfl rfl)
theorem dX8_shape_21 : decode cX8_shape 21 = .ok (.getfield 15, 3) := dk_180 0 15 (dk_at dksX8_shape_0 21 rfl rfl)
theorem dX8_shape_24 : decode cX8_shape 24 = .ok (.invokeinterface 25 2, 5) := by decide +kernel
theorem dX8_shape_29 : decode cX8_shape 29 = .ok (.invokestatic 52, 3) := dk_184 0 52 (dk_at dksX8_shape_1 5 rfl rfl)
theorem dX8_shape_32 : decode cX8_shape 32 = .ok (.ifCond .ne 25, 3) := dk_154 0 25 (dk_at dksX8_shape_1 8 rfl rfl)
theorem dX8_shape_35 : decode cX8_shape 35 = .ok (.iload_n 1, 1) := dk_27 (dk_at dksX8_shape_1 11 rfl rfl)
theorem dX8_shape_36 : decode cX8_shape 36 = .ok (.ifCond .eq 25, 3) := dk_153 0 25 (dk_at dksX8_shape_1 12 rfl rfl)
theorem dX8_shape_39 : decode cX8_shape 39 = .ok (.aload_n 0, 1) := dk_42 (dk_at dksX8_shape_1 15 rfl rfl)
theorem dX8_shape_40 : decode cX8_shape 40 = .ok (.getfield 9, 3) := dk_180 0 9 (dk_at dksX8_shape_1 16 rfl rfl)
theorem dX8_shape_43 : decode cX8_shape 43 = .ok (.aload_n 0, 1) := dk_42 (dk_at dksX8_shape_1 19 rfl rfl)
theorem dX8_shape_44 : decode cX8_shape 44 = .ok (.getfield 15, 3) := dk_180 0 15 (dk_at dksX8_shape_1 20 rfl rfl)
theorem dX8_shape_47 : decode cX8_shape 47 = .ok (.invokeinterface 25 2, 5) := by decide +kernel
theorem dX8_shape_52 : decode cX8_shape 52 = .ok (.bipush 42, 2) := dk_16 42 (dk_at dksX8_shape_2 5 rfl rfl)
theorem dX8_shape_54 : decode cX8_shape 54 = .ok (.if_icmp .ne 7, 3) := dk_160 0 7 (dk_at dksX8_shape_2 7 rfl rfl)
theorem dX8_shape_57 : decode cX8_shape 57 = .ok (.iconst 1, 1) := dk_4 (dk_at dksX8_shape_2 10 rfl rfl)
theorem dX8_shape_58 : decode cX8_shape 58 = .ok (.goto 4, 3) := dk_167 0 4 (dk_at dksX8_shape_2 11 rfl rfl)
theorem dX8_shape_61 : decode cX8_shape 61 = .ok (.iconst 0, 1) := dk_3 (dk_at dksX8_shape_2 14 rfl rfl)
theorem dX8_shape_62 : decode cX8_shape 62 = .ok (.istore_n 2, 1) := dk_61 (dk_at dksX8_shape_2 15 rfl rfl)
theorem dX8_shape_63 : decode cX8_shape 63 = .ok (.iload_n 2, 1) := dk_28 (dk_at dksX8_shape_2 16 rfl rfl)
theorem dX8_shape_64 : decode cX8_shape 64 = .ok (.ifCond .ne 15, 3) := dk_154 0 15 (dk_at dksX8_shape_2 17 rfl rfl)
theorem dX8_shape_67 : decode cX8_shape 67 = .ok (.new 37, 3) := dk_187 0 37 (dk_at dksX8_shape_2 20 rfl rfl)
theorem dX8_shape_70 : decode cX8_shape 70 = .ok (.dup, 1) := dk_89 (dk_at dksX8_shape_2 23 rfl rfl)
theorem dX8_shape_71 : decode cX8_shape 71 = .ok (.aload_n 0, 1) := dk_42 (dk_at dksX8_shape_3 0 rfl rfl)
theorem dX8_shape_72 : decode cX8_shape 72 = .ok (.getfield 15, 3) := dk_180 0 15 (dk_at dksX8_shape_3 1 rfl rfl)
theorem dX8_shape_75 : decode cX8_shape 75 = .ok (.invokespecial 39, 3) := dk_183 0 39 (dk_at dksX8_shape_3 4 rfl rfl)
theorem dX8_shape_78 : decode cX8_shape 78 = .ok (.athrow, 1) := dk_191 (dk_at dksX8_shape_3 7 rfl rfl)
theorem dX8_shape_79 : decode cX8_shape 79 = .ok (.aload_n 0, 1) := dk_42 (dk_at dksX8_shape_3 8 rfl rfl)
theorem dX8_shape_80 : decode cX8_shape 80 = .ok (.dup, 1) := dk_89 (dk_at dksX8_shape_3 9 rfl rfl)
theorem dX8_shape_81 : decode cX8_shape 81 = .ok (.getfield 15, 3) := dk_180 0 15 (dk_at dksX8_shape_3 10 rfl rfl)
theorem dX8_shape_84 : decode cX8_shape 84 = .ok (.iconst 1, 1) := dk_4 (dk_at dksX8_shape_3 13 rfl rfl)
theorem dX8_shape_85 : decode cX8_shape 85 = .ok (.iadd, 1) := dk_96 (dk_at dksX8_shape_3 14 rfl rfl)
theorem dX8_shape_86 : decode cX8_shape 86 = .ok (.putfield 15, 3) := dk_181 0 15 (dk_at dksX8_shape_3 15 rfl rfl)
theorem dX8_shape_89 : decode cX8_shape 89 = .ok (.aload_n 0, 1) := dk_42 (dk_at dksX8_shape_3 18 rfl rfl)
theorem dX8_shape_90 : decode cX8_shape 90 = .ok (.getfield 9, 3) := dk_180 0 9 (dk_at dksX8_shape_3 19 rfl rfl)
theorem dX8_shape_93 : decode cX8_shape 93 = .ok (.aload_n 0, 1) := dk_42 (dk_at dksX8_shape_3 22 rfl rfl)
theorem dX8_shape_94 : decode cX8_shape 94 = .ok (.getfield 15, 3) := dk_180 0 15 (dk_at dksX8_shape_4 0 rfl rfl)
theorem dX8_shape_97 : decode cX8_shape 97 = .ok (.iconst 1, 1) := dk_4 (dk_at dksX8_shape_4 3 rfl rfl)
theorem dX8_shape_98 : decode cX8_shape 98 = .ok (.isub, 1) := dk_100 (dk_at dksX8_shape_4 4 rfl rfl)
theorem dX8_shape_99 : decode cX8_shape 99 = .ok (.invokeinterface 25 2, 5) := by decide +kernel
theorem dX8_shape_104 : decode cX8_shape 104 = .ok (.ireturn, 1) := dk_172 (dk_at dksX8_shape_4 10 rfl rfl)
abbrev cX8_number : ByteArray := prog_5_method_5_code
def yX8_number : MethodName := ⟨RX8, "number", "()I"⟩
def dkwX8_number_1 : List UInt8 := [27, 104, 42, 182, 0, 46, 96, 60, 132, 2, 255, 167, 255, 228, 27, 172]
abbrev dktX8_number_1 : List UInt8 := dkwX8_number_1 ++ []
def dkwX8_number_0 : List UInt8 := [42, 182, 0, 46, 60, 5, 61, 28, 158, 0, 30, 42, 16, 48, 16, 57, 182, 0, 33, 153, 0, 19, 16, 10]
abbrev dktX8_number_0 : List UInt8 := dkwX8_number_0 ++ dktX8_number_1
theorem dksX8_number_0 : cX8_number.data.toList.drop 0 = dktX8_number_0 := by decide +kernel
theorem dksX8_number_1 : cX8_number.data.toList.drop 24 = dktX8_number_1 := dk_seg dksX8_number_0 24 rfl rfl
theorem dX8_number_0 : decode cX8_number 0 = .ok (.aload_n 0, 1) := dk_42 (dk_at dksX8_number_0 0 rfl rfl)
theorem dX8_number_1 : decode cX8_number 1 = .ok (.invokevirtual 46, 3) := dk_182 0 46 (dk_at dksX8_number_0 1 rfl rfl)
theorem dX8_number_4 : decode cX8_number 4 = .ok (.istore_n 1, 1) := dk_60 (dk_at dksX8_number_0 4 rfl rfl)
theorem dX8_number_5 : decode cX8_number 5 = .ok (.iconst 2, 1) := dk_5 (dk_at dksX8_number_0 5 rfl rfl)
theorem dX8_number_6 : decode cX8_number 6 = .ok (.istore_n 2, 1) := dk_61 (dk_at dksX8_number_0 6 rfl rfl)
theorem dX8_number_7 : decode cX8_number 7 = .ok (.iload_n 2, 1) := dk_28 (dk_at dksX8_number_0 7 rfl rfl)
theorem dX8_number_8 : decode cX8_number 8 = .ok (.ifCond .le 30, 3) := dk_158 0 30 (dk_at dksX8_number_0 8 rfl rfl)
theorem dX8_number_11 : decode cX8_number 11 = .ok (.aload_n 0, 1) := dk_42 (dk_at dksX8_number_0 11 rfl rfl)
theorem dX8_number_12 : decode cX8_number 12 = .ok (.bipush 48, 2) := dk_16 48 (dk_at dksX8_number_0 12 rfl rfl)
theorem dX8_number_14 : decode cX8_number 14 = .ok (.bipush 57, 2) := dk_16 57 (dk_at dksX8_number_0 14 rfl rfl)
theorem dX8_number_16 : decode cX8_number 16 = .ok (.invokevirtual 33, 3) := dk_182 0 33 (dk_at dksX8_number_0 16 rfl rfl)
theorem dX8_number_19 : decode cX8_number 19 = .ok (.ifCond .eq 19, 3) := dk_153 0 19 (dk_at dksX8_number_0 19 rfl rfl)
theorem dX8_number_22 : decode cX8_number 22 = .ok (.bipush 10, 2) := dk_16 10 (dk_at dksX8_number_0 22 rfl rfl)
theorem dX8_number_24 : decode cX8_number 24 = .ok (.iload_n 1, 1) := dk_27 (dk_at dksX8_number_1 0 rfl rfl)
theorem dX8_number_25 : decode cX8_number 25 = .ok (.imul, 1) := dk_104 (dk_at dksX8_number_1 1 rfl rfl)
theorem dX8_number_26 : decode cX8_number 26 = .ok (.aload_n 0, 1) := dk_42 (dk_at dksX8_number_1 2 rfl rfl)
theorem dX8_number_27 : decode cX8_number 27 = .ok (.invokevirtual 46, 3) := dk_182 0 46 (dk_at dksX8_number_1 3 rfl rfl)
theorem dX8_number_30 : decode cX8_number 30 = .ok (.iadd, 1) := dk_96 (dk_at dksX8_number_1 6 rfl rfl)
theorem dX8_number_31 : decode cX8_number 31 = .ok (.istore_n 1, 1) := dk_60 (dk_at dksX8_number_1 7 rfl rfl)
theorem dX8_number_32 : decode cX8_number 32 = .ok (.iinc 2 (-1), 3) := dk_132 2 255 (dk_at dksX8_number_1 8 rfl rfl)
theorem dX8_number_35 : decode cX8_number 35 = .ok (.goto (-28), 3) := dk_167 255 228 (dk_at dksX8_number_1 11 rfl rfl)
theorem dX8_number_38 : decode cX8_number 38 = .ok (.iload_n 1, 1) := dk_27 (dk_at dksX8_number_1 14 rfl rfl)
theorem dX8_number_39 : decode cX8_number 39 = .ok (.ireturn, 1) := dk_172 (dk_at dksX8_number_1 15 rfl rfl)
abbrev cX8_digit : ByteArray := prog_5_method_4_code
def yX8_digit : MethodName := ⟨RX8, "digit", "()I"⟩
def dkwX8_digit_0 : List UInt8 := [42, 16, 48, 16, 57, 182, 0, 42, 16, 48, 100, 172]
abbrev dktX8_digit_0 : List UInt8 := dkwX8_digit_0 ++ []
theorem dksX8_digit_0 : cX8_digit.data.toList.drop 0 = dktX8_digit_0 := by decide +kernel
theorem dX8_digit_0 : decode cX8_digit 0 = .ok (.aload_n 0, 1) := dk_42 (dk_at dksX8_digit_0 0 rfl rfl)
theorem dX8_digit_1 : decode cX8_digit 1 = .ok (.bipush 48, 2) := dk_16 48 (dk_at dksX8_digit_0 1 rfl rfl)
theorem dX8_digit_3 : decode cX8_digit 3 = .ok (.bipush 57, 2) := dk_16 57 (dk_at dksX8_digit_0 3 rfl rfl)
theorem dX8_digit_5 : decode cX8_digit 5 = .ok (.invokevirtual 42, 3) := dk_182 0 42 (dk_at dksX8_digit_0 5 rfl rfl)
theorem dX8_digit_8 : decode cX8_digit 8 = .ok (.bipush 48, 2) := dk_16 48 (dk_at dksX8_digit_0 8 rfl rfl)
theorem dX8_digit_10 : decode cX8_digit 10 = .ok (.isub, 1) := dk_100 (dk_at dksX8_digit_0 10 rfl rfl)
theorem dX8_digit_11 : decode cX8_digit 11 = .ok (.ireturn, 1) := dk_172 (dk_at dksX8_digit_0 11 rfl rfl)
abbrev cX8_take : ByteArray := prog_5_method_3_code
def yX8_take : MethodName := ⟨RX8, "take", "(CC)C"⟩
def dkwX8_take_1 : List UInt8 := [180, 0, 15, 4, 96, 181, 0, 15, 42, 180, 0, 9, 42, 180, 0, 15, 4, 100, 185, 0, 25, 2, 0, 172]
abbrev dktX8_take_1 : List UInt8 := dkwX8_take_1 ++ []
def dkwX8_take_0 : List UInt8 := [42, 27, 28, 182, 0, 33, 154, 0, 15, 187, 0, 37, 89, 42, 180, 0, 15, 183, 0, 39, 191, 42, 89]
abbrev dktX8_take_0 : List UInt8 := dkwX8_take_0 ++ dktX8_take_1
theorem dksX8_take_0 : cX8_take.data.toList.drop 0 = dktX8_take_0 := by decide +kernel
theorem dksX8_take_1 : cX8_take.data.toList.drop 23 = dktX8_take_1 := dk_seg dksX8_take_0 23 rfl rfl
theorem dX8_take_0 : decode cX8_take 0 = .ok (.aload_n 0, 1) := dk_42 (dk_at dksX8_take_0 0 rfl rfl)
theorem dX8_take_1 : decode cX8_take 1 = .ok (.iload_n 1, 1) := dk_27 (dk_at dksX8_take_0 1 rfl rfl)
theorem dX8_take_2 : decode cX8_take 2 = .ok (.iload_n 2, 1) := dk_28 (dk_at dksX8_take_0 2 rfl rfl)
theorem dX8_take_3 : decode cX8_take 3 = .ok (.invokevirtual 33, 3) := dk_182 0 33 (dk_at dksX8_take_0 3 rfl rfl)
theorem dX8_take_6 : decode cX8_take 6 = .ok (.ifCond .ne 15, 3) := dk_154 0 15 (dk_at dksX8_take_0 6 rfl rfl)
theorem dX8_take_9 : decode cX8_take 9 = .ok (.new 37, 3) := dk_187 0 37 (dk_at dksX8_take_0 9 rfl rfl)
theorem dX8_take_12 : decode cX8_take 12 = .ok (.dup, 1) := dk_89 (dk_at dksX8_take_0 12 rfl rfl)
theorem dX8_take_13 : decode cX8_take 13 = .ok (.aload_n 0, 1) := dk_42 (dk_at dksX8_take_0 13 rfl rfl)
theorem dX8_take_14 : decode cX8_take 14 = .ok (.getfield 15, 3) := dk_180 0 15 (dk_at dksX8_take_0 14 rfl rfl)
theorem dX8_take_17 : decode cX8_take 17 = .ok (.invokespecial 39, 3) := dk_183 0 39 (dk_at dksX8_take_0 17 rfl rfl)
theorem dX8_take_20 : decode cX8_take 20 = .ok (.athrow, 1) := dk_191 (dk_at dksX8_take_0 20 rfl rfl)
theorem dX8_take_21 : decode cX8_take 21 = .ok (.aload_n 0, 1) := dk_42 (dk_at dksX8_take_0 21 rfl rfl)
theorem dX8_take_22 : decode cX8_take 22 = .ok (.dup, 1) := dk_89 (dk_at dksX8_take_0 22 rfl rfl)
theorem dX8_take_23 : decode cX8_take 23 = .ok (.getfield 15, 3) := dk_180 0 15 (dk_at dksX8_take_1 0 rfl rfl)
theorem dX8_take_26 : decode cX8_take 26 = .ok (.iconst 1, 1) := dk_4 (dk_at dksX8_take_1 3 rfl rfl)
theorem dX8_take_27 : decode cX8_take 27 = .ok (.iadd, 1) := dk_96 (dk_at dksX8_take_1 4 rfl rfl)
theorem dX8_take_28 : decode cX8_take 28 = .ok (.putfield 15, 3) := dk_181 0 15 (dk_at dksX8_take_1 5 rfl rfl)
theorem dX8_take_31 : decode cX8_take 31 = .ok (.aload_n 0, 1) := dk_42 (dk_at dksX8_take_1 8 rfl rfl)
theorem dX8_take_32 : decode cX8_take 32 = .ok (.getfield 9, 3) := dk_180 0 9 (dk_at dksX8_take_1 9 rfl rfl)
theorem dX8_take_35 : decode cX8_take 35 = .ok (.aload_n 0, 1) := dk_42 (dk_at dksX8_take_1 12 rfl rfl)
theorem dX8_take_36 : decode cX8_take 36 = .ok (.getfield 15, 3) := dk_180 0 15 (dk_at dksX8_take_1 13 rfl rfl)
theorem dX8_take_39 : decode cX8_take 39 = .ok (.iconst 1, 1) := dk_4 (dk_at dksX8_take_1 16 rfl rfl)
theorem dX8_take_40 : decode cX8_take 40 = .ok (.isub, 1) := dk_100 (dk_at dksX8_take_1 17 rfl rfl)
theorem dX8_take_41 : decode cX8_take 41 = .ok (.invokeinterface 25 2, 5) := by decide +kernel
theorem dX8_take_46 : decode cX8_take 46 = .ok (.ireturn, 1) := dk_172 (dk_at dksX8_take_1 23 rfl rfl)
abbrev cX8_isNext : ByteArray := prog_5_method_2_code
def yX8_isNext : MethodName := ⟨RX8, "isNext", "(CC)Z"⟩
def dkwX8_isNext_1 : List UInt8 := [185, 0, 25, 2, 0, 133, 27, 133, 28, 133, 184, 0, 29, 153, 0, 7, 4, 167, 0, 4, 3, 172]
abbrev dktX8_isNext_1 : List UInt8 := dkwX8_isNext_1 ++ []
def dkwX8_isNext_0 : List UInt8 := [42, 180, 0, 15, 42, 180, 0, 9, 185, 0, 19, 1, 0, 162, 0, 31, 42, 180, 0, 9, 42, 180, 0, 15]
abbrev dktX8_isNext_0 : List UInt8 := dkwX8_isNext_0 ++ dktX8_isNext_1
theorem dksX8_isNext_0 : cX8_isNext.data.toList.drop 0 = dktX8_isNext_0 := by decide +kernel
theorem dksX8_isNext_1 : cX8_isNext.data.toList.drop 24 = dktX8_isNext_1 := dk_seg dksX8_isNext_0 24 rfl rfl
theorem dX8_isNext_0 : decode cX8_isNext 0 = .ok (.aload_n 0, 1) := dk_42 (dk_at dksX8_isNext_0 0 rfl rfl)
theorem dX8_isNext_1 : decode cX8_isNext 1 = .ok (.getfield 15, 3) := dk_180 0 15 (dk_at dksX8_isNext_0 1 rfl rfl)
theorem dX8_isNext_4 : decode cX8_isNext 4 = .ok (.aload_n 0, 1) := dk_42 (dk_at dksX8_isNext_0 4 rfl rfl)
theorem dX8_isNext_5 : decode cX8_isNext 5 = .ok (.getfield 9, 3) := dk_180 0 9 (dk_at dksX8_isNext_0 5 rfl rfl)
theorem dX8_isNext_8 : decode cX8_isNext 8 = .ok (.invokeinterface 19 1, 5) := by decide +kernel
theorem dX8_isNext_13 : decode cX8_isNext 13 = .ok (.if_icmp .ge 31, 3) := dk_162 0 31 (dk_at dksX8_isNext_0 13 rfl rfl)
theorem dX8_isNext_16 : decode cX8_isNext 16 = .ok (.aload_n 0, 1) := dk_42 (dk_at dksX8_isNext_0 16 rfl rfl)
theorem dX8_isNext_17 : decode cX8_isNext 17 = .ok (.getfield 9, 3) := dk_180 0 9 (dk_at dksX8_isNext_0 17 rfl rfl)
theorem dX8_isNext_20 : decode cX8_isNext 20 = .ok (.aload_n 0, 1) := dk_42 (dk_at dksX8_isNext_0 20 rfl rfl)
theorem dX8_isNext_21 : decode cX8_isNext 21 = .ok (.getfield 15, 3) := dk_180 0 15 (dk_at dksX8_isNext_0 21 rfl rfl)
theorem dX8_isNext_24 : decode cX8_isNext 24 = .ok (.invokeinterface 25 2, 5) := by decide +kernel
theorem dX8_isNext_29 : decode cX8_isNext 29 = .ok (.i2l, 1) := dk_133 (dk_at dksX8_isNext_1 5 rfl rfl)
theorem dX8_isNext_30 : decode cX8_isNext 30 = .ok (.iload_n 1, 1) := dk_27 (dk_at dksX8_isNext_1 6 rfl rfl)
theorem dX8_isNext_31 : decode cX8_isNext 31 = .ok (.i2l, 1) := dk_133 (dk_at dksX8_isNext_1 7 rfl rfl)
theorem dX8_isNext_32 : decode cX8_isNext 32 = .ok (.iload_n 2, 1) := dk_28 (dk_at dksX8_isNext_1 8 rfl rfl)
theorem dX8_isNext_33 : decode cX8_isNext 33 = .ok (.i2l, 1) := dk_133 (dk_at dksX8_isNext_1 9 rfl rfl)
theorem dX8_isNext_34 : decode cX8_isNext 34 = .ok (.invokestatic 29, 3) := dk_184 0 29 (dk_at dksX8_isNext_1 10 rfl rfl)
theorem dX8_isNext_37 : decode cX8_isNext 37 = .ok (.ifCond .eq 7, 3) := dk_153 0 7 (dk_at dksX8_isNext_1 13 rfl rfl)
theorem dX8_isNext_40 : decode cX8_isNext 40 = .ok (.iconst 1, 1) := dk_4 (dk_at dksX8_isNext_1 16 rfl rfl)
theorem dX8_isNext_41 : decode cX8_isNext 41 = .ok (.goto 4, 3) := dk_167 0 4 (dk_at dksX8_isNext_1 17 rfl rfl)
theorem dX8_isNext_44 : decode cX8_isNext 44 = .ok (.iconst 0, 1) := dk_3 (dk_at dksX8_isNext_1 20 rfl rfl)
theorem dX8_isNext_45 : decode cX8_isNext 45 = .ok (.ireturn, 1) := dk_172 (dk_at dksX8_isNext_1 21 rfl rfl)
abbrev cX8_numberAfter : ByteArray := prog_5_method_6_code
def yX8_numberAfter : MethodName := ⟨RX8, "numberAfter", "(C)I"⟩
def dkwX8_numberAfter_0 : List UInt8 := [42, 27, 27, 182, 0, 42, 61, 42, 182, 0, 49, 172]
abbrev dktX8_numberAfter_0 : List UInt8 := dkwX8_numberAfter_0 ++ []
theorem dksX8_numberAfter_0 : cX8_numberAfter.data.toList.drop 0 = dktX8_numberAfter_0 := by decide +kernel
theorem dX8_numberAfter_0 : decode cX8_numberAfter 0 = .ok (.aload_n 0, 1) := dk_42 (dk_at dksX8_numberAfter_0 0 rfl rfl)
theorem dX8_numberAfter_1 : decode cX8_numberAfter 1 = .ok (.iload_n 1, 1) := dk_27 (dk_at dksX8_numberAfter_0 1 rfl rfl)
theorem dX8_numberAfter_2 : decode cX8_numberAfter 2 = .ok (.iload_n 1, 1) := dk_27 (dk_at dksX8_numberAfter_0 2 rfl rfl)
theorem dX8_numberAfter_3 : decode cX8_numberAfter 3 = .ok (.invokevirtual 42, 3) := dk_182 0 42 (dk_at dksX8_numberAfter_0 3 rfl rfl)
theorem dX8_numberAfter_6 : decode cX8_numberAfter 6 = .ok (.istore_n 2, 1) := dk_61 (dk_at dksX8_numberAfter_0 6 rfl rfl)
theorem dX8_numberAfter_7 : decode cX8_numberAfter 7 = .ok (.aload_n 0, 1) := dk_42 (dk_at dksX8_numberAfter_0 7 rfl rfl)
theorem dX8_numberAfter_8 : decode cX8_numberAfter 8 = .ok (.invokevirtual 49, 3) := dk_182 0 49 (dk_at dksX8_numberAfter_0 8 rfl rfl)
theorem dX8_numberAfter_11 : decode cX8_numberAfter 11 = .ok (.ireturn, 1) := dk_172 (dk_at dksX8_numberAfter_0 11 rfl rfl)
theorem q126 : (Jvm.Cond.initialized "CloudInterviews$Parser") ∈ lw_all := lw_g (lw_at lw_m1 46 rfl) rfl
theorem q537 : (Jvm.Cond.selects "CloudInterviews$Parser" ({ cls := "java/lang/Object", name := "getClass", desc := "()Ljava/lang/Class;" } : Jvm.MethodName) ({ cls := "java/lang/Object", name := "getClass", desc := "()Ljava/lang/Class;" } : Jvm.MethodName)) ∈ lw_all := lw_g (lw_at lw_m2 217 rfl) rfl
theorem q659 : (Jvm.Cond.selects "CloudInterviews$Parser" ({ cls := "java/lang/Object", name := "hashCode", desc := "()I" } : Jvm.MethodName) ({ cls := "java/lang/Object", name := "hashCode", desc := "()I" } : Jvm.MethodName)) ∈ lw_all := lw_g (lw_at lw_m3 99 rfl) rfl
theorem q1272 : (Jvm.Cond.selects "CloudInterviews$Parser" ({ cls := "java/lang/Object", name := "equals", desc := "(Ljava/lang/Object;)Z" } : Jvm.MethodName) ({ cls := "java/lang/Object", name := "equals", desc := "(Ljava/lang/Object;)Z" } : Jvm.MethodName)) ∈ lw_all := lw_g (lw_at lw_m5 232 rfl) rfl
theorem q2272 : (Jvm.Cond.instantiable "CloudInterviews$Parser" (2 : Nat)) ∈ lw_all := lw_g (lw_at lw_m10 32 rfl) rfl
theorem q2274 : (Jvm.Cond.instanceMethod ({ cls := "CloudInterviews$Parser", name := "<init>", desc := "(Ljava/lang/CharSequence;)V" } : Jvm.MethodName)) ∈ lw_all := lw_g (lw_at lw_m10 34 rfl) rfl
theorem q2275 : (Jvm.Cond.code ({ cls := "CloudInterviews$Parser", name := "<init>", desc := "(Ljava/lang/CharSequence;)V" } : Jvm.MethodName) prog_5_method_1_code (2 : Nat) (Option.none : Option Jvm.ClassFile.FieldType)) ∈ lw_all := lw_g (lw_at lw_m10 35 rfl) rfl
theorem q2276 : (Jvm.Cond.methodLink "CloudInterviews$Parser" (3 : Nat) ({ cls := "java/lang/Object", name := "<init>", desc := "()V" } : Jvm.MethodName)) ∈ lw_all := lw_g (lw_at lw_m10 36 rfl) rfl
theorem q2277 : (Jvm.Cond.fieldLink "CloudInterviews$Parser" (9 : Nat) "CloudInterviews$Parser" "text" "Ljava/lang/CharSequence;") ∈ lw_all := lw_g (lw_at lw_m10 37 rfl) rfl
theorem q2278 : (Jvm.Cond.fieldLink "CloudInterviews$Parser" (15 : Nat) "CloudInterviews$Parser" "position" "I") ∈ lw_all := lw_g (lw_at lw_m10 38 rfl) rfl
theorem q2279 : (Jvm.Cond.laysFinal "CloudInterviews$Parser" "CloudInterviews$Parser" "text" "Ljava/lang/CharSequence;") ∈ lw_all := lw_g (lw_at lw_m10 39 rfl) rfl
theorem q2280 : (Jvm.Cond.soleField "CloudInterviews$Parser" "text") ∈ lw_all := lw_g (lw_at lw_m10 40 rfl) rfl
theorem q2281 : (Jvm.Cond.lays "CloudInterviews$Parser" "CloudInterviews$Parser" "position" "I") ∈ lw_all := lw_g (lw_at lw_m10 41 rfl) rfl
theorem q2282 : (Jvm.Cond.soleField "CloudInterviews$Parser" "position") ∈ lw_all := lw_g (lw_at lw_m10 42 rfl) rfl
theorem q2283 : (Jvm.Cond.superclass "CloudInterviews$Parser" "java/lang/Object") ∈ lw_all := lw_g (lw_at lw_m10 43 rfl) rfl
theorem q2285 : (Jvm.Cond.instanceMethod ({ cls := "CloudInterviews$Parser", name := "commands", desc := "()Ljava/util/ArrayList;" } : Jvm.MethodName)) ∈ lw_all := lw_g (lw_at lw_m10 45 rfl) rfl
theorem q2286 : (Jvm.Cond.selects "CloudInterviews$Parser" ({ cls := "CloudInterviews$Parser", name := "commands", desc := "()Ljava/util/ArrayList;" } : Jvm.MethodName) ({ cls := "CloudInterviews$Parser", name := "commands", desc := "()Ljava/util/ArrayList;" } : Jvm.MethodName)) ∈ lw_all := lw_g (lw_at lw_m10 46 rfl) rfl
theorem q2287 : (Jvm.Cond.code ({ cls := "CloudInterviews$Parser", name := "commands", desc := "()Ljava/util/ArrayList;" } : Jvm.MethodName) prog_5_method_11_code (4 : Nat) (Option.some (Jvm.ClassFile.FieldType.object "java/util/ArrayList"))) ∈ lw_all := lw_g (lw_at lw_m10 47 rfl) rfl
theorem q2288 : (Jvm.Cond.classLink "CloudInterviews$Parser" (112 : Nat) "java/util/ArrayList") ∈ lw_all := lw_g (lw_at lw_m10 48 rfl) rfl
theorem q2289 : (Jvm.Cond.methodLink "CloudInterviews$Parser" (114 : Nat) ({ cls := "java/util/ArrayList", name := "<init>", desc := "()V" } : Jvm.MethodName)) ∈ lw_all := lw_g (lw_at lw_m10 49 rfl) rfl
theorem q2290 : (Jvm.Cond.methodLink "CloudInterviews$Parser" (115 : Nat) ({ cls := "CloudInterviews$Parser", name := "command", desc := "()LCloudInterviews$Command;" } : Jvm.MethodName)) ∈ lw_all := lw_g (lw_at lw_m10 50 rfl) rfl
theorem q2291 : (Jvm.Cond.privateMethod ({ cls := "CloudInterviews$Parser", name := "command", desc := "()LCloudInterviews$Command;" } : Jvm.MethodName)) ∈ lw_tbl := lw_at lw_m10 51 rfl
theorem q2292 : (Jvm.Cond.instanceMethod ({ cls := "CloudInterviews$Parser", name := "command", desc := "()LCloudInterviews$Command;" } : Jvm.MethodName)) ∈ lw_all := lw_g (lw_at lw_m10 52 rfl) rfl
theorem q2293 : (Jvm.Cond.code ({ cls := "CloudInterviews$Parser", name := "command", desc := "()LCloudInterviews$Command;" } : Jvm.MethodName) prog_5_method_10_code (7 : Nat) (Option.some (Jvm.ClassFile.FieldType.object "CloudInterviews$Command"))) ∈ lw_all := lw_g (lw_at lw_m10 53 rfl) rfl
theorem q2294 : (Jvm.Cond.classLink "CloudInterviews$Parser" (57 : Nat) "java/lang/String") ∈ lw_all := lw_g (lw_at lw_m10 54 rfl) rfl
theorem q2296 : (Jvm.Cond.stringRef "CloudInterviews$Parser" (70 : Nat) "apply ") ∈ lw_tbl := lw_at lw_m10 56 rfl
theorem q2297 : (Jvm.Cond.stringRef "CloudInterviews$Parser" (72 : Nat) "leave ") ∈ lw_tbl := lw_at lw_m10 57 rfl
theorem q2298 : (Jvm.Cond.stringRef "CloudInterviews$Parser" (74 : Nat) "post ") ∈ lw_tbl := lw_at lw_m10 58 rfl
theorem q2299 : (Jvm.Cond.stringRef "CloudInterviews$Parser" (76 : Nat) "close ") ∈ lw_tbl := lw_at lw_m10 59 rfl
theorem q2300 : (Jvm.Cond.stringRef "CloudInterviews$Parser" (78 : Nat) "hire ") ∈ lw_tbl := lw_at lw_m10 60 rfl
theorem q2301 : (Jvm.Cond.stringRef "CloudInterviews$Parser" (80 : Nat) "dismiss ") ∈ lw_tbl := lw_at lw_m10 61 rfl
theorem q2302 : (Jvm.Cond.stringRef "CloudInterviews$Parser" (82 : Nat) "refer ") ∈ lw_tbl := lw_at lw_m10 62 rfl
theorem q2303 : (Jvm.Cond.stringRef "CloudInterviews$Parser" (84 : Nat) "match") ∈ lw_tbl := lw_at lw_m10 63 rfl
theorem q2304 : (Jvm.Cond.stringRef "CloudInterviews$Parser" (86 : Nat) "day") ∈ lw_tbl := lw_at lw_m10 64 rfl
theorem q2305 : (Jvm.Cond.methodLink "CloudInterviews$Parser" (88 : Nat) ({ cls := "CloudInterviews$Parser", name := "word", desc := "([Ljava/lang/String;)Ljava/lang/String;" } : Jvm.MethodName)) ∈ lw_all := lw_g (lw_at lw_m10 65 rfl) rfl
theorem q2306 : (Jvm.Cond.privateMethod ({ cls := "CloudInterviews$Parser", name := "word", desc := "([Ljava/lang/String;)Ljava/lang/String;" } : Jvm.MethodName)) ∈ lw_tbl := lw_at lw_m10 66 rfl
theorem q2307 : (Jvm.Cond.instanceMethod ({ cls := "CloudInterviews$Parser", name := "word", desc := "([Ljava/lang/String;)Ljava/lang/String;" } : Jvm.MethodName)) ∈ lw_all := lw_g (lw_at lw_m10 67 rfl) rfl
theorem q2308 : (Jvm.Cond.code ({ cls := "CloudInterviews$Parser", name := "word", desc := "([Ljava/lang/String;)Ljava/lang/String;" } : Jvm.MethodName) prog_5_method_9_code (8 : Nat) (Option.some (Jvm.ClassFile.FieldType.object "java/lang/String"))) ∈ lw_all := lw_g (lw_at lw_m10 68 rfl) rfl
theorem q2309 : (Jvm.Cond.methodLink "CloudInterviews$Parser" (60 : Nat) ({ cls := "CloudInterviews$Parser", name := "common", desc := "(Ljava/lang/String;)I" } : Jvm.MethodName)) ∈ lw_all := lw_g (lw_at lw_m10 69 rfl) rfl
theorem q2310 : (Jvm.Cond.privateMethod ({ cls := "CloudInterviews$Parser", name := "common", desc := "(Ljava/lang/String;)I" } : Jvm.MethodName)) ∈ lw_tbl := lw_at lw_m10 70 rfl
theorem q2311 : (Jvm.Cond.instanceMethod ({ cls := "CloudInterviews$Parser", name := "common", desc := "(Ljava/lang/String;)I" } : Jvm.MethodName)) ∈ lw_all := lw_g (lw_at lw_m10 71 rfl) rfl
theorem q2312 : (Jvm.Cond.code ({ cls := "CloudInterviews$Parser", name := "common", desc := "(Ljava/lang/String;)I" } : Jvm.MethodName) prog_5_method_8_code (4 : Nat) (Option.some Jvm.ClassFile.FieldType.int)) ∈ lw_all := lw_g (lw_at lw_m10 72 rfl) rfl
theorem q2313 : (Jvm.Cond.methodLink "CloudInterviews$Parser" (56 : Nat) ({ cls := "java/lang/String", name := "length", desc := "()I" } : Jvm.MethodName)) ∈ lw_all := lw_g (lw_at lw_m10 73 rfl) rfl
theorem q2314 : (Jvm.Cond.interfaceEntry "CloudInterviews$Parser" (19 : Nat)) ∈ lw_tbl := lw_at lw_m10 74 rfl
theorem q2315 : (Jvm.Cond.methodLink "CloudInterviews$Parser" (19 : Nat) ({ cls := "java/lang/CharSequence", name := "length", desc := "()I" } : Jvm.MethodName)) ∈ lw_all := lw_g (lw_at lw_m10 75 rfl) rfl
theorem q2326 : (Jvm.Cond.interfaceEntry "CloudInterviews$Parser" (25 : Nat)) ∈ lw_tbl := lw_at lw_m10 86 rfl
theorem q2327 : (Jvm.Cond.methodLink "CloudInterviews$Parser" (25 : Nat) ({ cls := "java/lang/CharSequence", name := "charAt", desc := "(I)C" } : Jvm.MethodName)) ∈ lw_all := lw_g (lw_at lw_m10 87 rfl) rfl
theorem q2344 : (Jvm.Cond.methodLink "CloudInterviews$Parser" (59 : Nat) ({ cls := "java/lang/String", name := "charAt", desc := "(I)C" } : Jvm.MethodName)) ∈ lw_all := lw_g (lw_at lw_m10 104 rfl) rfl
theorem q2345 : (Jvm.Cond.methodLink "CloudInterviews$Parser" (64 : Nat) ({ cls := "java/lang/Math", name := "max", desc := "(II)I" } : Jvm.MethodName)) ∈ lw_all := lw_g (lw_at lw_m10 105 rfl) rfl
theorem q2346 : (Jvm.Cond.classLink "CloudInterviews$Parser" (37 : Nat) "CloudInterviews$SyntaxException") ∈ lw_all := lw_g (lw_at lw_m10 106 rfl) rfl
theorem q2355 : (Jvm.Cond.methodLink "CloudInterviews$Parser" (39 : Nat) ({ cls := "CloudInterviews$SyntaxException", name := "<init>", desc := "(I)V" } : Jvm.MethodName)) ∈ lw_all := lw_g (lw_at lw_m10 115 rfl) rfl
theorem q2370 : (Jvm.Cond.methodLink "CloudInterviews$Parser" (92 : Nat) ({ cls := "java/lang/String", name := "hashCode", desc := "()I" } : Jvm.MethodName)) ∈ lw_all := lw_g (lw_at lw_m10 130 rfl) rfl
theorem q2371 : (Jvm.Cond.methodLink "CloudInterviews$Parser" (95 : Nat) ({ cls := "java/lang/String", name := "equals", desc := "(Ljava/lang/Object;)Z" } : Jvm.MethodName)) ∈ lw_all := lw_g (lw_at lw_m10 131 rfl) rfl
theorem q2372 : (Jvm.Cond.classLink "CloudInterviews$Parser" (99 : Nat) "CloudInterviews$Command") ∈ lw_all := lw_g (lw_at lw_m10 132 rfl) rfl
theorem q2373 : (Jvm.Cond.methodLink "CloudInterviews$Parser" (101 : Nat) ({ cls := "CloudInterviews$Command", name := "<init>", desc := "(Ljava/lang/String;[I)V" } : Jvm.MethodName)) ∈ lw_all := lw_g (lw_at lw_m10 133 rfl) rfl
theorem q2374 : (Jvm.Cond.methodLink "CloudInterviews$Parser" (104 : Nat) ({ cls := "CloudInterviews$Parser", name := "shape", desc := "(Z)C" } : Jvm.MethodName)) ∈ lw_all := lw_g (lw_at lw_m10 134 rfl) rfl
theorem q2375 : (Jvm.Cond.privateMethod ({ cls := "CloudInterviews$Parser", name := "shape", desc := "(Z)C" } : Jvm.MethodName)) ∈ lw_tbl := lw_at lw_m10 135 rfl
theorem q2376 : (Jvm.Cond.instanceMethod ({ cls := "CloudInterviews$Parser", name := "shape", desc := "(Z)C" } : Jvm.MethodName)) ∈ lw_all := lw_g (lw_at lw_m10 136 rfl) rfl
theorem q2377 : (Jvm.Cond.code ({ cls := "CloudInterviews$Parser", name := "shape", desc := "(Z)C" } : Jvm.MethodName) prog_5_method_7_code (3 : Nat) (Option.some Jvm.ClassFile.FieldType.char)) ∈ lw_all := lw_g (lw_at lw_m10 137 rfl) rfl
theorem q2378 : (Jvm.Cond.methodLinkNest "CloudInterviews$Parser" (52 : Nat) ({ cls := "CloudInterviews", name := "isShape", desc := "(C)Z" } : Jvm.MethodName) "CloudInterviews") ∈ lw_tbl := lw_at lw_m10 138 rfl
theorem q2379 : (Jvm.Cond.methodLink "CloudInterviews$Parser" (49 : Nat) ({ cls := "CloudInterviews$Parser", name := "number", desc := "()I" } : Jvm.MethodName)) ∈ lw_all := lw_g (lw_at lw_m10 139 rfl) rfl
theorem q2380 : (Jvm.Cond.privateMethod ({ cls := "CloudInterviews$Parser", name := "number", desc := "()I" } : Jvm.MethodName)) ∈ lw_tbl := lw_at lw_m10 140 rfl
theorem q2381 : (Jvm.Cond.instanceMethod ({ cls := "CloudInterviews$Parser", name := "number", desc := "()I" } : Jvm.MethodName)) ∈ lw_all := lw_g (lw_at lw_m10 141 rfl) rfl
theorem q2382 : (Jvm.Cond.code ({ cls := "CloudInterviews$Parser", name := "number", desc := "()I" } : Jvm.MethodName) prog_5_method_5_code (3 : Nat) (Option.some Jvm.ClassFile.FieldType.int)) ∈ lw_all := lw_g (lw_at lw_m10 142 rfl) rfl
theorem q2383 : (Jvm.Cond.methodLink "CloudInterviews$Parser" (46 : Nat) ({ cls := "CloudInterviews$Parser", name := "digit", desc := "()I" } : Jvm.MethodName)) ∈ lw_all := lw_g (lw_at lw_m10 143 rfl) rfl
theorem q2384 : (Jvm.Cond.privateMethod ({ cls := "CloudInterviews$Parser", name := "digit", desc := "()I" } : Jvm.MethodName)) ∈ lw_tbl := lw_at lw_m10 144 rfl
theorem q2385 : (Jvm.Cond.instanceMethod ({ cls := "CloudInterviews$Parser", name := "digit", desc := "()I" } : Jvm.MethodName)) ∈ lw_all := lw_g (lw_at lw_m10 145 rfl) rfl
theorem q2386 : (Jvm.Cond.code ({ cls := "CloudInterviews$Parser", name := "digit", desc := "()I" } : Jvm.MethodName) prog_5_method_4_code (1 : Nat) (Option.some Jvm.ClassFile.FieldType.int)) ∈ lw_all := lw_g (lw_at lw_m10 146 rfl) rfl
theorem q2387 : (Jvm.Cond.methodLink "CloudInterviews$Parser" (42 : Nat) ({ cls := "CloudInterviews$Parser", name := "take", desc := "(CC)C" } : Jvm.MethodName)) ∈ lw_all := lw_g (lw_at lw_m10 147 rfl) rfl
theorem q2388 : (Jvm.Cond.privateMethod ({ cls := "CloudInterviews$Parser", name := "take", desc := "(CC)C" } : Jvm.MethodName)) ∈ lw_tbl := lw_at lw_m10 148 rfl
theorem q2389 : (Jvm.Cond.instanceMethod ({ cls := "CloudInterviews$Parser", name := "take", desc := "(CC)C" } : Jvm.MethodName)) ∈ lw_all := lw_g (lw_at lw_m10 149 rfl) rfl
theorem q2390 : (Jvm.Cond.code ({ cls := "CloudInterviews$Parser", name := "take", desc := "(CC)C" } : Jvm.MethodName) prog_5_method_3_code (3 : Nat) (Option.some Jvm.ClassFile.FieldType.char)) ∈ lw_all := lw_g (lw_at lw_m10 150 rfl) rfl
theorem q2391 : (Jvm.Cond.methodLink "CloudInterviews$Parser" (33 : Nat) ({ cls := "CloudInterviews$Parser", name := "isNext", desc := "(CC)Z" } : Jvm.MethodName)) ∈ lw_all := lw_g (lw_at lw_m10 151 rfl) rfl
theorem q2392 : (Jvm.Cond.privateMethod ({ cls := "CloudInterviews$Parser", name := "isNext", desc := "(CC)Z" } : Jvm.MethodName)) ∈ lw_tbl := lw_at lw_m10 152 rfl
theorem q2393 : (Jvm.Cond.instanceMethod ({ cls := "CloudInterviews$Parser", name := "isNext", desc := "(CC)Z" } : Jvm.MethodName)) ∈ lw_all := lw_g (lw_at lw_m10 153 rfl) rfl
theorem q2394 : (Jvm.Cond.code ({ cls := "CloudInterviews$Parser", name := "isNext", desc := "(CC)Z" } : Jvm.MethodName) prog_5_method_2_code (3 : Nat) (Option.some Jvm.ClassFile.FieldType.boolean)) ∈ lw_all := lw_g (lw_at lw_m10 154 rfl) rfl
theorem q2395 : (Jvm.Cond.methodLinkNest "CloudInterviews$Parser" (29 : Nat) ({ cls := "CloudInterviews", name := "inRange", desc := "(JJJ)Z" } : Jvm.MethodName) "CloudInterviews") ∈ lw_tbl := lw_at lw_m10 155 rfl
theorem q2396 : (Jvm.Cond.methodLink "CloudInterviews$Parser" (108 : Nat) ({ cls := "CloudInterviews$Parser", name := "numberAfter", desc := "(C)I" } : Jvm.MethodName)) ∈ lw_all := lw_g (lw_at lw_m10 156 rfl) rfl
theorem q2397 : (Jvm.Cond.privateMethod ({ cls := "CloudInterviews$Parser", name := "numberAfter", desc := "(C)I" } : Jvm.MethodName)) ∈ lw_tbl := lw_at lw_m10 157 rfl
theorem q2398 : (Jvm.Cond.instanceMethod ({ cls := "CloudInterviews$Parser", name := "numberAfter", desc := "(C)I" } : Jvm.MethodName)) ∈ lw_all := lw_g (lw_at lw_m10 158 rfl) rfl
theorem q2399 : (Jvm.Cond.code ({ cls := "CloudInterviews$Parser", name := "numberAfter", desc := "(C)I" } : Jvm.MethodName) prog_5_method_6_code (3 : Nat) (Option.some Jvm.ClassFile.FieldType.int)) ∈ lw_all := lw_g (lw_at lw_m10 159 rfl) rfl
theorem q2400 : (Jvm.Cond.methodLink "CloudInterviews$Parser" (119 : Nat) ({ cls := "java/util/ArrayList", name := "add", desc := "(Ljava/lang/Object;)Z" } : Jvm.MethodName)) ∈ lw_all := lw_g (lw_at lw_m10 160 rfl) rfl
theorem q3023 : (Jvm.Cond.castable "CloudInterviews$Parser" "java/lang/Object") ∈ lw_tbl := lw_at lw_m13 63 rfl
theorem in_X8 : ∀ w ∈ wsX80, w ∈ lw_all := lw_in wsX80 [2279, 2281] (by decide +kernel) (by decide +kernel)

/-! CloudInterviews$SyntaxException -/
set_option maxRecDepth 100000
def RX9 : String := "CloudInterviews$SyntaxException"
def TX9 : u_T := fun k => match k with
  | 0 => ("java/lang/Throwable", "cause", "Ljava/lang/Throwable;", false)
  | 1 => ("java/lang/Throwable", "stackTrace", "[Ljava/lang/StackTraceElement;", false)
  | 2 => ("java/lang/Throwable", "suppressedExceptions", "Ljava/util/List;", false)
  | 3 => ("java/lang/Throwable", "detailMessage", "Ljava/lang/String;", false)
  | 4 => ("java/lang/Throwable", "backtrace", "Ljava/lang/Object;", false)
  | 5 => ("java/lang/Throwable", "depth", "I", false)
  | _ => ("CloudInterviews$SyntaxException", "position", "I", true)
def tyX9 : Nat → FieldType := fun k => match k with
  | 0 => .object "java/lang/Throwable"
  | 1 => .array (.object "java/lang/StackTraceElement")
  | 2 => .object "java/util/List"
  | 3 => .object "java/lang/String"
  | 4 => .object "java/lang/Object"
  | 5 => .int
  | _ => .int
abbrev wsX90 : List Cond := u_ws RX9 TX9 7
theorem nmX9 : ∀ a, a < 7 → ∀ b, b < 7 → a ≠ b → (TX9 a).2.1 ≠ (TX9 b).2.1 := by decide +kernel
theorem tyX9_ok : ∀ k, k < 7 → parseFieldDescriptor (TX9 k).2.2.1 = some (tyX9 k) := by decide +kernel
abbrev cX9_init : ByteArray := prog_8_method_1_code
def yX9_init : MethodName := ⟨RX9, "<init>", "(I)V"⟩
def dkwX9_init_0 : List UInt8 := [42, 1, 1, 3, 3, 183, 0, 1, 42, 27, 181, 0, 7, 177]
abbrev dktX9_init_0 : List UInt8 := dkwX9_init_0 ++ []
theorem dksX9_init_0 : cX9_init.data.toList.drop 0 = dktX9_init_0 := by decide +kernel
theorem dX9_init_0 : decode cX9_init 0 = .ok (.aload_n 0, 1) := dk_42 (dk_at dksX9_init_0 0 rfl rfl)
theorem dX9_init_1 : decode cX9_init 1 = .ok (.aconst_null, 1) := dk_1 (dk_at dksX9_init_0 1 rfl rfl)
theorem dX9_init_2 : decode cX9_init 2 = .ok (.aconst_null, 1) := dk_1 (dk_at dksX9_init_0 2 rfl rfl)
theorem dX9_init_3 : decode cX9_init 3 = .ok (.iconst 0, 1) := dk_3 (dk_at dksX9_init_0 3 rfl rfl)
theorem dX9_init_4 : decode cX9_init 4 = .ok (.iconst 0, 1) := dk_3 (dk_at dksX9_init_0 4 rfl rfl)
theorem dX9_init_5 : decode cX9_init 5 = .ok (.invokespecial 1, 3) := dk_183 0 1 (dk_at dksX9_init_0 5 rfl rfl)
theorem dX9_init_8 : decode cX9_init 8 = .ok (.aload_n 0, 1) := dk_42 (dk_at dksX9_init_0 8 rfl rfl)
theorem dX9_init_9 : decode cX9_init 9 = .ok (.iload_n 1, 1) := dk_27 (dk_at dksX9_init_0 9 rfl rfl)
theorem dX9_init_10 : decode cX9_init 10 = .ok (.putfield 7, 3) := dk_181 0 7 (dk_at dksX9_init_0 10 rfl rfl)
theorem dX9_init_13 : decode cX9_init 13 = .ok (.return_, 1) := dk_177 (dk_at dksX9_init_0 13 rfl rfl)
theorem q127 : (Jvm.Cond.initialized "CloudInterviews$SyntaxException") ∈ lw_all := lw_g (lw_at lw_m1 47 rfl) rfl
theorem q393 : (Jvm.Cond.selects "CloudInterviews$SyntaxException" ({ cls := "java/lang/Throwable", name := "fillInStackTrace", desc := "()Ljava/lang/Throwable;" } : Jvm.MethodName) ({ cls := "java/lang/Throwable", name := "fillInStackTrace", desc := "()Ljava/lang/Throwable;" } : Jvm.MethodName)) ∈ lw_all := lw_g (lw_at lw_m2 73 rfl) rfl
theorem q540 : (Jvm.Cond.selects "CloudInterviews$SyntaxException" ({ cls := "java/lang/Object", name := "getClass", desc := "()Ljava/lang/Class;" } : Jvm.MethodName) ({ cls := "java/lang/Object", name := "getClass", desc := "()Ljava/lang/Class;" } : Jvm.MethodName)) ∈ lw_all := lw_g (lw_at lw_m2 220 rfl) rfl
theorem q664 : (Jvm.Cond.selects "CloudInterviews$SyntaxException" ({ cls := "java/lang/Object", name := "hashCode", desc := "()I" } : Jvm.MethodName) ({ cls := "java/lang/Object", name := "hashCode", desc := "()I" } : Jvm.MethodName)) ∈ lw_all := lw_g (lw_at lw_m3 104 rfl) rfl
theorem q1278 : (Jvm.Cond.selects "CloudInterviews$SyntaxException" ({ cls := "java/lang/Object", name := "equals", desc := "(Ljava/lang/Object;)Z" } : Jvm.MethodName) ({ cls := "java/lang/Object", name := "equals", desc := "(Ljava/lang/Object;)Z" } : Jvm.MethodName)) ∈ lw_all := lw_g (lw_at lw_m5 238 rfl) rfl
theorem q2347 : (Jvm.Cond.instantiable "CloudInterviews$SyntaxException" (7 : Nat)) ∈ lw_all := lw_g (lw_at lw_m10 107 rfl) rfl
theorem q2348 : (Jvm.Cond.castable "CloudInterviews$SyntaxException" "CloudInterviews$SyntaxException") ∈ lw_tbl := lw_at lw_m10 108 rfl
theorem q2349 : (Jvm.Cond.selects "CloudInterviews$SyntaxException" ({ cls := "java/lang/Throwable", name := "fillInStackTrace", desc := "(I)Ljava/lang/Throwable;" } : Jvm.MethodName) ({ cls := "java/lang/Throwable", name := "fillInStackTrace", desc := "(I)Ljava/lang/Throwable;" } : Jvm.MethodName)) ∈ lw_all := lw_g (lw_at lw_m10 109 rfl) rfl
theorem q2350 : (Jvm.Cond.lays "CloudInterviews$SyntaxException" "java/lang/Throwable" "cause" "Ljava/lang/Throwable;") ∈ lw_all := lw_g (lw_at lw_m10 110 rfl) rfl
theorem q2351 : (Jvm.Cond.lays "CloudInterviews$SyntaxException" "java/lang/Throwable" "stackTrace" "[Ljava/lang/StackTraceElement;") ∈ lw_all := lw_g (lw_at lw_m10 111 rfl) rfl
theorem q2352 : (Jvm.Cond.lays "CloudInterviews$SyntaxException" "java/lang/Throwable" "suppressedExceptions" "Ljava/util/List;") ∈ lw_all := lw_g (lw_at lw_m10 112 rfl) rfl
theorem q2353 : (Jvm.Cond.lays "CloudInterviews$SyntaxException" "java/lang/Throwable" "detailMessage" "Ljava/lang/String;") ∈ lw_all := lw_g (lw_at lw_m10 113 rfl) rfl
theorem q2354 : (Jvm.Cond.lays "CloudInterviews$SyntaxException" "java/lang/Throwable" "backtrace" "Ljava/lang/Object;") ∈ lw_all := lw_g (lw_at lw_m10 114 rfl) rfl
theorem q2356 : (Jvm.Cond.instanceMethod ({ cls := "CloudInterviews$SyntaxException", name := "<init>", desc := "(I)V" } : Jvm.MethodName)) ∈ lw_all := lw_g (lw_at lw_m10 116 rfl) rfl
theorem q2357 : (Jvm.Cond.code ({ cls := "CloudInterviews$SyntaxException", name := "<init>", desc := "(I)V" } : Jvm.MethodName) prog_8_method_1_code (2 : Nat) (Option.none : Option Jvm.ClassFile.FieldType)) ∈ lw_all := lw_g (lw_at lw_m10 117 rfl) rfl
theorem q2358 : (Jvm.Cond.methodLink "CloudInterviews$SyntaxException" (1 : Nat) ({ cls := "java/lang/Exception", name := "<init>", desc := "(Ljava/lang/String;Ljava/lang/Throwable;ZZ)V" } : Jvm.MethodName)) ∈ lw_all := lw_g (lw_at lw_m10 118 rfl) rfl
theorem q2364 : (Jvm.Cond.fieldLink "CloudInterviews$SyntaxException" (7 : Nat) "CloudInterviews$SyntaxException" "position" "I") ∈ lw_all := lw_g (lw_at lw_m10 124 rfl) rfl
theorem q2366 : (Jvm.Cond.laysFinal "CloudInterviews$SyntaxException" "CloudInterviews$SyntaxException" "position" "I") ∈ lw_all := lw_g (lw_at lw_m10 126 rfl) rfl
theorem q2367 : (Jvm.Cond.soleField "CloudInterviews$SyntaxException" "position") ∈ lw_all := lw_g (lw_at lw_m10 127 rfl) rfl
theorem q2368 : (Jvm.Cond.lays "CloudInterviews$SyntaxException" "java/lang/Throwable" "depth" "I") ∈ lw_all := lw_g (lw_at lw_m10 128 rfl) rfl
theorem q2369 : (Jvm.Cond.superclass "CloudInterviews$SyntaxException" "java/lang/Exception") ∈ lw_all := lw_g (lw_at lw_m10 129 rfl) rfl
theorem q3024 : (Jvm.Cond.castable "CloudInterviews$SyntaxException" "java/lang/Object") ∈ lw_tbl := lw_at lw_m13 64 rfl
theorem in_X9 : ∀ w ∈ wsX90, w ∈ lw_all := lw_in wsX90 [2350, 2351, 2352, 2353, 2354, 2368, 2366] (by decide +kernel) (by decide +kernel)

/-! CloudInterviewsLaw -/
set_option maxRecDepth 100000
def RX0 : String := "CloudInterviewsLaw"
abbrev cX0_addApplicant : ByteArray := method_3_code
def yX0_addApplicant : MethodName := ⟨RX0, "addApplicant", "(LCloudInterviews;CII[J)I"⟩
def dkwX0_addApplicant_1 : List UInt8 := [172]
abbrev dktX0_addApplicant_1 : List UInt8 := dkwX0_addApplicant_1 ++ []
def dkwX0_addApplicant_0 : List UInt8 := [25, 4, 3, 42, 27, 28, 29, 182, 0, 7, 133, 80, 167, 0, 11, 58, 5, 4, 172, 58, 5, 5, 172, 3]
abbrev dktX0_addApplicant_0 : List UInt8 := dkwX0_addApplicant_0 ++ dktX0_addApplicant_1
theorem dksX0_addApplicant_0 : cX0_addApplicant.data.toList.drop 0 = dktX0_addApplicant_0 := by decide +kernel
theorem dksX0_addApplicant_1 : cX0_addApplicant.data.toList.drop 24 = dktX0_addApplicant_1 := dk_seg dksX0_addApplicant_0 24 rfl rfl
theorem dX0_addApplicant_0 : decode cX0_addApplicant 0 = .ok (.aload 4, 2) := dk_25 4 (dk_at dksX0_addApplicant_0 0 rfl rfl)
theorem dX0_addApplicant_2 : decode cX0_addApplicant 2 = .ok (.iconst 0, 1) := dk_3 (dk_at dksX0_addApplicant_0 2 rfl rfl)
theorem dX0_addApplicant_3 : decode cX0_addApplicant 3 = .ok (.aload_n 0, 1) := dk_42 (dk_at dksX0_addApplicant_0 3 rfl rfl)
theorem dX0_addApplicant_4 : decode cX0_addApplicant 4 = .ok (.iload_n 1, 1) := dk_27 (dk_at dksX0_addApplicant_0 4 rfl rfl)
theorem dX0_addApplicant_5 : decode cX0_addApplicant 5 = .ok (.iload_n 2, 1) := dk_28 (dk_at dksX0_addApplicant_0 5 rfl rfl)
theorem dX0_addApplicant_6 : decode cX0_addApplicant 6 = .ok (.iload_n 3, 1) := dk_29 (dk_at dksX0_addApplicant_0 6 rfl rfl)
theorem dX0_addApplicant_7 : decode cX0_addApplicant 7 = .ok (.invokevirtual 7, 3) := dk_182 0 7 (dk_at dksX0_addApplicant_0 7 rfl rfl)
theorem dX0_addApplicant_10 : decode cX0_addApplicant 10 = .ok (.i2l, 1) := dk_133 (dk_at dksX0_addApplicant_0 10 rfl rfl)
theorem dX0_addApplicant_11 : decode cX0_addApplicant 11 = .ok (.lastore, 1) := dk_80 (dk_at dksX0_addApplicant_0 11 rfl rfl)
theorem dX0_addApplicant_12 : decode cX0_addApplicant 12 = .ok (.goto 11, 3) := dk_167 0 11 (dk_at dksX0_addApplicant_0 12 rfl rfl)
theorem dX0_addApplicant_15 : decode cX0_addApplicant 15 = .ok (.astore 5, 2) := dk_58 5 (dk_at dksX0_addApplicant_0 15 rfl rfl)
theorem dX0_addApplicant_17 : decode cX0_addApplicant 17 = .ok (.iconst 1, 1) := dk_4 (dk_at dksX0_addApplicant_0 17 rfl rfl)
theorem dX0_addApplicant_18 : decode cX0_addApplicant 18 = .ok (.ireturn, 1) := dk_172 (dk_at dksX0_addApplicant_0 18 rfl rfl)
theorem dX0_addApplicant_19 : decode cX0_addApplicant 19 = .ok (.astore 5, 2) := dk_58 5 (dk_at dksX0_addApplicant_0 19 rfl rfl)
theorem dX0_addApplicant_21 : decode cX0_addApplicant 21 = .ok (.iconst 2, 1) := dk_5 (dk_at dksX0_addApplicant_0 21 rfl rfl)
theorem dX0_addApplicant_22 : decode cX0_addApplicant 22 = .ok (.ireturn, 1) := dk_172 (dk_at dksX0_addApplicant_0 22 rfl rfl)
theorem dX0_addApplicant_23 : decode cX0_addApplicant 23 = .ok (.iconst 0, 1) := dk_3 (dk_at dksX0_addApplicant_0 23 rfl rfl)
theorem dX0_addApplicant_24 : decode cX0_addApplicant 24 = .ok (.ireturn, 1) := dk_172 (dk_at dksX0_addApplicant_1 0 rfl rfl)
abbrev cX0_removeApplicant : ByteArray := method_4_code
def yX0_removeApplicant : MethodName := ⟨RX0, "removeApplicant", "(LCloudInterviews;I[J)I"⟩
def dkwX0_removeApplicant_0 : List UInt8 := [44, 3, 42, 27, 182, 0, 17, 133, 80, 167, 0, 6, 78, 4, 172, 3, 172]
abbrev dktX0_removeApplicant_0 : List UInt8 := dkwX0_removeApplicant_0 ++ []
theorem dksX0_removeApplicant_0 : cX0_removeApplicant.data.toList.drop 0 = dktX0_removeApplicant_0 := by decide +kernel
theorem dX0_removeApplicant_0 : decode cX0_removeApplicant 0 = .ok (.aload_n 2, 1) := dk_44 (dk_at dksX0_removeApplicant_0 0 rfl rfl)
theorem dX0_removeApplicant_1 : decode cX0_removeApplicant 1 = .ok (.iconst 0, 1) := dk_3 (dk_at dksX0_removeApplicant_0 1 rfl rfl)
theorem dX0_removeApplicant_2 : decode cX0_removeApplicant 2 = .ok (.aload_n 0, 1) := dk_42 (dk_at dksX0_removeApplicant_0 2 rfl rfl)
theorem dX0_removeApplicant_3 : decode cX0_removeApplicant 3 = .ok (.iload_n 1, 1) := dk_27 (dk_at dksX0_removeApplicant_0 3 rfl rfl)
theorem dX0_removeApplicant_4 : decode cX0_removeApplicant 4 = .ok (.invokevirtual 17, 3) := dk_182 0 17 (dk_at dksX0_removeApplicant_0 4 rfl rfl)
theorem dX0_removeApplicant_7 : decode cX0_removeApplicant 7 = .ok (.i2l, 1) := dk_133 (dk_at dksX0_removeApplicant_0 7 rfl rfl)
theorem dX0_removeApplicant_8 : decode cX0_removeApplicant 8 = .ok (.lastore, 1) := dk_80 (dk_at dksX0_removeApplicant_0 8 rfl rfl)
theorem dX0_removeApplicant_9 : decode cX0_removeApplicant 9 = .ok (.goto 6, 3) := dk_167 0 6 (dk_at dksX0_removeApplicant_0 9 rfl rfl)
theorem dX0_removeApplicant_12 : decode cX0_removeApplicant 12 = .ok (.astore_n 3, 1) := dk_78 (dk_at dksX0_removeApplicant_0 12 rfl rfl)
theorem dX0_removeApplicant_13 : decode cX0_removeApplicant 13 = .ok (.iconst 1, 1) := dk_4 (dk_at dksX0_removeApplicant_0 13 rfl rfl)
theorem dX0_removeApplicant_14 : decode cX0_removeApplicant 14 = .ok (.ireturn, 1) := dk_172 (dk_at dksX0_removeApplicant_0 14 rfl rfl)
theorem dX0_removeApplicant_15 : decode cX0_removeApplicant 15 = .ok (.iconst 0, 1) := dk_3 (dk_at dksX0_removeApplicant_0 15 rfl rfl)
theorem dX0_removeApplicant_16 : decode cX0_removeApplicant 16 = .ok (.ireturn, 1) := dk_172 (dk_at dksX0_removeApplicant_0 16 rfl rfl)
abbrev cX0_rejectRainy : ByteArray := method_5_code
def yX0_rejectRainy : MethodName := ⟨RX0, "rejectRainy", "(LCloudInterviews;I[J)I"⟩
def dkwX0_rejectRainy_0 : List UInt8 := [44, 3, 42, 27, 182, 0, 23, 133, 80, 167, 0, 6, 78, 4, 172, 3, 172]
abbrev dktX0_rejectRainy_0 : List UInt8 := dkwX0_rejectRainy_0 ++ []
theorem dksX0_rejectRainy_0 : cX0_rejectRainy.data.toList.drop 0 = dktX0_rejectRainy_0 := by decide +kernel
theorem dX0_rejectRainy_0 : decode cX0_rejectRainy 0 = .ok (.aload_n 2, 1) := dk_44 (dk_at dksX0_rejectRainy_0 0 rfl rfl)
theorem dX0_rejectRainy_1 : decode cX0_rejectRainy 1 = .ok (.iconst 0, 1) := dk_3 (dk_at dksX0_rejectRainy_0 1 rfl rfl)
theorem dX0_rejectRainy_2 : decode cX0_rejectRainy 2 = .ok (.aload_n 0, 1) := dk_42 (dk_at dksX0_rejectRainy_0 2 rfl rfl)
theorem dX0_rejectRainy_3 : decode cX0_rejectRainy 3 = .ok (.iload_n 1, 1) := dk_27 (dk_at dksX0_rejectRainy_0 3 rfl rfl)
theorem dX0_rejectRainy_4 : decode cX0_rejectRainy 4 = .ok (.invokevirtual 23, 3) := dk_182 0 23 (dk_at dksX0_rejectRainy_0 4 rfl rfl)
theorem dX0_rejectRainy_7 : decode cX0_rejectRainy 7 = .ok (.i2l, 1) := dk_133 (dk_at dksX0_rejectRainy_0 7 rfl rfl)
theorem dX0_rejectRainy_8 : decode cX0_rejectRainy 8 = .ok (.lastore, 1) := dk_80 (dk_at dksX0_rejectRainy_0 8 rfl rfl)
theorem dX0_rejectRainy_9 : decode cX0_rejectRainy 9 = .ok (.goto 6, 3) := dk_167 0 6 (dk_at dksX0_rejectRainy_0 9 rfl rfl)
theorem dX0_rejectRainy_12 : decode cX0_rejectRainy 12 = .ok (.astore_n 3, 1) := dk_78 (dk_at dksX0_rejectRainy_0 12 rfl rfl)
theorem dX0_rejectRainy_13 : decode cX0_rejectRainy 13 = .ok (.iconst 1, 1) := dk_4 (dk_at dksX0_rejectRainy_0 13 rfl rfl)
theorem dX0_rejectRainy_14 : decode cX0_rejectRainy 14 = .ok (.ireturn, 1) := dk_172 (dk_at dksX0_rejectRainy_0 14 rfl rfl)
theorem dX0_rejectRainy_15 : decode cX0_rejectRainy 15 = .ok (.iconst 0, 1) := dk_3 (dk_at dksX0_rejectRainy_0 15 rfl rfl)
theorem dX0_rejectRainy_16 : decode cX0_rejectRainy 16 = .ok (.ireturn, 1) := dk_172 (dk_at dksX0_rejectRainy_0 16 rfl rfl)
abbrev cX0_applicant : ByteArray := method_6_code
def yX0_applicant : MethodName := ⟨RX0, "applicant", "(LCloudInterviews;I[J)I"⟩
def dkwX0_applicant_0 : List UInt8 := [44, 3, 42, 27, 182, 0, 26, 133, 80, 167, 0, 6, 78, 4, 172, 3, 172]
abbrev dktX0_applicant_0 : List UInt8 := dkwX0_applicant_0 ++ []
theorem dksX0_applicant_0 : cX0_applicant.data.toList.drop 0 = dktX0_applicant_0 := by decide +kernel
theorem dX0_applicant_0 : decode cX0_applicant 0 = .ok (.aload_n 2, 1) := dk_44 (dk_at dksX0_applicant_0 0 rfl rfl)
theorem dX0_applicant_1 : decode cX0_applicant 1 = .ok (.iconst 0, 1) := dk_3 (dk_at dksX0_applicant_0 1 rfl rfl)
theorem dX0_applicant_2 : decode cX0_applicant 2 = .ok (.aload_n 0, 1) := dk_42 (dk_at dksX0_applicant_0 2 rfl rfl)
theorem dX0_applicant_3 : decode cX0_applicant 3 = .ok (.iload_n 1, 1) := dk_27 (dk_at dksX0_applicant_0 3 rfl rfl)
theorem dX0_applicant_4 : decode cX0_applicant 4 = .ok (.invokevirtual 26, 3) := dk_182 0 26 (dk_at dksX0_applicant_0 4 rfl rfl)
theorem dX0_applicant_7 : decode cX0_applicant 7 = .ok (.i2l, 1) := dk_133 (dk_at dksX0_applicant_0 7 rfl rfl)
theorem dX0_applicant_8 : decode cX0_applicant 8 = .ok (.lastore, 1) := dk_80 (dk_at dksX0_applicant_0 8 rfl rfl)
theorem dX0_applicant_9 : decode cX0_applicant 9 = .ok (.goto 6, 3) := dk_167 0 6 (dk_at dksX0_applicant_0 9 rfl rfl)
theorem dX0_applicant_12 : decode cX0_applicant 12 = .ok (.astore_n 3, 1) := dk_78 (dk_at dksX0_applicant_0 12 rfl rfl)
theorem dX0_applicant_13 : decode cX0_applicant 13 = .ok (.iconst 1, 1) := dk_4 (dk_at dksX0_applicant_0 13 rfl rfl)
theorem dX0_applicant_14 : decode cX0_applicant 14 = .ok (.ireturn, 1) := dk_172 (dk_at dksX0_applicant_0 14 rfl rfl)
theorem dX0_applicant_15 : decode cX0_applicant 15 = .ok (.iconst 0, 1) := dk_3 (dk_at dksX0_applicant_0 15 rfl rfl)
theorem dX0_applicant_16 : decode cX0_applicant 16 = .ok (.ireturn, 1) := dk_172 (dk_at dksX0_applicant_0 16 rfl rfl)
abbrev cX0_shape : ByteArray := method_7_code
def yX0_shape : MethodName := ⟨RX0, "shape", "(LCloudInterviews;I[J)I"⟩
def dkwX0_shape_0 : List UInt8 := [44, 3, 42, 27, 182, 0, 31, 133, 80, 167, 0, 6, 78, 4, 172, 3, 172]
abbrev dktX0_shape_0 : List UInt8 := dkwX0_shape_0 ++ []
theorem dksX0_shape_0 : cX0_shape.data.toList.drop 0 = dktX0_shape_0 := by decide +kernel
theorem dX0_shape_0 : decode cX0_shape 0 = .ok (.aload_n 2, 1) := dk_44 (dk_at dksX0_shape_0 0 rfl rfl)
theorem dX0_shape_1 : decode cX0_shape 1 = .ok (.iconst 0, 1) := dk_3 (dk_at dksX0_shape_0 1 rfl rfl)
theorem dX0_shape_2 : decode cX0_shape 2 = .ok (.aload_n 0, 1) := dk_42 (dk_at dksX0_shape_0 2 rfl rfl)
theorem dX0_shape_3 : decode cX0_shape 3 = .ok (.iload_n 1, 1) := dk_27 (dk_at dksX0_shape_0 3 rfl rfl)
theorem dX0_shape_4 : decode cX0_shape 4 = .ok (.invokevirtual 31, 3) := dk_182 0 31 (dk_at dksX0_shape_0 4 rfl rfl)
theorem dX0_shape_7 : decode cX0_shape 7 = .ok (.i2l, 1) := dk_133 (dk_at dksX0_shape_0 7 rfl rfl)
theorem dX0_shape_8 : decode cX0_shape 8 = .ok (.lastore, 1) := dk_80 (dk_at dksX0_shape_0 8 rfl rfl)
theorem dX0_shape_9 : decode cX0_shape 9 = .ok (.goto 6, 3) := dk_167 0 6 (dk_at dksX0_shape_0 9 rfl rfl)
theorem dX0_shape_12 : decode cX0_shape 12 = .ok (.astore_n 3, 1) := dk_78 (dk_at dksX0_shape_0 12 rfl rfl)
theorem dX0_shape_13 : decode cX0_shape 13 = .ok (.iconst 1, 1) := dk_4 (dk_at dksX0_shape_0 13 rfl rfl)
theorem dX0_shape_14 : decode cX0_shape 14 = .ok (.ireturn, 1) := dk_172 (dk_at dksX0_shape_0 14 rfl rfl)
theorem dX0_shape_15 : decode cX0_shape 15 = .ok (.iconst 0, 1) := dk_3 (dk_at dksX0_shape_0 15 rfl rfl)
theorem dX0_shape_16 : decode cX0_shape 16 = .ok (.ireturn, 1) := dk_172 (dk_at dksX0_shape_0 16 rfl rfl)
abbrev cX0_whiteness : ByteArray := method_8_code
def yX0_whiteness : MethodName := ⟨RX0, "whiteness", "(LCloudInterviews;I[J)I"⟩
def dkwX0_whiteness_0 : List UInt8 := [44, 3, 42, 27, 182, 0, 35, 133, 80, 167, 0, 6, 78, 4, 172, 3, 172]
abbrev dktX0_whiteness_0 : List UInt8 := dkwX0_whiteness_0 ++ []
theorem dksX0_whiteness_0 : cX0_whiteness.data.toList.drop 0 = dktX0_whiteness_0 := by decide +kernel
theorem dX0_whiteness_0 : decode cX0_whiteness 0 = .ok (.aload_n 2, 1) := dk_44 (dk_at dksX0_whiteness_0 0 rfl rfl)
theorem dX0_whiteness_1 : decode cX0_whiteness 1 = .ok (.iconst 0, 1) := dk_3 (dk_at dksX0_whiteness_0 1 rfl rfl)
theorem dX0_whiteness_2 : decode cX0_whiteness 2 = .ok (.aload_n 0, 1) := dk_42 (dk_at dksX0_whiteness_0 2 rfl rfl)
theorem dX0_whiteness_3 : decode cX0_whiteness 3 = .ok (.iload_n 1, 1) := dk_27 (dk_at dksX0_whiteness_0 3 rfl rfl)
theorem dX0_whiteness_4 : decode cX0_whiteness 4 = .ok (.invokevirtual 35, 3) := dk_182 0 35 (dk_at dksX0_whiteness_0 4 rfl rfl)
theorem dX0_whiteness_7 : decode cX0_whiteness 7 = .ok (.i2l, 1) := dk_133 (dk_at dksX0_whiteness_0 7 rfl rfl)
theorem dX0_whiteness_8 : decode cX0_whiteness 8 = .ok (.lastore, 1) := dk_80 (dk_at dksX0_whiteness_0 8 rfl rfl)
theorem dX0_whiteness_9 : decode cX0_whiteness 9 = .ok (.goto 6, 3) := dk_167 0 6 (dk_at dksX0_whiteness_0 9 rfl rfl)
theorem dX0_whiteness_12 : decode cX0_whiteness 12 = .ok (.astore_n 3, 1) := dk_78 (dk_at dksX0_whiteness_0 12 rfl rfl)
theorem dX0_whiteness_13 : decode cX0_whiteness 13 = .ok (.iconst 1, 1) := dk_4 (dk_at dksX0_whiteness_0 13 rfl rfl)
theorem dX0_whiteness_14 : decode cX0_whiteness 14 = .ok (.ireturn, 1) := dk_172 (dk_at dksX0_whiteness_0 14 rfl rfl)
theorem dX0_whiteness_15 : decode cX0_whiteness 15 = .ok (.iconst 0, 1) := dk_3 (dk_at dksX0_whiteness_0 15 rfl rfl)
theorem dX0_whiteness_16 : decode cX0_whiteness 16 = .ok (.ireturn, 1) := dk_172 (dk_at dksX0_whiteness_0 16 rfl rfl)
abbrev cX0_rain : ByteArray := method_9_code
def yX0_rain : MethodName := ⟨RX0, "rain", "(LCloudInterviews;I[J)I"⟩
def dkwX0_rain_0 : List UInt8 := [44, 3, 42, 27, 182, 0, 38, 133, 80, 167, 0, 6, 78, 4, 172, 3, 172]
abbrev dktX0_rain_0 : List UInt8 := dkwX0_rain_0 ++ []
theorem dksX0_rain_0 : cX0_rain.data.toList.drop 0 = dktX0_rain_0 := by decide +kernel
theorem dX0_rain_0 : decode cX0_rain 0 = .ok (.aload_n 2, 1) := dk_44 (dk_at dksX0_rain_0 0 rfl rfl)
theorem dX0_rain_1 : decode cX0_rain 1 = .ok (.iconst 0, 1) := dk_3 (dk_at dksX0_rain_0 1 rfl rfl)
theorem dX0_rain_2 : decode cX0_rain 2 = .ok (.aload_n 0, 1) := dk_42 (dk_at dksX0_rain_0 2 rfl rfl)
theorem dX0_rain_3 : decode cX0_rain 3 = .ok (.iload_n 1, 1) := dk_27 (dk_at dksX0_rain_0 3 rfl rfl)
theorem dX0_rain_4 : decode cX0_rain 4 = .ok (.invokevirtual 38, 3) := dk_182 0 38 (dk_at dksX0_rain_0 4 rfl rfl)
theorem dX0_rain_7 : decode cX0_rain 7 = .ok (.i2l, 1) := dk_133 (dk_at dksX0_rain_0 7 rfl rfl)
theorem dX0_rain_8 : decode cX0_rain 8 = .ok (.lastore, 1) := dk_80 (dk_at dksX0_rain_0 8 rfl rfl)
theorem dX0_rain_9 : decode cX0_rain 9 = .ok (.goto 6, 3) := dk_167 0 6 (dk_at dksX0_rain_0 9 rfl rfl)
theorem dX0_rain_12 : decode cX0_rain 12 = .ok (.astore_n 3, 1) := dk_78 (dk_at dksX0_rain_0 12 rfl rfl)
theorem dX0_rain_13 : decode cX0_rain 13 = .ok (.iconst 1, 1) := dk_4 (dk_at dksX0_rain_0 13 rfl rfl)
theorem dX0_rain_14 : decode cX0_rain 14 = .ok (.ireturn, 1) := dk_172 (dk_at dksX0_rain_0 14 rfl rfl)
theorem dX0_rain_15 : decode cX0_rain 15 = .ok (.iconst 0, 1) := dk_3 (dk_at dksX0_rain_0 15 rfl rfl)
theorem dX0_rain_16 : decode cX0_rain 16 = .ok (.ireturn, 1) := dk_172 (dk_at dksX0_rain_0 16 rfl rfl)
abbrev cX0_coins : ByteArray := method_10_code
def yX0_coins : MethodName := ⟨RX0, "coins", "(LCloudInterviews;I[J)I"⟩
def dkwX0_coins_0 : List UInt8 := [44, 3, 42, 27, 182, 0, 41, 133, 80, 167, 0, 6, 78, 4, 172, 3, 172]
abbrev dktX0_coins_0 : List UInt8 := dkwX0_coins_0 ++ []
theorem dksX0_coins_0 : cX0_coins.data.toList.drop 0 = dktX0_coins_0 := by decide +kernel
theorem dX0_coins_0 : decode cX0_coins 0 = .ok (.aload_n 2, 1) := dk_44 (dk_at dksX0_coins_0 0 rfl rfl)
theorem dX0_coins_1 : decode cX0_coins 1 = .ok (.iconst 0, 1) := dk_3 (dk_at dksX0_coins_0 1 rfl rfl)
theorem dX0_coins_2 : decode cX0_coins 2 = .ok (.aload_n 0, 1) := dk_42 (dk_at dksX0_coins_0 2 rfl rfl)
theorem dX0_coins_3 : decode cX0_coins 3 = .ok (.iload_n 1, 1) := dk_27 (dk_at dksX0_coins_0 3 rfl rfl)
theorem dX0_coins_4 : decode cX0_coins 4 = .ok (.invokevirtual 41, 3) := dk_182 0 41 (dk_at dksX0_coins_0 4 rfl rfl)
theorem dX0_coins_7 : decode cX0_coins 7 = .ok (.i2l, 1) := dk_133 (dk_at dksX0_coins_0 7 rfl rfl)
theorem dX0_coins_8 : decode cX0_coins 8 = .ok (.lastore, 1) := dk_80 (dk_at dksX0_coins_0 8 rfl rfl)
theorem dX0_coins_9 : decode cX0_coins 9 = .ok (.goto 6, 3) := dk_167 0 6 (dk_at dksX0_coins_0 9 rfl rfl)
theorem dX0_coins_12 : decode cX0_coins 12 = .ok (.astore_n 3, 1) := dk_78 (dk_at dksX0_coins_0 12 rfl rfl)
theorem dX0_coins_13 : decode cX0_coins 13 = .ok (.iconst 1, 1) := dk_4 (dk_at dksX0_coins_0 13 rfl rfl)
theorem dX0_coins_14 : decode cX0_coins 14 = .ok (.ireturn, 1) := dk_172 (dk_at dksX0_coins_0 14 rfl rfl)
theorem dX0_coins_15 : decode cX0_coins 15 = .ok (.iconst 0, 1) := dk_3 (dk_at dksX0_coins_0 15 rfl rfl)
theorem dX0_coins_16 : decode cX0_coins 16 = .ok (.ireturn, 1) := dk_172 (dk_at dksX0_coins_0 16 rfl rfl)
abbrev cX0_isHired : ByteArray := method_11_code
def yX0_isHired : MethodName := ⟨RX0, "isHired", "(LCloudInterviews;I[J)I"⟩
def dkwX0_isHired_0 : List UInt8 := [44, 3, 42, 27, 182, 0, 44, 153, 0, 7, 10, 167, 0, 4, 9, 80, 167, 0, 6, 78, 4, 172, 3, 172]
abbrev dktX0_isHired_0 : List UInt8 := dkwX0_isHired_0 ++ []
theorem dksX0_isHired_0 : cX0_isHired.data.toList.drop 0 = dktX0_isHired_0 := by decide +kernel
theorem dX0_isHired_0 : decode cX0_isHired 0 = .ok (.aload_n 2, 1) := dk_44 (dk_at dksX0_isHired_0 0 rfl rfl)
theorem dX0_isHired_1 : decode cX0_isHired 1 = .ok (.iconst 0, 1) := dk_3 (dk_at dksX0_isHired_0 1 rfl rfl)
theorem dX0_isHired_2 : decode cX0_isHired 2 = .ok (.aload_n 0, 1) := dk_42 (dk_at dksX0_isHired_0 2 rfl rfl)
theorem dX0_isHired_3 : decode cX0_isHired 3 = .ok (.iload_n 1, 1) := dk_27 (dk_at dksX0_isHired_0 3 rfl rfl)
theorem dX0_isHired_4 : decode cX0_isHired 4 = .ok (.invokevirtual 44, 3) := dk_182 0 44 (dk_at dksX0_isHired_0 4 rfl rfl)
theorem dX0_isHired_7 : decode cX0_isHired 7 = .ok (.ifCond .eq 7, 3) := dk_153 0 7 (dk_at dksX0_isHired_0 7 rfl rfl)
theorem dX0_isHired_10 : decode cX0_isHired 10 = .ok (.lconst 1, 1) := dk_10 (dk_at dksX0_isHired_0 10 rfl rfl)
theorem dX0_isHired_11 : decode cX0_isHired 11 = .ok (.goto 4, 3) := dk_167 0 4 (dk_at dksX0_isHired_0 11 rfl rfl)
theorem dX0_isHired_14 : decode cX0_isHired 14 = .ok (.lconst 0, 1) := dk_9 (dk_at dksX0_isHired_0 14 rfl rfl)
theorem dX0_isHired_15 : decode cX0_isHired 15 = .ok (.lastore, 1) := dk_80 (dk_at dksX0_isHired_0 15 rfl rfl)
theorem dX0_isHired_16 : decode cX0_isHired 16 = .ok (.goto 6, 3) := dk_167 0 6 (dk_at dksX0_isHired_0 16 rfl rfl)
theorem dX0_isHired_19 : decode cX0_isHired 19 = .ok (.astore_n 3, 1) := dk_78 (dk_at dksX0_isHired_0 19 rfl rfl)
theorem dX0_isHired_20 : decode cX0_isHired 20 = .ok (.iconst 1, 1) := dk_4 (dk_at dksX0_isHired_0 20 rfl rfl)
theorem dX0_isHired_21 : decode cX0_isHired 21 = .ok (.ireturn, 1) := dk_172 (dk_at dksX0_isHired_0 21 rfl rfl)
theorem dX0_isHired_22 : decode cX0_isHired 22 = .ok (.iconst 0, 1) := dk_3 (dk_at dksX0_isHired_0 22 rfl rfl)
theorem dX0_isHired_23 : decode cX0_isHired 23 = .ok (.ireturn, 1) := dk_172 (dk_at dksX0_isHired_0 23 rfl rfl)
abbrev cX0_postOf : ByteArray := method_12_code
def yX0_postOf : MethodName := ⟨RX0, "postOf", "(LCloudInterviews;I[J)I"⟩
def dkwX0_postOf_0 : List UInt8 := [44, 3, 42, 27, 182, 0, 48, 133, 80, 167, 0, 6, 78, 4, 172, 3, 172]
abbrev dktX0_postOf_0 : List UInt8 := dkwX0_postOf_0 ++ []
theorem dksX0_postOf_0 : cX0_postOf.data.toList.drop 0 = dktX0_postOf_0 := by decide +kernel
theorem dX0_postOf_0 : decode cX0_postOf 0 = .ok (.aload_n 2, 1) := dk_44 (dk_at dksX0_postOf_0 0 rfl rfl)
theorem dX0_postOf_1 : decode cX0_postOf 1 = .ok (.iconst 0, 1) := dk_3 (dk_at dksX0_postOf_0 1 rfl rfl)
theorem dX0_postOf_2 : decode cX0_postOf 2 = .ok (.aload_n 0, 1) := dk_42 (dk_at dksX0_postOf_0 2 rfl rfl)
theorem dX0_postOf_3 : decode cX0_postOf 3 = .ok (.iload_n 1, 1) := dk_27 (dk_at dksX0_postOf_0 3 rfl rfl)
theorem dX0_postOf_4 : decode cX0_postOf 4 = .ok (.invokevirtual 48, 3) := dk_182 0 48 (dk_at dksX0_postOf_0 4 rfl rfl)
theorem dX0_postOf_7 : decode cX0_postOf 7 = .ok (.i2l, 1) := dk_133 (dk_at dksX0_postOf_0 7 rfl rfl)
theorem dX0_postOf_8 : decode cX0_postOf 8 = .ok (.lastore, 1) := dk_80 (dk_at dksX0_postOf_0 8 rfl rfl)
theorem dX0_postOf_9 : decode cX0_postOf 9 = .ok (.goto 6, 3) := dk_167 0 6 (dk_at dksX0_postOf_0 9 rfl rfl)
theorem dX0_postOf_12 : decode cX0_postOf 12 = .ok (.astore_n 3, 1) := dk_78 (dk_at dksX0_postOf_0 12 rfl rfl)
theorem dX0_postOf_13 : decode cX0_postOf 13 = .ok (.iconst 1, 1) := dk_4 (dk_at dksX0_postOf_0 13 rfl rfl)
theorem dX0_postOf_14 : decode cX0_postOf 14 = .ok (.ireturn, 1) := dk_172 (dk_at dksX0_postOf_0 14 rfl rfl)
theorem dX0_postOf_15 : decode cX0_postOf 15 = .ok (.iconst 0, 1) := dk_3 (dk_at dksX0_postOf_0 15 rfl rfl)
theorem dX0_postOf_16 : decode cX0_postOf 16 = .ok (.ireturn, 1) := dk_172 (dk_at dksX0_postOf_0 16 rfl rfl)
abbrev cX0_score : ByteArray := method_13_code
def yX0_score : MethodName := ⟨RX0, "score", "(LCloudInterviews;I[J)I"⟩
def dkwX0_score_0 : List UInt8 := [44, 3, 42, 27, 182, 0, 51, 133, 80, 167, 0, 6, 78, 4, 172, 3, 172]
abbrev dktX0_score_0 : List UInt8 := dkwX0_score_0 ++ []
theorem dksX0_score_0 : cX0_score.data.toList.drop 0 = dktX0_score_0 := by decide +kernel
theorem dX0_score_0 : decode cX0_score 0 = .ok (.aload_n 2, 1) := dk_44 (dk_at dksX0_score_0 0 rfl rfl)
theorem dX0_score_1 : decode cX0_score 1 = .ok (.iconst 0, 1) := dk_3 (dk_at dksX0_score_0 1 rfl rfl)
theorem dX0_score_2 : decode cX0_score 2 = .ok (.aload_n 0, 1) := dk_42 (dk_at dksX0_score_0 2 rfl rfl)
theorem dX0_score_3 : decode cX0_score 3 = .ok (.iload_n 1, 1) := dk_27 (dk_at dksX0_score_0 3 rfl rfl)
theorem dX0_score_4 : decode cX0_score 4 = .ok (.invokevirtual 51, 3) := dk_182 0 51 (dk_at dksX0_score_0 4 rfl rfl)
theorem dX0_score_7 : decode cX0_score 7 = .ok (.i2l, 1) := dk_133 (dk_at dksX0_score_0 7 rfl rfl)
theorem dX0_score_8 : decode cX0_score 8 = .ok (.lastore, 1) := dk_80 (dk_at dksX0_score_0 8 rfl rfl)
theorem dX0_score_9 : decode cX0_score 9 = .ok (.goto 6, 3) := dk_167 0 6 (dk_at dksX0_score_0 9 rfl rfl)
theorem dX0_score_12 : decode cX0_score 12 = .ok (.astore_n 3, 1) := dk_78 (dk_at dksX0_score_0 12 rfl rfl)
theorem dX0_score_13 : decode cX0_score 13 = .ok (.iconst 1, 1) := dk_4 (dk_at dksX0_score_0 13 rfl rfl)
theorem dX0_score_14 : decode cX0_score 14 = .ok (.ireturn, 1) := dk_172 (dk_at dksX0_score_0 14 rfl rfl)
theorem dX0_score_15 : decode cX0_score 15 = .ok (.iconst 0, 1) := dk_3 (dk_at dksX0_score_0 15 rfl rfl)
theorem dX0_score_16 : decode cX0_score 16 = .ok (.ireturn, 1) := dk_172 (dk_at dksX0_score_0 16 rfl rfl)
abbrev cX0_applicantByScore : ByteArray := method_14_code
def yX0_applicantByScore : MethodName := ⟨RX0, "applicantByScore", "(LCloudInterviews;I[J)I"⟩
def dkwX0_applicantByScore_0 : List UInt8 := [44, 3, 42, 27, 182, 0, 54, 133, 80, 167, 0, 6, 78, 4, 172, 3, 172]
abbrev dktX0_applicantByScore_0 : List UInt8 := dkwX0_applicantByScore_0 ++ []
theorem dksX0_applicantByScore_0 : cX0_applicantByScore.data.toList.drop 0 = dktX0_applicantByScore_0 := by decide +kernel
theorem dX0_applicantByScore_0 : decode cX0_applicantByScore 0 = .ok (.aload_n 2, 1) := dk_44 (dk_at dksX0_applicantByScore_0 0 rfl rfl)
theorem dX0_applicantByScore_1 : decode cX0_applicantByScore 1 = .ok (.iconst 0, 1) := dk_3 (dk_at dksX0_applicantByScore_0 1 rfl rfl)
theorem dX0_applicantByScore_2 : decode cX0_applicantByScore 2 = .ok (.aload_n 0, 1) := dk_42 (dk_at dksX0_applicantByScore_0 2 rfl rfl)
theorem dX0_applicantByScore_3 : decode cX0_applicantByScore 3 = .ok (.iload_n 1, 1) := dk_27 (dk_at dksX0_applicantByScore_0 3 rfl rfl)
theorem dX0_applicantByScore_4 : decode cX0_applicantByScore 4 = .ok (.invokevirtual 54, 3) := dk_182 0 54 (dk_at dksX0_applicantByScore_0 4 rfl rfl)
theorem dX0_applicantByScore_7 : decode cX0_applicantByScore 7 = .ok (.i2l, 1) := dk_133 (dk_at dksX0_applicantByScore_0 7 rfl rfl)
theorem dX0_applicantByScore_8 : decode cX0_applicantByScore 8 = .ok (.lastore, 1) := dk_80 (dk_at dksX0_applicantByScore_0 8 rfl rfl)
theorem dX0_applicantByScore_9 : decode cX0_applicantByScore 9 = .ok (.goto 6, 3) := dk_167 0 6 (dk_at dksX0_applicantByScore_0 9 rfl rfl)
theorem dX0_applicantByScore_12 : decode cX0_applicantByScore 12 = .ok (.astore_n 3, 1) := dk_78 (dk_at dksX0_applicantByScore_0 12 rfl rfl)
theorem dX0_applicantByScore_13 : decode cX0_applicantByScore 13 = .ok (.iconst 1, 1) := dk_4 (dk_at dksX0_applicantByScore_0 13 rfl rfl)
theorem dX0_applicantByScore_14 : decode cX0_applicantByScore 14 = .ok (.ireturn, 1) := dk_172 (dk_at dksX0_applicantByScore_0 14 rfl rfl)
theorem dX0_applicantByScore_15 : decode cX0_applicantByScore 15 = .ok (.iconst 0, 1) := dk_3 (dk_at dksX0_applicantByScore_0 15 rfl rfl)
theorem dX0_applicantByScore_16 : decode cX0_applicantByScore 16 = .ok (.ireturn, 1) := dk_172 (dk_at dksX0_applicantByScore_0 16 rfl rfl)
abbrev cX0_addReference : ByteArray := method_15_code
def yX0_addReference : MethodName := ⟨RX0, "addReference", "(LCloudInterviews;II[J)I"⟩
def dkwX0_addReference_1 : List UInt8 := [172, 3, 172]
abbrev dktX0_addReference_1 : List UInt8 := dkwX0_addReference_1 ++ []
def dkwX0_addReference_0 : List UInt8 := [45, 3, 42, 27, 28, 182, 0, 57, 133, 80, 167, 0, 15, 58, 4, 4, 172, 58, 4, 5, 172, 58, 4, 6]
abbrev dktX0_addReference_0 : List UInt8 := dkwX0_addReference_0 ++ dktX0_addReference_1
theorem dksX0_addReference_0 : cX0_addReference.data.toList.drop 0 = dktX0_addReference_0 := by decide +kernel
theorem dksX0_addReference_1 : cX0_addReference.data.toList.drop 24 = dktX0_addReference_1 := dk_seg dksX0_addReference_0 24 rfl rfl
theorem dX0_addReference_0 : decode cX0_addReference 0 = .ok (.aload_n 3, 1) := dk_45 (dk_at dksX0_addReference_0 0 rfl rfl)
theorem dX0_addReference_1 : decode cX0_addReference 1 = .ok (.iconst 0, 1) := dk_3 (dk_at dksX0_addReference_0 1 rfl rfl)
theorem dX0_addReference_2 : decode cX0_addReference 2 = .ok (.aload_n 0, 1) := dk_42 (dk_at dksX0_addReference_0 2 rfl rfl)
theorem dX0_addReference_3 : decode cX0_addReference 3 = .ok (.iload_n 1, 1) := dk_27 (dk_at dksX0_addReference_0 3 rfl rfl)
theorem dX0_addReference_4 : decode cX0_addReference 4 = .ok (.iload_n 2, 1) := dk_28 (dk_at dksX0_addReference_0 4 rfl rfl)
theorem dX0_addReference_5 : decode cX0_addReference 5 = .ok (.invokevirtual 57, 3) := dk_182 0 57 (dk_at dksX0_addReference_0 5 rfl rfl)
theorem dX0_addReference_8 : decode cX0_addReference 8 = .ok (.i2l, 1) := dk_133 (dk_at dksX0_addReference_0 8 rfl rfl)
theorem dX0_addReference_9 : decode cX0_addReference 9 = .ok (.lastore, 1) := dk_80 (dk_at dksX0_addReference_0 9 rfl rfl)
theorem dX0_addReference_10 : decode cX0_addReference 10 = .ok (.goto 15, 3) := dk_167 0 15 (dk_at dksX0_addReference_0 10 rfl rfl)
theorem dX0_addReference_13 : decode cX0_addReference 13 = .ok (.astore 4, 2) := dk_58 4 (dk_at dksX0_addReference_0 13 rfl rfl)
theorem dX0_addReference_15 : decode cX0_addReference 15 = .ok (.iconst 1, 1) := dk_4 (dk_at dksX0_addReference_0 15 rfl rfl)
theorem dX0_addReference_16 : decode cX0_addReference 16 = .ok (.ireturn, 1) := dk_172 (dk_at dksX0_addReference_0 16 rfl rfl)
theorem dX0_addReference_17 : decode cX0_addReference 17 = .ok (.astore 4, 2) := dk_58 4 (dk_at dksX0_addReference_0 17 rfl rfl)
theorem dX0_addReference_19 : decode cX0_addReference 19 = .ok (.iconst 2, 1) := dk_5 (dk_at dksX0_addReference_0 19 rfl rfl)
theorem dX0_addReference_20 : decode cX0_addReference 20 = .ok (.ireturn, 1) := dk_172 (dk_at dksX0_addReference_0 20 rfl rfl)
theorem dX0_addReference_21 : decode cX0_addReference 21 = .ok (.astore 4, 2) := dk_58 4 (dk_at dksX0_addReference_0 21 rfl rfl)
theorem dX0_addReference_23 : decode cX0_addReference 23 = .ok (.iconst 3, 1) := dk_6 (dk_at dksX0_addReference_0 23 rfl rfl)
theorem dX0_addReference_24 : decode cX0_addReference 24 = .ok (.ireturn, 1) := dk_172 (dk_at dksX0_addReference_1 0 rfl rfl)
theorem dX0_addReference_25 : decode cX0_addReference 25 = .ok (.iconst 0, 1) := dk_3 (dk_at dksX0_addReference_1 1 rfl rfl)
theorem dX0_addReference_26 : decode cX0_addReference 26 = .ok (.ireturn, 1) := dk_172 (dk_at dksX0_addReference_1 2 rfl rfl)
abbrev cX0_removeReference : ByteArray := method_16_code
def yX0_removeReference : MethodName := ⟨RX0, "removeReference", "(LCloudInterviews;II[J)I"⟩
def dkwX0_removeReference_0 : List UInt8 := [45, 3, 42, 27, 28, 182, 0, 61, 133, 80, 167, 0, 7, 58, 4, 4, 172, 3, 172]
abbrev dktX0_removeReference_0 : List UInt8 := dkwX0_removeReference_0 ++ []
theorem dksX0_removeReference_0 : cX0_removeReference.data.toList.drop 0 = dktX0_removeReference_0 := by decide +kernel
theorem dX0_removeReference_0 : decode cX0_removeReference 0 = .ok (.aload_n 3, 1) := dk_45 (dk_at dksX0_removeReference_0 0 rfl rfl)
theorem dX0_removeReference_1 : decode cX0_removeReference 1 = .ok (.iconst 0, 1) := dk_3 (dk_at dksX0_removeReference_0 1 rfl rfl)
theorem dX0_removeReference_2 : decode cX0_removeReference 2 = .ok (.aload_n 0, 1) := dk_42 (dk_at dksX0_removeReference_0 2 rfl rfl)
theorem dX0_removeReference_3 : decode cX0_removeReference 3 = .ok (.iload_n 1, 1) := dk_27 (dk_at dksX0_removeReference_0 3 rfl rfl)
theorem dX0_removeReference_4 : decode cX0_removeReference 4 = .ok (.iload_n 2, 1) := dk_28 (dk_at dksX0_removeReference_0 4 rfl rfl)
theorem dX0_removeReference_5 : decode cX0_removeReference 5 = .ok (.invokevirtual 61, 3) := dk_182 0 61 (dk_at dksX0_removeReference_0 5 rfl rfl)
theorem dX0_removeReference_8 : decode cX0_removeReference 8 = .ok (.i2l, 1) := dk_133 (dk_at dksX0_removeReference_0 8 rfl rfl)
theorem dX0_removeReference_9 : decode cX0_removeReference 9 = .ok (.lastore, 1) := dk_80 (dk_at dksX0_removeReference_0 9 rfl rfl)
theorem dX0_removeReference_10 : decode cX0_removeReference 10 = .ok (.goto 7, 3) := dk_167 0 7 (dk_at dksX0_removeReference_0 10 rfl rfl)
theorem dX0_removeReference_13 : decode cX0_removeReference 13 = .ok (.astore 4, 2) := dk_58 4 (dk_at dksX0_removeReference_0 13 rfl rfl)
theorem dX0_removeReference_15 : decode cX0_removeReference 15 = .ok (.iconst 1, 1) := dk_4 (dk_at dksX0_removeReference_0 15 rfl rfl)
theorem dX0_removeReference_16 : decode cX0_removeReference 16 = .ok (.ireturn, 1) := dk_172 (dk_at dksX0_removeReference_0 16 rfl rfl)
theorem dX0_removeReference_17 : decode cX0_removeReference 17 = .ok (.iconst 0, 1) := dk_3 (dk_at dksX0_removeReference_0 17 rfl rfl)
theorem dX0_removeReference_18 : decode cX0_removeReference 18 = .ok (.ireturn, 1) := dk_172 (dk_at dksX0_removeReference_0 18 rfl rfl)
abbrev cX0_hasReference : ByteArray := method_17_code
def yX0_hasReference : MethodName := ⟨RX0, "hasReference", "(LCloudInterviews;II[J)I"⟩
def dkwX0_hasReference_1 : List UInt8 := [3, 172]
abbrev dktX0_hasReference_1 : List UInt8 := dkwX0_hasReference_1 ++ []
def dkwX0_hasReference_0 : List UInt8 := [45, 3, 42, 27, 28, 182, 0, 64, 153, 0, 7, 10, 167, 0, 4, 9, 80, 167, 0, 7, 58, 4, 4, 172]
abbrev dktX0_hasReference_0 : List UInt8 := dkwX0_hasReference_0 ++ dktX0_hasReference_1
theorem dksX0_hasReference_0 : cX0_hasReference.data.toList.drop 0 = dktX0_hasReference_0 := by decide +kernel
theorem dksX0_hasReference_1 : cX0_hasReference.data.toList.drop 24 = dktX0_hasReference_1 := dk_seg dksX0_hasReference_0 24 rfl rfl
theorem dX0_hasReference_0 : decode cX0_hasReference 0 = .ok (.aload_n 3, 1) := dk_45 (dk_at dksX0_hasReference_0 0 rfl rfl)
theorem dX0_hasReference_1 : decode cX0_hasReference 1 = .ok (.iconst 0, 1) := dk_3 (dk_at dksX0_hasReference_0 1 rfl rfl)
theorem dX0_hasReference_2 : decode cX0_hasReference 2 = .ok (.aload_n 0, 1) := dk_42 (dk_at dksX0_hasReference_0 2 rfl rfl)
theorem dX0_hasReference_3 : decode cX0_hasReference 3 = .ok (.iload_n 1, 1) := dk_27 (dk_at dksX0_hasReference_0 3 rfl rfl)
theorem dX0_hasReference_4 : decode cX0_hasReference 4 = .ok (.iload_n 2, 1) := dk_28 (dk_at dksX0_hasReference_0 4 rfl rfl)
theorem dX0_hasReference_5 : decode cX0_hasReference 5 = .ok (.invokevirtual 64, 3) := dk_182 0 64 (dk_at dksX0_hasReference_0 5 rfl rfl)
theorem dX0_hasReference_8 : decode cX0_hasReference 8 = .ok (.ifCond .eq 7, 3) := dk_153 0 7 (dk_at dksX0_hasReference_0 8 rfl rfl)
theorem dX0_hasReference_11 : decode cX0_hasReference 11 = .ok (.lconst 1, 1) := dk_10 (dk_at dksX0_hasReference_0 11 rfl rfl)
theorem dX0_hasReference_12 : decode cX0_hasReference 12 = .ok (.goto 4, 3) := dk_167 0 4 (dk_at dksX0_hasReference_0 12 rfl rfl)
theorem dX0_hasReference_15 : decode cX0_hasReference 15 = .ok (.lconst 0, 1) := dk_9 (dk_at dksX0_hasReference_0 15 rfl rfl)
theorem dX0_hasReference_16 : decode cX0_hasReference 16 = .ok (.lastore, 1) := dk_80 (dk_at dksX0_hasReference_0 16 rfl rfl)
theorem dX0_hasReference_17 : decode cX0_hasReference 17 = .ok (.goto 7, 3) := dk_167 0 7 (dk_at dksX0_hasReference_0 17 rfl rfl)
theorem dX0_hasReference_20 : decode cX0_hasReference 20 = .ok (.astore 4, 2) := dk_58 4 (dk_at dksX0_hasReference_0 20 rfl rfl)
theorem dX0_hasReference_22 : decode cX0_hasReference 22 = .ok (.iconst 1, 1) := dk_4 (dk_at dksX0_hasReference_0 22 rfl rfl)
theorem dX0_hasReference_23 : decode cX0_hasReference 23 = .ok (.ireturn, 1) := dk_172 (dk_at dksX0_hasReference_0 23 rfl rfl)
theorem dX0_hasReference_24 : decode cX0_hasReference 24 = .ok (.iconst 0, 1) := dk_3 (dk_at dksX0_hasReference_1 0 rfl rfl)
theorem dX0_hasReference_25 : decode cX0_hasReference 25 = .ok (.ireturn, 1) := dk_172 (dk_at dksX0_hasReference_1 1 rfl rfl)
abbrev cX0_referencesFor : ByteArray := method_18_code
def yX0_referencesFor : MethodName := ⟨RX0, "referencesFor", "(LCloudInterviews;I[J)I"⟩
def dkwX0_referencesFor_0 : List UInt8 := [44, 3, 42, 27, 182, 0, 68, 133, 80, 167, 0, 6, 78, 4, 172, 3, 172]
abbrev dktX0_referencesFor_0 : List UInt8 := dkwX0_referencesFor_0 ++ []
theorem dksX0_referencesFor_0 : cX0_referencesFor.data.toList.drop 0 = dktX0_referencesFor_0 := by decide +kernel
theorem dX0_referencesFor_0 : decode cX0_referencesFor 0 = .ok (.aload_n 2, 1) := dk_44 (dk_at dksX0_referencesFor_0 0 rfl rfl)
theorem dX0_referencesFor_1 : decode cX0_referencesFor 1 = .ok (.iconst 0, 1) := dk_3 (dk_at dksX0_referencesFor_0 1 rfl rfl)
theorem dX0_referencesFor_2 : decode cX0_referencesFor 2 = .ok (.aload_n 0, 1) := dk_42 (dk_at dksX0_referencesFor_0 2 rfl rfl)
theorem dX0_referencesFor_3 : decode cX0_referencesFor 3 = .ok (.iload_n 1, 1) := dk_27 (dk_at dksX0_referencesFor_0 3 rfl rfl)
theorem dX0_referencesFor_4 : decode cX0_referencesFor 4 = .ok (.invokevirtual 68, 3) := dk_182 0 68 (dk_at dksX0_referencesFor_0 4 rfl rfl)
theorem dX0_referencesFor_7 : decode cX0_referencesFor 7 = .ok (.i2l, 1) := dk_133 (dk_at dksX0_referencesFor_0 7 rfl rfl)
theorem dX0_referencesFor_8 : decode cX0_referencesFor 8 = .ok (.lastore, 1) := dk_80 (dk_at dksX0_referencesFor_0 8 rfl rfl)
theorem dX0_referencesFor_9 : decode cX0_referencesFor 9 = .ok (.goto 6, 3) := dk_167 0 6 (dk_at dksX0_referencesFor_0 9 rfl rfl)
theorem dX0_referencesFor_12 : decode cX0_referencesFor 12 = .ok (.astore_n 3, 1) := dk_78 (dk_at dksX0_referencesFor_0 12 rfl rfl)
theorem dX0_referencesFor_13 : decode cX0_referencesFor 13 = .ok (.iconst 1, 1) := dk_4 (dk_at dksX0_referencesFor_0 13 rfl rfl)
theorem dX0_referencesFor_14 : decode cX0_referencesFor 14 = .ok (.ireturn, 1) := dk_172 (dk_at dksX0_referencesFor_0 14 rfl rfl)
theorem dX0_referencesFor_15 : decode cX0_referencesFor 15 = .ok (.iconst 0, 1) := dk_3 (dk_at dksX0_referencesFor_0 15 rfl rfl)
theorem dX0_referencesFor_16 : decode cX0_referencesFor 16 = .ok (.ireturn, 1) := dk_172 (dk_at dksX0_referencesFor_0 16 rfl rfl)
abbrev cX0_referencesFrom : ByteArray := method_19_code
def yX0_referencesFrom : MethodName := ⟨RX0, "referencesFrom", "(LCloudInterviews;I[J)I"⟩
def dkwX0_referencesFrom_0 : List UInt8 := [44, 3, 42, 27, 182, 0, 71, 133, 80, 167, 0, 6, 78, 4, 172, 3, 172]
abbrev dktX0_referencesFrom_0 : List UInt8 := dkwX0_referencesFrom_0 ++ []
theorem dksX0_referencesFrom_0 : cX0_referencesFrom.data.toList.drop 0 = dktX0_referencesFrom_0 := by decide +kernel
theorem dX0_referencesFrom_0 : decode cX0_referencesFrom 0 = .ok (.aload_n 2, 1) := dk_44 (dk_at dksX0_referencesFrom_0 0 rfl rfl)
theorem dX0_referencesFrom_1 : decode cX0_referencesFrom 1 = .ok (.iconst 0, 1) := dk_3 (dk_at dksX0_referencesFrom_0 1 rfl rfl)
theorem dX0_referencesFrom_2 : decode cX0_referencesFrom 2 = .ok (.aload_n 0, 1) := dk_42 (dk_at dksX0_referencesFrom_0 2 rfl rfl)
theorem dX0_referencesFrom_3 : decode cX0_referencesFrom 3 = .ok (.iload_n 1, 1) := dk_27 (dk_at dksX0_referencesFrom_0 3 rfl rfl)
theorem dX0_referencesFrom_4 : decode cX0_referencesFrom 4 = .ok (.invokevirtual 71, 3) := dk_182 0 71 (dk_at dksX0_referencesFrom_0 4 rfl rfl)
theorem dX0_referencesFrom_7 : decode cX0_referencesFrom 7 = .ok (.i2l, 1) := dk_133 (dk_at dksX0_referencesFrom_0 7 rfl rfl)
theorem dX0_referencesFrom_8 : decode cX0_referencesFrom 8 = .ok (.lastore, 1) := dk_80 (dk_at dksX0_referencesFrom_0 8 rfl rfl)
theorem dX0_referencesFrom_9 : decode cX0_referencesFrom 9 = .ok (.goto 6, 3) := dk_167 0 6 (dk_at dksX0_referencesFrom_0 9 rfl rfl)
theorem dX0_referencesFrom_12 : decode cX0_referencesFrom 12 = .ok (.astore_n 3, 1) := dk_78 (dk_at dksX0_referencesFrom_0 12 rfl rfl)
theorem dX0_referencesFrom_13 : decode cX0_referencesFrom 13 = .ok (.iconst 1, 1) := dk_4 (dk_at dksX0_referencesFrom_0 13 rfl rfl)
theorem dX0_referencesFrom_14 : decode cX0_referencesFrom 14 = .ok (.ireturn, 1) := dk_172 (dk_at dksX0_referencesFrom_0 14 rfl rfl)
theorem dX0_referencesFrom_15 : decode cX0_referencesFrom 15 = .ok (.iconst 0, 1) := dk_3 (dk_at dksX0_referencesFrom_0 15 rfl rfl)
theorem dX0_referencesFrom_16 : decode cX0_referencesFrom 16 = .ok (.ireturn, 1) := dk_172 (dk_at dksX0_referencesFrom_0 16 rfl rfl)
abbrev cX0_openPost : ByteArray := method_20_code
def yX0_openPost : MethodName := ⟨RX0, "openPost", "(LCloudInterviews;CIII[J)I"⟩
def dkwX0_openPost_1 : List UInt8 := [172, 3, 172]
abbrev dktX0_openPost_1 : List UInt8 := dkwX0_openPost_1 ++ []
def dkwX0_openPost_0 : List UInt8 := [25, 5, 3, 42, 27, 28, 29, 21, 4, 182, 0, 74, 133, 80, 167, 0, 11, 58, 6, 4, 172, 58, 6, 5]
abbrev dktX0_openPost_0 : List UInt8 := dkwX0_openPost_0 ++ dktX0_openPost_1
theorem dksX0_openPost_0 : cX0_openPost.data.toList.drop 0 = dktX0_openPost_0 := by decide +kernel
theorem dksX0_openPost_1 : cX0_openPost.data.toList.drop 24 = dktX0_openPost_1 := dk_seg dksX0_openPost_0 24 rfl rfl
theorem dX0_openPost_0 : decode cX0_openPost 0 = .ok (.aload 5, 2) := dk_25 5 (dk_at dksX0_openPost_0 0 rfl rfl)
theorem dX0_openPost_2 : decode cX0_openPost 2 = .ok (.iconst 0, 1) := dk_3 (dk_at dksX0_openPost_0 2 rfl rfl)
theorem dX0_openPost_3 : decode cX0_openPost 3 = .ok (.aload_n 0, 1) := dk_42 (dk_at dksX0_openPost_0 3 rfl rfl)
theorem dX0_openPost_4 : decode cX0_openPost 4 = .ok (.iload_n 1, 1) := dk_27 (dk_at dksX0_openPost_0 4 rfl rfl)
theorem dX0_openPost_5 : decode cX0_openPost 5 = .ok (.iload_n 2, 1) := dk_28 (dk_at dksX0_openPost_0 5 rfl rfl)
theorem dX0_openPost_6 : decode cX0_openPost 6 = .ok (.iload_n 3, 1) := dk_29 (dk_at dksX0_openPost_0 6 rfl rfl)
theorem dX0_openPost_7 : decode cX0_openPost 7 = .ok (.iload 4, 2) := dk_21 4 (dk_at dksX0_openPost_0 7 rfl rfl)
theorem dX0_openPost_9 : decode cX0_openPost 9 = .ok (.invokevirtual 74, 3) := dk_182 0 74 (dk_at dksX0_openPost_0 9 rfl rfl)
theorem dX0_openPost_12 : decode cX0_openPost 12 = .ok (.i2l, 1) := dk_133 (dk_at dksX0_openPost_0 12 rfl rfl)
theorem dX0_openPost_13 : decode cX0_openPost 13 = .ok (.lastore, 1) := dk_80 (dk_at dksX0_openPost_0 13 rfl rfl)
theorem dX0_openPost_14 : decode cX0_openPost 14 = .ok (.goto 11, 3) := dk_167 0 11 (dk_at dksX0_openPost_0 14 rfl rfl)
theorem dX0_openPost_17 : decode cX0_openPost 17 = .ok (.astore 6, 2) := dk_58 6 (dk_at dksX0_openPost_0 17 rfl rfl)
theorem dX0_openPost_19 : decode cX0_openPost 19 = .ok (.iconst 1, 1) := dk_4 (dk_at dksX0_openPost_0 19 rfl rfl)
theorem dX0_openPost_20 : decode cX0_openPost 20 = .ok (.ireturn, 1) := dk_172 (dk_at dksX0_openPost_0 20 rfl rfl)
theorem dX0_openPost_21 : decode cX0_openPost 21 = .ok (.astore 6, 2) := dk_58 6 (dk_at dksX0_openPost_0 21 rfl rfl)
theorem dX0_openPost_23 : decode cX0_openPost 23 = .ok (.iconst 2, 1) := dk_5 (dk_at dksX0_openPost_0 23 rfl rfl)
theorem dX0_openPost_24 : decode cX0_openPost 24 = .ok (.ireturn, 1) := dk_172 (dk_at dksX0_openPost_1 0 rfl rfl)
theorem dX0_openPost_25 : decode cX0_openPost 25 = .ok (.iconst 0, 1) := dk_3 (dk_at dksX0_openPost_1 1 rfl rfl)
theorem dX0_openPost_26 : decode cX0_openPost 26 = .ok (.ireturn, 1) := dk_172 (dk_at dksX0_openPost_1 2 rfl rfl)
abbrev cX0_closePost : ByteArray := method_21_code
def yX0_closePost : MethodName := ⟨RX0, "closePost", "(LCloudInterviews;I[J)I"⟩
def dkwX0_closePost_0 : List UInt8 := [44, 3, 42, 27, 182, 0, 78, 153, 0, 7, 10, 167, 0, 4, 9, 80, 167, 0, 6, 78, 4, 172, 3, 172]
abbrev dktX0_closePost_0 : List UInt8 := dkwX0_closePost_0 ++ []
theorem dksX0_closePost_0 : cX0_closePost.data.toList.drop 0 = dktX0_closePost_0 := by decide +kernel
theorem dX0_closePost_0 : decode cX0_closePost 0 = .ok (.aload_n 2, 1) := dk_44 (dk_at dksX0_closePost_0 0 rfl rfl)
theorem dX0_closePost_1 : decode cX0_closePost 1 = .ok (.iconst 0, 1) := dk_3 (dk_at dksX0_closePost_0 1 rfl rfl)
theorem dX0_closePost_2 : decode cX0_closePost 2 = .ok (.aload_n 0, 1) := dk_42 (dk_at dksX0_closePost_0 2 rfl rfl)
theorem dX0_closePost_3 : decode cX0_closePost 3 = .ok (.iload_n 1, 1) := dk_27 (dk_at dksX0_closePost_0 3 rfl rfl)
theorem dX0_closePost_4 : decode cX0_closePost 4 = .ok (.invokevirtual 78, 3) := dk_182 0 78 (dk_at dksX0_closePost_0 4 rfl rfl)
theorem dX0_closePost_7 : decode cX0_closePost 7 = .ok (.ifCond .eq 7, 3) := dk_153 0 7 (dk_at dksX0_closePost_0 7 rfl rfl)
theorem dX0_closePost_10 : decode cX0_closePost 10 = .ok (.lconst 1, 1) := dk_10 (dk_at dksX0_closePost_0 10 rfl rfl)
theorem dX0_closePost_11 : decode cX0_closePost 11 = .ok (.goto 4, 3) := dk_167 0 4 (dk_at dksX0_closePost_0 11 rfl rfl)
theorem dX0_closePost_14 : decode cX0_closePost 14 = .ok (.lconst 0, 1) := dk_9 (dk_at dksX0_closePost_0 14 rfl rfl)
theorem dX0_closePost_15 : decode cX0_closePost 15 = .ok (.lastore, 1) := dk_80 (dk_at dksX0_closePost_0 15 rfl rfl)
theorem dX0_closePost_16 : decode cX0_closePost 16 = .ok (.goto 6, 3) := dk_167 0 6 (dk_at dksX0_closePost_0 16 rfl rfl)
theorem dX0_closePost_19 : decode cX0_closePost 19 = .ok (.astore_n 3, 1) := dk_78 (dk_at dksX0_closePost_0 19 rfl rfl)
theorem dX0_closePost_20 : decode cX0_closePost 20 = .ok (.iconst 1, 1) := dk_4 (dk_at dksX0_closePost_0 20 rfl rfl)
theorem dX0_closePost_21 : decode cX0_closePost 21 = .ok (.ireturn, 1) := dk_172 (dk_at dksX0_closePost_0 21 rfl rfl)
theorem dX0_closePost_22 : decode cX0_closePost 22 = .ok (.iconst 0, 1) := dk_3 (dk_at dksX0_closePost_0 22 rfl rfl)
theorem dX0_closePost_23 : decode cX0_closePost 23 = .ok (.ireturn, 1) := dk_172 (dk_at dksX0_closePost_0 23 rfl rfl)
abbrev cX0_requiredShape : ByteArray := method_22_code
def yX0_requiredShape : MethodName := ⟨RX0, "requiredShape", "(LCloudInterviews;I[J)I"⟩
def dkwX0_requiredShape_0 : List UInt8 := [44, 3, 42, 27, 182, 0, 81, 133, 80, 167, 0, 6, 78, 4, 172, 3, 172]
abbrev dktX0_requiredShape_0 : List UInt8 := dkwX0_requiredShape_0 ++ []
theorem dksX0_requiredShape_0 : cX0_requiredShape.data.toList.drop 0 = dktX0_requiredShape_0 := by decide +kernel
theorem dX0_requiredShape_0 : decode cX0_requiredShape 0 = .ok (.aload_n 2, 1) := dk_44 (dk_at dksX0_requiredShape_0 0 rfl rfl)
theorem dX0_requiredShape_1 : decode cX0_requiredShape 1 = .ok (.iconst 0, 1) := dk_3 (dk_at dksX0_requiredShape_0 1 rfl rfl)
theorem dX0_requiredShape_2 : decode cX0_requiredShape 2 = .ok (.aload_n 0, 1) := dk_42 (dk_at dksX0_requiredShape_0 2 rfl rfl)
theorem dX0_requiredShape_3 : decode cX0_requiredShape 3 = .ok (.iload_n 1, 1) := dk_27 (dk_at dksX0_requiredShape_0 3 rfl rfl)
theorem dX0_requiredShape_4 : decode cX0_requiredShape 4 = .ok (.invokevirtual 81, 3) := dk_182 0 81 (dk_at dksX0_requiredShape_0 4 rfl rfl)
theorem dX0_requiredShape_7 : decode cX0_requiredShape 7 = .ok (.i2l, 1) := dk_133 (dk_at dksX0_requiredShape_0 7 rfl rfl)
theorem dX0_requiredShape_8 : decode cX0_requiredShape 8 = .ok (.lastore, 1) := dk_80 (dk_at dksX0_requiredShape_0 8 rfl rfl)
theorem dX0_requiredShape_9 : decode cX0_requiredShape 9 = .ok (.goto 6, 3) := dk_167 0 6 (dk_at dksX0_requiredShape_0 9 rfl rfl)
theorem dX0_requiredShape_12 : decode cX0_requiredShape 12 = .ok (.astore_n 3, 1) := dk_78 (dk_at dksX0_requiredShape_0 12 rfl rfl)
theorem dX0_requiredShape_13 : decode cX0_requiredShape 13 = .ok (.iconst 1, 1) := dk_4 (dk_at dksX0_requiredShape_0 13 rfl rfl)
theorem dX0_requiredShape_14 : decode cX0_requiredShape 14 = .ok (.ireturn, 1) := dk_172 (dk_at dksX0_requiredShape_0 14 rfl rfl)
theorem dX0_requiredShape_15 : decode cX0_requiredShape 15 = .ok (.iconst 0, 1) := dk_3 (dk_at dksX0_requiredShape_0 15 rfl rfl)
theorem dX0_requiredShape_16 : decode cX0_requiredShape 16 = .ok (.ireturn, 1) := dk_172 (dk_at dksX0_requiredShape_0 16 rfl rfl)
abbrev cX0_lowestWhiteness : ByteArray := method_23_code
def yX0_lowestWhiteness : MethodName := ⟨RX0, "lowestWhiteness", "(LCloudInterviews;I[J)I"⟩
def dkwX0_lowestWhiteness_0 : List UInt8 := [44, 3, 42, 27, 182, 0, 84, 133, 80, 167, 0, 6, 78, 4, 172, 3, 172]
abbrev dktX0_lowestWhiteness_0 : List UInt8 := dkwX0_lowestWhiteness_0 ++ []
theorem dksX0_lowestWhiteness_0 : cX0_lowestWhiteness.data.toList.drop 0 = dktX0_lowestWhiteness_0 := by decide +kernel
theorem dX0_lowestWhiteness_0 : decode cX0_lowestWhiteness 0 = .ok (.aload_n 2, 1) := dk_44 (dk_at dksX0_lowestWhiteness_0 0 rfl rfl)
theorem dX0_lowestWhiteness_1 : decode cX0_lowestWhiteness 1 = .ok (.iconst 0, 1) := dk_3 (dk_at dksX0_lowestWhiteness_0 1 rfl rfl)
theorem dX0_lowestWhiteness_2 : decode cX0_lowestWhiteness 2 = .ok (.aload_n 0, 1) := dk_42 (dk_at dksX0_lowestWhiteness_0 2 rfl rfl)
theorem dX0_lowestWhiteness_3 : decode cX0_lowestWhiteness 3 = .ok (.iload_n 1, 1) := dk_27 (dk_at dksX0_lowestWhiteness_0 3 rfl rfl)
theorem dX0_lowestWhiteness_4 : decode cX0_lowestWhiteness 4 = .ok (.invokevirtual 84, 3) := dk_182 0 84 (dk_at dksX0_lowestWhiteness_0 4 rfl rfl)
theorem dX0_lowestWhiteness_7 : decode cX0_lowestWhiteness 7 = .ok (.i2l, 1) := dk_133 (dk_at dksX0_lowestWhiteness_0 7 rfl rfl)
theorem dX0_lowestWhiteness_8 : decode cX0_lowestWhiteness 8 = .ok (.lastore, 1) := dk_80 (dk_at dksX0_lowestWhiteness_0 8 rfl rfl)
theorem dX0_lowestWhiteness_9 : decode cX0_lowestWhiteness 9 = .ok (.goto 6, 3) := dk_167 0 6 (dk_at dksX0_lowestWhiteness_0 9 rfl rfl)
theorem dX0_lowestWhiteness_12 : decode cX0_lowestWhiteness 12 = .ok (.astore_n 3, 1) := dk_78 (dk_at dksX0_lowestWhiteness_0 12 rfl rfl)
theorem dX0_lowestWhiteness_13 : decode cX0_lowestWhiteness 13 = .ok (.iconst 1, 1) := dk_4 (dk_at dksX0_lowestWhiteness_0 13 rfl rfl)
theorem dX0_lowestWhiteness_14 : decode cX0_lowestWhiteness 14 = .ok (.ireturn, 1) := dk_172 (dk_at dksX0_lowestWhiteness_0 14 rfl rfl)
theorem dX0_lowestWhiteness_15 : decode cX0_lowestWhiteness 15 = .ok (.iconst 0, 1) := dk_3 (dk_at dksX0_lowestWhiteness_0 15 rfl rfl)
theorem dX0_lowestWhiteness_16 : decode cX0_lowestWhiteness 16 = .ok (.ireturn, 1) := dk_172 (dk_at dksX0_lowestWhiteness_0 16 rfl rfl)
abbrev cX0_highestRain : ByteArray := method_24_code
def yX0_highestRain : MethodName := ⟨RX0, "highestRain", "(LCloudInterviews;I[J)I"⟩
def dkwX0_highestRain_0 : List UInt8 := [44, 3, 42, 27, 182, 0, 87, 133, 80, 167, 0, 6, 78, 4, 172, 3, 172]
abbrev dktX0_highestRain_0 : List UInt8 := dkwX0_highestRain_0 ++ []
theorem dksX0_highestRain_0 : cX0_highestRain.data.toList.drop 0 = dktX0_highestRain_0 := by decide +kernel
theorem dX0_highestRain_0 : decode cX0_highestRain 0 = .ok (.aload_n 2, 1) := dk_44 (dk_at dksX0_highestRain_0 0 rfl rfl)
theorem dX0_highestRain_1 : decode cX0_highestRain 1 = .ok (.iconst 0, 1) := dk_3 (dk_at dksX0_highestRain_0 1 rfl rfl)
theorem dX0_highestRain_2 : decode cX0_highestRain 2 = .ok (.aload_n 0, 1) := dk_42 (dk_at dksX0_highestRain_0 2 rfl rfl)
theorem dX0_highestRain_3 : decode cX0_highestRain 3 = .ok (.iload_n 1, 1) := dk_27 (dk_at dksX0_highestRain_0 3 rfl rfl)
theorem dX0_highestRain_4 : decode cX0_highestRain 4 = .ok (.invokevirtual 87, 3) := dk_182 0 87 (dk_at dksX0_highestRain_0 4 rfl rfl)
theorem dX0_highestRain_7 : decode cX0_highestRain 7 = .ok (.i2l, 1) := dk_133 (dk_at dksX0_highestRain_0 7 rfl rfl)
theorem dX0_highestRain_8 : decode cX0_highestRain 8 = .ok (.lastore, 1) := dk_80 (dk_at dksX0_highestRain_0 8 rfl rfl)
theorem dX0_highestRain_9 : decode cX0_highestRain 9 = .ok (.goto 6, 3) := dk_167 0 6 (dk_at dksX0_highestRain_0 9 rfl rfl)
theorem dX0_highestRain_12 : decode cX0_highestRain 12 = .ok (.astore_n 3, 1) := dk_78 (dk_at dksX0_highestRain_0 12 rfl rfl)
theorem dX0_highestRain_13 : decode cX0_highestRain 13 = .ok (.iconst 1, 1) := dk_4 (dk_at dksX0_highestRain_0 13 rfl rfl)
theorem dX0_highestRain_14 : decode cX0_highestRain 14 = .ok (.ireturn, 1) := dk_172 (dk_at dksX0_highestRain_0 14 rfl rfl)
theorem dX0_highestRain_15 : decode cX0_highestRain 15 = .ok (.iconst 0, 1) := dk_3 (dk_at dksX0_highestRain_0 15 rfl rfl)
theorem dX0_highestRain_16 : decode cX0_highestRain 16 = .ok (.ireturn, 1) := dk_172 (dk_at dksX0_highestRain_0 16 rfl rfl)
abbrev cX0_wage : ByteArray := method_25_code
def yX0_wage : MethodName := ⟨RX0, "wage", "(LCloudInterviews;I[J)I"⟩
def dkwX0_wage_0 : List UInt8 := [44, 3, 42, 27, 182, 0, 90, 133, 80, 167, 0, 6, 78, 4, 172, 3, 172]
abbrev dktX0_wage_0 : List UInt8 := dkwX0_wage_0 ++ []
theorem dksX0_wage_0 : cX0_wage.data.toList.drop 0 = dktX0_wage_0 := by decide +kernel
theorem dX0_wage_0 : decode cX0_wage 0 = .ok (.aload_n 2, 1) := dk_44 (dk_at dksX0_wage_0 0 rfl rfl)
theorem dX0_wage_1 : decode cX0_wage 1 = .ok (.iconst 0, 1) := dk_3 (dk_at dksX0_wage_0 1 rfl rfl)
theorem dX0_wage_2 : decode cX0_wage 2 = .ok (.aload_n 0, 1) := dk_42 (dk_at dksX0_wage_0 2 rfl rfl)
theorem dX0_wage_3 : decode cX0_wage 3 = .ok (.iload_n 1, 1) := dk_27 (dk_at dksX0_wage_0 3 rfl rfl)
theorem dX0_wage_4 : decode cX0_wage 4 = .ok (.invokevirtual 90, 3) := dk_182 0 90 (dk_at dksX0_wage_0 4 rfl rfl)
theorem dX0_wage_7 : decode cX0_wage 7 = .ok (.i2l, 1) := dk_133 (dk_at dksX0_wage_0 7 rfl rfl)
theorem dX0_wage_8 : decode cX0_wage 8 = .ok (.lastore, 1) := dk_80 (dk_at dksX0_wage_0 8 rfl rfl)
theorem dX0_wage_9 : decode cX0_wage 9 = .ok (.goto 6, 3) := dk_167 0 6 (dk_at dksX0_wage_0 9 rfl rfl)
theorem dX0_wage_12 : decode cX0_wage 12 = .ok (.astore_n 3, 1) := dk_78 (dk_at dksX0_wage_0 12 rfl rfl)
theorem dX0_wage_13 : decode cX0_wage 13 = .ok (.iconst 1, 1) := dk_4 (dk_at dksX0_wage_0 13 rfl rfl)
theorem dX0_wage_14 : decode cX0_wage 14 = .ok (.ireturn, 1) := dk_172 (dk_at dksX0_wage_0 14 rfl rfl)
theorem dX0_wage_15 : decode cX0_wage 15 = .ok (.iconst 0, 1) := dk_3 (dk_at dksX0_wage_0 15 rfl rfl)
theorem dX0_wage_16 : decode cX0_wage 16 = .ok (.ireturn, 1) := dk_172 (dk_at dksX0_wage_0 16 rfl rfl)
abbrev cX0_filledBy : ByteArray := method_26_code
def yX0_filledBy : MethodName := ⟨RX0, "filledBy", "(LCloudInterviews;I[J)I"⟩
def dkwX0_filledBy_0 : List UInt8 := [44, 3, 42, 27, 182, 0, 93, 133, 80, 167, 0, 9, 78, 4, 172, 78, 5, 172, 3, 172]
abbrev dktX0_filledBy_0 : List UInt8 := dkwX0_filledBy_0 ++ []
theorem dksX0_filledBy_0 : cX0_filledBy.data.toList.drop 0 = dktX0_filledBy_0 := by decide +kernel
theorem dX0_filledBy_0 : decode cX0_filledBy 0 = .ok (.aload_n 2, 1) := dk_44 (dk_at dksX0_filledBy_0 0 rfl rfl)
theorem dX0_filledBy_1 : decode cX0_filledBy 1 = .ok (.iconst 0, 1) := dk_3 (dk_at dksX0_filledBy_0 1 rfl rfl)
theorem dX0_filledBy_2 : decode cX0_filledBy 2 = .ok (.aload_n 0, 1) := dk_42 (dk_at dksX0_filledBy_0 2 rfl rfl)
theorem dX0_filledBy_3 : decode cX0_filledBy 3 = .ok (.iload_n 1, 1) := dk_27 (dk_at dksX0_filledBy_0 3 rfl rfl)
theorem dX0_filledBy_4 : decode cX0_filledBy 4 = .ok (.invokevirtual 93, 3) := dk_182 0 93 (dk_at dksX0_filledBy_0 4 rfl rfl)
theorem dX0_filledBy_7 : decode cX0_filledBy 7 = .ok (.i2l, 1) := dk_133 (dk_at dksX0_filledBy_0 7 rfl rfl)
theorem dX0_filledBy_8 : decode cX0_filledBy 8 = .ok (.lastore, 1) := dk_80 (dk_at dksX0_filledBy_0 8 rfl rfl)
theorem dX0_filledBy_9 : decode cX0_filledBy 9 = .ok (.goto 9, 3) := dk_167 0 9 (dk_at dksX0_filledBy_0 9 rfl rfl)
theorem dX0_filledBy_12 : decode cX0_filledBy 12 = .ok (.astore_n 3, 1) := dk_78 (dk_at dksX0_filledBy_0 12 rfl rfl)
theorem dX0_filledBy_13 : decode cX0_filledBy 13 = .ok (.iconst 1, 1) := dk_4 (dk_at dksX0_filledBy_0 13 rfl rfl)
theorem dX0_filledBy_14 : decode cX0_filledBy 14 = .ok (.ireturn, 1) := dk_172 (dk_at dksX0_filledBy_0 14 rfl rfl)
theorem dX0_filledBy_15 : decode cX0_filledBy 15 = .ok (.astore_n 3, 1) := dk_78 (dk_at dksX0_filledBy_0 15 rfl rfl)
theorem dX0_filledBy_16 : decode cX0_filledBy 16 = .ok (.iconst 2, 1) := dk_5 (dk_at dksX0_filledBy_0 16 rfl rfl)
theorem dX0_filledBy_17 : decode cX0_filledBy 17 = .ok (.ireturn, 1) := dk_172 (dk_at dksX0_filledBy_0 17 rfl rfl)
theorem dX0_filledBy_18 : decode cX0_filledBy 18 = .ok (.iconst 0, 1) := dk_3 (dk_at dksX0_filledBy_0 18 rfl rfl)
theorem dX0_filledBy_19 : decode cX0_filledBy 19 = .ok (.ireturn, 1) := dk_172 (dk_at dksX0_filledBy_0 19 rfl rfl)
abbrev cX0_suits : ByteArray := method_27_code
def yX0_suits : MethodName := ⟨RX0, "suits", "(LCloudInterviews;II[J)I"⟩
def dkwX0_suits_1 : List UInt8 := [58, 4, 5, 172, 3, 172]
abbrev dktX0_suits_1 : List UInt8 := dkwX0_suits_1 ++ []
def dkwX0_suits_0 : List UInt8 := [45, 3, 42, 27, 28, 182, 0, 96, 153, 0, 7, 10, 167, 0, 4, 9, 80, 167, 0, 11, 58, 4, 4, 172]
abbrev dktX0_suits_0 : List UInt8 := dkwX0_suits_0 ++ dktX0_suits_1
theorem dksX0_suits_0 : cX0_suits.data.toList.drop 0 = dktX0_suits_0 := by decide +kernel
theorem dksX0_suits_1 : cX0_suits.data.toList.drop 24 = dktX0_suits_1 := dk_seg dksX0_suits_0 24 rfl rfl
theorem dX0_suits_0 : decode cX0_suits 0 = .ok (.aload_n 3, 1) := dk_45 (dk_at dksX0_suits_0 0 rfl rfl)
theorem dX0_suits_1 : decode cX0_suits 1 = .ok (.iconst 0, 1) := dk_3 (dk_at dksX0_suits_0 1 rfl rfl)
theorem dX0_suits_2 : decode cX0_suits 2 = .ok (.aload_n 0, 1) := dk_42 (dk_at dksX0_suits_0 2 rfl rfl)
theorem dX0_suits_3 : decode cX0_suits 3 = .ok (.iload_n 1, 1) := dk_27 (dk_at dksX0_suits_0 3 rfl rfl)
theorem dX0_suits_4 : decode cX0_suits 4 = .ok (.iload_n 2, 1) := dk_28 (dk_at dksX0_suits_0 4 rfl rfl)
theorem dX0_suits_5 : decode cX0_suits 5 = .ok (.invokevirtual 96, 3) := dk_182 0 96 (dk_at dksX0_suits_0 5 rfl rfl)
theorem dX0_suits_8 : decode cX0_suits 8 = .ok (.ifCond .eq 7, 3) := dk_153 0 7 (dk_at dksX0_suits_0 8 rfl rfl)
theorem dX0_suits_11 : decode cX0_suits 11 = .ok (.lconst 1, 1) := dk_10 (dk_at dksX0_suits_0 11 rfl rfl)
theorem dX0_suits_12 : decode cX0_suits 12 = .ok (.goto 4, 3) := dk_167 0 4 (dk_at dksX0_suits_0 12 rfl rfl)
theorem dX0_suits_15 : decode cX0_suits 15 = .ok (.lconst 0, 1) := dk_9 (dk_at dksX0_suits_0 15 rfl rfl)
theorem dX0_suits_16 : decode cX0_suits 16 = .ok (.lastore, 1) := dk_80 (dk_at dksX0_suits_0 16 rfl rfl)
theorem dX0_suits_17 : decode cX0_suits 17 = .ok (.goto 11, 3) := dk_167 0 11 (dk_at dksX0_suits_0 17 rfl rfl)
theorem dX0_suits_20 : decode cX0_suits 20 = .ok (.astore 4, 2) := dk_58 4 (dk_at dksX0_suits_0 20 rfl rfl)
theorem dX0_suits_22 : decode cX0_suits 22 = .ok (.iconst 1, 1) := dk_4 (dk_at dksX0_suits_0 22 rfl rfl)
theorem dX0_suits_23 : decode cX0_suits 23 = .ok (.ireturn, 1) := dk_172 (dk_at dksX0_suits_0 23 rfl rfl)
theorem dX0_suits_24 : decode cX0_suits 24 = .ok (.astore 4, 2) := dk_58 4 (dk_at dksX0_suits_1 0 rfl rfl)
theorem dX0_suits_26 : decode cX0_suits 26 = .ok (.iconst 2, 1) := dk_5 (dk_at dksX0_suits_1 2 rfl rfl)
theorem dX0_suits_27 : decode cX0_suits 27 = .ok (.ireturn, 1) := dk_172 (dk_at dksX0_suits_1 3 rfl rfl)
theorem dX0_suits_28 : decode cX0_suits 28 = .ok (.iconst 0, 1) := dk_3 (dk_at dksX0_suits_1 4 rfl rfl)
theorem dX0_suits_29 : decode cX0_suits 29 = .ok (.ireturn, 1) := dk_172 (dk_at dksX0_suits_1 5 rfl rfl)
abbrev cX0_favouritePost : ByteArray := method_28_code
def yX0_favouritePost : MethodName := ⟨RX0, "favouritePost", "(LCloudInterviews;I[J)I"⟩
def dkwX0_favouritePost_0 : List UInt8 := [44, 3, 42, 27, 182, 0, 99, 133, 80, 167, 0, 6, 78, 4, 172, 3, 172]
abbrev dktX0_favouritePost_0 : List UInt8 := dkwX0_favouritePost_0 ++ []
theorem dksX0_favouritePost_0 : cX0_favouritePost.data.toList.drop 0 = dktX0_favouritePost_0 := by decide +kernel
theorem dX0_favouritePost_0 : decode cX0_favouritePost 0 = .ok (.aload_n 2, 1) := dk_44 (dk_at dksX0_favouritePost_0 0 rfl rfl)
theorem dX0_favouritePost_1 : decode cX0_favouritePost 1 = .ok (.iconst 0, 1) := dk_3 (dk_at dksX0_favouritePost_0 1 rfl rfl)
theorem dX0_favouritePost_2 : decode cX0_favouritePost 2 = .ok (.aload_n 0, 1) := dk_42 (dk_at dksX0_favouritePost_0 2 rfl rfl)
theorem dX0_favouritePost_3 : decode cX0_favouritePost 3 = .ok (.iload_n 1, 1) := dk_27 (dk_at dksX0_favouritePost_0 3 rfl rfl)
theorem dX0_favouritePost_4 : decode cX0_favouritePost 4 = .ok (.invokevirtual 99, 3) := dk_182 0 99 (dk_at dksX0_favouritePost_0 4 rfl rfl)
theorem dX0_favouritePost_7 : decode cX0_favouritePost 7 = .ok (.i2l, 1) := dk_133 (dk_at dksX0_favouritePost_0 7 rfl rfl)
theorem dX0_favouritePost_8 : decode cX0_favouritePost 8 = .ok (.lastore, 1) := dk_80 (dk_at dksX0_favouritePost_0 8 rfl rfl)
theorem dX0_favouritePost_9 : decode cX0_favouritePost 9 = .ok (.goto 6, 3) := dk_167 0 6 (dk_at dksX0_favouritePost_0 9 rfl rfl)
theorem dX0_favouritePost_12 : decode cX0_favouritePost 12 = .ok (.astore_n 3, 1) := dk_78 (dk_at dksX0_favouritePost_0 12 rfl rfl)
theorem dX0_favouritePost_13 : decode cX0_favouritePost 13 = .ok (.iconst 1, 1) := dk_4 (dk_at dksX0_favouritePost_0 13 rfl rfl)
theorem dX0_favouritePost_14 : decode cX0_favouritePost 14 = .ok (.ireturn, 1) := dk_172 (dk_at dksX0_favouritePost_0 14 rfl rfl)
theorem dX0_favouritePost_15 : decode cX0_favouritePost 15 = .ok (.iconst 0, 1) := dk_3 (dk_at dksX0_favouritePost_0 15 rfl rfl)
theorem dX0_favouritePost_16 : decode cX0_favouritePost 16 = .ok (.ireturn, 1) := dk_172 (dk_at dksX0_favouritePost_0 16 rfl rfl)
abbrev cX0_bestCandidate : ByteArray := method_29_code
def yX0_bestCandidate : MethodName := ⟨RX0, "bestCandidate", "(LCloudInterviews;I[J)I"⟩
def dkwX0_bestCandidate_0 : List UInt8 := [44, 3, 42, 27, 182, 0, 102, 133, 80, 167, 0, 9, 78, 4, 172, 78, 5, 172, 3, 172]
abbrev dktX0_bestCandidate_0 : List UInt8 := dkwX0_bestCandidate_0 ++ []
theorem dksX0_bestCandidate_0 : cX0_bestCandidate.data.toList.drop 0 = dktX0_bestCandidate_0 := by decide +kernel
theorem dX0_bestCandidate_0 : decode cX0_bestCandidate 0 = .ok (.aload_n 2, 1) := dk_44 (dk_at dksX0_bestCandidate_0 0 rfl rfl)
theorem dX0_bestCandidate_1 : decode cX0_bestCandidate 1 = .ok (.iconst 0, 1) := dk_3 (dk_at dksX0_bestCandidate_0 1 rfl rfl)
theorem dX0_bestCandidate_2 : decode cX0_bestCandidate 2 = .ok (.aload_n 0, 1) := dk_42 (dk_at dksX0_bestCandidate_0 2 rfl rfl)
theorem dX0_bestCandidate_3 : decode cX0_bestCandidate 3 = .ok (.iload_n 1, 1) := dk_27 (dk_at dksX0_bestCandidate_0 3 rfl rfl)
theorem dX0_bestCandidate_4 : decode cX0_bestCandidate 4 = .ok (.invokevirtual 102, 3) := dk_182 0 102 (dk_at dksX0_bestCandidate_0 4 rfl rfl)
theorem dX0_bestCandidate_7 : decode cX0_bestCandidate 7 = .ok (.i2l, 1) := dk_133 (dk_at dksX0_bestCandidate_0 7 rfl rfl)
theorem dX0_bestCandidate_8 : decode cX0_bestCandidate 8 = .ok (.lastore, 1) := dk_80 (dk_at dksX0_bestCandidate_0 8 rfl rfl)
theorem dX0_bestCandidate_9 : decode cX0_bestCandidate 9 = .ok (.goto 9, 3) := dk_167 0 9 (dk_at dksX0_bestCandidate_0 9 rfl rfl)
theorem dX0_bestCandidate_12 : decode cX0_bestCandidate 12 = .ok (.astore_n 3, 1) := dk_78 (dk_at dksX0_bestCandidate_0 12 rfl rfl)
theorem dX0_bestCandidate_13 : decode cX0_bestCandidate 13 = .ok (.iconst 1, 1) := dk_4 (dk_at dksX0_bestCandidate_0 13 rfl rfl)
theorem dX0_bestCandidate_14 : decode cX0_bestCandidate 14 = .ok (.ireturn, 1) := dk_172 (dk_at dksX0_bestCandidate_0 14 rfl rfl)
theorem dX0_bestCandidate_15 : decode cX0_bestCandidate 15 = .ok (.astore_n 3, 1) := dk_78 (dk_at dksX0_bestCandidate_0 15 rfl rfl)
theorem dX0_bestCandidate_16 : decode cX0_bestCandidate 16 = .ok (.iconst 2, 1) := dk_5 (dk_at dksX0_bestCandidate_0 16 rfl rfl)
theorem dX0_bestCandidate_17 : decode cX0_bestCandidate 17 = .ok (.ireturn, 1) := dk_172 (dk_at dksX0_bestCandidate_0 17 rfl rfl)
theorem dX0_bestCandidate_18 : decode cX0_bestCandidate 18 = .ok (.iconst 0, 1) := dk_3 (dk_at dksX0_bestCandidate_0 18 rfl rfl)
theorem dX0_bestCandidate_19 : decode cX0_bestCandidate 19 = .ok (.ireturn, 1) := dk_172 (dk_at dksX0_bestCandidate_0 19 rfl rfl)
abbrev cX0_candidateCount : ByteArray := method_30_code
def yX0_candidateCount : MethodName := ⟨RX0, "candidateCount", "(LCloudInterviews;I[J)I"⟩
def dkwX0_candidateCount_0 : List UInt8 := [44, 3, 42, 27, 182, 0, 105, 133, 80, 167, 0, 6, 78, 4, 172, 3, 172]
abbrev dktX0_candidateCount_0 : List UInt8 := dkwX0_candidateCount_0 ++ []
theorem dksX0_candidateCount_0 : cX0_candidateCount.data.toList.drop 0 = dktX0_candidateCount_0 := by decide +kernel
theorem dX0_candidateCount_0 : decode cX0_candidateCount 0 = .ok (.aload_n 2, 1) := dk_44 (dk_at dksX0_candidateCount_0 0 rfl rfl)
theorem dX0_candidateCount_1 : decode cX0_candidateCount 1 = .ok (.iconst 0, 1) := dk_3 (dk_at dksX0_candidateCount_0 1 rfl rfl)
theorem dX0_candidateCount_2 : decode cX0_candidateCount 2 = .ok (.aload_n 0, 1) := dk_42 (dk_at dksX0_candidateCount_0 2 rfl rfl)
theorem dX0_candidateCount_3 : decode cX0_candidateCount 3 = .ok (.iload_n 1, 1) := dk_27 (dk_at dksX0_candidateCount_0 3 rfl rfl)
theorem dX0_candidateCount_4 : decode cX0_candidateCount 4 = .ok (.invokevirtual 105, 3) := dk_182 0 105 (dk_at dksX0_candidateCount_0 4 rfl rfl)
theorem dX0_candidateCount_7 : decode cX0_candidateCount 7 = .ok (.i2l, 1) := dk_133 (dk_at dksX0_candidateCount_0 7 rfl rfl)
theorem dX0_candidateCount_8 : decode cX0_candidateCount 8 = .ok (.lastore, 1) := dk_80 (dk_at dksX0_candidateCount_0 8 rfl rfl)
theorem dX0_candidateCount_9 : decode cX0_candidateCount 9 = .ok (.goto 6, 3) := dk_167 0 6 (dk_at dksX0_candidateCount_0 9 rfl rfl)
theorem dX0_candidateCount_12 : decode cX0_candidateCount 12 = .ok (.astore_n 3, 1) := dk_78 (dk_at dksX0_candidateCount_0 12 rfl rfl)
theorem dX0_candidateCount_13 : decode cX0_candidateCount 13 = .ok (.iconst 1, 1) := dk_4 (dk_at dksX0_candidateCount_0 13 rfl rfl)
theorem dX0_candidateCount_14 : decode cX0_candidateCount 14 = .ok (.ireturn, 1) := dk_172 (dk_at dksX0_candidateCount_0 14 rfl rfl)
theorem dX0_candidateCount_15 : decode cX0_candidateCount 15 = .ok (.iconst 0, 1) := dk_3 (dk_at dksX0_candidateCount_0 15 rfl rfl)
theorem dX0_candidateCount_16 : decode cX0_candidateCount 16 = .ok (.ireturn, 1) := dk_172 (dk_at dksX0_candidateCount_0 16 rfl rfl)
abbrev cX0_hire : ByteArray := method_31_code
def yX0_hire : MethodName := ⟨RX0, "hire", "(LCloudInterviews;II[J)I"⟩
def dkwX0_hire_1 : List UInt8 := [172, 58, 4, 7, 172, 3, 172]
abbrev dktX0_hire_1 : List UInt8 := dkwX0_hire_1 ++ []
def dkwX0_hire_0 : List UInt8 := [45, 3, 42, 27, 28, 182, 0, 108, 133, 80, 167, 0, 19, 58, 4, 4, 172, 58, 4, 5, 172, 58, 4, 6]
abbrev dktX0_hire_0 : List UInt8 := dkwX0_hire_0 ++ dktX0_hire_1
theorem dksX0_hire_0 : cX0_hire.data.toList.drop 0 = dktX0_hire_0 := by decide +kernel
theorem dksX0_hire_1 : cX0_hire.data.toList.drop 24 = dktX0_hire_1 := dk_seg dksX0_hire_0 24 rfl rfl
theorem dX0_hire_0 : decode cX0_hire 0 = .ok (.aload_n 3, 1) := dk_45 (dk_at dksX0_hire_0 0 rfl rfl)
theorem dX0_hire_1 : decode cX0_hire 1 = .ok (.iconst 0, 1) := dk_3 (dk_at dksX0_hire_0 1 rfl rfl)
theorem dX0_hire_2 : decode cX0_hire 2 = .ok (.aload_n 0, 1) := dk_42 (dk_at dksX0_hire_0 2 rfl rfl)
theorem dX0_hire_3 : decode cX0_hire 3 = .ok (.iload_n 1, 1) := dk_27 (dk_at dksX0_hire_0 3 rfl rfl)
theorem dX0_hire_4 : decode cX0_hire 4 = .ok (.iload_n 2, 1) := dk_28 (dk_at dksX0_hire_0 4 rfl rfl)
theorem dX0_hire_5 : decode cX0_hire 5 = .ok (.invokevirtual 108, 3) := dk_182 0 108 (dk_at dksX0_hire_0 5 rfl rfl)
theorem dX0_hire_8 : decode cX0_hire 8 = .ok (.i2l, 1) := dk_133 (dk_at dksX0_hire_0 8 rfl rfl)
theorem dX0_hire_9 : decode cX0_hire 9 = .ok (.lastore, 1) := dk_80 (dk_at dksX0_hire_0 9 rfl rfl)
theorem dX0_hire_10 : decode cX0_hire 10 = .ok (.goto 19, 3) := dk_167 0 19 (dk_at dksX0_hire_0 10 rfl rfl)
theorem dX0_hire_13 : decode cX0_hire 13 = .ok (.astore 4, 2) := dk_58 4 (dk_at dksX0_hire_0 13 rfl rfl)
theorem dX0_hire_15 : decode cX0_hire 15 = .ok (.iconst 1, 1) := dk_4 (dk_at dksX0_hire_0 15 rfl rfl)
theorem dX0_hire_16 : decode cX0_hire 16 = .ok (.ireturn, 1) := dk_172 (dk_at dksX0_hire_0 16 rfl rfl)
theorem dX0_hire_17 : decode cX0_hire 17 = .ok (.astore 4, 2) := dk_58 4 (dk_at dksX0_hire_0 17 rfl rfl)
theorem dX0_hire_19 : decode cX0_hire 19 = .ok (.iconst 2, 1) := dk_5 (dk_at dksX0_hire_0 19 rfl rfl)
theorem dX0_hire_20 : decode cX0_hire 20 = .ok (.ireturn, 1) := dk_172 (dk_at dksX0_hire_0 20 rfl rfl)
theorem dX0_hire_21 : decode cX0_hire 21 = .ok (.astore 4, 2) := dk_58 4 (dk_at dksX0_hire_0 21 rfl rfl)
theorem dX0_hire_23 : decode cX0_hire 23 = .ok (.iconst 3, 1) := dk_6 (dk_at dksX0_hire_0 23 rfl rfl)
theorem dX0_hire_24 : decode cX0_hire 24 = .ok (.ireturn, 1) := dk_172 (dk_at dksX0_hire_1 0 rfl rfl)
theorem dX0_hire_25 : decode cX0_hire 25 = .ok (.astore 4, 2) := dk_58 4 (dk_at dksX0_hire_1 1 rfl rfl)
theorem dX0_hire_27 : decode cX0_hire 27 = .ok (.iconst 4, 1) := dk_7 (dk_at dksX0_hire_1 3 rfl rfl)
theorem dX0_hire_28 : decode cX0_hire 28 = .ok (.ireturn, 1) := dk_172 (dk_at dksX0_hire_1 4 rfl rfl)
theorem dX0_hire_29 : decode cX0_hire 29 = .ok (.iconst 0, 1) := dk_3 (dk_at dksX0_hire_1 5 rfl rfl)
theorem dX0_hire_30 : decode cX0_hire 30 = .ok (.ireturn, 1) := dk_172 (dk_at dksX0_hire_1 6 rfl rfl)
abbrev cX0_hireBest : ByteArray := method_32_code
def yX0_hireBest : MethodName := ⟨RX0, "hireBest", "(LCloudInterviews;I[J)I"⟩
def dkwX0_hireBest_0 : List UInt8 := [44, 3, 42, 27, 182, 0, 113, 133, 80, 167, 0, 12, 78, 4, 172, 78, 5, 172, 78, 6, 172, 3, 172]
abbrev dktX0_hireBest_0 : List UInt8 := dkwX0_hireBest_0 ++ []
theorem dksX0_hireBest_0 : cX0_hireBest.data.toList.drop 0 = dktX0_hireBest_0 := by decide +kernel
theorem dX0_hireBest_0 : decode cX0_hireBest 0 = .ok (.aload_n 2, 1) := dk_44 (dk_at dksX0_hireBest_0 0 rfl rfl)
theorem dX0_hireBest_1 : decode cX0_hireBest 1 = .ok (.iconst 0, 1) := dk_3 (dk_at dksX0_hireBest_0 1 rfl rfl)
theorem dX0_hireBest_2 : decode cX0_hireBest 2 = .ok (.aload_n 0, 1) := dk_42 (dk_at dksX0_hireBest_0 2 rfl rfl)
theorem dX0_hireBest_3 : decode cX0_hireBest 3 = .ok (.iload_n 1, 1) := dk_27 (dk_at dksX0_hireBest_0 3 rfl rfl)
theorem dX0_hireBest_4 : decode cX0_hireBest 4 = .ok (.invokevirtual 113, 3) := dk_182 0 113 (dk_at dksX0_hireBest_0 4 rfl rfl)
theorem dX0_hireBest_7 : decode cX0_hireBest 7 = .ok (.i2l, 1) := dk_133 (dk_at dksX0_hireBest_0 7 rfl rfl)
theorem dX0_hireBest_8 : decode cX0_hireBest 8 = .ok (.lastore, 1) := dk_80 (dk_at dksX0_hireBest_0 8 rfl rfl)
theorem dX0_hireBest_9 : decode cX0_hireBest 9 = .ok (.goto 12, 3) := dk_167 0 12 (dk_at dksX0_hireBest_0 9 rfl rfl)
theorem dX0_hireBest_12 : decode cX0_hireBest 12 = .ok (.astore_n 3, 1) := dk_78 (dk_at dksX0_hireBest_0 12 rfl rfl)
theorem dX0_hireBest_13 : decode cX0_hireBest 13 = .ok (.iconst 1, 1) := dk_4 (dk_at dksX0_hireBest_0 13 rfl rfl)
theorem dX0_hireBest_14 : decode cX0_hireBest 14 = .ok (.ireturn, 1) := dk_172 (dk_at dksX0_hireBest_0 14 rfl rfl)
theorem dX0_hireBest_15 : decode cX0_hireBest 15 = .ok (.astore_n 3, 1) := dk_78 (dk_at dksX0_hireBest_0 15 rfl rfl)
theorem dX0_hireBest_16 : decode cX0_hireBest 16 = .ok (.iconst 2, 1) := dk_5 (dk_at dksX0_hireBest_0 16 rfl rfl)
theorem dX0_hireBest_17 : decode cX0_hireBest 17 = .ok (.ireturn, 1) := dk_172 (dk_at dksX0_hireBest_0 17 rfl rfl)
theorem dX0_hireBest_18 : decode cX0_hireBest 18 = .ok (.astore_n 3, 1) := dk_78 (dk_at dksX0_hireBest_0 18 rfl rfl)
theorem dX0_hireBest_19 : decode cX0_hireBest 19 = .ok (.iconst 3, 1) := dk_6 (dk_at dksX0_hireBest_0 19 rfl rfl)
theorem dX0_hireBest_20 : decode cX0_hireBest 20 = .ok (.ireturn, 1) := dk_172 (dk_at dksX0_hireBest_0 20 rfl rfl)
theorem dX0_hireBest_21 : decode cX0_hireBest 21 = .ok (.iconst 0, 1) := dk_3 (dk_at dksX0_hireBest_0 21 rfl rfl)
theorem dX0_hireBest_22 : decode cX0_hireBest 22 = .ok (.ireturn, 1) := dk_172 (dk_at dksX0_hireBest_0 22 rfl rfl)
abbrev cX0_dismiss : ByteArray := method_33_code
def yX0_dismiss : MethodName := ⟨RX0, "dismiss", "(LCloudInterviews;I[J)I"⟩
def dkwX0_dismiss_0 : List UInt8 := [44, 3, 42, 27, 182, 0, 116, 133, 80, 167, 0, 9, 78, 4, 172, 78, 5, 172, 3, 172]
abbrev dktX0_dismiss_0 : List UInt8 := dkwX0_dismiss_0 ++ []
theorem dksX0_dismiss_0 : cX0_dismiss.data.toList.drop 0 = dktX0_dismiss_0 := by decide +kernel
theorem dX0_dismiss_0 : decode cX0_dismiss 0 = .ok (.aload_n 2, 1) := dk_44 (dk_at dksX0_dismiss_0 0 rfl rfl)
theorem dX0_dismiss_1 : decode cX0_dismiss 1 = .ok (.iconst 0, 1) := dk_3 (dk_at dksX0_dismiss_0 1 rfl rfl)
theorem dX0_dismiss_2 : decode cX0_dismiss 2 = .ok (.aload_n 0, 1) := dk_42 (dk_at dksX0_dismiss_0 2 rfl rfl)
theorem dX0_dismiss_3 : decode cX0_dismiss 3 = .ok (.iload_n 1, 1) := dk_27 (dk_at dksX0_dismiss_0 3 rfl rfl)
theorem dX0_dismiss_4 : decode cX0_dismiss 4 = .ok (.invokevirtual 116, 3) := dk_182 0 116 (dk_at dksX0_dismiss_0 4 rfl rfl)
theorem dX0_dismiss_7 : decode cX0_dismiss 7 = .ok (.i2l, 1) := dk_133 (dk_at dksX0_dismiss_0 7 rfl rfl)
theorem dX0_dismiss_8 : decode cX0_dismiss 8 = .ok (.lastore, 1) := dk_80 (dk_at dksX0_dismiss_0 8 rfl rfl)
theorem dX0_dismiss_9 : decode cX0_dismiss 9 = .ok (.goto 9, 3) := dk_167 0 9 (dk_at dksX0_dismiss_0 9 rfl rfl)
theorem dX0_dismiss_12 : decode cX0_dismiss 12 = .ok (.astore_n 3, 1) := dk_78 (dk_at dksX0_dismiss_0 12 rfl rfl)
theorem dX0_dismiss_13 : decode cX0_dismiss 13 = .ok (.iconst 1, 1) := dk_4 (dk_at dksX0_dismiss_0 13 rfl rfl)
theorem dX0_dismiss_14 : decode cX0_dismiss 14 = .ok (.ireturn, 1) := dk_172 (dk_at dksX0_dismiss_0 14 rfl rfl)
theorem dX0_dismiss_15 : decode cX0_dismiss 15 = .ok (.astore_n 3, 1) := dk_78 (dk_at dksX0_dismiss_0 15 rfl rfl)
theorem dX0_dismiss_16 : decode cX0_dismiss 16 = .ok (.iconst 2, 1) := dk_5 (dk_at dksX0_dismiss_0 16 rfl rfl)
theorem dX0_dismiss_17 : decode cX0_dismiss 17 = .ok (.ireturn, 1) := dk_172 (dk_at dksX0_dismiss_0 17 rfl rfl)
theorem dX0_dismiss_18 : decode cX0_dismiss 18 = .ok (.iconst 0, 1) := dk_3 (dk_at dksX0_dismiss_0 18 rfl rfl)
theorem dX0_dismiss_19 : decode cX0_dismiss 19 = .ok (.ireturn, 1) := dk_172 (dk_at dksX0_dismiss_0 19 rfl rfl)
abbrev cX0_passDays : ByteArray := method_34_code
def yX0_passDays : MethodName := ⟨RX0, "passDays", "(LCloudInterviews;I[J)I"⟩
def dkwX0_passDays_0 : List UInt8 := [44, 3, 42, 27, 182, 0, 119, 133, 80, 167, 0, 6, 78, 4, 172, 3, 172]
abbrev dktX0_passDays_0 : List UInt8 := dkwX0_passDays_0 ++ []
theorem dksX0_passDays_0 : cX0_passDays.data.toList.drop 0 = dktX0_passDays_0 := by decide +kernel
theorem dX0_passDays_0 : decode cX0_passDays 0 = .ok (.aload_n 2, 1) := dk_44 (dk_at dksX0_passDays_0 0 rfl rfl)
theorem dX0_passDays_1 : decode cX0_passDays 1 = .ok (.iconst 0, 1) := dk_3 (dk_at dksX0_passDays_0 1 rfl rfl)
theorem dX0_passDays_2 : decode cX0_passDays 2 = .ok (.aload_n 0, 1) := dk_42 (dk_at dksX0_passDays_0 2 rfl rfl)
theorem dX0_passDays_3 : decode cX0_passDays 3 = .ok (.iload_n 1, 1) := dk_27 (dk_at dksX0_passDays_0 3 rfl rfl)
theorem dX0_passDays_4 : decode cX0_passDays 4 = .ok (.invokevirtual 119, 3) := dk_182 0 119 (dk_at dksX0_passDays_0 4 rfl rfl)
theorem dX0_passDays_7 : decode cX0_passDays 7 = .ok (.i2l, 1) := dk_133 (dk_at dksX0_passDays_0 7 rfl rfl)
theorem dX0_passDays_8 : decode cX0_passDays 8 = .ok (.lastore, 1) := dk_80 (dk_at dksX0_passDays_0 8 rfl rfl)
theorem dX0_passDays_9 : decode cX0_passDays 9 = .ok (.goto 6, 3) := dk_167 0 6 (dk_at dksX0_passDays_0 9 rfl rfl)
theorem dX0_passDays_12 : decode cX0_passDays 12 = .ok (.astore_n 3, 1) := dk_78 (dk_at dksX0_passDays_0 12 rfl rfl)
theorem dX0_passDays_13 : decode cX0_passDays 13 = .ok (.iconst 1, 1) := dk_4 (dk_at dksX0_passDays_0 13 rfl rfl)
theorem dX0_passDays_14 : decode cX0_passDays 14 = .ok (.ireturn, 1) := dk_172 (dk_at dksX0_passDays_0 14 rfl rfl)
theorem dX0_passDays_15 : decode cX0_passDays 15 = .ok (.iconst 0, 1) := dk_3 (dk_at dksX0_passDays_0 15 rfl rfl)
theorem dX0_passDays_16 : decode cX0_passDays 16 = .ok (.ireturn, 1) := dk_172 (dk_at dksX0_passDays_0 16 rfl rfl)
abbrev cX0_daysUntilDismissal : ByteArray := method_35_code
def yX0_daysUntilDismissal : MethodName := ⟨RX0, "daysUntilDismissal", "(LCloudInterviews;I[J)I"⟩
def dkwX0_daysUntilDismissal_0 : List UInt8 := [44, 3, 42, 27, 182, 0, 122, 133, 80, 167, 0, 6, 78, 4, 172, 3, 172]
abbrev dktX0_daysUntilDismissal_0 : List UInt8 := dkwX0_daysUntilDismissal_0 ++ []
theorem dksX0_daysUntilDismissal_0 : cX0_daysUntilDismissal.data.toList.drop 0 = dktX0_daysUntilDismissal_0 := by decide +kernel
theorem dX0_daysUntilDismissal_0 : decode cX0_daysUntilDismissal 0 = .ok (.aload_n 2, 1) := dk_44 (dk_at dksX0_daysUntilDismissal_0 0 rfl rfl)
theorem dX0_daysUntilDismissal_1 : decode cX0_daysUntilDismissal 1 = .ok (.iconst 0, 1) := dk_3 (dk_at dksX0_daysUntilDismissal_0 1 rfl rfl)
theorem dX0_daysUntilDismissal_2 : decode cX0_daysUntilDismissal 2 = .ok (.aload_n 0, 1) := dk_42 (dk_at dksX0_daysUntilDismissal_0 2 rfl rfl)
theorem dX0_daysUntilDismissal_3 : decode cX0_daysUntilDismissal 3 = .ok (.iload_n 1, 1) := dk_27 (dk_at dksX0_daysUntilDismissal_0 3 rfl rfl)
theorem dX0_daysUntilDismissal_4 : decode cX0_daysUntilDismissal 4 = .ok (.invokevirtual 122, 3) := dk_182 0 122 (dk_at dksX0_daysUntilDismissal_0 4 rfl rfl)
theorem dX0_daysUntilDismissal_7 : decode cX0_daysUntilDismissal 7 = .ok (.i2l, 1) := dk_133 (dk_at dksX0_daysUntilDismissal_0 7 rfl rfl)
theorem dX0_daysUntilDismissal_8 : decode cX0_daysUntilDismissal 8 = .ok (.lastore, 1) := dk_80 (dk_at dksX0_daysUntilDismissal_0 8 rfl rfl)
theorem dX0_daysUntilDismissal_9 : decode cX0_daysUntilDismissal 9 = .ok (.goto 6, 3) := dk_167 0 6 (dk_at dksX0_daysUntilDismissal_0 9 rfl rfl)
theorem dX0_daysUntilDismissal_12 : decode cX0_daysUntilDismissal 12 = .ok (.astore_n 3, 1) := dk_78 (dk_at dksX0_daysUntilDismissal_0 12 rfl rfl)
theorem dX0_daysUntilDismissal_13 : decode cX0_daysUntilDismissal 13 = .ok (.iconst 1, 1) := dk_4 (dk_at dksX0_daysUntilDismissal_0 13 rfl rfl)
theorem dX0_daysUntilDismissal_14 : decode cX0_daysUntilDismissal 14 = .ok (.ireturn, 1) := dk_172 (dk_at dksX0_daysUntilDismissal_0 14 rfl rfl)
theorem dX0_daysUntilDismissal_15 : decode cX0_daysUntilDismissal 15 = .ok (.iconst 0, 1) := dk_3 (dk_at dksX0_daysUntilDismissal_0 15 rfl rfl)
theorem dX0_daysUntilDismissal_16 : decode cX0_daysUntilDismissal 16 = .ok (.ireturn, 1) := dk_172 (dk_at dksX0_daysUntilDismissal_0 16 rfl rfl)
abbrev cX0_meanScore : ByteArray := method_36_code
def yX0_meanScore : MethodName := ⟨RX0, "meanScore", "(LCloudInterviews;[D)I"⟩
def dkwX0_meanScore_0 : List UInt8 := [43, 3, 42, 182, 0, 125, 82, 167, 0, 6, 77, 4, 172, 3, 172]
abbrev dktX0_meanScore_0 : List UInt8 := dkwX0_meanScore_0 ++ []
theorem dksX0_meanScore_0 : cX0_meanScore.data.toList.drop 0 = dktX0_meanScore_0 := by decide +kernel
theorem dX0_meanScore_0 : decode cX0_meanScore 0 = .ok (.aload_n 1, 1) := dk_43 (dk_at dksX0_meanScore_0 0 rfl rfl)
theorem dX0_meanScore_1 : decode cX0_meanScore 1 = .ok (.iconst 0, 1) := dk_3 (dk_at dksX0_meanScore_0 1 rfl rfl)
theorem dX0_meanScore_2 : decode cX0_meanScore 2 = .ok (.aload_n 0, 1) := dk_42 (dk_at dksX0_meanScore_0 2 rfl rfl)
theorem dX0_meanScore_3 : decode cX0_meanScore 3 = .ok (.invokevirtual 125, 3) := dk_182 0 125 (dk_at dksX0_meanScore_0 3 rfl rfl)
theorem dX0_meanScore_6 : decode cX0_meanScore 6 = .ok (.dastore, 1) := dk_82 (dk_at dksX0_meanScore_0 6 rfl rfl)
theorem dX0_meanScore_7 : decode cX0_meanScore 7 = .ok (.goto 6, 3) := dk_167 0 6 (dk_at dksX0_meanScore_0 7 rfl rfl)
theorem dX0_meanScore_10 : decode cX0_meanScore 10 = .ok (.astore_n 2, 1) := dk_77 (dk_at dksX0_meanScore_0 10 rfl rfl)
theorem dX0_meanScore_11 : decode cX0_meanScore 11 = .ok (.iconst 1, 1) := dk_4 (dk_at dksX0_meanScore_0 11 rfl rfl)
theorem dX0_meanScore_12 : decode cX0_meanScore 12 = .ok (.ireturn, 1) := dk_172 (dk_at dksX0_meanScore_0 12 rfl rfl)
theorem dX0_meanScore_13 : decode cX0_meanScore 13 = .ok (.iconst 0, 1) := dk_3 (dk_at dksX0_meanScore_0 13 rfl rfl)
theorem dX0_meanScore_14 : decode cX0_meanScore 14 = .ok (.ireturn, 1) := dk_172 (dk_at dksX0_meanScore_0 14 rfl rfl)
abbrev cX0_filledFraction : ByteArray := method_37_code
def yX0_filledFraction : MethodName := ⟨RX0, "filledFraction", "(LCloudInterviews;[D)I"⟩
def dkwX0_filledFraction_0 : List UInt8 := [43, 3, 42, 182, 0, 131, 141, 82, 167, 0, 6, 77, 4, 172, 3, 172]
abbrev dktX0_filledFraction_0 : List UInt8 := dkwX0_filledFraction_0 ++ []
theorem dksX0_filledFraction_0 : cX0_filledFraction.data.toList.drop 0 = dktX0_filledFraction_0 := by decide +kernel
theorem dX0_filledFraction_0 : decode cX0_filledFraction 0 = .ok (.aload_n 1, 1) := dk_43 (dk_at dksX0_filledFraction_0 0 rfl rfl)
theorem dX0_filledFraction_1 : decode cX0_filledFraction 1 = .ok (.iconst 0, 1) := dk_3 (dk_at dksX0_filledFraction_0 1 rfl rfl)
theorem dX0_filledFraction_2 : decode cX0_filledFraction 2 = .ok (.aload_n 0, 1) := dk_42 (dk_at dksX0_filledFraction_0 2 rfl rfl)
theorem dX0_filledFraction_3 : decode cX0_filledFraction 3 = .ok (.invokevirtual 131, 3) := dk_182 0 131 (dk_at dksX0_filledFraction_0 3 rfl rfl)
theorem dX0_filledFraction_6 : decode cX0_filledFraction 6 = .ok (.f2d, 1) := dk_141 (dk_at dksX0_filledFraction_0 6 rfl rfl)
theorem dX0_filledFraction_7 : decode cX0_filledFraction 7 = .ok (.dastore, 1) := dk_82 (dk_at dksX0_filledFraction_0 7 rfl rfl)
theorem dX0_filledFraction_8 : decode cX0_filledFraction 8 = .ok (.goto 6, 3) := dk_167 0 6 (dk_at dksX0_filledFraction_0 8 rfl rfl)
theorem dX0_filledFraction_11 : decode cX0_filledFraction 11 = .ok (.astore_n 2, 1) := dk_77 (dk_at dksX0_filledFraction_0 11 rfl rfl)
theorem dX0_filledFraction_12 : decode cX0_filledFraction 12 = .ok (.iconst 1, 1) := dk_4 (dk_at dksX0_filledFraction_0 12 rfl rfl)
theorem dX0_filledFraction_13 : decode cX0_filledFraction 13 = .ok (.ireturn, 1) := dk_172 (dk_at dksX0_filledFraction_0 13 rfl rfl)
theorem dX0_filledFraction_14 : decode cX0_filledFraction 14 = .ok (.iconst 0, 1) := dk_3 (dk_at dksX0_filledFraction_0 14 rfl rfl)
theorem dX0_filledFraction_15 : decode cX0_filledFraction 15 = .ok (.ireturn, 1) := dk_172 (dk_at dksX0_filledFraction_0 15 rfl rfl)
abbrev cX0_writeApplicant : ByteArray := method_38_code
def yX0_writeApplicant : MethodName := ⟨RX0, "writeApplicant", "(LCloudInterviews;I[J)I"⟩
def dkwX0_writeApplicant_0 : List UInt8 := [44, 3, 42, 27, 182, 0, 135, 133, 80, 167, 0, 6, 78, 4, 172, 3, 172]
abbrev dktX0_writeApplicant_0 : List UInt8 := dkwX0_writeApplicant_0 ++ []
theorem dksX0_writeApplicant_0 : cX0_writeApplicant.data.toList.drop 0 = dktX0_writeApplicant_0 := by decide +kernel
theorem dX0_writeApplicant_0 : decode cX0_writeApplicant 0 = .ok (.aload_n 2, 1) := dk_44 (dk_at dksX0_writeApplicant_0 0 rfl rfl)
theorem dX0_writeApplicant_1 : decode cX0_writeApplicant 1 = .ok (.iconst 0, 1) := dk_3 (dk_at dksX0_writeApplicant_0 1 rfl rfl)
theorem dX0_writeApplicant_2 : decode cX0_writeApplicant 2 = .ok (.aload_n 0, 1) := dk_42 (dk_at dksX0_writeApplicant_0 2 rfl rfl)
theorem dX0_writeApplicant_3 : decode cX0_writeApplicant 3 = .ok (.iload_n 1, 1) := dk_27 (dk_at dksX0_writeApplicant_0 3 rfl rfl)
theorem dX0_writeApplicant_4 : decode cX0_writeApplicant 4 = .ok (.invokevirtual 135, 3) := dk_182 0 135 (dk_at dksX0_writeApplicant_0 4 rfl rfl)
theorem dX0_writeApplicant_7 : decode cX0_writeApplicant 7 = .ok (.i2l, 1) := dk_133 (dk_at dksX0_writeApplicant_0 7 rfl rfl)
theorem dX0_writeApplicant_8 : decode cX0_writeApplicant 8 = .ok (.lastore, 1) := dk_80 (dk_at dksX0_writeApplicant_0 8 rfl rfl)
theorem dX0_writeApplicant_9 : decode cX0_writeApplicant 9 = .ok (.goto 6, 3) := dk_167 0 6 (dk_at dksX0_writeApplicant_0 9 rfl rfl)
theorem dX0_writeApplicant_12 : decode cX0_writeApplicant 12 = .ok (.astore_n 3, 1) := dk_78 (dk_at dksX0_writeApplicant_0 12 rfl rfl)
theorem dX0_writeApplicant_13 : decode cX0_writeApplicant 13 = .ok (.iconst 1, 1) := dk_4 (dk_at dksX0_writeApplicant_0 13 rfl rfl)
theorem dX0_writeApplicant_14 : decode cX0_writeApplicant 14 = .ok (.ireturn, 1) := dk_172 (dk_at dksX0_writeApplicant_0 14 rfl rfl)
theorem dX0_writeApplicant_15 : decode cX0_writeApplicant 15 = .ok (.iconst 0, 1) := dk_3 (dk_at dksX0_writeApplicant_0 15 rfl rfl)
theorem dX0_writeApplicant_16 : decode cX0_writeApplicant 16 = .ok (.ireturn, 1) := dk_172 (dk_at dksX0_writeApplicant_0 16 rfl rfl)
abbrev cX0_outputCharacter : ByteArray := method_39_code
def yX0_outputCharacter : MethodName := ⟨RX0, "outputCharacter", "(LCloudInterviews;I[J)I"⟩
def dkwX0_outputCharacter_0 : List UInt8 := [44, 3, 42, 27, 182, 0, 138, 133, 80, 167, 0, 6, 78, 4, 172, 3, 172]
abbrev dktX0_outputCharacter_0 : List UInt8 := dkwX0_outputCharacter_0 ++ []
theorem dksX0_outputCharacter_0 : cX0_outputCharacter.data.toList.drop 0 = dktX0_outputCharacter_0 := by decide +kernel
theorem dX0_outputCharacter_0 : decode cX0_outputCharacter 0 = .ok (.aload_n 2, 1) := dk_44 (dk_at dksX0_outputCharacter_0 0 rfl rfl)
theorem dX0_outputCharacter_1 : decode cX0_outputCharacter 1 = .ok (.iconst 0, 1) := dk_3 (dk_at dksX0_outputCharacter_0 1 rfl rfl)
theorem dX0_outputCharacter_2 : decode cX0_outputCharacter 2 = .ok (.aload_n 0, 1) := dk_42 (dk_at dksX0_outputCharacter_0 2 rfl rfl)
theorem dX0_outputCharacter_3 : decode cX0_outputCharacter 3 = .ok (.iload_n 1, 1) := dk_27 (dk_at dksX0_outputCharacter_0 3 rfl rfl)
theorem dX0_outputCharacter_4 : decode cX0_outputCharacter 4 = .ok (.invokevirtual 138, 3) := dk_182 0 138 (dk_at dksX0_outputCharacter_0 4 rfl rfl)
theorem dX0_outputCharacter_7 : decode cX0_outputCharacter 7 = .ok (.i2l, 1) := dk_133 (dk_at dksX0_outputCharacter_0 7 rfl rfl)
theorem dX0_outputCharacter_8 : decode cX0_outputCharacter 8 = .ok (.lastore, 1) := dk_80 (dk_at dksX0_outputCharacter_0 8 rfl rfl)
theorem dX0_outputCharacter_9 : decode cX0_outputCharacter 9 = .ok (.goto 6, 3) := dk_167 0 6 (dk_at dksX0_outputCharacter_0 9 rfl rfl)
theorem dX0_outputCharacter_12 : decode cX0_outputCharacter 12 = .ok (.astore_n 3, 1) := dk_78 (dk_at dksX0_outputCharacter_0 12 rfl rfl)
theorem dX0_outputCharacter_13 : decode cX0_outputCharacter 13 = .ok (.iconst 1, 1) := dk_4 (dk_at dksX0_outputCharacter_0 13 rfl rfl)
theorem dX0_outputCharacter_14 : decode cX0_outputCharacter 14 = .ok (.ireturn, 1) := dk_172 (dk_at dksX0_outputCharacter_0 14 rfl rfl)
theorem dX0_outputCharacter_15 : decode cX0_outputCharacter 15 = .ok (.iconst 0, 1) := dk_3 (dk_at dksX0_outputCharacter_0 15 rfl rfl)
theorem dX0_outputCharacter_16 : decode cX0_outputCharacter 16 = .ok (.ireturn, 1) := dk_172 (dk_at dksX0_outputCharacter_0 16 rfl rfl)
abbrev cX0_feed : ByteArray := method_40_code
def yX0_feed : MethodName := ⟨RX0, "feed", "(LCloudInterviews;C[J)I"⟩
def dkwX0_feed_0 : List UInt8 := [44, 3, 42, 27, 182, 0, 141, 133, 80, 167, 0, 6, 78, 4, 172, 3, 172]
abbrev dktX0_feed_0 : List UInt8 := dkwX0_feed_0 ++ []
theorem dksX0_feed_0 : cX0_feed.data.toList.drop 0 = dktX0_feed_0 := by decide +kernel
theorem dX0_feed_0 : decode cX0_feed 0 = .ok (.aload_n 2, 1) := dk_44 (dk_at dksX0_feed_0 0 rfl rfl)
theorem dX0_feed_1 : decode cX0_feed 1 = .ok (.iconst 0, 1) := dk_3 (dk_at dksX0_feed_0 1 rfl rfl)
theorem dX0_feed_2 : decode cX0_feed 2 = .ok (.aload_n 0, 1) := dk_42 (dk_at dksX0_feed_0 2 rfl rfl)
theorem dX0_feed_3 : decode cX0_feed 3 = .ok (.iload_n 1, 1) := dk_27 (dk_at dksX0_feed_0 3 rfl rfl)
theorem dX0_feed_4 : decode cX0_feed 4 = .ok (.invokevirtual 141, 3) := dk_182 0 141 (dk_at dksX0_feed_0 4 rfl rfl)
theorem dX0_feed_7 : decode cX0_feed 7 = .ok (.i2l, 1) := dk_133 (dk_at dksX0_feed_0 7 rfl rfl)
theorem dX0_feed_8 : decode cX0_feed 8 = .ok (.lastore, 1) := dk_80 (dk_at dksX0_feed_0 8 rfl rfl)
theorem dX0_feed_9 : decode cX0_feed 9 = .ok (.goto 6, 3) := dk_167 0 6 (dk_at dksX0_feed_0 9 rfl rfl)
theorem dX0_feed_12 : decode cX0_feed 12 = .ok (.astore_n 3, 1) := dk_78 (dk_at dksX0_feed_0 12 rfl rfl)
theorem dX0_feed_13 : decode cX0_feed 13 = .ok (.iconst 1, 1) := dk_4 (dk_at dksX0_feed_0 13 rfl rfl)
theorem dX0_feed_14 : decode cX0_feed 14 = .ok (.ireturn, 1) := dk_172 (dk_at dksX0_feed_0 14 rfl rfl)
theorem dX0_feed_15 : decode cX0_feed 15 = .ok (.iconst 0, 1) := dk_3 (dk_at dksX0_feed_0 15 rfl rfl)
theorem dX0_feed_16 : decode cX0_feed 16 = .ok (.ireturn, 1) := dk_172 (dk_at dksX0_feed_0 16 rfl rfl)
abbrev cX0_execute : ByteArray := method_41_code
def yX0_execute : MethodName := ⟨RX0, "execute", "(LCloudInterviews;[J)I"⟩
def dkwX0_execute_0 : List UInt8 := [43, 3, 42, 182, 0, 145, 133, 80, 167, 0, 9, 77, 4, 172, 77, 5, 172, 3, 172]
abbrev dktX0_execute_0 : List UInt8 := dkwX0_execute_0 ++ []
theorem dksX0_execute_0 : cX0_execute.data.toList.drop 0 = dktX0_execute_0 := by decide +kernel
theorem dX0_execute_0 : decode cX0_execute 0 = .ok (.aload_n 1, 1) := dk_43 (dk_at dksX0_execute_0 0 rfl rfl)
theorem dX0_execute_1 : decode cX0_execute 1 = .ok (.iconst 0, 1) := dk_3 (dk_at dksX0_execute_0 1 rfl rfl)
theorem dX0_execute_2 : decode cX0_execute 2 = .ok (.aload_n 0, 1) := dk_42 (dk_at dksX0_execute_0 2 rfl rfl)
theorem dX0_execute_3 : decode cX0_execute 3 = .ok (.invokevirtual 145, 3) := dk_182 0 145 (dk_at dksX0_execute_0 3 rfl rfl)
theorem dX0_execute_6 : decode cX0_execute 6 = .ok (.i2l, 1) := dk_133 (dk_at dksX0_execute_0 6 rfl rfl)
theorem dX0_execute_7 : decode cX0_execute 7 = .ok (.lastore, 1) := dk_80 (dk_at dksX0_execute_0 7 rfl rfl)
theorem dX0_execute_8 : decode cX0_execute 8 = .ok (.goto 9, 3) := dk_167 0 9 (dk_at dksX0_execute_0 8 rfl rfl)
theorem dX0_execute_11 : decode cX0_execute 11 = .ok (.astore_n 2, 1) := dk_77 (dk_at dksX0_execute_0 11 rfl rfl)
theorem dX0_execute_12 : decode cX0_execute 12 = .ok (.iconst 1, 1) := dk_4 (dk_at dksX0_execute_0 12 rfl rfl)
theorem dX0_execute_13 : decode cX0_execute 13 = .ok (.ireturn, 1) := dk_172 (dk_at dksX0_execute_0 13 rfl rfl)
theorem dX0_execute_14 : decode cX0_execute 14 = .ok (.astore_n 2, 1) := dk_77 (dk_at dksX0_execute_0 14 rfl rfl)
theorem dX0_execute_15 : decode cX0_execute 15 = .ok (.iconst 2, 1) := dk_5 (dk_at dksX0_execute_0 15 rfl rfl)
theorem dX0_execute_16 : decode cX0_execute 16 = .ok (.ireturn, 1) := dk_172 (dk_at dksX0_execute_0 16 rfl rfl)
theorem dX0_execute_17 : decode cX0_execute 17 = .ok (.iconst 0, 1) := dk_3 (dk_at dksX0_execute_0 17 rfl rfl)
theorem dX0_execute_18 : decode cX0_execute 18 = .ok (.ireturn, 1) := dk_172 (dk_at dksX0_execute_0 18 rfl rfl)
abbrev cX0_errorPosition : ByteArray := method_42_code
def yX0_errorPosition : MethodName := ⟨RX0, "errorPosition", "(LCloudInterviews;[J)I"⟩
def dkwX0_errorPosition_0 : List UInt8 := [43, 3, 42, 182, 0, 149, 133, 80, 167, 0, 6, 77, 4, 172, 3, 172]
abbrev dktX0_errorPosition_0 : List UInt8 := dkwX0_errorPosition_0 ++ []
theorem dksX0_errorPosition_0 : cX0_errorPosition.data.toList.drop 0 = dktX0_errorPosition_0 := by decide +kernel
theorem dX0_errorPosition_0 : decode cX0_errorPosition 0 = .ok (.aload_n 1, 1) := dk_43 (dk_at dksX0_errorPosition_0 0 rfl rfl)
theorem dX0_errorPosition_1 : decode cX0_errorPosition 1 = .ok (.iconst 0, 1) := dk_3 (dk_at dksX0_errorPosition_0 1 rfl rfl)
theorem dX0_errorPosition_2 : decode cX0_errorPosition 2 = .ok (.aload_n 0, 1) := dk_42 (dk_at dksX0_errorPosition_0 2 rfl rfl)
theorem dX0_errorPosition_3 : decode cX0_errorPosition 3 = .ok (.invokevirtual 149, 3) := dk_182 0 149 (dk_at dksX0_errorPosition_0 3 rfl rfl)
theorem dX0_errorPosition_6 : decode cX0_errorPosition 6 = .ok (.i2l, 1) := dk_133 (dk_at dksX0_errorPosition_0 6 rfl rfl)
theorem dX0_errorPosition_7 : decode cX0_errorPosition 7 = .ok (.lastore, 1) := dk_80 (dk_at dksX0_errorPosition_0 7 rfl rfl)
theorem dX0_errorPosition_8 : decode cX0_errorPosition 8 = .ok (.goto 6, 3) := dk_167 0 6 (dk_at dksX0_errorPosition_0 8 rfl rfl)
theorem dX0_errorPosition_11 : decode cX0_errorPosition 11 = .ok (.astore_n 2, 1) := dk_77 (dk_at dksX0_errorPosition_0 11 rfl rfl)
theorem dX0_errorPosition_12 : decode cX0_errorPosition 12 = .ok (.iconst 1, 1) := dk_4 (dk_at dksX0_errorPosition_0 12 rfl rfl)
theorem dX0_errorPosition_13 : decode cX0_errorPosition 13 = .ok (.ireturn, 1) := dk_172 (dk_at dksX0_errorPosition_0 13 rfl rfl)
theorem dX0_errorPosition_14 : decode cX0_errorPosition 14 = .ok (.iconst 0, 1) := dk_3 (dk_at dksX0_errorPosition_0 14 rfl rfl)
theorem dX0_errorPosition_15 : decode cX0_errorPosition 15 = .ok (.ireturn, 1) := dk_172 (dk_at dksX0_errorPosition_0 15 rfl rfl)
abbrev cX0_failedCommand : ByteArray := method_43_code
def yX0_failedCommand : MethodName := ⟨RX0, "failedCommand", "(LCloudInterviews;[J)I"⟩
def dkwX0_failedCommand_0 : List UInt8 := [43, 3, 42, 182, 0, 152, 133, 80, 167, 0, 6, 77, 4, 172, 3, 172]
abbrev dktX0_failedCommand_0 : List UInt8 := dkwX0_failedCommand_0 ++ []
theorem dksX0_failedCommand_0 : cX0_failedCommand.data.toList.drop 0 = dktX0_failedCommand_0 := by decide +kernel
theorem dX0_failedCommand_0 : decode cX0_failedCommand 0 = .ok (.aload_n 1, 1) := dk_43 (dk_at dksX0_failedCommand_0 0 rfl rfl)
theorem dX0_failedCommand_1 : decode cX0_failedCommand 1 = .ok (.iconst 0, 1) := dk_3 (dk_at dksX0_failedCommand_0 1 rfl rfl)
theorem dX0_failedCommand_2 : decode cX0_failedCommand 2 = .ok (.aload_n 0, 1) := dk_42 (dk_at dksX0_failedCommand_0 2 rfl rfl)
theorem dX0_failedCommand_3 : decode cX0_failedCommand 3 = .ok (.invokevirtual 152, 3) := dk_182 0 152 (dk_at dksX0_failedCommand_0 3 rfl rfl)
theorem dX0_failedCommand_6 : decode cX0_failedCommand 6 = .ok (.i2l, 1) := dk_133 (dk_at dksX0_failedCommand_0 6 rfl rfl)
theorem dX0_failedCommand_7 : decode cX0_failedCommand 7 = .ok (.lastore, 1) := dk_80 (dk_at dksX0_failedCommand_0 7 rfl rfl)
theorem dX0_failedCommand_8 : decode cX0_failedCommand 8 = .ok (.goto 6, 3) := dk_167 0 6 (dk_at dksX0_failedCommand_0 8 rfl rfl)
theorem dX0_failedCommand_11 : decode cX0_failedCommand 11 = .ok (.astore_n 2, 1) := dk_77 (dk_at dksX0_failedCommand_0 11 rfl rfl)
theorem dX0_failedCommand_12 : decode cX0_failedCommand 12 = .ok (.iconst 1, 1) := dk_4 (dk_at dksX0_failedCommand_0 12 rfl rfl)
theorem dX0_failedCommand_13 : decode cX0_failedCommand 13 = .ok (.ireturn, 1) := dk_172 (dk_at dksX0_failedCommand_0 13 rfl rfl)
theorem dX0_failedCommand_14 : decode cX0_failedCommand 14 = .ok (.iconst 0, 1) := dk_3 (dk_at dksX0_failedCommand_0 14 rfl rfl)
theorem dX0_failedCommand_15 : decode cX0_failedCommand 15 = .ok (.ireturn, 1) := dk_172 (dk_at dksX0_failedCommand_0 15 rfl rfl)
abbrev cX0_undo : ByteArray := method_44_code
def yX0_undo : MethodName := ⟨RX0, "undo", "(LCloudInterviews;[J)I"⟩
def dkwX0_undo_0 : List UInt8 := [43, 3, 42, 182, 0, 155, 133, 80, 167, 0, 6, 77, 4, 172, 3, 172]
abbrev dktX0_undo_0 : List UInt8 := dkwX0_undo_0 ++ []
theorem dksX0_undo_0 : cX0_undo.data.toList.drop 0 = dktX0_undo_0 := by decide +kernel
theorem dX0_undo_0 : decode cX0_undo 0 = .ok (.aload_n 1, 1) := dk_43 (dk_at dksX0_undo_0 0 rfl rfl)
theorem dX0_undo_1 : decode cX0_undo 1 = .ok (.iconst 0, 1) := dk_3 (dk_at dksX0_undo_0 1 rfl rfl)
theorem dX0_undo_2 : decode cX0_undo 2 = .ok (.aload_n 0, 1) := dk_42 (dk_at dksX0_undo_0 2 rfl rfl)
theorem dX0_undo_3 : decode cX0_undo 3 = .ok (.invokevirtual 155, 3) := dk_182 0 155 (dk_at dksX0_undo_0 3 rfl rfl)
theorem dX0_undo_6 : decode cX0_undo 6 = .ok (.i2l, 1) := dk_133 (dk_at dksX0_undo_0 6 rfl rfl)
theorem dX0_undo_7 : decode cX0_undo 7 = .ok (.lastore, 1) := dk_80 (dk_at dksX0_undo_0 7 rfl rfl)
theorem dX0_undo_8 : decode cX0_undo 8 = .ok (.goto 6, 3) := dk_167 0 6 (dk_at dksX0_undo_0 8 rfl rfl)
theorem dX0_undo_11 : decode cX0_undo 11 = .ok (.astore_n 2, 1) := dk_77 (dk_at dksX0_undo_0 11 rfl rfl)
theorem dX0_undo_12 : decode cX0_undo 12 = .ok (.iconst 1, 1) := dk_4 (dk_at dksX0_undo_0 12 rfl rfl)
theorem dX0_undo_13 : decode cX0_undo 13 = .ok (.ireturn, 1) := dk_172 (dk_at dksX0_undo_0 13 rfl rfl)
theorem dX0_undo_14 : decode cX0_undo 14 = .ok (.iconst 0, 1) := dk_3 (dk_at dksX0_undo_0 14 rfl rfl)
theorem dX0_undo_15 : decode cX0_undo 15 = .ok (.ireturn, 1) := dk_172 (dk_at dksX0_undo_0 15 rfl rfl)
abbrev cX0_restore : ByteArray := method_45_code
def yX0_restore : MethodName := ⟨RX0, "restore", "(LCloudInterviews;[J)I"⟩
def dkwX0_restore_0 : List UInt8 := [43, 3, 42, 182, 0, 158, 133, 80, 167, 0, 6, 77, 4, 172, 3, 172]
abbrev dktX0_restore_0 : List UInt8 := dkwX0_restore_0 ++ []
theorem dksX0_restore_0 : cX0_restore.data.toList.drop 0 = dktX0_restore_0 := by decide +kernel
theorem dX0_restore_0 : decode cX0_restore 0 = .ok (.aload_n 1, 1) := dk_43 (dk_at dksX0_restore_0 0 rfl rfl)
theorem dX0_restore_1 : decode cX0_restore 1 = .ok (.iconst 0, 1) := dk_3 (dk_at dksX0_restore_0 1 rfl rfl)
theorem dX0_restore_2 : decode cX0_restore 2 = .ok (.aload_n 0, 1) := dk_42 (dk_at dksX0_restore_0 2 rfl rfl)
theorem dX0_restore_3 : decode cX0_restore 3 = .ok (.invokevirtual 158, 3) := dk_182 0 158 (dk_at dksX0_restore_0 3 rfl rfl)
theorem dX0_restore_6 : decode cX0_restore 6 = .ok (.i2l, 1) := dk_133 (dk_at dksX0_restore_0 6 rfl rfl)
theorem dX0_restore_7 : decode cX0_restore 7 = .ok (.lastore, 1) := dk_80 (dk_at dksX0_restore_0 7 rfl rfl)
theorem dX0_restore_8 : decode cX0_restore 8 = .ok (.goto 6, 3) := dk_167 0 6 (dk_at dksX0_restore_0 8 rfl rfl)
theorem dX0_restore_11 : decode cX0_restore 11 = .ok (.astore_n 2, 1) := dk_77 (dk_at dksX0_restore_0 11 rfl rfl)
theorem dX0_restore_12 : decode cX0_restore 12 = .ok (.iconst 1, 1) := dk_4 (dk_at dksX0_restore_0 12 rfl rfl)
theorem dX0_restore_13 : decode cX0_restore 13 = .ok (.ireturn, 1) := dk_172 (dk_at dksX0_restore_0 13 rfl rfl)
theorem dX0_restore_14 : decode cX0_restore 14 = .ok (.iconst 0, 1) := dk_3 (dk_at dksX0_restore_0 14 rfl rfl)
theorem dX0_restore_15 : decode cX0_restore 15 = .ok (.ireturn, 1) := dk_172 (dk_at dksX0_restore_0 15 rfl rfl)
theorem q80 : (Jvm.Cond.initialized "CloudInterviewsLaw") ∈ lw_all := lw_g (lw_at lw_m1 0 rfl) rfl
theorem q128 : (Jvm.Cond.classLink "CloudInterviewsLaw" (8 : Nat) "CloudInterviews") ∈ lw_all := lw_g (lw_at lw_m1 48 rfl) rfl
theorem q130 : (Jvm.Cond.methodLink "CloudInterviewsLaw" (161 : Nat) ({ cls := "CloudInterviews", name := "<init>", desc := "()V" } : Jvm.MethodName)) ∈ lw_all := lw_g (lw_at lw_m1 50 rfl) rfl
theorem q298 : (Jvm.Cond.methodLink "CloudInterviewsLaw" (181 : Nat) ({ cls := "CloudInterviews", name := "applicantCount", desc := "()I" } : Jvm.MethodName)) ∈ lw_all := lw_g (lw_at lw_m1 218 rfl) rfl
theorem q306 : (Jvm.Cond.methodLink "CloudInterviewsLaw" (185 : Nat) ({ cls := "CloudInterviews", name := "waitingCount", desc := "()I" } : Jvm.MethodName)) ∈ lw_all := lw_g (lw_at lw_m1 226 rfl) rfl
theorem q434 : (Jvm.Cond.methodLink "CloudInterviewsLaw" (239 : Nat) ({ cls := "CloudInterviews", name := "postCount", desc := "()I" } : Jvm.MethodName)) ∈ lw_all := lw_g (lw_at lw_m2 114 rfl) rfl
theorem q438 : (Jvm.Cond.methodLink "CloudInterviewsLaw" (243 : Nat) ({ cls := "CloudInterviews", name := "vacantCount", desc := "()I" } : Jvm.MethodName)) ∈ lw_all := lw_g (lw_at lw_m2 118 rfl) rfl
theorem q451 : (Jvm.Cond.methodLink "CloudInterviewsLaw" (283 : Nat) ({ cls := "CloudInterviews", name := "match", desc := "()I" } : Jvm.MethodName)) ∈ lw_all := lw_g (lw_at lw_m2 131 rfl) rfl
theorem q1761 : (Jvm.Cond.methodLink "CloudInterviewsLaw" (287 : Nat) ({ cls := "CloudInterviews", name := "mostHires", desc := "()I" } : Jvm.MethodName)) ∈ lw_all := lw_g (lw_at lw_m8 1 rfl) rfl
theorem q1774 : (Jvm.Cond.methodLink "CloudInterviewsLaw" (291 : Nat) ({ cls := "CloudInterviews", name := "mostHiresBySets", desc := "()I" } : Jvm.MethodName)) ∈ lw_all := lw_g (lw_at lw_m8 14 rfl) rfl
theorem q1793 : (Jvm.Cond.methodLink "CloudInterviewsLaw" (295 : Nat) ({ cls := "CloudInterviews", name := "blockingPairs", desc := "()I" } : Jvm.MethodName)) ∈ lw_all := lw_g (lw_at lw_m8 33 rfl) rfl
theorem q1805 : (Jvm.Cond.methodLink "CloudInterviewsLaw" (299 : Nat) ({ cls := "CloudInterviews", name := "blockingPairsByPreference", desc := "()I" } : Jvm.MethodName)) ∈ lw_all := lw_g (lw_at lw_m8 45 rfl) rfl
theorem q1813 : (Jvm.Cond.methodLink "CloudInterviewsLaw" (306 : Nat) ({ cls := "CloudInterviews", name := "day", desc := "()I" } : Jvm.MethodName)) ∈ lw_all := lw_g (lw_at lw_m8 53 rfl) rfl
theorem q1817 : (Jvm.Cond.methodLink "CloudInterviewsLaw" (313 : Nat) ({ cls := "CloudInterviews", name := "dailyWages", desc := "()I" } : Jvm.MethodName)) ∈ lw_all := lw_g (lw_at lw_m8 57 rfl) rfl
theorem q1825 : (Jvm.Cond.methodLink "CloudInterviewsLaw" (327 : Nat) ({ cls := "CloudInterviews", name := "writePosts", desc := "()I" } : Jvm.MethodName)) ∈ lw_all := lw_g (lw_at lw_m8 65 rfl) rfl
theorem q1863 : (Jvm.Cond.methodLink "CloudInterviewsLaw" (334 : Nat) ({ cls := "CloudInterviews", name := "isConsistent", desc := "()Z" } : Jvm.MethodName)) ∈ lw_all := lw_g (lw_at lw_m8 103 rfl) rfl
theorem q1875 : (Jvm.Cond.methodLink "CloudInterviewsLaw" (356 : Nat) ({ cls := "CloudInterviews", name := "undoCount", desc := "()I" } : Jvm.MethodName)) ∈ lw_all := lw_g (lw_at lw_m8 115 rfl) rfl
theorem q1879 : (Jvm.Cond.methodLink "CloudInterviewsLaw" (360 : Nat) ({ cls := "CloudInterviews", name := "save", desc := "()I" } : Jvm.MethodName)) ∈ lw_all := lw_g (lw_at lw_m8 119 rfl) rfl
theorem q1883 : (Jvm.Cond.methodLink "CloudInterviewsLaw" (165 : Nat) ({ cls := "CloudInterviewsLaw", name := "addApplicant", desc := "(LCloudInterviews;CII[J)I" } : Jvm.MethodName)) ∈ lw_all := lw_g (lw_at lw_m8 123 rfl) rfl
theorem q1884 : (Jvm.Cond.static ({ cls := "CloudInterviewsLaw", name := "addApplicant", desc := "(LCloudInterviews;CII[J)I" } : Jvm.MethodName)) ∈ lw_all := lw_g (lw_at lw_m8 124 rfl) rfl
theorem q1885 : (Jvm.Cond.codeWith ({ cls := "CloudInterviewsLaw", name := "addApplicant", desc := "(LCloudInterviews;CII[J)I" } : Jvm.MethodName) method_3_code (6 : Nat) (Option.some Jvm.ClassFile.FieldType.int) [((0 : Nat), (12 : Nat), (15 : Nat), (13 : Nat)), ((0 : Nat), (12 : Nat), (19 : Nat), (15 : Nat))]) ∈ lw_all := lw_g (lw_at lw_m8 125 rfl) rfl
theorem q1886 : (Jvm.Cond.classLink "CloudInterviewsLaw" (13 : Nat) "java/lang/IllegalArgumentException") ∈ lw_all := lw_g (lw_at lw_m8 126 rfl) rfl
theorem q1887 : (Jvm.Cond.classLink "CloudInterviewsLaw" (15 : Nat) "java/lang/IllegalStateException") ∈ lw_all := lw_g (lw_at lw_m8 127 rfl) rfl
theorem q1888 : (Jvm.Cond.methodLink "CloudInterviewsLaw" (7 : Nat) ({ cls := "CloudInterviews", name := "addApplicant", desc := "(CII)I" } : Jvm.MethodName)) ∈ lw_all := lw_g (lw_at lw_m8 128 rfl) rfl
theorem q1893 : (Jvm.Cond.methodLink "CloudInterviewsLaw" (174 : Nat) ({ cls := "CloudInterviewsLaw", name := "removeApplicant", desc := "(LCloudInterviews;I[J)I" } : Jvm.MethodName)) ∈ lw_all := lw_g (lw_at lw_m8 133 rfl) rfl
theorem q1894 : (Jvm.Cond.static ({ cls := "CloudInterviewsLaw", name := "removeApplicant", desc := "(LCloudInterviews;I[J)I" } : Jvm.MethodName)) ∈ lw_all := lw_g (lw_at lw_m8 134 rfl) rfl
theorem q1895 : (Jvm.Cond.codeWith ({ cls := "CloudInterviewsLaw", name := "removeApplicant", desc := "(LCloudInterviews;I[J)I" } : Jvm.MethodName) method_4_code (4 : Nat) (Option.some Jvm.ClassFile.FieldType.int) [((0 : Nat), (9 : Nat), (12 : Nat), (21 : Nat))]) ∈ lw_all := lw_g (lw_at lw_m8 135 rfl) rfl
theorem q1896 : (Jvm.Cond.classLink "CloudInterviewsLaw" (21 : Nat) "java/util/NoSuchElementException") ∈ lw_all := lw_g (lw_at lw_m8 136 rfl) rfl
theorem q1897 : (Jvm.Cond.methodLink "CloudInterviewsLaw" (17 : Nat) ({ cls := "CloudInterviews", name := "removeApplicant", desc := "(I)I" } : Jvm.MethodName)) ∈ lw_all := lw_g (lw_at lw_m8 137 rfl) rfl
theorem q1902 : (Jvm.Cond.methodLink "CloudInterviewsLaw" (178 : Nat) ({ cls := "CloudInterviewsLaw", name := "rejectRainy", desc := "(LCloudInterviews;I[J)I" } : Jvm.MethodName)) ∈ lw_all := lw_g (lw_at lw_m8 142 rfl) rfl
theorem q1903 : (Jvm.Cond.static ({ cls := "CloudInterviewsLaw", name := "rejectRainy", desc := "(LCloudInterviews;I[J)I" } : Jvm.MethodName)) ∈ lw_all := lw_g (lw_at lw_m8 143 rfl) rfl
theorem q1904 : (Jvm.Cond.codeWith ({ cls := "CloudInterviewsLaw", name := "rejectRainy", desc := "(LCloudInterviews;I[J)I" } : Jvm.MethodName) method_5_code (4 : Nat) (Option.some Jvm.ClassFile.FieldType.int) [((0 : Nat), (9 : Nat), (12 : Nat), (13 : Nat))]) ∈ lw_all := lw_g (lw_at lw_m8 144 rfl) rfl
theorem q1905 : (Jvm.Cond.methodLink "CloudInterviewsLaw" (23 : Nat) ({ cls := "CloudInterviews", name := "rejectRainy", desc := "(I)I" } : Jvm.MethodName)) ∈ lw_all := lw_g (lw_at lw_m8 145 rfl) rfl
theorem q1910 : (Jvm.Cond.methodLink "CloudInterviewsLaw" (189 : Nat) ({ cls := "CloudInterviewsLaw", name := "applicant", desc := "(LCloudInterviews;I[J)I" } : Jvm.MethodName)) ∈ lw_all := lw_g (lw_at lw_m8 150 rfl) rfl
theorem q1911 : (Jvm.Cond.static ({ cls := "CloudInterviewsLaw", name := "applicant", desc := "(LCloudInterviews;I[J)I" } : Jvm.MethodName)) ∈ lw_all := lw_g (lw_at lw_m8 151 rfl) rfl
theorem q1912 : (Jvm.Cond.codeWith ({ cls := "CloudInterviewsLaw", name := "applicant", desc := "(LCloudInterviews;I[J)I" } : Jvm.MethodName) method_6_code (4 : Nat) (Option.some Jvm.ClassFile.FieldType.int) [((0 : Nat), (9 : Nat), (12 : Nat), (29 : Nat))]) ∈ lw_all := lw_g (lw_at lw_m8 152 rfl) rfl
theorem q1913 : (Jvm.Cond.classLink "CloudInterviewsLaw" (29 : Nat) "java/lang/IndexOutOfBoundsException") ∈ lw_all := lw_g (lw_at lw_m8 153 rfl) rfl
theorem q1929 : (Jvm.Cond.methodLink "CloudInterviewsLaw" (26 : Nat) ({ cls := "CloudInterviews", name := "applicant", desc := "(I)I" } : Jvm.MethodName)) ∈ lw_all := lw_g (lw_at lw_m8 169 rfl) rfl
theorem q1936 : (Jvm.Cond.methodLink "CloudInterviewsLaw" (192 : Nat) ({ cls := "CloudInterviewsLaw", name := "shape", desc := "(LCloudInterviews;I[J)I" } : Jvm.MethodName)) ∈ lw_all := lw_g (lw_at lw_m8 176 rfl) rfl
theorem q1937 : (Jvm.Cond.static ({ cls := "CloudInterviewsLaw", name := "shape", desc := "(LCloudInterviews;I[J)I" } : Jvm.MethodName)) ∈ lw_all := lw_g (lw_at lw_m8 177 rfl) rfl
theorem q1938 : (Jvm.Cond.codeWith ({ cls := "CloudInterviewsLaw", name := "shape", desc := "(LCloudInterviews;I[J)I" } : Jvm.MethodName) method_7_code (4 : Nat) (Option.some Jvm.ClassFile.FieldType.int) [((0 : Nat), (9 : Nat), (12 : Nat), (21 : Nat))]) ∈ lw_all := lw_g (lw_at lw_m8 178 rfl) rfl
theorem q1939 : (Jvm.Cond.methodLink "CloudInterviewsLaw" (31 : Nat) ({ cls := "CloudInterviews", name := "shape", desc := "(I)C" } : Jvm.MethodName)) ∈ lw_all := lw_g (lw_at lw_m8 179 rfl) rfl
theorem q1944 : (Jvm.Cond.methodLink "CloudInterviewsLaw" (195 : Nat) ({ cls := "CloudInterviewsLaw", name := "whiteness", desc := "(LCloudInterviews;I[J)I" } : Jvm.MethodName)) ∈ lw_all := lw_g (lw_at lw_m8 184 rfl) rfl
theorem q1945 : (Jvm.Cond.static ({ cls := "CloudInterviewsLaw", name := "whiteness", desc := "(LCloudInterviews;I[J)I" } : Jvm.MethodName)) ∈ lw_all := lw_g (lw_at lw_m8 185 rfl) rfl
theorem q1946 : (Jvm.Cond.codeWith ({ cls := "CloudInterviewsLaw", name := "whiteness", desc := "(LCloudInterviews;I[J)I" } : Jvm.MethodName) method_8_code (4 : Nat) (Option.some Jvm.ClassFile.FieldType.int) [((0 : Nat), (9 : Nat), (12 : Nat), (21 : Nat))]) ∈ lw_all := lw_g (lw_at lw_m8 186 rfl) rfl
theorem q1947 : (Jvm.Cond.methodLink "CloudInterviewsLaw" (35 : Nat) ({ cls := "CloudInterviews", name := "whiteness", desc := "(I)I" } : Jvm.MethodName)) ∈ lw_all := lw_g (lw_at lw_m8 187 rfl) rfl
theorem q1951 : (Jvm.Cond.methodLink "CloudInterviewsLaw" (198 : Nat) ({ cls := "CloudInterviewsLaw", name := "rain", desc := "(LCloudInterviews;I[J)I" } : Jvm.MethodName)) ∈ lw_all := lw_g (lw_at lw_m8 191 rfl) rfl
theorem q1952 : (Jvm.Cond.static ({ cls := "CloudInterviewsLaw", name := "rain", desc := "(LCloudInterviews;I[J)I" } : Jvm.MethodName)) ∈ lw_all := lw_g (lw_at lw_m8 192 rfl) rfl
theorem q1953 : (Jvm.Cond.codeWith ({ cls := "CloudInterviewsLaw", name := "rain", desc := "(LCloudInterviews;I[J)I" } : Jvm.MethodName) method_9_code (4 : Nat) (Option.some Jvm.ClassFile.FieldType.int) [((0 : Nat), (9 : Nat), (12 : Nat), (21 : Nat))]) ∈ lw_all := lw_g (lw_at lw_m8 193 rfl) rfl
theorem q1954 : (Jvm.Cond.methodLink "CloudInterviewsLaw" (38 : Nat) ({ cls := "CloudInterviews", name := "rain", desc := "(I)I" } : Jvm.MethodName)) ∈ lw_all := lw_g (lw_at lw_m8 194 rfl) rfl
theorem q1958 : (Jvm.Cond.methodLink "CloudInterviewsLaw" (201 : Nat) ({ cls := "CloudInterviewsLaw", name := "coins", desc := "(LCloudInterviews;I[J)I" } : Jvm.MethodName)) ∈ lw_all := lw_g (lw_at lw_m8 198 rfl) rfl
theorem q1959 : (Jvm.Cond.static ({ cls := "CloudInterviewsLaw", name := "coins", desc := "(LCloudInterviews;I[J)I" } : Jvm.MethodName)) ∈ lw_all := lw_g (lw_at lw_m8 199 rfl) rfl
theorem q1960 : (Jvm.Cond.codeWith ({ cls := "CloudInterviewsLaw", name := "coins", desc := "(LCloudInterviews;I[J)I" } : Jvm.MethodName) method_10_code (4 : Nat) (Option.some Jvm.ClassFile.FieldType.int) [((0 : Nat), (9 : Nat), (12 : Nat), (21 : Nat))]) ∈ lw_all := lw_g (lw_at lw_m8 200 rfl) rfl
theorem q1961 : (Jvm.Cond.methodLink "CloudInterviewsLaw" (41 : Nat) ({ cls := "CloudInterviews", name := "coins", desc := "(I)I" } : Jvm.MethodName)) ∈ lw_all := lw_g (lw_at lw_m8 201 rfl) rfl
theorem q1965 : (Jvm.Cond.methodLink "CloudInterviewsLaw" (204 : Nat) ({ cls := "CloudInterviewsLaw", name := "isHired", desc := "(LCloudInterviews;I[J)I" } : Jvm.MethodName)) ∈ lw_all := lw_g (lw_at lw_m8 205 rfl) rfl
theorem q1966 : (Jvm.Cond.static ({ cls := "CloudInterviewsLaw", name := "isHired", desc := "(LCloudInterviews;I[J)I" } : Jvm.MethodName)) ∈ lw_all := lw_g (lw_at lw_m8 206 rfl) rfl
theorem q1967 : (Jvm.Cond.codeWith ({ cls := "CloudInterviewsLaw", name := "isHired", desc := "(LCloudInterviews;I[J)I" } : Jvm.MethodName) method_11_code (4 : Nat) (Option.some Jvm.ClassFile.FieldType.int) [((0 : Nat), (16 : Nat), (19 : Nat), (21 : Nat))]) ∈ lw_all := lw_g (lw_at lw_m8 207 rfl) rfl
theorem q1968 : (Jvm.Cond.methodLink "CloudInterviewsLaw" (44 : Nat) ({ cls := "CloudInterviews", name := "isHired", desc := "(I)Z" } : Jvm.MethodName)) ∈ lw_all := lw_g (lw_at lw_m8 208 rfl) rfl
theorem q1973 : (Jvm.Cond.methodLink "CloudInterviewsLaw" (207 : Nat) ({ cls := "CloudInterviewsLaw", name := "postOf", desc := "(LCloudInterviews;I[J)I" } : Jvm.MethodName)) ∈ lw_all := lw_g (lw_at lw_m8 213 rfl) rfl
theorem q1974 : (Jvm.Cond.static ({ cls := "CloudInterviewsLaw", name := "postOf", desc := "(LCloudInterviews;I[J)I" } : Jvm.MethodName)) ∈ lw_all := lw_g (lw_at lw_m8 214 rfl) rfl
theorem q1975 : (Jvm.Cond.codeWith ({ cls := "CloudInterviewsLaw", name := "postOf", desc := "(LCloudInterviews;I[J)I" } : Jvm.MethodName) method_12_code (4 : Nat) (Option.some Jvm.ClassFile.FieldType.int) [((0 : Nat), (9 : Nat), (12 : Nat), (21 : Nat))]) ∈ lw_all := lw_g (lw_at lw_m8 215 rfl) rfl
theorem q1976 : (Jvm.Cond.methodLink "CloudInterviewsLaw" (48 : Nat) ({ cls := "CloudInterviews", name := "postOf", desc := "(I)I" } : Jvm.MethodName)) ∈ lw_all := lw_g (lw_at lw_m8 216 rfl) rfl
theorem q1982 : (Jvm.Cond.methodLink "CloudInterviewsLaw" (210 : Nat) ({ cls := "CloudInterviewsLaw", name := "score", desc := "(LCloudInterviews;I[J)I" } : Jvm.MethodName)) ∈ lw_all := lw_g (lw_at lw_m8 222 rfl) rfl
theorem q1983 : (Jvm.Cond.static ({ cls := "CloudInterviewsLaw", name := "score", desc := "(LCloudInterviews;I[J)I" } : Jvm.MethodName)) ∈ lw_all := lw_g (lw_at lw_m8 223 rfl) rfl
theorem q1984 : (Jvm.Cond.codeWith ({ cls := "CloudInterviewsLaw", name := "score", desc := "(LCloudInterviews;I[J)I" } : Jvm.MethodName) method_13_code (4 : Nat) (Option.some Jvm.ClassFile.FieldType.int) [((0 : Nat), (9 : Nat), (12 : Nat), (21 : Nat))]) ∈ lw_all := lw_g (lw_at lw_m8 224 rfl) rfl
theorem q1985 : (Jvm.Cond.methodLink "CloudInterviewsLaw" (51 : Nat) ({ cls := "CloudInterviews", name := "score", desc := "(I)I" } : Jvm.MethodName)) ∈ lw_all := lw_g (lw_at lw_m8 225 rfl) rfl
theorem q1990 : (Jvm.Cond.methodLink "CloudInterviewsLaw" (213 : Nat) ({ cls := "CloudInterviewsLaw", name := "applicantByScore", desc := "(LCloudInterviews;I[J)I" } : Jvm.MethodName)) ∈ lw_all := lw_g (lw_at lw_m8 230 rfl) rfl
theorem q1991 : (Jvm.Cond.static ({ cls := "CloudInterviewsLaw", name := "applicantByScore", desc := "(LCloudInterviews;I[J)I" } : Jvm.MethodName)) ∈ lw_all := lw_g (lw_at lw_m8 231 rfl) rfl
theorem q1992 : (Jvm.Cond.codeWith ({ cls := "CloudInterviewsLaw", name := "applicantByScore", desc := "(LCloudInterviews;I[J)I" } : Jvm.MethodName) method_14_code (4 : Nat) (Option.some Jvm.ClassFile.FieldType.int) [((0 : Nat), (9 : Nat), (12 : Nat), (29 : Nat))]) ∈ lw_all := lw_g (lw_at lw_m8 232 rfl) rfl
theorem q1993 : (Jvm.Cond.methodLink "CloudInterviewsLaw" (54 : Nat) ({ cls := "CloudInterviews", name := "applicantByScore", desc := "(I)I" } : Jvm.MethodName)) ∈ lw_all := lw_g (lw_at lw_m8 233 rfl) rfl
theorem q2001 : (Jvm.Cond.methodLink "CloudInterviewsLaw" (216 : Nat) ({ cls := "CloudInterviewsLaw", name := "addReference", desc := "(LCloudInterviews;II[J)I" } : Jvm.MethodName)) ∈ lw_all := lw_g (lw_at lw_m9 1 rfl) rfl
theorem q2002 : (Jvm.Cond.static ({ cls := "CloudInterviewsLaw", name := "addReference", desc := "(LCloudInterviews;II[J)I" } : Jvm.MethodName)) ∈ lw_all := lw_g (lw_at lw_m9 2 rfl) rfl
theorem q2003 : (Jvm.Cond.codeWith ({ cls := "CloudInterviewsLaw", name := "addReference", desc := "(LCloudInterviews;II[J)I" } : Jvm.MethodName) method_15_code (5 : Nat) (Option.some Jvm.ClassFile.FieldType.int) [((0 : Nat), (10 : Nat), (13 : Nat), (21 : Nat)), ((0 : Nat), (10 : Nat), (17 : Nat), (13 : Nat)), ((0 : Nat), (10 : Nat), (21 : Nat), (15 : Nat))]) ∈ lw_all := lw_g (lw_at lw_m9 3 rfl) rfl
theorem q2004 : (Jvm.Cond.methodLink "CloudInterviewsLaw" (57 : Nat) ({ cls := "CloudInterviews", name := "addReference", desc := "(II)I" } : Jvm.MethodName)) ∈ lw_all := lw_g (lw_at lw_m9 4 rfl) rfl
theorem q2009 : (Jvm.Cond.methodLink "CloudInterviewsLaw" (220 : Nat) ({ cls := "CloudInterviewsLaw", name := "removeReference", desc := "(LCloudInterviews;II[J)I" } : Jvm.MethodName)) ∈ lw_all := lw_g (lw_at lw_m9 9 rfl) rfl
theorem q2010 : (Jvm.Cond.static ({ cls := "CloudInterviewsLaw", name := "removeReference", desc := "(LCloudInterviews;II[J)I" } : Jvm.MethodName)) ∈ lw_all := lw_g (lw_at lw_m9 10 rfl) rfl
theorem q2011 : (Jvm.Cond.codeWith ({ cls := "CloudInterviewsLaw", name := "removeReference", desc := "(LCloudInterviews;II[J)I" } : Jvm.MethodName) method_16_code (5 : Nat) (Option.some Jvm.ClassFile.FieldType.int) [((0 : Nat), (10 : Nat), (13 : Nat), (21 : Nat))]) ∈ lw_all := lw_g (lw_at lw_m9 11 rfl) rfl
theorem q2012 : (Jvm.Cond.methodLink "CloudInterviewsLaw" (61 : Nat) ({ cls := "CloudInterviews", name := "removeReference", desc := "(II)I" } : Jvm.MethodName)) ∈ lw_all := lw_g (lw_at lw_m9 12 rfl) rfl
theorem q2017 : (Jvm.Cond.methodLink "CloudInterviewsLaw" (223 : Nat) ({ cls := "CloudInterviewsLaw", name := "hasReference", desc := "(LCloudInterviews;II[J)I" } : Jvm.MethodName)) ∈ lw_all := lw_g (lw_at lw_m9 17 rfl) rfl
theorem q2018 : (Jvm.Cond.static ({ cls := "CloudInterviewsLaw", name := "hasReference", desc := "(LCloudInterviews;II[J)I" } : Jvm.MethodName)) ∈ lw_all := lw_g (lw_at lw_m9 18 rfl) rfl
theorem q2019 : (Jvm.Cond.codeWith ({ cls := "CloudInterviewsLaw", name := "hasReference", desc := "(LCloudInterviews;II[J)I" } : Jvm.MethodName) method_17_code (5 : Nat) (Option.some Jvm.ClassFile.FieldType.int) [((0 : Nat), (17 : Nat), (20 : Nat), (21 : Nat))]) ∈ lw_all := lw_g (lw_at lw_m9 19 rfl) rfl
theorem q2020 : (Jvm.Cond.methodLink "CloudInterviewsLaw" (64 : Nat) ({ cls := "CloudInterviews", name := "hasReference", desc := "(II)Z" } : Jvm.MethodName)) ∈ lw_all := lw_g (lw_at lw_m9 20 rfl) rfl
theorem q2025 : (Jvm.Cond.methodLink "CloudInterviewsLaw" (226 : Nat) ({ cls := "CloudInterviewsLaw", name := "referencesFor", desc := "(LCloudInterviews;I[J)I" } : Jvm.MethodName)) ∈ lw_all := lw_g (lw_at lw_m9 25 rfl) rfl
theorem q2026 : (Jvm.Cond.static ({ cls := "CloudInterviewsLaw", name := "referencesFor", desc := "(LCloudInterviews;I[J)I" } : Jvm.MethodName)) ∈ lw_all := lw_g (lw_at lw_m9 26 rfl) rfl
theorem q2027 : (Jvm.Cond.codeWith ({ cls := "CloudInterviewsLaw", name := "referencesFor", desc := "(LCloudInterviews;I[J)I" } : Jvm.MethodName) method_18_code (4 : Nat) (Option.some Jvm.ClassFile.FieldType.int) [((0 : Nat), (9 : Nat), (12 : Nat), (21 : Nat))]) ∈ lw_all := lw_g (lw_at lw_m9 27 rfl) rfl
theorem q2028 : (Jvm.Cond.methodLink "CloudInterviewsLaw" (68 : Nat) ({ cls := "CloudInterviews", name := "referencesFor", desc := "(I)I" } : Jvm.MethodName)) ∈ lw_all := lw_g (lw_at lw_m9 28 rfl) rfl
theorem q2033 : (Jvm.Cond.methodLink "CloudInterviewsLaw" (229 : Nat) ({ cls := "CloudInterviewsLaw", name := "referencesFrom", desc := "(LCloudInterviews;I[J)I" } : Jvm.MethodName)) ∈ lw_all := lw_g (lw_at lw_m9 33 rfl) rfl
theorem q2034 : (Jvm.Cond.static ({ cls := "CloudInterviewsLaw", name := "referencesFrom", desc := "(LCloudInterviews;I[J)I" } : Jvm.MethodName)) ∈ lw_all := lw_g (lw_at lw_m9 34 rfl) rfl
theorem q2035 : (Jvm.Cond.codeWith ({ cls := "CloudInterviewsLaw", name := "referencesFrom", desc := "(LCloudInterviews;I[J)I" } : Jvm.MethodName) method_19_code (4 : Nat) (Option.some Jvm.ClassFile.FieldType.int) [((0 : Nat), (9 : Nat), (12 : Nat), (21 : Nat))]) ∈ lw_all := lw_g (lw_at lw_m9 35 rfl) rfl
theorem q2036 : (Jvm.Cond.methodLink "CloudInterviewsLaw" (71 : Nat) ({ cls := "CloudInterviews", name := "referencesFrom", desc := "(I)I" } : Jvm.MethodName)) ∈ lw_all := lw_g (lw_at lw_m9 36 rfl) rfl
theorem q2044 : (Jvm.Cond.methodLink "CloudInterviewsLaw" (232 : Nat) ({ cls := "CloudInterviewsLaw", name := "openPost", desc := "(LCloudInterviews;CIII[J)I" } : Jvm.MethodName)) ∈ lw_all := lw_g (lw_at lw_m9 44 rfl) rfl
theorem q2045 : (Jvm.Cond.static ({ cls := "CloudInterviewsLaw", name := "openPost", desc := "(LCloudInterviews;CIII[J)I" } : Jvm.MethodName)) ∈ lw_all := lw_g (lw_at lw_m9 45 rfl) rfl
theorem q2046 : (Jvm.Cond.codeWith ({ cls := "CloudInterviewsLaw", name := "openPost", desc := "(LCloudInterviews;CIII[J)I" } : Jvm.MethodName) method_20_code (7 : Nat) (Option.some Jvm.ClassFile.FieldType.int) [((0 : Nat), (14 : Nat), (17 : Nat), (13 : Nat)), ((0 : Nat), (14 : Nat), (21 : Nat), (15 : Nat))]) ∈ lw_all := lw_g (lw_at lw_m9 46 rfl) rfl
theorem q2047 : (Jvm.Cond.methodLink "CloudInterviewsLaw" (74 : Nat) ({ cls := "CloudInterviews", name := "openPost", desc := "(CIII)I" } : Jvm.MethodName)) ∈ lw_all := lw_g (lw_at lw_m9 47 rfl) rfl
theorem q2052 : (Jvm.Cond.methodLink "CloudInterviewsLaw" (236 : Nat) ({ cls := "CloudInterviewsLaw", name := "closePost", desc := "(LCloudInterviews;I[J)I" } : Jvm.MethodName)) ∈ lw_all := lw_g (lw_at lw_m9 52 rfl) rfl
theorem q2053 : (Jvm.Cond.static ({ cls := "CloudInterviewsLaw", name := "closePost", desc := "(LCloudInterviews;I[J)I" } : Jvm.MethodName)) ∈ lw_all := lw_g (lw_at lw_m9 53 rfl) rfl
theorem q2054 : (Jvm.Cond.codeWith ({ cls := "CloudInterviewsLaw", name := "closePost", desc := "(LCloudInterviews;I[J)I" } : Jvm.MethodName) method_21_code (4 : Nat) (Option.some Jvm.ClassFile.FieldType.int) [((0 : Nat), (16 : Nat), (19 : Nat), (29 : Nat))]) ∈ lw_all := lw_g (lw_at lw_m9 54 rfl) rfl
theorem q2055 : (Jvm.Cond.methodLink "CloudInterviewsLaw" (78 : Nat) ({ cls := "CloudInterviews", name := "closePost", desc := "(I)Z" } : Jvm.MethodName)) ∈ lw_all := lw_g (lw_at lw_m9 55 rfl) rfl
theorem q2060 : (Jvm.Cond.methodLink "CloudInterviewsLaw" (247 : Nat) ({ cls := "CloudInterviewsLaw", name := "requiredShape", desc := "(LCloudInterviews;I[J)I" } : Jvm.MethodName)) ∈ lw_all := lw_g (lw_at lw_m9 60 rfl) rfl
theorem q2061 : (Jvm.Cond.static ({ cls := "CloudInterviewsLaw", name := "requiredShape", desc := "(LCloudInterviews;I[J)I" } : Jvm.MethodName)) ∈ lw_all := lw_g (lw_at lw_m9 61 rfl) rfl
theorem q2062 : (Jvm.Cond.codeWith ({ cls := "CloudInterviewsLaw", name := "requiredShape", desc := "(LCloudInterviews;I[J)I" } : Jvm.MethodName) method_22_code (4 : Nat) (Option.some Jvm.ClassFile.FieldType.int) [((0 : Nat), (9 : Nat), (12 : Nat), (29 : Nat))]) ∈ lw_all := lw_g (lw_at lw_m9 62 rfl) rfl
theorem q2063 : (Jvm.Cond.methodLink "CloudInterviewsLaw" (81 : Nat) ({ cls := "CloudInterviews", name := "requiredShape", desc := "(I)C" } : Jvm.MethodName)) ∈ lw_all := lw_g (lw_at lw_m9 63 rfl) rfl
theorem q2068 : (Jvm.Cond.methodLink "CloudInterviewsLaw" (250 : Nat) ({ cls := "CloudInterviewsLaw", name := "lowestWhiteness", desc := "(LCloudInterviews;I[J)I" } : Jvm.MethodName)) ∈ lw_all := lw_g (lw_at lw_m9 68 rfl) rfl
theorem q2069 : (Jvm.Cond.static ({ cls := "CloudInterviewsLaw", name := "lowestWhiteness", desc := "(LCloudInterviews;I[J)I" } : Jvm.MethodName)) ∈ lw_all := lw_g (lw_at lw_m9 69 rfl) rfl
theorem q2070 : (Jvm.Cond.codeWith ({ cls := "CloudInterviewsLaw", name := "lowestWhiteness", desc := "(LCloudInterviews;I[J)I" } : Jvm.MethodName) method_23_code (4 : Nat) (Option.some Jvm.ClassFile.FieldType.int) [((0 : Nat), (9 : Nat), (12 : Nat), (29 : Nat))]) ∈ lw_all := lw_g (lw_at lw_m9 70 rfl) rfl
theorem q2071 : (Jvm.Cond.methodLink "CloudInterviewsLaw" (84 : Nat) ({ cls := "CloudInterviews", name := "lowestWhiteness", desc := "(I)I" } : Jvm.MethodName)) ∈ lw_all := lw_g (lw_at lw_m9 71 rfl) rfl
theorem q2075 : (Jvm.Cond.methodLink "CloudInterviewsLaw" (253 : Nat) ({ cls := "CloudInterviewsLaw", name := "highestRain", desc := "(LCloudInterviews;I[J)I" } : Jvm.MethodName)) ∈ lw_all := lw_g (lw_at lw_m9 75 rfl) rfl
theorem q2076 : (Jvm.Cond.static ({ cls := "CloudInterviewsLaw", name := "highestRain", desc := "(LCloudInterviews;I[J)I" } : Jvm.MethodName)) ∈ lw_all := lw_g (lw_at lw_m9 76 rfl) rfl
theorem q2077 : (Jvm.Cond.codeWith ({ cls := "CloudInterviewsLaw", name := "highestRain", desc := "(LCloudInterviews;I[J)I" } : Jvm.MethodName) method_24_code (4 : Nat) (Option.some Jvm.ClassFile.FieldType.int) [((0 : Nat), (9 : Nat), (12 : Nat), (29 : Nat))]) ∈ lw_all := lw_g (lw_at lw_m9 77 rfl) rfl
theorem q2078 : (Jvm.Cond.methodLink "CloudInterviewsLaw" (87 : Nat) ({ cls := "CloudInterviews", name := "highestRain", desc := "(I)I" } : Jvm.MethodName)) ∈ lw_all := lw_g (lw_at lw_m9 78 rfl) rfl
theorem q2082 : (Jvm.Cond.methodLink "CloudInterviewsLaw" (256 : Nat) ({ cls := "CloudInterviewsLaw", name := "wage", desc := "(LCloudInterviews;I[J)I" } : Jvm.MethodName)) ∈ lw_all := lw_g (lw_at lw_m9 82 rfl) rfl
theorem q2083 : (Jvm.Cond.static ({ cls := "CloudInterviewsLaw", name := "wage", desc := "(LCloudInterviews;I[J)I" } : Jvm.MethodName)) ∈ lw_all := lw_g (lw_at lw_m9 83 rfl) rfl
theorem q2084 : (Jvm.Cond.codeWith ({ cls := "CloudInterviewsLaw", name := "wage", desc := "(LCloudInterviews;I[J)I" } : Jvm.MethodName) method_25_code (4 : Nat) (Option.some Jvm.ClassFile.FieldType.int) [((0 : Nat), (9 : Nat), (12 : Nat), (29 : Nat))]) ∈ lw_all := lw_g (lw_at lw_m9 84 rfl) rfl
theorem q2085 : (Jvm.Cond.methodLink "CloudInterviewsLaw" (90 : Nat) ({ cls := "CloudInterviews", name := "wage", desc := "(I)I" } : Jvm.MethodName)) ∈ lw_all := lw_g (lw_at lw_m9 85 rfl) rfl
theorem q2089 : (Jvm.Cond.methodLink "CloudInterviewsLaw" (259 : Nat) ({ cls := "CloudInterviewsLaw", name := "filledBy", desc := "(LCloudInterviews;I[J)I" } : Jvm.MethodName)) ∈ lw_all := lw_g (lw_at lw_m9 89 rfl) rfl
theorem q2090 : (Jvm.Cond.static ({ cls := "CloudInterviewsLaw", name := "filledBy", desc := "(LCloudInterviews;I[J)I" } : Jvm.MethodName)) ∈ lw_all := lw_g (lw_at lw_m9 90 rfl) rfl
theorem q2091 : (Jvm.Cond.codeWith ({ cls := "CloudInterviewsLaw", name := "filledBy", desc := "(LCloudInterviews;I[J)I" } : Jvm.MethodName) method_26_code (4 : Nat) (Option.some Jvm.ClassFile.FieldType.int) [((0 : Nat), (9 : Nat), (12 : Nat), (29 : Nat)), ((0 : Nat), (9 : Nat), (15 : Nat), (21 : Nat))]) ∈ lw_all := lw_g (lw_at lw_m9 91 rfl) rfl
theorem q2092 : (Jvm.Cond.methodLink "CloudInterviewsLaw" (93 : Nat) ({ cls := "CloudInterviews", name := "filledBy", desc := "(I)I" } : Jvm.MethodName)) ∈ lw_all := lw_g (lw_at lw_m9 92 rfl) rfl
theorem q2097 : (Jvm.Cond.methodLink "CloudInterviewsLaw" (262 : Nat) ({ cls := "CloudInterviewsLaw", name := "suits", desc := "(LCloudInterviews;II[J)I" } : Jvm.MethodName)) ∈ lw_all := lw_g (lw_at lw_m9 97 rfl) rfl
theorem q2098 : (Jvm.Cond.static ({ cls := "CloudInterviewsLaw", name := "suits", desc := "(LCloudInterviews;II[J)I" } : Jvm.MethodName)) ∈ lw_all := lw_g (lw_at lw_m9 98 rfl) rfl
theorem q2099 : (Jvm.Cond.codeWith ({ cls := "CloudInterviewsLaw", name := "suits", desc := "(LCloudInterviews;II[J)I" } : Jvm.MethodName) method_27_code (5 : Nat) (Option.some Jvm.ClassFile.FieldType.int) [((0 : Nat), (17 : Nat), (20 : Nat), (21 : Nat)), ((0 : Nat), (17 : Nat), (24 : Nat), (29 : Nat))]) ∈ lw_all := lw_g (lw_at lw_m9 99 rfl) rfl
theorem q2100 : (Jvm.Cond.methodLink "CloudInterviewsLaw" (96 : Nat) ({ cls := "CloudInterviews", name := "suits", desc := "(II)Z" } : Jvm.MethodName)) ∈ lw_all := lw_g (lw_at lw_m9 100 rfl) rfl
theorem q2105 : (Jvm.Cond.methodLink "CloudInterviewsLaw" (265 : Nat) ({ cls := "CloudInterviewsLaw", name := "favouritePost", desc := "(LCloudInterviews;I[J)I" } : Jvm.MethodName)) ∈ lw_all := lw_g (lw_at lw_m9 105 rfl) rfl
theorem q2106 : (Jvm.Cond.static ({ cls := "CloudInterviewsLaw", name := "favouritePost", desc := "(LCloudInterviews;I[J)I" } : Jvm.MethodName)) ∈ lw_all := lw_g (lw_at lw_m9 106 rfl) rfl
theorem q2107 : (Jvm.Cond.codeWith ({ cls := "CloudInterviewsLaw", name := "favouritePost", desc := "(LCloudInterviews;I[J)I" } : Jvm.MethodName) method_28_code (4 : Nat) (Option.some Jvm.ClassFile.FieldType.int) [((0 : Nat), (9 : Nat), (12 : Nat), (21 : Nat))]) ∈ lw_all := lw_g (lw_at lw_m9 107 rfl) rfl
theorem q2108 : (Jvm.Cond.methodLink "CloudInterviewsLaw" (99 : Nat) ({ cls := "CloudInterviews", name := "favouritePost", desc := "(I)I" } : Jvm.MethodName)) ∈ lw_all := lw_g (lw_at lw_m9 108 rfl) rfl
theorem q2116 : (Jvm.Cond.methodLink "CloudInterviewsLaw" (268 : Nat) ({ cls := "CloudInterviewsLaw", name := "bestCandidate", desc := "(LCloudInterviews;I[J)I" } : Jvm.MethodName)) ∈ lw_all := lw_g (lw_at lw_m9 116 rfl) rfl
theorem q2117 : (Jvm.Cond.static ({ cls := "CloudInterviewsLaw", name := "bestCandidate", desc := "(LCloudInterviews;I[J)I" } : Jvm.MethodName)) ∈ lw_all := lw_g (lw_at lw_m9 117 rfl) rfl
theorem q2118 : (Jvm.Cond.codeWith ({ cls := "CloudInterviewsLaw", name := "bestCandidate", desc := "(LCloudInterviews;I[J)I" } : Jvm.MethodName) method_29_code (4 : Nat) (Option.some Jvm.ClassFile.FieldType.int) [((0 : Nat), (9 : Nat), (12 : Nat), (29 : Nat)), ((0 : Nat), (9 : Nat), (15 : Nat), (21 : Nat))]) ∈ lw_all := lw_g (lw_at lw_m9 118 rfl) rfl
theorem q2119 : (Jvm.Cond.methodLink "CloudInterviewsLaw" (102 : Nat) ({ cls := "CloudInterviews", name := "bestCandidate", desc := "(I)I" } : Jvm.MethodName)) ∈ lw_all := lw_g (lw_at lw_m9 119 rfl) rfl
theorem q2124 : (Jvm.Cond.methodLink "CloudInterviewsLaw" (271 : Nat) ({ cls := "CloudInterviewsLaw", name := "candidateCount", desc := "(LCloudInterviews;I[J)I" } : Jvm.MethodName)) ∈ lw_all := lw_g (lw_at lw_m9 124 rfl) rfl
theorem q2125 : (Jvm.Cond.static ({ cls := "CloudInterviewsLaw", name := "candidateCount", desc := "(LCloudInterviews;I[J)I" } : Jvm.MethodName)) ∈ lw_all := lw_g (lw_at lw_m9 125 rfl) rfl
theorem q2126 : (Jvm.Cond.codeWith ({ cls := "CloudInterviewsLaw", name := "candidateCount", desc := "(LCloudInterviews;I[J)I" } : Jvm.MethodName) method_30_code (4 : Nat) (Option.some Jvm.ClassFile.FieldType.int) [((0 : Nat), (9 : Nat), (12 : Nat), (29 : Nat))]) ∈ lw_all := lw_g (lw_at lw_m9 126 rfl) rfl
theorem q2127 : (Jvm.Cond.methodLink "CloudInterviewsLaw" (105 : Nat) ({ cls := "CloudInterviews", name := "candidateCount", desc := "(I)I" } : Jvm.MethodName)) ∈ lw_all := lw_g (lw_at lw_m9 127 rfl) rfl
theorem q2135 : (Jvm.Cond.methodLink "CloudInterviewsLaw" (274 : Nat) ({ cls := "CloudInterviewsLaw", name := "hire", desc := "(LCloudInterviews;II[J)I" } : Jvm.MethodName)) ∈ lw_all := lw_g (lw_at lw_m9 135 rfl) rfl
theorem q2136 : (Jvm.Cond.static ({ cls := "CloudInterviewsLaw", name := "hire", desc := "(LCloudInterviews;II[J)I" } : Jvm.MethodName)) ∈ lw_all := lw_g (lw_at lw_m9 136 rfl) rfl
theorem q2137 : (Jvm.Cond.codeWith ({ cls := "CloudInterviewsLaw", name := "hire", desc := "(LCloudInterviews;II[J)I" } : Jvm.MethodName) method_31_code (5 : Nat) (Option.some Jvm.ClassFile.FieldType.int) [((0 : Nat), (10 : Nat), (13 : Nat), (29 : Nat)), ((0 : Nat), (10 : Nat), (17 : Nat), (21 : Nat)), ((0 : Nat), (10 : Nat), (21 : Nat), (15 : Nat)), ((0 : Nat), (10 : Nat), (25 : Nat), (111 : Nat))]) ∈ lw_all := lw_g (lw_at lw_m9 137 rfl) rfl
theorem q2138 : (Jvm.Cond.classLink "CloudInterviewsLaw" (111 : Nat) "java/lang/UnsupportedOperationException") ∈ lw_all := lw_g (lw_at lw_m9 138 rfl) rfl
theorem q2139 : (Jvm.Cond.methodLink "CloudInterviewsLaw" (108 : Nat) ({ cls := "CloudInterviews", name := "hire", desc := "(II)I" } : Jvm.MethodName)) ∈ lw_all := lw_g (lw_at lw_m9 139 rfl) rfl
theorem q2144 : (Jvm.Cond.methodLink "CloudInterviewsLaw" (277 : Nat) ({ cls := "CloudInterviewsLaw", name := "hireBest", desc := "(LCloudInterviews;I[J)I" } : Jvm.MethodName)) ∈ lw_all := lw_g (lw_at lw_m9 144 rfl) rfl
theorem q2145 : (Jvm.Cond.static ({ cls := "CloudInterviewsLaw", name := "hireBest", desc := "(LCloudInterviews;I[J)I" } : Jvm.MethodName)) ∈ lw_all := lw_g (lw_at lw_m9 145 rfl) rfl
theorem q2146 : (Jvm.Cond.codeWith ({ cls := "CloudInterviewsLaw", name := "hireBest", desc := "(LCloudInterviews;I[J)I" } : Jvm.MethodName) method_32_code (4 : Nat) (Option.some Jvm.ClassFile.FieldType.int) [((0 : Nat), (9 : Nat), (12 : Nat), (29 : Nat)), ((0 : Nat), (9 : Nat), (15 : Nat), (15 : Nat)), ((0 : Nat), (9 : Nat), (18 : Nat), (21 : Nat))]) ∈ lw_all := lw_g (lw_at lw_m9 146 rfl) rfl
theorem q2147 : (Jvm.Cond.methodLink "CloudInterviewsLaw" (113 : Nat) ({ cls := "CloudInterviews", name := "hireBest", desc := "(I)I" } : Jvm.MethodName)) ∈ lw_all := lw_g (lw_at lw_m9 147 rfl) rfl
theorem q2152 : (Jvm.Cond.methodLink "CloudInterviewsLaw" (280 : Nat) ({ cls := "CloudInterviewsLaw", name := "dismiss", desc := "(LCloudInterviews;I[J)I" } : Jvm.MethodName)) ∈ lw_all := lw_g (lw_at lw_m9 152 rfl) rfl
theorem q2153 : (Jvm.Cond.static ({ cls := "CloudInterviewsLaw", name := "dismiss", desc := "(LCloudInterviews;I[J)I" } : Jvm.MethodName)) ∈ lw_all := lw_g (lw_at lw_m9 153 rfl) rfl
theorem q2154 : (Jvm.Cond.codeWith ({ cls := "CloudInterviewsLaw", name := "dismiss", desc := "(LCloudInterviews;I[J)I" } : Jvm.MethodName) method_33_code (4 : Nat) (Option.some Jvm.ClassFile.FieldType.int) [((0 : Nat), (9 : Nat), (12 : Nat), (29 : Nat)), ((0 : Nat), (9 : Nat), (15 : Nat), (15 : Nat))]) ∈ lw_all := lw_g (lw_at lw_m9 154 rfl) rfl
theorem q2155 : (Jvm.Cond.methodLink "CloudInterviewsLaw" (116 : Nat) ({ cls := "CloudInterviews", name := "dismiss", desc := "(I)I" } : Jvm.MethodName)) ∈ lw_all := lw_g (lw_at lw_m9 155 rfl) rfl
theorem q2160 : (Jvm.Cond.methodLink "CloudInterviewsLaw" (303 : Nat) ({ cls := "CloudInterviewsLaw", name := "passDays", desc := "(LCloudInterviews;I[J)I" } : Jvm.MethodName)) ∈ lw_all := lw_g (lw_at lw_m9 160 rfl) rfl
theorem q2161 : (Jvm.Cond.static ({ cls := "CloudInterviewsLaw", name := "passDays", desc := "(LCloudInterviews;I[J)I" } : Jvm.MethodName)) ∈ lw_all := lw_g (lw_at lw_m9 161 rfl) rfl
theorem q2162 : (Jvm.Cond.codeWith ({ cls := "CloudInterviewsLaw", name := "passDays", desc := "(LCloudInterviews;I[J)I" } : Jvm.MethodName) method_34_code (4 : Nat) (Option.some Jvm.ClassFile.FieldType.int) [((0 : Nat), (9 : Nat), (12 : Nat), (13 : Nat))]) ∈ lw_all := lw_g (lw_at lw_m9 162 rfl) rfl
theorem q2163 : (Jvm.Cond.methodLink "CloudInterviewsLaw" (119 : Nat) ({ cls := "CloudInterviews", name := "passDays", desc := "(I)I" } : Jvm.MethodName)) ∈ lw_all := lw_g (lw_at lw_m9 163 rfl) rfl
theorem q2168 : (Jvm.Cond.methodLink "CloudInterviewsLaw" (310 : Nat) ({ cls := "CloudInterviewsLaw", name := "daysUntilDismissal", desc := "(LCloudInterviews;I[J)I" } : Jvm.MethodName)) ∈ lw_all := lw_g (lw_at lw_m9 168 rfl) rfl
theorem q2169 : (Jvm.Cond.static ({ cls := "CloudInterviewsLaw", name := "daysUntilDismissal", desc := "(LCloudInterviews;I[J)I" } : Jvm.MethodName)) ∈ lw_all := lw_g (lw_at lw_m9 169 rfl) rfl
theorem q2170 : (Jvm.Cond.codeWith ({ cls := "CloudInterviewsLaw", name := "daysUntilDismissal", desc := "(LCloudInterviews;I[J)I" } : Jvm.MethodName) method_35_code (4 : Nat) (Option.some Jvm.ClassFile.FieldType.int) [((0 : Nat), (9 : Nat), (12 : Nat), (21 : Nat))]) ∈ lw_all := lw_g (lw_at lw_m9 170 rfl) rfl
theorem q2171 : (Jvm.Cond.methodLink "CloudInterviewsLaw" (122 : Nat) ({ cls := "CloudInterviews", name := "daysUntilDismissal", desc := "(I)I" } : Jvm.MethodName)) ∈ lw_all := lw_g (lw_at lw_m9 171 rfl) rfl
theorem q2179 : (Jvm.Cond.methodLink "CloudInterviewsLaw" (317 : Nat) ({ cls := "CloudInterviewsLaw", name := "meanScore", desc := "(LCloudInterviews;[D)I" } : Jvm.MethodName)) ∈ lw_all := lw_g (lw_at lw_m9 179 rfl) rfl
theorem q2180 : (Jvm.Cond.static ({ cls := "CloudInterviewsLaw", name := "meanScore", desc := "(LCloudInterviews;[D)I" } : Jvm.MethodName)) ∈ lw_all := lw_g (lw_at lw_m9 180 rfl) rfl
theorem q2181 : (Jvm.Cond.codeWith ({ cls := "CloudInterviewsLaw", name := "meanScore", desc := "(LCloudInterviews;[D)I" } : Jvm.MethodName) method_36_code (3 : Nat) (Option.some Jvm.ClassFile.FieldType.int) [((0 : Nat), (7 : Nat), (10 : Nat), (129 : Nat))]) ∈ lw_all := lw_g (lw_at lw_m9 181 rfl) rfl
theorem q2182 : (Jvm.Cond.classLink "CloudInterviewsLaw" (129 : Nat) "java/lang/ArithmeticException") ∈ lw_all := lw_g (lw_at lw_m9 182 rfl) rfl
theorem q2196 : (Jvm.Cond.methodLink "CloudInterviewsLaw" (125 : Nat) ({ cls := "CloudInterviews", name := "meanScore", desc := "()D" } : Jvm.MethodName)) ∈ lw_all := lw_g (lw_at lw_m9 196 rfl) rfl
theorem q2213 : (Jvm.Cond.methodLink "CloudInterviewsLaw" (321 : Nat) ({ cls := "CloudInterviewsLaw", name := "filledFraction", desc := "(LCloudInterviews;[D)I" } : Jvm.MethodName)) ∈ lw_all := lw_g (lw_at lw_m9 213 rfl) rfl
theorem q2214 : (Jvm.Cond.static ({ cls := "CloudInterviewsLaw", name := "filledFraction", desc := "(LCloudInterviews;[D)I" } : Jvm.MethodName)) ∈ lw_all := lw_g (lw_at lw_m9 214 rfl) rfl
theorem q2215 : (Jvm.Cond.codeWith ({ cls := "CloudInterviewsLaw", name := "filledFraction", desc := "(LCloudInterviews;[D)I" } : Jvm.MethodName) method_37_code (3 : Nat) (Option.some Jvm.ClassFile.FieldType.int) [((0 : Nat), (8 : Nat), (11 : Nat), (129 : Nat))]) ∈ lw_all := lw_g (lw_at lw_m9 215 rfl) rfl
theorem q2216 : (Jvm.Cond.methodLink "CloudInterviewsLaw" (131 : Nat) ({ cls := "CloudInterviews", name := "filledFraction", desc := "()F" } : Jvm.MethodName)) ∈ lw_all := lw_g (lw_at lw_m9 216 rfl) rfl
theorem q2220 : (Jvm.Cond.methodLink "CloudInterviewsLaw" (324 : Nat) ({ cls := "CloudInterviewsLaw", name := "writeApplicant", desc := "(LCloudInterviews;I[J)I" } : Jvm.MethodName)) ∈ lw_all := lw_g (lw_at lw_m9 220 rfl) rfl
theorem q2221 : (Jvm.Cond.static ({ cls := "CloudInterviewsLaw", name := "writeApplicant", desc := "(LCloudInterviews;I[J)I" } : Jvm.MethodName)) ∈ lw_all := lw_g (lw_at lw_m9 221 rfl) rfl
theorem q2222 : (Jvm.Cond.codeWith ({ cls := "CloudInterviewsLaw", name := "writeApplicant", desc := "(LCloudInterviews;I[J)I" } : Jvm.MethodName) method_38_code (4 : Nat) (Option.some Jvm.ClassFile.FieldType.int) [((0 : Nat), (9 : Nat), (12 : Nat), (21 : Nat))]) ∈ lw_all := lw_g (lw_at lw_m9 222 rfl) rfl
theorem q2223 : (Jvm.Cond.methodLink "CloudInterviewsLaw" (135 : Nat) ({ cls := "CloudInterviews", name := "writeApplicant", desc := "(I)I" } : Jvm.MethodName)) ∈ lw_all := lw_g (lw_at lw_m9 223 rfl) rfl
theorem q2231 : (Jvm.Cond.methodLink "CloudInterviewsLaw" (331 : Nat) ({ cls := "CloudInterviewsLaw", name := "outputCharacter", desc := "(LCloudInterviews;I[J)I" } : Jvm.MethodName)) ∈ lw_all := lw_g (lw_at lw_m9 231 rfl) rfl
theorem q2232 : (Jvm.Cond.static ({ cls := "CloudInterviewsLaw", name := "outputCharacter", desc := "(LCloudInterviews;I[J)I" } : Jvm.MethodName)) ∈ lw_all := lw_g (lw_at lw_m9 232 rfl) rfl
theorem q2233 : (Jvm.Cond.codeWith ({ cls := "CloudInterviewsLaw", name := "outputCharacter", desc := "(LCloudInterviews;I[J)I" } : Jvm.MethodName) method_39_code (4 : Nat) (Option.some Jvm.ClassFile.FieldType.int) [((0 : Nat), (9 : Nat), (12 : Nat), (29 : Nat))]) ∈ lw_all := lw_g (lw_at lw_m9 233 rfl) rfl
theorem q2234 : (Jvm.Cond.methodLink "CloudInterviewsLaw" (138 : Nat) ({ cls := "CloudInterviews", name := "outputCharacter", desc := "(I)C" } : Jvm.MethodName)) ∈ lw_all := lw_g (lw_at lw_m9 234 rfl) rfl
theorem q2249 : (Jvm.Cond.methodLink "CloudInterviewsLaw" (339 : Nat) ({ cls := "CloudInterviewsLaw", name := "feed", desc := "(LCloudInterviews;C[J)I" } : Jvm.MethodName)) ∈ lw_all := lw_g (lw_at lw_m10 9 rfl) rfl
theorem q2250 : (Jvm.Cond.static ({ cls := "CloudInterviewsLaw", name := "feed", desc := "(LCloudInterviews;C[J)I" } : Jvm.MethodName)) ∈ lw_all := lw_g (lw_at lw_m10 10 rfl) rfl
theorem q2251 : (Jvm.Cond.codeWith ({ cls := "CloudInterviewsLaw", name := "feed", desc := "(LCloudInterviews;C[J)I" } : Jvm.MethodName) method_40_code (4 : Nat) (Option.some Jvm.ClassFile.FieldType.int) [((0 : Nat), (9 : Nat), (12 : Nat), (15 : Nat))]) ∈ lw_all := lw_g (lw_at lw_m10 11 rfl) rfl
theorem q2252 : (Jvm.Cond.methodLink "CloudInterviewsLaw" (141 : Nat) ({ cls := "CloudInterviews", name := "feed", desc := "(C)I" } : Jvm.MethodName)) ∈ lw_all := lw_g (lw_at lw_m10 12 rfl) rfl
theorem q2259 : (Jvm.Cond.methodLink "CloudInterviewsLaw" (343 : Nat) ({ cls := "CloudInterviewsLaw", name := "execute", desc := "(LCloudInterviews;[J)I" } : Jvm.MethodName)) ∈ lw_all := lw_g (lw_at lw_m10 19 rfl) rfl
theorem q2260 : (Jvm.Cond.static ({ cls := "CloudInterviewsLaw", name := "execute", desc := "(LCloudInterviews;[J)I" } : Jvm.MethodName)) ∈ lw_all := lw_g (lw_at lw_m10 20 rfl) rfl
theorem q2261 : (Jvm.Cond.codeWith ({ cls := "CloudInterviewsLaw", name := "execute", desc := "(LCloudInterviews;[J)I" } : Jvm.MethodName) method_41_code (3 : Nat) (Option.some Jvm.ClassFile.FieldType.int) [((0 : Nat), (8 : Nat), (11 : Nat), (13 : Nat)), ((0 : Nat), (8 : Nat), (14 : Nat), (111 : Nat))]) ∈ lw_all := lw_g (lw_at lw_m10 21 rfl) rfl
theorem q2262 : (Jvm.Cond.methodLink "CloudInterviewsLaw" (145 : Nat) ({ cls := "CloudInterviews", name := "execute", desc := "()I" } : Jvm.MethodName)) ∈ lw_all := lw_g (lw_at lw_m10 22 rfl) rfl
theorem q2401 : (Jvm.Cond.methodLink "CloudInterviewsLaw" (347 : Nat) ({ cls := "CloudInterviewsLaw", name := "errorPosition", desc := "(LCloudInterviews;[J)I" } : Jvm.MethodName)) ∈ lw_all := lw_g (lw_at lw_m10 161 rfl) rfl
theorem q2402 : (Jvm.Cond.static ({ cls := "CloudInterviewsLaw", name := "errorPosition", desc := "(LCloudInterviews;[J)I" } : Jvm.MethodName)) ∈ lw_all := lw_g (lw_at lw_m10 162 rfl) rfl
theorem q2403 : (Jvm.Cond.codeWith ({ cls := "CloudInterviewsLaw", name := "errorPosition", desc := "(LCloudInterviews;[J)I" } : Jvm.MethodName) method_42_code (3 : Nat) (Option.some Jvm.ClassFile.FieldType.int) [((0 : Nat), (8 : Nat), (11 : Nat), (21 : Nat))]) ∈ lw_all := lw_g (lw_at lw_m10 163 rfl) rfl
theorem q2404 : (Jvm.Cond.methodLink "CloudInterviewsLaw" (149 : Nat) ({ cls := "CloudInterviews", name := "errorPosition", desc := "()I" } : Jvm.MethodName)) ∈ lw_all := lw_g (lw_at lw_m10 164 rfl) rfl
theorem q2411 : (Jvm.Cond.methodLink "CloudInterviewsLaw" (350 : Nat) ({ cls := "CloudInterviewsLaw", name := "failedCommand", desc := "(LCloudInterviews;[J)I" } : Jvm.MethodName)) ∈ lw_all := lw_g (lw_at lw_m10 171 rfl) rfl
theorem q2412 : (Jvm.Cond.static ({ cls := "CloudInterviewsLaw", name := "failedCommand", desc := "(LCloudInterviews;[J)I" } : Jvm.MethodName)) ∈ lw_all := lw_g (lw_at lw_m10 172 rfl) rfl
theorem q2413 : (Jvm.Cond.codeWith ({ cls := "CloudInterviewsLaw", name := "failedCommand", desc := "(LCloudInterviews;[J)I" } : Jvm.MethodName) method_43_code (3 : Nat) (Option.some Jvm.ClassFile.FieldType.int) [((0 : Nat), (8 : Nat), (11 : Nat), (21 : Nat))]) ∈ lw_all := lw_g (lw_at lw_m10 173 rfl) rfl
theorem q2414 : (Jvm.Cond.methodLink "CloudInterviewsLaw" (152 : Nat) ({ cls := "CloudInterviews", name := "failedCommand", desc := "()I" } : Jvm.MethodName)) ∈ lw_all := lw_g (lw_at lw_m10 174 rfl) rfl
theorem q2418 : (Jvm.Cond.methodLink "CloudInterviewsLaw" (353 : Nat) ({ cls := "CloudInterviewsLaw", name := "undo", desc := "(LCloudInterviews;[J)I" } : Jvm.MethodName)) ∈ lw_all := lw_g (lw_at lw_m10 178 rfl) rfl
theorem q2419 : (Jvm.Cond.static ({ cls := "CloudInterviewsLaw", name := "undo", desc := "(LCloudInterviews;[J)I" } : Jvm.MethodName)) ∈ lw_all := lw_g (lw_at lw_m10 179 rfl) rfl
theorem q2420 : (Jvm.Cond.codeWith ({ cls := "CloudInterviewsLaw", name := "undo", desc := "(LCloudInterviews;[J)I" } : Jvm.MethodName) method_44_code (3 : Nat) (Option.some Jvm.ClassFile.FieldType.int) [((0 : Nat), (8 : Nat), (11 : Nat), (15 : Nat))]) ∈ lw_all := lw_g (lw_at lw_m10 180 rfl) rfl
theorem q2421 : (Jvm.Cond.methodLink "CloudInterviewsLaw" (155 : Nat) ({ cls := "CloudInterviews", name := "undo", desc := "()I" } : Jvm.MethodName)) ∈ lw_all := lw_g (lw_at lw_m10 181 rfl) rfl
theorem q2440 : (Jvm.Cond.methodLink "CloudInterviewsLaw" (364 : Nat) ({ cls := "CloudInterviewsLaw", name := "restore", desc := "(LCloudInterviews;[J)I" } : Jvm.MethodName)) ∈ lw_all := lw_g (lw_at lw_m10 200 rfl) rfl
theorem q2441 : (Jvm.Cond.static ({ cls := "CloudInterviewsLaw", name := "restore", desc := "(LCloudInterviews;[J)I" } : Jvm.MethodName)) ∈ lw_all := lw_g (lw_at lw_m10 201 rfl) rfl
theorem q2442 : (Jvm.Cond.codeWith ({ cls := "CloudInterviewsLaw", name := "restore", desc := "(LCloudInterviews;[J)I" } : Jvm.MethodName) method_45_code (3 : Nat) (Option.some Jvm.ClassFile.FieldType.int) [((0 : Nat), (8 : Nat), (11 : Nat), (15 : Nat))]) ∈ lw_all := lw_g (lw_at lw_m10 202 rfl) rfl
theorem q2443 : (Jvm.Cond.methodLink "CloudInterviewsLaw" (158 : Nat) ({ cls := "CloudInterviews", name := "restore", desc := "()I" } : Jvm.MethodName)) ∈ lw_all := lw_g (lw_at lw_m10 203 rfl) rfl
theorem q2454 : (Jvm.Cond.classLink "CloudInterviewsLaw" (162 : Nat) "CloudInterviewsModel") ∈ lw_all := lw_g (lw_at lw_m10 214 rfl) rfl
theorem q2456 : (Jvm.Cond.methodLink "CloudInterviewsLaw" (164 : Nat) ({ cls := "CloudInterviewsModel", name := "<init>", desc := "()V" } : Jvm.MethodName)) ∈ lw_all := lw_g (lw_at lw_m10 216 rfl) rfl
theorem q2513 : (Jvm.Cond.methodLink "CloudInterviewsLaw" (171 : Nat) ({ cls := "CloudInterviewsModel", name := "thrown", desc := "()I" } : Jvm.MethodName)) ∈ lw_all := lw_g (lw_at lw_m11 33 rfl) rfl
theorem q2517 : (Jvm.Cond.methodLink "CloudInterviewsLaw" (170 : Nat) ({ cls := "CloudInterviewsModel", name := "addApplicant", desc := "(CII)I" } : Jvm.MethodName)) ∈ lw_all := lw_g (lw_at lw_m11 37 rfl) rfl
theorem q2560 : (Jvm.Cond.methodLink "CloudInterviewsLaw" (177 : Nat) ({ cls := "CloudInterviewsModel", name := "removeApplicant", desc := "(I)I" } : Jvm.MethodName)) ∈ lw_all := lw_g (lw_at lw_m11 80 rfl) rfl
theorem q2584 : (Jvm.Cond.methodLink "CloudInterviewsLaw" (180 : Nat) ({ cls := "CloudInterviewsModel", name := "rejectRainy", desc := "(I)I" } : Jvm.MethodName)) ∈ lw_all := lw_g (lw_at lw_m11 104 rfl) rfl
theorem q2596 : (Jvm.Cond.methodLink "CloudInterviewsLaw" (184 : Nat) ({ cls := "CloudInterviewsModel", name := "applicantCount", desc := "()I" } : Jvm.MethodName)) ∈ lw_all := lw_g (lw_at lw_m11 116 rfl) rfl
theorem q2600 : (Jvm.Cond.methodLink "CloudInterviewsLaw" (188 : Nat) ({ cls := "CloudInterviewsModel", name := "waitingCount", desc := "()I" } : Jvm.MethodName)) ∈ lw_all := lw_g (lw_at lw_m11 120 rfl) rfl
theorem q2604 : (Jvm.Cond.methodLink "CloudInterviewsLaw" (191 : Nat) ({ cls := "CloudInterviewsModel", name := "applicant", desc := "(I)I" } : Jvm.MethodName)) ∈ lw_all := lw_g (lw_at lw_m11 124 rfl) rfl
theorem q2616 : (Jvm.Cond.methodLink "CloudInterviewsLaw" (194 : Nat) ({ cls := "CloudInterviewsModel", name := "shape", desc := "(I)C" } : Jvm.MethodName)) ∈ lw_all := lw_g (lw_at lw_m11 136 rfl) rfl
theorem q2624 : (Jvm.Cond.methodLink "CloudInterviewsLaw" (197 : Nat) ({ cls := "CloudInterviewsModel", name := "whiteness", desc := "(I)I" } : Jvm.MethodName)) ∈ lw_all := lw_g (lw_at lw_m11 144 rfl) rfl
theorem q2628 : (Jvm.Cond.methodLink "CloudInterviewsLaw" (200 : Nat) ({ cls := "CloudInterviewsModel", name := "rain", desc := "(I)I" } : Jvm.MethodName)) ∈ lw_all := lw_g (lw_at lw_m11 148 rfl) rfl
theorem q2632 : (Jvm.Cond.methodLink "CloudInterviewsLaw" (203 : Nat) ({ cls := "CloudInterviewsModel", name := "coins", desc := "(I)I" } : Jvm.MethodName)) ∈ lw_all := lw_g (lw_at lw_m11 152 rfl) rfl
theorem q2636 : (Jvm.Cond.methodLink "CloudInterviewsLaw" (206 : Nat) ({ cls := "CloudInterviewsModel", name := "isHired", desc := "(I)Z" } : Jvm.MethodName)) ∈ lw_all := lw_g (lw_at lw_m11 156 rfl) rfl
theorem q2640 : (Jvm.Cond.methodLink "CloudInterviewsLaw" (209 : Nat) ({ cls := "CloudInterviewsModel", name := "postOf", desc := "(I)I" } : Jvm.MethodName)) ∈ lw_all := lw_g (lw_at lw_m11 160 rfl) rfl
theorem q2644 : (Jvm.Cond.methodLink "CloudInterviewsLaw" (212 : Nat) ({ cls := "CloudInterviewsModel", name := "score", desc := "(I)I" } : Jvm.MethodName)) ∈ lw_all := lw_g (lw_at lw_m11 164 rfl) rfl
theorem q2655 : (Jvm.Cond.methodLink "CloudInterviewsLaw" (215 : Nat) ({ cls := "CloudInterviewsModel", name := "applicantByScore", desc := "(I)I" } : Jvm.MethodName)) ∈ lw_all := lw_g (lw_at lw_m11 175 rfl) rfl
theorem q2663 : (Jvm.Cond.methodLink "CloudInterviewsLaw" (219 : Nat) ({ cls := "CloudInterviewsModel", name := "addReference", desc := "(II)I" } : Jvm.MethodName)) ∈ lw_all := lw_g (lw_at lw_m11 183 rfl) rfl
theorem q2671 : (Jvm.Cond.methodLink "CloudInterviewsLaw" (222 : Nat) ({ cls := "CloudInterviewsModel", name := "removeReference", desc := "(II)I" } : Jvm.MethodName)) ∈ lw_all := lw_g (lw_at lw_m11 191 rfl) rfl
theorem q2683 : (Jvm.Cond.methodLink "CloudInterviewsLaw" (225 : Nat) ({ cls := "CloudInterviewsModel", name := "hasReference", desc := "(II)Z" } : Jvm.MethodName)) ∈ lw_all := lw_g (lw_at lw_m11 203 rfl) rfl
theorem q2687 : (Jvm.Cond.methodLink "CloudInterviewsLaw" (228 : Nat) ({ cls := "CloudInterviewsModel", name := "referencesFor", desc := "(I)I" } : Jvm.MethodName)) ∈ lw_all := lw_g (lw_at lw_m11 207 rfl) rfl
theorem q2691 : (Jvm.Cond.methodLink "CloudInterviewsLaw" (231 : Nat) ({ cls := "CloudInterviewsModel", name := "referencesFrom", desc := "(I)I" } : Jvm.MethodName)) ∈ lw_all := lw_g (lw_at lw_m11 211 rfl) rfl
theorem q2695 : (Jvm.Cond.methodLink "CloudInterviewsLaw" (235 : Nat) ({ cls := "CloudInterviewsModel", name := "openPost", desc := "(CIII)I" } : Jvm.MethodName)) ∈ lw_all := lw_g (lw_at lw_m11 215 rfl) rfl
theorem q2703 : (Jvm.Cond.methodLink "CloudInterviewsLaw" (238 : Nat) ({ cls := "CloudInterviewsModel", name := "closePost", desc := "(I)Z" } : Jvm.MethodName)) ∈ lw_all := lw_g (lw_at lw_m11 223 rfl) rfl
theorem q2715 : (Jvm.Cond.methodLink "CloudInterviewsLaw" (242 : Nat) ({ cls := "CloudInterviewsModel", name := "postCount", desc := "()I" } : Jvm.MethodName)) ∈ lw_all := lw_g (lw_at lw_m11 235 rfl) rfl
theorem q2719 : (Jvm.Cond.methodLink "CloudInterviewsLaw" (246 : Nat) ({ cls := "CloudInterviewsModel", name := "vacantCount", desc := "()I" } : Jvm.MethodName)) ∈ lw_all := lw_g (lw_at lw_m11 239 rfl) rfl
theorem q2727 : (Jvm.Cond.methodLink "CloudInterviewsLaw" (249 : Nat) ({ cls := "CloudInterviewsModel", name := "requiredShape", desc := "(I)C" } : Jvm.MethodName)) ∈ lw_all := lw_g (lw_at lw_m12 7 rfl) rfl
theorem q2731 : (Jvm.Cond.methodLink "CloudInterviewsLaw" (252 : Nat) ({ cls := "CloudInterviewsModel", name := "lowestWhiteness", desc := "(I)I" } : Jvm.MethodName)) ∈ lw_all := lw_g (lw_at lw_m12 11 rfl) rfl
theorem q2735 : (Jvm.Cond.methodLink "CloudInterviewsLaw" (255 : Nat) ({ cls := "CloudInterviewsModel", name := "highestRain", desc := "(I)I" } : Jvm.MethodName)) ∈ lw_all := lw_g (lw_at lw_m12 15 rfl) rfl
theorem q2739 : (Jvm.Cond.methodLink "CloudInterviewsLaw" (258 : Nat) ({ cls := "CloudInterviewsModel", name := "wage", desc := "(I)I" } : Jvm.MethodName)) ∈ lw_all := lw_g (lw_at lw_m12 19 rfl) rfl
theorem q2743 : (Jvm.Cond.methodLink "CloudInterviewsLaw" (261 : Nat) ({ cls := "CloudInterviewsModel", name := "filledBy", desc := "(I)I" } : Jvm.MethodName)) ∈ lw_all := lw_g (lw_at lw_m12 23 rfl) rfl
theorem q2747 : (Jvm.Cond.methodLink "CloudInterviewsLaw" (264 : Nat) ({ cls := "CloudInterviewsModel", name := "suits", desc := "(II)Z" } : Jvm.MethodName)) ∈ lw_all := lw_g (lw_at lw_m12 27 rfl) rfl
theorem q2755 : (Jvm.Cond.methodLink "CloudInterviewsLaw" (267 : Nat) ({ cls := "CloudInterviewsModel", name := "favouritePost", desc := "(I)I" } : Jvm.MethodName)) ∈ lw_all := lw_g (lw_at lw_m12 35 rfl) rfl
theorem q2767 : (Jvm.Cond.methodLink "CloudInterviewsLaw" (270 : Nat) ({ cls := "CloudInterviewsModel", name := "bestCandidate", desc := "(I)I" } : Jvm.MethodName)) ∈ lw_all := lw_g (lw_at lw_m12 47 rfl) rfl
theorem q2775 : (Jvm.Cond.methodLink "CloudInterviewsLaw" (273 : Nat) ({ cls := "CloudInterviewsModel", name := "candidateCount", desc := "(I)I" } : Jvm.MethodName)) ∈ lw_all := lw_g (lw_at lw_m12 55 rfl) rfl
theorem q2779 : (Jvm.Cond.methodLink "CloudInterviewsLaw" (276 : Nat) ({ cls := "CloudInterviewsModel", name := "hire", desc := "(II)I" } : Jvm.MethodName)) ∈ lw_all := lw_g (lw_at lw_m12 59 rfl) rfl
theorem q2791 : (Jvm.Cond.methodLink "CloudInterviewsLaw" (279 : Nat) ({ cls := "CloudInterviewsModel", name := "hireBest", desc := "(I)I" } : Jvm.MethodName)) ∈ lw_all := lw_g (lw_at lw_m12 71 rfl) rfl
theorem q2799 : (Jvm.Cond.methodLink "CloudInterviewsLaw" (282 : Nat) ({ cls := "CloudInterviewsModel", name := "dismiss", desc := "(I)I" } : Jvm.MethodName)) ∈ lw_all := lw_g (lw_at lw_m12 79 rfl) rfl
theorem q2807 : (Jvm.Cond.methodLink "CloudInterviewsLaw" (286 : Nat) ({ cls := "CloudInterviewsModel", name := "match", desc := "()I" } : Jvm.MethodName)) ∈ lw_all := lw_g (lw_at lw_m12 87 rfl) rfl
theorem q2819 : (Jvm.Cond.methodLink "CloudInterviewsLaw" (290 : Nat) ({ cls := "CloudInterviewsModel", name := "mostHires", desc := "()I" } : Jvm.MethodName)) ∈ lw_all := lw_g (lw_at lw_m12 99 rfl) rfl
theorem q2824 : (Jvm.Cond.methodLink "CloudInterviewsLaw" (294 : Nat) ({ cls := "CloudInterviewsModel", name := "mostHiresBySets", desc := "()I" } : Jvm.MethodName)) ∈ lw_all := lw_g (lw_at lw_m12 104 rfl) rfl
theorem q2829 : (Jvm.Cond.methodLink "CloudInterviewsLaw" (298 : Nat) ({ cls := "CloudInterviewsModel", name := "blockingPairs", desc := "()I" } : Jvm.MethodName)) ∈ lw_all := lw_g (lw_at lw_m12 109 rfl) rfl
theorem q2837 : (Jvm.Cond.methodLink "CloudInterviewsLaw" (302 : Nat) ({ cls := "CloudInterviewsModel", name := "blockingPairsByPreference", desc := "()I" } : Jvm.MethodName)) ∈ lw_all := lw_g (lw_at lw_m12 117 rfl) rfl
theorem q2842 : (Jvm.Cond.methodLink "CloudInterviewsLaw" (305 : Nat) ({ cls := "CloudInterviewsModel", name := "passDays", desc := "(I)I" } : Jvm.MethodName)) ∈ lw_all := lw_g (lw_at lw_m12 122 rfl) rfl
theorem q2855 : (Jvm.Cond.methodLink "CloudInterviewsLaw" (309 : Nat) ({ cls := "CloudInterviewsModel", name := "day", desc := "()I" } : Jvm.MethodName)) ∈ lw_all := lw_g (lw_at lw_m12 135 rfl) rfl
theorem q2859 : (Jvm.Cond.methodLink "CloudInterviewsLaw" (312 : Nat) ({ cls := "CloudInterviewsModel", name := "daysUntilDismissal", desc := "(I)I" } : Jvm.MethodName)) ∈ lw_all := lw_g (lw_at lw_m12 139 rfl) rfl
theorem q2863 : (Jvm.Cond.methodLink "CloudInterviewsLaw" (316 : Nat) ({ cls := "CloudInterviewsModel", name := "dailyWages", desc := "()I" } : Jvm.MethodName)) ∈ lw_all := lw_g (lw_at lw_m12 143 rfl) rfl
theorem q2867 : (Jvm.Cond.methodLink "CloudInterviewsLaw" (320 : Nat) ({ cls := "CloudInterviewsModel", name := "meanScore", desc := "()D" } : Jvm.MethodName)) ∈ lw_all := lw_g (lw_at lw_m12 147 rfl) rfl
theorem q2871 : (Jvm.Cond.methodLink "CloudInterviewsLaw" (323 : Nat) ({ cls := "CloudInterviewsModel", name := "filledFraction", desc := "()F" } : Jvm.MethodName)) ∈ lw_all := lw_g (lw_at lw_m12 151 rfl) rfl
theorem q2875 : (Jvm.Cond.methodLink "CloudInterviewsLaw" (338 : Nat) ({ cls := "CloudInterviewsModel", name := "isConsistent", desc := "()Z" } : Jvm.MethodName)) ∈ lw_all := lw_g (lw_at lw_m12 155 rfl) rfl
theorem q2879 : (Jvm.Cond.methodLink "CloudInterviewsLaw" (326 : Nat) ({ cls := "CloudInterviewsModel", name := "writeApplicant", desc := "(I)I" } : Jvm.MethodName)) ∈ lw_all := lw_g (lw_at lw_m12 159 rfl) rfl
theorem q2895 : (Jvm.Cond.methodLink "CloudInterviewsLaw" (330 : Nat) ({ cls := "CloudInterviewsModel", name := "writePosts", desc := "()I" } : Jvm.MethodName)) ∈ lw_all := lw_g (lw_at lw_m12 175 rfl) rfl
theorem q2899 : (Jvm.Cond.methodLink "CloudInterviewsLaw" (333 : Nat) ({ cls := "CloudInterviewsModel", name := "outputCharacter", desc := "(I)C" } : Jvm.MethodName)) ∈ lw_all := lw_g (lw_at lw_m12 179 rfl) rfl
theorem q2903 : (Jvm.Cond.methodLink "CloudInterviewsLaw" (342 : Nat) ({ cls := "CloudInterviewsModel", name := "feed", desc := "(C)I" } : Jvm.MethodName)) ∈ lw_all := lw_g (lw_at lw_m12 183 rfl) rfl
theorem q2907 : (Jvm.Cond.methodLink "CloudInterviewsLaw" (346 : Nat) ({ cls := "CloudInterviewsModel", name := "execute", desc := "()I" } : Jvm.MethodName)) ∈ lw_all := lw_g (lw_at lw_m12 187 rfl) rfl
theorem q2954 : (Jvm.Cond.methodLink "CloudInterviewsLaw" (349 : Nat) ({ cls := "CloudInterviewsModel", name := "errorPosition", desc := "()I" } : Jvm.MethodName)) ∈ lw_all := lw_g (lw_at lw_m12 234 rfl) rfl
theorem q2958 : (Jvm.Cond.methodLink "CloudInterviewsLaw" (352 : Nat) ({ cls := "CloudInterviewsModel", name := "failedCommand", desc := "()I" } : Jvm.MethodName)) ∈ lw_all := lw_g (lw_at lw_m12 238 rfl) rfl
theorem q2962 : (Jvm.Cond.methodLink "CloudInterviewsLaw" (355 : Nat) ({ cls := "CloudInterviewsModel", name := "undo", desc := "()I" } : Jvm.MethodName)) ∈ lw_all := lw_g (lw_at lw_m13 2 rfl) rfl
theorem q2966 : (Jvm.Cond.methodLink "CloudInterviewsLaw" (359 : Nat) ({ cls := "CloudInterviewsModel", name := "undoCount", desc := "()I" } : Jvm.MethodName)) ∈ lw_all := lw_g (lw_at lw_m13 6 rfl) rfl
theorem q2970 : (Jvm.Cond.methodLink "CloudInterviewsLaw" (363 : Nat) ({ cls := "CloudInterviewsModel", name := "save", desc := "()I" } : Jvm.MethodName)) ∈ lw_all := lw_g (lw_at lw_m13 10 rfl) rfl
theorem q2974 : (Jvm.Cond.methodLink "CloudInterviewsLaw" (366 : Nat) ({ cls := "CloudInterviewsModel", name := "restore", desc := "()I" } : Jvm.MethodName)) ∈ lw_all := lw_g (lw_at lw_m13 14 rfl) rfl

/-! CloudInterviews -/
set_option maxRecDepth 100000
def RX1 : String := "CloudInterviews"
def TX1 : u_T := fun k => match k with
  | 0 => ("CloudInterviews", "board", "LCloudInterviews$Board;", false)
  | 1 => ("CloudInterviews", "undoable", "Ljava/util/ArrayDeque;", true)
  | 2 => ("CloudInterviews", "saved", "LCloudInterviews$Board;", false)
  | 3 => ("CloudInterviews", "input", "Ljava/lang/StringBuilder;", false)
  | 4 => ("CloudInterviews", "output", "Ljava/lang/String;", false)
  | 5 => ("CloudInterviews", "errorPosition", "I", false)
  | _ => ("CloudInterviews", "failedCommand", "I", false)
def tyX1 : Nat → FieldType := fun k => match k with
  | 0 => .object "CloudInterviews$Board"
  | 1 => .object "java/util/ArrayDeque"
  | 2 => .object "CloudInterviews$Board"
  | 3 => .object "java/lang/StringBuilder"
  | 4 => .object "java/lang/String"
  | 5 => .int
  | _ => .int
abbrev wsX10 : List Cond := u_ws RX1 TX1 7
theorem nmX1 : ∀ a, a < 7 → ∀ b, b < 7 → a ≠ b → (TX1 a).2.1 ≠ (TX1 b).2.1 := by decide +kernel
theorem tyX1_ok : ∀ k, k < 7 → parseFieldDescriptor (TX1 k).2.2.1 = some (tyX1 k) := by decide +kernel
abbrev cX1_init : ByteArray := prog_1_method_9_code
def yX1_init : MethodName := ⟨RX1, "<init>", "()V"⟩
def dkwX1_init_2 : List UInt8 := [181, 0, 58, 42, 2, 181, 0, 62, 177]
abbrev dktX1_init_2 : List UInt8 := dkwX1_init_2 ++ []
def dkwX1_init_1 : List UInt8 := [181, 0, 41, 42, 187, 0, 45, 89, 183, 0, 47, 181, 0, 48, 42, 18, 52, 181, 0, 54, 42, 2]
abbrev dktX1_init_1 : List UInt8 := dkwX1_init_1 ++ dktX1_init_2
def dkwX1_init_0 : List UInt8 := [42, 183, 0, 28, 42, 187, 0, 31, 89, 183, 0, 33, 181, 0, 34, 42, 187, 0, 38, 89, 183, 0, 40]
abbrev dktX1_init_0 : List UInt8 := dkwX1_init_0 ++ dktX1_init_1
theorem dksX1_init_0 : cX1_init.data.toList.drop 0 = dktX1_init_0 := by decide +kernel
theorem dksX1_init_1 : cX1_init.data.toList.drop 23 = dktX1_init_1 := dk_seg dksX1_init_0 23 rfl rfl
theorem dksX1_init_2 : cX1_init.data.toList.drop 45 = dktX1_init_2 := dk_seg dksX1_init_1 22 rfl rfl
theorem dX1_init_0 : decode cX1_init 0 = .ok (.aload_n 0, 1) := dk_42 (dk_at dksX1_init_0 0 rfl rfl)
theorem dX1_init_1 : decode cX1_init 1 = .ok (.invokespecial 28, 3) := dk_183 0 28 (dk_at dksX1_init_0 1 rfl rfl)
theorem dX1_init_4 : decode cX1_init 4 = .ok (.aload_n 0, 1) := dk_42 (dk_at dksX1_init_0 4 rfl rfl)
theorem dX1_init_5 : decode cX1_init 5 = .ok (.new 31, 3) := dk_187 0 31 (dk_at dksX1_init_0 5 rfl rfl)
theorem dX1_init_8 : decode cX1_init 8 = .ok (.dup, 1) := dk_89 (dk_at dksX1_init_0 8 rfl rfl)
theorem dX1_init_9 : decode cX1_init 9 = .ok (.invokespecial 33, 3) := dk_183 0 33 (dk_at dksX1_init_0 9 rfl rfl)
theorem dX1_init_12 : decode cX1_init 12 = .ok (.putfield 34, 3) := dk_181 0 34 (dk_at dksX1_init_0 12 rfl rfl)
theorem dX1_init_15 : decode cX1_init 15 = .ok (.aload_n 0, 1) := dk_42 (dk_at dksX1_init_0 15 rfl rfl)
theorem dX1_init_16 : decode cX1_init 16 = .ok (.new 38, 3) := dk_187 0 38 (dk_at dksX1_init_0 16 rfl rfl)
theorem dX1_init_19 : decode cX1_init 19 = .ok (.dup, 1) := dk_89 (dk_at dksX1_init_0 19 rfl rfl)
theorem dX1_init_20 : decode cX1_init 20 = .ok (.invokespecial 40, 3) := dk_183 0 40 (dk_at dksX1_init_0 20 rfl rfl)
theorem dX1_init_23 : decode cX1_init 23 = .ok (.putfield 41, 3) := dk_181 0 41 (dk_at dksX1_init_1 0 rfl rfl)
theorem dX1_init_26 : decode cX1_init 26 = .ok (.aload_n 0, 1) := dk_42 (dk_at dksX1_init_1 3 rfl rfl)
theorem dX1_init_27 : decode cX1_init 27 = .ok (.new 45, 3) := dk_187 0 45 (dk_at dksX1_init_1 4 rfl rfl)
theorem dX1_init_30 : decode cX1_init 30 = .ok (.dup, 1) := dk_89 (dk_at dksX1_init_1 7 rfl rfl)
theorem dX1_init_31 : decode cX1_init 31 = .ok (.invokespecial 47, 3) := dk_183 0 47 (dk_at dksX1_init_1 8 rfl rfl)
theorem dX1_init_34 : decode cX1_init 34 = .ok (.putfield 48, 3) := dk_181 0 48 (dk_at dksX1_init_1 11 rfl rfl)
theorem dX1_init_37 : decode cX1_init 37 = .ok (.aload_n 0, 1) := dk_42 (dk_at dksX1_init_1 14 rfl rfl)
theorem dX1_init_38 : decode cX1_init 38 = .ok (.ldc 52, 2) := dk_18 52 (dk_at dksX1_init_1 15 rfl rfl)
theorem dX1_init_40 : decode cX1_init 40 = .ok (.putfield 54, 3) := dk_181 0 54 (dk_at dksX1_init_1 17 rfl rfl)
theorem dX1_init_43 : decode cX1_init 43 = .ok (.aload_n 0, 1) := dk_42 (dk_at dksX1_init_1 20 rfl rfl)
theorem dX1_init_44 : decode cX1_init 44 = .ok (.iconst (-1), 1) := dk_2 (dk_at dksX1_init_1 21 rfl rfl)
theorem dX1_init_45 : decode cX1_init 45 = .ok (.putfield 58, 3) := dk_181 0 58 (dk_at dksX1_init_2 0 rfl rfl)
theorem dX1_init_48 : decode cX1_init 48 = .ok (.aload_n 0, 1) := dk_42 (dk_at dksX1_init_2 3 rfl rfl)
theorem dX1_init_49 : decode cX1_init 49 = .ok (.iconst (-1), 1) := dk_2 (dk_at dksX1_init_2 4 rfl rfl)
theorem dX1_init_50 : decode cX1_init 50 = .ok (.putfield 62, 3) := dk_181 0 62 (dk_at dksX1_init_2 5 rfl rfl)
theorem dX1_init_53 : decode cX1_init 53 = .ok (.return_, 1) := dk_177 (dk_at dksX1_init_2 8 rfl rfl)
abbrev cX1_applicantCount : ByteArray := prog_1_method_15_code
def yX1_applicantCount : MethodName := ⟨RX1, "applicantCount", "()I"⟩
def dkwX1_applicantCount_0 : List UInt8 := [42, 180, 0, 34, 180, 0, 104, 182, 0, 108, 172]
abbrev dktX1_applicantCount_0 : List UInt8 := dkwX1_applicantCount_0 ++ []
theorem dksX1_applicantCount_0 : cX1_applicantCount.data.toList.drop 0 = dktX1_applicantCount_0 := by decide +kernel
theorem dX1_applicantCount_0 : decode cX1_applicantCount 0 = .ok (.aload_n 0, 1) := dk_42 (dk_at dksX1_applicantCount_0 0 rfl rfl)
theorem dX1_applicantCount_1 : decode cX1_applicantCount 1 = .ok (.getfield 34, 3) := dk_180 0 34 (dk_at dksX1_applicantCount_0 1 rfl rfl)
theorem dX1_applicantCount_4 : decode cX1_applicantCount 4 = .ok (.getfield 104, 3) := dk_180 0 104 (dk_at dksX1_applicantCount_0 4 rfl rfl)
theorem dX1_applicantCount_7 : decode cX1_applicantCount 7 = .ok (.invokevirtual 108, 3) := dk_182 0 108 (dk_at dksX1_applicantCount_0 7 rfl rfl)
theorem dX1_applicantCount_10 : decode cX1_applicantCount 10 = .ok (.ireturn, 1) := dk_172 (dk_at dksX1_applicantCount_0 10 rfl rfl)
abbrev cX1_waitingCount : ByteArray := prog_1_method_16_code
def yX1_waitingCount : MethodName := ⟨RX1, "waitingCount", "()I"⟩
def dkwX1_waitingCount_0 : List UInt8 := [42, 180, 0, 34, 182, 0, 111, 172]
abbrev dktX1_waitingCount_0 : List UInt8 := dkwX1_waitingCount_0 ++ []
theorem dksX1_waitingCount_0 : cX1_waitingCount.data.toList.drop 0 = dktX1_waitingCount_0 := by decide +kernel
theorem dX1_waitingCount_0 : decode cX1_waitingCount 0 = .ok (.aload_n 0, 1) := dk_42 (dk_at dksX1_waitingCount_0 0 rfl rfl)
theorem dX1_waitingCount_1 : decode cX1_waitingCount 1 = .ok (.getfield 34, 3) := dk_180 0 34 (dk_at dksX1_waitingCount_0 1 rfl rfl)
theorem dX1_waitingCount_4 : decode cX1_waitingCount 4 = .ok (.invokevirtual 111, 3) := dk_182 0 111 (dk_at dksX1_waitingCount_0 4 rfl rfl)
theorem dX1_waitingCount_7 : decode cX1_waitingCount 7 = .ok (.ireturn, 1) := dk_172 (dk_at dksX1_waitingCount_0 7 rfl rfl)
abbrev cX1_postCount : ByteArray := prog_1_method_33_code
def yX1_postCount : MethodName := ⟨RX1, "postCount", "()I"⟩
def dkwX1_postCount_0 : List UInt8 := [42, 180, 0, 34, 180, 0, 186, 182, 0, 108, 172]
abbrev dktX1_postCount_0 : List UInt8 := dkwX1_postCount_0 ++ []
theorem dksX1_postCount_0 : cX1_postCount.data.toList.drop 0 = dktX1_postCount_0 := by decide +kernel
theorem dX1_postCount_0 : decode cX1_postCount 0 = .ok (.aload_n 0, 1) := dk_42 (dk_at dksX1_postCount_0 0 rfl rfl)
theorem dX1_postCount_1 : decode cX1_postCount 1 = .ok (.getfield 34, 3) := dk_180 0 34 (dk_at dksX1_postCount_0 1 rfl rfl)
theorem dX1_postCount_4 : decode cX1_postCount 4 = .ok (.getfield 186, 3) := dk_180 0 186 (dk_at dksX1_postCount_0 4 rfl rfl)
theorem dX1_postCount_7 : decode cX1_postCount 7 = .ok (.invokevirtual 108, 3) := dk_182 0 108 (dk_at dksX1_postCount_0 7 rfl rfl)
theorem dX1_postCount_10 : decode cX1_postCount 10 = .ok (.ireturn, 1) := dk_172 (dk_at dksX1_postCount_0 10 rfl rfl)
abbrev cX1_vacantCount : ByteArray := prog_1_method_34_code
def yX1_vacantCount : MethodName := ⟨RX1, "vacantCount", "()I"⟩
def dkwX1_vacantCount_0 : List UInt8 := [42, 180, 0, 34, 182, 0, 189, 172]
abbrev dktX1_vacantCount_0 : List UInt8 := dkwX1_vacantCount_0 ++ []
theorem dksX1_vacantCount_0 : cX1_vacantCount.data.toList.drop 0 = dktX1_vacantCount_0 := by decide +kernel
theorem dX1_vacantCount_0 : decode cX1_vacantCount 0 = .ok (.aload_n 0, 1) := dk_42 (dk_at dksX1_vacantCount_0 0 rfl rfl)
theorem dX1_vacantCount_1 : decode cX1_vacantCount 1 = .ok (.getfield 34, 3) := dk_180 0 34 (dk_at dksX1_vacantCount_0 1 rfl rfl)
theorem dX1_vacantCount_4 : decode cX1_vacantCount 4 = .ok (.invokevirtual 189, 3) := dk_182 0 189 (dk_at dksX1_vacantCount_0 4 rfl rfl)
theorem dX1_vacantCount_7 : decode cX1_vacantCount 7 = .ok (.ireturn, 1) := dk_172 (dk_at dksX1_vacantCount_0 7 rfl rfl)
abbrev cX1_match : ByteArray := prog_1_method_47_code
def yX1_match : MethodName := ⟨RX1, "match", "()I"⟩
def dkwX1_match_0 : List UInt8 := [42, 18, 235, 3, 188, 10, 182, 0, 96, 172]
abbrev dktX1_match_0 : List UInt8 := dkwX1_match_0 ++ []
theorem dksX1_match_0 : cX1_match.data.toList.drop 0 = dktX1_match_0 := by decide +kernel
theorem dX1_match_0 : decode cX1_match 0 = .ok (.aload_n 0, 1) := dk_42 (dk_at dksX1_match_0 0 rfl rfl)
theorem dX1_match_1 : decode cX1_match 1 = .ok (.ldc 235, 2) := dk_18 235 (dk_at dksX1_match_0 1 rfl rfl)
theorem dX1_match_3 : decode cX1_match 3 = .ok (.iconst 0, 1) := dk_3 (dk_at dksX1_match_0 3 rfl rfl)
theorem dX1_match_4 : decode cX1_match 4 = .ok (.newarray .int, 2) := dk_188_10 (dk_at dksX1_match_0 4 rfl rfl)
theorem dX1_match_6 : decode cX1_match 6 = .ok (.invokevirtual 96, 3) := dk_182 0 96 (dk_at dksX1_match_0 6 rfl rfl)
theorem dX1_match_9 : decode cX1_match 9 = .ok (.ireturn, 1) := dk_172 (dk_at dksX1_match_0 9 rfl rfl)
abbrev cX1_change : ByteArray := prog_1_method_11_code
def yX1_change : MethodName := ⟨RX1, "change", "(Ljava/lang/String;[I)I"⟩
def dkwX1_change_1 : List UInt8 := [45, 182, 0, 90, 21, 4, 172]
abbrev dktX1_change_1 : List UInt8 := dkwX1_change_1 ++ []
def dkwX1_change_0 : List UInt8 := [42, 180, 0, 34, 182, 0, 77, 78, 187, 0, 81, 89, 43, 44, 183, 0, 83, 45, 182, 0, 86, 54, 4, 42]
abbrev dktX1_change_0 : List UInt8 := dkwX1_change_0 ++ dktX1_change_1
theorem dksX1_change_0 : cX1_change.data.toList.drop 0 = dktX1_change_0 := by decide +kernel
theorem dksX1_change_1 : cX1_change.data.toList.drop 24 = dktX1_change_1 := dk_seg dksX1_change_0 24 rfl rfl
theorem dX1_change_0 : decode cX1_change 0 = .ok (.aload_n 0, 1) := dk_42 (dk_at dksX1_change_0 0 rfl rfl)
theorem dX1_change_1 : decode cX1_change 1 = .ok (.getfield 34, 3) := dk_180 0 34 (dk_at dksX1_change_0 1 rfl rfl)
theorem dX1_change_4 : decode cX1_change 4 = .ok (.invokevirtual 77, 3) := dk_182 0 77 (dk_at dksX1_change_0 4 rfl rfl)
theorem dX1_change_7 : decode cX1_change 7 = .ok (.astore_n 3, 1) := dk_78 (dk_at dksX1_change_0 7 rfl rfl)
theorem dX1_change_8 : decode cX1_change 8 = .ok (.new 81, 3) := dk_187 0 81 (dk_at dksX1_change_0 8 rfl rfl)
theorem dX1_change_11 : decode cX1_change 11 = .ok (.dup, 1) := dk_89 (dk_at dksX1_change_0 11 rfl rfl)
theorem dX1_change_12 : decode cX1_change 12 = .ok (.aload_n 1, 1) := dk_43 (dk_at dksX1_change_0 12 rfl rfl)
theorem dX1_change_13 : decode cX1_change 13 = .ok (.aload_n 2, 1) := dk_44 (dk_at dksX1_change_0 13 rfl rfl)
theorem dX1_change_14 : decode cX1_change 14 = .ok (.invokespecial 83, 3) := dk_183 0 83 (dk_at dksX1_change_0 14 rfl rfl)
theorem dX1_change_17 : decode cX1_change 17 = .ok (.aload_n 3, 1) := dk_45 (dk_at dksX1_change_0 17 rfl rfl)
theorem dX1_change_18 : decode cX1_change 18 = .ok (.invokevirtual 86, 3) := dk_182 0 86 (dk_at dksX1_change_0 18 rfl rfl)
theorem dX1_change_21 : decode cX1_change 21 = .ok (.istore 4, 2) := dk_54 4 (dk_at dksX1_change_0 21 rfl rfl)
theorem dX1_change_23 : decode cX1_change 23 = .ok (.aload_n 0, 1) := dk_42 (dk_at dksX1_change_0 23 rfl rfl)
theorem dX1_change_24 : decode cX1_change 24 = .ok (.aload_n 3, 1) := dk_45 (dk_at dksX1_change_1 0 rfl rfl)
theorem dX1_change_25 : decode cX1_change 25 = .ok (.invokevirtual 90, 3) := dk_182 0 90 (dk_at dksX1_change_1 1 rfl rfl)
theorem dX1_change_28 : decode cX1_change 28 = .ok (.iload 4, 2) := dk_21 4 (dk_at dksX1_change_1 4 rfl rfl)
theorem dX1_change_30 : decode cX1_change 30 = .ok (.ireturn, 1) := dk_172 (dk_at dksX1_change_1 6 rfl rfl)
abbrev cX1_isShape : ByteArray := prog_1_method_8_code
def yX1_isShape : MethodName := ⟨RX1, "isShape", "(C)Z"⟩
def dkwX1_isShape_0 : List UInt8 := [26, 16, 99, 159, 0, 15, 26, 16, 115, 159, 0, 9, 26, 16, 110, 160, 0, 7, 4, 167, 0, 4, 3, 172]
abbrev dktX1_isShape_0 : List UInt8 := dkwX1_isShape_0 ++ []
theorem dksX1_isShape_0 : cX1_isShape.data.toList.drop 0 = dktX1_isShape_0 := by decide +kernel
theorem dX1_isShape_0 : decode cX1_isShape 0 = .ok (.iload_n 0, 1) := dk_26 (dk_at dksX1_isShape_0 0 rfl rfl)
theorem dX1_isShape_1 : decode cX1_isShape 1 = .ok (.bipush 99, 2) := dk_16 99 (dk_at dksX1_isShape_0 1 rfl rfl)
theorem dX1_isShape_3 : decode cX1_isShape 3 = .ok (.if_icmp .eq 15, 3) := dk_159 0 15 (dk_at dksX1_isShape_0 3 rfl rfl)
theorem dX1_isShape_6 : decode cX1_isShape 6 = .ok (.iload_n 0, 1) := dk_26 (dk_at dksX1_isShape_0 6 rfl rfl)
theorem dX1_isShape_7 : decode cX1_isShape 7 = .ok (.bipush 115, 2) := dk_16 115 (dk_at dksX1_isShape_0 7 rfl rfl)
theorem dX1_isShape_9 : decode cX1_isShape 9 = .ok (.if_icmp .eq 9, 3) := dk_159 0 9 (dk_at dksX1_isShape_0 9 rfl rfl)
theorem dX1_isShape_12 : decode cX1_isShape 12 = .ok (.iload_n 0, 1) := dk_26 (dk_at dksX1_isShape_0 12 rfl rfl)
theorem dX1_isShape_13 : decode cX1_isShape 13 = .ok (.bipush 110, 2) := dk_16 110 (dk_at dksX1_isShape_0 13 rfl rfl)
theorem dX1_isShape_15 : decode cX1_isShape 15 = .ok (.if_icmp .ne 7, 3) := dk_160 0 7 (dk_at dksX1_isShape_0 15 rfl rfl)
theorem dX1_isShape_18 : decode cX1_isShape 18 = .ok (.iconst 1, 1) := dk_4 (dk_at dksX1_isShape_0 18 rfl rfl)
theorem dX1_isShape_19 : decode cX1_isShape 19 = .ok (.goto 4, 3) := dk_167 0 4 (dk_at dksX1_isShape_0 19 rfl rfl)
theorem dX1_isShape_22 : decode cX1_isShape 22 = .ok (.iconst 0, 1) := dk_3 (dk_at dksX1_isShape_0 22 rfl rfl)
theorem dX1_isShape_23 : decode cX1_isShape 23 = .ok (.ireturn, 1) := dk_172 (dk_at dksX1_isShape_0 23 rfl rfl)
abbrev cX1_inRange : ByteArray := prog_1_method_1_code
def yX1_inRange : MethodName := ⟨RX1, "inRange", "(JJJ)Z"⟩
def dkwX1_inRange_0 : List UInt8 := [30, 32, 148, 155, 0, 14, 30, 22, 4, 148, 157, 0, 7, 4, 167, 0, 4, 3, 172]
abbrev dktX1_inRange_0 : List UInt8 := dkwX1_inRange_0 ++ []
theorem dksX1_inRange_0 : cX1_inRange.data.toList.drop 0 = dktX1_inRange_0 := by decide +kernel
theorem dX1_inRange_0 : decode cX1_inRange 0 = .ok (.lload_n 0, 1) := dk_30 (dk_at dksX1_inRange_0 0 rfl rfl)
theorem dX1_inRange_1 : decode cX1_inRange 1 = .ok (.lload_n 2, 1) := dk_32 (dk_at dksX1_inRange_0 1 rfl rfl)
theorem dX1_inRange_2 : decode cX1_inRange 2 = .ok (.lcmp, 1) := dk_148 (dk_at dksX1_inRange_0 2 rfl rfl)
theorem dX1_inRange_3 : decode cX1_inRange 3 = .ok (.ifCond .lt 14, 3) := dk_155 0 14 (dk_at dksX1_inRange_0 3 rfl rfl)
theorem dX1_inRange_6 : decode cX1_inRange 6 = .ok (.lload_n 0, 1) := dk_30 (dk_at dksX1_inRange_0 6 rfl rfl)
theorem dX1_inRange_7 : decode cX1_inRange 7 = .ok (.lload 4, 2) := dk_22 4 (dk_at dksX1_inRange_0 7 rfl rfl)
theorem dX1_inRange_9 : decode cX1_inRange 9 = .ok (.lcmp, 1) := dk_148 (dk_at dksX1_inRange_0 9 rfl rfl)
theorem dX1_inRange_10 : decode cX1_inRange 10 = .ok (.ifCond .gt 7, 3) := dk_157 0 7 (dk_at dksX1_inRange_0 10 rfl rfl)
theorem dX1_inRange_13 : decode cX1_inRange 13 = .ok (.iconst 1, 1) := dk_4 (dk_at dksX1_inRange_0 13 rfl rfl)
theorem dX1_inRange_14 : decode cX1_inRange 14 = .ok (.goto 4, 3) := dk_167 0 4 (dk_at dksX1_inRange_0 14 rfl rfl)
theorem dX1_inRange_17 : decode cX1_inRange 17 = .ok (.iconst 0, 1) := dk_3 (dk_at dksX1_inRange_0 17 rfl rfl)
theorem dX1_inRange_18 : decode cX1_inRange 18 = .ok (.ireturn, 1) := dk_172 (dk_at dksX1_inRange_0 18 rfl rfl)
abbrev cX1_checkArgument : ByteArray := prog_1_method_2_code
def yX1_checkArgument : MethodName := ⟨RX1, "checkArgument", "(Z)V"⟩
def dkwX1_checkArgument_0 : List UInt8 := [26, 154, 0, 11, 187, 0, 1, 89, 183, 0, 3, 191, 177]
abbrev dktX1_checkArgument_0 : List UInt8 := dkwX1_checkArgument_0 ++ []
theorem dksX1_checkArgument_0 : cX1_checkArgument.data.toList.drop 0 = dktX1_checkArgument_0 := by decide +kernel
theorem dX1_checkArgument_0 : decode cX1_checkArgument 0 = .ok (.iload_n 0, 1) := dk_26 (dk_at dksX1_checkArgument_0 0 rfl rfl)
theorem dX1_checkArgument_1 : decode cX1_checkArgument 1 = .ok (.ifCond .ne 11, 3) := dk_154 0 11 (dk_at dksX1_checkArgument_0 1 rfl rfl)
theorem dX1_checkArgument_4 : decode cX1_checkArgument 4 = .ok (.new 1, 3) := dk_187 0 1 (dk_at dksX1_checkArgument_0 4 rfl rfl)
theorem dX1_checkArgument_7 : decode cX1_checkArgument 7 = .ok (.dup, 1) := dk_89 (dk_at dksX1_checkArgument_0 7 rfl rfl)
theorem dX1_checkArgument_8 : decode cX1_checkArgument 8 = .ok (.invokespecial 3, 3) := dk_183 0 3 (dk_at dksX1_checkArgument_0 8 rfl rfl)
theorem dX1_checkArgument_11 : decode cX1_checkArgument 11 = .ok (.athrow, 1) := dk_191 (dk_at dksX1_checkArgument_0 11 rfl rfl)
theorem dX1_checkArgument_12 : decode cX1_checkArgument 12 = .ok (.return_, 1) := dk_177 (dk_at dksX1_checkArgument_0 12 rfl rfl)
abbrev cX1_checkState : ByteArray := prog_1_method_4_code
def yX1_checkState : MethodName := ⟨RX1, "checkState", "(Z)V"⟩
def dkwX1_checkState_0 : List UInt8 := [26, 154, 0, 11, 187, 0, 16, 89, 183, 0, 18, 191, 177]
abbrev dktX1_checkState_0 : List UInt8 := dkwX1_checkState_0 ++ []
theorem dksX1_checkState_0 : cX1_checkState.data.toList.drop 0 = dktX1_checkState_0 := by decide +kernel
theorem dX1_checkState_0 : decode cX1_checkState 0 = .ok (.iload_n 0, 1) := dk_26 (dk_at dksX1_checkState_0 0 rfl rfl)
theorem dX1_checkState_1 : decode cX1_checkState 1 = .ok (.ifCond .ne 11, 3) := dk_154 0 11 (dk_at dksX1_checkState_0 1 rfl rfl)
theorem dX1_checkState_4 : decode cX1_checkState 4 = .ok (.new 16, 3) := dk_187 0 16 (dk_at dksX1_checkState_0 4 rfl rfl)
theorem dX1_checkState_7 : decode cX1_checkState 7 = .ok (.dup, 1) := dk_89 (dk_at dksX1_checkState_0 7 rfl rfl)
theorem dX1_checkState_8 : decode cX1_checkState 8 = .ok (.invokespecial 18, 3) := dk_183 0 18 (dk_at dksX1_checkState_0 8 rfl rfl)
theorem dX1_checkState_11 : decode cX1_checkState 11 = .ok (.athrow, 1) := dk_191 (dk_at dksX1_checkState_0 11 rfl rfl)
theorem dX1_checkState_12 : decode cX1_checkState 12 = .ok (.return_, 1) := dk_177 (dk_at dksX1_checkState_0 12 rfl rfl)
abbrev cX1_checkElement : ByteArray := prog_1_method_5_code
def yX1_checkElement : MethodName := ⟨RX1, "checkElement", "(Z)V"⟩
def dkwX1_checkElement_0 : List UInt8 := [26, 154, 0, 11, 187, 0, 19, 89, 183, 0, 21, 191, 177]
abbrev dktX1_checkElement_0 : List UInt8 := dkwX1_checkElement_0 ++ []
theorem dksX1_checkElement_0 : cX1_checkElement.data.toList.drop 0 = dktX1_checkElement_0 := by decide +kernel
theorem dX1_checkElement_0 : decode cX1_checkElement 0 = .ok (.iload_n 0, 1) := dk_26 (dk_at dksX1_checkElement_0 0 rfl rfl)
theorem dX1_checkElement_1 : decode cX1_checkElement 1 = .ok (.ifCond .ne 11, 3) := dk_154 0 11 (dk_at dksX1_checkElement_0 1 rfl rfl)
theorem dX1_checkElement_4 : decode cX1_checkElement 4 = .ok (.new 19, 3) := dk_187 0 19 (dk_at dksX1_checkElement_0 4 rfl rfl)
theorem dX1_checkElement_7 : decode cX1_checkElement 7 = .ok (.dup, 1) := dk_89 (dk_at dksX1_checkElement_0 7 rfl rfl)
theorem dX1_checkElement_8 : decode cX1_checkElement 8 = .ok (.invokespecial 21, 3) := dk_183 0 21 (dk_at dksX1_checkElement_0 8 rfl rfl)
theorem dX1_checkElement_11 : decode cX1_checkElement 11 = .ok (.athrow, 1) := dk_191 (dk_at dksX1_checkElement_0 11 rfl rfl)
theorem dX1_checkElement_12 : decode cX1_checkElement 12 = .ok (.return_, 1) := dk_177 (dk_at dksX1_checkElement_0 12 rfl rfl)
abbrev cX1_checkIndex : ByteArray := prog_1_method_3_code
def yX1_checkIndex : MethodName := ⟨RX1, "checkIndex", "(II)V"⟩
def dkwX1_checkIndex_0 : List UInt8 := [26, 133, 9, 27, 4, 100, 133, 184, 0, 7, 154, 0, 11, 187, 0, 13, 89, 183, 0, 15, 191, 177]
abbrev dktX1_checkIndex_0 : List UInt8 := dkwX1_checkIndex_0 ++ []
theorem dksX1_checkIndex_0 : cX1_checkIndex.data.toList.drop 0 = dktX1_checkIndex_0 := by decide +kernel
theorem dX1_checkIndex_0 : decode cX1_checkIndex 0 = .ok (.iload_n 0, 1) := dk_26 (dk_at dksX1_checkIndex_0 0 rfl rfl)
theorem dX1_checkIndex_1 : decode cX1_checkIndex 1 = .ok (.i2l, 1) := dk_133 (dk_at dksX1_checkIndex_0 1 rfl rfl)
theorem dX1_checkIndex_2 : decode cX1_checkIndex 2 = .ok (.lconst 0, 1) := dk_9 (dk_at dksX1_checkIndex_0 2 rfl rfl)
theorem dX1_checkIndex_3 : decode cX1_checkIndex 3 = .ok (.iload_n 1, 1) := dk_27 (dk_at dksX1_checkIndex_0 3 rfl rfl)
theorem dX1_checkIndex_4 : decode cX1_checkIndex 4 = .ok (.iconst 1, 1) := dk_4 (dk_at dksX1_checkIndex_0 4 rfl rfl)
theorem dX1_checkIndex_5 : decode cX1_checkIndex 5 = .ok (.isub, 1) := dk_100 (dk_at dksX1_checkIndex_0 5 rfl rfl)
theorem dX1_checkIndex_6 : decode cX1_checkIndex 6 = .ok (.i2l, 1) := dk_133 (dk_at dksX1_checkIndex_0 6 rfl rfl)
theorem dX1_checkIndex_7 : decode cX1_checkIndex 7 = .ok (.invokestatic 7, 3) := dk_184 0 7 (dk_at dksX1_checkIndex_0 7 rfl rfl)
theorem dX1_checkIndex_10 : decode cX1_checkIndex 10 = .ok (.ifCond .ne 11, 3) := dk_154 0 11 (dk_at dksX1_checkIndex_0 10 rfl rfl)
theorem dX1_checkIndex_13 : decode cX1_checkIndex 13 = .ok (.new 13, 3) := dk_187 0 13 (dk_at dksX1_checkIndex_0 13 rfl rfl)
theorem dX1_checkIndex_16 : decode cX1_checkIndex 16 = .ok (.dup, 1) := dk_89 (dk_at dksX1_checkIndex_0 16 rfl rfl)
theorem dX1_checkIndex_17 : decode cX1_checkIndex 17 = .ok (.invokespecial 15, 3) := dk_183 0 15 (dk_at dksX1_checkIndex_0 17 rfl rfl)
theorem dX1_checkIndex_20 : decode cX1_checkIndex 20 = .ok (.athrow, 1) := dk_191 (dk_at dksX1_checkIndex_0 20 rfl rfl)
theorem dX1_checkIndex_21 : decode cX1_checkIndex 21 = .ok (.return_, 1) := dk_177 (dk_at dksX1_checkIndex_0 21 rfl rfl)
abbrev cX1_checkSupported : ByteArray := prog_1_method_7_code
def yX1_checkSupported : MethodName := ⟨RX1, "checkSupported", "(Z)V"⟩
def dkwX1_checkSupported_0 : List UInt8 := [26, 154, 0, 11, 187, 0, 25, 89, 183, 0, 27, 191, 177]
abbrev dktX1_checkSupported_0 : List UInt8 := dkwX1_checkSupported_0 ++ []
theorem dksX1_checkSupported_0 : cX1_checkSupported.data.toList.drop 0 = dktX1_checkSupported_0 := by decide +kernel
theorem dX1_checkSupported_0 : decode cX1_checkSupported 0 = .ok (.iload_n 0, 1) := dk_26 (dk_at dksX1_checkSupported_0 0 rfl rfl)
theorem dX1_checkSupported_1 : decode cX1_checkSupported 1 = .ok (.ifCond .ne 11, 3) := dk_154 0 11 (dk_at dksX1_checkSupported_0 1 rfl rfl)
theorem dX1_checkSupported_4 : decode cX1_checkSupported 4 = .ok (.new 25, 3) := dk_187 0 25 (dk_at dksX1_checkSupported_0 4 rfl rfl)
theorem dX1_checkSupported_7 : decode cX1_checkSupported 7 = .ok (.dup, 1) := dk_89 (dk_at dksX1_checkSupported_0 7 rfl rfl)
theorem dX1_checkSupported_8 : decode cX1_checkSupported 8 = .ok (.invokespecial 27, 3) := dk_183 0 27 (dk_at dksX1_checkSupported_0 8 rfl rfl)
theorem dX1_checkSupported_11 : decode cX1_checkSupported 11 = .ok (.athrow, 1) := dk_191 (dk_at dksX1_checkSupported_0 11 rfl rfl)
theorem dX1_checkSupported_12 : decode cX1_checkSupported 12 = .ok (.return_, 1) := dk_177 (dk_at dksX1_checkSupported_0 12 rfl rfl)
abbrev cX1_become : ByteArray := prog_1_method_10_code
def yX1_become : MethodName := ⟨RX1, "become", "(LCloudInterviews$Board;)V"⟩
def dkwX1_become_1 : List UInt8 := [180, 0, 41, 42, 180, 0, 34, 182, 0, 73, 42, 43, 181, 0, 34, 177]
abbrev dktX1_become_1 : List UInt8 := dkwX1_become_1 ++ []
def dkwX1_become_0 : List UInt8 := [42, 180, 0, 41, 182, 0, 65, 16, 8, 160, 0, 14, 42, 180, 0, 41, 182, 0, 69, 192, 0, 31, 77, 42]
abbrev dktX1_become_0 : List UInt8 := dkwX1_become_0 ++ dktX1_become_1
theorem dksX1_become_0 : cX1_become.data.toList.drop 0 = dktX1_become_0 := by decide +kernel
theorem dksX1_become_1 : cX1_become.data.toList.drop 24 = dktX1_become_1 := dk_seg dksX1_become_0 24 rfl rfl
theorem dX1_become_0 : decode cX1_become 0 = .ok (.aload_n 0, 1) := dk_42 (dk_at dksX1_become_0 0 rfl rfl)
theorem dX1_become_1 : decode cX1_become 1 = .ok (.getfield 41, 3) := dk_180 0 41 (dk_at dksX1_become_0 1 rfl rfl)
theorem dX1_become_4 : decode cX1_become 4 = .ok (.invokevirtual 65, 3) := dk_182 0 65 (dk_at dksX1_become_0 4 rfl rfl)
theorem dX1_become_7 : decode cX1_become 7 = .ok (.bipush 8, 2) := dk_16 8 (dk_at dksX1_become_0 7 rfl rfl)
theorem dX1_become_9 : decode cX1_become 9 = .ok (.if_icmp .ne 14, 3) := dk_160 0 14 (dk_at dksX1_become_0 9 rfl rfl)
theorem dX1_become_12 : decode cX1_become 12 = .ok (.aload_n 0, 1) := dk_42 (dk_at dksX1_become_0 12 rfl rfl)
theorem dX1_become_13 : decode cX1_become 13 = .ok (.getfield 41, 3) := dk_180 0 41 (dk_at dksX1_become_0 13 rfl rfl)
theorem dX1_become_16 : decode cX1_become 16 = .ok (.invokevirtual 69, 3) := dk_182 0 69 (dk_at dksX1_become_0 16 rfl rfl)
theorem dX1_become_19 : decode cX1_become 19 = .ok (.checkcast 31, 3) := dk_192 0 31 (dk_at dksX1_become_0 19 rfl rfl)
theorem dX1_become_22 : decode cX1_become 22 = .ok (.astore_n 2, 1) := dk_77 (dk_at dksX1_become_0 22 rfl rfl)
theorem dX1_become_23 : decode cX1_become 23 = .ok (.aload_n 0, 1) := dk_42 (dk_at dksX1_become_0 23 rfl rfl)
theorem dX1_become_24 : decode cX1_become 24 = .ok (.getfield 41, 3) := dk_180 0 41 (dk_at dksX1_become_1 0 rfl rfl)
theorem dX1_become_27 : decode cX1_become 27 = .ok (.aload_n 0, 1) := dk_42 (dk_at dksX1_become_1 3 rfl rfl)
theorem dX1_become_28 : decode cX1_become 28 = .ok (.getfield 34, 3) := dk_180 0 34 (dk_at dksX1_become_1 4 rfl rfl)
theorem dX1_become_31 : decode cX1_become 31 = .ok (.invokevirtual 73, 3) := dk_182 0 73 (dk_at dksX1_become_1 7 rfl rfl)
theorem dX1_become_34 : decode cX1_become 34 = .ok (.aload_n 0, 1) := dk_42 (dk_at dksX1_become_1 10 rfl rfl)
theorem dX1_become_35 : decode cX1_become 35 = .ok (.aload_n 1, 1) := dk_43 (dk_at dksX1_become_1 11 rfl rfl)
theorem dX1_become_36 : decode cX1_become 36 = .ok (.putfield 34, 3) := dk_181 0 34 (dk_at dksX1_become_1 12 rfl rfl)
theorem dX1_become_39 : decode cX1_become 39 = .ok (.return_, 1) := dk_177 (dk_at dksX1_become_1 15 rfl rfl)
abbrev cX1_mostHires : ByteArray := prog_1_method_48_code
def yX1_mostHires : MethodName := ⟨RX1, "mostHires", "()I"⟩
def dkwX1_mostHires_0 : List UInt8 := [42, 180, 0, 34, 182, 0, 237, 172]
abbrev dktX1_mostHires_0 : List UInt8 := dkwX1_mostHires_0 ++ []
theorem dksX1_mostHires_0 : cX1_mostHires.data.toList.drop 0 = dktX1_mostHires_0 := by decide +kernel
theorem dX1_mostHires_0 : decode cX1_mostHires 0 = .ok (.aload_n 0, 1) := dk_42 (dk_at dksX1_mostHires_0 0 rfl rfl)
theorem dX1_mostHires_1 : decode cX1_mostHires 1 = .ok (.getfield 34, 3) := dk_180 0 34 (dk_at dksX1_mostHires_0 1 rfl rfl)
theorem dX1_mostHires_4 : decode cX1_mostHires 4 = .ok (.invokevirtual 237, 3) := dk_182 0 237 (dk_at dksX1_mostHires_0 4 rfl rfl)
theorem dX1_mostHires_7 : decode cX1_mostHires 7 = .ok (.ireturn, 1) := dk_172 (dk_at dksX1_mostHires_0 7 rfl rfl)
abbrev cX1_mostHiresBySets : ByteArray := prog_1_method_49_code
def yX1_mostHiresBySets : MethodName := ⟨RX1, "mostHiresBySets", "()I"⟩
def dkwX1_mostHiresBySets_0 : List UInt8 := [42, 180, 0, 34, 182, 0, 240, 172]
abbrev dktX1_mostHiresBySets_0 : List UInt8 := dkwX1_mostHiresBySets_0 ++ []
theorem dksX1_mostHiresBySets_0 : cX1_mostHiresBySets.data.toList.drop 0 = dktX1_mostHiresBySets_0 := by decide +kernel
theorem dX1_mostHiresBySets_0 : decode cX1_mostHiresBySets 0 = .ok (.aload_n 0, 1) := dk_42 (dk_at dksX1_mostHiresBySets_0 0 rfl rfl)
theorem dX1_mostHiresBySets_1 : decode cX1_mostHiresBySets 1 = .ok (.getfield 34, 3) := dk_180 0 34 (dk_at dksX1_mostHiresBySets_0 1 rfl rfl)
theorem dX1_mostHiresBySets_4 : decode cX1_mostHiresBySets 4 = .ok (.invokevirtual 240, 3) := dk_182 0 240 (dk_at dksX1_mostHiresBySets_0 4 rfl rfl)
theorem dX1_mostHiresBySets_7 : decode cX1_mostHiresBySets 7 = .ok (.ireturn, 1) := dk_172 (dk_at dksX1_mostHiresBySets_0 7 rfl rfl)
abbrev cX1_blockingPairs : ByteArray := prog_1_method_50_code
def yX1_blockingPairs : MethodName := ⟨RX1, "blockingPairs", "()I"⟩
def dkwX1_blockingPairs_0 : List UInt8 := [42, 180, 0, 34, 182, 0, 243, 172]
abbrev dktX1_blockingPairs_0 : List UInt8 := dkwX1_blockingPairs_0 ++ []
theorem dksX1_blockingPairs_0 : cX1_blockingPairs.data.toList.drop 0 = dktX1_blockingPairs_0 := by decide +kernel
theorem dX1_blockingPairs_0 : decode cX1_blockingPairs 0 = .ok (.aload_n 0, 1) := dk_42 (dk_at dksX1_blockingPairs_0 0 rfl rfl)
theorem dX1_blockingPairs_1 : decode cX1_blockingPairs 1 = .ok (.getfield 34, 3) := dk_180 0 34 (dk_at dksX1_blockingPairs_0 1 rfl rfl)
theorem dX1_blockingPairs_4 : decode cX1_blockingPairs 4 = .ok (.invokevirtual 243, 3) := dk_182 0 243 (dk_at dksX1_blockingPairs_0 4 rfl rfl)
theorem dX1_blockingPairs_7 : decode cX1_blockingPairs 7 = .ok (.ireturn, 1) := dk_172 (dk_at dksX1_blockingPairs_0 7 rfl rfl)
abbrev cX1_blockingPairsByPreference : ByteArray := prog_1_method_51_code
def yX1_blockingPairsByPreference : MethodName := ⟨RX1, "blockingPairsByPreference", "()I"⟩
def dkwX1_blockingPairsByPreference_0 : List UInt8 := [42, 180, 0, 34, 182, 0, 246, 172]
abbrev dktX1_blockingPairsByPreference_0 : List UInt8 := dkwX1_blockingPairsByPreference_0 ++ []
theorem dksX1_blockingPairsByPreference_0 : cX1_blockingPairsByPreference.data.toList.drop 0 = dktX1_blockingPairsByPreference_0 := by decide +kernel
theorem dX1_blockingPairsByPreference_0 : decode cX1_blockingPairsByPreference 0 = .ok (.aload_n 0, 1) := dk_42 (dk_at dksX1_blockingPairsByPreference_0 0 rfl rfl)
theorem dX1_blockingPairsByPreference_1 : decode cX1_blockingPairsByPreference 1 = .ok (.getfield 34, 3) := dk_180 0 34 (dk_at dksX1_blockingPairsByPreference_0 1 rfl rfl)
theorem dX1_blockingPairsByPreference_4 : decode cX1_blockingPairsByPreference 4 = .ok (.invokevirtual 246, 3) := dk_182 0 246 (dk_at dksX1_blockingPairsByPreference_0 4 rfl rfl)
theorem dX1_blockingPairsByPreference_7 : decode cX1_blockingPairsByPreference 7 = .ok (.ireturn, 1) := dk_172 (dk_at dksX1_blockingPairsByPreference_0 7 rfl rfl)
abbrev cX1_day : ByteArray := prog_1_method_53_code
def yX1_day : MethodName := ⟨RX1, "day", "()I"⟩
def dkwX1_day_0 : List UInt8 := [42, 180, 0, 34, 180, 0, 251, 172]
abbrev dktX1_day_0 : List UInt8 := dkwX1_day_0 ++ []
theorem dksX1_day_0 : cX1_day.data.toList.drop 0 = dktX1_day_0 := by decide +kernel
theorem dX1_day_0 : decode cX1_day 0 = .ok (.aload_n 0, 1) := dk_42 (dk_at dksX1_day_0 0 rfl rfl)
theorem dX1_day_1 : decode cX1_day 1 = .ok (.getfield 34, 3) := dk_180 0 34 (dk_at dksX1_day_0 1 rfl rfl)
theorem dX1_day_4 : decode cX1_day 4 = .ok (.getfield 251, 3) := dk_180 0 251 (dk_at dksX1_day_0 4 rfl rfl)
theorem dX1_day_7 : decode cX1_day 7 = .ok (.ireturn, 1) := dk_172 (dk_at dksX1_day_0 7 rfl rfl)
abbrev cX1_dailyWages : ByteArray := prog_1_method_55_code
def yX1_dailyWages : MethodName := ⟨RX1, "dailyWages", "()I"⟩
def dkwX1_dailyWages_0 : List UInt8 := [42, 180, 0, 34, 182, 1, 0, 172]
abbrev dktX1_dailyWages_0 : List UInt8 := dkwX1_dailyWages_0 ++ []
theorem dksX1_dailyWages_0 : cX1_dailyWages.data.toList.drop 0 = dktX1_dailyWages_0 := by decide +kernel
theorem dX1_dailyWages_0 : decode cX1_dailyWages 0 = .ok (.aload_n 0, 1) := dk_42 (dk_at dksX1_dailyWages_0 0 rfl rfl)
theorem dX1_dailyWages_1 : decode cX1_dailyWages 1 = .ok (.getfield 34, 3) := dk_180 0 34 (dk_at dksX1_dailyWages_0 1 rfl rfl)
theorem dX1_dailyWages_4 : decode cX1_dailyWages 4 = .ok (.invokevirtual 256, 3) := dk_182 1 0 (dk_at dksX1_dailyWages_0 4 rfl rfl)
theorem dX1_dailyWages_7 : decode cX1_dailyWages 7 = .ok (.ireturn, 1) := dk_172 (dk_at dksX1_dailyWages_0 7 rfl rfl)
abbrev cX1_writePosts : ByteArray := prog_1_method_60_code
def yX1_writePosts : MethodName := ⟨RX1, "writePosts", "()I"⟩
def dkwX1_writePosts_0 : List UInt8 := [42, 42, 180, 0, 34, 182, 1, 31, 182, 1, 27, 172]
abbrev dktX1_writePosts_0 : List UInt8 := dkwX1_writePosts_0 ++ []
theorem dksX1_writePosts_0 : cX1_writePosts.data.toList.drop 0 = dktX1_writePosts_0 := by decide +kernel
theorem dX1_writePosts_0 : decode cX1_writePosts 0 = .ok (.aload_n 0, 1) := dk_42 (dk_at dksX1_writePosts_0 0 rfl rfl)
theorem dX1_writePosts_1 : decode cX1_writePosts 1 = .ok (.aload_n 0, 1) := dk_42 (dk_at dksX1_writePosts_0 1 rfl rfl)
theorem dX1_writePosts_2 : decode cX1_writePosts 2 = .ok (.getfield 34, 3) := dk_180 0 34 (dk_at dksX1_writePosts_0 2 rfl rfl)
theorem dX1_writePosts_5 : decode cX1_writePosts 5 = .ok (.invokevirtual 287, 3) := dk_182 1 31 (dk_at dksX1_writePosts_0 5 rfl rfl)
theorem dX1_writePosts_8 : decode cX1_writePosts 8 = .ok (.invokevirtual 283, 3) := dk_182 1 27 (dk_at dksX1_writePosts_0 8 rfl rfl)
theorem dX1_writePosts_11 : decode cX1_writePosts 11 = .ok (.ireturn, 1) := dk_172 (dk_at dksX1_writePosts_0 11 rfl rfl)
abbrev cX1_write : ByteArray := prog_1_method_58_code
def yX1_write : MethodName := ⟨RX1, "write", "(Ljava/lang/String;)I"⟩
def dkwX1_write_0 : List UInt8 := [42, 43, 181, 0, 54, 43, 182, 1, 18, 172]
abbrev dktX1_write_0 : List UInt8 := dkwX1_write_0 ++ []
theorem dksX1_write_0 : cX1_write.data.toList.drop 0 = dktX1_write_0 := by decide +kernel
theorem dX1_write_0 : decode cX1_write 0 = .ok (.aload_n 0, 1) := dk_42 (dk_at dksX1_write_0 0 rfl rfl)
theorem dX1_write_1 : decode cX1_write 1 = .ok (.aload_n 1, 1) := dk_43 (dk_at dksX1_write_0 1 rfl rfl)
theorem dX1_write_2 : decode cX1_write 2 = .ok (.putfield 54, 3) := dk_181 0 54 (dk_at dksX1_write_0 2 rfl rfl)
theorem dX1_write_5 : decode cX1_write 5 = .ok (.aload_n 1, 1) := dk_43 (dk_at dksX1_write_0 5 rfl rfl)
theorem dX1_write_6 : decode cX1_write 6 = .ok (.invokevirtual 274, 3) := dk_182 1 18 (dk_at dksX1_write_0 6 rfl rfl)
theorem dX1_write_9 : decode cX1_write 9 = .ok (.ireturn, 1) := dk_172 (dk_at dksX1_write_0 9 rfl rfl)
abbrev cX1_isConsistent : ByteArray := prog_1_method_62_code
def yX1_isConsistent : MethodName := ⟨RX1, "isConsistent", "()Z"⟩
def dkwX1_isConsistent_0 : List UInt8 := [42, 180, 0, 34, 182, 1, 39, 172]
abbrev dktX1_isConsistent_0 : List UInt8 := dkwX1_isConsistent_0 ++ []
theorem dksX1_isConsistent_0 : cX1_isConsistent.data.toList.drop 0 = dktX1_isConsistent_0 := by decide +kernel
theorem dX1_isConsistent_0 : decode cX1_isConsistent 0 = .ok (.aload_n 0, 1) := dk_42 (dk_at dksX1_isConsistent_0 0 rfl rfl)
theorem dX1_isConsistent_1 : decode cX1_isConsistent 1 = .ok (.getfield 34, 3) := dk_180 0 34 (dk_at dksX1_isConsistent_0 1 rfl rfl)
theorem dX1_isConsistent_4 : decode cX1_isConsistent 4 = .ok (.invokevirtual 295, 3) := dk_182 1 39 (dk_at dksX1_isConsistent_0 4 rfl rfl)
theorem dX1_isConsistent_7 : decode cX1_isConsistent 7 = .ok (.ireturn, 1) := dk_172 (dk_at dksX1_isConsistent_0 7 rfl rfl)
abbrev cX1_undoCount : ByteArray := prog_1_method_70_code
def yX1_undoCount : MethodName := ⟨RX1, "undoCount", "()I"⟩
def dkwX1_undoCount_0 : List UInt8 := [42, 180, 0, 41, 182, 0, 65, 172]
abbrev dktX1_undoCount_0 : List UInt8 := dkwX1_undoCount_0 ++ []
theorem dksX1_undoCount_0 : cX1_undoCount.data.toList.drop 0 = dktX1_undoCount_0 := by decide +kernel
theorem dX1_undoCount_0 : decode cX1_undoCount 0 = .ok (.aload_n 0, 1) := dk_42 (dk_at dksX1_undoCount_0 0 rfl rfl)
theorem dX1_undoCount_1 : decode cX1_undoCount 1 = .ok (.getfield 41, 3) := dk_180 0 41 (dk_at dksX1_undoCount_0 1 rfl rfl)
theorem dX1_undoCount_4 : decode cX1_undoCount 4 = .ok (.invokevirtual 65, 3) := dk_182 0 65 (dk_at dksX1_undoCount_0 4 rfl rfl)
theorem dX1_undoCount_7 : decode cX1_undoCount 7 = .ok (.ireturn, 1) := dk_172 (dk_at dksX1_undoCount_0 7 rfl rfl)
abbrev cX1_save : ByteArray := prog_1_method_71_code
def yX1_save : MethodName := ⟨RX1, "save", "()I"⟩
def dkwX1_save_0 : List UInt8 := [42, 42, 180, 0, 34, 181, 1, 76, 42, 180, 0, 34, 180, 0, 104, 182, 0, 108, 172]
abbrev dktX1_save_0 : List UInt8 := dkwX1_save_0 ++ []
theorem dksX1_save_0 : cX1_save.data.toList.drop 0 = dktX1_save_0 := by decide +kernel
theorem dX1_save_0 : decode cX1_save 0 = .ok (.aload_n 0, 1) := dk_42 (dk_at dksX1_save_0 0 rfl rfl)
theorem dX1_save_1 : decode cX1_save 1 = .ok (.aload_n 0, 1) := dk_42 (dk_at dksX1_save_0 1 rfl rfl)
theorem dX1_save_2 : decode cX1_save 2 = .ok (.getfield 34, 3) := dk_180 0 34 (dk_at dksX1_save_0 2 rfl rfl)
theorem dX1_save_5 : decode cX1_save 5 = .ok (.putfield 332, 3) := dk_181 1 76 (dk_at dksX1_save_0 5 rfl rfl)
theorem dX1_save_8 : decode cX1_save 8 = .ok (.aload_n 0, 1) := dk_42 (dk_at dksX1_save_0 8 rfl rfl)
theorem dX1_save_9 : decode cX1_save 9 = .ok (.getfield 34, 3) := dk_180 0 34 (dk_at dksX1_save_0 9 rfl rfl)
theorem dX1_save_12 : decode cX1_save 12 = .ok (.getfield 104, 3) := dk_180 0 104 (dk_at dksX1_save_0 12 rfl rfl)
theorem dX1_save_15 : decode cX1_save 15 = .ok (.invokevirtual 108, 3) := dk_182 0 108 (dk_at dksX1_save_0 15 rfl rfl)
theorem dX1_save_18 : decode cX1_save 18 = .ok (.ireturn, 1) := dk_172 (dk_at dksX1_save_0 18 rfl rfl)
abbrev cX1_addApplicant : ByteArray := prog_1_method_12_code
def yX1_addApplicant : MethodName := ⟨RX1, "addApplicant", "(CII)I"⟩
def dkwX1_addApplicant_0 : List UInt8 := [42, 18, 94, 6, 188, 10, 89, 3, 27, 79, 89, 4, 28, 79, 89, 5, 29, 79, 182, 0, 96, 172]
abbrev dktX1_addApplicant_0 : List UInt8 := dkwX1_addApplicant_0 ++ []
theorem dksX1_addApplicant_0 : cX1_addApplicant.data.toList.drop 0 = dktX1_addApplicant_0 := by decide +kernel
theorem dX1_addApplicant_0 : decode cX1_addApplicant 0 = .ok (.aload_n 0, 1) := dk_42 (dk_at dksX1_addApplicant_0 0 rfl rfl)
theorem dX1_addApplicant_1 : decode cX1_addApplicant 1 = .ok (.ldc 94, 2) := dk_18 94 (dk_at dksX1_addApplicant_0 1 rfl rfl)
theorem dX1_addApplicant_3 : decode cX1_addApplicant 3 = .ok (.iconst 3, 1) := dk_6 (dk_at dksX1_addApplicant_0 3 rfl rfl)
theorem dX1_addApplicant_4 : decode cX1_addApplicant 4 = .ok (.newarray .int, 2) := dk_188_10 (dk_at dksX1_addApplicant_0 4 rfl rfl)
theorem dX1_addApplicant_6 : decode cX1_addApplicant 6 = .ok (.dup, 1) := dk_89 (dk_at dksX1_addApplicant_0 6 rfl rfl)
theorem dX1_addApplicant_7 : decode cX1_addApplicant 7 = .ok (.iconst 0, 1) := dk_3 (dk_at dksX1_addApplicant_0 7 rfl rfl)
theorem dX1_addApplicant_8 : decode cX1_addApplicant 8 = .ok (.iload_n 1, 1) := dk_27 (dk_at dksX1_addApplicant_0 8 rfl rfl)
theorem dX1_addApplicant_9 : decode cX1_addApplicant 9 = .ok (.iastore, 1) := dk_79 (dk_at dksX1_addApplicant_0 9 rfl rfl)
theorem dX1_addApplicant_10 : decode cX1_addApplicant 10 = .ok (.dup, 1) := dk_89 (dk_at dksX1_addApplicant_0 10 rfl rfl)
theorem dX1_addApplicant_11 : decode cX1_addApplicant 11 = .ok (.iconst 1, 1) := dk_4 (dk_at dksX1_addApplicant_0 11 rfl rfl)
theorem dX1_addApplicant_12 : decode cX1_addApplicant 12 = .ok (.iload_n 2, 1) := dk_28 (dk_at dksX1_addApplicant_0 12 rfl rfl)
theorem dX1_addApplicant_13 : decode cX1_addApplicant 13 = .ok (.iastore, 1) := dk_79 (dk_at dksX1_addApplicant_0 13 rfl rfl)
theorem dX1_addApplicant_14 : decode cX1_addApplicant 14 = .ok (.dup, 1) := dk_89 (dk_at dksX1_addApplicant_0 14 rfl rfl)
theorem dX1_addApplicant_15 : decode cX1_addApplicant 15 = .ok (.iconst 2, 1) := dk_5 (dk_at dksX1_addApplicant_0 15 rfl rfl)
theorem dX1_addApplicant_16 : decode cX1_addApplicant 16 = .ok (.iload_n 3, 1) := dk_29 (dk_at dksX1_addApplicant_0 16 rfl rfl)
theorem dX1_addApplicant_17 : decode cX1_addApplicant 17 = .ok (.iastore, 1) := dk_79 (dk_at dksX1_addApplicant_0 17 rfl rfl)
theorem dX1_addApplicant_18 : decode cX1_addApplicant 18 = .ok (.invokevirtual 96, 3) := dk_182 0 96 (dk_at dksX1_addApplicant_0 18 rfl rfl)
theorem dX1_addApplicant_21 : decode cX1_addApplicant 21 = .ok (.ireturn, 1) := dk_172 (dk_at dksX1_addApplicant_0 21 rfl rfl)
abbrev cX1_removeApplicant : ByteArray := prog_1_method_13_code
def yX1_removeApplicant : MethodName := ⟨RX1, "removeApplicant", "(I)I"⟩
def dkwX1_removeApplicant_0 : List UInt8 := [42, 18, 100, 4, 188, 10, 89, 3, 27, 79, 182, 0, 96, 172]
abbrev dktX1_removeApplicant_0 : List UInt8 := dkwX1_removeApplicant_0 ++ []
theorem dksX1_removeApplicant_0 : cX1_removeApplicant.data.toList.drop 0 = dktX1_removeApplicant_0 := by decide +kernel
theorem dX1_removeApplicant_0 : decode cX1_removeApplicant 0 = .ok (.aload_n 0, 1) := dk_42 (dk_at dksX1_removeApplicant_0 0 rfl rfl)
theorem dX1_removeApplicant_1 : decode cX1_removeApplicant 1 = .ok (.ldc 100, 2) := dk_18 100 (dk_at dksX1_removeApplicant_0 1 rfl rfl)
theorem dX1_removeApplicant_3 : decode cX1_removeApplicant 3 = .ok (.iconst 1, 1) := dk_4 (dk_at dksX1_removeApplicant_0 3 rfl rfl)
theorem dX1_removeApplicant_4 : decode cX1_removeApplicant 4 = .ok (.newarray .int, 2) := dk_188_10 (dk_at dksX1_removeApplicant_0 4 rfl rfl)
theorem dX1_removeApplicant_6 : decode cX1_removeApplicant 6 = .ok (.dup, 1) := dk_89 (dk_at dksX1_removeApplicant_0 6 rfl rfl)
theorem dX1_removeApplicant_7 : decode cX1_removeApplicant 7 = .ok (.iconst 0, 1) := dk_3 (dk_at dksX1_removeApplicant_0 7 rfl rfl)
theorem dX1_removeApplicant_8 : decode cX1_removeApplicant 8 = .ok (.iload_n 1, 1) := dk_27 (dk_at dksX1_removeApplicant_0 8 rfl rfl)
theorem dX1_removeApplicant_9 : decode cX1_removeApplicant 9 = .ok (.iastore, 1) := dk_79 (dk_at dksX1_removeApplicant_0 9 rfl rfl)
theorem dX1_removeApplicant_10 : decode cX1_removeApplicant 10 = .ok (.invokevirtual 96, 3) := dk_182 0 96 (dk_at dksX1_removeApplicant_0 10 rfl rfl)
theorem dX1_removeApplicant_13 : decode cX1_removeApplicant 13 = .ok (.ireturn, 1) := dk_172 (dk_at dksX1_removeApplicant_0 13 rfl rfl)
abbrev cX1_rejectRainy : ByteArray := prog_1_method_14_code
def yX1_rejectRainy : MethodName := ⟨RX1, "rejectRainy", "(I)I"⟩
def dkwX1_rejectRainy_0 : List UInt8 := [42, 18, 102, 4, 188, 10, 89, 3, 27, 79, 182, 0, 96, 172]
abbrev dktX1_rejectRainy_0 : List UInt8 := dkwX1_rejectRainy_0 ++ []
theorem dksX1_rejectRainy_0 : cX1_rejectRainy.data.toList.drop 0 = dktX1_rejectRainy_0 := by decide +kernel
theorem dX1_rejectRainy_0 : decode cX1_rejectRainy 0 = .ok (.aload_n 0, 1) := dk_42 (dk_at dksX1_rejectRainy_0 0 rfl rfl)
theorem dX1_rejectRainy_1 : decode cX1_rejectRainy 1 = .ok (.ldc 102, 2) := dk_18 102 (dk_at dksX1_rejectRainy_0 1 rfl rfl)
theorem dX1_rejectRainy_3 : decode cX1_rejectRainy 3 = .ok (.iconst 1, 1) := dk_4 (dk_at dksX1_rejectRainy_0 3 rfl rfl)
theorem dX1_rejectRainy_4 : decode cX1_rejectRainy 4 = .ok (.newarray .int, 2) := dk_188_10 (dk_at dksX1_rejectRainy_0 4 rfl rfl)
theorem dX1_rejectRainy_6 : decode cX1_rejectRainy 6 = .ok (.dup, 1) := dk_89 (dk_at dksX1_rejectRainy_0 6 rfl rfl)
theorem dX1_rejectRainy_7 : decode cX1_rejectRainy 7 = .ok (.iconst 0, 1) := dk_3 (dk_at dksX1_rejectRainy_0 7 rfl rfl)
theorem dX1_rejectRainy_8 : decode cX1_rejectRainy 8 = .ok (.iload_n 1, 1) := dk_27 (dk_at dksX1_rejectRainy_0 8 rfl rfl)
theorem dX1_rejectRainy_9 : decode cX1_rejectRainy 9 = .ok (.iastore, 1) := dk_79 (dk_at dksX1_rejectRainy_0 9 rfl rfl)
theorem dX1_rejectRainy_10 : decode cX1_rejectRainy 10 = .ok (.invokevirtual 96, 3) := dk_182 0 96 (dk_at dksX1_rejectRainy_0 10 rfl rfl)
theorem dX1_rejectRainy_13 : decode cX1_rejectRainy 13 = .ok (.ireturn, 1) := dk_172 (dk_at dksX1_rejectRainy_0 13 rfl rfl)
abbrev cX1_applicant : ByteArray := prog_1_method_17_code
def yX1_applicant : MethodName := ⟨RX1, "applicant", "(I)I"⟩
def dkwX1_applicant_1 : List UInt8 := [182, 0, 118, 192, 0, 122, 180, 0, 124, 172]
abbrev dktX1_applicant_1 : List UInt8 := dkwX1_applicant_1 ++ []
def dkwX1_applicant_0 : List UInt8 := [27, 42, 180, 0, 34, 180, 0, 104, 182, 0, 108, 184, 0, 114, 42, 180, 0, 34, 180, 0, 104, 27]
abbrev dktX1_applicant_0 : List UInt8 := dkwX1_applicant_0 ++ dktX1_applicant_1
theorem dksX1_applicant_0 : cX1_applicant.data.toList.drop 0 = dktX1_applicant_0 := by decide +kernel
theorem dksX1_applicant_1 : cX1_applicant.data.toList.drop 22 = dktX1_applicant_1 := dk_seg dksX1_applicant_0 22 rfl rfl
theorem dX1_applicant_0 : decode cX1_applicant 0 = .ok (.iload_n 1, 1) := dk_27 (dk_at dksX1_applicant_0 0 rfl rfl)
theorem dX1_applicant_1 : decode cX1_applicant 1 = .ok (.aload_n 0, 1) := dk_42 (dk_at dksX1_applicant_0 1 rfl rfl)
theorem dX1_applicant_2 : decode cX1_applicant 2 = .ok (.getfield 34, 3) := dk_180 0 34 (dk_at dksX1_applicant_0 2 rfl rfl)
theorem dX1_applicant_5 : decode cX1_applicant 5 = .ok (.getfield 104, 3) := dk_180 0 104 (dk_at dksX1_applicant_0 5 rfl rfl)
theorem dX1_applicant_8 : decode cX1_applicant 8 = .ok (.invokevirtual 108, 3) := dk_182 0 108 (dk_at dksX1_applicant_0 8 rfl rfl)
theorem dX1_applicant_11 : decode cX1_applicant 11 = .ok (.invokestatic 114, 3) := dk_184 0 114 (dk_at dksX1_applicant_0 11 rfl rfl)
theorem dX1_applicant_14 : decode cX1_applicant 14 = .ok (.aload_n 0, 1) := dk_42 (dk_at dksX1_applicant_0 14 rfl rfl)
theorem dX1_applicant_15 : decode cX1_applicant 15 = .ok (.getfield 34, 3) := dk_180 0 34 (dk_at dksX1_applicant_0 15 rfl rfl)
theorem dX1_applicant_18 : decode cX1_applicant 18 = .ok (.getfield 104, 3) := dk_180 0 104 (dk_at dksX1_applicant_0 18 rfl rfl)
theorem dX1_applicant_21 : decode cX1_applicant 21 = .ok (.iload_n 1, 1) := dk_27 (dk_at dksX1_applicant_0 21 rfl rfl)
theorem dX1_applicant_22 : decode cX1_applicant 22 = .ok (.invokevirtual 118, 3) := dk_182 0 118 (dk_at dksX1_applicant_1 0 rfl rfl)
theorem dX1_applicant_25 : decode cX1_applicant 25 = .ok (.checkcast 122, 3) := dk_192 0 122 (dk_at dksX1_applicant_1 3 rfl rfl)
theorem dX1_applicant_28 : decode cX1_applicant 28 = .ok (.getfield 124, 3) := dk_180 0 124 (dk_at dksX1_applicant_1 6 rfl rfl)
theorem dX1_applicant_31 : decode cX1_applicant 31 = .ok (.ireturn, 1) := dk_172 (dk_at dksX1_applicant_1 9 rfl rfl)
abbrev cX1_shape : ByteArray := prog_1_method_18_code
def yX1_shape : MethodName := ⟨RX1, "shape", "(I)C"⟩
def dkwX1_shape_0 : List UInt8 := [42, 180, 0, 34, 27, 182, 0, 127, 180, 0, 131, 172]
abbrev dktX1_shape_0 : List UInt8 := dkwX1_shape_0 ++ []
theorem dksX1_shape_0 : cX1_shape.data.toList.drop 0 = dktX1_shape_0 := by decide +kernel
theorem dX1_shape_0 : decode cX1_shape 0 = .ok (.aload_n 0, 1) := dk_42 (dk_at dksX1_shape_0 0 rfl rfl)
theorem dX1_shape_1 : decode cX1_shape 1 = .ok (.getfield 34, 3) := dk_180 0 34 (dk_at dksX1_shape_0 1 rfl rfl)
theorem dX1_shape_4 : decode cX1_shape 4 = .ok (.iload_n 1, 1) := dk_27 (dk_at dksX1_shape_0 4 rfl rfl)
theorem dX1_shape_5 : decode cX1_shape 5 = .ok (.invokevirtual 127, 3) := dk_182 0 127 (dk_at dksX1_shape_0 5 rfl rfl)
theorem dX1_shape_8 : decode cX1_shape 8 = .ok (.getfield 131, 3) := dk_180 0 131 (dk_at dksX1_shape_0 8 rfl rfl)
theorem dX1_shape_11 : decode cX1_shape 11 = .ok (.ireturn, 1) := dk_172 (dk_at dksX1_shape_0 11 rfl rfl)
abbrev cX1_whiteness : ByteArray := prog_1_method_19_code
def yX1_whiteness : MethodName := ⟨RX1, "whiteness", "(I)I"⟩
def dkwX1_whiteness_0 : List UInt8 := [42, 180, 0, 34, 27, 182, 0, 127, 180, 0, 135, 172]
abbrev dktX1_whiteness_0 : List UInt8 := dkwX1_whiteness_0 ++ []
theorem dksX1_whiteness_0 : cX1_whiteness.data.toList.drop 0 = dktX1_whiteness_0 := by decide +kernel
theorem dX1_whiteness_0 : decode cX1_whiteness 0 = .ok (.aload_n 0, 1) := dk_42 (dk_at dksX1_whiteness_0 0 rfl rfl)
theorem dX1_whiteness_1 : decode cX1_whiteness 1 = .ok (.getfield 34, 3) := dk_180 0 34 (dk_at dksX1_whiteness_0 1 rfl rfl)
theorem dX1_whiteness_4 : decode cX1_whiteness 4 = .ok (.iload_n 1, 1) := dk_27 (dk_at dksX1_whiteness_0 4 rfl rfl)
theorem dX1_whiteness_5 : decode cX1_whiteness 5 = .ok (.invokevirtual 127, 3) := dk_182 0 127 (dk_at dksX1_whiteness_0 5 rfl rfl)
theorem dX1_whiteness_8 : decode cX1_whiteness 8 = .ok (.getfield 135, 3) := dk_180 0 135 (dk_at dksX1_whiteness_0 8 rfl rfl)
theorem dX1_whiteness_11 : decode cX1_whiteness 11 = .ok (.ireturn, 1) := dk_172 (dk_at dksX1_whiteness_0 11 rfl rfl)
abbrev cX1_rain : ByteArray := prog_1_method_20_code
def yX1_rain : MethodName := ⟨RX1, "rain", "(I)I"⟩
def dkwX1_rain_0 : List UInt8 := [42, 180, 0, 34, 27, 182, 0, 127, 180, 0, 138, 172]
abbrev dktX1_rain_0 : List UInt8 := dkwX1_rain_0 ++ []
theorem dksX1_rain_0 : cX1_rain.data.toList.drop 0 = dktX1_rain_0 := by decide +kernel
theorem dX1_rain_0 : decode cX1_rain 0 = .ok (.aload_n 0, 1) := dk_42 (dk_at dksX1_rain_0 0 rfl rfl)
theorem dX1_rain_1 : decode cX1_rain 1 = .ok (.getfield 34, 3) := dk_180 0 34 (dk_at dksX1_rain_0 1 rfl rfl)
theorem dX1_rain_4 : decode cX1_rain 4 = .ok (.iload_n 1, 1) := dk_27 (dk_at dksX1_rain_0 4 rfl rfl)
theorem dX1_rain_5 : decode cX1_rain 5 = .ok (.invokevirtual 127, 3) := dk_182 0 127 (dk_at dksX1_rain_0 5 rfl rfl)
theorem dX1_rain_8 : decode cX1_rain 8 = .ok (.getfield 138, 3) := dk_180 0 138 (dk_at dksX1_rain_0 8 rfl rfl)
theorem dX1_rain_11 : decode cX1_rain 11 = .ok (.ireturn, 1) := dk_172 (dk_at dksX1_rain_0 11 rfl rfl)
abbrev cX1_coins : ByteArray := prog_1_method_21_code
def yX1_coins : MethodName := ⟨RX1, "coins", "(I)I"⟩
def dkwX1_coins_0 : List UInt8 := [42, 180, 0, 34, 27, 182, 0, 127, 180, 0, 141, 172]
abbrev dktX1_coins_0 : List UInt8 := dkwX1_coins_0 ++ []
theorem dksX1_coins_0 : cX1_coins.data.toList.drop 0 = dktX1_coins_0 := by decide +kernel
theorem dX1_coins_0 : decode cX1_coins 0 = .ok (.aload_n 0, 1) := dk_42 (dk_at dksX1_coins_0 0 rfl rfl)
theorem dX1_coins_1 : decode cX1_coins 1 = .ok (.getfield 34, 3) := dk_180 0 34 (dk_at dksX1_coins_0 1 rfl rfl)
theorem dX1_coins_4 : decode cX1_coins 4 = .ok (.iload_n 1, 1) := dk_27 (dk_at dksX1_coins_0 4 rfl rfl)
theorem dX1_coins_5 : decode cX1_coins 5 = .ok (.invokevirtual 127, 3) := dk_182 0 127 (dk_at dksX1_coins_0 5 rfl rfl)
theorem dX1_coins_8 : decode cX1_coins 8 = .ok (.getfield 141, 3) := dk_180 0 141 (dk_at dksX1_coins_0 8 rfl rfl)
theorem dX1_coins_11 : decode cX1_coins 11 = .ok (.ireturn, 1) := dk_172 (dk_at dksX1_coins_0 11 rfl rfl)
abbrev cX1_isHired : ByteArray := prog_1_method_22_code
def yX1_isHired : MethodName := ⟨RX1, "isHired", "(I)Z"⟩
def dkwX1_isHired_0 : List UInt8 := [42, 180, 0, 34, 27, 182, 0, 127, 182, 0, 144, 172]
abbrev dktX1_isHired_0 : List UInt8 := dkwX1_isHired_0 ++ []
theorem dksX1_isHired_0 : cX1_isHired.data.toList.drop 0 = dktX1_isHired_0 := by decide +kernel
theorem dX1_isHired_0 : decode cX1_isHired 0 = .ok (.aload_n 0, 1) := dk_42 (dk_at dksX1_isHired_0 0 rfl rfl)
theorem dX1_isHired_1 : decode cX1_isHired 1 = .ok (.getfield 34, 3) := dk_180 0 34 (dk_at dksX1_isHired_0 1 rfl rfl)
theorem dX1_isHired_4 : decode cX1_isHired 4 = .ok (.iload_n 1, 1) := dk_27 (dk_at dksX1_isHired_0 4 rfl rfl)
theorem dX1_isHired_5 : decode cX1_isHired 5 = .ok (.invokevirtual 127, 3) := dk_182 0 127 (dk_at dksX1_isHired_0 5 rfl rfl)
theorem dX1_isHired_8 : decode cX1_isHired 8 = .ok (.invokevirtual 144, 3) := dk_182 0 144 (dk_at dksX1_isHired_0 8 rfl rfl)
theorem dX1_isHired_11 : decode cX1_isHired 11 = .ok (.ireturn, 1) := dk_172 (dk_at dksX1_isHired_0 11 rfl rfl)
abbrev cX1_postOf : ByteArray := prog_1_method_23_code
def yX1_postOf : MethodName := ⟨RX1, "postOf", "(I)I"⟩
def dkwX1_postOf_1 : List UInt8 := [182, 0, 156, 172]
abbrev dktX1_postOf_1 : List UInt8 := dkwX1_postOf_1 ++ []
def dkwX1_postOf_0 : List UInt8 := [42, 180, 0, 34, 27, 182, 0, 127, 77, 44, 182, 0, 144, 184, 0, 148, 42, 180, 0, 34, 44, 180, 0, 152]
abbrev dktX1_postOf_0 : List UInt8 := dkwX1_postOf_0 ++ dktX1_postOf_1
theorem dksX1_postOf_0 : cX1_postOf.data.toList.drop 0 = dktX1_postOf_0 := by decide +kernel
theorem dksX1_postOf_1 : cX1_postOf.data.toList.drop 24 = dktX1_postOf_1 := dk_seg dksX1_postOf_0 24 rfl rfl
theorem dX1_postOf_0 : decode cX1_postOf 0 = .ok (.aload_n 0, 1) := dk_42 (dk_at dksX1_postOf_0 0 rfl rfl)
theorem dX1_postOf_1 : decode cX1_postOf 1 = .ok (.getfield 34, 3) := dk_180 0 34 (dk_at dksX1_postOf_0 1 rfl rfl)
theorem dX1_postOf_4 : decode cX1_postOf 4 = .ok (.iload_n 1, 1) := dk_27 (dk_at dksX1_postOf_0 4 rfl rfl)
theorem dX1_postOf_5 : decode cX1_postOf 5 = .ok (.invokevirtual 127, 3) := dk_182 0 127 (dk_at dksX1_postOf_0 5 rfl rfl)
theorem dX1_postOf_8 : decode cX1_postOf 8 = .ok (.astore_n 2, 1) := dk_77 (dk_at dksX1_postOf_0 8 rfl rfl)
theorem dX1_postOf_9 : decode cX1_postOf 9 = .ok (.aload_n 2, 1) := dk_44 (dk_at dksX1_postOf_0 9 rfl rfl)
theorem dX1_postOf_10 : decode cX1_postOf 10 = .ok (.invokevirtual 144, 3) := dk_182 0 144 (dk_at dksX1_postOf_0 10 rfl rfl)
theorem dX1_postOf_13 : decode cX1_postOf 13 = .ok (.invokestatic 148, 3) := dk_184 0 148 (dk_at dksX1_postOf_0 13 rfl rfl)
theorem dX1_postOf_16 : decode cX1_postOf 16 = .ok (.aload_n 0, 1) := dk_42 (dk_at dksX1_postOf_0 16 rfl rfl)
theorem dX1_postOf_17 : decode cX1_postOf 17 = .ok (.getfield 34, 3) := dk_180 0 34 (dk_at dksX1_postOf_0 17 rfl rfl)
theorem dX1_postOf_20 : decode cX1_postOf 20 = .ok (.aload_n 2, 1) := dk_44 (dk_at dksX1_postOf_0 20 rfl rfl)
theorem dX1_postOf_21 : decode cX1_postOf 21 = .ok (.getfield 152, 3) := dk_180 0 152 (dk_at dksX1_postOf_0 21 rfl rfl)
theorem dX1_postOf_24 : decode cX1_postOf 24 = .ok (.invokevirtual 156, 3) := dk_182 0 156 (dk_at dksX1_postOf_1 0 rfl rfl)
theorem dX1_postOf_27 : decode cX1_postOf 27 = .ok (.ireturn, 1) := dk_172 (dk_at dksX1_postOf_1 3 rfl rfl)
abbrev cX1_score : ByteArray := prog_1_method_24_code
def yX1_score : MethodName := ⟨RX1, "score", "(I)I"⟩
def dkwX1_score_0 : List UInt8 := [42, 180, 0, 34, 42, 180, 0, 34, 27, 182, 0, 127, 182, 0, 160, 172]
abbrev dktX1_score_0 : List UInt8 := dkwX1_score_0 ++ []
theorem dksX1_score_0 : cX1_score.data.toList.drop 0 = dktX1_score_0 := by decide +kernel
theorem dX1_score_0 : decode cX1_score 0 = .ok (.aload_n 0, 1) := dk_42 (dk_at dksX1_score_0 0 rfl rfl)
theorem dX1_score_1 : decode cX1_score 1 = .ok (.getfield 34, 3) := dk_180 0 34 (dk_at dksX1_score_0 1 rfl rfl)
theorem dX1_score_4 : decode cX1_score 4 = .ok (.aload_n 0, 1) := dk_42 (dk_at dksX1_score_0 4 rfl rfl)
theorem dX1_score_5 : decode cX1_score 5 = .ok (.getfield 34, 3) := dk_180 0 34 (dk_at dksX1_score_0 5 rfl rfl)
theorem dX1_score_8 : decode cX1_score 8 = .ok (.iload_n 1, 1) := dk_27 (dk_at dksX1_score_0 8 rfl rfl)
theorem dX1_score_9 : decode cX1_score 9 = .ok (.invokevirtual 127, 3) := dk_182 0 127 (dk_at dksX1_score_0 9 rfl rfl)
theorem dX1_score_12 : decode cX1_score 12 = .ok (.invokevirtual 160, 3) := dk_182 0 160 (dk_at dksX1_score_0 12 rfl rfl)
theorem dX1_score_15 : decode cX1_score 15 = .ok (.ireturn, 1) := dk_172 (dk_at dksX1_score_0 15 rfl rfl)
abbrev cX1_applicantByScore : ByteArray := prog_1_method_25_code
def yX1_applicantByScore : MethodName := ⟨RX1, "applicantByScore", "(I)I"⟩
def dkwX1_applicantByScore_0 : List UInt8 := [42, 180, 0, 34, 27, 182, 0, 164, 172]
abbrev dktX1_applicantByScore_0 : List UInt8 := dkwX1_applicantByScore_0 ++ []
theorem dksX1_applicantByScore_0 : cX1_applicantByScore.data.toList.drop 0 = dktX1_applicantByScore_0 := by decide +kernel
theorem dX1_applicantByScore_0 : decode cX1_applicantByScore 0 = .ok (.aload_n 0, 1) := dk_42 (dk_at dksX1_applicantByScore_0 0 rfl rfl)
theorem dX1_applicantByScore_1 : decode cX1_applicantByScore 1 = .ok (.getfield 34, 3) := dk_180 0 34 (dk_at dksX1_applicantByScore_0 1 rfl rfl)
theorem dX1_applicantByScore_4 : decode cX1_applicantByScore 4 = .ok (.iload_n 1, 1) := dk_27 (dk_at dksX1_applicantByScore_0 4 rfl rfl)
theorem dX1_applicantByScore_5 : decode cX1_applicantByScore 5 = .ok (.invokevirtual 164, 3) := dk_182 0 164 (dk_at dksX1_applicantByScore_0 5 rfl rfl)
theorem dX1_applicantByScore_8 : decode cX1_applicantByScore 8 = .ok (.ireturn, 1) := dk_172 (dk_at dksX1_applicantByScore_0 8 rfl rfl)
abbrev cX1_addReference : ByteArray := prog_1_method_26_code
def yX1_addReference : MethodName := ⟨RX1, "addReference", "(II)I"⟩
def dkwX1_addReference_0 : List UInt8 := [42, 18, 168, 5, 188, 10, 89, 3, 27, 79, 89, 4, 28, 79, 182, 0, 96, 172]
abbrev dktX1_addReference_0 : List UInt8 := dkwX1_addReference_0 ++ []
theorem dksX1_addReference_0 : cX1_addReference.data.toList.drop 0 = dktX1_addReference_0 := by decide +kernel
theorem dX1_addReference_0 : decode cX1_addReference 0 = .ok (.aload_n 0, 1) := dk_42 (dk_at dksX1_addReference_0 0 rfl rfl)
theorem dX1_addReference_1 : decode cX1_addReference 1 = .ok (.ldc 168, 2) := dk_18 168 (dk_at dksX1_addReference_0 1 rfl rfl)
theorem dX1_addReference_3 : decode cX1_addReference 3 = .ok (.iconst 2, 1) := dk_5 (dk_at dksX1_addReference_0 3 rfl rfl)
theorem dX1_addReference_4 : decode cX1_addReference 4 = .ok (.newarray .int, 2) := dk_188_10 (dk_at dksX1_addReference_0 4 rfl rfl)
theorem dX1_addReference_6 : decode cX1_addReference 6 = .ok (.dup, 1) := dk_89 (dk_at dksX1_addReference_0 6 rfl rfl)
theorem dX1_addReference_7 : decode cX1_addReference 7 = .ok (.iconst 0, 1) := dk_3 (dk_at dksX1_addReference_0 7 rfl rfl)
theorem dX1_addReference_8 : decode cX1_addReference 8 = .ok (.iload_n 1, 1) := dk_27 (dk_at dksX1_addReference_0 8 rfl rfl)
theorem dX1_addReference_9 : decode cX1_addReference 9 = .ok (.iastore, 1) := dk_79 (dk_at dksX1_addReference_0 9 rfl rfl)
theorem dX1_addReference_10 : decode cX1_addReference 10 = .ok (.dup, 1) := dk_89 (dk_at dksX1_addReference_0 10 rfl rfl)
theorem dX1_addReference_11 : decode cX1_addReference 11 = .ok (.iconst 1, 1) := dk_4 (dk_at dksX1_addReference_0 11 rfl rfl)
theorem dX1_addReference_12 : decode cX1_addReference 12 = .ok (.iload_n 2, 1) := dk_28 (dk_at dksX1_addReference_0 12 rfl rfl)
theorem dX1_addReference_13 : decode cX1_addReference 13 = .ok (.iastore, 1) := dk_79 (dk_at dksX1_addReference_0 13 rfl rfl)
theorem dX1_addReference_14 : decode cX1_addReference 14 = .ok (.invokevirtual 96, 3) := dk_182 0 96 (dk_at dksX1_addReference_0 14 rfl rfl)
theorem dX1_addReference_17 : decode cX1_addReference 17 = .ok (.ireturn, 1) := dk_172 (dk_at dksX1_addReference_0 17 rfl rfl)
abbrev cX1_removeReference : ByteArray := prog_1_method_27_code
def yX1_removeReference : MethodName := ⟨RX1, "removeReference", "(II)I"⟩
def dkwX1_removeReference_0 : List UInt8 := [42, 18, 170, 5, 188, 10, 89, 3, 27, 79, 89, 4, 28, 79, 182, 0, 96, 172]
abbrev dktX1_removeReference_0 : List UInt8 := dkwX1_removeReference_0 ++ []
theorem dksX1_removeReference_0 : cX1_removeReference.data.toList.drop 0 = dktX1_removeReference_0 := by decide +kernel
theorem dX1_removeReference_0 : decode cX1_removeReference 0 = .ok (.aload_n 0, 1) := dk_42 (dk_at dksX1_removeReference_0 0 rfl rfl)
theorem dX1_removeReference_1 : decode cX1_removeReference 1 = .ok (.ldc 170, 2) := dk_18 170 (dk_at dksX1_removeReference_0 1 rfl rfl)
theorem dX1_removeReference_3 : decode cX1_removeReference 3 = .ok (.iconst 2, 1) := dk_5 (dk_at dksX1_removeReference_0 3 rfl rfl)
theorem dX1_removeReference_4 : decode cX1_removeReference 4 = .ok (.newarray .int, 2) := dk_188_10 (dk_at dksX1_removeReference_0 4 rfl rfl)
theorem dX1_removeReference_6 : decode cX1_removeReference 6 = .ok (.dup, 1) := dk_89 (dk_at dksX1_removeReference_0 6 rfl rfl)
theorem dX1_removeReference_7 : decode cX1_removeReference 7 = .ok (.iconst 0, 1) := dk_3 (dk_at dksX1_removeReference_0 7 rfl rfl)
theorem dX1_removeReference_8 : decode cX1_removeReference 8 = .ok (.iload_n 1, 1) := dk_27 (dk_at dksX1_removeReference_0 8 rfl rfl)
theorem dX1_removeReference_9 : decode cX1_removeReference 9 = .ok (.iastore, 1) := dk_79 (dk_at dksX1_removeReference_0 9 rfl rfl)
theorem dX1_removeReference_10 : decode cX1_removeReference 10 = .ok (.dup, 1) := dk_89 (dk_at dksX1_removeReference_0 10 rfl rfl)
theorem dX1_removeReference_11 : decode cX1_removeReference 11 = .ok (.iconst 1, 1) := dk_4 (dk_at dksX1_removeReference_0 11 rfl rfl)
theorem dX1_removeReference_12 : decode cX1_removeReference 12 = .ok (.iload_n 2, 1) := dk_28 (dk_at dksX1_removeReference_0 12 rfl rfl)
theorem dX1_removeReference_13 : decode cX1_removeReference 13 = .ok (.iastore, 1) := dk_79 (dk_at dksX1_removeReference_0 13 rfl rfl)
theorem dX1_removeReference_14 : decode cX1_removeReference 14 = .ok (.invokevirtual 96, 3) := dk_182 0 96 (dk_at dksX1_removeReference_0 14 rfl rfl)
theorem dX1_removeReference_17 : decode cX1_removeReference 17 = .ok (.ireturn, 1) := dk_172 (dk_at dksX1_removeReference_0 17 rfl rfl)
abbrev cX1_hasReference : ByteArray := prog_1_method_28_code
def yX1_hasReference : MethodName := ⟨RX1, "hasReference", "(II)Z"⟩
def dkwX1_hasReference_1 : List UInt8 := [180, 0, 124, 182, 0, 172, 172]
abbrev dktX1_hasReference_1 : List UInt8 := dkwX1_hasReference_1 ++ []
def dkwX1_hasReference_0 : List UInt8 := [42, 180, 0, 34, 42, 180, 0, 34, 27, 182, 0, 127, 180, 0, 124, 42, 180, 0, 34, 28, 182, 0, 127]
abbrev dktX1_hasReference_0 : List UInt8 := dkwX1_hasReference_0 ++ dktX1_hasReference_1
theorem dksX1_hasReference_0 : cX1_hasReference.data.toList.drop 0 = dktX1_hasReference_0 := by decide +kernel
theorem dksX1_hasReference_1 : cX1_hasReference.data.toList.drop 23 = dktX1_hasReference_1 := dk_seg dksX1_hasReference_0 23 rfl rfl
theorem dX1_hasReference_0 : decode cX1_hasReference 0 = .ok (.aload_n 0, 1) := dk_42 (dk_at dksX1_hasReference_0 0 rfl rfl)
theorem dX1_hasReference_1 : decode cX1_hasReference 1 = .ok (.getfield 34, 3) := dk_180 0 34 (dk_at dksX1_hasReference_0 1 rfl rfl)
theorem dX1_hasReference_4 : decode cX1_hasReference 4 = .ok (.aload_n 0, 1) := dk_42 (dk_at dksX1_hasReference_0 4 rfl rfl)
theorem dX1_hasReference_5 : decode cX1_hasReference 5 = .ok (.getfield 34, 3) := dk_180 0 34 (dk_at dksX1_hasReference_0 5 rfl rfl)
theorem dX1_hasReference_8 : decode cX1_hasReference 8 = .ok (.iload_n 1, 1) := dk_27 (dk_at dksX1_hasReference_0 8 rfl rfl)
theorem dX1_hasReference_9 : decode cX1_hasReference 9 = .ok (.invokevirtual 127, 3) := dk_182 0 127 (dk_at dksX1_hasReference_0 9 rfl rfl)
theorem dX1_hasReference_12 : decode cX1_hasReference 12 = .ok (.getfield 124, 3) := dk_180 0 124 (dk_at dksX1_hasReference_0 12 rfl rfl)
theorem dX1_hasReference_15 : decode cX1_hasReference 15 = .ok (.aload_n 0, 1) := dk_42 (dk_at dksX1_hasReference_0 15 rfl rfl)
theorem dX1_hasReference_16 : decode cX1_hasReference 16 = .ok (.getfield 34, 3) := dk_180 0 34 (dk_at dksX1_hasReference_0 16 rfl rfl)
theorem dX1_hasReference_19 : decode cX1_hasReference 19 = .ok (.iload_n 2, 1) := dk_28 (dk_at dksX1_hasReference_0 19 rfl rfl)
theorem dX1_hasReference_20 : decode cX1_hasReference 20 = .ok (.invokevirtual 127, 3) := dk_182 0 127 (dk_at dksX1_hasReference_0 20 rfl rfl)
theorem dX1_hasReference_23 : decode cX1_hasReference 23 = .ok (.getfield 124, 3) := dk_180 0 124 (dk_at dksX1_hasReference_1 0 rfl rfl)
theorem dX1_hasReference_26 : decode cX1_hasReference 26 = .ok (.invokevirtual 172, 3) := dk_182 0 172 (dk_at dksX1_hasReference_1 3 rfl rfl)
theorem dX1_hasReference_29 : decode cX1_hasReference 29 = .ok (.ireturn, 1) := dk_172 (dk_at dksX1_hasReference_1 6 rfl rfl)
abbrev cX1_referencesFor : ByteArray := prog_1_method_29_code
def yX1_referencesFor : MethodName := ⟨RX1, "referencesFor", "(I)I"⟩
def dkwX1_referencesFor_0 : List UInt8 := [42, 180, 0, 34, 42, 180, 0, 34, 27, 182, 0, 127, 180, 0, 124, 182, 0, 176, 172]
abbrev dktX1_referencesFor_0 : List UInt8 := dkwX1_referencesFor_0 ++ []
theorem dksX1_referencesFor_0 : cX1_referencesFor.data.toList.drop 0 = dktX1_referencesFor_0 := by decide +kernel
theorem dX1_referencesFor_0 : decode cX1_referencesFor 0 = .ok (.aload_n 0, 1) := dk_42 (dk_at dksX1_referencesFor_0 0 rfl rfl)
theorem dX1_referencesFor_1 : decode cX1_referencesFor 1 = .ok (.getfield 34, 3) := dk_180 0 34 (dk_at dksX1_referencesFor_0 1 rfl rfl)
theorem dX1_referencesFor_4 : decode cX1_referencesFor 4 = .ok (.aload_n 0, 1) := dk_42 (dk_at dksX1_referencesFor_0 4 rfl rfl)
theorem dX1_referencesFor_5 : decode cX1_referencesFor 5 = .ok (.getfield 34, 3) := dk_180 0 34 (dk_at dksX1_referencesFor_0 5 rfl rfl)
theorem dX1_referencesFor_8 : decode cX1_referencesFor 8 = .ok (.iload_n 1, 1) := dk_27 (dk_at dksX1_referencesFor_0 8 rfl rfl)
theorem dX1_referencesFor_9 : decode cX1_referencesFor 9 = .ok (.invokevirtual 127, 3) := dk_182 0 127 (dk_at dksX1_referencesFor_0 9 rfl rfl)
theorem dX1_referencesFor_12 : decode cX1_referencesFor 12 = .ok (.getfield 124, 3) := dk_180 0 124 (dk_at dksX1_referencesFor_0 12 rfl rfl)
theorem dX1_referencesFor_15 : decode cX1_referencesFor 15 = .ok (.invokevirtual 176, 3) := dk_182 0 176 (dk_at dksX1_referencesFor_0 15 rfl rfl)
theorem dX1_referencesFor_18 : decode cX1_referencesFor 18 = .ok (.ireturn, 1) := dk_172 (dk_at dksX1_referencesFor_0 18 rfl rfl)
abbrev cX1_referencesFrom : ByteArray := prog_1_method_30_code
def yX1_referencesFrom : MethodName := ⟨RX1, "referencesFrom", "(I)I"⟩
def dkwX1_referencesFrom_0 : List UInt8 := [42, 180, 0, 34, 42, 180, 0, 34, 27, 182, 0, 127, 180, 0, 124, 182, 0, 179, 172]
abbrev dktX1_referencesFrom_0 : List UInt8 := dkwX1_referencesFrom_0 ++ []
theorem dksX1_referencesFrom_0 : cX1_referencesFrom.data.toList.drop 0 = dktX1_referencesFrom_0 := by decide +kernel
theorem dX1_referencesFrom_0 : decode cX1_referencesFrom 0 = .ok (.aload_n 0, 1) := dk_42 (dk_at dksX1_referencesFrom_0 0 rfl rfl)
theorem dX1_referencesFrom_1 : decode cX1_referencesFrom 1 = .ok (.getfield 34, 3) := dk_180 0 34 (dk_at dksX1_referencesFrom_0 1 rfl rfl)
theorem dX1_referencesFrom_4 : decode cX1_referencesFrom 4 = .ok (.aload_n 0, 1) := dk_42 (dk_at dksX1_referencesFrom_0 4 rfl rfl)
theorem dX1_referencesFrom_5 : decode cX1_referencesFrom 5 = .ok (.getfield 34, 3) := dk_180 0 34 (dk_at dksX1_referencesFrom_0 5 rfl rfl)
theorem dX1_referencesFrom_8 : decode cX1_referencesFrom 8 = .ok (.iload_n 1, 1) := dk_27 (dk_at dksX1_referencesFrom_0 8 rfl rfl)
theorem dX1_referencesFrom_9 : decode cX1_referencesFrom 9 = .ok (.invokevirtual 127, 3) := dk_182 0 127 (dk_at dksX1_referencesFrom_0 9 rfl rfl)
theorem dX1_referencesFrom_12 : decode cX1_referencesFrom 12 = .ok (.getfield 124, 3) := dk_180 0 124 (dk_at dksX1_referencesFrom_0 12 rfl rfl)
theorem dX1_referencesFrom_15 : decode cX1_referencesFrom 15 = .ok (.invokevirtual 179, 3) := dk_182 0 179 (dk_at dksX1_referencesFrom_0 15 rfl rfl)
theorem dX1_referencesFrom_18 : decode cX1_referencesFrom 18 = .ok (.ireturn, 1) := dk_172 (dk_at dksX1_referencesFrom_0 18 rfl rfl)
abbrev cX1_openPost : ByteArray := prog_1_method_31_code
def yX1_openPost : MethodName := ⟨RX1, "openPost", "(CIII)I"⟩
def dkwX1_openPost_1 : List UInt8 := [182, 0, 96, 172]
abbrev dktX1_openPost_1 : List UInt8 := dkwX1_openPost_1 ++ []
def dkwX1_openPost_0 : List UInt8 := [42, 18, 182, 7, 188, 10, 89, 3, 27, 79, 89, 4, 28, 79, 89, 5, 29, 79, 89, 6, 21, 4, 79]
abbrev dktX1_openPost_0 : List UInt8 := dkwX1_openPost_0 ++ dktX1_openPost_1
theorem dksX1_openPost_0 : cX1_openPost.data.toList.drop 0 = dktX1_openPost_0 := by decide +kernel
theorem dksX1_openPost_1 : cX1_openPost.data.toList.drop 23 = dktX1_openPost_1 := dk_seg dksX1_openPost_0 23 rfl rfl
theorem dX1_openPost_0 : decode cX1_openPost 0 = .ok (.aload_n 0, 1) := dk_42 (dk_at dksX1_openPost_0 0 rfl rfl)
theorem dX1_openPost_1 : decode cX1_openPost 1 = .ok (.ldc 182, 2) := dk_18 182 (dk_at dksX1_openPost_0 1 rfl rfl)
theorem dX1_openPost_3 : decode cX1_openPost 3 = .ok (.iconst 4, 1) := dk_7 (dk_at dksX1_openPost_0 3 rfl rfl)
theorem dX1_openPost_4 : decode cX1_openPost 4 = .ok (.newarray .int, 2) := dk_188_10 (dk_at dksX1_openPost_0 4 rfl rfl)
theorem dX1_openPost_6 : decode cX1_openPost 6 = .ok (.dup, 1) := dk_89 (dk_at dksX1_openPost_0 6 rfl rfl)
theorem dX1_openPost_7 : decode cX1_openPost 7 = .ok (.iconst 0, 1) := dk_3 (dk_at dksX1_openPost_0 7 rfl rfl)
theorem dX1_openPost_8 : decode cX1_openPost 8 = .ok (.iload_n 1, 1) := dk_27 (dk_at dksX1_openPost_0 8 rfl rfl)
theorem dX1_openPost_9 : decode cX1_openPost 9 = .ok (.iastore, 1) := dk_79 (dk_at dksX1_openPost_0 9 rfl rfl)
theorem dX1_openPost_10 : decode cX1_openPost 10 = .ok (.dup, 1) := dk_89 (dk_at dksX1_openPost_0 10 rfl rfl)
theorem dX1_openPost_11 : decode cX1_openPost 11 = .ok (.iconst 1, 1) := dk_4 (dk_at dksX1_openPost_0 11 rfl rfl)
theorem dX1_openPost_12 : decode cX1_openPost 12 = .ok (.iload_n 2, 1) := dk_28 (dk_at dksX1_openPost_0 12 rfl rfl)
theorem dX1_openPost_13 : decode cX1_openPost 13 = .ok (.iastore, 1) := dk_79 (dk_at dksX1_openPost_0 13 rfl rfl)
theorem dX1_openPost_14 : decode cX1_openPost 14 = .ok (.dup, 1) := dk_89 (dk_at dksX1_openPost_0 14 rfl rfl)
theorem dX1_openPost_15 : decode cX1_openPost 15 = .ok (.iconst 2, 1) := dk_5 (dk_at dksX1_openPost_0 15 rfl rfl)
theorem dX1_openPost_16 : decode cX1_openPost 16 = .ok (.iload_n 3, 1) := dk_29 (dk_at dksX1_openPost_0 16 rfl rfl)
theorem dX1_openPost_17 : decode cX1_openPost 17 = .ok (.iastore, 1) := dk_79 (dk_at dksX1_openPost_0 17 rfl rfl)
theorem dX1_openPost_18 : decode cX1_openPost 18 = .ok (.dup, 1) := dk_89 (dk_at dksX1_openPost_0 18 rfl rfl)
theorem dX1_openPost_19 : decode cX1_openPost 19 = .ok (.iconst 3, 1) := dk_6 (dk_at dksX1_openPost_0 19 rfl rfl)
theorem dX1_openPost_20 : decode cX1_openPost 20 = .ok (.iload 4, 2) := dk_21 4 (dk_at dksX1_openPost_0 20 rfl rfl)
theorem dX1_openPost_22 : decode cX1_openPost 22 = .ok (.iastore, 1) := dk_79 (dk_at dksX1_openPost_0 22 rfl rfl)
theorem dX1_openPost_23 : decode cX1_openPost 23 = .ok (.invokevirtual 96, 3) := dk_182 0 96 (dk_at dksX1_openPost_1 0 rfl rfl)
theorem dX1_openPost_26 : decode cX1_openPost 26 = .ok (.ireturn, 1) := dk_172 (dk_at dksX1_openPost_1 3 rfl rfl)
abbrev cX1_closePost : ByteArray := prog_1_method_32_code
def yX1_closePost : MethodName := ⟨RX1, "closePost", "(I)Z"⟩
def dkwX1_closePost_0 : List UInt8 := [42, 18, 184, 4, 188, 10, 89, 3, 27, 79, 182, 0, 96, 4, 160, 0, 7, 4, 167, 0, 4, 3, 172]
abbrev dktX1_closePost_0 : List UInt8 := dkwX1_closePost_0 ++ []
theorem dksX1_closePost_0 : cX1_closePost.data.toList.drop 0 = dktX1_closePost_0 := by decide +kernel
theorem dX1_closePost_0 : decode cX1_closePost 0 = .ok (.aload_n 0, 1) := dk_42 (dk_at dksX1_closePost_0 0 rfl rfl)
theorem dX1_closePost_1 : decode cX1_closePost 1 = .ok (.ldc 184, 2) := dk_18 184 (dk_at dksX1_closePost_0 1 rfl rfl)
theorem dX1_closePost_3 : decode cX1_closePost 3 = .ok (.iconst 1, 1) := dk_4 (dk_at dksX1_closePost_0 3 rfl rfl)
theorem dX1_closePost_4 : decode cX1_closePost 4 = .ok (.newarray .int, 2) := dk_188_10 (dk_at dksX1_closePost_0 4 rfl rfl)
theorem dX1_closePost_6 : decode cX1_closePost 6 = .ok (.dup, 1) := dk_89 (dk_at dksX1_closePost_0 6 rfl rfl)
theorem dX1_closePost_7 : decode cX1_closePost 7 = .ok (.iconst 0, 1) := dk_3 (dk_at dksX1_closePost_0 7 rfl rfl)
theorem dX1_closePost_8 : decode cX1_closePost 8 = .ok (.iload_n 1, 1) := dk_27 (dk_at dksX1_closePost_0 8 rfl rfl)
theorem dX1_closePost_9 : decode cX1_closePost 9 = .ok (.iastore, 1) := dk_79 (dk_at dksX1_closePost_0 9 rfl rfl)
theorem dX1_closePost_10 : decode cX1_closePost 10 = .ok (.invokevirtual 96, 3) := dk_182 0 96 (dk_at dksX1_closePost_0 10 rfl rfl)
theorem dX1_closePost_13 : decode cX1_closePost 13 = .ok (.iconst 1, 1) := dk_4 (dk_at dksX1_closePost_0 13 rfl rfl)
theorem dX1_closePost_14 : decode cX1_closePost 14 = .ok (.if_icmp .ne 7, 3) := dk_160 0 7 (dk_at dksX1_closePost_0 14 rfl rfl)
theorem dX1_closePost_17 : decode cX1_closePost 17 = .ok (.iconst 1, 1) := dk_4 (dk_at dksX1_closePost_0 17 rfl rfl)
theorem dX1_closePost_18 : decode cX1_closePost 18 = .ok (.goto 4, 3) := dk_167 0 4 (dk_at dksX1_closePost_0 18 rfl rfl)
theorem dX1_closePost_21 : decode cX1_closePost 21 = .ok (.iconst 0, 1) := dk_3 (dk_at dksX1_closePost_0 21 rfl rfl)
theorem dX1_closePost_22 : decode cX1_closePost 22 = .ok (.ireturn, 1) := dk_172 (dk_at dksX1_closePost_0 22 rfl rfl)
abbrev cX1_requiredShape : ByteArray := prog_1_method_35_code
def yX1_requiredShape : MethodName := ⟨RX1, "requiredShape", "(I)C"⟩
def dkwX1_requiredShape_0 : List UInt8 := [42, 180, 0, 34, 27, 182, 0, 192, 180, 0, 195, 172]
abbrev dktX1_requiredShape_0 : List UInt8 := dkwX1_requiredShape_0 ++ []
theorem dksX1_requiredShape_0 : cX1_requiredShape.data.toList.drop 0 = dktX1_requiredShape_0 := by decide +kernel
theorem dX1_requiredShape_0 : decode cX1_requiredShape 0 = .ok (.aload_n 0, 1) := dk_42 (dk_at dksX1_requiredShape_0 0 rfl rfl)
theorem dX1_requiredShape_1 : decode cX1_requiredShape 1 = .ok (.getfield 34, 3) := dk_180 0 34 (dk_at dksX1_requiredShape_0 1 rfl rfl)
theorem dX1_requiredShape_4 : decode cX1_requiredShape 4 = .ok (.iload_n 1, 1) := dk_27 (dk_at dksX1_requiredShape_0 4 rfl rfl)
theorem dX1_requiredShape_5 : decode cX1_requiredShape 5 = .ok (.invokevirtual 192, 3) := dk_182 0 192 (dk_at dksX1_requiredShape_0 5 rfl rfl)
theorem dX1_requiredShape_8 : decode cX1_requiredShape 8 = .ok (.getfield 195, 3) := dk_180 0 195 (dk_at dksX1_requiredShape_0 8 rfl rfl)
theorem dX1_requiredShape_11 : decode cX1_requiredShape 11 = .ok (.ireturn, 1) := dk_172 (dk_at dksX1_requiredShape_0 11 rfl rfl)
abbrev cX1_lowestWhiteness : ByteArray := prog_1_method_36_code
def yX1_lowestWhiteness : MethodName := ⟨RX1, "lowestWhiteness", "(I)I"⟩
def dkwX1_lowestWhiteness_0 : List UInt8 := [42, 180, 0, 34, 27, 182, 0, 192, 180, 0, 198, 172]
abbrev dktX1_lowestWhiteness_0 : List UInt8 := dkwX1_lowestWhiteness_0 ++ []
theorem dksX1_lowestWhiteness_0 : cX1_lowestWhiteness.data.toList.drop 0 = dktX1_lowestWhiteness_0 := by decide +kernel
theorem dX1_lowestWhiteness_0 : decode cX1_lowestWhiteness 0 = .ok (.aload_n 0, 1) := dk_42 (dk_at dksX1_lowestWhiteness_0 0 rfl rfl)
theorem dX1_lowestWhiteness_1 : decode cX1_lowestWhiteness 1 = .ok (.getfield 34, 3) := dk_180 0 34 (dk_at dksX1_lowestWhiteness_0 1 rfl rfl)
theorem dX1_lowestWhiteness_4 : decode cX1_lowestWhiteness 4 = .ok (.iload_n 1, 1) := dk_27 (dk_at dksX1_lowestWhiteness_0 4 rfl rfl)
theorem dX1_lowestWhiteness_5 : decode cX1_lowestWhiteness 5 = .ok (.invokevirtual 192, 3) := dk_182 0 192 (dk_at dksX1_lowestWhiteness_0 5 rfl rfl)
theorem dX1_lowestWhiteness_8 : decode cX1_lowestWhiteness 8 = .ok (.getfield 198, 3) := dk_180 0 198 (dk_at dksX1_lowestWhiteness_0 8 rfl rfl)
theorem dX1_lowestWhiteness_11 : decode cX1_lowestWhiteness 11 = .ok (.ireturn, 1) := dk_172 (dk_at dksX1_lowestWhiteness_0 11 rfl rfl)
abbrev cX1_highestRain : ByteArray := prog_1_method_37_code
def yX1_highestRain : MethodName := ⟨RX1, "highestRain", "(I)I"⟩
def dkwX1_highestRain_0 : List UInt8 := [42, 180, 0, 34, 27, 182, 0, 192, 180, 0, 201, 172]
abbrev dktX1_highestRain_0 : List UInt8 := dkwX1_highestRain_0 ++ []
theorem dksX1_highestRain_0 : cX1_highestRain.data.toList.drop 0 = dktX1_highestRain_0 := by decide +kernel
theorem dX1_highestRain_0 : decode cX1_highestRain 0 = .ok (.aload_n 0, 1) := dk_42 (dk_at dksX1_highestRain_0 0 rfl rfl)
theorem dX1_highestRain_1 : decode cX1_highestRain 1 = .ok (.getfield 34, 3) := dk_180 0 34 (dk_at dksX1_highestRain_0 1 rfl rfl)
theorem dX1_highestRain_4 : decode cX1_highestRain 4 = .ok (.iload_n 1, 1) := dk_27 (dk_at dksX1_highestRain_0 4 rfl rfl)
theorem dX1_highestRain_5 : decode cX1_highestRain 5 = .ok (.invokevirtual 192, 3) := dk_182 0 192 (dk_at dksX1_highestRain_0 5 rfl rfl)
theorem dX1_highestRain_8 : decode cX1_highestRain 8 = .ok (.getfield 201, 3) := dk_180 0 201 (dk_at dksX1_highestRain_0 8 rfl rfl)
theorem dX1_highestRain_11 : decode cX1_highestRain 11 = .ok (.ireturn, 1) := dk_172 (dk_at dksX1_highestRain_0 11 rfl rfl)
abbrev cX1_wage : ByteArray := prog_1_method_38_code
def yX1_wage : MethodName := ⟨RX1, "wage", "(I)I"⟩
def dkwX1_wage_0 : List UInt8 := [42, 180, 0, 34, 27, 182, 0, 192, 180, 0, 204, 172]
abbrev dktX1_wage_0 : List UInt8 := dkwX1_wage_0 ++ []
theorem dksX1_wage_0 : cX1_wage.data.toList.drop 0 = dktX1_wage_0 := by decide +kernel
theorem dX1_wage_0 : decode cX1_wage 0 = .ok (.aload_n 0, 1) := dk_42 (dk_at dksX1_wage_0 0 rfl rfl)
theorem dX1_wage_1 : decode cX1_wage 1 = .ok (.getfield 34, 3) := dk_180 0 34 (dk_at dksX1_wage_0 1 rfl rfl)
theorem dX1_wage_4 : decode cX1_wage 4 = .ok (.iload_n 1, 1) := dk_27 (dk_at dksX1_wage_0 4 rfl rfl)
theorem dX1_wage_5 : decode cX1_wage 5 = .ok (.invokevirtual 192, 3) := dk_182 0 192 (dk_at dksX1_wage_0 5 rfl rfl)
theorem dX1_wage_8 : decode cX1_wage 8 = .ok (.getfield 204, 3) := dk_180 0 204 (dk_at dksX1_wage_0 8 rfl rfl)
theorem dX1_wage_11 : decode cX1_wage 11 = .ok (.ireturn, 1) := dk_172 (dk_at dksX1_wage_0 11 rfl rfl)
abbrev cX1_filledBy : ByteArray := prog_1_method_39_code
def yX1_filledBy : MethodName := ⟨RX1, "filledBy", "(I)I"⟩
def dkwX1_filledBy_1 : List UInt8 := [44, 180, 0, 210, 180, 0, 124, 172]
abbrev dktX1_filledBy_1 : List UInt8 := dkwX1_filledBy_1 ++ []
def dkwX1_filledBy_0 : List UInt8 := [42, 180, 0, 34, 27, 182, 0, 192, 77, 44, 182, 0, 207, 154, 0, 7, 4, 167, 0, 4, 3, 184, 0, 148]
abbrev dktX1_filledBy_0 : List UInt8 := dkwX1_filledBy_0 ++ dktX1_filledBy_1
theorem dksX1_filledBy_0 : cX1_filledBy.data.toList.drop 0 = dktX1_filledBy_0 := by decide +kernel
theorem dksX1_filledBy_1 : cX1_filledBy.data.toList.drop 24 = dktX1_filledBy_1 := dk_seg dksX1_filledBy_0 24 rfl rfl
theorem dX1_filledBy_0 : decode cX1_filledBy 0 = .ok (.aload_n 0, 1) := dk_42 (dk_at dksX1_filledBy_0 0 rfl rfl)
theorem dX1_filledBy_1 : decode cX1_filledBy 1 = .ok (.getfield 34, 3) := dk_180 0 34 (dk_at dksX1_filledBy_0 1 rfl rfl)
theorem dX1_filledBy_4 : decode cX1_filledBy 4 = .ok (.iload_n 1, 1) := dk_27 (dk_at dksX1_filledBy_0 4 rfl rfl)
theorem dX1_filledBy_5 : decode cX1_filledBy 5 = .ok (.invokevirtual 192, 3) := dk_182 0 192 (dk_at dksX1_filledBy_0 5 rfl rfl)
theorem dX1_filledBy_8 : decode cX1_filledBy 8 = .ok (.astore_n 2, 1) := dk_77 (dk_at dksX1_filledBy_0 8 rfl rfl)
theorem dX1_filledBy_9 : decode cX1_filledBy 9 = .ok (.aload_n 2, 1) := dk_44 (dk_at dksX1_filledBy_0 9 rfl rfl)
theorem dX1_filledBy_10 : decode cX1_filledBy 10 = .ok (.invokevirtual 207, 3) := dk_182 0 207 (dk_at dksX1_filledBy_0 10 rfl rfl)
theorem dX1_filledBy_13 : decode cX1_filledBy 13 = .ok (.ifCond .ne 7, 3) := dk_154 0 7 (dk_at dksX1_filledBy_0 13 rfl rfl)
theorem dX1_filledBy_16 : decode cX1_filledBy 16 = .ok (.iconst 1, 1) := dk_4 (dk_at dksX1_filledBy_0 16 rfl rfl)
theorem dX1_filledBy_17 : decode cX1_filledBy 17 = .ok (.goto 4, 3) := dk_167 0 4 (dk_at dksX1_filledBy_0 17 rfl rfl)
theorem dX1_filledBy_20 : decode cX1_filledBy 20 = .ok (.iconst 0, 1) := dk_3 (dk_at dksX1_filledBy_0 20 rfl rfl)
theorem dX1_filledBy_21 : decode cX1_filledBy 21 = .ok (.invokestatic 148, 3) := dk_184 0 148 (dk_at dksX1_filledBy_0 21 rfl rfl)
theorem dX1_filledBy_24 : decode cX1_filledBy 24 = .ok (.aload_n 2, 1) := dk_44 (dk_at dksX1_filledBy_1 0 rfl rfl)
theorem dX1_filledBy_25 : decode cX1_filledBy 25 = .ok (.getfield 210, 3) := dk_180 0 210 (dk_at dksX1_filledBy_1 1 rfl rfl)
theorem dX1_filledBy_28 : decode cX1_filledBy 28 = .ok (.getfield 124, 3) := dk_180 0 124 (dk_at dksX1_filledBy_1 4 rfl rfl)
theorem dX1_filledBy_31 : decode cX1_filledBy 31 = .ok (.ireturn, 1) := dk_172 (dk_at dksX1_filledBy_1 7 rfl rfl)
abbrev cX1_suits : ByteArray := prog_1_method_40_code
def yX1_suits : MethodName := ⟨RX1, "suits", "(II)Z"⟩
def dkwX1_suits_0 : List UInt8 := [42, 180, 0, 34, 27, 182, 0, 127, 78, 42, 180, 0, 34, 28, 182, 0, 192, 45, 182, 0, 214, 172]
abbrev dktX1_suits_0 : List UInt8 := dkwX1_suits_0 ++ []
theorem dksX1_suits_0 : cX1_suits.data.toList.drop 0 = dktX1_suits_0 := by decide +kernel
theorem dX1_suits_0 : decode cX1_suits 0 = .ok (.aload_n 0, 1) := dk_42 (dk_at dksX1_suits_0 0 rfl rfl)
theorem dX1_suits_1 : decode cX1_suits 1 = .ok (.getfield 34, 3) := dk_180 0 34 (dk_at dksX1_suits_0 1 rfl rfl)
theorem dX1_suits_4 : decode cX1_suits 4 = .ok (.iload_n 1, 1) := dk_27 (dk_at dksX1_suits_0 4 rfl rfl)
theorem dX1_suits_5 : decode cX1_suits 5 = .ok (.invokevirtual 127, 3) := dk_182 0 127 (dk_at dksX1_suits_0 5 rfl rfl)
theorem dX1_suits_8 : decode cX1_suits 8 = .ok (.astore_n 3, 1) := dk_78 (dk_at dksX1_suits_0 8 rfl rfl)
theorem dX1_suits_9 : decode cX1_suits 9 = .ok (.aload_n 0, 1) := dk_42 (dk_at dksX1_suits_0 9 rfl rfl)
theorem dX1_suits_10 : decode cX1_suits 10 = .ok (.getfield 34, 3) := dk_180 0 34 (dk_at dksX1_suits_0 10 rfl rfl)
theorem dX1_suits_13 : decode cX1_suits 13 = .ok (.iload_n 2, 1) := dk_28 (dk_at dksX1_suits_0 13 rfl rfl)
theorem dX1_suits_14 : decode cX1_suits 14 = .ok (.invokevirtual 192, 3) := dk_182 0 192 (dk_at dksX1_suits_0 14 rfl rfl)
theorem dX1_suits_17 : decode cX1_suits 17 = .ok (.aload_n 3, 1) := dk_45 (dk_at dksX1_suits_0 17 rfl rfl)
theorem dX1_suits_18 : decode cX1_suits 18 = .ok (.invokevirtual 214, 3) := dk_182 0 214 (dk_at dksX1_suits_0 18 rfl rfl)
theorem dX1_suits_21 : decode cX1_suits 21 = .ok (.ireturn, 1) := dk_172 (dk_at dksX1_suits_0 21 rfl rfl)
abbrev cX1_favouritePost : ByteArray := prog_1_method_41_code
def yX1_favouritePost : MethodName := ⟨RX1, "favouritePost", "(I)I"⟩
def dkwX1_favouritePost_1 : List UInt8 := [3, 184, 0, 148, 42, 180, 0, 34, 44, 182, 0, 156, 172]
abbrev dktX1_favouritePost_1 : List UInt8 := dkwX1_favouritePost_1 ++ []
def dkwX1_favouritePost_0 : List UInt8 := [42, 180, 0, 34, 42, 180, 0, 34, 27, 182, 0, 127, 182, 0, 218, 77, 44, 198, 0, 7, 4, 167, 0, 4]
abbrev dktX1_favouritePost_0 : List UInt8 := dkwX1_favouritePost_0 ++ dktX1_favouritePost_1
theorem dksX1_favouritePost_0 : cX1_favouritePost.data.toList.drop 0 = dktX1_favouritePost_0 := by decide +kernel
theorem dksX1_favouritePost_1 : cX1_favouritePost.data.toList.drop 24 = dktX1_favouritePost_1 := dk_seg dksX1_favouritePost_0 24 rfl rfl
theorem dX1_favouritePost_0 : decode cX1_favouritePost 0 = .ok (.aload_n 0, 1) := dk_42 (dk_at dksX1_favouritePost_0 0 rfl rfl)
theorem dX1_favouritePost_1 : decode cX1_favouritePost 1 = .ok (.getfield 34, 3) := dk_180 0 34 (dk_at dksX1_favouritePost_0 1 rfl rfl)
theorem dX1_favouritePost_4 : decode cX1_favouritePost 4 = .ok (.aload_n 0, 1) := dk_42 (dk_at dksX1_favouritePost_0 4 rfl rfl)
theorem dX1_favouritePost_5 : decode cX1_favouritePost 5 = .ok (.getfield 34, 3) := dk_180 0 34 (dk_at dksX1_favouritePost_0 5 rfl rfl)
theorem dX1_favouritePost_8 : decode cX1_favouritePost 8 = .ok (.iload_n 1, 1) := dk_27 (dk_at dksX1_favouritePost_0 8 rfl rfl)
theorem dX1_favouritePost_9 : decode cX1_favouritePost 9 = .ok (.invokevirtual 127, 3) := dk_182 0 127 (dk_at dksX1_favouritePost_0 9 rfl rfl)
theorem dX1_favouritePost_12 : decode cX1_favouritePost 12 = .ok (.invokevirtual 218, 3) := dk_182 0 218 (dk_at dksX1_favouritePost_0 12 rfl rfl)
theorem dX1_favouritePost_15 : decode cX1_favouritePost 15 = .ok (.astore_n 2, 1) := dk_77 (dk_at dksX1_favouritePost_0 15 rfl rfl)
theorem dX1_favouritePost_16 : decode cX1_favouritePost 16 = .ok (.aload_n 2, 1) := dk_44 (dk_at dksX1_favouritePost_0 16 rfl rfl)
theorem dX1_favouritePost_17 : decode cX1_favouritePost 17 = .ok (.ifnull 7, 3) := dk_198 0 7 (dk_at dksX1_favouritePost_0 17 rfl rfl)
theorem dX1_favouritePost_20 : decode cX1_favouritePost 20 = .ok (.iconst 1, 1) := dk_4 (dk_at dksX1_favouritePost_0 20 rfl rfl)
theorem dX1_favouritePost_21 : decode cX1_favouritePost 21 = .ok (.goto 4, 3) := dk_167 0 4 (dk_at dksX1_favouritePost_0 21 rfl rfl)
theorem dX1_favouritePost_24 : decode cX1_favouritePost 24 = .ok (.iconst 0, 1) := dk_3 (dk_at dksX1_favouritePost_1 0 rfl rfl)
theorem dX1_favouritePost_25 : decode cX1_favouritePost 25 = .ok (.invokestatic 148, 3) := dk_184 0 148 (dk_at dksX1_favouritePost_1 1 rfl rfl)
theorem dX1_favouritePost_28 : decode cX1_favouritePost 28 = .ok (.aload_n 0, 1) := dk_42 (dk_at dksX1_favouritePost_1 4 rfl rfl)
theorem dX1_favouritePost_29 : decode cX1_favouritePost 29 = .ok (.getfield 34, 3) := dk_180 0 34 (dk_at dksX1_favouritePost_1 5 rfl rfl)
theorem dX1_favouritePost_32 : decode cX1_favouritePost 32 = .ok (.aload_n 2, 1) := dk_44 (dk_at dksX1_favouritePost_1 8 rfl rfl)
theorem dX1_favouritePost_33 : decode cX1_favouritePost 33 = .ok (.invokevirtual 156, 3) := dk_182 0 156 (dk_at dksX1_favouritePost_1 9 rfl rfl)
theorem dX1_favouritePost_36 : decode cX1_favouritePost 36 = .ok (.ireturn, 1) := dk_172 (dk_at dksX1_favouritePost_1 12 rfl rfl)
abbrev cX1_bestCandidate : ByteArray := prog_1_method_42_code
def yX1_bestCandidate : MethodName := ⟨RX1, "bestCandidate", "(I)I"⟩
def dkwX1_bestCandidate_1 : List UInt8 := [3, 184, 0, 148, 44, 180, 0, 124, 172]
abbrev dktX1_bestCandidate_1 : List UInt8 := dkwX1_bestCandidate_1 ++ []
def dkwX1_bestCandidate_0 : List UInt8 := [42, 180, 0, 34, 42, 180, 0, 34, 27, 182, 0, 192, 182, 0, 222, 77, 44, 198, 0, 7, 4, 167, 0, 4]
abbrev dktX1_bestCandidate_0 : List UInt8 := dkwX1_bestCandidate_0 ++ dktX1_bestCandidate_1
theorem dksX1_bestCandidate_0 : cX1_bestCandidate.data.toList.drop 0 = dktX1_bestCandidate_0 := by decide +kernel
theorem dksX1_bestCandidate_1 : cX1_bestCandidate.data.toList.drop 24 = dktX1_bestCandidate_1 := dk_seg dksX1_bestCandidate_0 24 rfl rfl
theorem dX1_bestCandidate_0 : decode cX1_bestCandidate 0 = .ok (.aload_n 0, 1) := dk_42 (dk_at dksX1_bestCandidate_0 0 rfl rfl)
theorem dX1_bestCandidate_1 : decode cX1_bestCandidate 1 = .ok (.getfield 34, 3) := dk_180 0 34 (dk_at dksX1_bestCandidate_0 1 rfl rfl)
theorem dX1_bestCandidate_4 : decode cX1_bestCandidate 4 = .ok (.aload_n 0, 1) := dk_42 (dk_at dksX1_bestCandidate_0 4 rfl rfl)
theorem dX1_bestCandidate_5 : decode cX1_bestCandidate 5 = .ok (.getfield 34, 3) := dk_180 0 34 (dk_at dksX1_bestCandidate_0 5 rfl rfl)
theorem dX1_bestCandidate_8 : decode cX1_bestCandidate 8 = .ok (.iload_n 1, 1) := dk_27 (dk_at dksX1_bestCandidate_0 8 rfl rfl)
theorem dX1_bestCandidate_9 : decode cX1_bestCandidate 9 = .ok (.invokevirtual 192, 3) := dk_182 0 192 (dk_at dksX1_bestCandidate_0 9 rfl rfl)
theorem dX1_bestCandidate_12 : decode cX1_bestCandidate 12 = .ok (.invokevirtual 222, 3) := dk_182 0 222 (dk_at dksX1_bestCandidate_0 12 rfl rfl)
theorem dX1_bestCandidate_15 : decode cX1_bestCandidate 15 = .ok (.astore_n 2, 1) := dk_77 (dk_at dksX1_bestCandidate_0 15 rfl rfl)
theorem dX1_bestCandidate_16 : decode cX1_bestCandidate 16 = .ok (.aload_n 2, 1) := dk_44 (dk_at dksX1_bestCandidate_0 16 rfl rfl)
theorem dX1_bestCandidate_17 : decode cX1_bestCandidate 17 = .ok (.ifnull 7, 3) := dk_198 0 7 (dk_at dksX1_bestCandidate_0 17 rfl rfl)
theorem dX1_bestCandidate_20 : decode cX1_bestCandidate 20 = .ok (.iconst 1, 1) := dk_4 (dk_at dksX1_bestCandidate_0 20 rfl rfl)
theorem dX1_bestCandidate_21 : decode cX1_bestCandidate 21 = .ok (.goto 4, 3) := dk_167 0 4 (dk_at dksX1_bestCandidate_0 21 rfl rfl)
theorem dX1_bestCandidate_24 : decode cX1_bestCandidate 24 = .ok (.iconst 0, 1) := dk_3 (dk_at dksX1_bestCandidate_1 0 rfl rfl)
theorem dX1_bestCandidate_25 : decode cX1_bestCandidate 25 = .ok (.invokestatic 148, 3) := dk_184 0 148 (dk_at dksX1_bestCandidate_1 1 rfl rfl)
theorem dX1_bestCandidate_28 : decode cX1_bestCandidate 28 = .ok (.aload_n 2, 1) := dk_44 (dk_at dksX1_bestCandidate_1 4 rfl rfl)
theorem dX1_bestCandidate_29 : decode cX1_bestCandidate 29 = .ok (.getfield 124, 3) := dk_180 0 124 (dk_at dksX1_bestCandidate_1 5 rfl rfl)
theorem dX1_bestCandidate_32 : decode cX1_bestCandidate 32 = .ok (.ireturn, 1) := dk_172 (dk_at dksX1_bestCandidate_1 8 rfl rfl)
abbrev cX1_candidateCount : ByteArray := prog_1_method_43_code
def yX1_candidateCount : MethodName := ⟨RX1, "candidateCount", "(I)I"⟩
def dkwX1_candidateCount_0 : List UInt8 := [42, 180, 0, 34, 42, 180, 0, 34, 27, 182, 0, 192, 182, 0, 226, 172]
abbrev dktX1_candidateCount_0 : List UInt8 := dkwX1_candidateCount_0 ++ []
theorem dksX1_candidateCount_0 : cX1_candidateCount.data.toList.drop 0 = dktX1_candidateCount_0 := by decide +kernel
theorem dX1_candidateCount_0 : decode cX1_candidateCount 0 = .ok (.aload_n 0, 1) := dk_42 (dk_at dksX1_candidateCount_0 0 rfl rfl)
theorem dX1_candidateCount_1 : decode cX1_candidateCount 1 = .ok (.getfield 34, 3) := dk_180 0 34 (dk_at dksX1_candidateCount_0 1 rfl rfl)
theorem dX1_candidateCount_4 : decode cX1_candidateCount 4 = .ok (.aload_n 0, 1) := dk_42 (dk_at dksX1_candidateCount_0 4 rfl rfl)
theorem dX1_candidateCount_5 : decode cX1_candidateCount 5 = .ok (.getfield 34, 3) := dk_180 0 34 (dk_at dksX1_candidateCount_0 5 rfl rfl)
theorem dX1_candidateCount_8 : decode cX1_candidateCount 8 = .ok (.iload_n 1, 1) := dk_27 (dk_at dksX1_candidateCount_0 8 rfl rfl)
theorem dX1_candidateCount_9 : decode cX1_candidateCount 9 = .ok (.invokevirtual 192, 3) := dk_182 0 192 (dk_at dksX1_candidateCount_0 9 rfl rfl)
theorem dX1_candidateCount_12 : decode cX1_candidateCount 12 = .ok (.invokevirtual 226, 3) := dk_182 0 226 (dk_at dksX1_candidateCount_0 12 rfl rfl)
theorem dX1_candidateCount_15 : decode cX1_candidateCount 15 = .ok (.ireturn, 1) := dk_172 (dk_at dksX1_candidateCount_0 15 rfl rfl)
abbrev cX1_hire : ByteArray := prog_1_method_44_code
def yX1_hire : MethodName := ⟨RX1, "hire", "(II)I"⟩
def dkwX1_hire_0 : List UInt8 := [42, 18, 229, 5, 188, 10, 89, 3, 27, 79, 89, 4, 28, 79, 182, 0, 96, 172]
abbrev dktX1_hire_0 : List UInt8 := dkwX1_hire_0 ++ []
theorem dksX1_hire_0 : cX1_hire.data.toList.drop 0 = dktX1_hire_0 := by decide +kernel
theorem dX1_hire_0 : decode cX1_hire 0 = .ok (.aload_n 0, 1) := dk_42 (dk_at dksX1_hire_0 0 rfl rfl)
theorem dX1_hire_1 : decode cX1_hire 1 = .ok (.ldc 229, 2) := dk_18 229 (dk_at dksX1_hire_0 1 rfl rfl)
theorem dX1_hire_3 : decode cX1_hire 3 = .ok (.iconst 2, 1) := dk_5 (dk_at dksX1_hire_0 3 rfl rfl)
theorem dX1_hire_4 : decode cX1_hire 4 = .ok (.newarray .int, 2) := dk_188_10 (dk_at dksX1_hire_0 4 rfl rfl)
theorem dX1_hire_6 : decode cX1_hire 6 = .ok (.dup, 1) := dk_89 (dk_at dksX1_hire_0 6 rfl rfl)
theorem dX1_hire_7 : decode cX1_hire 7 = .ok (.iconst 0, 1) := dk_3 (dk_at dksX1_hire_0 7 rfl rfl)
theorem dX1_hire_8 : decode cX1_hire 8 = .ok (.iload_n 1, 1) := dk_27 (dk_at dksX1_hire_0 8 rfl rfl)
theorem dX1_hire_9 : decode cX1_hire 9 = .ok (.iastore, 1) := dk_79 (dk_at dksX1_hire_0 9 rfl rfl)
theorem dX1_hire_10 : decode cX1_hire 10 = .ok (.dup, 1) := dk_89 (dk_at dksX1_hire_0 10 rfl rfl)
theorem dX1_hire_11 : decode cX1_hire 11 = .ok (.iconst 1, 1) := dk_4 (dk_at dksX1_hire_0 11 rfl rfl)
theorem dX1_hire_12 : decode cX1_hire 12 = .ok (.iload_n 2, 1) := dk_28 (dk_at dksX1_hire_0 12 rfl rfl)
theorem dX1_hire_13 : decode cX1_hire 13 = .ok (.iastore, 1) := dk_79 (dk_at dksX1_hire_0 13 rfl rfl)
theorem dX1_hire_14 : decode cX1_hire 14 = .ok (.invokevirtual 96, 3) := dk_182 0 96 (dk_at dksX1_hire_0 14 rfl rfl)
theorem dX1_hire_17 : decode cX1_hire 17 = .ok (.ireturn, 1) := dk_172 (dk_at dksX1_hire_0 17 rfl rfl)
abbrev cX1_hireBest : ByteArray := prog_1_method_45_code
def yX1_hireBest : MethodName := ⟨RX1, "hireBest", "(I)I"⟩
def dkwX1_hireBest_0 : List UInt8 := [42, 18, 231, 4, 188, 10, 89, 3, 27, 79, 182, 0, 96, 172]
abbrev dktX1_hireBest_0 : List UInt8 := dkwX1_hireBest_0 ++ []
theorem dksX1_hireBest_0 : cX1_hireBest.data.toList.drop 0 = dktX1_hireBest_0 := by decide +kernel
theorem dX1_hireBest_0 : decode cX1_hireBest 0 = .ok (.aload_n 0, 1) := dk_42 (dk_at dksX1_hireBest_0 0 rfl rfl)
theorem dX1_hireBest_1 : decode cX1_hireBest 1 = .ok (.ldc 231, 2) := dk_18 231 (dk_at dksX1_hireBest_0 1 rfl rfl)
theorem dX1_hireBest_3 : decode cX1_hireBest 3 = .ok (.iconst 1, 1) := dk_4 (dk_at dksX1_hireBest_0 3 rfl rfl)
theorem dX1_hireBest_4 : decode cX1_hireBest 4 = .ok (.newarray .int, 2) := dk_188_10 (dk_at dksX1_hireBest_0 4 rfl rfl)
theorem dX1_hireBest_6 : decode cX1_hireBest 6 = .ok (.dup, 1) := dk_89 (dk_at dksX1_hireBest_0 6 rfl rfl)
theorem dX1_hireBest_7 : decode cX1_hireBest 7 = .ok (.iconst 0, 1) := dk_3 (dk_at dksX1_hireBest_0 7 rfl rfl)
theorem dX1_hireBest_8 : decode cX1_hireBest 8 = .ok (.iload_n 1, 1) := dk_27 (dk_at dksX1_hireBest_0 8 rfl rfl)
theorem dX1_hireBest_9 : decode cX1_hireBest 9 = .ok (.iastore, 1) := dk_79 (dk_at dksX1_hireBest_0 9 rfl rfl)
theorem dX1_hireBest_10 : decode cX1_hireBest 10 = .ok (.invokevirtual 96, 3) := dk_182 0 96 (dk_at dksX1_hireBest_0 10 rfl rfl)
theorem dX1_hireBest_13 : decode cX1_hireBest 13 = .ok (.ireturn, 1) := dk_172 (dk_at dksX1_hireBest_0 13 rfl rfl)
abbrev cX1_dismiss : ByteArray := prog_1_method_46_code
def yX1_dismiss : MethodName := ⟨RX1, "dismiss", "(I)I"⟩
def dkwX1_dismiss_0 : List UInt8 := [42, 18, 233, 4, 188, 10, 89, 3, 27, 79, 182, 0, 96, 172]
abbrev dktX1_dismiss_0 : List UInt8 := dkwX1_dismiss_0 ++ []
theorem dksX1_dismiss_0 : cX1_dismiss.data.toList.drop 0 = dktX1_dismiss_0 := by decide +kernel
theorem dX1_dismiss_0 : decode cX1_dismiss 0 = .ok (.aload_n 0, 1) := dk_42 (dk_at dksX1_dismiss_0 0 rfl rfl)
theorem dX1_dismiss_1 : decode cX1_dismiss 1 = .ok (.ldc 233, 2) := dk_18 233 (dk_at dksX1_dismiss_0 1 rfl rfl)
theorem dX1_dismiss_3 : decode cX1_dismiss 3 = .ok (.iconst 1, 1) := dk_4 (dk_at dksX1_dismiss_0 3 rfl rfl)
theorem dX1_dismiss_4 : decode cX1_dismiss 4 = .ok (.newarray .int, 2) := dk_188_10 (dk_at dksX1_dismiss_0 4 rfl rfl)
theorem dX1_dismiss_6 : decode cX1_dismiss 6 = .ok (.dup, 1) := dk_89 (dk_at dksX1_dismiss_0 6 rfl rfl)
theorem dX1_dismiss_7 : decode cX1_dismiss 7 = .ok (.iconst 0, 1) := dk_3 (dk_at dksX1_dismiss_0 7 rfl rfl)
theorem dX1_dismiss_8 : decode cX1_dismiss 8 = .ok (.iload_n 1, 1) := dk_27 (dk_at dksX1_dismiss_0 8 rfl rfl)
theorem dX1_dismiss_9 : decode cX1_dismiss 9 = .ok (.iastore, 1) := dk_79 (dk_at dksX1_dismiss_0 9 rfl rfl)
theorem dX1_dismiss_10 : decode cX1_dismiss 10 = .ok (.invokevirtual 96, 3) := dk_182 0 96 (dk_at dksX1_dismiss_0 10 rfl rfl)
theorem dX1_dismiss_13 : decode cX1_dismiss 13 = .ok (.ireturn, 1) := dk_172 (dk_at dksX1_dismiss_0 13 rfl rfl)
abbrev cX1_passDays : ByteArray := prog_1_method_52_code
def yX1_passDays : MethodName := ⟨RX1, "passDays", "(I)I"⟩
def dkwX1_passDays_0 : List UInt8 := [42, 18, 249, 4, 188, 10, 89, 3, 27, 79, 182, 0, 96, 172]
abbrev dktX1_passDays_0 : List UInt8 := dkwX1_passDays_0 ++ []
theorem dksX1_passDays_0 : cX1_passDays.data.toList.drop 0 = dktX1_passDays_0 := by decide +kernel
theorem dX1_passDays_0 : decode cX1_passDays 0 = .ok (.aload_n 0, 1) := dk_42 (dk_at dksX1_passDays_0 0 rfl rfl)
theorem dX1_passDays_1 : decode cX1_passDays 1 = .ok (.ldc 249, 2) := dk_18 249 (dk_at dksX1_passDays_0 1 rfl rfl)
theorem dX1_passDays_3 : decode cX1_passDays 3 = .ok (.iconst 1, 1) := dk_4 (dk_at dksX1_passDays_0 3 rfl rfl)
theorem dX1_passDays_4 : decode cX1_passDays 4 = .ok (.newarray .int, 2) := dk_188_10 (dk_at dksX1_passDays_0 4 rfl rfl)
theorem dX1_passDays_6 : decode cX1_passDays 6 = .ok (.dup, 1) := dk_89 (dk_at dksX1_passDays_0 6 rfl rfl)
theorem dX1_passDays_7 : decode cX1_passDays 7 = .ok (.iconst 0, 1) := dk_3 (dk_at dksX1_passDays_0 7 rfl rfl)
theorem dX1_passDays_8 : decode cX1_passDays 8 = .ok (.iload_n 1, 1) := dk_27 (dk_at dksX1_passDays_0 8 rfl rfl)
theorem dX1_passDays_9 : decode cX1_passDays 9 = .ok (.iastore, 1) := dk_79 (dk_at dksX1_passDays_0 9 rfl rfl)
theorem dX1_passDays_10 : decode cX1_passDays 10 = .ok (.invokevirtual 96, 3) := dk_182 0 96 (dk_at dksX1_passDays_0 10 rfl rfl)
theorem dX1_passDays_13 : decode cX1_passDays 13 = .ok (.ireturn, 1) := dk_172 (dk_at dksX1_passDays_0 13 rfl rfl)
abbrev cX1_daysUntilDismissal : ByteArray := prog_1_method_54_code
def yX1_daysUntilDismissal : MethodName := ⟨RX1, "daysUntilDismissal", "(I)I"⟩
def dkwX1_daysUntilDismissal_0 : List UInt8 := [42, 180, 0, 34, 27, 182, 0, 253, 172]
abbrev dktX1_daysUntilDismissal_0 : List UInt8 := dkwX1_daysUntilDismissal_0 ++ []
theorem dksX1_daysUntilDismissal_0 : cX1_daysUntilDismissal.data.toList.drop 0 = dktX1_daysUntilDismissal_0 := by decide +kernel
theorem dX1_daysUntilDismissal_0 : decode cX1_daysUntilDismissal 0 = .ok (.aload_n 0, 1) := dk_42 (dk_at dksX1_daysUntilDismissal_0 0 rfl rfl)
theorem dX1_daysUntilDismissal_1 : decode cX1_daysUntilDismissal 1 = .ok (.getfield 34, 3) := dk_180 0 34 (dk_at dksX1_daysUntilDismissal_0 1 rfl rfl)
theorem dX1_daysUntilDismissal_4 : decode cX1_daysUntilDismissal 4 = .ok (.iload_n 1, 1) := dk_27 (dk_at dksX1_daysUntilDismissal_0 4 rfl rfl)
theorem dX1_daysUntilDismissal_5 : decode cX1_daysUntilDismissal 5 = .ok (.invokevirtual 253, 3) := dk_182 0 253 (dk_at dksX1_daysUntilDismissal_0 5 rfl rfl)
theorem dX1_daysUntilDismissal_8 : decode cX1_daysUntilDismissal 8 = .ok (.ireturn, 1) := dk_172 (dk_at dksX1_daysUntilDismissal_0 8 rfl rfl)
abbrev cX1_meanScore : ByteArray := prog_1_method_56_code
def yX1_meanScore : MethodName := ⟨RX1, "meanScore", "()D"⟩
def dkwX1_meanScore_3 : List UInt8 := [167, 255, 224, 28, 135, 27, 135, 111, 175]
abbrev dktX1_meanScore_3 : List UInt8 := dkwX1_meanScore_3 ++ []
def dkwX1_meanScore_2 : List UInt8 := [185, 1, 15, 1, 0, 192, 0, 122, 58, 4, 28, 42, 180, 0, 34, 25, 4, 182, 0, 160, 96, 61]
abbrev dktX1_meanScore_2 : List UInt8 := dkwX1_meanScore_2 ++ dktX1_meanScore_3
def dkwX1_meanScore_1 : List UInt8 := [61, 42, 180, 0, 34, 180, 0, 104, 182, 1, 6, 78, 45, 185, 1, 10, 1, 0, 153, 0, 29, 45]
abbrev dktX1_meanScore_1 : List UInt8 := dkwX1_meanScore_1 ++ dktX1_meanScore_2
def dkwX1_meanScore_0 : List UInt8 := [42, 180, 0, 34, 180, 0, 104, 182, 0, 108, 60, 27, 158, 0, 7, 4, 167, 0, 4, 3, 184, 1, 3, 3]
abbrev dktX1_meanScore_0 : List UInt8 := dkwX1_meanScore_0 ++ dktX1_meanScore_1
theorem dksX1_meanScore_0 : cX1_meanScore.data.toList.drop 0 = dktX1_meanScore_0 := by decide +kernel
theorem dksX1_meanScore_1 : cX1_meanScore.data.toList.drop 24 = dktX1_meanScore_1 := dk_seg dksX1_meanScore_0 24 rfl rfl
theorem dksX1_meanScore_2 : cX1_meanScore.data.toList.drop 46 = dktX1_meanScore_2 := dk_seg dksX1_meanScore_1 22 rfl rfl
theorem dksX1_meanScore_3 : cX1_meanScore.data.toList.drop 68 = dktX1_meanScore_3 := dk_seg dksX1_meanScore_2 22 rfl rfl
theorem dX1_meanScore_0 : decode cX1_meanScore 0 = .ok (.aload_n 0, 1) := dk_42 (dk_at dksX1_meanScore_0 0 rfl rfl)
theorem dX1_meanScore_1 : decode cX1_meanScore 1 = .ok (.getfield 34, 3) := dk_180 0 34 (dk_at dksX1_meanScore_0 1 rfl rfl)
theorem dX1_meanScore_4 : decode cX1_meanScore 4 = .ok (.getfield 104, 3) := dk_180 0 104 (dk_at dksX1_meanScore_0 4 rfl rfl)
theorem dX1_meanScore_7 : decode cX1_meanScore 7 = .ok (.invokevirtual 108, 3) := dk_182 0 108 (dk_at dksX1_meanScore_0 7 rfl rfl)
theorem dX1_meanScore_10 : decode cX1_meanScore 10 = .ok (.istore_n 1, 1) := dk_60 (dk_at dksX1_meanScore_0 10 rfl rfl)
theorem dX1_meanScore_11 : decode cX1_meanScore 11 = .ok (.iload_n 1, 1) := dk_27 (dk_at dksX1_meanScore_0 11 rfl rfl)
theorem dX1_meanScore_12 : decode cX1_meanScore 12 = .ok (.ifCond .le 7, 3) := dk_158 0 7 (dk_at dksX1_meanScore_0 12 rfl rfl)
theorem dX1_meanScore_15 : decode cX1_meanScore 15 = .ok (.iconst 1, 1) := dk_4 (dk_at dksX1_meanScore_0 15 rfl rfl)
theorem dX1_meanScore_16 : decode cX1_meanScore 16 = .ok (.goto 4, 3) := dk_167 0 4 (dk_at dksX1_meanScore_0 16 rfl rfl)
theorem dX1_meanScore_19 : decode cX1_meanScore 19 = .ok (.iconst 0, 1) := dk_3 (dk_at dksX1_meanScore_0 19 rfl rfl)
theorem dX1_meanScore_20 : decode cX1_meanScore 20 = .ok (.invokestatic 259, 3) := dk_184 1 3 (dk_at dksX1_meanScore_0 20 rfl rfl)
theorem dX1_meanScore_23 : decode cX1_meanScore 23 = .ok (.iconst 0, 1) := dk_3 (dk_at dksX1_meanScore_0 23 rfl rfl)
theorem dX1_meanScore_24 : decode cX1_meanScore 24 = .ok (.istore_n 2, 1) := dk_61 (dk_at dksX1_meanScore_1 0 rfl rfl)
theorem dX1_meanScore_25 : decode cX1_meanScore 25 = .ok (.aload_n 0, 1) := dk_42 (dk_at dksX1_meanScore_1 1 rfl rfl)
theorem dX1_meanScore_26 : decode cX1_meanScore 26 = .ok (.getfield 34, 3) := dk_180 0 34 (dk_at dksX1_meanScore_1 2 rfl rfl)
theorem dX1_meanScore_29 : decode cX1_meanScore 29 = .ok (.getfield 104, 3) := dk_180 0 104 (dk_at dksX1_meanScore_1 5 rfl rfl)
theorem dX1_meanScore_32 : decode cX1_meanScore 32 = .ok (.invokevirtual 262, 3) := dk_182 1 6 (dk_at dksX1_meanScore_1 8 rfl rfl)
theorem dX1_meanScore_35 : decode cX1_meanScore 35 = .ok (.astore_n 3, 1) := dk_78 (dk_at dksX1_meanScore_1 11 rfl rfl)
theorem dX1_meanScore_36 : decode cX1_meanScore 36 = .ok (.aload_n 3, 1) := dk_45 (dk_at dksX1_meanScore_1 12 rfl rfl)
theorem dX1_meanScore_37 : decode cX1_meanScore 37 = .ok (.invokeinterface 266 1, 5) := by decide +kernel
theorem dX1_meanScore_42 : decode cX1_meanScore 42 = .ok (.ifCond .eq 29, 3) := dk_153 0 29 (dk_at dksX1_meanScore_1 18 rfl rfl)
theorem dX1_meanScore_45 : decode cX1_meanScore 45 = .ok (.aload_n 3, 1) := dk_45 (dk_at dksX1_meanScore_1 21 rfl rfl)
theorem dX1_meanScore_46 : decode cX1_meanScore 46 = .ok (.invokeinterface 271 1, 5) := by decide +kernel
theorem dX1_meanScore_51 : decode cX1_meanScore 51 = .ok (.checkcast 122, 3) := dk_192 0 122 (dk_at dksX1_meanScore_2 5 rfl rfl)
theorem dX1_meanScore_54 : decode cX1_meanScore 54 = .ok (.astore 4, 2) := dk_58 4 (dk_at dksX1_meanScore_2 8 rfl rfl)
theorem dX1_meanScore_56 : decode cX1_meanScore 56 = .ok (.iload_n 2, 1) := dk_28 (dk_at dksX1_meanScore_2 10 rfl rfl)
theorem dX1_meanScore_57 : decode cX1_meanScore 57 = .ok (.aload_n 0, 1) := dk_42 (dk_at dksX1_meanScore_2 11 rfl rfl)
theorem dX1_meanScore_58 : decode cX1_meanScore 58 = .ok (.getfield 34, 3) := dk_180 0 34 (dk_at dksX1_meanScore_2 12 rfl rfl)
theorem dX1_meanScore_61 : decode cX1_meanScore 61 = .ok (.aload 4, 2) := dk_25 4 (dk_at dksX1_meanScore_2 15 rfl rfl)
theorem dX1_meanScore_63 : decode cX1_meanScore 63 = .ok (.invokevirtual 160, 3) := dk_182 0 160 (dk_at dksX1_meanScore_2 17 rfl rfl)
theorem dX1_meanScore_66 : decode cX1_meanScore 66 = .ok (.iadd, 1) := dk_96 (dk_at dksX1_meanScore_2 20 rfl rfl)
theorem dX1_meanScore_67 : decode cX1_meanScore 67 = .ok (.istore_n 2, 1) := dk_61 (dk_at dksX1_meanScore_2 21 rfl rfl)
theorem dX1_meanScore_68 : decode cX1_meanScore 68 = .ok (.goto (-32), 3) := dk_167 255 224 (dk_at dksX1_meanScore_3 0 rfl rfl)
theorem dX1_meanScore_71 : decode cX1_meanScore 71 = .ok (.iload_n 2, 1) := dk_28 (dk_at dksX1_meanScore_3 3 rfl rfl)
theorem dX1_meanScore_72 : decode cX1_meanScore 72 = .ok (.i2d, 1) := dk_135 (dk_at dksX1_meanScore_3 4 rfl rfl)
theorem dX1_meanScore_73 : decode cX1_meanScore 73 = .ok (.iload_n 1, 1) := dk_27 (dk_at dksX1_meanScore_3 5 rfl rfl)
theorem dX1_meanScore_74 : decode cX1_meanScore 74 = .ok (.i2d, 1) := dk_135 (dk_at dksX1_meanScore_3 6 rfl rfl)
theorem dX1_meanScore_75 : decode cX1_meanScore 75 = .ok (.ddiv, 1) := dk_111 (dk_at dksX1_meanScore_3 7 rfl rfl)
theorem dX1_meanScore_76 : decode cX1_meanScore 76 = .ok (.dreturn, 1) := dk_175 (dk_at dksX1_meanScore_3 8 rfl rfl)
abbrev cX1_checkNumbers : ByteArray := prog_1_method_6_code
def yX1_checkNumbers : MethodName := ⟨RX1, "checkNumbers", "(Z)V"⟩
def dkwX1_checkNumbers_0 : List UInt8 := [26, 154, 0, 11, 187, 0, 22, 89, 183, 0, 24, 191, 177]
abbrev dktX1_checkNumbers_0 : List UInt8 := dkwX1_checkNumbers_0 ++ []
theorem dksX1_checkNumbers_0 : cX1_checkNumbers.data.toList.drop 0 = dktX1_checkNumbers_0 := by decide +kernel
theorem dX1_checkNumbers_0 : decode cX1_checkNumbers 0 = .ok (.iload_n 0, 1) := dk_26 (dk_at dksX1_checkNumbers_0 0 rfl rfl)
theorem dX1_checkNumbers_1 : decode cX1_checkNumbers 1 = .ok (.ifCond .ne 11, 3) := dk_154 0 11 (dk_at dksX1_checkNumbers_0 1 rfl rfl)
theorem dX1_checkNumbers_4 : decode cX1_checkNumbers 4 = .ok (.new 22, 3) := dk_187 0 22 (dk_at dksX1_checkNumbers_0 4 rfl rfl)
theorem dX1_checkNumbers_7 : decode cX1_checkNumbers 7 = .ok (.dup, 1) := dk_89 (dk_at dksX1_checkNumbers_0 7 rfl rfl)
theorem dX1_checkNumbers_8 : decode cX1_checkNumbers 8 = .ok (.invokespecial 24, 3) := dk_183 0 24 (dk_at dksX1_checkNumbers_0 8 rfl rfl)
theorem dX1_checkNumbers_11 : decode cX1_checkNumbers 11 = .ok (.athrow, 1) := dk_191 (dk_at dksX1_checkNumbers_0 11 rfl rfl)
theorem dX1_checkNumbers_12 : decode cX1_checkNumbers 12 = .ok (.return_, 1) := dk_177 (dk_at dksX1_checkNumbers_0 12 rfl rfl)
abbrev cX1_filledFraction : ByteArray := prog_1_method_57_code
def yX1_filledFraction : MethodName := ⟨RX1, "filledFraction", "()F"⟩
def dkwX1_filledFraction_1 : List UInt8 := [42, 180, 0, 34, 182, 0, 189, 100, 134, 27, 134, 110, 174]
abbrev dktX1_filledFraction_1 : List UInt8 := dkwX1_filledFraction_1 ++ []
def dkwX1_filledFraction_0 : List UInt8 := [42, 180, 0, 34, 180, 0, 186, 182, 0, 108, 60, 27, 158, 0, 7, 4, 167, 0, 4, 3, 184, 1, 3, 27]
abbrev dktX1_filledFraction_0 : List UInt8 := dkwX1_filledFraction_0 ++ dktX1_filledFraction_1
theorem dksX1_filledFraction_0 : cX1_filledFraction.data.toList.drop 0 = dktX1_filledFraction_0 := by decide +kernel
theorem dksX1_filledFraction_1 : cX1_filledFraction.data.toList.drop 24 = dktX1_filledFraction_1 := dk_seg dksX1_filledFraction_0 24 rfl rfl
theorem dX1_filledFraction_0 : decode cX1_filledFraction 0 = .ok (.aload_n 0, 1) := dk_42 (dk_at dksX1_filledFraction_0 0 rfl rfl)
theorem dX1_filledFraction_1 : decode cX1_filledFraction 1 = .ok (.getfield 34, 3) := dk_180 0 34 (dk_at dksX1_filledFraction_0 1 rfl rfl)
theorem dX1_filledFraction_4 : decode cX1_filledFraction 4 = .ok (.getfield 186, 3) := dk_180 0 186 (dk_at dksX1_filledFraction_0 4 rfl rfl)
theorem dX1_filledFraction_7 : decode cX1_filledFraction 7 = .ok (.invokevirtual 108, 3) := dk_182 0 108 (dk_at dksX1_filledFraction_0 7 rfl rfl)
theorem dX1_filledFraction_10 : decode cX1_filledFraction 10 = .ok (.istore_n 1, 1) := dk_60 (dk_at dksX1_filledFraction_0 10 rfl rfl)
theorem dX1_filledFraction_11 : decode cX1_filledFraction 11 = .ok (.iload_n 1, 1) := dk_27 (dk_at dksX1_filledFraction_0 11 rfl rfl)
theorem dX1_filledFraction_12 : decode cX1_filledFraction 12 = .ok (.ifCond .le 7, 3) := dk_158 0 7 (dk_at dksX1_filledFraction_0 12 rfl rfl)
theorem dX1_filledFraction_15 : decode cX1_filledFraction 15 = .ok (.iconst 1, 1) := dk_4 (dk_at dksX1_filledFraction_0 15 rfl rfl)
theorem dX1_filledFraction_16 : decode cX1_filledFraction 16 = .ok (.goto 4, 3) := dk_167 0 4 (dk_at dksX1_filledFraction_0 16 rfl rfl)
theorem dX1_filledFraction_19 : decode cX1_filledFraction 19 = .ok (.iconst 0, 1) := dk_3 (dk_at dksX1_filledFraction_0 19 rfl rfl)
theorem dX1_filledFraction_20 : decode cX1_filledFraction 20 = .ok (.invokestatic 259, 3) := dk_184 1 3 (dk_at dksX1_filledFraction_0 20 rfl rfl)
theorem dX1_filledFraction_23 : decode cX1_filledFraction 23 = .ok (.iload_n 1, 1) := dk_27 (dk_at dksX1_filledFraction_0 23 rfl rfl)
theorem dX1_filledFraction_24 : decode cX1_filledFraction 24 = .ok (.aload_n 0, 1) := dk_42 (dk_at dksX1_filledFraction_1 0 rfl rfl)
theorem dX1_filledFraction_25 : decode cX1_filledFraction 25 = .ok (.getfield 34, 3) := dk_180 0 34 (dk_at dksX1_filledFraction_1 1 rfl rfl)
theorem dX1_filledFraction_28 : decode cX1_filledFraction 28 = .ok (.invokevirtual 189, 3) := dk_182 0 189 (dk_at dksX1_filledFraction_1 4 rfl rfl)
theorem dX1_filledFraction_31 : decode cX1_filledFraction 31 = .ok (.isub, 1) := dk_100 (dk_at dksX1_filledFraction_1 7 rfl rfl)
theorem dX1_filledFraction_32 : decode cX1_filledFraction 32 = .ok (.i2f, 1) := dk_134 (dk_at dksX1_filledFraction_1 8 rfl rfl)
theorem dX1_filledFraction_33 : decode cX1_filledFraction 33 = .ok (.iload_n 1, 1) := dk_27 (dk_at dksX1_filledFraction_1 9 rfl rfl)
theorem dX1_filledFraction_34 : decode cX1_filledFraction 34 = .ok (.i2f, 1) := dk_134 (dk_at dksX1_filledFraction_1 10 rfl rfl)
theorem dX1_filledFraction_35 : decode cX1_filledFraction 35 = .ok (.fdiv, 1) := dk_110 (dk_at dksX1_filledFraction_1 11 rfl rfl)
theorem dX1_filledFraction_36 : decode cX1_filledFraction 36 = .ok (.freturn, 1) := dk_174 (dk_at dksX1_filledFraction_1 12 rfl rfl)
abbrev cX1_writeApplicant : ByteArray := prog_1_method_59_code
def yX1_writeApplicant : MethodName := ⟨RX1, "writeApplicant", "(I)I"⟩
def dkwX1_writeApplicant_0 : List UInt8 := [42, 42, 180, 0, 34, 42, 180, 0, 34, 27, 182, 0, 127, 182, 1, 23, 182, 1, 27, 172]
abbrev dktX1_writeApplicant_0 : List UInt8 := dkwX1_writeApplicant_0 ++ []
theorem dksX1_writeApplicant_0 : cX1_writeApplicant.data.toList.drop 0 = dktX1_writeApplicant_0 := by decide +kernel
theorem dX1_writeApplicant_0 : decode cX1_writeApplicant 0 = .ok (.aload_n 0, 1) := dk_42 (dk_at dksX1_writeApplicant_0 0 rfl rfl)
theorem dX1_writeApplicant_1 : decode cX1_writeApplicant 1 = .ok (.aload_n 0, 1) := dk_42 (dk_at dksX1_writeApplicant_0 1 rfl rfl)
theorem dX1_writeApplicant_2 : decode cX1_writeApplicant 2 = .ok (.getfield 34, 3) := dk_180 0 34 (dk_at dksX1_writeApplicant_0 2 rfl rfl)
theorem dX1_writeApplicant_5 : decode cX1_writeApplicant 5 = .ok (.aload_n 0, 1) := dk_42 (dk_at dksX1_writeApplicant_0 5 rfl rfl)
theorem dX1_writeApplicant_6 : decode cX1_writeApplicant 6 = .ok (.getfield 34, 3) := dk_180 0 34 (dk_at dksX1_writeApplicant_0 6 rfl rfl)
theorem dX1_writeApplicant_9 : decode cX1_writeApplicant 9 = .ok (.iload_n 1, 1) := dk_27 (dk_at dksX1_writeApplicant_0 9 rfl rfl)
theorem dX1_writeApplicant_10 : decode cX1_writeApplicant 10 = .ok (.invokevirtual 127, 3) := dk_182 0 127 (dk_at dksX1_writeApplicant_0 10 rfl rfl)
theorem dX1_writeApplicant_13 : decode cX1_writeApplicant 13 = .ok (.invokevirtual 279, 3) := dk_182 1 23 (dk_at dksX1_writeApplicant_0 13 rfl rfl)
theorem dX1_writeApplicant_16 : decode cX1_writeApplicant 16 = .ok (.invokevirtual 283, 3) := dk_182 1 27 (dk_at dksX1_writeApplicant_0 16 rfl rfl)
theorem dX1_writeApplicant_19 : decode cX1_writeApplicant 19 = .ok (.ireturn, 1) := dk_172 (dk_at dksX1_writeApplicant_0 19 rfl rfl)
abbrev cX1_outputCharacter : ByteArray := prog_1_method_61_code
def yX1_outputCharacter : MethodName := ⟨RX1, "outputCharacter", "(I)C"⟩
def dkwX1_outputCharacter_0 : List UInt8 := [27, 42, 180, 0, 54, 182, 1, 18, 184, 0, 114, 42, 180, 0, 54, 27, 182, 1, 35, 172]
abbrev dktX1_outputCharacter_0 : List UInt8 := dkwX1_outputCharacter_0 ++ []
theorem dksX1_outputCharacter_0 : cX1_outputCharacter.data.toList.drop 0 = dktX1_outputCharacter_0 := by decide +kernel
theorem dX1_outputCharacter_0 : decode cX1_outputCharacter 0 = .ok (.iload_n 1, 1) := dk_27 (dk_at dksX1_outputCharacter_0 0 rfl rfl)
theorem dX1_outputCharacter_1 : decode cX1_outputCharacter 1 = .ok (.aload_n 0, 1) := dk_42 (dk_at dksX1_outputCharacter_0 1 rfl rfl)
theorem dX1_outputCharacter_2 : decode cX1_outputCharacter 2 = .ok (.getfield 54, 3) := dk_180 0 54 (dk_at dksX1_outputCharacter_0 2 rfl rfl)
theorem dX1_outputCharacter_5 : decode cX1_outputCharacter 5 = .ok (.invokevirtual 274, 3) := dk_182 1 18 (dk_at dksX1_outputCharacter_0 5 rfl rfl)
theorem dX1_outputCharacter_8 : decode cX1_outputCharacter 8 = .ok (.invokestatic 114, 3) := dk_184 0 114 (dk_at dksX1_outputCharacter_0 8 rfl rfl)
theorem dX1_outputCharacter_11 : decode cX1_outputCharacter 11 = .ok (.aload_n 0, 1) := dk_42 (dk_at dksX1_outputCharacter_0 11 rfl rfl)
theorem dX1_outputCharacter_12 : decode cX1_outputCharacter 12 = .ok (.getfield 54, 3) := dk_180 0 54 (dk_at dksX1_outputCharacter_0 12 rfl rfl)
theorem dX1_outputCharacter_15 : decode cX1_outputCharacter 15 = .ok (.iload_n 1, 1) := dk_27 (dk_at dksX1_outputCharacter_0 15 rfl rfl)
theorem dX1_outputCharacter_16 : decode cX1_outputCharacter 16 = .ok (.invokevirtual 291, 3) := dk_182 1 35 (dk_at dksX1_outputCharacter_0 16 rfl rfl)
theorem dX1_outputCharacter_19 : decode cX1_outputCharacter 19 = .ok (.ireturn, 1) := dk_172 (dk_at dksX1_outputCharacter_0 19 rfl rfl)
abbrev cX1_feed : ByteArray := prog_1_method_63_code
def yX1_feed : MethodName := ⟨RX1, "feed", "(C)I"⟩
def dkwX1_feed_1 : List UInt8 := [27, 182, 1, 46, 87, 42, 180, 0, 48, 182, 1, 42, 172]
abbrev dktX1_feed_1 : List UInt8 := dkwX1_feed_1 ++ []
def dkwX1_feed_0 : List UInt8 := [42, 180, 0, 48, 182, 1, 42, 16, 60, 162, 0, 7, 4, 167, 0, 4, 3, 184, 1, 43, 42, 180, 0, 48]
abbrev dktX1_feed_0 : List UInt8 := dkwX1_feed_0 ++ dktX1_feed_1
theorem dksX1_feed_0 : cX1_feed.data.toList.drop 0 = dktX1_feed_0 := by decide +kernel
theorem dksX1_feed_1 : cX1_feed.data.toList.drop 24 = dktX1_feed_1 := dk_seg dksX1_feed_0 24 rfl rfl
theorem dX1_feed_0 : decode cX1_feed 0 = .ok (.aload_n 0, 1) := dk_42 (dk_at dksX1_feed_0 0 rfl rfl)
theorem dX1_feed_1 : decode cX1_feed 1 = .ok (.getfield 48, 3) := dk_180 0 48 (dk_at dksX1_feed_0 1 rfl rfl)
theorem dX1_feed_4 : decode cX1_feed 4 = .ok (.invokevirtual 298, 3) := dk_182 1 42 (dk_at dksX1_feed_0 4 rfl rfl)
theorem dX1_feed_7 : decode cX1_feed 7 = .ok (.bipush 60, 2) := dk_16 60 (dk_at dksX1_feed_0 7 rfl rfl)
theorem dX1_feed_9 : decode cX1_feed 9 = .ok (.if_icmp .ge 7, 3) := dk_162 0 7 (dk_at dksX1_feed_0 9 rfl rfl)
theorem dX1_feed_12 : decode cX1_feed 12 = .ok (.iconst 1, 1) := dk_4 (dk_at dksX1_feed_0 12 rfl rfl)
theorem dX1_feed_13 : decode cX1_feed 13 = .ok (.goto 4, 3) := dk_167 0 4 (dk_at dksX1_feed_0 13 rfl rfl)
theorem dX1_feed_16 : decode cX1_feed 16 = .ok (.iconst 0, 1) := dk_3 (dk_at dksX1_feed_0 16 rfl rfl)
theorem dX1_feed_17 : decode cX1_feed 17 = .ok (.invokestatic 299, 3) := dk_184 1 43 (dk_at dksX1_feed_0 17 rfl rfl)
theorem dX1_feed_20 : decode cX1_feed 20 = .ok (.aload_n 0, 1) := dk_42 (dk_at dksX1_feed_0 20 rfl rfl)
theorem dX1_feed_21 : decode cX1_feed 21 = .ok (.getfield 48, 3) := dk_180 0 48 (dk_at dksX1_feed_0 21 rfl rfl)
theorem dX1_feed_24 : decode cX1_feed 24 = .ok (.iload_n 1, 1) := dk_27 (dk_at dksX1_feed_1 0 rfl rfl)
theorem dX1_feed_25 : decode cX1_feed 25 = .ok (.invokevirtual 302, 3) := dk_182 1 46 (dk_at dksX1_feed_1 1 rfl rfl)
theorem dX1_feed_28 : decode cX1_feed 28 = .ok (.pop, 1) := dk_87 (dk_at dksX1_feed_1 4 rfl rfl)
theorem dX1_feed_29 : decode cX1_feed 29 = .ok (.aload_n 0, 1) := dk_42 (dk_at dksX1_feed_1 5 rfl rfl)
theorem dX1_feed_30 : decode cX1_feed 30 = .ok (.getfield 48, 3) := dk_180 0 48 (dk_at dksX1_feed_1 6 rfl rfl)
theorem dX1_feed_33 : decode cX1_feed 33 = .ok (.invokevirtual 298, 3) := dk_182 1 42 (dk_at dksX1_feed_1 9 rfl rfl)
theorem dX1_feed_36 : decode cX1_feed 36 = .ok (.ireturn, 1) := dk_172 (dk_at dksX1_feed_1 12 rfl rfl)
abbrev cX1_execute : ByteArray := prog_1_method_65_code
def yX1_execute : MethodName := ⟨RX1, "execute", "()I"⟩
def dkwX1_execute_3 : List UInt8 := [89, 183, 0, 27, 191, 42, 44, 182, 0, 90, 29, 172]
abbrev dktX1_execute_3 : List UInt8 := dkwX1_execute_3 ++ []
def dkwX1_execute_2 : List UInt8 := [182, 0, 86, 54, 6, 132, 3, 1, 167, 255, 223, 167, 0, 18, 58, 4, 42, 29, 181, 0, 62, 187, 0, 25]
abbrev dktX1_execute_2 : List UInt8 := dkwX1_execute_2 ++ dktX1_execute_3
def dkwX1_execute_1 : List UInt8 := [185, 1, 10, 1, 0, 153, 0, 29, 25, 4, 185, 1, 15, 1, 0, 192, 0, 81, 58, 5, 25, 5, 44]
abbrev dktX1_execute_1 : List UInt8 := dkwX1_execute_1 ++ dktX1_execute_2
def dkwX1_execute_0 : List UInt8 := [42, 182, 1, 64, 76, 42, 180, 0, 34, 182, 0, 77, 77, 3, 62, 43, 182, 1, 6, 58, 4, 25, 4]
abbrev dktX1_execute_0 : List UInt8 := dkwX1_execute_0 ++ dktX1_execute_1
theorem dksX1_execute_0 : cX1_execute.data.toList.drop 0 = dktX1_execute_0 := by decide +kernel
theorem dksX1_execute_1 : cX1_execute.data.toList.drop 23 = dktX1_execute_1 := dk_seg dksX1_execute_0 23 rfl rfl
theorem dksX1_execute_2 : cX1_execute.data.toList.drop 46 = dktX1_execute_2 := dk_seg dksX1_execute_1 23 rfl rfl
theorem dksX1_execute_3 : cX1_execute.data.toList.drop 70 = dktX1_execute_3 := dk_seg dksX1_execute_2 24 rfl rfl
theorem dX1_execute_0 : decode cX1_execute 0 = .ok (.aload_n 0, 1) := dk_42 (dk_at dksX1_execute_0 0 rfl rfl)
theorem dX1_execute_1 : decode cX1_execute 1 = .ok (.invokevirtual 320, 3) := dk_182 1 64 (dk_at dksX1_execute_0 1 rfl rfl)
theorem dX1_execute_4 : decode cX1_execute 4 = .ok (.astore_n 1, 1) := dk_76 (dk_at dksX1_execute_0 4 rfl rfl)
theorem dX1_execute_5 : decode cX1_execute 5 = .ok (.aload_n 0, 1) := dk_42 (dk_at dksX1_execute_0 5 rfl rfl)
theorem dX1_execute_6 : decode cX1_execute 6 = .ok (.getfield 34, 3) := dk_180 0 34 (dk_at dksX1_execute_0 6 rfl rfl)
theorem dX1_execute_9 : decode cX1_execute 9 = .ok (.invokevirtual 77, 3) := dk_182 0 77 (dk_at dksX1_execute_0 9 rfl rfl)
theorem dX1_execute_12 : decode cX1_execute 12 = .ok (.astore_n 2, 1) := dk_77 (dk_at dksX1_execute_0 12 rfl rfl)
theorem dX1_execute_13 : decode cX1_execute 13 = .ok (.iconst 0, 1) := dk_3 (dk_at dksX1_execute_0 13 rfl rfl)
theorem dX1_execute_14 : decode cX1_execute 14 = .ok (.istore_n 3, 1) := dk_62 (dk_at dksX1_execute_0 14 rfl rfl)
theorem dX1_execute_15 : decode cX1_execute 15 = .ok (.aload_n 1, 1) := dk_43 (dk_at dksX1_execute_0 15 rfl rfl)
theorem dX1_execute_16 : decode cX1_execute 16 = .ok (.invokevirtual 262, 3) := dk_182 1 6 (dk_at dksX1_execute_0 16 rfl rfl)
theorem dX1_execute_19 : decode cX1_execute 19 = .ok (.astore 4, 2) := dk_58 4 (dk_at dksX1_execute_0 19 rfl rfl)
theorem dX1_execute_21 : decode cX1_execute 21 = .ok (.aload 4, 2) := dk_25 4 (dk_at dksX1_execute_0 21 rfl rfl)
theorem dX1_execute_23 : decode cX1_execute 23 = .ok (.invokeinterface 266 1, 5) := by decide +kernel
theorem dX1_execute_28 : decode cX1_execute 28 = .ok (.ifCond .eq 29, 3) := dk_153 0 29 (dk_at dksX1_execute_1 5 rfl rfl)
theorem dX1_execute_31 : decode cX1_execute 31 = .ok (.aload 4, 2) := dk_25 4 (dk_at dksX1_execute_1 8 rfl rfl)
theorem dX1_execute_33 : decode cX1_execute 33 = .ok (.invokeinterface 271 1, 5) := by decide +kernel
theorem dX1_execute_38 : decode cX1_execute 38 = .ok (.checkcast 81, 3) := dk_192 0 81 (dk_at dksX1_execute_1 15 rfl rfl)
theorem dX1_execute_41 : decode cX1_execute 41 = .ok (.astore 5, 2) := dk_58 5 (dk_at dksX1_execute_1 18 rfl rfl)
theorem dX1_execute_43 : decode cX1_execute 43 = .ok (.aload 5, 2) := dk_25 5 (dk_at dksX1_execute_1 20 rfl rfl)
theorem dX1_execute_45 : decode cX1_execute 45 = .ok (.aload_n 2, 1) := dk_44 (dk_at dksX1_execute_1 22 rfl rfl)
theorem dX1_execute_46 : decode cX1_execute 46 = .ok (.invokevirtual 86, 3) := dk_182 0 86 (dk_at dksX1_execute_2 0 rfl rfl)
theorem dX1_execute_49 : decode cX1_execute 49 = .ok (.istore 6, 2) := dk_54 6 (dk_at dksX1_execute_2 3 rfl rfl)
theorem dX1_execute_51 : decode cX1_execute 51 = .ok (.iinc 3 1, 3) := dk_132 3 1 (dk_at dksX1_execute_2 5 rfl rfl)
theorem dX1_execute_54 : decode cX1_execute 54 = .ok (.goto (-33), 3) := dk_167 255 223 (dk_at dksX1_execute_2 8 rfl rfl)
theorem dX1_execute_57 : decode cX1_execute 57 = .ok (.goto 18, 3) := dk_167 0 18 (dk_at dksX1_execute_2 11 rfl rfl)
theorem dX1_execute_60 : decode cX1_execute 60 = .ok (.astore 4, 2) := dk_58 4 (dk_at dksX1_execute_2 14 rfl rfl)
theorem dX1_execute_62 : decode cX1_execute 62 = .ok (.aload_n 0, 1) := dk_42 (dk_at dksX1_execute_2 16 rfl rfl)
theorem dX1_execute_63 : decode cX1_execute 63 = .ok (.iload_n 3, 1) := dk_29 (dk_at dksX1_execute_2 17 rfl rfl)
theorem dX1_execute_64 : decode cX1_execute 64 = .ok (.putfield 62, 3) := dk_181 0 62 (dk_at dksX1_execute_2 18 rfl rfl)
theorem dX1_execute_67 : decode cX1_execute 67 = .ok (.new 25, 3) := dk_187 0 25 (dk_at dksX1_execute_2 21 rfl rfl)
theorem dX1_execute_70 : decode cX1_execute 70 = .ok (.dup, 1) := dk_89 (dk_at dksX1_execute_3 0 rfl rfl)
theorem dX1_execute_71 : decode cX1_execute 71 = .ok (.invokespecial 27, 3) := dk_183 0 27 (dk_at dksX1_execute_3 1 rfl rfl)
theorem dX1_execute_74 : decode cX1_execute 74 = .ok (.athrow, 1) := dk_191 (dk_at dksX1_execute_3 4 rfl rfl)
theorem dX1_execute_75 : decode cX1_execute 75 = .ok (.aload_n 0, 1) := dk_42 (dk_at dksX1_execute_3 5 rfl rfl)
theorem dX1_execute_76 : decode cX1_execute 76 = .ok (.aload_n 2, 1) := dk_44 (dk_at dksX1_execute_3 6 rfl rfl)
theorem dX1_execute_77 : decode cX1_execute 77 = .ok (.invokevirtual 90, 3) := dk_182 0 90 (dk_at dksX1_execute_3 7 rfl rfl)
theorem dX1_execute_80 : decode cX1_execute 80 = .ok (.iload_n 3, 1) := dk_29 (dk_at dksX1_execute_3 10 rfl rfl)
theorem dX1_execute_81 : decode cX1_execute 81 = .ok (.ireturn, 1) := dk_172 (dk_at dksX1_execute_3 11 rfl rfl)
abbrev cX1_takeCommands : ByteArray := prog_1_method_64_code
def yX1_takeCommands : MethodName := ⟨RX1, "takeCommands", "()Ljava/util/ArrayList;"⟩
def dkwX1_takeCommands_1 : List UInt8 := [182, 1, 55, 176, 77, 42, 44, 180, 1, 61, 181, 0, 58, 187, 0, 1, 89, 183, 0, 3, 191]
abbrev dktX1_takeCommands_1 : List UInt8 := dkwX1_takeCommands_1 ++ []
def dkwX1_takeCommands_0 : List UInt8 := [187, 1, 50, 89, 42, 180, 0, 48, 183, 1, 52, 76, 42, 187, 0, 45, 89, 183, 0, 47, 181, 0, 48, 43]
abbrev dktX1_takeCommands_0 : List UInt8 := dkwX1_takeCommands_0 ++ dktX1_takeCommands_1
theorem dksX1_takeCommands_0 : cX1_takeCommands.data.toList.drop 0 = dktX1_takeCommands_0 := by decide +kernel
theorem dksX1_takeCommands_1 : cX1_takeCommands.data.toList.drop 24 = dktX1_takeCommands_1 := dk_seg dksX1_takeCommands_0 24 rfl rfl
theorem dX1_takeCommands_0 : decode cX1_takeCommands 0 = .ok (.new 306, 3) := dk_187 1 50 (dk_at dksX1_takeCommands_0 0 rfl rfl)
theorem dX1_takeCommands_3 : decode cX1_takeCommands 3 = .ok (.dup, 1) := dk_89 (dk_at dksX1_takeCommands_0 3 rfl rfl)
theorem dX1_takeCommands_4 : decode cX1_takeCommands 4 = .ok (.aload_n 0, 1) := dk_42 (dk_at dksX1_takeCommands_0 4 rfl rfl)
theorem dX1_takeCommands_5 : decode cX1_takeCommands 5 = .ok (.getfield 48, 3) := dk_180 0 48 (dk_at dksX1_takeCommands_0 5 rfl rfl)
theorem dX1_takeCommands_8 : decode cX1_takeCommands 8 = .ok (.invokespecial 308, 3) := dk_183 1 52 (dk_at dksX1_takeCommands_0 8 rfl rfl)
theorem dX1_takeCommands_11 : decode cX1_takeCommands 11 = .ok (.astore_n 1, 1) := dk_76 (dk_at dksX1_takeCommands_0 11 rfl rfl)
theorem dX1_takeCommands_12 : decode cX1_takeCommands 12 = .ok (.aload_n 0, 1) := dk_42 (dk_at dksX1_takeCommands_0 12 rfl rfl)
theorem dX1_takeCommands_13 : decode cX1_takeCommands 13 = .ok (.new 45, 3) := dk_187 0 45 (dk_at dksX1_takeCommands_0 13 rfl rfl)
theorem dX1_takeCommands_16 : decode cX1_takeCommands 16 = .ok (.dup, 1) := dk_89 (dk_at dksX1_takeCommands_0 16 rfl rfl)
theorem dX1_takeCommands_17 : decode cX1_takeCommands 17 = .ok (.invokespecial 47, 3) := dk_183 0 47 (dk_at dksX1_takeCommands_0 17 rfl rfl)
theorem dX1_takeCommands_20 : decode cX1_takeCommands 20 = .ok (.putfield 48, 3) := dk_181 0 48 (dk_at dksX1_takeCommands_0 20 rfl rfl)
theorem dX1_takeCommands_23 : decode cX1_takeCommands 23 = .ok (.aload_n 1, 1) := dk_43 (dk_at dksX1_takeCommands_0 23 rfl rfl)
theorem dX1_takeCommands_24 : decode cX1_takeCommands 24 = .ok (.invokevirtual 311, 3) := dk_182 1 55 (dk_at dksX1_takeCommands_1 0 rfl rfl)
theorem dX1_takeCommands_27 : decode cX1_takeCommands 27 = .ok (.areturn, 1) := dk_176 (dk_at dksX1_takeCommands_1 3 rfl rfl)
theorem dX1_takeCommands_28 : decode cX1_takeCommands 28 = .ok (.astore_n 2, 1) := dk_77 (dk_at dksX1_takeCommands_1 4 rfl rfl)
theorem dX1_takeCommands_29 : decode cX1_takeCommands 29 = .ok (.aload_n 0, 1) := dk_42 (dk_at dksX1_takeCommands_1 5 rfl rfl)
theorem dX1_takeCommands_30 : decode cX1_takeCommands 30 = .ok (.aload_n 2, 1) := dk_44 (dk_at dksX1_takeCommands_1 6 rfl rfl)
theorem dX1_takeCommands_31 : decode cX1_takeCommands 31 = .ok (.getfield 317, 3) := dk_180 1 61 (dk_at dksX1_takeCommands_1 7 rfl rfl)
theorem dX1_takeCommands_34 : decode cX1_takeCommands 34 = .ok (.putfield 58, 3) := dk_181 0 58 (dk_at dksX1_takeCommands_1 10 rfl rfl)
theorem dX1_takeCommands_37 : decode cX1_takeCommands 37 = .ok (.new 1, 3) := dk_187 0 1 (dk_at dksX1_takeCommands_1 13 rfl rfl)
theorem dX1_takeCommands_40 : decode cX1_takeCommands 40 = .ok (.dup, 1) := dk_89 (dk_at dksX1_takeCommands_1 16 rfl rfl)
theorem dX1_takeCommands_41 : decode cX1_takeCommands 41 = .ok (.invokespecial 3, 3) := dk_183 0 3 (dk_at dksX1_takeCommands_1 17 rfl rfl)
theorem dX1_takeCommands_44 : decode cX1_takeCommands 44 = .ok (.athrow, 1) := dk_191 (dk_at dksX1_takeCommands_1 20 rfl rfl)
abbrev cX1_errorPosition : ByteArray := prog_1_method_67_code
def yX1_errorPosition : MethodName := ⟨RX1, "errorPosition", "()I"⟩
def dkwX1_errorPosition_0 : List UInt8 := [42, 180, 0, 58, 184, 1, 67, 172]
abbrev dktX1_errorPosition_0 : List UInt8 := dkwX1_errorPosition_0 ++ []
theorem dksX1_errorPosition_0 : cX1_errorPosition.data.toList.drop 0 = dktX1_errorPosition_0 := by decide +kernel
theorem dX1_errorPosition_0 : decode cX1_errorPosition 0 = .ok (.aload_n 0, 1) := dk_42 (dk_at dksX1_errorPosition_0 0 rfl rfl)
theorem dX1_errorPosition_1 : decode cX1_errorPosition 1 = .ok (.getfield 58, 3) := dk_180 0 58 (dk_at dksX1_errorPosition_0 1 rfl rfl)
theorem dX1_errorPosition_4 : decode cX1_errorPosition 4 = .ok (.invokestatic 323, 3) := dk_184 1 67 (dk_at dksX1_errorPosition_0 4 rfl rfl)
theorem dX1_errorPosition_7 : decode cX1_errorPosition 7 = .ok (.ireturn, 1) := dk_172 (dk_at dksX1_errorPosition_0 7 rfl rfl)
abbrev cX1_kept : ByteArray := prog_1_method_66_code
def yX1_kept : MethodName := ⟨RX1, "kept", "(I)I"⟩
def dkwX1_kept_0 : List UInt8 := [26, 2, 159, 0, 7, 4, 167, 0, 4, 3, 184, 0, 148, 26, 172]
abbrev dktX1_kept_0 : List UInt8 := dkwX1_kept_0 ++ []
theorem dksX1_kept_0 : cX1_kept.data.toList.drop 0 = dktX1_kept_0 := by decide +kernel
theorem dX1_kept_0 : decode cX1_kept 0 = .ok (.iload_n 0, 1) := dk_26 (dk_at dksX1_kept_0 0 rfl rfl)
theorem dX1_kept_1 : decode cX1_kept 1 = .ok (.iconst (-1), 1) := dk_2 (dk_at dksX1_kept_0 1 rfl rfl)
theorem dX1_kept_2 : decode cX1_kept 2 = .ok (.if_icmp .eq 7, 3) := dk_159 0 7 (dk_at dksX1_kept_0 2 rfl rfl)
theorem dX1_kept_5 : decode cX1_kept 5 = .ok (.iconst 1, 1) := dk_4 (dk_at dksX1_kept_0 5 rfl rfl)
theorem dX1_kept_6 : decode cX1_kept 6 = .ok (.goto 4, 3) := dk_167 0 4 (dk_at dksX1_kept_0 6 rfl rfl)
theorem dX1_kept_9 : decode cX1_kept 9 = .ok (.iconst 0, 1) := dk_3 (dk_at dksX1_kept_0 9 rfl rfl)
theorem dX1_kept_10 : decode cX1_kept 10 = .ok (.invokestatic 148, 3) := dk_184 0 148 (dk_at dksX1_kept_0 10 rfl rfl)
theorem dX1_kept_13 : decode cX1_kept 13 = .ok (.iload_n 0, 1) := dk_26 (dk_at dksX1_kept_0 13 rfl rfl)
theorem dX1_kept_14 : decode cX1_kept 14 = .ok (.ireturn, 1) := dk_172 (dk_at dksX1_kept_0 14 rfl rfl)
abbrev cX1_failedCommand : ByteArray := prog_1_method_68_code
def yX1_failedCommand : MethodName := ⟨RX1, "failedCommand", "()I"⟩
def dkwX1_failedCommand_0 : List UInt8 := [42, 180, 0, 62, 184, 1, 67, 172]
abbrev dktX1_failedCommand_0 : List UInt8 := dkwX1_failedCommand_0 ++ []
theorem dksX1_failedCommand_0 : cX1_failedCommand.data.toList.drop 0 = dktX1_failedCommand_0 := by decide +kernel
theorem dX1_failedCommand_0 : decode cX1_failedCommand 0 = .ok (.aload_n 0, 1) := dk_42 (dk_at dksX1_failedCommand_0 0 rfl rfl)
theorem dX1_failedCommand_1 : decode cX1_failedCommand 1 = .ok (.getfield 62, 3) := dk_180 0 62 (dk_at dksX1_failedCommand_0 1 rfl rfl)
theorem dX1_failedCommand_4 : decode cX1_failedCommand 4 = .ok (.invokestatic 323, 3) := dk_184 1 67 (dk_at dksX1_failedCommand_0 4 rfl rfl)
theorem dX1_failedCommand_7 : decode cX1_failedCommand 7 = .ok (.ireturn, 1) := dk_172 (dk_at dksX1_failedCommand_0 7 rfl rfl)
abbrev cX1_undo : ByteArray := prog_1_method_69_code
def yX1_undo : MethodName := ⟨RX1, "undo", "()I"⟩
def dkwX1_undo_1 : List UInt8 := [182, 1, 73, 192, 0, 31, 181, 0, 34, 42, 180, 0, 41, 182, 0, 65, 172]
abbrev dktX1_undo_1 : List UInt8 := dkwX1_undo_1 ++ []
def dkwX1_undo_0 : List UInt8 := [42, 180, 0, 41, 182, 1, 70, 154, 0, 7, 4, 167, 0, 4, 3, 184, 1, 43, 42, 42, 180, 0, 41]
abbrev dktX1_undo_0 : List UInt8 := dkwX1_undo_0 ++ dktX1_undo_1
theorem dksX1_undo_0 : cX1_undo.data.toList.drop 0 = dktX1_undo_0 := by decide +kernel
theorem dksX1_undo_1 : cX1_undo.data.toList.drop 23 = dktX1_undo_1 := dk_seg dksX1_undo_0 23 rfl rfl
theorem dX1_undo_0 : decode cX1_undo 0 = .ok (.aload_n 0, 1) := dk_42 (dk_at dksX1_undo_0 0 rfl rfl)
theorem dX1_undo_1 : decode cX1_undo 1 = .ok (.getfield 41, 3) := dk_180 0 41 (dk_at dksX1_undo_0 1 rfl rfl)
theorem dX1_undo_4 : decode cX1_undo 4 = .ok (.invokevirtual 326, 3) := dk_182 1 70 (dk_at dksX1_undo_0 4 rfl rfl)
theorem dX1_undo_7 : decode cX1_undo 7 = .ok (.ifCond .ne 7, 3) := dk_154 0 7 (dk_at dksX1_undo_0 7 rfl rfl)
theorem dX1_undo_10 : decode cX1_undo 10 = .ok (.iconst 1, 1) := dk_4 (dk_at dksX1_undo_0 10 rfl rfl)
theorem dX1_undo_11 : decode cX1_undo 11 = .ok (.goto 4, 3) := dk_167 0 4 (dk_at dksX1_undo_0 11 rfl rfl)
theorem dX1_undo_14 : decode cX1_undo 14 = .ok (.iconst 0, 1) := dk_3 (dk_at dksX1_undo_0 14 rfl rfl)
theorem dX1_undo_15 : decode cX1_undo 15 = .ok (.invokestatic 299, 3) := dk_184 1 43 (dk_at dksX1_undo_0 15 rfl rfl)
theorem dX1_undo_18 : decode cX1_undo 18 = .ok (.aload_n 0, 1) := dk_42 (dk_at dksX1_undo_0 18 rfl rfl)
theorem dX1_undo_19 : decode cX1_undo 19 = .ok (.aload_n 0, 1) := dk_42 (dk_at dksX1_undo_0 19 rfl rfl)
theorem dX1_undo_20 : decode cX1_undo 20 = .ok (.getfield 41, 3) := dk_180 0 41 (dk_at dksX1_undo_0 20 rfl rfl)
theorem dX1_undo_23 : decode cX1_undo 23 = .ok (.invokevirtual 329, 3) := dk_182 1 73 (dk_at dksX1_undo_1 0 rfl rfl)
theorem dX1_undo_26 : decode cX1_undo 26 = .ok (.checkcast 31, 3) := dk_192 0 31 (dk_at dksX1_undo_1 3 rfl rfl)
theorem dX1_undo_29 : decode cX1_undo 29 = .ok (.putfield 34, 3) := dk_181 0 34 (dk_at dksX1_undo_1 6 rfl rfl)
theorem dX1_undo_32 : decode cX1_undo 32 = .ok (.aload_n 0, 1) := dk_42 (dk_at dksX1_undo_1 9 rfl rfl)
theorem dX1_undo_33 : decode cX1_undo 33 = .ok (.getfield 41, 3) := dk_180 0 41 (dk_at dksX1_undo_1 10 rfl rfl)
theorem dX1_undo_36 : decode cX1_undo 36 = .ok (.invokevirtual 65, 3) := dk_182 0 65 (dk_at dksX1_undo_1 13 rfl rfl)
theorem dX1_undo_39 : decode cX1_undo 39 = .ok (.ireturn, 1) := dk_172 (dk_at dksX1_undo_1 16 rfl rfl)
abbrev cX1_restore : ByteArray := prog_1_method_72_code
def yX1_restore : MethodName := ⟨RX1, "restore", "()I"⟩
def dkwX1_restore_1 : List UInt8 := [180, 0, 41, 182, 1, 79, 42, 180, 0, 34, 180, 0, 104, 182, 0, 108, 172]
abbrev dktX1_restore_1 : List UInt8 := dkwX1_restore_1 ++ []
def dkwX1_restore_0 : List UInt8 := [42, 180, 1, 76, 198, 0, 7, 4, 167, 0, 4, 3, 184, 1, 43, 42, 42, 180, 1, 76, 181, 0, 34, 42]
abbrev dktX1_restore_0 : List UInt8 := dkwX1_restore_0 ++ dktX1_restore_1
theorem dksX1_restore_0 : cX1_restore.data.toList.drop 0 = dktX1_restore_0 := by decide +kernel
theorem dksX1_restore_1 : cX1_restore.data.toList.drop 24 = dktX1_restore_1 := dk_seg dksX1_restore_0 24 rfl rfl
theorem dX1_restore_0 : decode cX1_restore 0 = .ok (.aload_n 0, 1) := dk_42 (dk_at dksX1_restore_0 0 rfl rfl)
theorem dX1_restore_1 : decode cX1_restore 1 = .ok (.getfield 332, 3) := dk_180 1 76 (dk_at dksX1_restore_0 1 rfl rfl)
theorem dX1_restore_4 : decode cX1_restore 4 = .ok (.ifnull 7, 3) := dk_198 0 7 (dk_at dksX1_restore_0 4 rfl rfl)
theorem dX1_restore_7 : decode cX1_restore 7 = .ok (.iconst 1, 1) := dk_4 (dk_at dksX1_restore_0 7 rfl rfl)
theorem dX1_restore_8 : decode cX1_restore 8 = .ok (.goto 4, 3) := dk_167 0 4 (dk_at dksX1_restore_0 8 rfl rfl)
theorem dX1_restore_11 : decode cX1_restore 11 = .ok (.iconst 0, 1) := dk_3 (dk_at dksX1_restore_0 11 rfl rfl)
theorem dX1_restore_12 : decode cX1_restore 12 = .ok (.invokestatic 299, 3) := dk_184 1 43 (dk_at dksX1_restore_0 12 rfl rfl)
theorem dX1_restore_15 : decode cX1_restore 15 = .ok (.aload_n 0, 1) := dk_42 (dk_at dksX1_restore_0 15 rfl rfl)
theorem dX1_restore_16 : decode cX1_restore 16 = .ok (.aload_n 0, 1) := dk_42 (dk_at dksX1_restore_0 16 rfl rfl)
theorem dX1_restore_17 : decode cX1_restore 17 = .ok (.getfield 332, 3) := dk_180 1 76 (dk_at dksX1_restore_0 17 rfl rfl)
theorem dX1_restore_20 : decode cX1_restore 20 = .ok (.putfield 34, 3) := dk_181 0 34 (dk_at dksX1_restore_0 20 rfl rfl)
theorem dX1_restore_23 : decode cX1_restore 23 = .ok (.aload_n 0, 1) := dk_42 (dk_at dksX1_restore_0 23 rfl rfl)
theorem dX1_restore_24 : decode cX1_restore 24 = .ok (.getfield 41, 3) := dk_180 0 41 (dk_at dksX1_restore_1 0 rfl rfl)
theorem dX1_restore_27 : decode cX1_restore 27 = .ok (.invokevirtual 335, 3) := dk_182 1 79 (dk_at dksX1_restore_1 3 rfl rfl)
theorem dX1_restore_30 : decode cX1_restore 30 = .ok (.aload_n 0, 1) := dk_42 (dk_at dksX1_restore_1 6 rfl rfl)
theorem dX1_restore_31 : decode cX1_restore 31 = .ok (.getfield 34, 3) := dk_180 0 34 (dk_at dksX1_restore_1 7 rfl rfl)
theorem dX1_restore_34 : decode cX1_restore 34 = .ok (.getfield 104, 3) := dk_180 0 104 (dk_at dksX1_restore_1 10 rfl rfl)
theorem dX1_restore_37 : decode cX1_restore 37 = .ok (.invokevirtual 108, 3) := dk_182 0 108 (dk_at dksX1_restore_1 13 rfl rfl)
theorem dX1_restore_40 : decode cX1_restore 40 = .ok (.ireturn, 1) := dk_172 (dk_at dksX1_restore_1 16 rfl rfl)
theorem q81 : (Jvm.Cond.initialized "CloudInterviews") ∈ lw_all := lw_g (lw_at lw_m1 1 rfl) rfl
theorem q129 : (Jvm.Cond.instantiable "CloudInterviews" (7 : Nat)) ∈ lw_all := lw_g (lw_at lw_m1 49 rfl) rfl
theorem q131 : (Jvm.Cond.instanceMethod ({ cls := "CloudInterviews", name := "<init>", desc := "()V" } : Jvm.MethodName)) ∈ lw_all := lw_g (lw_at lw_m1 51 rfl) rfl
theorem q132 : (Jvm.Cond.code ({ cls := "CloudInterviews", name := "<init>", desc := "()V" } : Jvm.MethodName) prog_1_method_9_code (1 : Nat) (Option.none : Option Jvm.ClassFile.FieldType)) ∈ lw_all := lw_g (lw_at lw_m1 52 rfl) rfl
theorem q133 : (Jvm.Cond.methodLink "CloudInterviews" (28 : Nat) ({ cls := "java/lang/Object", name := "<init>", desc := "()V" } : Jvm.MethodName)) ∈ lw_all := lw_g (lw_at lw_m1 53 rfl) rfl
theorem q136 : (Jvm.Cond.classLink "CloudInterviews" (31 : Nat) "CloudInterviews$Board") ∈ lw_all := lw_g (lw_at lw_m1 56 rfl) rfl
theorem q138 : (Jvm.Cond.methodLinkNest "CloudInterviews" (33 : Nat) ({ cls := "CloudInterviews$Board", name := "<init>", desc := "()V" } : Jvm.MethodName) "CloudInterviews") ∈ lw_tbl := lw_at lw_m1 58 rfl
theorem q205 : (Jvm.Cond.fieldLinkNest "CloudInterviews" (104 : Nat) "CloudInterviews$Board" "applicants" "Ljava/util/ArrayList;" "CloudInterviews") ∈ lw_tbl := lw_at lw_m1 125 rfl
theorem q208 : (Jvm.Cond.fieldLinkNest "CloudInterviews" (186 : Nat) "CloudInterviews$Board" "posts" "Ljava/util/ArrayList;" "CloudInterviews") ∈ lw_tbl := lw_at lw_m1 128 rfl
theorem q211 : (Jvm.Cond.fieldLinkNest "CloudInterviews" (251 : Nat) "CloudInterviews$Board" "day" "I" "CloudInterviews") ∈ lw_tbl := lw_at lw_m1 131 rfl
theorem q225 : (Jvm.Cond.classLink "CloudInterviews" (38 : Nat) "java/util/ArrayDeque") ∈ lw_all := lw_g (lw_at lw_m1 145 rfl) rfl
theorem q227 : (Jvm.Cond.methodLink "CloudInterviews" (40 : Nat) ({ cls := "java/util/ArrayDeque", name := "<init>", desc := "()V" } : Jvm.MethodName)) ∈ lw_all := lw_g (lw_at lw_m1 147 rfl) rfl
theorem q243 : (Jvm.Cond.classLink "CloudInterviews" (45 : Nat) "java/lang/StringBuilder") ∈ lw_all := lw_g (lw_at lw_m1 163 rfl) rfl
theorem q245 : (Jvm.Cond.methodLink "CloudInterviews" (47 : Nat) ({ cls := "java/lang/StringBuilder", name := "<init>", desc := "()V" } : Jvm.MethodName)) ∈ lw_all := lw_g (lw_at lw_m1 165 rfl) rfl
theorem q275 : (Jvm.Cond.stringRef "CloudInterviews" (52 : Nat) "") ∈ lw_tbl := lw_at lw_m1 195 rfl
theorem q276 : (Jvm.Cond.fieldLink "CloudInterviews" (34 : Nat) "CloudInterviews" "board" "LCloudInterviews$Board;") ∈ lw_all := lw_g (lw_at lw_m1 196 rfl) rfl
theorem q277 : (Jvm.Cond.fieldLink "CloudInterviews" (41 : Nat) "CloudInterviews" "undoable" "Ljava/util/ArrayDeque;") ∈ lw_all := lw_g (lw_at lw_m1 197 rfl) rfl
theorem q278 : (Jvm.Cond.fieldLink "CloudInterviews" (332 : Nat) "CloudInterviews" "saved" "LCloudInterviews$Board;") ∈ lw_all := lw_g (lw_at lw_m1 198 rfl) rfl
theorem q279 : (Jvm.Cond.fieldLink "CloudInterviews" (48 : Nat) "CloudInterviews" "input" "Ljava/lang/StringBuilder;") ∈ lw_all := lw_g (lw_at lw_m1 199 rfl) rfl
theorem q280 : (Jvm.Cond.fieldLink "CloudInterviews" (54 : Nat) "CloudInterviews" "output" "Ljava/lang/String;") ∈ lw_all := lw_g (lw_at lw_m1 200 rfl) rfl
theorem q281 : (Jvm.Cond.fieldLink "CloudInterviews" (58 : Nat) "CloudInterviews" "errorPosition" "I") ∈ lw_all := lw_g (lw_at lw_m1 201 rfl) rfl
theorem q282 : (Jvm.Cond.fieldLink "CloudInterviews" (62 : Nat) "CloudInterviews" "failedCommand" "I") ∈ lw_all := lw_g (lw_at lw_m1 202 rfl) rfl
theorem q283 : (Jvm.Cond.lays "CloudInterviews" "CloudInterviews" "board" "LCloudInterviews$Board;") ∈ lw_all := lw_g (lw_at lw_m1 203 rfl) rfl
theorem q284 : (Jvm.Cond.soleField "CloudInterviews" "board") ∈ lw_all := lw_g (lw_at lw_m1 204 rfl) rfl
theorem q285 : (Jvm.Cond.laysFinal "CloudInterviews" "CloudInterviews" "undoable" "Ljava/util/ArrayDeque;") ∈ lw_all := lw_g (lw_at lw_m1 205 rfl) rfl
theorem q286 : (Jvm.Cond.soleField "CloudInterviews" "undoable") ∈ lw_all := lw_g (lw_at lw_m1 206 rfl) rfl
theorem q287 : (Jvm.Cond.lays "CloudInterviews" "CloudInterviews" "saved" "LCloudInterviews$Board;") ∈ lw_all := lw_g (lw_at lw_m1 207 rfl) rfl
theorem q288 : (Jvm.Cond.soleField "CloudInterviews" "saved") ∈ lw_all := lw_g (lw_at lw_m1 208 rfl) rfl
theorem q289 : (Jvm.Cond.lays "CloudInterviews" "CloudInterviews" "input" "Ljava/lang/StringBuilder;") ∈ lw_all := lw_g (lw_at lw_m1 209 rfl) rfl
theorem q290 : (Jvm.Cond.soleField "CloudInterviews" "input") ∈ lw_all := lw_g (lw_at lw_m1 210 rfl) rfl
theorem q291 : (Jvm.Cond.lays "CloudInterviews" "CloudInterviews" "output" "Ljava/lang/String;") ∈ lw_all := lw_g (lw_at lw_m1 211 rfl) rfl
theorem q292 : (Jvm.Cond.soleField "CloudInterviews" "output") ∈ lw_all := lw_g (lw_at lw_m1 212 rfl) rfl
theorem q293 : (Jvm.Cond.lays "CloudInterviews" "CloudInterviews" "errorPosition" "I") ∈ lw_all := lw_g (lw_at lw_m1 213 rfl) rfl
theorem q294 : (Jvm.Cond.soleField "CloudInterviews" "errorPosition") ∈ lw_all := lw_g (lw_at lw_m1 214 rfl) rfl
theorem q295 : (Jvm.Cond.lays "CloudInterviews" "CloudInterviews" "failedCommand" "I") ∈ lw_all := lw_g (lw_at lw_m1 215 rfl) rfl
theorem q296 : (Jvm.Cond.soleField "CloudInterviews" "failedCommand") ∈ lw_all := lw_g (lw_at lw_m1 216 rfl) rfl
theorem q297 : (Jvm.Cond.superclass "CloudInterviews" "java/lang/Object") ∈ lw_all := lw_g (lw_at lw_m1 217 rfl) rfl
theorem q299 : (Jvm.Cond.instanceMethod ({ cls := "CloudInterviews", name := "applicantCount", desc := "()I" } : Jvm.MethodName)) ∈ lw_all := lw_g (lw_at lw_m1 219 rfl) rfl
theorem q300 : (Jvm.Cond.selects "CloudInterviews" ({ cls := "CloudInterviews", name := "applicantCount", desc := "()I" } : Jvm.MethodName) ({ cls := "CloudInterviews", name := "applicantCount", desc := "()I" } : Jvm.MethodName)) ∈ lw_all := lw_g (lw_at lw_m1 220 rfl) rfl
theorem q301 : (Jvm.Cond.code ({ cls := "CloudInterviews", name := "applicantCount", desc := "()I" } : Jvm.MethodName) prog_1_method_15_code (1 : Nat) (Option.some Jvm.ClassFile.FieldType.int)) ∈ lw_all := lw_g (lw_at lw_m1 221 rfl) rfl
theorem q302 : (Jvm.Cond.methodLink "CloudInterviews" (108 : Nat) ({ cls := "java/util/ArrayList", name := "size", desc := "()I" } : Jvm.MethodName)) ∈ lw_all := lw_g (lw_at lw_m1 222 rfl) rfl
theorem q307 : (Jvm.Cond.instanceMethod ({ cls := "CloudInterviews", name := "waitingCount", desc := "()I" } : Jvm.MethodName)) ∈ lw_all := lw_g (lw_at lw_m1 227 rfl) rfl
theorem q308 : (Jvm.Cond.selects "CloudInterviews" ({ cls := "CloudInterviews", name := "waitingCount", desc := "()I" } : Jvm.MethodName) ({ cls := "CloudInterviews", name := "waitingCount", desc := "()I" } : Jvm.MethodName)) ∈ lw_all := lw_g (lw_at lw_m1 228 rfl) rfl
theorem q309 : (Jvm.Cond.code ({ cls := "CloudInterviews", name := "waitingCount", desc := "()I" } : Jvm.MethodName) prog_1_method_16_code (1 : Nat) (Option.some Jvm.ClassFile.FieldType.int)) ∈ lw_all := lw_g (lw_at lw_m1 229 rfl) rfl
theorem q310 : (Jvm.Cond.methodLink "CloudInterviews" (111 : Nat) ({ cls := "CloudInterviews$Board", name := "waiting", desc := "()I" } : Jvm.MethodName)) ∈ lw_all := lw_g (lw_at lw_m1 230 rfl) rfl
theorem q435 : (Jvm.Cond.instanceMethod ({ cls := "CloudInterviews", name := "postCount", desc := "()I" } : Jvm.MethodName)) ∈ lw_all := lw_g (lw_at lw_m2 115 rfl) rfl
theorem q436 : (Jvm.Cond.selects "CloudInterviews" ({ cls := "CloudInterviews", name := "postCount", desc := "()I" } : Jvm.MethodName) ({ cls := "CloudInterviews", name := "postCount", desc := "()I" } : Jvm.MethodName)) ∈ lw_all := lw_g (lw_at lw_m2 116 rfl) rfl
theorem q437 : (Jvm.Cond.code ({ cls := "CloudInterviews", name := "postCount", desc := "()I" } : Jvm.MethodName) prog_1_method_33_code (1 : Nat) (Option.some Jvm.ClassFile.FieldType.int)) ∈ lw_all := lw_g (lw_at lw_m2 117 rfl) rfl
theorem q439 : (Jvm.Cond.instanceMethod ({ cls := "CloudInterviews", name := "vacantCount", desc := "()I" } : Jvm.MethodName)) ∈ lw_all := lw_g (lw_at lw_m2 119 rfl) rfl
theorem q440 : (Jvm.Cond.selects "CloudInterviews" ({ cls := "CloudInterviews", name := "vacantCount", desc := "()I" } : Jvm.MethodName) ({ cls := "CloudInterviews", name := "vacantCount", desc := "()I" } : Jvm.MethodName)) ∈ lw_all := lw_g (lw_at lw_m2 120 rfl) rfl
theorem q441 : (Jvm.Cond.code ({ cls := "CloudInterviews", name := "vacantCount", desc := "()I" } : Jvm.MethodName) prog_1_method_34_code (1 : Nat) (Option.some Jvm.ClassFile.FieldType.int)) ∈ lw_all := lw_g (lw_at lw_m2 121 rfl) rfl
theorem q442 : (Jvm.Cond.methodLink "CloudInterviews" (189 : Nat) ({ cls := "CloudInterviews$Board", name := "vacant", desc := "()I" } : Jvm.MethodName)) ∈ lw_all := lw_g (lw_at lw_m2 122 rfl) rfl
theorem q452 : (Jvm.Cond.instanceMethod ({ cls := "CloudInterviews", name := "match", desc := "()I" } : Jvm.MethodName)) ∈ lw_all := lw_g (lw_at lw_m2 132 rfl) rfl
theorem q453 : (Jvm.Cond.selects "CloudInterviews" ({ cls := "CloudInterviews", name := "match", desc := "()I" } : Jvm.MethodName) ({ cls := "CloudInterviews", name := "match", desc := "()I" } : Jvm.MethodName)) ∈ lw_all := lw_g (lw_at lw_m2 133 rfl) rfl
theorem q454 : (Jvm.Cond.code ({ cls := "CloudInterviews", name := "match", desc := "()I" } : Jvm.MethodName) prog_1_method_47_code (1 : Nat) (Option.some Jvm.ClassFile.FieldType.int)) ∈ lw_all := lw_g (lw_at lw_m2 134 rfl) rfl
theorem q455 : (Jvm.Cond.stringRef "CloudInterviews" (235 : Nat) "match") ∈ lw_tbl := lw_at lw_m2 135 rfl
theorem q456 : (Jvm.Cond.methodLink "CloudInterviews" (96 : Nat) ({ cls := "CloudInterviews", name := "change", desc := "(Ljava/lang/String;[I)I" } : Jvm.MethodName)) ∈ lw_all := lw_g (lw_at lw_m2 136 rfl) rfl
theorem q457 : (Jvm.Cond.privateMethod ({ cls := "CloudInterviews", name := "change", desc := "(Ljava/lang/String;[I)I" } : Jvm.MethodName)) ∈ lw_tbl := lw_at lw_m2 137 rfl
theorem q458 : (Jvm.Cond.instanceMethod ({ cls := "CloudInterviews", name := "change", desc := "(Ljava/lang/String;[I)I" } : Jvm.MethodName)) ∈ lw_all := lw_g (lw_at lw_m2 138 rfl) rfl
theorem q459 : (Jvm.Cond.code ({ cls := "CloudInterviews", name := "change", desc := "(Ljava/lang/String;[I)I" } : Jvm.MethodName) prog_1_method_11_code (5 : Nat) (Option.some Jvm.ClassFile.FieldType.int)) ∈ lw_all := lw_g (lw_at lw_m2 139 rfl) rfl
theorem q460 : (Jvm.Cond.methodLink "CloudInterviews" (77 : Nat) ({ cls := "CloudInterviews$Board", name := "copy", desc := "()LCloudInterviews$Board;" } : Jvm.MethodName)) ∈ lw_all := lw_g (lw_at lw_m2 140 rfl) rfl
theorem q477 : (Jvm.Cond.fieldLinkNest "CloudInterviews" (195 : Nat) "CloudInterviews$Post" "shape" "C" "CloudInterviews") ∈ lw_tbl := lw_at lw_m2 157 rfl
theorem q479 : (Jvm.Cond.fieldLinkNest "CloudInterviews" (198 : Nat) "CloudInterviews$Post" "lowestWhiteness" "I" "CloudInterviews") ∈ lw_tbl := lw_at lw_m2 159 rfl
theorem q481 : (Jvm.Cond.fieldLinkNest "CloudInterviews" (201 : Nat) "CloudInterviews$Post" "highestRain" "I" "CloudInterviews") ∈ lw_tbl := lw_at lw_m2 161 rfl
theorem q485 : (Jvm.Cond.fieldLinkNest "CloudInterviews" (204 : Nat) "CloudInterviews$Post" "wage" "I" "CloudInterviews") ∈ lw_tbl := lw_at lw_m2 165 rfl
theorem q488 : (Jvm.Cond.fieldLinkNest "CloudInterviews" (210 : Nat) "CloudInterviews$Post" "holder" "LCloudInterviews$Applicant;" "CloudInterviews") ∈ lw_tbl := lw_at lw_m2 168 rfl
theorem q533 : (Jvm.Cond.selects "CloudInterviews" ({ cls := "java/lang/Object", name := "getClass", desc := "()Ljava/lang/Class;" } : Jvm.MethodName) ({ cls := "java/lang/Object", name := "getClass", desc := "()Ljava/lang/Class;" } : Jvm.MethodName)) ∈ lw_all := lw_g (lw_at lw_m2 213 rfl) rfl
theorem q587 : (Jvm.Cond.fieldLinkNest "CloudInterviews" (124 : Nat) "CloudInterviews$Applicant" "id" "I" "CloudInterviews") ∈ lw_tbl := lw_at lw_m3 27 rfl
theorem q590 : (Jvm.Cond.fieldLinkNest "CloudInterviews" (131 : Nat) "CloudInterviews$Applicant" "shape" "C" "CloudInterviews") ∈ lw_tbl := lw_at lw_m3 30 rfl
theorem q595 : (Jvm.Cond.fieldLinkNest "CloudInterviews" (135 : Nat) "CloudInterviews$Applicant" "whiteness" "I" "CloudInterviews") ∈ lw_tbl := lw_at lw_m3 35 rfl
theorem q599 : (Jvm.Cond.fieldLinkNest "CloudInterviews" (138 : Nat) "CloudInterviews$Applicant" "rain" "I" "CloudInterviews") ∈ lw_tbl := lw_at lw_m3 39 rfl
theorem q602 : (Jvm.Cond.fieldLinkNest "CloudInterviews" (141 : Nat) "CloudInterviews$Applicant" "coins" "I" "CloudInterviews") ∈ lw_tbl := lw_at lw_m3 42 rfl
theorem q606 : (Jvm.Cond.fieldLinkNest "CloudInterviews" (152 : Nat) "CloudInterviews$Applicant" "post" "LCloudInterviews$Post;" "CloudInterviews") ∈ lw_tbl := lw_at lw_m3 46 rfl
theorem q655 : (Jvm.Cond.selects "CloudInterviews" ({ cls := "java/lang/Object", name := "hashCode", desc := "()I" } : Jvm.MethodName) ({ cls := "java/lang/Object", name := "hashCode", desc := "()I" } : Jvm.MethodName)) ∈ lw_all := lw_g (lw_at lw_m3 95 rfl) rfl
theorem q1268 : (Jvm.Cond.selects "CloudInterviews" ({ cls := "java/lang/Object", name := "equals", desc := "(Ljava/lang/Object;)Z" } : Jvm.MethodName) ({ cls := "java/lang/Object", name := "equals", desc := "(Ljava/lang/Object;)Z" } : Jvm.MethodName)) ∈ lw_all := lw_g (lw_at lw_m5 228 rfl) rfl
theorem q1459 : (Jvm.Cond.classLink "CloudInterviews" (81 : Nat) "CloudInterviews$Command") ∈ lw_all := lw_g (lw_at lw_m6 179 rfl) rfl
theorem q1461 : (Jvm.Cond.methodLink "CloudInterviews" (83 : Nat) ({ cls := "CloudInterviews$Command", name := "<init>", desc := "(Ljava/lang/String;[I)V" } : Jvm.MethodName)) ∈ lw_all := lw_g (lw_at lw_m6 181 rfl) rfl
theorem q1472 : (Jvm.Cond.methodLink "CloudInterviews" (86 : Nat) ({ cls := "CloudInterviews$Command", name := "runOn", desc := "(LCloudInterviews$Board;)I" } : Jvm.MethodName)) ∈ lw_all := lw_g (lw_at lw_m6 192 rfl) rfl
theorem q1494 : (Jvm.Cond.static ({ cls := "CloudInterviews", name := "isShape", desc := "(C)Z" } : Jvm.MethodName)) ∈ lw_all := lw_g (lw_at lw_m6 214 rfl) rfl
theorem q1495 : (Jvm.Cond.code ({ cls := "CloudInterviews", name := "isShape", desc := "(C)Z" } : Jvm.MethodName) prog_1_method_8_code (1 : Nat) (Option.some Jvm.ClassFile.FieldType.boolean)) ∈ lw_all := lw_g (lw_at lw_m6 215 rfl) rfl
theorem q1498 : (Jvm.Cond.static ({ cls := "CloudInterviews", name := "inRange", desc := "(JJJ)Z" } : Jvm.MethodName)) ∈ lw_all := lw_g (lw_at lw_m6 218 rfl) rfl
theorem q1499 : (Jvm.Cond.code ({ cls := "CloudInterviews", name := "inRange", desc := "(JJJ)Z" } : Jvm.MethodName) prog_1_method_1_code (6 : Nat) (Option.some Jvm.ClassFile.FieldType.boolean)) ∈ lw_all := lw_g (lw_at lw_m6 219 rfl) rfl
theorem q1502 : (Jvm.Cond.static ({ cls := "CloudInterviews", name := "checkArgument", desc := "(Z)V" } : Jvm.MethodName)) ∈ lw_all := lw_g (lw_at lw_m6 222 rfl) rfl
theorem q1503 : (Jvm.Cond.code ({ cls := "CloudInterviews", name := "checkArgument", desc := "(Z)V" } : Jvm.MethodName) prog_1_method_2_code (1 : Nat) (Option.none : Option Jvm.ClassFile.FieldType)) ∈ lw_all := lw_g (lw_at lw_m6 223 rfl) rfl
theorem q1504 : (Jvm.Cond.classLink "CloudInterviews" (1 : Nat) "java/lang/IllegalArgumentException") ∈ lw_all := lw_g (lw_at lw_m6 224 rfl) rfl
theorem q1505 : (Jvm.Cond.methodLink "CloudInterviews" (3 : Nat) ({ cls := "java/lang/IllegalArgumentException", name := "<init>", desc := "()V" } : Jvm.MethodName)) ∈ lw_all := lw_g (lw_at lw_m6 225 rfl) rfl
theorem q1511 : (Jvm.Cond.static ({ cls := "CloudInterviews", name := "checkState", desc := "(Z)V" } : Jvm.MethodName)) ∈ lw_all := lw_g (lw_at lw_m6 231 rfl) rfl
theorem q1512 : (Jvm.Cond.code ({ cls := "CloudInterviews", name := "checkState", desc := "(Z)V" } : Jvm.MethodName) prog_1_method_4_code (1 : Nat) (Option.none : Option Jvm.ClassFile.FieldType)) ∈ lw_all := lw_g (lw_at lw_m6 232 rfl) rfl
theorem q1513 : (Jvm.Cond.classLink "CloudInterviews" (16 : Nat) "java/lang/IllegalStateException") ∈ lw_all := lw_g (lw_at lw_m6 233 rfl) rfl
theorem q1522 : (Jvm.Cond.methodLink "CloudInterviews" (18 : Nat) ({ cls := "java/lang/IllegalStateException", name := "<init>", desc := "()V" } : Jvm.MethodName)) ∈ lw_all := lw_g (lw_at lw_m7 2 rfl) rfl
theorem q1542 : (Jvm.Cond.static ({ cls := "CloudInterviews", name := "checkElement", desc := "(Z)V" } : Jvm.MethodName)) ∈ lw_all := lw_g (lw_at lw_m7 22 rfl) rfl
theorem q1543 : (Jvm.Cond.code ({ cls := "CloudInterviews", name := "checkElement", desc := "(Z)V" } : Jvm.MethodName) prog_1_method_5_code (1 : Nat) (Option.none : Option Jvm.ClassFile.FieldType)) ∈ lw_all := lw_g (lw_at lw_m7 23 rfl) rfl
theorem q1544 : (Jvm.Cond.classLink "CloudInterviews" (19 : Nat) "java/util/NoSuchElementException") ∈ lw_all := lw_g (lw_at lw_m7 24 rfl) rfl
theorem q1545 : (Jvm.Cond.methodLink "CloudInterviews" (21 : Nat) ({ cls := "java/util/NoSuchElementException", name := "<init>", desc := "()V" } : Jvm.MethodName)) ∈ lw_all := lw_g (lw_at lw_m7 25 rfl) rfl
theorem q1575 : (Jvm.Cond.static ({ cls := "CloudInterviews", name := "checkIndex", desc := "(II)V" } : Jvm.MethodName)) ∈ lw_all := lw_g (lw_at lw_m7 55 rfl) rfl
theorem q1576 : (Jvm.Cond.code ({ cls := "CloudInterviews", name := "checkIndex", desc := "(II)V" } : Jvm.MethodName) prog_1_method_3_code (2 : Nat) (Option.none : Option Jvm.ClassFile.FieldType)) ∈ lw_all := lw_g (lw_at lw_m7 56 rfl) rfl
theorem q1577 : (Jvm.Cond.methodLink "CloudInterviews" (7 : Nat) ({ cls := "CloudInterviews", name := "inRange", desc := "(JJJ)Z" } : Jvm.MethodName)) ∈ lw_all := lw_g (lw_at lw_m7 57 rfl) rfl
theorem q1578 : (Jvm.Cond.classLink "CloudInterviews" (13 : Nat) "java/lang/IndexOutOfBoundsException") ∈ lw_all := lw_g (lw_at lw_m7 58 rfl) rfl
theorem q1587 : (Jvm.Cond.methodLink "CloudInterviews" (15 : Nat) ({ cls := "java/lang/IndexOutOfBoundsException", name := "<init>", desc := "()V" } : Jvm.MethodName)) ∈ lw_all := lw_g (lw_at lw_m7 67 rfl) rfl
theorem q1606 : (Jvm.Cond.static ({ cls := "CloudInterviews", name := "checkSupported", desc := "(Z)V" } : Jvm.MethodName)) ∈ lw_all := lw_g (lw_at lw_m7 86 rfl) rfl
theorem q1607 : (Jvm.Cond.code ({ cls := "CloudInterviews", name := "checkSupported", desc := "(Z)V" } : Jvm.MethodName) prog_1_method_7_code (1 : Nat) (Option.none : Option Jvm.ClassFile.FieldType)) ∈ lw_all := lw_g (lw_at lw_m7 87 rfl) rfl
theorem q1608 : (Jvm.Cond.classLink "CloudInterviews" (25 : Nat) "java/lang/UnsupportedOperationException") ∈ lw_all := lw_g (lw_at lw_m7 88 rfl) rfl
theorem q1617 : (Jvm.Cond.methodLink "CloudInterviews" (27 : Nat) ({ cls := "java/lang/UnsupportedOperationException", name := "<init>", desc := "()V" } : Jvm.MethodName)) ∈ lw_all := lw_g (lw_at lw_m7 97 rfl) rfl
theorem q1712 : (Jvm.Cond.methodLink "CloudInterviews" (90 : Nat) ({ cls := "CloudInterviews", name := "become", desc := "(LCloudInterviews$Board;)V" } : Jvm.MethodName)) ∈ lw_all := lw_g (lw_at lw_m7 192 rfl) rfl
theorem q1713 : (Jvm.Cond.privateMethod ({ cls := "CloudInterviews", name := "become", desc := "(LCloudInterviews$Board;)V" } : Jvm.MethodName)) ∈ lw_tbl := lw_at lw_m7 193 rfl
theorem q1714 : (Jvm.Cond.instanceMethod ({ cls := "CloudInterviews", name := "become", desc := "(LCloudInterviews$Board;)V" } : Jvm.MethodName)) ∈ lw_all := lw_g (lw_at lw_m7 194 rfl) rfl
theorem q1715 : (Jvm.Cond.code ({ cls := "CloudInterviews", name := "become", desc := "(LCloudInterviews$Board;)V" } : Jvm.MethodName) prog_1_method_10_code (3 : Nat) (Option.none : Option Jvm.ClassFile.FieldType)) ∈ lw_all := lw_g (lw_at lw_m7 195 rfl) rfl
theorem q1716 : (Jvm.Cond.methodLink "CloudInterviews" (65 : Nat) ({ cls := "java/util/ArrayDeque", name := "size", desc := "()I" } : Jvm.MethodName)) ∈ lw_all := lw_g (lw_at lw_m7 196 rfl) rfl
theorem q1723 : (Jvm.Cond.methodLink "CloudInterviews" (69 : Nat) ({ cls := "java/util/ArrayDeque", name := "removeFirst", desc := "()Ljava/lang/Object;" } : Jvm.MethodName)) ∈ lw_all := lw_g (lw_at lw_m7 203 rfl) rfl
theorem q1739 : (Jvm.Cond.methodLink "CloudInterviews" (73 : Nat) ({ cls := "java/util/ArrayDeque", name := "addLast", desc := "(Ljava/lang/Object;)V" } : Jvm.MethodName)) ∈ lw_all := lw_g (lw_at lw_m7 219 rfl) rfl
theorem q1762 : (Jvm.Cond.instanceMethod ({ cls := "CloudInterviews", name := "mostHires", desc := "()I" } : Jvm.MethodName)) ∈ lw_all := lw_g (lw_at lw_m8 2 rfl) rfl
theorem q1763 : (Jvm.Cond.selects "CloudInterviews" ({ cls := "CloudInterviews", name := "mostHires", desc := "()I" } : Jvm.MethodName) ({ cls := "CloudInterviews", name := "mostHires", desc := "()I" } : Jvm.MethodName)) ∈ lw_all := lw_g (lw_at lw_m8 3 rfl) rfl
theorem q1764 : (Jvm.Cond.code ({ cls := "CloudInterviews", name := "mostHires", desc := "()I" } : Jvm.MethodName) prog_1_method_48_code (1 : Nat) (Option.some Jvm.ClassFile.FieldType.int)) ∈ lw_all := lw_g (lw_at lw_m8 4 rfl) rfl
theorem q1765 : (Jvm.Cond.methodLink "CloudInterviews" (237 : Nat) ({ cls := "CloudInterviews$Board", name := "mostHires", desc := "()I" } : Jvm.MethodName)) ∈ lw_all := lw_g (lw_at lw_m8 5 rfl) rfl
theorem q1775 : (Jvm.Cond.instanceMethod ({ cls := "CloudInterviews", name := "mostHiresBySets", desc := "()I" } : Jvm.MethodName)) ∈ lw_all := lw_g (lw_at lw_m8 15 rfl) rfl
theorem q1776 : (Jvm.Cond.selects "CloudInterviews" ({ cls := "CloudInterviews", name := "mostHiresBySets", desc := "()I" } : Jvm.MethodName) ({ cls := "CloudInterviews", name := "mostHiresBySets", desc := "()I" } : Jvm.MethodName)) ∈ lw_all := lw_g (lw_at lw_m8 16 rfl) rfl
theorem q1777 : (Jvm.Cond.code ({ cls := "CloudInterviews", name := "mostHiresBySets", desc := "()I" } : Jvm.MethodName) prog_1_method_49_code (1 : Nat) (Option.some Jvm.ClassFile.FieldType.int)) ∈ lw_all := lw_g (lw_at lw_m8 17 rfl) rfl
theorem q1778 : (Jvm.Cond.methodLink "CloudInterviews" (240 : Nat) ({ cls := "CloudInterviews$Board", name := "mostHiresBySets", desc := "()I" } : Jvm.MethodName)) ∈ lw_all := lw_g (lw_at lw_m8 18 rfl) rfl
theorem q1794 : (Jvm.Cond.instanceMethod ({ cls := "CloudInterviews", name := "blockingPairs", desc := "()I" } : Jvm.MethodName)) ∈ lw_all := lw_g (lw_at lw_m8 34 rfl) rfl
theorem q1795 : (Jvm.Cond.selects "CloudInterviews" ({ cls := "CloudInterviews", name := "blockingPairs", desc := "()I" } : Jvm.MethodName) ({ cls := "CloudInterviews", name := "blockingPairs", desc := "()I" } : Jvm.MethodName)) ∈ lw_all := lw_g (lw_at lw_m8 35 rfl) rfl
theorem q1796 : (Jvm.Cond.code ({ cls := "CloudInterviews", name := "blockingPairs", desc := "()I" } : Jvm.MethodName) prog_1_method_50_code (1 : Nat) (Option.some Jvm.ClassFile.FieldType.int)) ∈ lw_all := lw_g (lw_at lw_m8 36 rfl) rfl
theorem q1797 : (Jvm.Cond.methodLink "CloudInterviews" (243 : Nat) ({ cls := "CloudInterviews$Board", name := "blockingPairs", desc := "()I" } : Jvm.MethodName)) ∈ lw_all := lw_g (lw_at lw_m8 37 rfl) rfl
theorem q1806 : (Jvm.Cond.instanceMethod ({ cls := "CloudInterviews", name := "blockingPairsByPreference", desc := "()I" } : Jvm.MethodName)) ∈ lw_all := lw_g (lw_at lw_m8 46 rfl) rfl
theorem q1807 : (Jvm.Cond.selects "CloudInterviews" ({ cls := "CloudInterviews", name := "blockingPairsByPreference", desc := "()I" } : Jvm.MethodName) ({ cls := "CloudInterviews", name := "blockingPairsByPreference", desc := "()I" } : Jvm.MethodName)) ∈ lw_all := lw_g (lw_at lw_m8 47 rfl) rfl
theorem q1808 : (Jvm.Cond.code ({ cls := "CloudInterviews", name := "blockingPairsByPreference", desc := "()I" } : Jvm.MethodName) prog_1_method_51_code (1 : Nat) (Option.some Jvm.ClassFile.FieldType.int)) ∈ lw_all := lw_g (lw_at lw_m8 48 rfl) rfl
theorem q1809 : (Jvm.Cond.methodLink "CloudInterviews" (246 : Nat) ({ cls := "CloudInterviews$Board", name := "blockingPairsByPreference", desc := "()I" } : Jvm.MethodName)) ∈ lw_all := lw_g (lw_at lw_m8 49 rfl) rfl
theorem q1814 : (Jvm.Cond.instanceMethod ({ cls := "CloudInterviews", name := "day", desc := "()I" } : Jvm.MethodName)) ∈ lw_all := lw_g (lw_at lw_m8 54 rfl) rfl
theorem q1815 : (Jvm.Cond.selects "CloudInterviews" ({ cls := "CloudInterviews", name := "day", desc := "()I" } : Jvm.MethodName) ({ cls := "CloudInterviews", name := "day", desc := "()I" } : Jvm.MethodName)) ∈ lw_all := lw_g (lw_at lw_m8 55 rfl) rfl
theorem q1816 : (Jvm.Cond.code ({ cls := "CloudInterviews", name := "day", desc := "()I" } : Jvm.MethodName) prog_1_method_53_code (1 : Nat) (Option.some Jvm.ClassFile.FieldType.int)) ∈ lw_all := lw_g (lw_at lw_m8 56 rfl) rfl
theorem q1818 : (Jvm.Cond.instanceMethod ({ cls := "CloudInterviews", name := "dailyWages", desc := "()I" } : Jvm.MethodName)) ∈ lw_all := lw_g (lw_at lw_m8 58 rfl) rfl
theorem q1819 : (Jvm.Cond.selects "CloudInterviews" ({ cls := "CloudInterviews", name := "dailyWages", desc := "()I" } : Jvm.MethodName) ({ cls := "CloudInterviews", name := "dailyWages", desc := "()I" } : Jvm.MethodName)) ∈ lw_all := lw_g (lw_at lw_m8 59 rfl) rfl
theorem q1820 : (Jvm.Cond.code ({ cls := "CloudInterviews", name := "dailyWages", desc := "()I" } : Jvm.MethodName) prog_1_method_55_code (1 : Nat) (Option.some Jvm.ClassFile.FieldType.int)) ∈ lw_all := lw_g (lw_at lw_m8 60 rfl) rfl
theorem q1821 : (Jvm.Cond.methodLink "CloudInterviews" (256 : Nat) ({ cls := "CloudInterviews$Board", name := "dailyWages", desc := "()I" } : Jvm.MethodName)) ∈ lw_all := lw_g (lw_at lw_m8 61 rfl) rfl
theorem q1826 : (Jvm.Cond.instanceMethod ({ cls := "CloudInterviews", name := "writePosts", desc := "()I" } : Jvm.MethodName)) ∈ lw_all := lw_g (lw_at lw_m8 66 rfl) rfl
theorem q1827 : (Jvm.Cond.selects "CloudInterviews" ({ cls := "CloudInterviews", name := "writePosts", desc := "()I" } : Jvm.MethodName) ({ cls := "CloudInterviews", name := "writePosts", desc := "()I" } : Jvm.MethodName)) ∈ lw_all := lw_g (lw_at lw_m8 67 rfl) rfl
theorem q1828 : (Jvm.Cond.code ({ cls := "CloudInterviews", name := "writePosts", desc := "()I" } : Jvm.MethodName) prog_1_method_60_code (1 : Nat) (Option.some Jvm.ClassFile.FieldType.int)) ∈ lw_all := lw_g (lw_at lw_m8 68 rfl) rfl
theorem q1829 : (Jvm.Cond.methodLink "CloudInterviews" (287 : Nat) ({ cls := "CloudInterviews$Board", name := "postsTold", desc := "()Ljava/lang/String;" } : Jvm.MethodName)) ∈ lw_all := lw_g (lw_at lw_m8 69 rfl) rfl
theorem q1858 : (Jvm.Cond.methodLink "CloudInterviews" (283 : Nat) ({ cls := "CloudInterviews", name := "write", desc := "(Ljava/lang/String;)I" } : Jvm.MethodName)) ∈ lw_all := lw_g (lw_at lw_m8 98 rfl) rfl
theorem q1859 : (Jvm.Cond.privateMethod ({ cls := "CloudInterviews", name := "write", desc := "(Ljava/lang/String;)I" } : Jvm.MethodName)) ∈ lw_tbl := lw_at lw_m8 99 rfl
theorem q1860 : (Jvm.Cond.instanceMethod ({ cls := "CloudInterviews", name := "write", desc := "(Ljava/lang/String;)I" } : Jvm.MethodName)) ∈ lw_all := lw_g (lw_at lw_m8 100 rfl) rfl
theorem q1861 : (Jvm.Cond.code ({ cls := "CloudInterviews", name := "write", desc := "(Ljava/lang/String;)I" } : Jvm.MethodName) prog_1_method_58_code (2 : Nat) (Option.some Jvm.ClassFile.FieldType.int)) ∈ lw_all := lw_g (lw_at lw_m8 101 rfl) rfl
theorem q1862 : (Jvm.Cond.methodLink "CloudInterviews" (274 : Nat) ({ cls := "java/lang/String", name := "length", desc := "()I" } : Jvm.MethodName)) ∈ lw_all := lw_g (lw_at lw_m8 102 rfl) rfl
theorem q1864 : (Jvm.Cond.instanceMethod ({ cls := "CloudInterviews", name := "isConsistent", desc := "()Z" } : Jvm.MethodName)) ∈ lw_all := lw_g (lw_at lw_m8 104 rfl) rfl
theorem q1865 : (Jvm.Cond.selects "CloudInterviews" ({ cls := "CloudInterviews", name := "isConsistent", desc := "()Z" } : Jvm.MethodName) ({ cls := "CloudInterviews", name := "isConsistent", desc := "()Z" } : Jvm.MethodName)) ∈ lw_all := lw_g (lw_at lw_m8 105 rfl) rfl
theorem q1866 : (Jvm.Cond.code ({ cls := "CloudInterviews", name := "isConsistent", desc := "()Z" } : Jvm.MethodName) prog_1_method_62_code (1 : Nat) (Option.some Jvm.ClassFile.FieldType.boolean)) ∈ lw_all := lw_g (lw_at lw_m8 106 rfl) rfl
theorem q1867 : (Jvm.Cond.methodLink "CloudInterviews" (295 : Nat) ({ cls := "CloudInterviews$Board", name := "isConsistent", desc := "()Z" } : Jvm.MethodName)) ∈ lw_all := lw_g (lw_at lw_m8 107 rfl) rfl
theorem q1876 : (Jvm.Cond.instanceMethod ({ cls := "CloudInterviews", name := "undoCount", desc := "()I" } : Jvm.MethodName)) ∈ lw_all := lw_g (lw_at lw_m8 116 rfl) rfl
theorem q1877 : (Jvm.Cond.selects "CloudInterviews" ({ cls := "CloudInterviews", name := "undoCount", desc := "()I" } : Jvm.MethodName) ({ cls := "CloudInterviews", name := "undoCount", desc := "()I" } : Jvm.MethodName)) ∈ lw_all := lw_g (lw_at lw_m8 117 rfl) rfl
theorem q1878 : (Jvm.Cond.code ({ cls := "CloudInterviews", name := "undoCount", desc := "()I" } : Jvm.MethodName) prog_1_method_70_code (1 : Nat) (Option.some Jvm.ClassFile.FieldType.int)) ∈ lw_all := lw_g (lw_at lw_m8 118 rfl) rfl
theorem q1880 : (Jvm.Cond.instanceMethod ({ cls := "CloudInterviews", name := "save", desc := "()I" } : Jvm.MethodName)) ∈ lw_all := lw_g (lw_at lw_m8 120 rfl) rfl
theorem q1881 : (Jvm.Cond.selects "CloudInterviews" ({ cls := "CloudInterviews", name := "save", desc := "()I" } : Jvm.MethodName) ({ cls := "CloudInterviews", name := "save", desc := "()I" } : Jvm.MethodName)) ∈ lw_all := lw_g (lw_at lw_m8 121 rfl) rfl
theorem q1882 : (Jvm.Cond.code ({ cls := "CloudInterviews", name := "save", desc := "()I" } : Jvm.MethodName) prog_1_method_71_code (1 : Nat) (Option.some Jvm.ClassFile.FieldType.int)) ∈ lw_all := lw_g (lw_at lw_m8 122 rfl) rfl
theorem q1889 : (Jvm.Cond.instanceMethod ({ cls := "CloudInterviews", name := "addApplicant", desc := "(CII)I" } : Jvm.MethodName)) ∈ lw_all := lw_g (lw_at lw_m8 129 rfl) rfl
theorem q1890 : (Jvm.Cond.selects "CloudInterviews" ({ cls := "CloudInterviews", name := "addApplicant", desc := "(CII)I" } : Jvm.MethodName) ({ cls := "CloudInterviews", name := "addApplicant", desc := "(CII)I" } : Jvm.MethodName)) ∈ lw_all := lw_g (lw_at lw_m8 130 rfl) rfl
theorem q1891 : (Jvm.Cond.code ({ cls := "CloudInterviews", name := "addApplicant", desc := "(CII)I" } : Jvm.MethodName) prog_1_method_12_code (4 : Nat) (Option.some Jvm.ClassFile.FieldType.int)) ∈ lw_all := lw_g (lw_at lw_m8 131 rfl) rfl
theorem q1892 : (Jvm.Cond.stringRef "CloudInterviews" (94 : Nat) "apply ") ∈ lw_tbl := lw_at lw_m8 132 rfl
theorem q1898 : (Jvm.Cond.instanceMethod ({ cls := "CloudInterviews", name := "removeApplicant", desc := "(I)I" } : Jvm.MethodName)) ∈ lw_all := lw_g (lw_at lw_m8 138 rfl) rfl
theorem q1899 : (Jvm.Cond.selects "CloudInterviews" ({ cls := "CloudInterviews", name := "removeApplicant", desc := "(I)I" } : Jvm.MethodName) ({ cls := "CloudInterviews", name := "removeApplicant", desc := "(I)I" } : Jvm.MethodName)) ∈ lw_all := lw_g (lw_at lw_m8 139 rfl) rfl
theorem q1900 : (Jvm.Cond.code ({ cls := "CloudInterviews", name := "removeApplicant", desc := "(I)I" } : Jvm.MethodName) prog_1_method_13_code (2 : Nat) (Option.some Jvm.ClassFile.FieldType.int)) ∈ lw_all := lw_g (lw_at lw_m8 140 rfl) rfl
theorem q1901 : (Jvm.Cond.stringRef "CloudInterviews" (100 : Nat) "leave ") ∈ lw_tbl := lw_at lw_m8 141 rfl
theorem q1906 : (Jvm.Cond.instanceMethod ({ cls := "CloudInterviews", name := "rejectRainy", desc := "(I)I" } : Jvm.MethodName)) ∈ lw_all := lw_g (lw_at lw_m8 146 rfl) rfl
theorem q1907 : (Jvm.Cond.selects "CloudInterviews" ({ cls := "CloudInterviews", name := "rejectRainy", desc := "(I)I" } : Jvm.MethodName) ({ cls := "CloudInterviews", name := "rejectRainy", desc := "(I)I" } : Jvm.MethodName)) ∈ lw_all := lw_g (lw_at lw_m8 147 rfl) rfl
theorem q1908 : (Jvm.Cond.code ({ cls := "CloudInterviews", name := "rejectRainy", desc := "(I)I" } : Jvm.MethodName) prog_1_method_14_code (2 : Nat) (Option.some Jvm.ClassFile.FieldType.int)) ∈ lw_all := lw_g (lw_at lw_m8 148 rfl) rfl
theorem q1909 : (Jvm.Cond.stringRef "CloudInterviews" (102 : Nat) "reject") ∈ lw_tbl := lw_at lw_m8 149 rfl
theorem q1930 : (Jvm.Cond.instanceMethod ({ cls := "CloudInterviews", name := "applicant", desc := "(I)I" } : Jvm.MethodName)) ∈ lw_all := lw_g (lw_at lw_m8 170 rfl) rfl
theorem q1931 : (Jvm.Cond.selects "CloudInterviews" ({ cls := "CloudInterviews", name := "applicant", desc := "(I)I" } : Jvm.MethodName) ({ cls := "CloudInterviews", name := "applicant", desc := "(I)I" } : Jvm.MethodName)) ∈ lw_all := lw_g (lw_at lw_m8 171 rfl) rfl
theorem q1932 : (Jvm.Cond.code ({ cls := "CloudInterviews", name := "applicant", desc := "(I)I" } : Jvm.MethodName) prog_1_method_17_code (2 : Nat) (Option.some Jvm.ClassFile.FieldType.int)) ∈ lw_all := lw_g (lw_at lw_m8 172 rfl) rfl
theorem q1933 : (Jvm.Cond.methodLink "CloudInterviews" (114 : Nat) ({ cls := "CloudInterviews", name := "checkIndex", desc := "(II)V" } : Jvm.MethodName)) ∈ lw_all := lw_g (lw_at lw_m8 173 rfl) rfl
theorem q1934 : (Jvm.Cond.methodLink "CloudInterviews" (118 : Nat) ({ cls := "java/util/ArrayList", name := "get", desc := "(I)Ljava/lang/Object;" } : Jvm.MethodName)) ∈ lw_all := lw_g (lw_at lw_m8 174 rfl) rfl
theorem q1935 : (Jvm.Cond.classLink "CloudInterviews" (122 : Nat) "CloudInterviews$Applicant") ∈ lw_all := lw_g (lw_at lw_m8 175 rfl) rfl
theorem q1940 : (Jvm.Cond.instanceMethod ({ cls := "CloudInterviews", name := "shape", desc := "(I)C" } : Jvm.MethodName)) ∈ lw_all := lw_g (lw_at lw_m8 180 rfl) rfl
theorem q1941 : (Jvm.Cond.selects "CloudInterviews" ({ cls := "CloudInterviews", name := "shape", desc := "(I)C" } : Jvm.MethodName) ({ cls := "CloudInterviews", name := "shape", desc := "(I)C" } : Jvm.MethodName)) ∈ lw_all := lw_g (lw_at lw_m8 181 rfl) rfl
theorem q1942 : (Jvm.Cond.code ({ cls := "CloudInterviews", name := "shape", desc := "(I)C" } : Jvm.MethodName) prog_1_method_18_code (2 : Nat) (Option.some Jvm.ClassFile.FieldType.char)) ∈ lw_all := lw_g (lw_at lw_m8 182 rfl) rfl
theorem q1943 : (Jvm.Cond.methodLink "CloudInterviews" (127 : Nat) ({ cls := "CloudInterviews$Board", name := "applicant", desc := "(I)LCloudInterviews$Applicant;" } : Jvm.MethodName)) ∈ lw_all := lw_g (lw_at lw_m8 183 rfl) rfl
theorem q1948 : (Jvm.Cond.instanceMethod ({ cls := "CloudInterviews", name := "whiteness", desc := "(I)I" } : Jvm.MethodName)) ∈ lw_all := lw_g (lw_at lw_m8 188 rfl) rfl
theorem q1949 : (Jvm.Cond.selects "CloudInterviews" ({ cls := "CloudInterviews", name := "whiteness", desc := "(I)I" } : Jvm.MethodName) ({ cls := "CloudInterviews", name := "whiteness", desc := "(I)I" } : Jvm.MethodName)) ∈ lw_all := lw_g (lw_at lw_m8 189 rfl) rfl
theorem q1950 : (Jvm.Cond.code ({ cls := "CloudInterviews", name := "whiteness", desc := "(I)I" } : Jvm.MethodName) prog_1_method_19_code (2 : Nat) (Option.some Jvm.ClassFile.FieldType.int)) ∈ lw_all := lw_g (lw_at lw_m8 190 rfl) rfl
theorem q1955 : (Jvm.Cond.instanceMethod ({ cls := "CloudInterviews", name := "rain", desc := "(I)I" } : Jvm.MethodName)) ∈ lw_all := lw_g (lw_at lw_m8 195 rfl) rfl
theorem q1956 : (Jvm.Cond.selects "CloudInterviews" ({ cls := "CloudInterviews", name := "rain", desc := "(I)I" } : Jvm.MethodName) ({ cls := "CloudInterviews", name := "rain", desc := "(I)I" } : Jvm.MethodName)) ∈ lw_all := lw_g (lw_at lw_m8 196 rfl) rfl
theorem q1957 : (Jvm.Cond.code ({ cls := "CloudInterviews", name := "rain", desc := "(I)I" } : Jvm.MethodName) prog_1_method_20_code (2 : Nat) (Option.some Jvm.ClassFile.FieldType.int)) ∈ lw_all := lw_g (lw_at lw_m8 197 rfl) rfl
theorem q1962 : (Jvm.Cond.instanceMethod ({ cls := "CloudInterviews", name := "coins", desc := "(I)I" } : Jvm.MethodName)) ∈ lw_all := lw_g (lw_at lw_m8 202 rfl) rfl
theorem q1963 : (Jvm.Cond.selects "CloudInterviews" ({ cls := "CloudInterviews", name := "coins", desc := "(I)I" } : Jvm.MethodName) ({ cls := "CloudInterviews", name := "coins", desc := "(I)I" } : Jvm.MethodName)) ∈ lw_all := lw_g (lw_at lw_m8 203 rfl) rfl
theorem q1964 : (Jvm.Cond.code ({ cls := "CloudInterviews", name := "coins", desc := "(I)I" } : Jvm.MethodName) prog_1_method_21_code (2 : Nat) (Option.some Jvm.ClassFile.FieldType.int)) ∈ lw_all := lw_g (lw_at lw_m8 204 rfl) rfl
theorem q1969 : (Jvm.Cond.instanceMethod ({ cls := "CloudInterviews", name := "isHired", desc := "(I)Z" } : Jvm.MethodName)) ∈ lw_all := lw_g (lw_at lw_m8 209 rfl) rfl
theorem q1970 : (Jvm.Cond.selects "CloudInterviews" ({ cls := "CloudInterviews", name := "isHired", desc := "(I)Z" } : Jvm.MethodName) ({ cls := "CloudInterviews", name := "isHired", desc := "(I)Z" } : Jvm.MethodName)) ∈ lw_all := lw_g (lw_at lw_m8 210 rfl) rfl
theorem q1971 : (Jvm.Cond.code ({ cls := "CloudInterviews", name := "isHired", desc := "(I)Z" } : Jvm.MethodName) prog_1_method_22_code (2 : Nat) (Option.some Jvm.ClassFile.FieldType.boolean)) ∈ lw_all := lw_g (lw_at lw_m8 211 rfl) rfl
theorem q1972 : (Jvm.Cond.methodLink "CloudInterviews" (144 : Nat) ({ cls := "CloudInterviews$Applicant", name := "isHired", desc := "()Z" } : Jvm.MethodName)) ∈ lw_all := lw_g (lw_at lw_m8 212 rfl) rfl
theorem q1977 : (Jvm.Cond.instanceMethod ({ cls := "CloudInterviews", name := "postOf", desc := "(I)I" } : Jvm.MethodName)) ∈ lw_all := lw_g (lw_at lw_m8 217 rfl) rfl
theorem q1978 : (Jvm.Cond.selects "CloudInterviews" ({ cls := "CloudInterviews", name := "postOf", desc := "(I)I" } : Jvm.MethodName) ({ cls := "CloudInterviews", name := "postOf", desc := "(I)I" } : Jvm.MethodName)) ∈ lw_all := lw_g (lw_at lw_m8 218 rfl) rfl
theorem q1979 : (Jvm.Cond.code ({ cls := "CloudInterviews", name := "postOf", desc := "(I)I" } : Jvm.MethodName) prog_1_method_23_code (3 : Nat) (Option.some Jvm.ClassFile.FieldType.int)) ∈ lw_all := lw_g (lw_at lw_m8 219 rfl) rfl
theorem q1980 : (Jvm.Cond.methodLink "CloudInterviews" (148 : Nat) ({ cls := "CloudInterviews", name := "checkElement", desc := "(Z)V" } : Jvm.MethodName)) ∈ lw_all := lw_g (lw_at lw_m8 220 rfl) rfl
theorem q1981 : (Jvm.Cond.methodLink "CloudInterviews" (156 : Nat) ({ cls := "CloudInterviews$Board", name := "indexOf", desc := "(LCloudInterviews$Post;)I" } : Jvm.MethodName)) ∈ lw_all := lw_g (lw_at lw_m8 221 rfl) rfl
theorem q1986 : (Jvm.Cond.instanceMethod ({ cls := "CloudInterviews", name := "score", desc := "(I)I" } : Jvm.MethodName)) ∈ lw_all := lw_g (lw_at lw_m8 226 rfl) rfl
theorem q1987 : (Jvm.Cond.selects "CloudInterviews" ({ cls := "CloudInterviews", name := "score", desc := "(I)I" } : Jvm.MethodName) ({ cls := "CloudInterviews", name := "score", desc := "(I)I" } : Jvm.MethodName)) ∈ lw_all := lw_g (lw_at lw_m8 227 rfl) rfl
theorem q1988 : (Jvm.Cond.code ({ cls := "CloudInterviews", name := "score", desc := "(I)I" } : Jvm.MethodName) prog_1_method_24_code (2 : Nat) (Option.some Jvm.ClassFile.FieldType.int)) ∈ lw_all := lw_g (lw_at lw_m8 228 rfl) rfl
theorem q1989 : (Jvm.Cond.methodLink "CloudInterviews" (160 : Nat) ({ cls := "CloudInterviews$Board", name := "score", desc := "(LCloudInterviews$Applicant;)I" } : Jvm.MethodName)) ∈ lw_all := lw_g (lw_at lw_m8 229 rfl) rfl
theorem q1994 : (Jvm.Cond.instanceMethod ({ cls := "CloudInterviews", name := "applicantByScore", desc := "(I)I" } : Jvm.MethodName)) ∈ lw_all := lw_g (lw_at lw_m8 234 rfl) rfl
theorem q1995 : (Jvm.Cond.selects "CloudInterviews" ({ cls := "CloudInterviews", name := "applicantByScore", desc := "(I)I" } : Jvm.MethodName) ({ cls := "CloudInterviews", name := "applicantByScore", desc := "(I)I" } : Jvm.MethodName)) ∈ lw_all := lw_g (lw_at lw_m8 235 rfl) rfl
theorem q1996 : (Jvm.Cond.code ({ cls := "CloudInterviews", name := "applicantByScore", desc := "(I)I" } : Jvm.MethodName) prog_1_method_25_code (2 : Nat) (Option.some Jvm.ClassFile.FieldType.int)) ∈ lw_all := lw_g (lw_at lw_m8 236 rfl) rfl
theorem q1997 : (Jvm.Cond.methodLink "CloudInterviews" (164 : Nat) ({ cls := "CloudInterviews$Board", name := "byScore", desc := "(I)I" } : Jvm.MethodName)) ∈ lw_all := lw_g (lw_at lw_m8 237 rfl) rfl
theorem q2005 : (Jvm.Cond.instanceMethod ({ cls := "CloudInterviews", name := "addReference", desc := "(II)I" } : Jvm.MethodName)) ∈ lw_all := lw_g (lw_at lw_m9 5 rfl) rfl
theorem q2006 : (Jvm.Cond.selects "CloudInterviews" ({ cls := "CloudInterviews", name := "addReference", desc := "(II)I" } : Jvm.MethodName) ({ cls := "CloudInterviews", name := "addReference", desc := "(II)I" } : Jvm.MethodName)) ∈ lw_all := lw_g (lw_at lw_m9 6 rfl) rfl
theorem q2007 : (Jvm.Cond.code ({ cls := "CloudInterviews", name := "addReference", desc := "(II)I" } : Jvm.MethodName) prog_1_method_26_code (3 : Nat) (Option.some Jvm.ClassFile.FieldType.int)) ∈ lw_all := lw_g (lw_at lw_m9 7 rfl) rfl
theorem q2008 : (Jvm.Cond.stringRef "CloudInterviews" (168 : Nat) "refer ") ∈ lw_tbl := lw_at lw_m9 8 rfl
theorem q2013 : (Jvm.Cond.instanceMethod ({ cls := "CloudInterviews", name := "removeReference", desc := "(II)I" } : Jvm.MethodName)) ∈ lw_all := lw_g (lw_at lw_m9 13 rfl) rfl
theorem q2014 : (Jvm.Cond.selects "CloudInterviews" ({ cls := "CloudInterviews", name := "removeReference", desc := "(II)I" } : Jvm.MethodName) ({ cls := "CloudInterviews", name := "removeReference", desc := "(II)I" } : Jvm.MethodName)) ∈ lw_all := lw_g (lw_at lw_m9 14 rfl) rfl
theorem q2015 : (Jvm.Cond.code ({ cls := "CloudInterviews", name := "removeReference", desc := "(II)I" } : Jvm.MethodName) prog_1_method_27_code (3 : Nat) (Option.some Jvm.ClassFile.FieldType.int)) ∈ lw_all := lw_g (lw_at lw_m9 15 rfl) rfl
theorem q2016 : (Jvm.Cond.stringRef "CloudInterviews" (170 : Nat) "unrefer") ∈ lw_tbl := lw_at lw_m9 16 rfl
theorem q2021 : (Jvm.Cond.instanceMethod ({ cls := "CloudInterviews", name := "hasReference", desc := "(II)Z" } : Jvm.MethodName)) ∈ lw_all := lw_g (lw_at lw_m9 21 rfl) rfl
theorem q2022 : (Jvm.Cond.selects "CloudInterviews" ({ cls := "CloudInterviews", name := "hasReference", desc := "(II)Z" } : Jvm.MethodName) ({ cls := "CloudInterviews", name := "hasReference", desc := "(II)Z" } : Jvm.MethodName)) ∈ lw_all := lw_g (lw_at lw_m9 22 rfl) rfl
theorem q2023 : (Jvm.Cond.code ({ cls := "CloudInterviews", name := "hasReference", desc := "(II)Z" } : Jvm.MethodName) prog_1_method_28_code (3 : Nat) (Option.some Jvm.ClassFile.FieldType.boolean)) ∈ lw_all := lw_g (lw_at lw_m9 23 rfl) rfl
theorem q2024 : (Jvm.Cond.methodLink "CloudInterviews" (172 : Nat) ({ cls := "CloudInterviews$Board", name := "hasReference", desc := "(II)Z" } : Jvm.MethodName)) ∈ lw_all := lw_g (lw_at lw_m9 24 rfl) rfl
theorem q2029 : (Jvm.Cond.instanceMethod ({ cls := "CloudInterviews", name := "referencesFor", desc := "(I)I" } : Jvm.MethodName)) ∈ lw_all := lw_g (lw_at lw_m9 29 rfl) rfl
theorem q2030 : (Jvm.Cond.selects "CloudInterviews" ({ cls := "CloudInterviews", name := "referencesFor", desc := "(I)I" } : Jvm.MethodName) ({ cls := "CloudInterviews", name := "referencesFor", desc := "(I)I" } : Jvm.MethodName)) ∈ lw_all := lw_g (lw_at lw_m9 30 rfl) rfl
theorem q2031 : (Jvm.Cond.code ({ cls := "CloudInterviews", name := "referencesFor", desc := "(I)I" } : Jvm.MethodName) prog_1_method_29_code (2 : Nat) (Option.some Jvm.ClassFile.FieldType.int)) ∈ lw_all := lw_g (lw_at lw_m9 31 rfl) rfl
theorem q2032 : (Jvm.Cond.methodLink "CloudInterviews" (176 : Nat) ({ cls := "CloudInterviews$Board", name := "referencesFor", desc := "(I)I" } : Jvm.MethodName)) ∈ lw_all := lw_g (lw_at lw_m9 32 rfl) rfl
theorem q2037 : (Jvm.Cond.instanceMethod ({ cls := "CloudInterviews", name := "referencesFrom", desc := "(I)I" } : Jvm.MethodName)) ∈ lw_all := lw_g (lw_at lw_m9 37 rfl) rfl
theorem q2038 : (Jvm.Cond.selects "CloudInterviews" ({ cls := "CloudInterviews", name := "referencesFrom", desc := "(I)I" } : Jvm.MethodName) ({ cls := "CloudInterviews", name := "referencesFrom", desc := "(I)I" } : Jvm.MethodName)) ∈ lw_all := lw_g (lw_at lw_m9 38 rfl) rfl
theorem q2039 : (Jvm.Cond.code ({ cls := "CloudInterviews", name := "referencesFrom", desc := "(I)I" } : Jvm.MethodName) prog_1_method_30_code (2 : Nat) (Option.some Jvm.ClassFile.FieldType.int)) ∈ lw_all := lw_g (lw_at lw_m9 39 rfl) rfl
theorem q2040 : (Jvm.Cond.methodLink "CloudInterviews" (179 : Nat) ({ cls := "CloudInterviews$Board", name := "referencesFrom", desc := "(I)I" } : Jvm.MethodName)) ∈ lw_all := lw_g (lw_at lw_m9 40 rfl) rfl
theorem q2048 : (Jvm.Cond.instanceMethod ({ cls := "CloudInterviews", name := "openPost", desc := "(CIII)I" } : Jvm.MethodName)) ∈ lw_all := lw_g (lw_at lw_m9 48 rfl) rfl
theorem q2049 : (Jvm.Cond.selects "CloudInterviews" ({ cls := "CloudInterviews", name := "openPost", desc := "(CIII)I" } : Jvm.MethodName) ({ cls := "CloudInterviews", name := "openPost", desc := "(CIII)I" } : Jvm.MethodName)) ∈ lw_all := lw_g (lw_at lw_m9 49 rfl) rfl
theorem q2050 : (Jvm.Cond.code ({ cls := "CloudInterviews", name := "openPost", desc := "(CIII)I" } : Jvm.MethodName) prog_1_method_31_code (5 : Nat) (Option.some Jvm.ClassFile.FieldType.int)) ∈ lw_all := lw_g (lw_at lw_m9 50 rfl) rfl
theorem q2051 : (Jvm.Cond.stringRef "CloudInterviews" (182 : Nat) "post ") ∈ lw_tbl := lw_at lw_m9 51 rfl
theorem q2056 : (Jvm.Cond.instanceMethod ({ cls := "CloudInterviews", name := "closePost", desc := "(I)Z" } : Jvm.MethodName)) ∈ lw_all := lw_g (lw_at lw_m9 56 rfl) rfl
theorem q2057 : (Jvm.Cond.selects "CloudInterviews" ({ cls := "CloudInterviews", name := "closePost", desc := "(I)Z" } : Jvm.MethodName) ({ cls := "CloudInterviews", name := "closePost", desc := "(I)Z" } : Jvm.MethodName)) ∈ lw_all := lw_g (lw_at lw_m9 57 rfl) rfl
theorem q2058 : (Jvm.Cond.code ({ cls := "CloudInterviews", name := "closePost", desc := "(I)Z" } : Jvm.MethodName) prog_1_method_32_code (2 : Nat) (Option.some Jvm.ClassFile.FieldType.boolean)) ∈ lw_all := lw_g (lw_at lw_m9 58 rfl) rfl
theorem q2059 : (Jvm.Cond.stringRef "CloudInterviews" (184 : Nat) "close ") ∈ lw_tbl := lw_at lw_m9 59 rfl
theorem q2064 : (Jvm.Cond.instanceMethod ({ cls := "CloudInterviews", name := "requiredShape", desc := "(I)C" } : Jvm.MethodName)) ∈ lw_all := lw_g (lw_at lw_m9 64 rfl) rfl
theorem q2065 : (Jvm.Cond.selects "CloudInterviews" ({ cls := "CloudInterviews", name := "requiredShape", desc := "(I)C" } : Jvm.MethodName) ({ cls := "CloudInterviews", name := "requiredShape", desc := "(I)C" } : Jvm.MethodName)) ∈ lw_all := lw_g (lw_at lw_m9 65 rfl) rfl
theorem q2066 : (Jvm.Cond.code ({ cls := "CloudInterviews", name := "requiredShape", desc := "(I)C" } : Jvm.MethodName) prog_1_method_35_code (2 : Nat) (Option.some Jvm.ClassFile.FieldType.char)) ∈ lw_all := lw_g (lw_at lw_m9 66 rfl) rfl
theorem q2067 : (Jvm.Cond.methodLink "CloudInterviews" (192 : Nat) ({ cls := "CloudInterviews$Board", name := "post", desc := "(I)LCloudInterviews$Post;" } : Jvm.MethodName)) ∈ lw_all := lw_g (lw_at lw_m9 67 rfl) rfl
theorem q2072 : (Jvm.Cond.instanceMethod ({ cls := "CloudInterviews", name := "lowestWhiteness", desc := "(I)I" } : Jvm.MethodName)) ∈ lw_all := lw_g (lw_at lw_m9 72 rfl) rfl
theorem q2073 : (Jvm.Cond.selects "CloudInterviews" ({ cls := "CloudInterviews", name := "lowestWhiteness", desc := "(I)I" } : Jvm.MethodName) ({ cls := "CloudInterviews", name := "lowestWhiteness", desc := "(I)I" } : Jvm.MethodName)) ∈ lw_all := lw_g (lw_at lw_m9 73 rfl) rfl
theorem q2074 : (Jvm.Cond.code ({ cls := "CloudInterviews", name := "lowestWhiteness", desc := "(I)I" } : Jvm.MethodName) prog_1_method_36_code (2 : Nat) (Option.some Jvm.ClassFile.FieldType.int)) ∈ lw_all := lw_g (lw_at lw_m9 74 rfl) rfl
theorem q2079 : (Jvm.Cond.instanceMethod ({ cls := "CloudInterviews", name := "highestRain", desc := "(I)I" } : Jvm.MethodName)) ∈ lw_all := lw_g (lw_at lw_m9 79 rfl) rfl
theorem q2080 : (Jvm.Cond.selects "CloudInterviews" ({ cls := "CloudInterviews", name := "highestRain", desc := "(I)I" } : Jvm.MethodName) ({ cls := "CloudInterviews", name := "highestRain", desc := "(I)I" } : Jvm.MethodName)) ∈ lw_all := lw_g (lw_at lw_m9 80 rfl) rfl
theorem q2081 : (Jvm.Cond.code ({ cls := "CloudInterviews", name := "highestRain", desc := "(I)I" } : Jvm.MethodName) prog_1_method_37_code (2 : Nat) (Option.some Jvm.ClassFile.FieldType.int)) ∈ lw_all := lw_g (lw_at lw_m9 81 rfl) rfl
theorem q2086 : (Jvm.Cond.instanceMethod ({ cls := "CloudInterviews", name := "wage", desc := "(I)I" } : Jvm.MethodName)) ∈ lw_all := lw_g (lw_at lw_m9 86 rfl) rfl
theorem q2087 : (Jvm.Cond.selects "CloudInterviews" ({ cls := "CloudInterviews", name := "wage", desc := "(I)I" } : Jvm.MethodName) ({ cls := "CloudInterviews", name := "wage", desc := "(I)I" } : Jvm.MethodName)) ∈ lw_all := lw_g (lw_at lw_m9 87 rfl) rfl
theorem q2088 : (Jvm.Cond.code ({ cls := "CloudInterviews", name := "wage", desc := "(I)I" } : Jvm.MethodName) prog_1_method_38_code (2 : Nat) (Option.some Jvm.ClassFile.FieldType.int)) ∈ lw_all := lw_g (lw_at lw_m9 88 rfl) rfl
theorem q2093 : (Jvm.Cond.instanceMethod ({ cls := "CloudInterviews", name := "filledBy", desc := "(I)I" } : Jvm.MethodName)) ∈ lw_all := lw_g (lw_at lw_m9 93 rfl) rfl
theorem q2094 : (Jvm.Cond.selects "CloudInterviews" ({ cls := "CloudInterviews", name := "filledBy", desc := "(I)I" } : Jvm.MethodName) ({ cls := "CloudInterviews", name := "filledBy", desc := "(I)I" } : Jvm.MethodName)) ∈ lw_all := lw_g (lw_at lw_m9 94 rfl) rfl
theorem q2095 : (Jvm.Cond.code ({ cls := "CloudInterviews", name := "filledBy", desc := "(I)I" } : Jvm.MethodName) prog_1_method_39_code (3 : Nat) (Option.some Jvm.ClassFile.FieldType.int)) ∈ lw_all := lw_g (lw_at lw_m9 95 rfl) rfl
theorem q2096 : (Jvm.Cond.methodLink "CloudInterviews" (207 : Nat) ({ cls := "CloudInterviews$Post", name := "isVacant", desc := "()Z" } : Jvm.MethodName)) ∈ lw_all := lw_g (lw_at lw_m9 96 rfl) rfl
theorem q2101 : (Jvm.Cond.instanceMethod ({ cls := "CloudInterviews", name := "suits", desc := "(II)Z" } : Jvm.MethodName)) ∈ lw_all := lw_g (lw_at lw_m9 101 rfl) rfl
theorem q2102 : (Jvm.Cond.selects "CloudInterviews" ({ cls := "CloudInterviews", name := "suits", desc := "(II)Z" } : Jvm.MethodName) ({ cls := "CloudInterviews", name := "suits", desc := "(II)Z" } : Jvm.MethodName)) ∈ lw_all := lw_g (lw_at lw_m9 102 rfl) rfl
theorem q2103 : (Jvm.Cond.code ({ cls := "CloudInterviews", name := "suits", desc := "(II)Z" } : Jvm.MethodName) prog_1_method_40_code (4 : Nat) (Option.some Jvm.ClassFile.FieldType.boolean)) ∈ lw_all := lw_g (lw_at lw_m9 103 rfl) rfl
theorem q2104 : (Jvm.Cond.methodLink "CloudInterviews" (214 : Nat) ({ cls := "CloudInterviews$Post", name := "fits", desc := "(LCloudInterviews$Applicant;)Z" } : Jvm.MethodName)) ∈ lw_all := lw_g (lw_at lw_m9 104 rfl) rfl
theorem q2109 : (Jvm.Cond.instanceMethod ({ cls := "CloudInterviews", name := "favouritePost", desc := "(I)I" } : Jvm.MethodName)) ∈ lw_all := lw_g (lw_at lw_m9 109 rfl) rfl
theorem q2110 : (Jvm.Cond.selects "CloudInterviews" ({ cls := "CloudInterviews", name := "favouritePost", desc := "(I)I" } : Jvm.MethodName) ({ cls := "CloudInterviews", name := "favouritePost", desc := "(I)I" } : Jvm.MethodName)) ∈ lw_all := lw_g (lw_at lw_m9 110 rfl) rfl
theorem q2111 : (Jvm.Cond.code ({ cls := "CloudInterviews", name := "favouritePost", desc := "(I)I" } : Jvm.MethodName) prog_1_method_41_code (3 : Nat) (Option.some Jvm.ClassFile.FieldType.int)) ∈ lw_all := lw_g (lw_at lw_m9 111 rfl) rfl
theorem q2112 : (Jvm.Cond.methodLink "CloudInterviews" (218 : Nat) ({ cls := "CloudInterviews$Board", name := "favourite", desc := "(LCloudInterviews$Applicant;)LCloudInterviews$Post;" } : Jvm.MethodName)) ∈ lw_all := lw_g (lw_at lw_m9 112 rfl) rfl
theorem q2120 : (Jvm.Cond.instanceMethod ({ cls := "CloudInterviews", name := "bestCandidate", desc := "(I)I" } : Jvm.MethodName)) ∈ lw_all := lw_g (lw_at lw_m9 120 rfl) rfl
theorem q2121 : (Jvm.Cond.selects "CloudInterviews" ({ cls := "CloudInterviews", name := "bestCandidate", desc := "(I)I" } : Jvm.MethodName) ({ cls := "CloudInterviews", name := "bestCandidate", desc := "(I)I" } : Jvm.MethodName)) ∈ lw_all := lw_g (lw_at lw_m9 121 rfl) rfl
theorem q2122 : (Jvm.Cond.code ({ cls := "CloudInterviews", name := "bestCandidate", desc := "(I)I" } : Jvm.MethodName) prog_1_method_42_code (3 : Nat) (Option.some Jvm.ClassFile.FieldType.int)) ∈ lw_all := lw_g (lw_at lw_m9 122 rfl) rfl
theorem q2123 : (Jvm.Cond.methodLink "CloudInterviews" (222 : Nat) ({ cls := "CloudInterviews$Board", name := "candidate", desc := "(LCloudInterviews$Post;)LCloudInterviews$Applicant;" } : Jvm.MethodName)) ∈ lw_all := lw_g (lw_at lw_m9 123 rfl) rfl
theorem q2128 : (Jvm.Cond.instanceMethod ({ cls := "CloudInterviews", name := "candidateCount", desc := "(I)I" } : Jvm.MethodName)) ∈ lw_all := lw_g (lw_at lw_m9 128 rfl) rfl
theorem q2129 : (Jvm.Cond.selects "CloudInterviews" ({ cls := "CloudInterviews", name := "candidateCount", desc := "(I)I" } : Jvm.MethodName) ({ cls := "CloudInterviews", name := "candidateCount", desc := "(I)I" } : Jvm.MethodName)) ∈ lw_all := lw_g (lw_at lw_m9 129 rfl) rfl
theorem q2130 : (Jvm.Cond.code ({ cls := "CloudInterviews", name := "candidateCount", desc := "(I)I" } : Jvm.MethodName) prog_1_method_43_code (2 : Nat) (Option.some Jvm.ClassFile.FieldType.int)) ∈ lw_all := lw_g (lw_at lw_m9 130 rfl) rfl
theorem q2131 : (Jvm.Cond.methodLink "CloudInterviews" (226 : Nat) ({ cls := "CloudInterviews$Board", name := "candidates", desc := "(LCloudInterviews$Post;)I" } : Jvm.MethodName)) ∈ lw_all := lw_g (lw_at lw_m9 131 rfl) rfl
theorem q2140 : (Jvm.Cond.instanceMethod ({ cls := "CloudInterviews", name := "hire", desc := "(II)I" } : Jvm.MethodName)) ∈ lw_all := lw_g (lw_at lw_m9 140 rfl) rfl
theorem q2141 : (Jvm.Cond.selects "CloudInterviews" ({ cls := "CloudInterviews", name := "hire", desc := "(II)I" } : Jvm.MethodName) ({ cls := "CloudInterviews", name := "hire", desc := "(II)I" } : Jvm.MethodName)) ∈ lw_all := lw_g (lw_at lw_m9 141 rfl) rfl
theorem q2142 : (Jvm.Cond.code ({ cls := "CloudInterviews", name := "hire", desc := "(II)I" } : Jvm.MethodName) prog_1_method_44_code (3 : Nat) (Option.some Jvm.ClassFile.FieldType.int)) ∈ lw_all := lw_g (lw_at lw_m9 142 rfl) rfl
theorem q2143 : (Jvm.Cond.stringRef "CloudInterviews" (229 : Nat) "hire ") ∈ lw_tbl := lw_at lw_m9 143 rfl
theorem q2148 : (Jvm.Cond.instanceMethod ({ cls := "CloudInterviews", name := "hireBest", desc := "(I)I" } : Jvm.MethodName)) ∈ lw_all := lw_g (lw_at lw_m9 148 rfl) rfl
theorem q2149 : (Jvm.Cond.selects "CloudInterviews" ({ cls := "CloudInterviews", name := "hireBest", desc := "(I)I" } : Jvm.MethodName) ({ cls := "CloudInterviews", name := "hireBest", desc := "(I)I" } : Jvm.MethodName)) ∈ lw_all := lw_g (lw_at lw_m9 149 rfl) rfl
theorem q2150 : (Jvm.Cond.code ({ cls := "CloudInterviews", name := "hireBest", desc := "(I)I" } : Jvm.MethodName) prog_1_method_45_code (2 : Nat) (Option.some Jvm.ClassFile.FieldType.int)) ∈ lw_all := lw_g (lw_at lw_m9 150 rfl) rfl
theorem q2151 : (Jvm.Cond.stringRef "CloudInterviews" (231 : Nat) "hire best") ∈ lw_tbl := lw_at lw_m9 151 rfl
theorem q2156 : (Jvm.Cond.instanceMethod ({ cls := "CloudInterviews", name := "dismiss", desc := "(I)I" } : Jvm.MethodName)) ∈ lw_all := lw_g (lw_at lw_m9 156 rfl) rfl
theorem q2157 : (Jvm.Cond.selects "CloudInterviews" ({ cls := "CloudInterviews", name := "dismiss", desc := "(I)I" } : Jvm.MethodName) ({ cls := "CloudInterviews", name := "dismiss", desc := "(I)I" } : Jvm.MethodName)) ∈ lw_all := lw_g (lw_at lw_m9 157 rfl) rfl
theorem q2158 : (Jvm.Cond.code ({ cls := "CloudInterviews", name := "dismiss", desc := "(I)I" } : Jvm.MethodName) prog_1_method_46_code (2 : Nat) (Option.some Jvm.ClassFile.FieldType.int)) ∈ lw_all := lw_g (lw_at lw_m9 158 rfl) rfl
theorem q2159 : (Jvm.Cond.stringRef "CloudInterviews" (233 : Nat) "dismiss ") ∈ lw_tbl := lw_at lw_m9 159 rfl
theorem q2164 : (Jvm.Cond.instanceMethod ({ cls := "CloudInterviews", name := "passDays", desc := "(I)I" } : Jvm.MethodName)) ∈ lw_all := lw_g (lw_at lw_m9 164 rfl) rfl
theorem q2165 : (Jvm.Cond.selects "CloudInterviews" ({ cls := "CloudInterviews", name := "passDays", desc := "(I)I" } : Jvm.MethodName) ({ cls := "CloudInterviews", name := "passDays", desc := "(I)I" } : Jvm.MethodName)) ∈ lw_all := lw_g (lw_at lw_m9 165 rfl) rfl
theorem q2166 : (Jvm.Cond.code ({ cls := "CloudInterviews", name := "passDays", desc := "(I)I" } : Jvm.MethodName) prog_1_method_52_code (2 : Nat) (Option.some Jvm.ClassFile.FieldType.int)) ∈ lw_all := lw_g (lw_at lw_m9 166 rfl) rfl
theorem q2167 : (Jvm.Cond.stringRef "CloudInterviews" (249 : Nat) "day") ∈ lw_tbl := lw_at lw_m9 167 rfl
theorem q2172 : (Jvm.Cond.instanceMethod ({ cls := "CloudInterviews", name := "daysUntilDismissal", desc := "(I)I" } : Jvm.MethodName)) ∈ lw_all := lw_g (lw_at lw_m9 172 rfl) rfl
theorem q2173 : (Jvm.Cond.selects "CloudInterviews" ({ cls := "CloudInterviews", name := "daysUntilDismissal", desc := "(I)I" } : Jvm.MethodName) ({ cls := "CloudInterviews", name := "daysUntilDismissal", desc := "(I)I" } : Jvm.MethodName)) ∈ lw_all := lw_g (lw_at lw_m9 173 rfl) rfl
theorem q2174 : (Jvm.Cond.code ({ cls := "CloudInterviews", name := "daysUntilDismissal", desc := "(I)I" } : Jvm.MethodName) prog_1_method_54_code (2 : Nat) (Option.some Jvm.ClassFile.FieldType.int)) ∈ lw_all := lw_g (lw_at lw_m9 174 rfl) rfl
theorem q2175 : (Jvm.Cond.methodLink "CloudInterviews" (253 : Nat) ({ cls := "CloudInterviews$Board", name := "daysUntilDismissal", desc := "(I)I" } : Jvm.MethodName)) ∈ lw_all := lw_g (lw_at lw_m9 175 rfl) rfl
theorem q2197 : (Jvm.Cond.instanceMethod ({ cls := "CloudInterviews", name := "meanScore", desc := "()D" } : Jvm.MethodName)) ∈ lw_all := lw_g (lw_at lw_m9 197 rfl) rfl
theorem q2198 : (Jvm.Cond.selects "CloudInterviews" ({ cls := "CloudInterviews", name := "meanScore", desc := "()D" } : Jvm.MethodName) ({ cls := "CloudInterviews", name := "meanScore", desc := "()D" } : Jvm.MethodName)) ∈ lw_all := lw_g (lw_at lw_m9 198 rfl) rfl
theorem q2199 : (Jvm.Cond.code ({ cls := "CloudInterviews", name := "meanScore", desc := "()D" } : Jvm.MethodName) prog_1_method_56_code (5 : Nat) (Option.some Jvm.ClassFile.FieldType.double)) ∈ lw_all := lw_g (lw_at lw_m9 199 rfl) rfl
theorem q2200 : (Jvm.Cond.methodLink "CloudInterviews" (259 : Nat) ({ cls := "CloudInterviews", name := "checkNumbers", desc := "(Z)V" } : Jvm.MethodName)) ∈ lw_all := lw_g (lw_at lw_m9 200 rfl) rfl
theorem q2201 : (Jvm.Cond.static ({ cls := "CloudInterviews", name := "checkNumbers", desc := "(Z)V" } : Jvm.MethodName)) ∈ lw_all := lw_g (lw_at lw_m9 201 rfl) rfl
theorem q2202 : (Jvm.Cond.code ({ cls := "CloudInterviews", name := "checkNumbers", desc := "(Z)V" } : Jvm.MethodName) prog_1_method_6_code (1 : Nat) (Option.none : Option Jvm.ClassFile.FieldType)) ∈ lw_all := lw_g (lw_at lw_m9 202 rfl) rfl
theorem q2203 : (Jvm.Cond.classLink "CloudInterviews" (22 : Nat) "java/lang/ArithmeticException") ∈ lw_all := lw_g (lw_at lw_m9 203 rfl) rfl
theorem q2204 : (Jvm.Cond.methodLink "CloudInterviews" (24 : Nat) ({ cls := "java/lang/ArithmeticException", name := "<init>", desc := "()V" } : Jvm.MethodName)) ∈ lw_all := lw_g (lw_at lw_m9 204 rfl) rfl
theorem q2208 : (Jvm.Cond.methodLink "CloudInterviews" (262 : Nat) ({ cls := "java/util/ArrayList", name := "iterator", desc := "()Ljava/util/Iterator;" } : Jvm.MethodName)) ∈ lw_all := lw_g (lw_at lw_m9 208 rfl) rfl
theorem q2209 : (Jvm.Cond.interfaceEntry "CloudInterviews" (266 : Nat)) ∈ lw_tbl := lw_at lw_m9 209 rfl
theorem q2210 : (Jvm.Cond.methodLink "CloudInterviews" (266 : Nat) ({ cls := "java/util/Iterator", name := "hasNext", desc := "()Z" } : Jvm.MethodName)) ∈ lw_all := lw_g (lw_at lw_m9 210 rfl) rfl
theorem q2211 : (Jvm.Cond.interfaceEntry "CloudInterviews" (271 : Nat)) ∈ lw_tbl := lw_at lw_m9 211 rfl
theorem q2212 : (Jvm.Cond.methodLink "CloudInterviews" (271 : Nat) ({ cls := "java/util/Iterator", name := "next", desc := "()Ljava/lang/Object;" } : Jvm.MethodName)) ∈ lw_all := lw_g (lw_at lw_m9 212 rfl) rfl
theorem q2217 : (Jvm.Cond.instanceMethod ({ cls := "CloudInterviews", name := "filledFraction", desc := "()F" } : Jvm.MethodName)) ∈ lw_all := lw_g (lw_at lw_m9 217 rfl) rfl
theorem q2218 : (Jvm.Cond.selects "CloudInterviews" ({ cls := "CloudInterviews", name := "filledFraction", desc := "()F" } : Jvm.MethodName) ({ cls := "CloudInterviews", name := "filledFraction", desc := "()F" } : Jvm.MethodName)) ∈ lw_all := lw_g (lw_at lw_m9 218 rfl) rfl
theorem q2219 : (Jvm.Cond.code ({ cls := "CloudInterviews", name := "filledFraction", desc := "()F" } : Jvm.MethodName) prog_1_method_57_code (2 : Nat) (Option.some Jvm.ClassFile.FieldType.float)) ∈ lw_all := lw_g (lw_at lw_m9 219 rfl) rfl
theorem q2224 : (Jvm.Cond.instanceMethod ({ cls := "CloudInterviews", name := "writeApplicant", desc := "(I)I" } : Jvm.MethodName)) ∈ lw_all := lw_g (lw_at lw_m9 224 rfl) rfl
theorem q2225 : (Jvm.Cond.selects "CloudInterviews" ({ cls := "CloudInterviews", name := "writeApplicant", desc := "(I)I" } : Jvm.MethodName) ({ cls := "CloudInterviews", name := "writeApplicant", desc := "(I)I" } : Jvm.MethodName)) ∈ lw_all := lw_g (lw_at lw_m9 225 rfl) rfl
theorem q2226 : (Jvm.Cond.code ({ cls := "CloudInterviews", name := "writeApplicant", desc := "(I)I" } : Jvm.MethodName) prog_1_method_59_code (2 : Nat) (Option.some Jvm.ClassFile.FieldType.int)) ∈ lw_all := lw_g (lw_at lw_m9 226 rfl) rfl
theorem q2227 : (Jvm.Cond.methodLink "CloudInterviews" (279 : Nat) ({ cls := "CloudInterviews$Board", name := "told", desc := "(LCloudInterviews$Applicant;)Ljava/lang/String;" } : Jvm.MethodName)) ∈ lw_all := lw_g (lw_at lw_m9 227 rfl) rfl
theorem q2235 : (Jvm.Cond.instanceMethod ({ cls := "CloudInterviews", name := "outputCharacter", desc := "(I)C" } : Jvm.MethodName)) ∈ lw_all := lw_g (lw_at lw_m9 235 rfl) rfl
theorem q2236 : (Jvm.Cond.selects "CloudInterviews" ({ cls := "CloudInterviews", name := "outputCharacter", desc := "(I)C" } : Jvm.MethodName) ({ cls := "CloudInterviews", name := "outputCharacter", desc := "(I)C" } : Jvm.MethodName)) ∈ lw_all := lw_g (lw_at lw_m9 236 rfl) rfl
theorem q2237 : (Jvm.Cond.code ({ cls := "CloudInterviews", name := "outputCharacter", desc := "(I)C" } : Jvm.MethodName) prog_1_method_61_code (2 : Nat) (Option.some Jvm.ClassFile.FieldType.char)) ∈ lw_all := lw_g (lw_at lw_m9 237 rfl) rfl
theorem q2238 : (Jvm.Cond.methodLink "CloudInterviews" (291 : Nat) ({ cls := "java/lang/String", name := "charAt", desc := "(I)C" } : Jvm.MethodName)) ∈ lw_all := lw_g (lw_at lw_m9 238 rfl) rfl
theorem q2253 : (Jvm.Cond.instanceMethod ({ cls := "CloudInterviews", name := "feed", desc := "(C)I" } : Jvm.MethodName)) ∈ lw_all := lw_g (lw_at lw_m10 13 rfl) rfl
theorem q2254 : (Jvm.Cond.selects "CloudInterviews" ({ cls := "CloudInterviews", name := "feed", desc := "(C)I" } : Jvm.MethodName) ({ cls := "CloudInterviews", name := "feed", desc := "(C)I" } : Jvm.MethodName)) ∈ lw_all := lw_g (lw_at lw_m10 14 rfl) rfl
theorem q2255 : (Jvm.Cond.code ({ cls := "CloudInterviews", name := "feed", desc := "(C)I" } : Jvm.MethodName) prog_1_method_63_code (2 : Nat) (Option.some Jvm.ClassFile.FieldType.int)) ∈ lw_all := lw_g (lw_at lw_m10 15 rfl) rfl
theorem q2256 : (Jvm.Cond.methodLink "CloudInterviews" (298 : Nat) ({ cls := "java/lang/StringBuilder", name := "length", desc := "()I" } : Jvm.MethodName)) ∈ lw_all := lw_g (lw_at lw_m10 16 rfl) rfl
theorem q2257 : (Jvm.Cond.methodLink "CloudInterviews" (299 : Nat) ({ cls := "CloudInterviews", name := "checkState", desc := "(Z)V" } : Jvm.MethodName)) ∈ lw_all := lw_g (lw_at lw_m10 17 rfl) rfl
theorem q2258 : (Jvm.Cond.methodLink "CloudInterviews" (302 : Nat) ({ cls := "java/lang/StringBuilder", name := "append", desc := "(C)Ljava/lang/StringBuilder;" } : Jvm.MethodName)) ∈ lw_all := lw_g (lw_at lw_m10 18 rfl) rfl
theorem q2263 : (Jvm.Cond.instanceMethod ({ cls := "CloudInterviews", name := "execute", desc := "()I" } : Jvm.MethodName)) ∈ lw_all := lw_g (lw_at lw_m10 23 rfl) rfl
theorem q2264 : (Jvm.Cond.selects "CloudInterviews" ({ cls := "CloudInterviews", name := "execute", desc := "()I" } : Jvm.MethodName) ({ cls := "CloudInterviews", name := "execute", desc := "()I" } : Jvm.MethodName)) ∈ lw_all := lw_g (lw_at lw_m10 24 rfl) rfl
theorem q2265 : (Jvm.Cond.codeWith ({ cls := "CloudInterviews", name := "execute", desc := "()I" } : Jvm.MethodName) prog_1_method_65_code (7 : Nat) (Option.some Jvm.ClassFile.FieldType.int) [((15 : Nat), (57 : Nat), (60 : Nat), (1 : Nat)), ((15 : Nat), (57 : Nat), (60 : Nat), (16 : Nat)), ((15 : Nat), (57 : Nat), (60 : Nat), (13 : Nat)), ((15 : Nat), (57 : Nat), (60 : Nat), (19 : Nat)), ((15 : Nat), (57 : Nat), (60 : Nat), (25 : Nat))]) ∈ lw_all := lw_g (lw_at lw_m10 25 rfl) rfl
theorem q2266 : (Jvm.Cond.methodLink "CloudInterviews" (320 : Nat) ({ cls := "CloudInterviews", name := "takeCommands", desc := "()Ljava/util/ArrayList;" } : Jvm.MethodName)) ∈ lw_all := lw_g (lw_at lw_m10 26 rfl) rfl
theorem q2267 : (Jvm.Cond.privateMethod ({ cls := "CloudInterviews", name := "takeCommands", desc := "()Ljava/util/ArrayList;" } : Jvm.MethodName)) ∈ lw_tbl := lw_at lw_m10 27 rfl
theorem q2268 : (Jvm.Cond.instanceMethod ({ cls := "CloudInterviews", name := "takeCommands", desc := "()Ljava/util/ArrayList;" } : Jvm.MethodName)) ∈ lw_all := lw_g (lw_at lw_m10 28 rfl) rfl
theorem q2269 : (Jvm.Cond.codeWith ({ cls := "CloudInterviews", name := "takeCommands", desc := "()Ljava/util/ArrayList;" } : Jvm.MethodName) prog_1_method_64_code (3 : Nat) (Option.some (Jvm.ClassFile.FieldType.object "java/util/ArrayList")) [((23 : Nat), (27 : Nat), (28 : Nat), (315 : Nat))]) ∈ lw_all := lw_g (lw_at lw_m10 29 rfl) rfl
theorem q2270 : (Jvm.Cond.classLink "CloudInterviews" (315 : Nat) "CloudInterviews$SyntaxException") ∈ lw_all := lw_g (lw_at lw_m10 30 rfl) rfl
theorem q2271 : (Jvm.Cond.classLink "CloudInterviews" (306 : Nat) "CloudInterviews$Parser") ∈ lw_all := lw_g (lw_at lw_m10 31 rfl) rfl
theorem q2273 : (Jvm.Cond.methodLink "CloudInterviews" (308 : Nat) ({ cls := "CloudInterviews$Parser", name := "<init>", desc := "(Ljava/lang/CharSequence;)V" } : Jvm.MethodName)) ∈ lw_all := lw_g (lw_at lw_m10 33 rfl) rfl
theorem q2284 : (Jvm.Cond.methodLink "CloudInterviews" (311 : Nat) ({ cls := "CloudInterviews$Parser", name := "commands", desc := "()Ljava/util/ArrayList;" } : Jvm.MethodName)) ∈ lw_all := lw_g (lw_at lw_m10 44 rfl) rfl
theorem q2365 : (Jvm.Cond.fieldLinkNest "CloudInterviews" (317 : Nat) "CloudInterviews$SyntaxException" "position" "I" "CloudInterviews") ∈ lw_tbl := lw_at lw_m10 125 rfl
theorem q2405 : (Jvm.Cond.instanceMethod ({ cls := "CloudInterviews", name := "errorPosition", desc := "()I" } : Jvm.MethodName)) ∈ lw_all := lw_g (lw_at lw_m10 165 rfl) rfl
theorem q2406 : (Jvm.Cond.selects "CloudInterviews" ({ cls := "CloudInterviews", name := "errorPosition", desc := "()I" } : Jvm.MethodName) ({ cls := "CloudInterviews", name := "errorPosition", desc := "()I" } : Jvm.MethodName)) ∈ lw_all := lw_g (lw_at lw_m10 166 rfl) rfl
theorem q2407 : (Jvm.Cond.code ({ cls := "CloudInterviews", name := "errorPosition", desc := "()I" } : Jvm.MethodName) prog_1_method_67_code (1 : Nat) (Option.some Jvm.ClassFile.FieldType.int)) ∈ lw_all := lw_g (lw_at lw_m10 167 rfl) rfl
theorem q2408 : (Jvm.Cond.methodLink "CloudInterviews" (323 : Nat) ({ cls := "CloudInterviews", name := "kept", desc := "(I)I" } : Jvm.MethodName)) ∈ lw_all := lw_g (lw_at lw_m10 168 rfl) rfl
theorem q2409 : (Jvm.Cond.static ({ cls := "CloudInterviews", name := "kept", desc := "(I)I" } : Jvm.MethodName)) ∈ lw_all := lw_g (lw_at lw_m10 169 rfl) rfl
theorem q2410 : (Jvm.Cond.code ({ cls := "CloudInterviews", name := "kept", desc := "(I)I" } : Jvm.MethodName) prog_1_method_66_code (1 : Nat) (Option.some Jvm.ClassFile.FieldType.int)) ∈ lw_all := lw_g (lw_at lw_m10 170 rfl) rfl
theorem q2415 : (Jvm.Cond.instanceMethod ({ cls := "CloudInterviews", name := "failedCommand", desc := "()I" } : Jvm.MethodName)) ∈ lw_all := lw_g (lw_at lw_m10 175 rfl) rfl
theorem q2416 : (Jvm.Cond.selects "CloudInterviews" ({ cls := "CloudInterviews", name := "failedCommand", desc := "()I" } : Jvm.MethodName) ({ cls := "CloudInterviews", name := "failedCommand", desc := "()I" } : Jvm.MethodName)) ∈ lw_all := lw_g (lw_at lw_m10 176 rfl) rfl
theorem q2417 : (Jvm.Cond.code ({ cls := "CloudInterviews", name := "failedCommand", desc := "()I" } : Jvm.MethodName) prog_1_method_68_code (1 : Nat) (Option.some Jvm.ClassFile.FieldType.int)) ∈ lw_all := lw_g (lw_at lw_m10 177 rfl) rfl
theorem q2422 : (Jvm.Cond.instanceMethod ({ cls := "CloudInterviews", name := "undo", desc := "()I" } : Jvm.MethodName)) ∈ lw_all := lw_g (lw_at lw_m10 182 rfl) rfl
theorem q2423 : (Jvm.Cond.selects "CloudInterviews" ({ cls := "CloudInterviews", name := "undo", desc := "()I" } : Jvm.MethodName) ({ cls := "CloudInterviews", name := "undo", desc := "()I" } : Jvm.MethodName)) ∈ lw_all := lw_g (lw_at lw_m10 183 rfl) rfl
theorem q2424 : (Jvm.Cond.code ({ cls := "CloudInterviews", name := "undo", desc := "()I" } : Jvm.MethodName) prog_1_method_69_code (1 : Nat) (Option.some Jvm.ClassFile.FieldType.int)) ∈ lw_all := lw_g (lw_at lw_m10 184 rfl) rfl
theorem q2425 : (Jvm.Cond.methodLink "CloudInterviews" (326 : Nat) ({ cls := "java/util/ArrayDeque", name := "isEmpty", desc := "()Z" } : Jvm.MethodName)) ∈ lw_all := lw_g (lw_at lw_m10 185 rfl) rfl
theorem q2429 : (Jvm.Cond.methodLink "CloudInterviews" (329 : Nat) ({ cls := "java/util/ArrayDeque", name := "removeLast", desc := "()Ljava/lang/Object;" } : Jvm.MethodName)) ∈ lw_all := lw_g (lw_at lw_m10 189 rfl) rfl
theorem q2444 : (Jvm.Cond.instanceMethod ({ cls := "CloudInterviews", name := "restore", desc := "()I" } : Jvm.MethodName)) ∈ lw_all := lw_g (lw_at lw_m10 204 rfl) rfl
theorem q2445 : (Jvm.Cond.selects "CloudInterviews" ({ cls := "CloudInterviews", name := "restore", desc := "()I" } : Jvm.MethodName) ({ cls := "CloudInterviews", name := "restore", desc := "()I" } : Jvm.MethodName)) ∈ lw_all := lw_g (lw_at lw_m10 205 rfl) rfl
theorem q2446 : (Jvm.Cond.code ({ cls := "CloudInterviews", name := "restore", desc := "()I" } : Jvm.MethodName) prog_1_method_72_code (1 : Nat) (Option.some Jvm.ClassFile.FieldType.int)) ∈ lw_all := lw_g (lw_at lw_m10 206 rfl) rfl
theorem q2447 : (Jvm.Cond.methodLink "CloudInterviews" (335 : Nat) ({ cls := "java/util/ArrayDeque", name := "clear", desc := "()V" } : Jvm.MethodName)) ∈ lw_all := lw_g (lw_at lw_m10 207 rfl) rfl
theorem q3000 : (Jvm.Cond.castable "CloudInterviews" "java/lang/Object") ∈ lw_tbl := lw_at lw_m13 40 rfl
theorem in_X1 : ∀ w ∈ wsX10, w ∈ lw_all := lw_in wsX10 [283, 285, 287, 289, 291, 293, 295] (by decide +kernel) (by decide +kernel)

