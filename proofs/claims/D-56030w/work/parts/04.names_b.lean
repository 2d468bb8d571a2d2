/-! CloudInterviews$Board -/
set_option maxRecDepth 100000
def RX2 : String := "CloudInterviews$Board"
def TX2 : u_T := fun k => match k with
  | 0 => ("CloudInterviews$Board", "byId", "Ljava/util/HashMap;", true)
  | 1 => ("CloudInterviews$Board", "applicants", "Ljava/util/ArrayList;", true)
  | 2 => ("CloudInterviews$Board", "references", "Ljava/util/HashMap;", true)
  | 3 => ("CloudInterviews$Board", "posts", "Ljava/util/ArrayList;", true)
  | 4 => ("CloudInterviews$Board", "nextId", "I", false)
  | _ => ("CloudInterviews$Board", "day", "I", false)
def tyX2 : Nat → FieldType := fun k => match k with
  | 0 => .object "java/util/HashMap"
  | 1 => .object "java/util/ArrayList"
  | 2 => .object "java/util/HashMap"
  | 3 => .object "java/util/ArrayList"
  | 4 => .int
  | _ => .int
abbrev wsX20 : List Cond := u_ws RX2 TX2 6
theorem nmX2 : ∀ a, a < 6 → ∀ b, b < 6 → a ≠ b → (TX2 a).2.1 ≠ (TX2 b).2.1 := by decide +kernel
theorem tyX2_ok : ∀ k, k < 6 → parseFieldDescriptor (TX2 k).2.2.1 = some (tyX2 k) := by decide +kernel
abbrev cX2_init : ByteArray := prog_3_method_1_code
def yX2_init : MethodName := ⟨RX2, "<init>", "()V"⟩
def dkwX2_init_2 : List UInt8 := [181, 0, 28, 177]
abbrev dktX2_init_2 : List UInt8 := dkwX2_init_2 ++ []
def dkwX2_init_1 : List UInt8 := [181, 0, 21, 42, 187, 0, 9, 89, 183, 0, 11, 181, 0, 25, 42, 187, 0, 18, 89, 183, 0, 20]
abbrev dktX2_init_1 : List UInt8 := dkwX2_init_1 ++ dktX2_init_2
def dkwX2_init_0 : List UInt8 := [42, 183, 0, 3, 42, 187, 0, 9, 89, 183, 0, 11, 181, 0, 12, 42, 187, 0, 18, 89, 183, 0, 20]
abbrev dktX2_init_0 : List UInt8 := dkwX2_init_0 ++ dktX2_init_1
theorem dksX2_init_0 : cX2_init.data.toList.drop 0 = dktX2_init_0 := by decide +kernel
theorem dksX2_init_1 : cX2_init.data.toList.drop 23 = dktX2_init_1 := dk_seg dksX2_init_0 23 rfl rfl
theorem dksX2_init_2 : cX2_init.data.toList.drop 45 = dktX2_init_2 := dk_seg dksX2_init_1 22 rfl rfl
theorem dX2_init_0 : decode cX2_init 0 = .ok (.aload_n 0, 1) := dk_42 (dk_at dksX2_init_0 0 rfl rfl)
theorem dX2_init_1 : decode cX2_init 1 = .ok (.invokespecial 3, 3) := dk_183 0 3 (dk_at dksX2_init_0 1 rfl rfl)
theorem dX2_init_4 : decode cX2_init 4 = .ok (.aload_n 0, 1) := dk_42 (dk_at dksX2_init_0 4 rfl rfl)
theorem dX2_init_5 : decode cX2_init 5 = .ok (.new 9, 3) := dk_187 0 9 (dk_at dksX2_init_0 5 rfl rfl)
theorem dX2_init_8 : decode cX2_init 8 = .ok (.dup, 1) := dk_89 (dk_at dksX2_init_0 8 rfl rfl)
theorem dX2_init_9 : decode cX2_init 9 = .ok (.invokespecial 11, 3) := dk_183 0 11 (dk_at dksX2_init_0 9 rfl rfl)
theorem dX2_init_12 : decode cX2_init 12 = .ok (.putfield 12, 3) := dk_181 0 12 (dk_at dksX2_init_0 12 rfl rfl)
theorem dX2_init_15 : decode cX2_init 15 = .ok (.aload_n 0, 1) := dk_42 (dk_at dksX2_init_0 15 rfl rfl)
theorem dX2_init_16 : decode cX2_init 16 = .ok (.new 18, 3) := dk_187 0 18 (dk_at dksX2_init_0 16 rfl rfl)
theorem dX2_init_19 : decode cX2_init 19 = .ok (.dup, 1) := dk_89 (dk_at dksX2_init_0 19 rfl rfl)
theorem dX2_init_20 : decode cX2_init 20 = .ok (.invokespecial 20, 3) := dk_183 0 20 (dk_at dksX2_init_0 20 rfl rfl)
theorem dX2_init_23 : decode cX2_init 23 = .ok (.putfield 21, 3) := dk_181 0 21 (dk_at dksX2_init_1 0 rfl rfl)
theorem dX2_init_26 : decode cX2_init 26 = .ok (.aload_n 0, 1) := dk_42 (dk_at dksX2_init_1 3 rfl rfl)
theorem dX2_init_27 : decode cX2_init 27 = .ok (.new 9, 3) := dk_187 0 9 (dk_at dksX2_init_1 4 rfl rfl)
theorem dX2_init_30 : decode cX2_init 30 = .ok (.dup, 1) := dk_89 (dk_at dksX2_init_1 7 rfl rfl)
theorem dX2_init_31 : decode cX2_init 31 = .ok (.invokespecial 11, 3) := dk_183 0 11 (dk_at dksX2_init_1 8 rfl rfl)
theorem dX2_init_34 : decode cX2_init 34 = .ok (.putfield 25, 3) := dk_181 0 25 (dk_at dksX2_init_1 11 rfl rfl)
theorem dX2_init_37 : decode cX2_init 37 = .ok (.aload_n 0, 1) := dk_42 (dk_at dksX2_init_1 14 rfl rfl)
theorem dX2_init_38 : decode cX2_init 38 = .ok (.new 18, 3) := dk_187 0 18 (dk_at dksX2_init_1 15 rfl rfl)
theorem dX2_init_41 : decode cX2_init 41 = .ok (.dup, 1) := dk_89 (dk_at dksX2_init_1 18 rfl rfl)
theorem dX2_init_42 : decode cX2_init 42 = .ok (.invokespecial 20, 3) := dk_183 0 20 (dk_at dksX2_init_1 19 rfl rfl)
theorem dX2_init_45 : decode cX2_init 45 = .ok (.putfield 28, 3) := dk_181 0 28 (dk_at dksX2_init_2 0 rfl rfl)
theorem dX2_init_48 : decode cX2_init 48 = .ok (.return_, 1) := dk_177 (dk_at dksX2_init_2 3 rfl rfl)
abbrev cX2_waiting : ByteArray := prog_3_method_7_code
def yX2_waiting : MethodName := ⟨RX2, "waiting", "()I"⟩
def dkwX2_waiting_2 : List UInt8 := [167, 255, 222, 27, 172]
abbrev dktX2_waiting_2 : List UInt8 := dkwX2_waiting_2 ++ []
def dkwX2_waiting_1 : List UInt8 := [185, 0, 49, 1, 0, 192, 0, 63, 78, 27, 45, 182, 0, 72, 153, 0, 7, 3, 167, 0, 4, 4, 96, 60]
abbrev dktX2_waiting_1 : List UInt8 := dkwX2_waiting_1 ++ dktX2_waiting_2
def dkwX2_waiting_0 : List UInt8 := [3, 60, 42, 180, 0, 21, 182, 0, 39, 77, 44, 185, 0, 43, 1, 0, 153, 0, 31, 44]
abbrev dktX2_waiting_0 : List UInt8 := dkwX2_waiting_0 ++ dktX2_waiting_1
theorem dksX2_waiting_0 : cX2_waiting.data.toList.drop 0 = dktX2_waiting_0 := by decide +kernel
theorem dksX2_waiting_1 : cX2_waiting.data.toList.drop 20 = dktX2_waiting_1 := dk_seg dksX2_waiting_0 20 rfl rfl
theorem dksX2_waiting_2 : cX2_waiting.data.toList.drop 44 = dktX2_waiting_2 := dk_seg dksX2_waiting_1 24 rfl rfl
theorem dX2_waiting_0 : decode cX2_waiting 0 = .ok (.iconst 0, 1) := dk_3 (dk_at dksX2_waiting_0 0 rfl rfl)
theorem dX2_waiting_1 : decode cX2_waiting 1 = .ok (.istore_n 1, 1) := dk_60 (dk_at dksX2_waiting_0 1 rfl rfl)
theorem dX2_waiting_2 : decode cX2_waiting 2 = .ok (.aload_n 0, 1) := dk_42 (dk_at dksX2_waiting_0 2 rfl rfl)
theorem dX2_waiting_3 : decode cX2_waiting 3 = .ok (.getfield 21, 3) := dk_180 0 21 (dk_at dksX2_waiting_0 3 rfl rfl)
theorem dX2_waiting_6 : decode cX2_waiting 6 = .ok (.invokevirtual 39, 3) := dk_182 0 39 (dk_at dksX2_waiting_0 6 rfl rfl)
theorem dX2_waiting_9 : decode cX2_waiting 9 = .ok (.astore_n 2, 1) := dk_77 (dk_at dksX2_waiting_0 9 rfl rfl)
theorem dX2_waiting_10 : decode cX2_waiting 10 = .ok (.aload_n 2, 1) := dk_44 (dk_at dksX2_waiting_0 10 rfl rfl)
theorem dX2_waiting_11 : decode cX2_waiting 11 = .ok (.invokeinterface 43 1, 5) := by decide +kernel
theorem dX2_waiting_16 : decode cX2_waiting 16 = .ok (.ifCond .eq 31, 3) := dk_153 0 31 (dk_at dksX2_waiting_0 16 rfl rfl)
theorem dX2_waiting_19 : decode cX2_waiting 19 = .ok (.aload_n 2, 1) := dk_44 (dk_at dksX2_waiting_0 19 rfl rfl)
theorem dX2_waiting_20 : decode cX2_waiting 20 = .ok (.invokeinterface 49 1, 5) := by decide +kernel
theorem dX2_waiting_25 : decode cX2_waiting 25 = .ok (.checkcast 63, 3) := dk_192 0 63 (dk_at dksX2_waiting_1 5 rfl rfl)
theorem dX2_waiting_28 : decode cX2_waiting 28 = .ok (.astore_n 3, 1) := dk_78 (dk_at dksX2_waiting_1 8 rfl rfl)
theorem dX2_waiting_29 : decode cX2_waiting 29 = .ok (.iload_n 1, 1) := dk_27 (dk_at dksX2_waiting_1 9 rfl rfl)
theorem dX2_waiting_30 : decode cX2_waiting 30 = .ok (.aload_n 3, 1) := dk_45 (dk_at dksX2_waiting_1 10 rfl rfl)
theorem dX2_waiting_31 : decode cX2_waiting 31 = .ok (.invokevirtual 72, 3) := dk_182 0 72 (dk_at dksX2_waiting_1 11 rfl rfl)
theorem dX2_waiting_34 : decode cX2_waiting 34 = .ok (.ifCond .eq 7, 3) := dk_153 0 7 (dk_at dksX2_waiting_1 14 rfl rfl)
theorem dX2_waiting_37 : decode cX2_waiting 37 = .ok (.iconst 0, 1) := dk_3 (dk_at dksX2_waiting_1 17 rfl rfl)
theorem dX2_waiting_38 : decode cX2_waiting 38 = .ok (.goto 4, 3) := dk_167 0 4 (dk_at dksX2_waiting_1 18 rfl rfl)
theorem dX2_waiting_41 : decode cX2_waiting 41 = .ok (.iconst 1, 1) := dk_4 (dk_at dksX2_waiting_1 21 rfl rfl)
theorem dX2_waiting_42 : decode cX2_waiting 42 = .ok (.iadd, 1) := dk_96 (dk_at dksX2_waiting_1 22 rfl rfl)
theorem dX2_waiting_43 : decode cX2_waiting 43 = .ok (.istore_n 1, 1) := dk_60 (dk_at dksX2_waiting_1 23 rfl rfl)
theorem dX2_waiting_44 : decode cX2_waiting 44 = .ok (.goto (-34), 3) := dk_167 255 222 (dk_at dksX2_waiting_2 0 rfl rfl)
theorem dX2_waiting_47 : decode cX2_waiting 47 = .ok (.iload_n 1, 1) := dk_27 (dk_at dksX2_waiting_2 3 rfl rfl)
theorem dX2_waiting_48 : decode cX2_waiting 48 = .ok (.ireturn, 1) := dk_172 (dk_at dksX2_waiting_2 4 rfl rfl)
abbrev cX2_vacant : ByteArray := prog_3_method_8_code
def yX2_vacant : MethodName := ⟨RX2, "vacant", "()I"⟩
def dkwX2_vacant_2 : List UInt8 := [167, 255, 222, 27, 172]
abbrev dktX2_vacant_2 : List UInt8 := dkwX2_vacant_2 ++ []
def dkwX2_vacant_1 : List UInt8 := [185, 0, 49, 1, 0, 192, 0, 53, 78, 27, 45, 182, 0, 126, 153, 0, 7, 4, 167, 0, 4, 3, 96, 60]
abbrev dktX2_vacant_1 : List UInt8 := dkwX2_vacant_1 ++ dktX2_vacant_2
def dkwX2_vacant_0 : List UInt8 := [3, 60, 42, 180, 0, 28, 182, 0, 39, 77, 44, 185, 0, 43, 1, 0, 153, 0, 31, 44]
abbrev dktX2_vacant_0 : List UInt8 := dkwX2_vacant_0 ++ dktX2_vacant_1
theorem dksX2_vacant_0 : cX2_vacant.data.toList.drop 0 = dktX2_vacant_0 := by decide +kernel
theorem dksX2_vacant_1 : cX2_vacant.data.toList.drop 20 = dktX2_vacant_1 := dk_seg dksX2_vacant_0 20 rfl rfl
theorem dksX2_vacant_2 : cX2_vacant.data.toList.drop 44 = dktX2_vacant_2 := dk_seg dksX2_vacant_1 24 rfl rfl
theorem dX2_vacant_0 : decode cX2_vacant 0 = .ok (.iconst 0, 1) := dk_3 (dk_at dksX2_vacant_0 0 rfl rfl)
theorem dX2_vacant_1 : decode cX2_vacant 1 = .ok (.istore_n 1, 1) := dk_60 (dk_at dksX2_vacant_0 1 rfl rfl)
theorem dX2_vacant_2 : decode cX2_vacant 2 = .ok (.aload_n 0, 1) := dk_42 (dk_at dksX2_vacant_0 2 rfl rfl)
theorem dX2_vacant_3 : decode cX2_vacant 3 = .ok (.getfield 28, 3) := dk_180 0 28 (dk_at dksX2_vacant_0 3 rfl rfl)
theorem dX2_vacant_6 : decode cX2_vacant 6 = .ok (.invokevirtual 39, 3) := dk_182 0 39 (dk_at dksX2_vacant_0 6 rfl rfl)
theorem dX2_vacant_9 : decode cX2_vacant 9 = .ok (.astore_n 2, 1) := dk_77 (dk_at dksX2_vacant_0 9 rfl rfl)
theorem dX2_vacant_10 : decode cX2_vacant 10 = .ok (.aload_n 2, 1) := dk_44 (dk_at dksX2_vacant_0 10 rfl rfl)
theorem dX2_vacant_11 : decode cX2_vacant 11 = .ok (.invokeinterface 43 1, 5) := by decide +kernel
theorem dX2_vacant_16 : decode cX2_vacant 16 = .ok (.ifCond .eq 31, 3) := dk_153 0 31 (dk_at dksX2_vacant_0 16 rfl rfl)
theorem dX2_vacant_19 : decode cX2_vacant 19 = .ok (.aload_n 2, 1) := dk_44 (dk_at dksX2_vacant_0 19 rfl rfl)
theorem dX2_vacant_20 : decode cX2_vacant 20 = .ok (.invokeinterface 49 1, 5) := by decide +kernel
theorem dX2_vacant_25 : decode cX2_vacant 25 = .ok (.checkcast 53, 3) := dk_192 0 53 (dk_at dksX2_vacant_1 5 rfl rfl)
theorem dX2_vacant_28 : decode cX2_vacant 28 = .ok (.astore_n 3, 1) := dk_78 (dk_at dksX2_vacant_1 8 rfl rfl)
theorem dX2_vacant_29 : decode cX2_vacant 29 = .ok (.iload_n 1, 1) := dk_27 (dk_at dksX2_vacant_1 9 rfl rfl)
theorem dX2_vacant_30 : decode cX2_vacant 30 = .ok (.aload_n 3, 1) := dk_45 (dk_at dksX2_vacant_1 10 rfl rfl)
theorem dX2_vacant_31 : decode cX2_vacant 31 = .ok (.invokevirtual 126, 3) := dk_182 0 126 (dk_at dksX2_vacant_1 11 rfl rfl)
theorem dX2_vacant_34 : decode cX2_vacant 34 = .ok (.ifCond .eq 7, 3) := dk_153 0 7 (dk_at dksX2_vacant_1 14 rfl rfl)
theorem dX2_vacant_37 : decode cX2_vacant 37 = .ok (.iconst 1, 1) := dk_4 (dk_at dksX2_vacant_1 17 rfl rfl)
theorem dX2_vacant_38 : decode cX2_vacant 38 = .ok (.goto 4, 3) := dk_167 0 4 (dk_at dksX2_vacant_1 18 rfl rfl)
theorem dX2_vacant_41 : decode cX2_vacant 41 = .ok (.iconst 0, 1) := dk_3 (dk_at dksX2_vacant_1 21 rfl rfl)
theorem dX2_vacant_42 : decode cX2_vacant 42 = .ok (.iadd, 1) := dk_96 (dk_at dksX2_vacant_1 22 rfl rfl)
theorem dX2_vacant_43 : decode cX2_vacant 43 = .ok (.istore_n 1, 1) := dk_60 (dk_at dksX2_vacant_1 23 rfl rfl)
theorem dX2_vacant_44 : decode cX2_vacant 44 = .ok (.goto (-34), 3) := dk_167 255 222 (dk_at dksX2_vacant_2 0 rfl rfl)
theorem dX2_vacant_47 : decode cX2_vacant 47 = .ok (.iload_n 1, 1) := dk_27 (dk_at dksX2_vacant_2 3 rfl rfl)
theorem dX2_vacant_48 : decode cX2_vacant 48 = .ok (.ireturn, 1) := dk_172 (dk_at dksX2_vacant_2 4 rfl rfl)
abbrev cX2_copy : ByteArray := prog_3_method_2_code
def yX2_copy : MethodName := ⟨RX2, "copy", "()LCloudInterviews$Board;"⟩
def dkwX2_copy_9 : List UInt8 := [180, 0, 91, 25, 5, 180, 0, 91, 182, 0, 94, 182, 0, 98, 167, 255, 208, 167, 255, 177, 43, 176]
abbrev dktX2_copy_9 : List UInt8 := dkwX2_copy_9 ++ []
def dkwX2_copy_8 : List UInt8 := [185, 0, 49, 1, 0, 192, 0, 63, 58, 5, 43, 45, 180, 0, 91, 25, 5, 180, 0, 91, 42, 45]
abbrev dktX2_copy_8 : List UInt8 := dkwX2_copy_8 ++ dktX2_copy_9
def dkwX2_copy_7 : List UInt8 := [180, 0, 21, 182, 0, 39, 58, 4, 25, 4, 185, 0, 43, 1, 0, 153, 0, 44, 25, 4]
abbrev dktX2_copy_7 : List UInt8 := dkwX2_copy_7 ++ dktX2_copy_8
def dkwX2_copy_6 : List UInt8 := [182, 0, 39, 77, 44, 185, 0, 43, 1, 0, 153, 0, 76, 44, 185, 0, 49, 1, 0, 192, 0, 63, 78, 42]
abbrev dktX2_copy_6 : List UInt8 := dkwX2_copy_6 ++ dktX2_copy_7
def dkwX2_copy_5 : List UInt8 := [180, 0, 75, 182, 0, 79, 182, 0, 83, 192, 0, 53, 25, 4, 182, 0, 87, 167, 255, 197, 42, 180, 0, 21]
abbrev dktX2_copy_5 : List UInt8 := dkwX2_copy_5 ++ dktX2_copy_6
def dkwX2_copy_4 : List UInt8 := [45, 182, 0, 65, 182, 0, 68, 58, 4, 45, 182, 0, 72, 153, 0, 26, 43, 180, 0, 28, 42, 45]
abbrev dktX2_copy_4 : List UInt8 := dkwX2_copy_4 ++ dktX2_copy_5
def dkwX2_copy_3 : List UInt8 := [182, 0, 39, 77, 44, 185, 0, 43, 1, 0, 153, 0, 56, 44, 185, 0, 49, 1, 0, 192, 0, 63, 78, 43]
abbrev dktX2_copy_3 : List UInt8 := dkwX2_copy_3 ++ dktX2_copy_4
def dkwX2_copy_2 : List UInt8 := [192, 0, 53, 78, 43, 180, 0, 28, 45, 182, 0, 55, 182, 0, 59, 54, 4, 167, 255, 224, 42, 180, 0, 21]
abbrev dktX2_copy_2 : List UInt8 := dkwX2_copy_2 ++ dktX2_copy_3
def dkwX2_copy_1 : List UInt8 := [42, 180, 0, 28, 182, 0, 39, 77, 44, 185, 0, 43, 1, 0, 153, 0, 29, 44, 185, 0, 49, 1, 0]
abbrev dktX2_copy_1 : List UInt8 := dkwX2_copy_1 ++ dktX2_copy_2
def dkwX2_copy_0 : List UInt8 := [187, 0, 13, 89, 183, 0, 31, 76, 43, 42, 180, 0, 32, 181, 0, 32, 43, 42, 180, 0, 36, 181, 0, 36]
abbrev dktX2_copy_0 : List UInt8 := dkwX2_copy_0 ++ dktX2_copy_1
theorem dksX2_copy_0 : cX2_copy.data.toList.drop 0 = dktX2_copy_0 := by decide +kernel
theorem dksX2_copy_1 : cX2_copy.data.toList.drop 24 = dktX2_copy_1 := dk_seg dksX2_copy_0 24 rfl rfl
theorem dksX2_copy_2 : cX2_copy.data.toList.drop 47 = dktX2_copy_2 := dk_seg dksX2_copy_1 23 rfl rfl
theorem dksX2_copy_3 : cX2_copy.data.toList.drop 71 = dktX2_copy_3 := dk_seg dksX2_copy_2 24 rfl rfl
theorem dksX2_copy_4 : cX2_copy.data.toList.drop 95 = dktX2_copy_4 := dk_seg dksX2_copy_3 24 rfl rfl
theorem dksX2_copy_5 : cX2_copy.data.toList.drop 117 = dktX2_copy_5 := dk_seg dksX2_copy_4 22 rfl rfl
theorem dksX2_copy_6 : cX2_copy.data.toList.drop 141 = dktX2_copy_6 := dk_seg dksX2_copy_5 24 rfl rfl
theorem dksX2_copy_7 : cX2_copy.data.toList.drop 165 = dktX2_copy_7 := dk_seg dksX2_copy_6 24 rfl rfl
theorem dksX2_copy_8 : cX2_copy.data.toList.drop 185 = dktX2_copy_8 := dk_seg dksX2_copy_7 20 rfl rfl
theorem dksX2_copy_9 : cX2_copy.data.toList.drop 207 = dktX2_copy_9 := dk_seg dksX2_copy_8 22 rfl rfl
theorem dX2_copy_0 : decode cX2_copy 0 = .ok (.new 13, 3) := dk_187 0 13 (dk_at dksX2_copy_0 0 rfl rfl)
theorem dX2_copy_3 : decode cX2_copy 3 = .ok (.dup, 1) := dk_89 (dk_at dksX2_copy_0 3 rfl rfl)
theorem dX2_copy_4 : decode cX2_copy 4 = .ok (.invokespecial 31, 3) := dk_183 0 31 (dk_at dksX2_copy_0 4 rfl rfl)
theorem dX2_copy_7 : decode cX2_copy 7 = .ok (.astore_n 1, 1) := dk_76 (dk_at dksX2_copy_0 7 rfl rfl)
theorem dX2_copy_8 : decode cX2_copy 8 = .ok (.aload_n 1, 1) := dk_43 (dk_at dksX2_copy_0 8 rfl rfl)
theorem dX2_copy_9 : decode cX2_copy 9 = .ok (.aload_n 0, 1) := dk_42 (dk_at dksX2_copy_0 9 rfl rfl)
theorem dX2_copy_10 : decode cX2_copy 10 = .ok (.getfield 32, 3) := dk_180 0 32 (dk_at dksX2_copy_0 10 rfl rfl)
theorem dX2_copy_13 : decode cX2_copy 13 = .ok (.putfield 32, 3) := dk_181 0 32 (dk_at dksX2_copy_0 13 rfl rfl)
theorem dX2_copy_16 : decode cX2_copy 16 = .ok (.aload_n 1, 1) := dk_43 (dk_at dksX2_copy_0 16 rfl rfl)
theorem dX2_copy_17 : decode cX2_copy 17 = .ok (.aload_n 0, 1) := dk_42 (dk_at dksX2_copy_0 17 rfl rfl)
theorem dX2_copy_18 : decode cX2_copy 18 = .ok (.getfield 36, 3) := dk_180 0 36 (dk_at dksX2_copy_0 18 rfl rfl)
theorem dX2_copy_21 : decode cX2_copy 21 = .ok (.putfield 36, 3) := dk_181 0 36 (dk_at dksX2_copy_0 21 rfl rfl)
theorem dX2_copy_24 : decode cX2_copy 24 = .ok (.aload_n 0, 1) := dk_42 (dk_at dksX2_copy_1 0 rfl rfl)
theorem dX2_copy_25 : decode cX2_copy 25 = .ok (.getfield 28, 3) := dk_180 0 28 (dk_at dksX2_copy_1 1 rfl rfl)
theorem dX2_copy_28 : decode cX2_copy 28 = .ok (.invokevirtual 39, 3) := dk_182 0 39 (dk_at dksX2_copy_1 4 rfl rfl)
theorem dX2_copy_31 : decode cX2_copy 31 = .ok (.astore_n 2, 1) := dk_77 (dk_at dksX2_copy_1 7 rfl rfl)
theorem dX2_copy_32 : decode cX2_copy 32 = .ok (.aload_n 2, 1) := dk_44 (dk_at dksX2_copy_1 8 rfl rfl)
theorem dX2_copy_33 : decode cX2_copy 33 = .ok (.invokeinterface 43 1, 5) := by decide +kernel
theorem dX2_copy_38 : decode cX2_copy 38 = .ok (.ifCond .eq 29, 3) := dk_153 0 29 (dk_at dksX2_copy_1 14 rfl rfl)
theorem dX2_copy_41 : decode cX2_copy 41 = .ok (.aload_n 2, 1) := dk_44 (dk_at dksX2_copy_1 17 rfl rfl)
theorem dX2_copy_42 : decode cX2_copy 42 = .ok (.invokeinterface 49 1, 5) := by decide +kernel
theorem dX2_copy_47 : decode cX2_copy 47 = .ok (.checkcast 53, 3) := dk_192 0 53 (dk_at dksX2_copy_2 0 rfl rfl)
theorem dX2_copy_50 : decode cX2_copy 50 = .ok (.astore_n 3, 1) := dk_78 (dk_at dksX2_copy_2 3 rfl rfl)
theorem dX2_copy_51 : decode cX2_copy 51 = .ok (.aload_n 1, 1) := dk_43 (dk_at dksX2_copy_2 4 rfl rfl)
theorem dX2_copy_52 : decode cX2_copy 52 = .ok (.getfield 28, 3) := dk_180 0 28 (dk_at dksX2_copy_2 5 rfl rfl)
theorem dX2_copy_55 : decode cX2_copy 55 = .ok (.aload_n 3, 1) := dk_45 (dk_at dksX2_copy_2 8 rfl rfl)
theorem dX2_copy_56 : decode cX2_copy 56 = .ok (.invokevirtual 55, 3) := dk_182 0 55 (dk_at dksX2_copy_2 9 rfl rfl)
theorem dX2_copy_59 : decode cX2_copy 59 = .ok (.invokevirtual 59, 3) := dk_182 0 59 (dk_at dksX2_copy_2 12 rfl rfl)
theorem dX2_copy_62 : decode cX2_copy 62 = .ok (.istore 4, 2) := dk_54 4 (dk_at dksX2_copy_2 15 rfl rfl)
theorem dX2_copy_64 : decode cX2_copy 64 = .ok (.goto (-32), 3) := dk_167 255 224 (dk_at dksX2_copy_2 17 rfl rfl)
theorem dX2_copy_67 : decode cX2_copy 67 = .ok (.aload_n 0, 1) := dk_42 (dk_at dksX2_copy_2 20 rfl rfl)
theorem dX2_copy_68 : decode cX2_copy 68 = .ok (.getfield 21, 3) := dk_180 0 21 (dk_at dksX2_copy_2 21 rfl rfl)
theorem dX2_copy_71 : decode cX2_copy 71 = .ok (.invokevirtual 39, 3) := dk_182 0 39 (dk_at dksX2_copy_3 0 rfl rfl)
theorem dX2_copy_74 : decode cX2_copy 74 = .ok (.astore_n 2, 1) := dk_77 (dk_at dksX2_copy_3 3 rfl rfl)
theorem dX2_copy_75 : decode cX2_copy 75 = .ok (.aload_n 2, 1) := dk_44 (dk_at dksX2_copy_3 4 rfl rfl)
theorem dX2_copy_76 : decode cX2_copy 76 = .ok (.invokeinterface 43 1, 5) := by decide +kernel
theorem dX2_copy_81 : decode cX2_copy 81 = .ok (.ifCond .eq 56, 3) := dk_153 0 56 (dk_at dksX2_copy_3 10 rfl rfl)
theorem dX2_copy_84 : decode cX2_copy 84 = .ok (.aload_n 2, 1) := dk_44 (dk_at dksX2_copy_3 13 rfl rfl)
theorem dX2_copy_85 : decode cX2_copy 85 = .ok (.invokeinterface 49 1, 5) := by decide +kernel
theorem dX2_copy_90 : decode cX2_copy 90 = .ok (.checkcast 63, 3) := dk_192 0 63 (dk_at dksX2_copy_3 19 rfl rfl)
theorem dX2_copy_93 : decode cX2_copy 93 = .ok (.astore_n 3, 1) := dk_78 (dk_at dksX2_copy_3 22 rfl rfl)
theorem dX2_copy_94 : decode cX2_copy 94 = .ok (.aload_n 1, 1) := dk_43 (dk_at dksX2_copy_3 23 rfl rfl)
theorem dX2_copy_95 : decode cX2_copy 95 = .ok (.aload_n 3, 1) := dk_45 (dk_at dksX2_copy_4 0 rfl rfl)
theorem dX2_copy_96 : decode cX2_copy 96 = .ok (.invokevirtual 65, 3) := dk_182 0 65 (dk_at dksX2_copy_4 1 rfl rfl)
theorem dX2_copy_99 : decode cX2_copy 99 = .ok (.invokevirtual 68, 3) := dk_182 0 68 (dk_at dksX2_copy_4 4 rfl rfl)
theorem dX2_copy_102 : decode cX2_copy 102 = .ok (.astore 4, 2) := dk_58 4 (dk_at dksX2_copy_4 7 rfl rfl)
theorem dX2_copy_104 : decode cX2_copy 104 = .ok (.aload_n 3, 1) := dk_45 (dk_at dksX2_copy_4 9 rfl rfl)
theorem dX2_copy_105 : decode cX2_copy 105 = .ok (.invokevirtual 72, 3) := dk_182 0 72 (dk_at dksX2_copy_4 10 rfl rfl)
theorem dX2_copy_108 : decode cX2_copy 108 = .ok (.ifCond .eq 26, 3) := dk_153 0 26 (dk_at dksX2_copy_4 13 rfl rfl)
theorem dX2_copy_111 : decode cX2_copy 111 = .ok (.aload_n 1, 1) := dk_43 (dk_at dksX2_copy_4 16 rfl rfl)
theorem dX2_copy_112 : decode cX2_copy 112 = .ok (.getfield 28, 3) := dk_180 0 28 (dk_at dksX2_copy_4 17 rfl rfl)
theorem dX2_copy_115 : decode cX2_copy 115 = .ok (.aload_n 0, 1) := dk_42 (dk_at dksX2_copy_4 20 rfl rfl)
theorem dX2_copy_116 : decode cX2_copy 116 = .ok (.aload_n 3, 1) := dk_45 (dk_at dksX2_copy_4 21 rfl rfl)
theorem dX2_copy_117 : decode cX2_copy 117 = .ok (.getfield 75, 3) := dk_180 0 75 (dk_at dksX2_copy_5 0 rfl rfl)
theorem dX2_copy_120 : decode cX2_copy 120 = .ok (.invokevirtual 79, 3) := dk_182 0 79 (dk_at dksX2_copy_5 3 rfl rfl)
theorem dX2_copy_123 : decode cX2_copy 123 = .ok (.invokevirtual 83, 3) := dk_182 0 83 (dk_at dksX2_copy_5 6 rfl rfl)
theorem dX2_copy_126 : decode cX2_copy 126 = .ok (.checkcast 53, 3) := dk_192 0 53 (dk_at dksX2_copy_5 9 rfl rfl)
theorem dX2_copy_129 : decode cX2_copy 129 = .ok (.aload 4, 2) := dk_25 4 (dk_at dksX2_copy_5 12 rfl rfl)
theorem dX2_copy_131 : decode cX2_copy 131 = .ok (.invokevirtual 87, 3) := dk_182 0 87 (dk_at dksX2_copy_5 14 rfl rfl)
theorem dX2_copy_134 : decode cX2_copy 134 = .ok (.goto (-59), 3) := dk_167 255 197 (dk_at dksX2_copy_5 17 rfl rfl)
theorem dX2_copy_137 : decode cX2_copy 137 = .ok (.aload_n 0, 1) := dk_42 (dk_at dksX2_copy_5 20 rfl rfl)
theorem dX2_copy_138 : decode cX2_copy 138 = .ok (.getfield 21, 3) := dk_180 0 21 (dk_at dksX2_copy_5 21 rfl rfl)
theorem dX2_copy_141 : decode cX2_copy 141 = .ok (.invokevirtual 39, 3) := dk_182 0 39 (dk_at dksX2_copy_6 0 rfl rfl)
theorem dX2_copy_144 : decode cX2_copy 144 = .ok (.astore_n 2, 1) := dk_77 (dk_at dksX2_copy_6 3 rfl rfl)
theorem dX2_copy_145 : decode cX2_copy 145 = .ok (.aload_n 2, 1) := dk_44 (dk_at dksX2_copy_6 4 rfl rfl)
theorem dX2_copy_146 : decode cX2_copy 146 = .ok (.invokeinterface 43 1, 5) := by decide +kernel
theorem dX2_copy_151 : decode cX2_copy 151 = .ok (.ifCond .eq 76, 3) := dk_153 0 76 (dk_at dksX2_copy_6 10 rfl rfl)
theorem dX2_copy_154 : decode cX2_copy 154 = .ok (.aload_n 2, 1) := dk_44 (dk_at dksX2_copy_6 13 rfl rfl)
theorem dX2_copy_155 : decode cX2_copy 155 = .ok (.invokeinterface 49 1, 5) := by decide +kernel
theorem dX2_copy_160 : decode cX2_copy 160 = .ok (.checkcast 63, 3) := dk_192 0 63 (dk_at dksX2_copy_6 19 rfl rfl)
theorem dX2_copy_163 : decode cX2_copy 163 = .ok (.astore_n 3, 1) := dk_78 (dk_at dksX2_copy_6 22 rfl rfl)
theorem dX2_copy_164 : decode cX2_copy 164 = .ok (.aload_n 0, 1) := dk_42 (dk_at dksX2_copy_6 23 rfl rfl)
theorem dX2_copy_165 : decode cX2_copy 165 = .ok (.getfield 21, 3) := dk_180 0 21 (dk_at dksX2_copy_7 0 rfl rfl)
theorem dX2_copy_168 : decode cX2_copy 168 = .ok (.invokevirtual 39, 3) := dk_182 0 39 (dk_at dksX2_copy_7 3 rfl rfl)
theorem dX2_copy_171 : decode cX2_copy 171 = .ok (.astore 4, 2) := dk_58 4 (dk_at dksX2_copy_7 6 rfl rfl)
theorem dX2_copy_173 : decode cX2_copy 173 = .ok (.aload 4, 2) := dk_25 4 (dk_at dksX2_copy_7 8 rfl rfl)
theorem dX2_copy_175 : decode cX2_copy 175 = .ok (.invokeinterface 43 1, 5) := by decide +kernel
theorem dX2_copy_180 : decode cX2_copy 180 = .ok (.ifCond .eq 44, 3) := dk_153 0 44 (dk_at dksX2_copy_7 15 rfl rfl)
theorem dX2_copy_183 : decode cX2_copy 183 = .ok (.aload 4, 2) := dk_25 4 (dk_at dksX2_copy_7 18 rfl rfl)
theorem dX2_copy_185 : decode cX2_copy 185 = .ok (.invokeinterface 49 1, 5) := by decide +kernel
theorem dX2_copy_190 : decode cX2_copy 190 = .ok (.checkcast 63, 3) := dk_192 0 63 (dk_at dksX2_copy_8 5 rfl rfl)
theorem dX2_copy_193 : decode cX2_copy 193 = .ok (.astore 5, 2) := dk_58 5 (dk_at dksX2_copy_8 8 rfl rfl)
theorem dX2_copy_195 : decode cX2_copy 195 = .ok (.aload_n 1, 1) := dk_43 (dk_at dksX2_copy_8 10 rfl rfl)
theorem dX2_copy_196 : decode cX2_copy 196 = .ok (.aload_n 3, 1) := dk_45 (dk_at dksX2_copy_8 11 rfl rfl)
theorem dX2_copy_197 : decode cX2_copy 197 = .ok (.getfield 91, 3) := dk_180 0 91 (dk_at dksX2_copy_8 12 rfl rfl)
theorem dX2_copy_200 : decode cX2_copy 200 = .ok (.aload 5, 2) := dk_25 5 (dk_at dksX2_copy_8 15 rfl rfl)
theorem dX2_copy_202 : decode cX2_copy 202 = .ok (.getfield 91, 3) := dk_180 0 91 (dk_at dksX2_copy_8 17 rfl rfl)
theorem dX2_copy_205 : decode cX2_copy 205 = .ok (.aload_n 0, 1) := dk_42 (dk_at dksX2_copy_8 20 rfl rfl)
theorem dX2_copy_206 : decode cX2_copy 206 = .ok (.aload_n 3, 1) := dk_45 (dk_at dksX2_copy_8 21 rfl rfl)
theorem dX2_copy_207 : decode cX2_copy 207 = .ok (.getfield 91, 3) := dk_180 0 91 (dk_at dksX2_copy_9 0 rfl rfl)
theorem dX2_copy_210 : decode cX2_copy 210 = .ok (.aload 5, 2) := dk_25 5 (dk_at dksX2_copy_9 3 rfl rfl)
theorem dX2_copy_212 : decode cX2_copy 212 = .ok (.getfield 91, 3) := dk_180 0 91 (dk_at dksX2_copy_9 5 rfl rfl)
theorem dX2_copy_215 : decode cX2_copy 215 = .ok (.invokevirtual 94, 3) := dk_182 0 94 (dk_at dksX2_copy_9 8 rfl rfl)
theorem dX2_copy_218 : decode cX2_copy 218 = .ok (.invokevirtual 98, 3) := dk_182 0 98 (dk_at dksX2_copy_9 11 rfl rfl)
theorem dX2_copy_221 : decode cX2_copy 221 = .ok (.goto (-48), 3) := dk_167 255 208 (dk_at dksX2_copy_9 14 rfl rfl)
theorem dX2_copy_224 : decode cX2_copy 224 = .ok (.goto (-79), 3) := dk_167 255 177 (dk_at dksX2_copy_9 17 rfl rfl)
theorem dX2_copy_227 : decode cX2_copy 227 = .ok (.aload_n 1, 1) := dk_43 (dk_at dksX2_copy_9 20 rfl rfl)
theorem dX2_copy_228 : decode cX2_copy 228 = .ok (.areturn, 1) := dk_176 (dk_at dksX2_copy_9 21 rfl rfl)
abbrev cX2_put : ByteArray := prog_3_method_3_code
def yX2_put : MethodName := ⟨RX2, "put", "(LCloudInterviews$Applicant;)LCloudInterviews$Applicant;"⟩
def dkwX2_put_1 : List UInt8 := [192, 0, 63, 78, 43, 176]
abbrev dktX2_put_1 : List UInt8 := dkwX2_put_1 ++ []
def dkwX2_put_0 : List UInt8 := [42, 180, 0, 21, 43, 182, 0, 59, 61, 42, 180, 0, 12, 43, 180, 0, 91, 184, 0, 102, 43, 182, 0, 108]
abbrev dktX2_put_0 : List UInt8 := dkwX2_put_0 ++ dktX2_put_1
theorem dksX2_put_0 : cX2_put.data.toList.drop 0 = dktX2_put_0 := by decide +kernel
theorem dksX2_put_1 : cX2_put.data.toList.drop 24 = dktX2_put_1 := dk_seg dksX2_put_0 24 rfl rfl
theorem dX2_put_0 : decode cX2_put 0 = .ok (.aload_n 0, 1) := dk_42 (dk_at dksX2_put_0 0 rfl rfl)
theorem dX2_put_1 : decode cX2_put 1 = .ok (.getfield 21, 3) := dk_180 0 21 (dk_at dksX2_put_0 1 rfl rfl)
theorem dX2_put_4 : decode cX2_put 4 = .ok (.aload_n 1, 1) := dk_43 (dk_at dksX2_put_0 4 rfl rfl)
theorem dX2_put_5 : decode cX2_put 5 = .ok (.invokevirtual 59, 3) := dk_182 0 59 (dk_at dksX2_put_0 5 rfl rfl)
theorem dX2_put_8 : decode cX2_put 8 = .ok (.istore_n 2, 1) := dk_61 (dk_at dksX2_put_0 8 rfl rfl)
theorem dX2_put_9 : decode cX2_put 9 = .ok (.aload_n 0, 1) := dk_42 (dk_at dksX2_put_0 9 rfl rfl)
theorem dX2_put_10 : decode cX2_put 10 = .ok (.getfield 12, 3) := dk_180 0 12 (dk_at dksX2_put_0 10 rfl rfl)
theorem dX2_put_13 : decode cX2_put 13 = .ok (.aload_n 1, 1) := dk_43 (dk_at dksX2_put_0 13 rfl rfl)
theorem dX2_put_14 : decode cX2_put 14 = .ok (.getfield 91, 3) := dk_180 0 91 (dk_at dksX2_put_0 14 rfl rfl)
theorem dX2_put_17 : decode cX2_put 17 = .ok (.invokestatic 102, 3) := dk_184 0 102 (dk_at dksX2_put_0 17 rfl rfl)
theorem dX2_put_20 : decode cX2_put 20 = .ok (.aload_n 1, 1) := dk_43 (dk_at dksX2_put_0 20 rfl rfl)
theorem dX2_put_21 : decode cX2_put 21 = .ok (.invokevirtual 108, 3) := dk_182 0 108 (dk_at dksX2_put_0 21 rfl rfl)
theorem dX2_put_24 : decode cX2_put 24 = .ok (.checkcast 63, 3) := dk_192 0 63 (dk_at dksX2_put_1 0 rfl rfl)
theorem dX2_put_27 : decode cX2_put 27 = .ok (.astore_n 3, 1) := dk_78 (dk_at dksX2_put_1 3 rfl rfl)
theorem dX2_put_28 : decode cX2_put 28 = .ok (.aload_n 1, 1) := dk_43 (dk_at dksX2_put_1 4 rfl rfl)
theorem dX2_put_29 : decode cX2_put 29 = .ok (.areturn, 1) := dk_176 (dk_at dksX2_put_1 5 rfl rfl)
abbrev cX2_indexOf : ByteArray := prog_3_method_6_code
def yX2_indexOf : MethodName := ⟨RX2, "indexOf", "(LCloudInterviews$Post;)I"⟩
def dkwX2_indexOf_0 : List UInt8 := [3, 61, 42, 180, 0, 28, 28, 182, 0, 83, 43, 165, 0, 9, 132, 2, 1, 167, 255, 241, 28, 172]
abbrev dktX2_indexOf_0 : List UInt8 := dkwX2_indexOf_0 ++ []
theorem dksX2_indexOf_0 : cX2_indexOf.data.toList.drop 0 = dktX2_indexOf_0 := by decide +kernel
theorem dX2_indexOf_0 : decode cX2_indexOf 0 = .ok (.iconst 0, 1) := dk_3 (dk_at dksX2_indexOf_0 0 rfl rfl)
theorem dX2_indexOf_1 : decode cX2_indexOf 1 = .ok (.istore_n 2, 1) := dk_61 (dk_at dksX2_indexOf_0 1 rfl rfl)
theorem dX2_indexOf_2 : decode cX2_indexOf 2 = .ok (.aload_n 0, 1) := dk_42 (dk_at dksX2_indexOf_0 2 rfl rfl)
theorem dX2_indexOf_3 : decode cX2_indexOf 3 = .ok (.getfield 28, 3) := dk_180 0 28 (dk_at dksX2_indexOf_0 3 rfl rfl)
theorem dX2_indexOf_6 : decode cX2_indexOf 6 = .ok (.iload_n 2, 1) := dk_28 (dk_at dksX2_indexOf_0 6 rfl rfl)
theorem dX2_indexOf_7 : decode cX2_indexOf 7 = .ok (.invokevirtual 83, 3) := dk_182 0 83 (dk_at dksX2_indexOf_0 7 rfl rfl)
theorem dX2_indexOf_10 : decode cX2_indexOf 10 = .ok (.aload_n 1, 1) := dk_43 (dk_at dksX2_indexOf_0 10 rfl rfl)
theorem dX2_indexOf_11 : decode cX2_indexOf 11 = .ok (.if_acmp .eq 9, 3) := dk_165 0 9 (dk_at dksX2_indexOf_0 11 rfl rfl)
theorem dX2_indexOf_14 : decode cX2_indexOf 14 = .ok (.iinc 2 1, 3) := dk_132 2 1 (dk_at dksX2_indexOf_0 14 rfl rfl)
theorem dX2_indexOf_17 : decode cX2_indexOf 17 = .ok (.goto (-15), 3) := dk_167 255 241 (dk_at dksX2_indexOf_0 17 rfl rfl)
theorem dX2_indexOf_20 : decode cX2_indexOf 20 = .ok (.iload_n 2, 1) := dk_28 (dk_at dksX2_indexOf_0 20 rfl rfl)
theorem dX2_indexOf_21 : decode cX2_indexOf 21 = .ok (.ireturn, 1) := dk_172 (dk_at dksX2_indexOf_0 21 rfl rfl)
abbrev cX2_hasReference : ByteArray := prog_3_method_9_code
def yX2_hasReference : MethodName := ⟨RX2, "hasReference", "(II)Z"⟩
def dkwX2_hasReference_0 : List UInt8 := [42, 180, 0, 25, 187, 0, 129, 89, 27, 28, 183, 0, 131, 182, 0, 133, 172]
abbrev dktX2_hasReference_0 : List UInt8 := dkwX2_hasReference_0 ++ []
theorem dksX2_hasReference_0 : cX2_hasReference.data.toList.drop 0 = dktX2_hasReference_0 := by decide +kernel
theorem dX2_hasReference_0 : decode cX2_hasReference 0 = .ok (.aload_n 0, 1) := dk_42 (dk_at dksX2_hasReference_0 0 rfl rfl)
theorem dX2_hasReference_1 : decode cX2_hasReference 1 = .ok (.getfield 25, 3) := dk_180 0 25 (dk_at dksX2_hasReference_0 1 rfl rfl)
theorem dX2_hasReference_4 : decode cX2_hasReference 4 = .ok (.new 129, 3) := dk_187 0 129 (dk_at dksX2_hasReference_0 4 rfl rfl)
theorem dX2_hasReference_7 : decode cX2_hasReference 7 = .ok (.dup, 1) := dk_89 (dk_at dksX2_hasReference_0 7 rfl rfl)
theorem dX2_hasReference_8 : decode cX2_hasReference 8 = .ok (.iload_n 1, 1) := dk_27 (dk_at dksX2_hasReference_0 8 rfl rfl)
theorem dX2_hasReference_9 : decode cX2_hasReference 9 = .ok (.iload_n 2, 1) := dk_28 (dk_at dksX2_hasReference_0 9 rfl rfl)
theorem dX2_hasReference_10 : decode cX2_hasReference 10 = .ok (.invokespecial 131, 3) := dk_183 0 131 (dk_at dksX2_hasReference_0 10 rfl rfl)
theorem dX2_hasReference_13 : decode cX2_hasReference 13 = .ok (.invokevirtual 133, 3) := dk_182 0 133 (dk_at dksX2_hasReference_0 13 rfl rfl)
theorem dX2_hasReference_16 : decode cX2_hasReference 16 = .ok (.ireturn, 1) := dk_172 (dk_at dksX2_hasReference_0 16 rfl rfl)
abbrev cX2_setReference : ByteArray := prog_3_method_10_code
def yX2_setReference : MethodName := ⟨RX2, "setReference", "(IIZ)V"⟩
def dkwX2_setReference_2 : List UInt8 := [192, 0, 137, 58, 4, 177]
abbrev dktX2_setReference_2 : List UInt8 := dkwX2_setReference_2 ++ []
def dkwX2_setReference_1 : List UInt8 := [192, 0, 137, 167, 0, 22, 42, 180, 0, 25, 187, 0, 129, 89, 27, 28, 183, 0, 131, 182, 0, 141]
abbrev dktX2_setReference_1 : List UInt8 := dkwX2_setReference_1 ++ dktX2_setReference_2
def dkwX2_setReference_0 : List UInt8 := [29, 153, 0, 29, 42, 180, 0, 25, 187, 0, 129, 89, 27, 28, 183, 0, 131, 4, 184, 0, 136, 182, 0, 108]
abbrev dktX2_setReference_0 : List UInt8 := dkwX2_setReference_0 ++ dktX2_setReference_1
theorem dksX2_setReference_0 : cX2_setReference.data.toList.drop 0 = dktX2_setReference_0 := by decide +kernel
theorem dksX2_setReference_1 : cX2_setReference.data.toList.drop 24 = dktX2_setReference_1 := dk_seg dksX2_setReference_0 24 rfl rfl
theorem dksX2_setReference_2 : cX2_setReference.data.toList.drop 46 = dktX2_setReference_2 := dk_seg dksX2_setReference_1 22 rfl rfl
theorem dX2_setReference_0 : decode cX2_setReference 0 = .ok (.iload_n 3, 1) := dk_29 (dk_at dksX2_setReference_0 0 rfl rfl)
theorem dX2_setReference_1 : decode cX2_setReference 1 = .ok (.ifCond .eq 29, 3) := dk_153 0 29 (dk_at dksX2_setReference_0 1 rfl rfl)
theorem dX2_setReference_4 : decode cX2_setReference 4 = .ok (.aload_n 0, 1) := dk_42 (dk_at dksX2_setReference_0 4 rfl rfl)
theorem dX2_setReference_5 : decode cX2_setReference 5 = .ok (.getfield 25, 3) := dk_180 0 25 (dk_at dksX2_setReference_0 5 rfl rfl)
theorem dX2_setReference_8 : decode cX2_setReference 8 = .ok (.new 129, 3) := dk_187 0 129 (dk_at dksX2_setReference_0 8 rfl rfl)
theorem dX2_setReference_11 : decode cX2_setReference 11 = .ok (.dup, 1) := dk_89 (dk_at dksX2_setReference_0 11 rfl rfl)
theorem dX2_setReference_12 : decode cX2_setReference 12 = .ok (.iload_n 1, 1) := dk_27 (dk_at dksX2_setReference_0 12 rfl rfl)
theorem dX2_setReference_13 : decode cX2_setReference 13 = .ok (.iload_n 2, 1) := dk_28 (dk_at dksX2_setReference_0 13 rfl rfl)
theorem dX2_setReference_14 : decode cX2_setReference 14 = .ok (.invokespecial 131, 3) := dk_183 0 131 (dk_at dksX2_setReference_0 14 rfl rfl)
theorem dX2_setReference_17 : decode cX2_setReference 17 = .ok (.iconst 1, 1) := dk_4 (dk_at dksX2_setReference_0 17 rfl rfl)
theorem dX2_setReference_18 : decode cX2_setReference 18 = .ok (.invokestatic 136, 3) := dk_184 0 136 (dk_at dksX2_setReference_0 18 rfl rfl)
theorem dX2_setReference_21 : decode cX2_setReference 21 = .ok (.invokevirtual 108, 3) := dk_182 0 108 (dk_at dksX2_setReference_0 21 rfl rfl)
theorem dX2_setReference_24 : decode cX2_setReference 24 = .ok (.checkcast 137, 3) := dk_192 0 137 (dk_at dksX2_setReference_1 0 rfl rfl)
theorem dX2_setReference_27 : decode cX2_setReference 27 = .ok (.goto 22, 3) := dk_167 0 22 (dk_at dksX2_setReference_1 3 rfl rfl)
theorem dX2_setReference_30 : decode cX2_setReference 30 = .ok (.aload_n 0, 1) := dk_42 (dk_at dksX2_setReference_1 6 rfl rfl)
theorem dX2_setReference_31 : decode cX2_setReference 31 = .ok (.getfield 25, 3) := dk_180 0 25 (dk_at dksX2_setReference_1 7 rfl rfl)
theorem dX2_setReference_34 : decode cX2_setReference 34 = .ok (.new 129, 3) := dk_187 0 129 (dk_at dksX2_setReference_1 10 rfl rfl)
theorem dX2_setReference_37 : decode cX2_setReference 37 = .ok (.dup, 1) := dk_89 (dk_at dksX2_setReference_1 13 rfl rfl)
theorem dX2_setReference_38 : decode cX2_setReference 38 = .ok (.iload_n 1, 1) := dk_27 (dk_at dksX2_setReference_1 14 rfl rfl)
theorem dX2_setReference_39 : decode cX2_setReference 39 = .ok (.iload_n 2, 1) := dk_28 (dk_at dksX2_setReference_1 15 rfl rfl)
theorem dX2_setReference_40 : decode cX2_setReference 40 = .ok (.invokespecial 131, 3) := dk_183 0 131 (dk_at dksX2_setReference_1 16 rfl rfl)
theorem dX2_setReference_43 : decode cX2_setReference 43 = .ok (.invokevirtual 141, 3) := dk_182 0 141 (dk_at dksX2_setReference_1 19 rfl rfl)
theorem dX2_setReference_46 : decode cX2_setReference 46 = .ok (.checkcast 137, 3) := dk_192 0 137 (dk_at dksX2_setReference_2 0 rfl rfl)
theorem dX2_setReference_49 : decode cX2_setReference 49 = .ok (.astore 4, 2) := dk_58 4 (dk_at dksX2_setReference_2 3 rfl rfl)
theorem dX2_setReference_51 : decode cX2_setReference 51 = .ok (.return_, 1) := dk_177 (dk_at dksX2_setReference_2 5 rfl rfl)
abbrev cX2_addApplicant : ByteArray := prog_3_method_19_code
def yX2_addApplicant : MethodName := ⟨RX2, "addApplicant", "(CII)I"⟩
def dkwX2_addApplicant_4 : List UInt8 := [180, 0, 91, 172]
abbrev dktX2_addApplicant_4 : List UInt8 := dkwX2_addApplicant_4 ++ []
def dkwX2_addApplicant_3 : List UInt8 := [29, 3, 183, 0, 187, 182, 0, 68, 58, 4, 42, 89, 180, 0, 32, 4, 96, 181, 0, 32, 25, 4]
abbrev dktX2_addApplicant_3 : List UInt8 := dkwX2_addApplicant_3 ++ dktX2_addApplicant_4
def dkwX2_addApplicant_2 : List UInt8 := [16, 10, 162, 0, 7, 4, 167, 0, 4, 3, 184, 0, 151, 42, 187, 0, 63, 89, 42, 180, 0, 32, 27, 28]
abbrev dktX2_addApplicant_2 : List UInt8 := dkwX2_addApplicant_2 ++ dktX2_addApplicant_3
def dkwX2_addApplicant_1 : List UInt8 := [20, 0, 185, 184, 0, 181, 153, 0, 7, 4, 167, 0, 4, 3, 184, 0, 148, 42, 180, 0, 21, 182, 0, 118]
abbrev dktX2_addApplicant_1 : List UInt8 := dkwX2_addApplicant_1 ++ dktX2_addApplicant_2
def dkwX2_addApplicant_0 : List UInt8 := [27, 184, 0, 175, 153, 0, 31, 28, 133, 9, 20, 0, 179, 184, 0, 181, 153, 0, 19, 29, 133, 9]
abbrev dktX2_addApplicant_0 : List UInt8 := dkwX2_addApplicant_0 ++ dktX2_addApplicant_1
theorem dksX2_addApplicant_0 : cX2_addApplicant.data.toList.drop 0 = dktX2_addApplicant_0 := by decide +kernel
theorem dksX2_addApplicant_1 : cX2_addApplicant.data.toList.drop 22 = dktX2_addApplicant_1 := dk_seg dksX2_addApplicant_0 22 rfl rfl
theorem dksX2_addApplicant_2 : cX2_addApplicant.data.toList.drop 46 = dktX2_addApplicant_2 := dk_seg dksX2_addApplicant_1 24 rfl rfl
theorem dksX2_addApplicant_3 : cX2_addApplicant.data.toList.drop 70 = dktX2_addApplicant_3 := dk_seg dksX2_addApplicant_2 24 rfl rfl
theorem dksX2_addApplicant_4 : cX2_addApplicant.data.toList.drop 92 = dktX2_addApplicant_4 := dk_seg dksX2_addApplicant_3 22 rfl rfl
theorem dX2_addApplicant_0 : decode cX2_addApplicant 0 = .ok (.iload_n 1, 1) := dk_27 (dk_at dksX2_addApplicant_0 0 rfl rfl)
theorem dX2_addApplicant_1 : decode cX2_addApplicant 1 = .ok (.invokestatic 175, 3) := dk_184 0 175 (dk_at dksX2_addApplicant_0 1 rfl rfl)
theorem dX2_addApplicant_4 : decode cX2_addApplicant 4 = .ok (.ifCond .eq 31, 3) := dk_153 0 31 (dk_at dksX2_addApplicant_0 4 rfl rfl)
theorem dX2_addApplicant_7 : decode cX2_addApplicant 7 = .ok (.iload_n 2, 1) := dk_28 (dk_at dksX2_addApplicant_0 7 rfl rfl)
theorem dX2_addApplicant_8 : decode cX2_addApplicant 8 = .ok (.i2l, 1) := dk_133 (dk_at dksX2_addApplicant_0 8 rfl rfl)
theorem dX2_addApplicant_9 : decode cX2_addApplicant 9 = .ok (.lconst 0, 1) := dk_9 (dk_at dksX2_addApplicant_0 9 rfl rfl)
theorem dX2_addApplicant_10 : decode cX2_addApplicant 10 = .ok (.ldc2_w 179, 3) := dk_20 0 179 (dk_at dksX2_addApplicant_0 10 rfl rfl)
theorem dX2_addApplicant_13 : decode cX2_addApplicant 13 = .ok (.invokestatic 181, 3) := dk_184 0 181 (dk_at dksX2_addApplicant_0 13 rfl rfl)
theorem dX2_addApplicant_16 : decode cX2_addApplicant 16 = .ok (.ifCond .eq 19, 3) := dk_153 0 19 (dk_at dksX2_addApplicant_0 16 rfl rfl)
theorem dX2_addApplicant_19 : decode cX2_addApplicant 19 = .ok (.iload_n 3, 1) := dk_29 (dk_at dksX2_addApplicant_0 19 rfl rfl)
theorem dX2_addApplicant_20 : decode cX2_addApplicant 20 = .ok (.i2l, 1) := dk_133 (dk_at dksX2_addApplicant_0 20 rfl rfl)
theorem dX2_addApplicant_21 : decode cX2_addApplicant 21 = .ok (.lconst 0, 1) := dk_9 (dk_at dksX2_addApplicant_0 21 rfl rfl)
theorem dX2_addApplicant_22 : decode cX2_addApplicant 22 = .ok (.ldc2_w 185, 3) := dk_20 0 185 (dk_at dksX2_addApplicant_1 0 rfl rfl)
theorem dX2_addApplicant_25 : decode cX2_addApplicant 25 = .ok (.invokestatic 181, 3) := dk_184 0 181 (dk_at dksX2_addApplicant_1 3 rfl rfl)
theorem dX2_addApplicant_28 : decode cX2_addApplicant 28 = .ok (.ifCond .eq 7, 3) := dk_153 0 7 (dk_at dksX2_addApplicant_1 6 rfl rfl)
theorem dX2_addApplicant_31 : decode cX2_addApplicant 31 = .ok (.iconst 1, 1) := dk_4 (dk_at dksX2_addApplicant_1 9 rfl rfl)
theorem dX2_addApplicant_32 : decode cX2_addApplicant 32 = .ok (.goto 4, 3) := dk_167 0 4 (dk_at dksX2_addApplicant_1 10 rfl rfl)
theorem dX2_addApplicant_35 : decode cX2_addApplicant 35 = .ok (.iconst 0, 1) := dk_3 (dk_at dksX2_addApplicant_1 13 rfl rfl)
theorem dX2_addApplicant_36 : decode cX2_addApplicant 36 = .ok (.invokestatic 148, 3) := dk_184 0 148 (dk_at dksX2_addApplicant_1 14 rfl rfl)
theorem dX2_addApplicant_39 : decode cX2_addApplicant 39 = .ok (.aload_n 0, 1) := dk_42 (dk_at dksX2_addApplicant_1 17 rfl rfl)
theorem dX2_addApplicant_40 : decode cX2_addApplicant 40 = .ok (.getfield 21, 3) := dk_180 0 21 (dk_at dksX2_addApplicant_1 18 rfl rfl)
theorem dX2_addApplicant_43 : decode cX2_addApplicant 43 = .ok (.invokevirtual 118, 3) := dk_182 0 118 (dk_at dksX2_addApplicant_1 21 rfl rfl)
theorem dX2_addApplicant_46 : decode cX2_addApplicant 46 = .ok (.bipush 10, 2) := dk_16 10 (dk_at dksX2_addApplicant_2 0 rfl rfl)
theorem dX2_addApplicant_48 : decode cX2_addApplicant 48 = .ok (.if_icmp .ge 7, 3) := dk_162 0 7 (dk_at dksX2_addApplicant_2 2 rfl rfl)
theorem dX2_addApplicant_51 : decode cX2_addApplicant 51 = .ok (.iconst 1, 1) := dk_4 (dk_at dksX2_addApplicant_2 5 rfl rfl)
theorem dX2_addApplicant_52 : decode cX2_addApplicant 52 = .ok (.goto 4, 3) := dk_167 0 4 (dk_at dksX2_addApplicant_2 6 rfl rfl)
theorem dX2_addApplicant_55 : decode cX2_addApplicant 55 = .ok (.iconst 0, 1) := dk_3 (dk_at dksX2_addApplicant_2 9 rfl rfl)
theorem dX2_addApplicant_56 : decode cX2_addApplicant 56 = .ok (.invokestatic 151, 3) := dk_184 0 151 (dk_at dksX2_addApplicant_2 10 rfl rfl)
theorem dX2_addApplicant_59 : decode cX2_addApplicant 59 = .ok (.aload_n 0, 1) := dk_42 (dk_at dksX2_addApplicant_2 13 rfl rfl)
theorem dX2_addApplicant_60 : decode cX2_addApplicant 60 = .ok (.new 63, 3) := dk_187 0 63 (dk_at dksX2_addApplicant_2 14 rfl rfl)
theorem dX2_addApplicant_63 : decode cX2_addApplicant 63 = .ok (.dup, 1) := dk_89 (dk_at dksX2_addApplicant_2 17 rfl rfl)
theorem dX2_addApplicant_64 : decode cX2_addApplicant 64 = .ok (.aload_n 0, 1) := dk_42 (dk_at dksX2_addApplicant_2 18 rfl rfl)
theorem dX2_addApplicant_65 : decode cX2_addApplicant 65 = .ok (.getfield 32, 3) := dk_180 0 32 (dk_at dksX2_addApplicant_2 19 rfl rfl)
theorem dX2_addApplicant_68 : decode cX2_addApplicant 68 = .ok (.iload_n 1, 1) := dk_27 (dk_at dksX2_addApplicant_2 22 rfl rfl)
theorem dX2_addApplicant_69 : decode cX2_addApplicant 69 = .ok (.iload_n 2, 1) := dk_28 (dk_at dksX2_addApplicant_2 23 rfl rfl)
theorem dX2_addApplicant_70 : decode cX2_addApplicant 70 = .ok (.iload_n 3, 1) := dk_29 (dk_at dksX2_addApplicant_3 0 rfl rfl)
theorem dX2_addApplicant_71 : decode cX2_addApplicant 71 = .ok (.iconst 0, 1) := dk_3 (dk_at dksX2_addApplicant_3 1 rfl rfl)
theorem dX2_addApplicant_72 : decode cX2_addApplicant 72 = .ok (.invokespecial 187, 3) := dk_183 0 187 (dk_at dksX2_addApplicant_3 2 rfl rfl)
theorem dX2_addApplicant_75 : decode cX2_addApplicant 75 = .ok (.invokevirtual 68, 3) := dk_182 0 68 (dk_at dksX2_addApplicant_3 5 rfl rfl)
theorem dX2_addApplicant_78 : decode cX2_addApplicant 78 = .ok (.astore 4, 2) := dk_58 4 (dk_at dksX2_addApplicant_3 8 rfl rfl)
theorem dX2_addApplicant_80 : decode cX2_addApplicant 80 = .ok (.aload_n 0, 1) := dk_42 (dk_at dksX2_addApplicant_3 10 rfl rfl)
theorem dX2_addApplicant_81 : decode cX2_addApplicant 81 = .ok (.dup, 1) := dk_89 (dk_at dksX2_addApplicant_3 11 rfl rfl)
theorem dX2_addApplicant_82 : decode cX2_addApplicant 82 = .ok (.getfield 32, 3) := dk_180 0 32 (dk_at dksX2_addApplicant_3 12 rfl rfl)
theorem dX2_addApplicant_85 : decode cX2_addApplicant 85 = .ok (.iconst 1, 1) := dk_4 (dk_at dksX2_addApplicant_3 15 rfl rfl)
theorem dX2_addApplicant_86 : decode cX2_addApplicant 86 = .ok (.iadd, 1) := dk_96 (dk_at dksX2_addApplicant_3 16 rfl rfl)
theorem dX2_addApplicant_87 : decode cX2_addApplicant 87 = .ok (.putfield 32, 3) := dk_181 0 32 (dk_at dksX2_addApplicant_3 17 rfl rfl)
theorem dX2_addApplicant_90 : decode cX2_addApplicant 90 = .ok (.aload 4, 2) := dk_25 4 (dk_at dksX2_addApplicant_3 20 rfl rfl)
theorem dX2_addApplicant_92 : decode cX2_addApplicant 92 = .ok (.getfield 91, 3) := dk_180 0 91 (dk_at dksX2_addApplicant_4 0 rfl rfl)
theorem dX2_addApplicant_95 : decode cX2_addApplicant 95 = .ok (.ireturn, 1) := dk_172 (dk_at dksX2_addApplicant_4 3 rfl rfl)
abbrev cX2_remove : ByteArray := prog_3_method_20_code
def yX2_remove : MethodName := ⟨RX2, "remove", "(I)I"⟩
def dkwX2_remove_4 : List UInt8 := [182, 0, 141, 192, 0, 63, 58, 4, 44, 180, 0, 195, 172]
abbrev dktX2_remove_4 : List UInt8 := dkwX2_remove_4 ++ []
def dkwX2_remove_3 : List UInt8 := [182, 0, 98, 167, 255, 214, 42, 180, 0, 21, 44, 182, 0, 193, 62, 42, 180, 0, 12, 27, 184, 0, 102]
abbrev dktX2_remove_3 : List UInt8 := dkwX2_remove_3 ++ dktX2_remove_4
def dkwX2_remove_2 : List UInt8 := [192, 0, 63, 58, 4, 42, 27, 25, 4, 180, 0, 91, 3, 182, 0, 98, 42, 25, 4, 180, 0, 91, 27, 3]
abbrev dktX2_remove_2 : List UInt8 := dkwX2_remove_2 ++ dktX2_remove_3
def dkwX2_remove_1 : List UInt8 := [180, 0, 21, 182, 0, 39, 78, 45, 185, 0, 43, 1, 0, 153, 0, 39, 45, 185, 0, 49, 1, 0]
abbrev dktX2_remove_1 : List UInt8 := dkwX2_remove_1 ++ dktX2_remove_2
def dkwX2_remove_0 : List UInt8 := [42, 27, 182, 0, 144, 77, 44, 182, 0, 72, 153, 0, 11, 44, 180, 0, 75, 182, 0, 190, 78, 42]
abbrev dktX2_remove_0 : List UInt8 := dkwX2_remove_0 ++ dktX2_remove_1
theorem dksX2_remove_0 : cX2_remove.data.toList.drop 0 = dktX2_remove_0 := by decide +kernel
theorem dksX2_remove_1 : cX2_remove.data.toList.drop 22 = dktX2_remove_1 := dk_seg dksX2_remove_0 22 rfl rfl
theorem dksX2_remove_2 : cX2_remove.data.toList.drop 44 = dktX2_remove_2 := dk_seg dksX2_remove_1 22 rfl rfl
theorem dksX2_remove_3 : cX2_remove.data.toList.drop 68 = dktX2_remove_3 := dk_seg dksX2_remove_2 24 rfl rfl
theorem dksX2_remove_4 : cX2_remove.data.toList.drop 91 = dktX2_remove_4 := dk_seg dksX2_remove_3 23 rfl rfl
theorem dX2_remove_0 : decode cX2_remove 0 = .ok (.aload_n 0, 1) := dk_42 (dk_at dksX2_remove_0 0 rfl rfl)
theorem dX2_remove_1 : decode cX2_remove 1 = .ok (.iload_n 1, 1) := dk_27 (dk_at dksX2_remove_0 1 rfl rfl)
theorem dX2_remove_2 : decode cX2_remove 2 = .ok (.invokevirtual 144, 3) := dk_182 0 144 (dk_at dksX2_remove_0 2 rfl rfl)
theorem dX2_remove_5 : decode cX2_remove 5 = .ok (.astore_n 2, 1) := dk_77 (dk_at dksX2_remove_0 5 rfl rfl)
theorem dX2_remove_6 : decode cX2_remove 6 = .ok (.aload_n 2, 1) := dk_44 (dk_at dksX2_remove_0 6 rfl rfl)
theorem dX2_remove_7 : decode cX2_remove 7 = .ok (.invokevirtual 72, 3) := dk_182 0 72 (dk_at dksX2_remove_0 7 rfl rfl)
theorem dX2_remove_10 : decode cX2_remove 10 = .ok (.ifCond .eq 11, 3) := dk_153 0 11 (dk_at dksX2_remove_0 10 rfl rfl)
theorem dX2_remove_13 : decode cX2_remove 13 = .ok (.aload_n 2, 1) := dk_44 (dk_at dksX2_remove_0 13 rfl rfl)
theorem dX2_remove_14 : decode cX2_remove 14 = .ok (.getfield 75, 3) := dk_180 0 75 (dk_at dksX2_remove_0 14 rfl rfl)
theorem dX2_remove_17 : decode cX2_remove 17 = .ok (.invokevirtual 190, 3) := dk_182 0 190 (dk_at dksX2_remove_0 17 rfl rfl)
theorem dX2_remove_20 : decode cX2_remove 20 = .ok (.astore_n 3, 1) := dk_78 (dk_at dksX2_remove_0 20 rfl rfl)
theorem dX2_remove_21 : decode cX2_remove 21 = .ok (.aload_n 0, 1) := dk_42 (dk_at dksX2_remove_0 21 rfl rfl)
theorem dX2_remove_22 : decode cX2_remove 22 = .ok (.getfield 21, 3) := dk_180 0 21 (dk_at dksX2_remove_1 0 rfl rfl)
theorem dX2_remove_25 : decode cX2_remove 25 = .ok (.invokevirtual 39, 3) := dk_182 0 39 (dk_at dksX2_remove_1 3 rfl rfl)
theorem dX2_remove_28 : decode cX2_remove 28 = .ok (.astore_n 3, 1) := dk_78 (dk_at dksX2_remove_1 6 rfl rfl)
theorem dX2_remove_29 : decode cX2_remove 29 = .ok (.aload_n 3, 1) := dk_45 (dk_at dksX2_remove_1 7 rfl rfl)
theorem dX2_remove_30 : decode cX2_remove 30 = .ok (.invokeinterface 43 1, 5) := by decide +kernel
theorem dX2_remove_35 : decode cX2_remove 35 = .ok (.ifCond .eq 39, 3) := dk_153 0 39 (dk_at dksX2_remove_1 13 rfl rfl)
theorem dX2_remove_38 : decode cX2_remove 38 = .ok (.aload_n 3, 1) := dk_45 (dk_at dksX2_remove_1 16 rfl rfl)
theorem dX2_remove_39 : decode cX2_remove 39 = .ok (.invokeinterface 49 1, 5) := by decide +kernel
theorem dX2_remove_44 : decode cX2_remove 44 = .ok (.checkcast 63, 3) := dk_192 0 63 (dk_at dksX2_remove_2 0 rfl rfl)
theorem dX2_remove_47 : decode cX2_remove 47 = .ok (.astore 4, 2) := dk_58 4 (dk_at dksX2_remove_2 3 rfl rfl)
theorem dX2_remove_49 : decode cX2_remove 49 = .ok (.aload_n 0, 1) := dk_42 (dk_at dksX2_remove_2 5 rfl rfl)
theorem dX2_remove_50 : decode cX2_remove 50 = .ok (.iload_n 1, 1) := dk_27 (dk_at dksX2_remove_2 6 rfl rfl)
theorem dX2_remove_51 : decode cX2_remove 51 = .ok (.aload 4, 2) := dk_25 4 (dk_at dksX2_remove_2 7 rfl rfl)
theorem dX2_remove_53 : decode cX2_remove 53 = .ok (.getfield 91, 3) := dk_180 0 91 (dk_at dksX2_remove_2 9 rfl rfl)
theorem dX2_remove_56 : decode cX2_remove 56 = .ok (.iconst 0, 1) := dk_3 (dk_at dksX2_remove_2 12 rfl rfl)
theorem dX2_remove_57 : decode cX2_remove 57 = .ok (.invokevirtual 98, 3) := dk_182 0 98 (dk_at dksX2_remove_2 13 rfl rfl)
theorem dX2_remove_60 : decode cX2_remove 60 = .ok (.aload_n 0, 1) := dk_42 (dk_at dksX2_remove_2 16 rfl rfl)
theorem dX2_remove_61 : decode cX2_remove 61 = .ok (.aload 4, 2) := dk_25 4 (dk_at dksX2_remove_2 17 rfl rfl)
theorem dX2_remove_63 : decode cX2_remove 63 = .ok (.getfield 91, 3) := dk_180 0 91 (dk_at dksX2_remove_2 19 rfl rfl)
theorem dX2_remove_66 : decode cX2_remove 66 = .ok (.iload_n 1, 1) := dk_27 (dk_at dksX2_remove_2 22 rfl rfl)
theorem dX2_remove_67 : decode cX2_remove 67 = .ok (.iconst 0, 1) := dk_3 (dk_at dksX2_remove_2 23 rfl rfl)
theorem dX2_remove_68 : decode cX2_remove 68 = .ok (.invokevirtual 98, 3) := dk_182 0 98 (dk_at dksX2_remove_3 0 rfl rfl)
theorem dX2_remove_71 : decode cX2_remove 71 = .ok (.goto (-42), 3) := dk_167 255 214 (dk_at dksX2_remove_3 3 rfl rfl)
theorem dX2_remove_74 : decode cX2_remove 74 = .ok (.aload_n 0, 1) := dk_42 (dk_at dksX2_remove_3 6 rfl rfl)
theorem dX2_remove_75 : decode cX2_remove 75 = .ok (.getfield 21, 3) := dk_180 0 21 (dk_at dksX2_remove_3 7 rfl rfl)
theorem dX2_remove_78 : decode cX2_remove 78 = .ok (.aload_n 2, 1) := dk_44 (dk_at dksX2_remove_3 10 rfl rfl)
theorem dX2_remove_79 : decode cX2_remove 79 = .ok (.invokevirtual 193, 3) := dk_182 0 193 (dk_at dksX2_remove_3 11 rfl rfl)
theorem dX2_remove_82 : decode cX2_remove 82 = .ok (.istore_n 3, 1) := dk_62 (dk_at dksX2_remove_3 14 rfl rfl)
theorem dX2_remove_83 : decode cX2_remove 83 = .ok (.aload_n 0, 1) := dk_42 (dk_at dksX2_remove_3 15 rfl rfl)
theorem dX2_remove_84 : decode cX2_remove 84 = .ok (.getfield 12, 3) := dk_180 0 12 (dk_at dksX2_remove_3 16 rfl rfl)
theorem dX2_remove_87 : decode cX2_remove 87 = .ok (.iload_n 1, 1) := dk_27 (dk_at dksX2_remove_3 19 rfl rfl)
theorem dX2_remove_88 : decode cX2_remove 88 = .ok (.invokestatic 102, 3) := dk_184 0 102 (dk_at dksX2_remove_3 20 rfl rfl)
theorem dX2_remove_91 : decode cX2_remove 91 = .ok (.invokevirtual 141, 3) := dk_182 0 141 (dk_at dksX2_remove_4 0 rfl rfl)
theorem dX2_remove_94 : decode cX2_remove 94 = .ok (.checkcast 63, 3) := dk_192 0 63 (dk_at dksX2_remove_4 3 rfl rfl)
theorem dX2_remove_97 : decode cX2_remove 97 = .ok (.astore 4, 2) := dk_58 4 (dk_at dksX2_remove_4 6 rfl rfl)
theorem dX2_remove_99 : decode cX2_remove 99 = .ok (.aload_n 2, 1) := dk_44 (dk_at dksX2_remove_4 8 rfl rfl)
theorem dX2_remove_100 : decode cX2_remove 100 = .ok (.getfield 195, 3) := dk_180 0 195 (dk_at dksX2_remove_4 9 rfl rfl)
theorem dX2_remove_103 : decode cX2_remove 103 = .ok (.ireturn, 1) := dk_172 (dk_at dksX2_remove_4 12 rfl rfl)
abbrev cX2_applicant : ByteArray := prog_3_method_4_code
def yX2_applicant : MethodName := ⟨RX2, "applicant", "(I)LCloudInterviews$Applicant;"⟩
def dkwX2_applicant_1 : List UInt8 := [184, 0, 114, 44, 176]
abbrev dktX2_applicant_1 : List UInt8 := dkwX2_applicant_1 ++ []
def dkwX2_applicant_0 : List UInt8 := [42, 180, 0, 12, 27, 184, 0, 102, 182, 0, 111, 192, 0, 63, 77, 44, 198, 0, 7, 4, 167, 0, 4, 3]
abbrev dktX2_applicant_0 : List UInt8 := dkwX2_applicant_0 ++ dktX2_applicant_1
theorem dksX2_applicant_0 : cX2_applicant.data.toList.drop 0 = dktX2_applicant_0 := by decide +kernel
theorem dksX2_applicant_1 : cX2_applicant.data.toList.drop 24 = dktX2_applicant_1 := dk_seg dksX2_applicant_0 24 rfl rfl
theorem dX2_applicant_0 : decode cX2_applicant 0 = .ok (.aload_n 0, 1) := dk_42 (dk_at dksX2_applicant_0 0 rfl rfl)
theorem dX2_applicant_1 : decode cX2_applicant 1 = .ok (.getfield 12, 3) := dk_180 0 12 (dk_at dksX2_applicant_0 1 rfl rfl)
theorem dX2_applicant_4 : decode cX2_applicant 4 = .ok (.iload_n 1, 1) := dk_27 (dk_at dksX2_applicant_0 4 rfl rfl)
theorem dX2_applicant_5 : decode cX2_applicant 5 = .ok (.invokestatic 102, 3) := dk_184 0 102 (dk_at dksX2_applicant_0 5 rfl rfl)
theorem dX2_applicant_8 : decode cX2_applicant 8 = .ok (.invokevirtual 111, 3) := dk_182 0 111 (dk_at dksX2_applicant_0 8 rfl rfl)
theorem dX2_applicant_11 : decode cX2_applicant 11 = .ok (.checkcast 63, 3) := dk_192 0 63 (dk_at dksX2_applicant_0 11 rfl rfl)
theorem dX2_applicant_14 : decode cX2_applicant 14 = .ok (.astore_n 2, 1) := dk_77 (dk_at dksX2_applicant_0 14 rfl rfl)
theorem dX2_applicant_15 : decode cX2_applicant 15 = .ok (.aload_n 2, 1) := dk_44 (dk_at dksX2_applicant_0 15 rfl rfl)
theorem dX2_applicant_16 : decode cX2_applicant 16 = .ok (.ifnull 7, 3) := dk_198 0 7 (dk_at dksX2_applicant_0 16 rfl rfl)
theorem dX2_applicant_19 : decode cX2_applicant 19 = .ok (.iconst 1, 1) := dk_4 (dk_at dksX2_applicant_0 19 rfl rfl)
theorem dX2_applicant_20 : decode cX2_applicant 20 = .ok (.goto 4, 3) := dk_167 0 4 (dk_at dksX2_applicant_0 20 rfl rfl)
theorem dX2_applicant_23 : decode cX2_applicant 23 = .ok (.iconst 0, 1) := dk_3 (dk_at dksX2_applicant_0 23 rfl rfl)
theorem dX2_applicant_24 : decode cX2_applicant 24 = .ok (.invokestatic 114, 3) := dk_184 0 114 (dk_at dksX2_applicant_1 0 rfl rfl)
theorem dX2_applicant_27 : decode cX2_applicant 27 = .ok (.aload_n 2, 1) := dk_44 (dk_at dksX2_applicant_1 3 rfl rfl)
theorem dX2_applicant_28 : decode cX2_applicant 28 = .ok (.areturn, 1) := dk_176 (dk_at dksX2_applicant_1 4 rfl rfl)
abbrev cX2_open : ByteArray := prog_3_method_22_code
def yX2_open : MethodName := ⟨RX2, "open", "(CIII)I"⟩
def dkwX2_open_4 : List UInt8 := [27, 28, 29, 21, 4, 183, 0, 202, 182, 0, 59, 54, 5, 42, 180, 0, 28, 182, 0, 118, 4, 100, 172]
abbrev dktX2_open_4 : List UInt8 := dkwX2_open_4 ++ []
def dkwX2_open_3 : List UInt8 := [182, 0, 118, 16, 6, 162, 0, 7, 4, 167, 0, 4, 3, 184, 0, 151, 42, 180, 0, 28, 187, 0, 53, 89]
abbrev dktX2_open_3 : List UInt8 := dkwX2_open_3 ++ dktX2_open_4
def dkwX2_open_2 : List UInt8 := [10, 20, 0, 200, 184, 0, 181, 153, 0, 7, 4, 167, 0, 4, 3, 184, 0, 148, 42, 180, 0, 28]
abbrev dktX2_open_2 : List UInt8 := dkwX2_open_2 ++ dktX2_open_3
def dkwX2_open_1 : List UInt8 := [20, 0, 179, 184, 0, 181, 184, 0, 148, 29, 133, 9, 20, 0, 185, 184, 0, 181, 153, 0, 20, 21, 4, 133]
abbrev dktX2_open_1 : List UInt8 := dkwX2_open_1 ++ dktX2_open_2
def dkwX2_open_0 : List UInt8 := [27, 184, 0, 175, 154, 0, 9, 27, 16, 42, 160, 0, 7, 4, 167, 0, 4, 3, 184, 0, 148, 28, 133, 9]
abbrev dktX2_open_0 : List UInt8 := dkwX2_open_0 ++ dktX2_open_1
theorem dksX2_open_0 : cX2_open.data.toList.drop 0 = dktX2_open_0 := by decide +kernel
theorem dksX2_open_1 : cX2_open.data.toList.drop 24 = dktX2_open_1 := dk_seg dksX2_open_0 24 rfl rfl
theorem dksX2_open_2 : cX2_open.data.toList.drop 48 = dktX2_open_2 := dk_seg dksX2_open_1 24 rfl rfl
theorem dksX2_open_3 : cX2_open.data.toList.drop 70 = dktX2_open_3 := dk_seg dksX2_open_2 22 rfl rfl
theorem dksX2_open_4 : cX2_open.data.toList.drop 94 = dktX2_open_4 := dk_seg dksX2_open_3 24 rfl rfl
theorem dX2_open_0 : decode cX2_open 0 = .ok (.iload_n 1, 1) := dk_27 (dk_at dksX2_open_0 0 rfl rfl)
theorem dX2_open_1 : decode cX2_open 1 = .ok (.invokestatic 175, 3) := dk_184 0 175 (dk_at dksX2_open_0 1 rfl rfl)
theorem dX2_open_4 : decode cX2_open 4 = .ok (.ifCond .ne 9, 3) := dk_154 0 9 (dk_at dksX2_open_0 4 rfl rfl)
theorem dX2_open_7 : decode cX2_open 7 = .ok (.iload_n 1, 1) := dk_27 (dk_at dksX2_open_0 7 rfl rfl)
theorem dX2_open_8 : decode cX2_open 8 = .ok (.bipush 42, 2) := dk_16 42 (dk_at dksX2_open_0 8 rfl rfl)
theorem dX2_open_10 : decode cX2_open 10 = .ok (.if_icmp .ne 7, 3) := dk_160 0 7 (dk_at dksX2_open_0 10 rfl rfl)
theorem dX2_open_13 : decode cX2_open 13 = .ok (.iconst 1, 1) := dk_4 (dk_at dksX2_open_0 13 rfl rfl)
theorem dX2_open_14 : decode cX2_open 14 = .ok (.goto 4, 3) := dk_167 0 4 (dk_at dksX2_open_0 14 rfl rfl)
theorem dX2_open_17 : decode cX2_open 17 = .ok (.iconst 0, 1) := dk_3 (dk_at dksX2_open_0 17 rfl rfl)
theorem dX2_open_18 : decode cX2_open 18 = .ok (.invokestatic 148, 3) := dk_184 0 148 (dk_at dksX2_open_0 18 rfl rfl)
theorem dX2_open_21 : decode cX2_open 21 = .ok (.iload_n 2, 1) := dk_28 (dk_at dksX2_open_0 21 rfl rfl)
theorem dX2_open_22 : decode cX2_open 22 = .ok (.i2l, 1) := dk_133 (dk_at dksX2_open_0 22 rfl rfl)
theorem dX2_open_23 : decode cX2_open 23 = .ok (.lconst 0, 1) := dk_9 (dk_at dksX2_open_0 23 rfl rfl)
theorem dX2_open_24 : decode cX2_open 24 = .ok (.ldc2_w 179, 3) := dk_20 0 179 (dk_at dksX2_open_1 0 rfl rfl)
theorem dX2_open_27 : decode cX2_open 27 = .ok (.invokestatic 181, 3) := dk_184 0 181 (dk_at dksX2_open_1 3 rfl rfl)
theorem dX2_open_30 : decode cX2_open 30 = .ok (.invokestatic 148, 3) := dk_184 0 148 (dk_at dksX2_open_1 6 rfl rfl)
theorem dX2_open_33 : decode cX2_open 33 = .ok (.iload_n 3, 1) := dk_29 (dk_at dksX2_open_1 9 rfl rfl)
theorem dX2_open_34 : decode cX2_open 34 = .ok (.i2l, 1) := dk_133 (dk_at dksX2_open_1 10 rfl rfl)
theorem dX2_open_35 : decode cX2_open 35 = .ok (.lconst 0, 1) := dk_9 (dk_at dksX2_open_1 11 rfl rfl)
theorem dX2_open_36 : decode cX2_open 36 = .ok (.ldc2_w 185, 3) := dk_20 0 185 (dk_at dksX2_open_1 12 rfl rfl)
theorem dX2_open_39 : decode cX2_open 39 = .ok (.invokestatic 181, 3) := dk_184 0 181 (dk_at dksX2_open_1 15 rfl rfl)
theorem dX2_open_42 : decode cX2_open 42 = .ok (.ifCond .eq 20, 3) := dk_153 0 20 (dk_at dksX2_open_1 18 rfl rfl)
theorem dX2_open_45 : decode cX2_open 45 = .ok (.iload 4, 2) := dk_21 4 (dk_at dksX2_open_1 21 rfl rfl)
theorem dX2_open_47 : decode cX2_open 47 = .ok (.i2l, 1) := dk_133 (dk_at dksX2_open_1 23 rfl rfl)
theorem dX2_open_48 : decode cX2_open 48 = .ok (.lconst 1, 1) := dk_10 (dk_at dksX2_open_2 0 rfl rfl)
theorem dX2_open_49 : decode cX2_open 49 = .ok (.ldc2_w 200, 3) := dk_20 0 200 (dk_at dksX2_open_2 1 rfl rfl)
theorem dX2_open_52 : decode cX2_open 52 = .ok (.invokestatic 181, 3) := dk_184 0 181 (dk_at dksX2_open_2 4 rfl rfl)
theorem dX2_open_55 : decode cX2_open 55 = .ok (.ifCond .eq 7, 3) := dk_153 0 7 (dk_at dksX2_open_2 7 rfl rfl)
theorem dX2_open_58 : decode cX2_open 58 = .ok (.iconst 1, 1) := dk_4 (dk_at dksX2_open_2 10 rfl rfl)
theorem dX2_open_59 : decode cX2_open 59 = .ok (.goto 4, 3) := dk_167 0 4 (dk_at dksX2_open_2 11 rfl rfl)
theorem dX2_open_62 : decode cX2_open 62 = .ok (.iconst 0, 1) := dk_3 (dk_at dksX2_open_2 14 rfl rfl)
theorem dX2_open_63 : decode cX2_open 63 = .ok (.invokestatic 148, 3) := dk_184 0 148 (dk_at dksX2_open_2 15 rfl rfl)
theorem dX2_open_66 : decode cX2_open 66 = .ok (.aload_n 0, 1) := dk_42 (dk_at dksX2_open_2 18 rfl rfl)
theorem dX2_open_67 : decode cX2_open 67 = .ok (.getfield 28, 3) := dk_180 0 28 (dk_at dksX2_open_2 19 rfl rfl)
theorem dX2_open_70 : decode cX2_open 70 = .ok (.invokevirtual 118, 3) := dk_182 0 118 (dk_at dksX2_open_3 0 rfl rfl)
theorem dX2_open_73 : decode cX2_open 73 = .ok (.bipush 6, 2) := dk_16 6 (dk_at dksX2_open_3 3 rfl rfl)
theorem dX2_open_75 : decode cX2_open 75 = .ok (.if_icmp .ge 7, 3) := dk_162 0 7 (dk_at dksX2_open_3 5 rfl rfl)
theorem dX2_open_78 : decode cX2_open 78 = .ok (.iconst 1, 1) := dk_4 (dk_at dksX2_open_3 8 rfl rfl)
theorem dX2_open_79 : decode cX2_open 79 = .ok (.goto 4, 3) := dk_167 0 4 (dk_at dksX2_open_3 9 rfl rfl)
theorem dX2_open_82 : decode cX2_open 82 = .ok (.iconst 0, 1) := dk_3 (dk_at dksX2_open_3 12 rfl rfl)
theorem dX2_open_83 : decode cX2_open 83 = .ok (.invokestatic 151, 3) := dk_184 0 151 (dk_at dksX2_open_3 13 rfl rfl)
theorem dX2_open_86 : decode cX2_open 86 = .ok (.aload_n 0, 1) := dk_42 (dk_at dksX2_open_3 16 rfl rfl)
theorem dX2_open_87 : decode cX2_open 87 = .ok (.getfield 28, 3) := dk_180 0 28 (dk_at dksX2_open_3 17 rfl rfl)
theorem dX2_open_90 : decode cX2_open 90 = .ok (.new 53, 3) := dk_187 0 53 (dk_at dksX2_open_3 20 rfl rfl)
theorem dX2_open_93 : decode cX2_open 93 = .ok (.dup, 1) := dk_89 (dk_at dksX2_open_3 23 rfl rfl)
theorem dX2_open_94 : decode cX2_open 94 = .ok (.iload_n 1, 1) := dk_27 (dk_at dksX2_open_4 0 rfl rfl)
theorem dX2_open_95 : decode cX2_open 95 = .ok (.iload_n 2, 1) := dk_28 (dk_at dksX2_open_4 1 rfl rfl)
theorem dX2_open_96 : decode cX2_open 96 = .ok (.iload_n 3, 1) := dk_29 (dk_at dksX2_open_4 2 rfl rfl)
theorem dX2_open_97 : decode cX2_open 97 = .ok (.iload 4, 2) := dk_21 4 (dk_at dksX2_open_4 3 rfl rfl)
theorem dX2_open_99 : decode cX2_open 99 = .ok (.invokespecial 202, 3) := dk_183 0 202 (dk_at dksX2_open_4 5 rfl rfl)
theorem dX2_open_102 : decode cX2_open 102 = .ok (.invokevirtual 59, 3) := dk_182 0 59 (dk_at dksX2_open_4 8 rfl rfl)
theorem dX2_open_105 : decode cX2_open 105 = .ok (.istore 5, 2) := dk_54 5 (dk_at dksX2_open_4 11 rfl rfl)
theorem dX2_open_107 : decode cX2_open 107 = .ok (.aload_n 0, 1) := dk_42 (dk_at dksX2_open_4 13 rfl rfl)
theorem dX2_open_108 : decode cX2_open 108 = .ok (.getfield 28, 3) := dk_180 0 28 (dk_at dksX2_open_4 14 rfl rfl)
theorem dX2_open_111 : decode cX2_open 111 = .ok (.invokevirtual 118, 3) := dk_182 0 118 (dk_at dksX2_open_4 17 rfl rfl)
theorem dX2_open_114 : decode cX2_open 114 = .ok (.iconst 1, 1) := dk_4 (dk_at dksX2_open_4 20 rfl rfl)
theorem dX2_open_115 : decode cX2_open 115 = .ok (.isub, 1) := dk_100 (dk_at dksX2_open_4 21 rfl rfl)
theorem dX2_open_116 : decode cX2_open 116 = .ok (.ireturn, 1) := dk_172 (dk_at dksX2_open_4 22 rfl rfl)
abbrev cX2_close : ByteArray := prog_3_method_23_code
def yX2_close : MethodName := ⟨RX2, "close", "(I)I"⟩
def dkwX2_close_2 : List UInt8 := [167, 0, 4, 3, 172]
abbrev dktX2_close_2 : List UInt8 := dkwX2_close_2 ++ []
def dkwX2_close_1 : List UInt8 := [182, 0, 190, 58, 4, 42, 180, 0, 28, 27, 182, 0, 208, 192, 0, 53, 58, 4, 29, 153, 0, 7, 4]
abbrev dktX2_close_1 : List UInt8 := dkwX2_close_1 ++ dktX2_close_2
def dkwX2_close_0 : List UInt8 := [42, 27, 182, 0, 205, 77, 44, 182, 0, 126, 154, 0, 7, 4, 167, 0, 4, 3, 62, 29, 153, 0, 9, 44]
abbrev dktX2_close_0 : List UInt8 := dkwX2_close_0 ++ dktX2_close_1
theorem dksX2_close_0 : cX2_close.data.toList.drop 0 = dktX2_close_0 := by decide +kernel
theorem dksX2_close_1 : cX2_close.data.toList.drop 24 = dktX2_close_1 := dk_seg dksX2_close_0 24 rfl rfl
theorem dksX2_close_2 : cX2_close.data.toList.drop 47 = dktX2_close_2 := dk_seg dksX2_close_1 23 rfl rfl
theorem dX2_close_0 : decode cX2_close 0 = .ok (.aload_n 0, 1) := dk_42 (dk_at dksX2_close_0 0 rfl rfl)
theorem dX2_close_1 : decode cX2_close 1 = .ok (.iload_n 1, 1) := dk_27 (dk_at dksX2_close_0 1 rfl rfl)
theorem dX2_close_2 : decode cX2_close 2 = .ok (.invokevirtual 205, 3) := dk_182 0 205 (dk_at dksX2_close_0 2 rfl rfl)
theorem dX2_close_5 : decode cX2_close 5 = .ok (.astore_n 2, 1) := dk_77 (dk_at dksX2_close_0 5 rfl rfl)
theorem dX2_close_6 : decode cX2_close 6 = .ok (.aload_n 2, 1) := dk_44 (dk_at dksX2_close_0 6 rfl rfl)
theorem dX2_close_7 : decode cX2_close 7 = .ok (.invokevirtual 126, 3) := dk_182 0 126 (dk_at dksX2_close_0 7 rfl rfl)
theorem dX2_close_10 : decode cX2_close 10 = .ok (.ifCond .ne 7, 3) := dk_154 0 7 (dk_at dksX2_close_0 10 rfl rfl)
theorem dX2_close_13 : decode cX2_close 13 = .ok (.iconst 1, 1) := dk_4 (dk_at dksX2_close_0 13 rfl rfl)
theorem dX2_close_14 : decode cX2_close 14 = .ok (.goto 4, 3) := dk_167 0 4 (dk_at dksX2_close_0 14 rfl rfl)
theorem dX2_close_17 : decode cX2_close 17 = .ok (.iconst 0, 1) := dk_3 (dk_at dksX2_close_0 17 rfl rfl)
theorem dX2_close_18 : decode cX2_close 18 = .ok (.istore_n 3, 1) := dk_62 (dk_at dksX2_close_0 18 rfl rfl)
theorem dX2_close_19 : decode cX2_close 19 = .ok (.iload_n 3, 1) := dk_29 (dk_at dksX2_close_0 19 rfl rfl)
theorem dX2_close_20 : decode cX2_close 20 = .ok (.ifCond .eq 9, 3) := dk_153 0 9 (dk_at dksX2_close_0 20 rfl rfl)
theorem dX2_close_23 : decode cX2_close 23 = .ok (.aload_n 2, 1) := dk_44 (dk_at dksX2_close_0 23 rfl rfl)
theorem dX2_close_24 : decode cX2_close 24 = .ok (.invokevirtual 190, 3) := dk_182 0 190 (dk_at dksX2_close_1 0 rfl rfl)
theorem dX2_close_27 : decode cX2_close 27 = .ok (.astore 4, 2) := dk_58 4 (dk_at dksX2_close_1 3 rfl rfl)
theorem dX2_close_29 : decode cX2_close 29 = .ok (.aload_n 0, 1) := dk_42 (dk_at dksX2_close_1 5 rfl rfl)
theorem dX2_close_30 : decode cX2_close 30 = .ok (.getfield 28, 3) := dk_180 0 28 (dk_at dksX2_close_1 6 rfl rfl)
theorem dX2_close_33 : decode cX2_close 33 = .ok (.iload_n 1, 1) := dk_27 (dk_at dksX2_close_1 9 rfl rfl)
theorem dX2_close_34 : decode cX2_close 34 = .ok (.invokevirtual 208, 3) := dk_182 0 208 (dk_at dksX2_close_1 10 rfl rfl)
theorem dX2_close_37 : decode cX2_close 37 = .ok (.checkcast 53, 3) := dk_192 0 53 (dk_at dksX2_close_1 13 rfl rfl)
theorem dX2_close_40 : decode cX2_close 40 = .ok (.astore 4, 2) := dk_58 4 (dk_at dksX2_close_1 16 rfl rfl)
theorem dX2_close_42 : decode cX2_close 42 = .ok (.iload_n 3, 1) := dk_29 (dk_at dksX2_close_1 18 rfl rfl)
theorem dX2_close_43 : decode cX2_close 43 = .ok (.ifCond .eq 7, 3) := dk_153 0 7 (dk_at dksX2_close_1 19 rfl rfl)
theorem dX2_close_46 : decode cX2_close 46 = .ok (.iconst 1, 1) := dk_4 (dk_at dksX2_close_1 22 rfl rfl)
theorem dX2_close_47 : decode cX2_close 47 = .ok (.goto 4, 3) := dk_167 0 4 (dk_at dksX2_close_2 0 rfl rfl)
theorem dX2_close_50 : decode cX2_close 50 = .ok (.iconst 0, 1) := dk_3 (dk_at dksX2_close_2 3 rfl rfl)
theorem dX2_close_51 : decode cX2_close 51 = .ok (.ireturn, 1) := dk_172 (dk_at dksX2_close_2 4 rfl rfl)
abbrev cX2_post : ByteArray := prog_3_method_5_code
def yX2_post : MethodName := ⟨RX2, "post", "(I)LCloudInterviews$Post;"⟩
def dkwX2_post_0 : List UInt8 := [27, 42, 180, 0, 28, 182, 0, 118, 184, 0, 122, 42, 180, 0, 28, 27, 182, 0, 83, 192, 0, 53, 176]
abbrev dktX2_post_0 : List UInt8 := dkwX2_post_0 ++ []
theorem dksX2_post_0 : cX2_post.data.toList.drop 0 = dktX2_post_0 := by decide +kernel
theorem dX2_post_0 : decode cX2_post 0 = .ok (.iload_n 1, 1) := dk_27 (dk_at dksX2_post_0 0 rfl rfl)
theorem dX2_post_1 : decode cX2_post 1 = .ok (.aload_n 0, 1) := dk_42 (dk_at dksX2_post_0 1 rfl rfl)
theorem dX2_post_2 : decode cX2_post 2 = .ok (.getfield 28, 3) := dk_180 0 28 (dk_at dksX2_post_0 2 rfl rfl)
theorem dX2_post_5 : decode cX2_post 5 = .ok (.invokevirtual 118, 3) := dk_182 0 118 (dk_at dksX2_post_0 5 rfl rfl)
theorem dX2_post_8 : decode cX2_post 8 = .ok (.invokestatic 122, 3) := dk_184 0 122 (dk_at dksX2_post_0 8 rfl rfl)
theorem dX2_post_11 : decode cX2_post 11 = .ok (.aload_n 0, 1) := dk_42 (dk_at dksX2_post_0 11 rfl rfl)
theorem dX2_post_12 : decode cX2_post 12 = .ok (.getfield 28, 3) := dk_180 0 28 (dk_at dksX2_post_0 12 rfl rfl)
theorem dX2_post_15 : decode cX2_post 15 = .ok (.iload_n 1, 1) := dk_27 (dk_at dksX2_post_0 15 rfl rfl)
theorem dX2_post_16 : decode cX2_post 16 = .ok (.invokevirtual 83, 3) := dk_182 0 83 (dk_at dksX2_post_0 16 rfl rfl)
theorem dX2_post_19 : decode cX2_post 19 = .ok (.checkcast 53, 3) := dk_192 0 53 (dk_at dksX2_post_0 19 rfl rfl)
theorem dX2_post_22 : decode cX2_post 22 = .ok (.areturn, 1) := dk_176 (dk_at dksX2_post_0 22 rfl rfl)
abbrev cX2_hire : ByteArray := prog_3_method_27_code
def yX2_hire : MethodName := ⟨RX2, "hire", "(II)I"⟩
def dkwX2_hire_2 : List UInt8 := [25, 4, 182, 0, 87, 42, 182, 0, 221, 172]
abbrev dktX2_hire_2 : List UInt8 := dkwX2_hire_2 ++ []
def dkwX2_hire_1 : List UInt8 := [182, 0, 72, 154, 0, 7, 4, 167, 0, 4, 3, 184, 0, 151, 45, 25, 4, 182, 0, 210, 184, 0, 218, 45]
abbrev dktX2_hire_1 : List UInt8 := dkwX2_hire_1 ++ dktX2_hire_2
def dkwX2_hire_0 : List UInt8 := [42, 27, 182, 0, 205, 78, 42, 28, 182, 0, 144, 58, 4, 45, 182, 0, 126, 153, 0, 15, 25, 4]
abbrev dktX2_hire_0 : List UInt8 := dkwX2_hire_0 ++ dktX2_hire_1
theorem dksX2_hire_0 : cX2_hire.data.toList.drop 0 = dktX2_hire_0 := by decide +kernel
theorem dksX2_hire_1 : cX2_hire.data.toList.drop 22 = dktX2_hire_1 := dk_seg dksX2_hire_0 22 rfl rfl
theorem dksX2_hire_2 : cX2_hire.data.toList.drop 46 = dktX2_hire_2 := dk_seg dksX2_hire_1 24 rfl rfl
theorem dX2_hire_0 : decode cX2_hire 0 = .ok (.aload_n 0, 1) := dk_42 (dk_at dksX2_hire_0 0 rfl rfl)
theorem dX2_hire_1 : decode cX2_hire 1 = .ok (.iload_n 1, 1) := dk_27 (dk_at dksX2_hire_0 1 rfl rfl)
theorem dX2_hire_2 : decode cX2_hire 2 = .ok (.invokevirtual 205, 3) := dk_182 0 205 (dk_at dksX2_hire_0 2 rfl rfl)
theorem dX2_hire_5 : decode cX2_hire 5 = .ok (.astore_n 3, 1) := dk_78 (dk_at dksX2_hire_0 5 rfl rfl)
theorem dX2_hire_6 : decode cX2_hire 6 = .ok (.aload_n 0, 1) := dk_42 (dk_at dksX2_hire_0 6 rfl rfl)
theorem dX2_hire_7 : decode cX2_hire 7 = .ok (.iload_n 2, 1) := dk_28 (dk_at dksX2_hire_0 7 rfl rfl)
theorem dX2_hire_8 : decode cX2_hire 8 = .ok (.invokevirtual 144, 3) := dk_182 0 144 (dk_at dksX2_hire_0 8 rfl rfl)
theorem dX2_hire_11 : decode cX2_hire 11 = .ok (.astore 4, 2) := dk_58 4 (dk_at dksX2_hire_0 11 rfl rfl)
theorem dX2_hire_13 : decode cX2_hire 13 = .ok (.aload_n 3, 1) := dk_45 (dk_at dksX2_hire_0 13 rfl rfl)
theorem dX2_hire_14 : decode cX2_hire 14 = .ok (.invokevirtual 126, 3) := dk_182 0 126 (dk_at dksX2_hire_0 14 rfl rfl)
theorem dX2_hire_17 : decode cX2_hire 17 = .ok (.ifCond .eq 15, 3) := dk_153 0 15 (dk_at dksX2_hire_0 17 rfl rfl)
theorem dX2_hire_20 : decode cX2_hire 20 = .ok (.aload 4, 2) := dk_25 4 (dk_at dksX2_hire_0 20 rfl rfl)
theorem dX2_hire_22 : decode cX2_hire 22 = .ok (.invokevirtual 72, 3) := dk_182 0 72 (dk_at dksX2_hire_1 0 rfl rfl)
theorem dX2_hire_25 : decode cX2_hire 25 = .ok (.ifCond .ne 7, 3) := dk_154 0 7 (dk_at dksX2_hire_1 3 rfl rfl)
theorem dX2_hire_28 : decode cX2_hire 28 = .ok (.iconst 1, 1) := dk_4 (dk_at dksX2_hire_1 6 rfl rfl)
theorem dX2_hire_29 : decode cX2_hire 29 = .ok (.goto 4, 3) := dk_167 0 4 (dk_at dksX2_hire_1 7 rfl rfl)
theorem dX2_hire_32 : decode cX2_hire 32 = .ok (.iconst 0, 1) := dk_3 (dk_at dksX2_hire_1 10 rfl rfl)
theorem dX2_hire_33 : decode cX2_hire 33 = .ok (.invokestatic 151, 3) := dk_184 0 151 (dk_at dksX2_hire_1 11 rfl rfl)
theorem dX2_hire_36 : decode cX2_hire 36 = .ok (.aload_n 3, 1) := dk_45 (dk_at dksX2_hire_1 14 rfl rfl)
theorem dX2_hire_37 : decode cX2_hire 37 = .ok (.aload 4, 2) := dk_25 4 (dk_at dksX2_hire_1 15 rfl rfl)
theorem dX2_hire_39 : decode cX2_hire 39 = .ok (.invokevirtual 210, 3) := dk_182 0 210 (dk_at dksX2_hire_1 17 rfl rfl)
theorem dX2_hire_42 : decode cX2_hire 42 = .ok (.invokestatic 218, 3) := dk_184 0 218 (dk_at dksX2_hire_1 20 rfl rfl)
theorem dX2_hire_45 : decode cX2_hire 45 = .ok (.aload_n 3, 1) := dk_45 (dk_at dksX2_hire_1 23 rfl rfl)
theorem dX2_hire_46 : decode cX2_hire 46 = .ok (.aload 4, 2) := dk_25 4 (dk_at dksX2_hire_2 0 rfl rfl)
theorem dX2_hire_48 : decode cX2_hire 48 = .ok (.invokevirtual 87, 3) := dk_182 0 87 (dk_at dksX2_hire_2 2 rfl rfl)
theorem dX2_hire_51 : decode cX2_hire 51 = .ok (.aload_n 0, 1) := dk_42 (dk_at dksX2_hire_2 5 rfl rfl)
theorem dX2_hire_52 : decode cX2_hire 52 = .ok (.invokevirtual 221, 3) := dk_182 0 221 (dk_at dksX2_hire_2 6 rfl rfl)
theorem dX2_hire_55 : decode cX2_hire 55 = .ok (.ireturn, 1) := dk_172 (dk_at dksX2_hire_2 9 rfl rfl)
abbrev cX2_dismiss : ByteArray := prog_3_method_29_code
def yX2_dismiss : MethodName := ⟨RX2, "dismiss", "(I)I"⟩
def dkwX2_dismiss_1 : List UInt8 := [182, 0, 190, 180, 0, 91, 172]
abbrev dktX2_dismiss_1 : List UInt8 := dkwX2_dismiss_1 ++ []
def dkwX2_dismiss_0 : List UInt8 := [42, 27, 182, 0, 205, 77, 44, 182, 0, 126, 154, 0, 7, 4, 167, 0, 4, 3, 184, 0, 151, 44]
abbrev dktX2_dismiss_0 : List UInt8 := dkwX2_dismiss_0 ++ dktX2_dismiss_1
theorem dksX2_dismiss_0 : cX2_dismiss.data.toList.drop 0 = dktX2_dismiss_0 := by decide +kernel
theorem dksX2_dismiss_1 : cX2_dismiss.data.toList.drop 22 = dktX2_dismiss_1 := dk_seg dksX2_dismiss_0 22 rfl rfl
theorem dX2_dismiss_0 : decode cX2_dismiss 0 = .ok (.aload_n 0, 1) := dk_42 (dk_at dksX2_dismiss_0 0 rfl rfl)
theorem dX2_dismiss_1 : decode cX2_dismiss 1 = .ok (.iload_n 1, 1) := dk_27 (dk_at dksX2_dismiss_0 1 rfl rfl)
theorem dX2_dismiss_2 : decode cX2_dismiss 2 = .ok (.invokevirtual 205, 3) := dk_182 0 205 (dk_at dksX2_dismiss_0 2 rfl rfl)
theorem dX2_dismiss_5 : decode cX2_dismiss 5 = .ok (.astore_n 2, 1) := dk_77 (dk_at dksX2_dismiss_0 5 rfl rfl)
theorem dX2_dismiss_6 : decode cX2_dismiss 6 = .ok (.aload_n 2, 1) := dk_44 (dk_at dksX2_dismiss_0 6 rfl rfl)
theorem dX2_dismiss_7 : decode cX2_dismiss 7 = .ok (.invokevirtual 126, 3) := dk_182 0 126 (dk_at dksX2_dismiss_0 7 rfl rfl)
theorem dX2_dismiss_10 : decode cX2_dismiss 10 = .ok (.ifCond .ne 7, 3) := dk_154 0 7 (dk_at dksX2_dismiss_0 10 rfl rfl)
theorem dX2_dismiss_13 : decode cX2_dismiss 13 = .ok (.iconst 1, 1) := dk_4 (dk_at dksX2_dismiss_0 13 rfl rfl)
theorem dX2_dismiss_14 : decode cX2_dismiss 14 = .ok (.goto 4, 3) := dk_167 0 4 (dk_at dksX2_dismiss_0 14 rfl rfl)
theorem dX2_dismiss_17 : decode cX2_dismiss 17 = .ok (.iconst 0, 1) := dk_3 (dk_at dksX2_dismiss_0 17 rfl rfl)
theorem dX2_dismiss_18 : decode cX2_dismiss 18 = .ok (.invokestatic 151, 3) := dk_184 0 151 (dk_at dksX2_dismiss_0 18 rfl rfl)
theorem dX2_dismiss_21 : decode cX2_dismiss 21 = .ok (.aload_n 2, 1) := dk_44 (dk_at dksX2_dismiss_0 21 rfl rfl)
theorem dX2_dismiss_22 : decode cX2_dismiss 22 = .ok (.invokevirtual 190, 3) := dk_182 0 190 (dk_at dksX2_dismiss_1 0 rfl rfl)
theorem dX2_dismiss_25 : decode cX2_dismiss 25 = .ok (.getfield 91, 3) := dk_180 0 91 (dk_at dksX2_dismiss_1 3 rfl rfl)
theorem dX2_dismiss_28 : decode cX2_dismiss 28 = .ok (.ireturn, 1) := dk_172 (dk_at dksX2_dismiss_1 6 rfl rfl)
abbrev cX2_addReference : ByteArray := prog_3_method_13_code
def yX2_addReference : MethodName := ⟨RX2, "addReference", "(II)I"⟩
def dkwX2_addReference_2 : List UInt8 := [182, 0, 98, 42, 28, 182, 0, 154, 172]
abbrev dktX2_addReference_2 : List UInt8 := dkwX2_addReference_2 ++ []
def dkwX2_addReference_1 : List UInt8 := [184, 0, 148, 42, 27, 28, 182, 0, 94, 154, 0, 7, 4, 167, 0, 4, 3, 184, 0, 151, 42, 27, 28, 4]
abbrev dktX2_addReference_1 : List UInt8 := dkwX2_addReference_1 ++ dktX2_addReference_2
def dkwX2_addReference_0 : List UInt8 := [42, 27, 182, 0, 144, 78, 42, 28, 182, 0, 144, 58, 4, 45, 25, 4, 165, 0, 7, 4, 167, 0, 4, 3]
abbrev dktX2_addReference_0 : List UInt8 := dkwX2_addReference_0 ++ dktX2_addReference_1
theorem dksX2_addReference_0 : cX2_addReference.data.toList.drop 0 = dktX2_addReference_0 := by decide +kernel
theorem dksX2_addReference_1 : cX2_addReference.data.toList.drop 24 = dktX2_addReference_1 := dk_seg dksX2_addReference_0 24 rfl rfl
theorem dksX2_addReference_2 : cX2_addReference.data.toList.drop 48 = dktX2_addReference_2 := dk_seg dksX2_addReference_1 24 rfl rfl
theorem dX2_addReference_0 : decode cX2_addReference 0 = .ok (.aload_n 0, 1) := dk_42 (dk_at dksX2_addReference_0 0 rfl rfl)
theorem dX2_addReference_1 : decode cX2_addReference 1 = .ok (.iload_n 1, 1) := dk_27 (dk_at dksX2_addReference_0 1 rfl rfl)
theorem dX2_addReference_2 : decode cX2_addReference 2 = .ok (.invokevirtual 144, 3) := dk_182 0 144 (dk_at dksX2_addReference_0 2 rfl rfl)
theorem dX2_addReference_5 : decode cX2_addReference 5 = .ok (.astore_n 3, 1) := dk_78 (dk_at dksX2_addReference_0 5 rfl rfl)
theorem dX2_addReference_6 : decode cX2_addReference 6 = .ok (.aload_n 0, 1) := dk_42 (dk_at dksX2_addReference_0 6 rfl rfl)
theorem dX2_addReference_7 : decode cX2_addReference 7 = .ok (.iload_n 2, 1) := dk_28 (dk_at dksX2_addReference_0 7 rfl rfl)
theorem dX2_addReference_8 : decode cX2_addReference 8 = .ok (.invokevirtual 144, 3) := dk_182 0 144 (dk_at dksX2_addReference_0 8 rfl rfl)
theorem dX2_addReference_11 : decode cX2_addReference 11 = .ok (.astore 4, 2) := dk_58 4 (dk_at dksX2_addReference_0 11 rfl rfl)
theorem dX2_addReference_13 : decode cX2_addReference 13 = .ok (.aload_n 3, 1) := dk_45 (dk_at dksX2_addReference_0 13 rfl rfl)
theorem dX2_addReference_14 : decode cX2_addReference 14 = .ok (.aload 4, 2) := dk_25 4 (dk_at dksX2_addReference_0 14 rfl rfl)
theorem dX2_addReference_16 : decode cX2_addReference 16 = .ok (.if_acmp .eq 7, 3) := dk_165 0 7 (dk_at dksX2_addReference_0 16 rfl rfl)
theorem dX2_addReference_19 : decode cX2_addReference 19 = .ok (.iconst 1, 1) := dk_4 (dk_at dksX2_addReference_0 19 rfl rfl)
theorem dX2_addReference_20 : decode cX2_addReference 20 = .ok (.goto 4, 3) := dk_167 0 4 (dk_at dksX2_addReference_0 20 rfl rfl)
theorem dX2_addReference_23 : decode cX2_addReference 23 = .ok (.iconst 0, 1) := dk_3 (dk_at dksX2_addReference_0 23 rfl rfl)
theorem dX2_addReference_24 : decode cX2_addReference 24 = .ok (.invokestatic 148, 3) := dk_184 0 148 (dk_at dksX2_addReference_1 0 rfl rfl)
theorem dX2_addReference_27 : decode cX2_addReference 27 = .ok (.aload_n 0, 1) := dk_42 (dk_at dksX2_addReference_1 3 rfl rfl)
theorem dX2_addReference_28 : decode cX2_addReference 28 = .ok (.iload_n 1, 1) := dk_27 (dk_at dksX2_addReference_1 4 rfl rfl)
theorem dX2_addReference_29 : decode cX2_addReference 29 = .ok (.iload_n 2, 1) := dk_28 (dk_at dksX2_addReference_1 5 rfl rfl)
theorem dX2_addReference_30 : decode cX2_addReference 30 = .ok (.invokevirtual 94, 3) := dk_182 0 94 (dk_at dksX2_addReference_1 6 rfl rfl)
theorem dX2_addReference_33 : decode cX2_addReference 33 = .ok (.ifCond .ne 7, 3) := dk_154 0 7 (dk_at dksX2_addReference_1 9 rfl rfl)
theorem dX2_addReference_36 : decode cX2_addReference 36 = .ok (.iconst 1, 1) := dk_4 (dk_at dksX2_addReference_1 12 rfl rfl)
theorem dX2_addReference_37 : decode cX2_addReference 37 = .ok (.goto 4, 3) := dk_167 0 4 (dk_at dksX2_addReference_1 13 rfl rfl)
theorem dX2_addReference_40 : decode cX2_addReference 40 = .ok (.iconst 0, 1) := dk_3 (dk_at dksX2_addReference_1 16 rfl rfl)
theorem dX2_addReference_41 : decode cX2_addReference 41 = .ok (.invokestatic 151, 3) := dk_184 0 151 (dk_at dksX2_addReference_1 17 rfl rfl)
theorem dX2_addReference_44 : decode cX2_addReference 44 = .ok (.aload_n 0, 1) := dk_42 (dk_at dksX2_addReference_1 20 rfl rfl)
theorem dX2_addReference_45 : decode cX2_addReference 45 = .ok (.iload_n 1, 1) := dk_27 (dk_at dksX2_addReference_1 21 rfl rfl)
theorem dX2_addReference_46 : decode cX2_addReference 46 = .ok (.iload_n 2, 1) := dk_28 (dk_at dksX2_addReference_1 22 rfl rfl)
theorem dX2_addReference_47 : decode cX2_addReference 47 = .ok (.iconst 1, 1) := dk_4 (dk_at dksX2_addReference_1 23 rfl rfl)
theorem dX2_addReference_48 : decode cX2_addReference 48 = .ok (.invokevirtual 98, 3) := dk_182 0 98 (dk_at dksX2_addReference_2 0 rfl rfl)
theorem dX2_addReference_51 : decode cX2_addReference 51 = .ok (.aload_n 0, 1) := dk_42 (dk_at dksX2_addReference_2 3 rfl rfl)
theorem dX2_addReference_52 : decode cX2_addReference 52 = .ok (.iload_n 2, 1) := dk_28 (dk_at dksX2_addReference_2 4 rfl rfl)
theorem dX2_addReference_53 : decode cX2_addReference 53 = .ok (.invokevirtual 154, 3) := dk_182 0 154 (dk_at dksX2_addReference_2 5 rfl rfl)
theorem dX2_addReference_56 : decode cX2_addReference 56 = .ok (.ireturn, 1) := dk_172 (dk_at dksX2_addReference_2 8 rfl rfl)
abbrev cX2_referencesFor : ByteArray := prog_3_method_11_code
def yX2_referencesFor : MethodName := ⟨RX2, "referencesFor", "(I)I"⟩
def dkwX2_referencesFor_2 : List UInt8 := [4, 167, 0, 4, 3, 96, 61, 167, 255, 215, 28, 172]
abbrev dktX2_referencesFor_2 : List UInt8 := dkwX2_referencesFor_2 ++ []
def dkwX2_referencesFor_1 : List UInt8 := [185, 0, 49, 1, 0, 192, 0, 63, 58, 4, 28, 42, 25, 4, 180, 0, 91, 27, 182, 0, 94, 153, 0, 7]
abbrev dktX2_referencesFor_1 : List UInt8 := dkwX2_referencesFor_1 ++ dktX2_referencesFor_2
def dkwX2_referencesFor_0 : List UInt8 := [3, 61, 42, 180, 0, 21, 182, 0, 39, 78, 45, 185, 0, 43, 1, 0, 153, 0, 38, 45]
abbrev dktX2_referencesFor_0 : List UInt8 := dkwX2_referencesFor_0 ++ dktX2_referencesFor_1
theorem dksX2_referencesFor_0 : cX2_referencesFor.data.toList.drop 0 = dktX2_referencesFor_0 := by decide +kernel
theorem dksX2_referencesFor_1 : cX2_referencesFor.data.toList.drop 20 = dktX2_referencesFor_1 := dk_seg dksX2_referencesFor_0 20 rfl rfl
theorem dksX2_referencesFor_2 : cX2_referencesFor.data.toList.drop 44 = dktX2_referencesFor_2 := dk_seg dksX2_referencesFor_1 24 rfl rfl
theorem dX2_referencesFor_0 : decode cX2_referencesFor 0 = .ok (.iconst 0, 1) := dk_3 (dk_at dksX2_referencesFor_0 0 rfl rfl)
theorem dX2_referencesFor_1 : decode cX2_referencesFor 1 = .ok (.istore_n 2, 1) := dk_61 (dk_at dksX2_referencesFor_0 1 rfl rfl)
theorem dX2_referencesFor_2 : decode cX2_referencesFor 2 = .ok (.aload_n 0, 1) := dk_42 (dk_at dksX2_referencesFor_0 2 rfl rfl)
theorem dX2_referencesFor_3 : decode cX2_referencesFor 3 = .ok (.getfield 21, 3) := dk_180 0 21 (dk_at dksX2_referencesFor_0 3 rfl rfl)
theorem dX2_referencesFor_6 : decode cX2_referencesFor 6 = .ok (.invokevirtual 39, 3) := dk_182 0 39 (dk_at dksX2_referencesFor_0 6 rfl rfl)
theorem dX2_referencesFor_9 : decode cX2_referencesFor 9 = .ok (.astore_n 3, 1) := dk_78 (dk_at dksX2_referencesFor_0 9 rfl rfl)
theorem dX2_referencesFor_10 : decode cX2_referencesFor 10 = .ok (.aload_n 3, 1) := dk_45 (dk_at dksX2_referencesFor_0 10 rfl rfl)
theorem dX2_referencesFor_11 : decode cX2_referencesFor 11 = .ok (.invokeinterface 43 1, 5) := by decide +kernel
theorem dX2_referencesFor_16 : decode cX2_referencesFor 16 = .ok (.ifCond .eq 38, 3) := dk_153 0 38 (dk_at dksX2_referencesFor_0 16 rfl rfl)
theorem dX2_referencesFor_19 : decode cX2_referencesFor 19 = .ok (.aload_n 3, 1) := dk_45 (dk_at dksX2_referencesFor_0 19 rfl rfl)
theorem dX2_referencesFor_20 : decode cX2_referencesFor 20 = .ok (.invokeinterface 49 1, 5) := by decide +kernel
theorem dX2_referencesFor_25 : decode cX2_referencesFor 25 = .ok (.checkcast 63, 3) := dk_192 0 63 (dk_at dksX2_referencesFor_1 5 rfl rfl)
theorem dX2_referencesFor_28 : decode cX2_referencesFor 28 = .ok (.astore 4, 2) := dk_58 4 (dk_at dksX2_referencesFor_1 8 rfl rfl)
theorem dX2_referencesFor_30 : decode cX2_referencesFor 30 = .ok (.iload_n 2, 1) := dk_28 (dk_at dksX2_referencesFor_1 10 rfl rfl)
theorem dX2_referencesFor_31 : decode cX2_referencesFor 31 = .ok (.aload_n 0, 1) := dk_42 (dk_at dksX2_referencesFor_1 11 rfl rfl)
theorem dX2_referencesFor_32 : decode cX2_referencesFor 32 = .ok (.aload 4, 2) := dk_25 4 (dk_at dksX2_referencesFor_1 12 rfl rfl)
theorem dX2_referencesFor_34 : decode cX2_referencesFor 34 = .ok (.getfield 91, 3) := dk_180 0 91 (dk_at dksX2_referencesFor_1 14 rfl rfl)
theorem dX2_referencesFor_37 : decode cX2_referencesFor 37 = .ok (.iload_n 1, 1) := dk_27 (dk_at dksX2_referencesFor_1 17 rfl rfl)
theorem dX2_referencesFor_38 : decode cX2_referencesFor 38 = .ok (.invokevirtual 94, 3) := dk_182 0 94 (dk_at dksX2_referencesFor_1 18 rfl rfl)
theorem dX2_referencesFor_41 : decode cX2_referencesFor 41 = .ok (.ifCond .eq 7, 3) := dk_153 0 7 (dk_at dksX2_referencesFor_1 21 rfl rfl)
theorem dX2_referencesFor_44 : decode cX2_referencesFor 44 = .ok (.iconst 1, 1) := dk_4 (dk_at dksX2_referencesFor_2 0 rfl rfl)
theorem dX2_referencesFor_45 : decode cX2_referencesFor 45 = .ok (.goto 4, 3) := dk_167 0 4 (dk_at dksX2_referencesFor_2 1 rfl rfl)
theorem dX2_referencesFor_48 : decode cX2_referencesFor 48 = .ok (.iconst 0, 1) := dk_3 (dk_at dksX2_referencesFor_2 4 rfl rfl)
theorem dX2_referencesFor_49 : decode cX2_referencesFor 49 = .ok (.iadd, 1) := dk_96 (dk_at dksX2_referencesFor_2 5 rfl rfl)
theorem dX2_referencesFor_50 : decode cX2_referencesFor 50 = .ok (.istore_n 2, 1) := dk_61 (dk_at dksX2_referencesFor_2 6 rfl rfl)
theorem dX2_referencesFor_51 : decode cX2_referencesFor 51 = .ok (.goto (-41), 3) := dk_167 255 215 (dk_at dksX2_referencesFor_2 7 rfl rfl)
theorem dX2_referencesFor_54 : decode cX2_referencesFor 54 = .ok (.iload_n 2, 1) := dk_28 (dk_at dksX2_referencesFor_2 10 rfl rfl)
theorem dX2_referencesFor_55 : decode cX2_referencesFor 55 = .ok (.ireturn, 1) := dk_172 (dk_at dksX2_referencesFor_2 11 rfl rfl)
abbrev cX2_match : ByteArray := prog_3_method_31_code
def yX2_match : MethodName := ⟨RX2, "match", "()I"⟩
def dkwX2_match_6 : List UInt8 := [21, 4, 50, 182, 0, 87, 132, 3, 1, 132, 4, 1, 167, 255, 220, 29, 172]
abbrev dktX2_match_6 : List UInt8 := dkwX2_match_6 ++ []
def dkwX2_match_5 : List UInt8 := [21, 4, 44, 190, 162, 0, 35, 44, 21, 4, 50, 198, 0, 22, 43, 21, 4, 182, 0, 83, 192, 0, 53, 44]
abbrev dktX2_match_5 : List UInt8 := dkwX2_match_5 ++ dktX2_match_6
def dkwX2_match_4 : List UInt8 := [182, 0, 72, 154, 0, 12, 42, 25, 4, 3, 43, 44, 182, 0, 235, 167, 255, 219, 3, 62, 3, 54, 4]
abbrev dktX2_match_4 : List UInt8 := dkwX2_match_4 ++ dktX2_match_5
def dkwX2_match_3 : List UInt8 := [45, 185, 0, 43, 1, 0, 153, 0, 34, 45, 185, 0, 49, 1, 0, 192, 0, 63, 58, 4, 25, 4]
abbrev dktX2_match_3 : List UInt8 := dkwX2_match_3 ++ dktX2_match_4
def dkwX2_match_2 : List UInt8 := [182, 0, 59, 54, 4, 167, 255, 223, 43, 182, 0, 118, 189, 0, 63, 77, 42, 180, 0, 21, 182, 0, 39, 78]
abbrev dktX2_match_2 : List UInt8 := dkwX2_match_2 ++ dktX2_match_3
def dkwX2_match_1 : List UInt8 := [153, 0, 30, 44, 185, 0, 49, 1, 0, 192, 0, 53, 78, 45, 182, 0, 126, 153, 0, 10, 43, 45]
abbrev dktX2_match_1 : List UInt8 := dkwX2_match_1 ++ dktX2_match_2
def dkwX2_match_0 : List UInt8 := [187, 0, 18, 89, 183, 0, 20, 76, 42, 182, 0, 231, 182, 0, 39, 77, 44, 185, 0, 43, 1, 0]
abbrev dktX2_match_0 : List UInt8 := dkwX2_match_0 ++ dktX2_match_1
theorem dksX2_match_0 : cX2_match.data.toList.drop 0 = dktX2_match_0 := by decide +kernel
theorem dksX2_match_1 : cX2_match.data.toList.drop 22 = dktX2_match_1 := dk_seg dksX2_match_0 22 rfl rfl
theorem dksX2_match_2 : cX2_match.data.toList.drop 44 = dktX2_match_2 := dk_seg dksX2_match_1 22 rfl rfl
theorem dksX2_match_3 : cX2_match.data.toList.drop 68 = dktX2_match_3 := dk_seg dksX2_match_2 24 rfl rfl
theorem dksX2_match_4 : cX2_match.data.toList.drop 90 = dktX2_match_4 := dk_seg dksX2_match_3 22 rfl rfl
theorem dksX2_match_5 : cX2_match.data.toList.drop 113 = dktX2_match_5 := dk_seg dksX2_match_4 23 rfl rfl
theorem dksX2_match_6 : cX2_match.data.toList.drop 137 = dktX2_match_6 := dk_seg dksX2_match_5 24 rfl rfl
theorem dX2_match_0 : decode cX2_match 0 = .ok (.new 18, 3) := dk_187 0 18 (dk_at dksX2_match_0 0 rfl rfl)
theorem dX2_match_3 : decode cX2_match 3 = .ok (.dup, 1) := dk_89 (dk_at dksX2_match_0 3 rfl rfl)
theorem dX2_match_4 : decode cX2_match 4 = .ok (.invokespecial 20, 3) := dk_183 0 20 (dk_at dksX2_match_0 4 rfl rfl)
theorem dX2_match_7 : decode cX2_match 7 = .ok (.astore_n 1, 1) := dk_76 (dk_at dksX2_match_0 7 rfl rfl)
theorem dX2_match_8 : decode cX2_match 8 = .ok (.aload_n 0, 1) := dk_42 (dk_at dksX2_match_0 8 rfl rfl)
theorem dX2_match_9 : decode cX2_match 9 = .ok (.invokevirtual 231, 3) := dk_182 0 231 (dk_at dksX2_match_0 9 rfl rfl)
theorem dX2_match_12 : decode cX2_match 12 = .ok (.invokevirtual 39, 3) := dk_182 0 39 (dk_at dksX2_match_0 12 rfl rfl)
theorem dX2_match_15 : decode cX2_match 15 = .ok (.astore_n 2, 1) := dk_77 (dk_at dksX2_match_0 15 rfl rfl)
theorem dX2_match_16 : decode cX2_match 16 = .ok (.aload_n 2, 1) := dk_44 (dk_at dksX2_match_0 16 rfl rfl)
theorem dX2_match_17 : decode cX2_match 17 = .ok (.invokeinterface 43 1, 5) := by decide +kernel
theorem dX2_match_22 : decode cX2_match 22 = .ok (.ifCond .eq 30, 3) := dk_153 0 30 (dk_at dksX2_match_1 0 rfl rfl)
theorem dX2_match_25 : decode cX2_match 25 = .ok (.aload_n 2, 1) := dk_44 (dk_at dksX2_match_1 3 rfl rfl)
theorem dX2_match_26 : decode cX2_match 26 = .ok (.invokeinterface 49 1, 5) := by decide +kernel
theorem dX2_match_31 : decode cX2_match 31 = .ok (.checkcast 53, 3) := dk_192 0 53 (dk_at dksX2_match_1 9 rfl rfl)
theorem dX2_match_34 : decode cX2_match 34 = .ok (.astore_n 3, 1) := dk_78 (dk_at dksX2_match_1 12 rfl rfl)
theorem dX2_match_35 : decode cX2_match 35 = .ok (.aload_n 3, 1) := dk_45 (dk_at dksX2_match_1 13 rfl rfl)
theorem dX2_match_36 : decode cX2_match 36 = .ok (.invokevirtual 126, 3) := dk_182 0 126 (dk_at dksX2_match_1 14 rfl rfl)
theorem dX2_match_39 : decode cX2_match 39 = .ok (.ifCond .eq 10, 3) := dk_153 0 10 (dk_at dksX2_match_1 17 rfl rfl)
theorem dX2_match_42 : decode cX2_match 42 = .ok (.aload_n 1, 1) := dk_43 (dk_at dksX2_match_1 20 rfl rfl)
theorem dX2_match_43 : decode cX2_match 43 = .ok (.aload_n 3, 1) := dk_45 (dk_at dksX2_match_1 21 rfl rfl)
theorem dX2_match_44 : decode cX2_match 44 = .ok (.invokevirtual 59, 3) := dk_182 0 59 (dk_at dksX2_match_2 0 rfl rfl)
theorem dX2_match_47 : decode cX2_match 47 = .ok (.istore 4, 2) := dk_54 4 (dk_at dksX2_match_2 3 rfl rfl)
theorem dX2_match_49 : decode cX2_match 49 = .ok (.goto (-33), 3) := dk_167 255 223 (dk_at dksX2_match_2 5 rfl rfl)
theorem dX2_match_52 : decode cX2_match 52 = .ok (.aload_n 1, 1) := dk_43 (dk_at dksX2_match_2 8 rfl rfl)
theorem dX2_match_53 : decode cX2_match 53 = .ok (.invokevirtual 118, 3) := dk_182 0 118 (dk_at dksX2_match_2 9 rfl rfl)
theorem dX2_match_56 : decode cX2_match 56 = .ok (.anewarray 63, 3) := dk_189 0 63 (dk_at dksX2_match_2 12 rfl rfl)
theorem dX2_match_59 : decode cX2_match 59 = .ok (.astore_n 2, 1) := dk_77 (dk_at dksX2_match_2 15 rfl rfl)
theorem dX2_match_60 : decode cX2_match 60 = .ok (.aload_n 0, 1) := dk_42 (dk_at dksX2_match_2 16 rfl rfl)
theorem dX2_match_61 : decode cX2_match 61 = .ok (.getfield 21, 3) := dk_180 0 21 (dk_at dksX2_match_2 17 rfl rfl)
theorem dX2_match_64 : decode cX2_match 64 = .ok (.invokevirtual 39, 3) := dk_182 0 39 (dk_at dksX2_match_2 20 rfl rfl)
theorem dX2_match_67 : decode cX2_match 67 = .ok (.astore_n 3, 1) := dk_78 (dk_at dksX2_match_2 23 rfl rfl)
theorem dX2_match_68 : decode cX2_match 68 = .ok (.aload_n 3, 1) := dk_45 (dk_at dksX2_match_3 0 rfl rfl)
theorem dX2_match_69 : decode cX2_match 69 = .ok (.invokeinterface 43 1, 5) := by decide +kernel
theorem dX2_match_74 : decode cX2_match 74 = .ok (.ifCond .eq 34, 3) := dk_153 0 34 (dk_at dksX2_match_3 6 rfl rfl)
theorem dX2_match_77 : decode cX2_match 77 = .ok (.aload_n 3, 1) := dk_45 (dk_at dksX2_match_3 9 rfl rfl)
theorem dX2_match_78 : decode cX2_match 78 = .ok (.invokeinterface 49 1, 5) := by decide +kernel
theorem dX2_match_83 : decode cX2_match 83 = .ok (.checkcast 63, 3) := dk_192 0 63 (dk_at dksX2_match_3 15 rfl rfl)
theorem dX2_match_86 : decode cX2_match 86 = .ok (.astore 4, 2) := dk_58 4 (dk_at dksX2_match_3 18 rfl rfl)
theorem dX2_match_88 : decode cX2_match 88 = .ok (.aload 4, 2) := dk_25 4 (dk_at dksX2_match_3 20 rfl rfl)
theorem dX2_match_90 : decode cX2_match 90 = .ok (.invokevirtual 72, 3) := dk_182 0 72 (dk_at dksX2_match_4 0 rfl rfl)
theorem dX2_match_93 : decode cX2_match 93 = .ok (.ifCond .ne 12, 3) := dk_154 0 12 (dk_at dksX2_match_4 3 rfl rfl)
theorem dX2_match_96 : decode cX2_match 96 = .ok (.aload_n 0, 1) := dk_42 (dk_at dksX2_match_4 6 rfl rfl)
theorem dX2_match_97 : decode cX2_match 97 = .ok (.aload 4, 2) := dk_25 4 (dk_at dksX2_match_4 7 rfl rfl)
theorem dX2_match_99 : decode cX2_match 99 = .ok (.iconst 0, 1) := dk_3 (dk_at dksX2_match_4 9 rfl rfl)
theorem dX2_match_100 : decode cX2_match 100 = .ok (.aload_n 1, 1) := dk_43 (dk_at dksX2_match_4 10 rfl rfl)
theorem dX2_match_101 : decode cX2_match 101 = .ok (.aload_n 2, 1) := dk_44 (dk_at dksX2_match_4 11 rfl rfl)
theorem dX2_match_102 : decode cX2_match 102 = .ok (.invokevirtual 235, 3) := dk_182 0 235 (dk_at dksX2_match_4 12 rfl rfl)
theorem dX2_match_105 : decode cX2_match 105 = .ok (.goto (-37), 3) := dk_167 255 219 (dk_at dksX2_match_4 15 rfl rfl)
theorem dX2_match_108 : decode cX2_match 108 = .ok (.iconst 0, 1) := dk_3 (dk_at dksX2_match_4 18 rfl rfl)
theorem dX2_match_109 : decode cX2_match 109 = .ok (.istore_n 3, 1) := dk_62 (dk_at dksX2_match_4 19 rfl rfl)
theorem dX2_match_110 : decode cX2_match 110 = .ok (.iconst 0, 1) := dk_3 (dk_at dksX2_match_4 20 rfl rfl)
theorem dX2_match_111 : decode cX2_match 111 = .ok (.istore 4, 2) := dk_54 4 (dk_at dksX2_match_4 21 rfl rfl)
theorem dX2_match_113 : decode cX2_match 113 = .ok (.iload 4, 2) := dk_21 4 (dk_at dksX2_match_5 0 rfl rfl)
theorem dX2_match_115 : decode cX2_match 115 = .ok (.aload_n 2, 1) := dk_44 (dk_at dksX2_match_5 2 rfl rfl)
theorem dX2_match_116 : decode cX2_match 116 = .ok (.arraylength, 1) := dk_190 (dk_at dksX2_match_5 3 rfl rfl)
theorem dX2_match_117 : decode cX2_match 117 = .ok (.if_icmp .ge 35, 3) := dk_162 0 35 (dk_at dksX2_match_5 4 rfl rfl)
theorem dX2_match_120 : decode cX2_match 120 = .ok (.aload_n 2, 1) := dk_44 (dk_at dksX2_match_5 7 rfl rfl)
theorem dX2_match_121 : decode cX2_match 121 = .ok (.iload 4, 2) := dk_21 4 (dk_at dksX2_match_5 8 rfl rfl)
theorem dX2_match_123 : decode cX2_match 123 = .ok (.aaload, 1) := dk_50 (dk_at dksX2_match_5 10 rfl rfl)
theorem dX2_match_124 : decode cX2_match 124 = .ok (.ifnull 22, 3) := dk_198 0 22 (dk_at dksX2_match_5 11 rfl rfl)
theorem dX2_match_127 : decode cX2_match 127 = .ok (.aload_n 1, 1) := dk_43 (dk_at dksX2_match_5 14 rfl rfl)
theorem dX2_match_128 : decode cX2_match 128 = .ok (.iload 4, 2) := dk_21 4 (dk_at dksX2_match_5 15 rfl rfl)
theorem dX2_match_130 : decode cX2_match 130 = .ok (.invokevirtual 83, 3) := dk_182 0 83 (dk_at dksX2_match_5 17 rfl rfl)
theorem dX2_match_133 : decode cX2_match 133 = .ok (.checkcast 53, 3) := dk_192 0 53 (dk_at dksX2_match_5 20 rfl rfl)
theorem dX2_match_136 : decode cX2_match 136 = .ok (.aload_n 2, 1) := dk_44 (dk_at dksX2_match_5 23 rfl rfl)
theorem dX2_match_137 : decode cX2_match 137 = .ok (.iload 4, 2) := dk_21 4 (dk_at dksX2_match_6 0 rfl rfl)
theorem dX2_match_139 : decode cX2_match 139 = .ok (.aaload, 1) := dk_50 (dk_at dksX2_match_6 2 rfl rfl)
theorem dX2_match_140 : decode cX2_match 140 = .ok (.invokevirtual 87, 3) := dk_182 0 87 (dk_at dksX2_match_6 3 rfl rfl)
theorem dX2_match_143 : decode cX2_match 143 = .ok (.iinc 3 1, 3) := dk_132 3 1 (dk_at dksX2_match_6 6 rfl rfl)
theorem dX2_match_146 : decode cX2_match 146 = .ok (.iinc 4 1, 3) := dk_132 4 1 (dk_at dksX2_match_6 9 rfl rfl)
theorem dX2_match_149 : decode cX2_match 149 = .ok (.goto (-36), 3) := dk_167 255 220 (dk_at dksX2_match_6 12 rfl rfl)
theorem dX2_match_152 : decode cX2_match 152 = .ok (.iload_n 3, 1) := dk_29 (dk_at dksX2_match_6 15 rfl rfl)
theorem dX2_match_153 : decode cX2_match 153 = .ok (.ireturn, 1) := dk_172 (dk_at dksX2_match_6 16 rfl rfl)
abbrev cX2_byPreference : ByteArray := prog_3_method_30_code
def yX2_byPreference : MethodName := ⟨RX2, "byPreference", "()Ljava/util/ArrayList;"⟩
def dkwX2_byPreference_3 : List UInt8 := [167, 255, 227, 43, 21, 4, 45, 182, 0, 228, 167, 255, 195, 43, 176]
abbrev dktX2_byPreference_3 : List UInt8 := dkwX2_byPreference_3 ++ []
def dkwX2_byPreference_2 : List UInt8 := [162, 0, 26, 42, 43, 21, 4, 182, 0, 83, 192, 0, 53, 45, 182, 0, 214, 153, 0, 9, 132, 4, 1]
abbrev dktX2_byPreference_2 : List UInt8 := dkwX2_byPreference_2 ++ dktX2_byPreference_3
def dkwX2_byPreference_1 : List UInt8 := [153, 0, 58, 44, 185, 0, 49, 1, 0, 192, 0, 53, 78, 3, 54, 4, 21, 4, 43, 182, 0, 118]
abbrev dktX2_byPreference_1 : List UInt8 := dkwX2_byPreference_1 ++ dktX2_byPreference_2
def dkwX2_byPreference_0 : List UInt8 := [187, 0, 18, 89, 183, 0, 20, 76, 42, 180, 0, 28, 182, 0, 39, 77, 44, 185, 0, 43, 1, 0]
abbrev dktX2_byPreference_0 : List UInt8 := dkwX2_byPreference_0 ++ dktX2_byPreference_1
theorem dksX2_byPreference_0 : cX2_byPreference.data.toList.drop 0 = dktX2_byPreference_0 := by decide +kernel
theorem dksX2_byPreference_1 : cX2_byPreference.data.toList.drop 22 = dktX2_byPreference_1 := dk_seg dksX2_byPreference_0 22 rfl rfl
theorem dksX2_byPreference_2 : cX2_byPreference.data.toList.drop 44 = dktX2_byPreference_2 := dk_seg dksX2_byPreference_1 22 rfl rfl
theorem dksX2_byPreference_3 : cX2_byPreference.data.toList.drop 67 = dktX2_byPreference_3 := dk_seg dksX2_byPreference_2 23 rfl rfl
theorem dX2_byPreference_0 : decode cX2_byPreference 0 = .ok (.new 18, 3) := dk_187 0 18 (dk_at dksX2_byPreference_0 0 rfl rfl)
theorem dX2_byPreference_3 : decode cX2_byPreference 3 = .ok (.dup, 1) := dk_89 (dk_at dksX2_byPreference_0 3 rfl rfl)
theorem dX2_byPreference_4 : decode cX2_byPreference 4 = .ok (.invokespecial 20, 3) := dk_183 0 20 (dk_at dksX2_byPreference_0 4 rfl rfl)
theorem dX2_byPreference_7 : decode cX2_byPreference 7 = .ok (.astore_n 1, 1) := dk_76 (dk_at dksX2_byPreference_0 7 rfl rfl)
theorem dX2_byPreference_8 : decode cX2_byPreference 8 = .ok (.aload_n 0, 1) := dk_42 (dk_at dksX2_byPreference_0 8 rfl rfl)
theorem dX2_byPreference_9 : decode cX2_byPreference 9 = .ok (.getfield 28, 3) := dk_180 0 28 (dk_at dksX2_byPreference_0 9 rfl rfl)
theorem dX2_byPreference_12 : decode cX2_byPreference 12 = .ok (.invokevirtual 39, 3) := dk_182 0 39 (dk_at dksX2_byPreference_0 12 rfl rfl)
theorem dX2_byPreference_15 : decode cX2_byPreference 15 = .ok (.astore_n 2, 1) := dk_77 (dk_at dksX2_byPreference_0 15 rfl rfl)
theorem dX2_byPreference_16 : decode cX2_byPreference 16 = .ok (.aload_n 2, 1) := dk_44 (dk_at dksX2_byPreference_0 16 rfl rfl)
theorem dX2_byPreference_17 : decode cX2_byPreference 17 = .ok (.invokeinterface 43 1, 5) := by decide +kernel
theorem dX2_byPreference_22 : decode cX2_byPreference 22 = .ok (.ifCond .eq 58, 3) := dk_153 0 58 (dk_at dksX2_byPreference_1 0 rfl rfl)
theorem dX2_byPreference_25 : decode cX2_byPreference 25 = .ok (.aload_n 2, 1) := dk_44 (dk_at dksX2_byPreference_1 3 rfl rfl)
theorem dX2_byPreference_26 : decode cX2_byPreference 26 = .ok (.invokeinterface 49 1, 5) := by decide +kernel
theorem dX2_byPreference_31 : decode cX2_byPreference 31 = .ok (.checkcast 53, 3) := dk_192 0 53 (dk_at dksX2_byPreference_1 9 rfl rfl)
theorem dX2_byPreference_34 : decode cX2_byPreference 34 = .ok (.astore_n 3, 1) := dk_78 (dk_at dksX2_byPreference_1 12 rfl rfl)
theorem dX2_byPreference_35 : decode cX2_byPreference 35 = .ok (.iconst 0, 1) := dk_3 (dk_at dksX2_byPreference_1 13 rfl rfl)
theorem dX2_byPreference_36 : decode cX2_byPreference 36 = .ok (.istore 4, 2) := dk_54 4 (dk_at dksX2_byPreference_1 14 rfl rfl)
theorem dX2_byPreference_38 : decode cX2_byPreference 38 = .ok (.iload 4, 2) := dk_21 4 (dk_at dksX2_byPreference_1 16 rfl rfl)
theorem dX2_byPreference_40 : decode cX2_byPreference 40 = .ok (.aload_n 1, 1) := dk_43 (dk_at dksX2_byPreference_1 18 rfl rfl)
theorem dX2_byPreference_41 : decode cX2_byPreference 41 = .ok (.invokevirtual 118, 3) := dk_182 0 118 (dk_at dksX2_byPreference_1 19 rfl rfl)
theorem dX2_byPreference_44 : decode cX2_byPreference 44 = .ok (.if_icmp .ge 26, 3) := dk_162 0 26 (dk_at dksX2_byPreference_2 0 rfl rfl)
theorem dX2_byPreference_47 : decode cX2_byPreference 47 = .ok (.aload_n 0, 1) := dk_42 (dk_at dksX2_byPreference_2 3 rfl rfl)
theorem dX2_byPreference_48 : decode cX2_byPreference 48 = .ok (.aload_n 1, 1) := dk_43 (dk_at dksX2_byPreference_2 4 rfl rfl)
theorem dX2_byPreference_49 : decode cX2_byPreference 49 = .ok (.iload 4, 2) := dk_21 4 (dk_at dksX2_byPreference_2 5 rfl rfl)
theorem dX2_byPreference_51 : decode cX2_byPreference 51 = .ok (.invokevirtual 83, 3) := dk_182 0 83 (dk_at dksX2_byPreference_2 7 rfl rfl)
theorem dX2_byPreference_54 : decode cX2_byPreference 54 = .ok (.checkcast 53, 3) := dk_192 0 53 (dk_at dksX2_byPreference_2 10 rfl rfl)
theorem dX2_byPreference_57 : decode cX2_byPreference 57 = .ok (.aload_n 3, 1) := dk_45 (dk_at dksX2_byPreference_2 13 rfl rfl)
theorem dX2_byPreference_58 : decode cX2_byPreference 58 = .ok (.invokevirtual 214, 3) := dk_182 0 214 (dk_at dksX2_byPreference_2 14 rfl rfl)
theorem dX2_byPreference_61 : decode cX2_byPreference 61 = .ok (.ifCond .eq 9, 3) := dk_153 0 9 (dk_at dksX2_byPreference_2 17 rfl rfl)
theorem dX2_byPreference_64 : decode cX2_byPreference 64 = .ok (.iinc 4 1, 3) := dk_132 4 1 (dk_at dksX2_byPreference_2 20 rfl rfl)
theorem dX2_byPreference_67 : decode cX2_byPreference 67 = .ok (.goto (-29), 3) := dk_167 255 227 (dk_at dksX2_byPreference_3 0 rfl rfl)
theorem dX2_byPreference_70 : decode cX2_byPreference 70 = .ok (.aload_n 1, 1) := dk_43 (dk_at dksX2_byPreference_3 3 rfl rfl)
theorem dX2_byPreference_71 : decode cX2_byPreference 71 = .ok (.iload 4, 2) := dk_21 4 (dk_at dksX2_byPreference_3 4 rfl rfl)
theorem dX2_byPreference_73 : decode cX2_byPreference 73 = .ok (.aload_n 3, 1) := dk_45 (dk_at dksX2_byPreference_3 6 rfl rfl)
theorem dX2_byPreference_74 : decode cX2_byPreference 74 = .ok (.invokevirtual 228, 3) := dk_182 0 228 (dk_at dksX2_byPreference_3 7 rfl rfl)
theorem dX2_byPreference_77 : decode cX2_byPreference 77 = .ok (.goto (-61), 3) := dk_167 255 195 (dk_at dksX2_byPreference_3 10 rfl rfl)
theorem dX2_byPreference_80 : decode cX2_byPreference 80 = .ok (.aload_n 1, 1) := dk_43 (dk_at dksX2_byPreference_3 13 rfl rfl)
theorem dX2_byPreference_81 : decode cX2_byPreference 81 = .ok (.areturn, 1) := dk_176 (dk_at dksX2_byPreference_3 14 rfl rfl)
abbrev cX2_isPreferred : ByteArray := prog_3_method_17_code
def yX2_isPreferred : MethodName := ⟨RX2, "isPreferred", "(LCloudInterviews$Post;LCloudInterviews$Post;)Z"⟩
def dkwX2_isPreferred_1 : List UInt8 := [44, 182, 0, 79, 162, 0, 7, 4, 167, 0, 4, 3, 172]
abbrev dktX2_isPreferred_1 : List UInt8 := dkwX2_isPreferred_1 ++ []
def dkwX2_isPreferred_0 : List UInt8 := [43, 180, 0, 168, 44, 180, 0, 168, 100, 62, 29, 157, 0, 20, 29, 154, 0, 20, 42, 43, 182, 0, 79, 42]
abbrev dktX2_isPreferred_0 : List UInt8 := dkwX2_isPreferred_0 ++ dktX2_isPreferred_1
theorem dksX2_isPreferred_0 : cX2_isPreferred.data.toList.drop 0 = dktX2_isPreferred_0 := by decide +kernel
theorem dksX2_isPreferred_1 : cX2_isPreferred.data.toList.drop 24 = dktX2_isPreferred_1 := dk_seg dksX2_isPreferred_0 24 rfl rfl
theorem dX2_isPreferred_0 : decode cX2_isPreferred 0 = .ok (.aload_n 1, 1) := dk_43 (dk_at dksX2_isPreferred_0 0 rfl rfl)
theorem dX2_isPreferred_1 : decode cX2_isPreferred 1 = .ok (.getfield 168, 3) := dk_180 0 168 (dk_at dksX2_isPreferred_0 1 rfl rfl)
theorem dX2_isPreferred_4 : decode cX2_isPreferred 4 = .ok (.aload_n 2, 1) := dk_44 (dk_at dksX2_isPreferred_0 4 rfl rfl)
theorem dX2_isPreferred_5 : decode cX2_isPreferred 5 = .ok (.getfield 168, 3) := dk_180 0 168 (dk_at dksX2_isPreferred_0 5 rfl rfl)
theorem dX2_isPreferred_8 : decode cX2_isPreferred 8 = .ok (.isub, 1) := dk_100 (dk_at dksX2_isPreferred_0 8 rfl rfl)
theorem dX2_isPreferred_9 : decode cX2_isPreferred 9 = .ok (.istore_n 3, 1) := dk_62 (dk_at dksX2_isPreferred_0 9 rfl rfl)
theorem dX2_isPreferred_10 : decode cX2_isPreferred 10 = .ok (.iload_n 3, 1) := dk_29 (dk_at dksX2_isPreferred_0 10 rfl rfl)
theorem dX2_isPreferred_11 : decode cX2_isPreferred 11 = .ok (.ifCond .gt 20, 3) := dk_157 0 20 (dk_at dksX2_isPreferred_0 11 rfl rfl)
theorem dX2_isPreferred_14 : decode cX2_isPreferred 14 = .ok (.iload_n 3, 1) := dk_29 (dk_at dksX2_isPreferred_0 14 rfl rfl)
theorem dX2_isPreferred_15 : decode cX2_isPreferred 15 = .ok (.ifCond .ne 20, 3) := dk_154 0 20 (dk_at dksX2_isPreferred_0 15 rfl rfl)
theorem dX2_isPreferred_18 : decode cX2_isPreferred 18 = .ok (.aload_n 0, 1) := dk_42 (dk_at dksX2_isPreferred_0 18 rfl rfl)
theorem dX2_isPreferred_19 : decode cX2_isPreferred 19 = .ok (.aload_n 1, 1) := dk_43 (dk_at dksX2_isPreferred_0 19 rfl rfl)
theorem dX2_isPreferred_20 : decode cX2_isPreferred 20 = .ok (.invokevirtual 79, 3) := dk_182 0 79 (dk_at dksX2_isPreferred_0 20 rfl rfl)
theorem dX2_isPreferred_23 : decode cX2_isPreferred 23 = .ok (.aload_n 0, 1) := dk_42 (dk_at dksX2_isPreferred_0 23 rfl rfl)
theorem dX2_isPreferred_24 : decode cX2_isPreferred 24 = .ok (.aload_n 2, 1) := dk_44 (dk_at dksX2_isPreferred_1 0 rfl rfl)
theorem dX2_isPreferred_25 : decode cX2_isPreferred 25 = .ok (.invokevirtual 79, 3) := dk_182 0 79 (dk_at dksX2_isPreferred_1 1 rfl rfl)
theorem dX2_isPreferred_28 : decode cX2_isPreferred 28 = .ok (.if_icmp .ge 7, 3) := dk_162 0 7 (dk_at dksX2_isPreferred_1 4 rfl rfl)
theorem dX2_isPreferred_31 : decode cX2_isPreferred 31 = .ok (.iconst 1, 1) := dk_4 (dk_at dksX2_isPreferred_1 7 rfl rfl)
theorem dX2_isPreferred_32 : decode cX2_isPreferred 32 = .ok (.goto 4, 3) := dk_167 0 4 (dk_at dksX2_isPreferred_1 8 rfl rfl)
theorem dX2_isPreferred_35 : decode cX2_isPreferred 35 = .ok (.iconst 0, 1) := dk_3 (dk_at dksX2_isPreferred_1 11 rfl rfl)
theorem dX2_isPreferred_36 : decode cX2_isPreferred 36 = .ok (.ireturn, 1) := dk_172 (dk_at dksX2_isPreferred_1 12 rfl rfl)
abbrev cX2_propose : ByteArray := prog_3_method_32_code
def yX2_propose : MethodName := ⟨RX2, "propose", "(LCloudInterviews$Applicant;ILjava/util/ArrayList;[LCloudInterviews$Applicant;)V"⟩
def dkwX2_propose_3 : List UInt8 := [25, 4, 21, 6, 25, 5, 83, 25, 8, 58, 5, 132, 6, 1, 167, 255, 179, 177]
abbrev dktX2_propose_3 : List UInt8 := dkwX2_propose_3 ++ []
def dkwX2_propose_2 : List UInt8 := [198, 0, 17, 42, 25, 5, 25, 4, 21, 6, 50, 182, 0, 171, 153, 0, 21, 25, 4, 21, 6, 50, 58, 8]
abbrev dktX2_propose_2 : List UInt8 := dkwX2_propose_2 ++ dktX2_propose_3
def dkwX2_propose_1 : List UInt8 := [182, 0, 83, 192, 0, 53, 25, 5, 182, 0, 210, 54, 7, 21, 7, 153, 0, 43, 25, 4, 21, 6, 50]
abbrev dktX2_propose_1 : List UInt8 := dkwX2_propose_1 ++ dktX2_propose_2
def dkwX2_propose_0 : List UInt8 := [43, 58, 5, 28, 54, 6, 25, 5, 198, 0, 78, 21, 6, 25, 4, 190, 162, 0, 70, 45, 21, 6]
abbrev dktX2_propose_0 : List UInt8 := dkwX2_propose_0 ++ dktX2_propose_1
theorem dksX2_propose_0 : cX2_propose.data.toList.drop 0 = dktX2_propose_0 := by decide +kernel
theorem dksX2_propose_1 : cX2_propose.data.toList.drop 22 = dktX2_propose_1 := dk_seg dksX2_propose_0 22 rfl rfl
theorem dksX2_propose_2 : cX2_propose.data.toList.drop 45 = dktX2_propose_2 := dk_seg dksX2_propose_1 23 rfl rfl
theorem dksX2_propose_3 : cX2_propose.data.toList.drop 69 = dktX2_propose_3 := dk_seg dksX2_propose_2 24 rfl rfl
theorem dX2_propose_0 : decode cX2_propose 0 = .ok (.aload_n 1, 1) := dk_43 (dk_at dksX2_propose_0 0 rfl rfl)
theorem dX2_propose_1 : decode cX2_propose 1 = .ok (.astore 5, 2) := dk_58 5 (dk_at dksX2_propose_0 1 rfl rfl)
theorem dX2_propose_3 : decode cX2_propose 3 = .ok (.iload_n 2, 1) := dk_28 (dk_at dksX2_propose_0 3 rfl rfl)
theorem dX2_propose_4 : decode cX2_propose 4 = .ok (.istore 6, 2) := dk_54 6 (dk_at dksX2_propose_0 4 rfl rfl)
theorem dX2_propose_6 : decode cX2_propose 6 = .ok (.aload 5, 2) := dk_25 5 (dk_at dksX2_propose_0 6 rfl rfl)
theorem dX2_propose_8 : decode cX2_propose 8 = .ok (.ifnull 78, 3) := dk_198 0 78 (dk_at dksX2_propose_0 8 rfl rfl)
theorem dX2_propose_11 : decode cX2_propose 11 = .ok (.iload 6, 2) := dk_21 6 (dk_at dksX2_propose_0 11 rfl rfl)
theorem dX2_propose_13 : decode cX2_propose 13 = .ok (.aload 4, 2) := dk_25 4 (dk_at dksX2_propose_0 13 rfl rfl)
theorem dX2_propose_15 : decode cX2_propose 15 = .ok (.arraylength, 1) := dk_190 (dk_at dksX2_propose_0 15 rfl rfl)
theorem dX2_propose_16 : decode cX2_propose 16 = .ok (.if_icmp .ge 70, 3) := dk_162 0 70 (dk_at dksX2_propose_0 16 rfl rfl)
theorem dX2_propose_19 : decode cX2_propose 19 = .ok (.aload_n 3, 1) := dk_45 (dk_at dksX2_propose_0 19 rfl rfl)
theorem dX2_propose_20 : decode cX2_propose 20 = .ok (.iload 6, 2) := dk_21 6 (dk_at dksX2_propose_0 20 rfl rfl)
theorem dX2_propose_22 : decode cX2_propose 22 = .ok (.invokevirtual 83, 3) := dk_182 0 83 (dk_at dksX2_propose_1 0 rfl rfl)
theorem dX2_propose_25 : decode cX2_propose 25 = .ok (.checkcast 53, 3) := dk_192 0 53 (dk_at dksX2_propose_1 3 rfl rfl)
theorem dX2_propose_28 : decode cX2_propose 28 = .ok (.aload 5, 2) := dk_25 5 (dk_at dksX2_propose_1 6 rfl rfl)
theorem dX2_propose_30 : decode cX2_propose 30 = .ok (.invokevirtual 210, 3) := dk_182 0 210 (dk_at dksX2_propose_1 8 rfl rfl)
theorem dX2_propose_33 : decode cX2_propose 33 = .ok (.istore 7, 2) := dk_54 7 (dk_at dksX2_propose_1 11 rfl rfl)
theorem dX2_propose_35 : decode cX2_propose 35 = .ok (.iload 7, 2) := dk_21 7 (dk_at dksX2_propose_1 13 rfl rfl)
theorem dX2_propose_37 : decode cX2_propose 37 = .ok (.ifCond .eq 43, 3) := dk_153 0 43 (dk_at dksX2_propose_1 15 rfl rfl)
theorem dX2_propose_40 : decode cX2_propose 40 = .ok (.aload 4, 2) := dk_25 4 (dk_at dksX2_propose_1 18 rfl rfl)
theorem dX2_propose_42 : decode cX2_propose 42 = .ok (.iload 6, 2) := dk_21 6 (dk_at dksX2_propose_1 20 rfl rfl)
theorem dX2_propose_44 : decode cX2_propose 44 = .ok (.aaload, 1) := dk_50 (dk_at dksX2_propose_1 22 rfl rfl)
theorem dX2_propose_45 : decode cX2_propose 45 = .ok (.ifnull 17, 3) := dk_198 0 17 (dk_at dksX2_propose_2 0 rfl rfl)
theorem dX2_propose_48 : decode cX2_propose 48 = .ok (.aload_n 0, 1) := dk_42 (dk_at dksX2_propose_2 3 rfl rfl)
theorem dX2_propose_49 : decode cX2_propose 49 = .ok (.aload 5, 2) := dk_25 5 (dk_at dksX2_propose_2 4 rfl rfl)
theorem dX2_propose_51 : decode cX2_propose 51 = .ok (.aload 4, 2) := dk_25 4 (dk_at dksX2_propose_2 6 rfl rfl)
theorem dX2_propose_53 : decode cX2_propose 53 = .ok (.iload 6, 2) := dk_21 6 (dk_at dksX2_propose_2 8 rfl rfl)
theorem dX2_propose_55 : decode cX2_propose 55 = .ok (.aaload, 1) := dk_50 (dk_at dksX2_propose_2 10 rfl rfl)
theorem dX2_propose_56 : decode cX2_propose 56 = .ok (.invokevirtual 171, 3) := dk_182 0 171 (dk_at dksX2_propose_2 11 rfl rfl)
theorem dX2_propose_59 : decode cX2_propose 59 = .ok (.ifCond .eq 21, 3) := dk_153 0 21 (dk_at dksX2_propose_2 14 rfl rfl)
theorem dX2_propose_62 : decode cX2_propose 62 = .ok (.aload 4, 2) := dk_25 4 (dk_at dksX2_propose_2 17 rfl rfl)
theorem dX2_propose_64 : decode cX2_propose 64 = .ok (.iload 6, 2) := dk_21 6 (dk_at dksX2_propose_2 19 rfl rfl)
theorem dX2_propose_66 : decode cX2_propose 66 = .ok (.aaload, 1) := dk_50 (dk_at dksX2_propose_2 21 rfl rfl)
theorem dX2_propose_67 : decode cX2_propose 67 = .ok (.astore 8, 2) := dk_58 8 (dk_at dksX2_propose_2 22 rfl rfl)
theorem dX2_propose_69 : decode cX2_propose 69 = .ok (.aload 4, 2) := dk_25 4 (dk_at dksX2_propose_3 0 rfl rfl)
theorem dX2_propose_71 : decode cX2_propose 71 = .ok (.iload 6, 2) := dk_21 6 (dk_at dksX2_propose_3 2 rfl rfl)
theorem dX2_propose_73 : decode cX2_propose 73 = .ok (.aload 5, 2) := dk_25 5 (dk_at dksX2_propose_3 4 rfl rfl)
theorem dX2_propose_75 : decode cX2_propose 75 = .ok (.aastore, 1) := dk_83 (dk_at dksX2_propose_3 6 rfl rfl)
theorem dX2_propose_76 : decode cX2_propose 76 = .ok (.aload 8, 2) := dk_25 8 (dk_at dksX2_propose_3 7 rfl rfl)
theorem dX2_propose_78 : decode cX2_propose 78 = .ok (.astore 5, 2) := dk_58 5 (dk_at dksX2_propose_3 9 rfl rfl)
theorem dX2_propose_80 : decode cX2_propose 80 = .ok (.iinc 6 1, 3) := dk_132 6 1 (dk_at dksX2_propose_3 11 rfl rfl)
theorem dX2_propose_83 : decode cX2_propose 83 = .ok (.goto (-77), 3) := dk_167 255 179 (dk_at dksX2_propose_3 14 rfl rfl)
theorem dX2_propose_86 : decode cX2_propose 86 = .ok (.return_, 1) := dk_177 (dk_at dksX2_propose_3 17 rfl rfl)
abbrev cX2_isBetter : ByteArray := prog_3_method_16_code
def yX2_isBetter : MethodName := ⟨RX2, "isBetter", "(LCloudInterviews$Applicant;LCloudInterviews$Applicant;)Z"⟩
def dkwX2_isBetter_1 : List UInt8 := [44, 180, 0, 91, 162, 0, 7, 4, 167, 0, 4, 3, 172]
abbrev dktX2_isBetter_1 : List UInt8 := dkwX2_isBetter_1 ++ []
def dkwX2_isBetter_0 : List UInt8 := [42, 43, 182, 0, 164, 42, 44, 182, 0, 164, 100, 62, 29, 157, 0, 18, 29, 154, 0, 18, 43, 180, 0, 91]
abbrev dktX2_isBetter_0 : List UInt8 := dkwX2_isBetter_0 ++ dktX2_isBetter_1
theorem dksX2_isBetter_0 : cX2_isBetter.data.toList.drop 0 = dktX2_isBetter_0 := by decide +kernel
theorem dksX2_isBetter_1 : cX2_isBetter.data.toList.drop 24 = dktX2_isBetter_1 := dk_seg dksX2_isBetter_0 24 rfl rfl
theorem dX2_isBetter_0 : decode cX2_isBetter 0 = .ok (.aload_n 0, 1) := dk_42 (dk_at dksX2_isBetter_0 0 rfl rfl)
theorem dX2_isBetter_1 : decode cX2_isBetter 1 = .ok (.aload_n 1, 1) := dk_43 (dk_at dksX2_isBetter_0 1 rfl rfl)
theorem dX2_isBetter_2 : decode cX2_isBetter 2 = .ok (.invokevirtual 164, 3) := dk_182 0 164 (dk_at dksX2_isBetter_0 2 rfl rfl)
theorem dX2_isBetter_5 : decode cX2_isBetter 5 = .ok (.aload_n 0, 1) := dk_42 (dk_at dksX2_isBetter_0 5 rfl rfl)
theorem dX2_isBetter_6 : decode cX2_isBetter 6 = .ok (.aload_n 2, 1) := dk_44 (dk_at dksX2_isBetter_0 6 rfl rfl)
theorem dX2_isBetter_7 : decode cX2_isBetter 7 = .ok (.invokevirtual 164, 3) := dk_182 0 164 (dk_at dksX2_isBetter_0 7 rfl rfl)
theorem dX2_isBetter_10 : decode cX2_isBetter 10 = .ok (.isub, 1) := dk_100 (dk_at dksX2_isBetter_0 10 rfl rfl)
theorem dX2_isBetter_11 : decode cX2_isBetter 11 = .ok (.istore_n 3, 1) := dk_62 (dk_at dksX2_isBetter_0 11 rfl rfl)
theorem dX2_isBetter_12 : decode cX2_isBetter 12 = .ok (.iload_n 3, 1) := dk_29 (dk_at dksX2_isBetter_0 12 rfl rfl)
theorem dX2_isBetter_13 : decode cX2_isBetter 13 = .ok (.ifCond .gt 18, 3) := dk_157 0 18 (dk_at dksX2_isBetter_0 13 rfl rfl)
theorem dX2_isBetter_16 : decode cX2_isBetter 16 = .ok (.iload_n 3, 1) := dk_29 (dk_at dksX2_isBetter_0 16 rfl rfl)
theorem dX2_isBetter_17 : decode cX2_isBetter 17 = .ok (.ifCond .ne 18, 3) := dk_154 0 18 (dk_at dksX2_isBetter_0 17 rfl rfl)
theorem dX2_isBetter_20 : decode cX2_isBetter 20 = .ok (.aload_n 1, 1) := dk_43 (dk_at dksX2_isBetter_0 20 rfl rfl)
theorem dX2_isBetter_21 : decode cX2_isBetter 21 = .ok (.getfield 91, 3) := dk_180 0 91 (dk_at dksX2_isBetter_0 21 rfl rfl)
theorem dX2_isBetter_24 : decode cX2_isBetter 24 = .ok (.aload_n 2, 1) := dk_44 (dk_at dksX2_isBetter_1 0 rfl rfl)
theorem dX2_isBetter_25 : decode cX2_isBetter 25 = .ok (.getfield 91, 3) := dk_180 0 91 (dk_at dksX2_isBetter_1 1 rfl rfl)
theorem dX2_isBetter_28 : decode cX2_isBetter 28 = .ok (.if_icmp .ge 7, 3) := dk_162 0 7 (dk_at dksX2_isBetter_1 4 rfl rfl)
theorem dX2_isBetter_31 : decode cX2_isBetter 31 = .ok (.iconst 1, 1) := dk_4 (dk_at dksX2_isBetter_1 7 rfl rfl)
theorem dX2_isBetter_32 : decode cX2_isBetter 32 = .ok (.goto 4, 3) := dk_167 0 4 (dk_at dksX2_isBetter_1 8 rfl rfl)
theorem dX2_isBetter_35 : decode cX2_isBetter 35 = .ok (.iconst 0, 1) := dk_3 (dk_at dksX2_isBetter_1 11 rfl rfl)
theorem dX2_isBetter_36 : decode cX2_isBetter 36 = .ok (.ireturn, 1) := dk_172 (dk_at dksX2_isBetter_1 12 rfl rfl)
abbrev cX2_score : ByteArray := prog_3_method_15_code
def yX2_score : MethodName := ⟨RX2, "score", "(LCloudInterviews$Applicant;)I"⟩
def dkwX2_score_0 : List UInt8 := [43, 180, 0, 158, 43, 180, 0, 161, 100, 16, 10, 42, 43, 180, 0, 91, 182, 0, 154, 104, 96, 172]
abbrev dktX2_score_0 : List UInt8 := dkwX2_score_0 ++ []
theorem dksX2_score_0 : cX2_score.data.toList.drop 0 = dktX2_score_0 := by decide +kernel
theorem dX2_score_0 : decode cX2_score 0 = .ok (.aload_n 1, 1) := dk_43 (dk_at dksX2_score_0 0 rfl rfl)
theorem dX2_score_1 : decode cX2_score 1 = .ok (.getfield 158, 3) := dk_180 0 158 (dk_at dksX2_score_0 1 rfl rfl)
theorem dX2_score_4 : decode cX2_score 4 = .ok (.aload_n 1, 1) := dk_43 (dk_at dksX2_score_0 4 rfl rfl)
theorem dX2_score_5 : decode cX2_score 5 = .ok (.getfield 161, 3) := dk_180 0 161 (dk_at dksX2_score_0 5 rfl rfl)
theorem dX2_score_8 : decode cX2_score 8 = .ok (.isub, 1) := dk_100 (dk_at dksX2_score_0 8 rfl rfl)
theorem dX2_score_9 : decode cX2_score 9 = .ok (.bipush 10, 2) := dk_16 10 (dk_at dksX2_score_0 9 rfl rfl)
theorem dX2_score_11 : decode cX2_score 11 = .ok (.aload_n 0, 1) := dk_42 (dk_at dksX2_score_0 11 rfl rfl)
theorem dX2_score_12 : decode cX2_score 12 = .ok (.aload_n 1, 1) := dk_43 (dk_at dksX2_score_0 12 rfl rfl)
theorem dX2_score_13 : decode cX2_score 13 = .ok (.getfield 91, 3) := dk_180 0 91 (dk_at dksX2_score_0 13 rfl rfl)
theorem dX2_score_16 : decode cX2_score 16 = .ok (.invokevirtual 154, 3) := dk_182 0 154 (dk_at dksX2_score_0 16 rfl rfl)
theorem dX2_score_19 : decode cX2_score 19 = .ok (.imul, 1) := dk_104 (dk_at dksX2_score_0 19 rfl rfl)
theorem dX2_score_20 : decode cX2_score 20 = .ok (.iadd, 1) := dk_96 (dk_at dksX2_score_0 20 rfl rfl)
theorem dX2_score_21 : decode cX2_score 21 = .ok (.ireturn, 1) := dk_172 (dk_at dksX2_score_0 21 rfl rfl)
abbrev cX2_passDays : ByteArray := prog_3_method_41_code
def yX2_passDays : MethodName := ⟨RX2, "passDays", "(I)I"⟩
def dkwX2_passDays_1 : List UInt8 := [182, 1, 13, 96, 61, 132, 3, 1, 167, 255, 241, 28, 172]
abbrev dktX2_passDays_1 : List UInt8 := dkwX2_passDays_1 ++ []
def dkwX2_passDays_0 : List UInt8 := [27, 133, 10, 20, 1, 11, 184, 0, 181, 184, 0, 148, 3, 61, 3, 62, 29, 27, 162, 0, 16, 28, 42]
abbrev dktX2_passDays_0 : List UInt8 := dkwX2_passDays_0 ++ dktX2_passDays_1
theorem dksX2_passDays_0 : cX2_passDays.data.toList.drop 0 = dktX2_passDays_0 := by decide +kernel
theorem dksX2_passDays_1 : cX2_passDays.data.toList.drop 23 = dktX2_passDays_1 := dk_seg dksX2_passDays_0 23 rfl rfl
theorem dX2_passDays_0 : decode cX2_passDays 0 = .ok (.iload_n 1, 1) := dk_27 (dk_at dksX2_passDays_0 0 rfl rfl)
theorem dX2_passDays_1 : decode cX2_passDays 1 = .ok (.i2l, 1) := dk_133 (dk_at dksX2_passDays_0 1 rfl rfl)
theorem dX2_passDays_2 : decode cX2_passDays 2 = .ok (.lconst 1, 1) := dk_10 (dk_at dksX2_passDays_0 2 rfl rfl)
theorem dX2_passDays_3 : decode cX2_passDays 3 = .ok (.ldc2_w 267, 3) := dk_20 1 11 (dk_at dksX2_passDays_0 3 rfl rfl)
theorem dX2_passDays_6 : decode cX2_passDays 6 = .ok (.invokestatic 181, 3) := dk_184 0 181 (dk_at dksX2_passDays_0 6 rfl rfl)
theorem dX2_passDays_9 : decode cX2_passDays 9 = .ok (.invokestatic 148, 3) := dk_184 0 148 (dk_at dksX2_passDays_0 9 rfl rfl)
theorem dX2_passDays_12 : decode cX2_passDays 12 = .ok (.iconst 0, 1) := dk_3 (dk_at dksX2_passDays_0 12 rfl rfl)
theorem dX2_passDays_13 : decode cX2_passDays 13 = .ok (.istore_n 2, 1) := dk_61 (dk_at dksX2_passDays_0 13 rfl rfl)
theorem dX2_passDays_14 : decode cX2_passDays 14 = .ok (.iconst 0, 1) := dk_3 (dk_at dksX2_passDays_0 14 rfl rfl)
theorem dX2_passDays_15 : decode cX2_passDays 15 = .ok (.istore_n 3, 1) := dk_62 (dk_at dksX2_passDays_0 15 rfl rfl)
theorem dX2_passDays_16 : decode cX2_passDays 16 = .ok (.iload_n 3, 1) := dk_29 (dk_at dksX2_passDays_0 16 rfl rfl)
theorem dX2_passDays_17 : decode cX2_passDays 17 = .ok (.iload_n 1, 1) := dk_27 (dk_at dksX2_passDays_0 17 rfl rfl)
theorem dX2_passDays_18 : decode cX2_passDays 18 = .ok (.if_icmp .ge 16, 3) := dk_162 0 16 (dk_at dksX2_passDays_0 18 rfl rfl)
theorem dX2_passDays_21 : decode cX2_passDays 21 = .ok (.iload_n 2, 1) := dk_28 (dk_at dksX2_passDays_0 21 rfl rfl)
theorem dX2_passDays_22 : decode cX2_passDays 22 = .ok (.aload_n 0, 1) := dk_42 (dk_at dksX2_passDays_0 22 rfl rfl)
theorem dX2_passDays_23 : decode cX2_passDays 23 = .ok (.invokevirtual 269, 3) := dk_182 1 13 (dk_at dksX2_passDays_1 0 rfl rfl)
theorem dX2_passDays_26 : decode cX2_passDays 26 = .ok (.iadd, 1) := dk_96 (dk_at dksX2_passDays_1 3 rfl rfl)
theorem dX2_passDays_27 : decode cX2_passDays 27 = .ok (.istore_n 2, 1) := dk_61 (dk_at dksX2_passDays_1 4 rfl rfl)
theorem dX2_passDays_28 : decode cX2_passDays 28 = .ok (.iinc 3 1, 3) := dk_132 3 1 (dk_at dksX2_passDays_1 5 rfl rfl)
theorem dX2_passDays_31 : decode cX2_passDays 31 = .ok (.goto (-15), 3) := dk_167 255 241 (dk_at dksX2_passDays_1 8 rfl rfl)
theorem dX2_passDays_34 : decode cX2_passDays 34 = .ok (.iload_n 2, 1) := dk_28 (dk_at dksX2_passDays_1 11 rfl rfl)
theorem dX2_passDays_35 : decode cX2_passDays 35 = .ok (.ireturn, 1) := dk_172 (dk_at dksX2_passDays_1 12 rfl rfl)
abbrev cX2_passDay : ByteArray := prog_3_method_40_code
def yX2_passDay : MethodName := ⟨RX2, "passDay", "()I"⟩
def dkwX2_passDay_6 : List UInt8 := [180, 0, 36, 4, 96, 181, 0, 36, 27, 172]
abbrev dktX2_passDay_6 : List UInt8 := dkwX2_passDay_6 ++ []
def dkwX2_passDay_5 : List UInt8 := [180, 1, 0, 182, 0, 210, 154, 0, 12, 45, 182, 0, 190, 58, 4, 132, 1, 1, 167, 255, 210, 42, 89]
abbrev dktX2_passDay_5 : List UInt8 := dkwX2_passDay_5 ++ dktX2_passDay_6
def dkwX2_passDay_4 : List UInt8 := [153, 0, 43, 44, 185, 0, 49, 1, 0, 192, 0, 53, 78, 45, 182, 0, 126, 154, 0, 23, 45, 45]
abbrev dktX2_passDay_4 : List UInt8 := dkwX2_passDay_4 ++ dktX2_passDay_5
def dkwX2_passDay_3 : List UInt8 := [184, 1, 8, 181, 0, 161, 167, 255, 193, 42, 180, 0, 28, 182, 0, 39, 77, 44, 185, 0, 43, 1, 0]
abbrev dktX2_passDay_3 : List UInt8 := dkwX2_passDay_3 ++ dktX2_passDay_4
def dkwX2_passDay_2 : List UInt8 := [45, 180, 0, 168, 96, 181, 0, 195, 45, 180, 1, 0, 16, 50, 45, 180, 1, 0, 180, 0, 161, 4, 96]
abbrev dktX2_passDay_2 : List UInt8 := dkwX2_passDay_2 ++ dktX2_passDay_3
def dkwX2_passDay_1 : List UInt8 := [185, 0, 49, 1, 0, 192, 0, 53, 78, 45, 182, 0, 126, 154, 0, 40, 45, 180, 1, 0, 89, 180, 0, 195]
abbrev dktX2_passDay_1 : List UInt8 := dkwX2_passDay_1 ++ dktX2_passDay_2
def dkwX2_passDay_0 : List UInt8 := [3, 60, 42, 180, 0, 28, 182, 0, 39, 77, 44, 185, 0, 43, 1, 0, 153, 0, 60, 44]
abbrev dktX2_passDay_0 : List UInt8 := dkwX2_passDay_0 ++ dktX2_passDay_1
theorem dksX2_passDay_0 : cX2_passDay.data.toList.drop 0 = dktX2_passDay_0 := by decide +kernel
theorem dksX2_passDay_1 : cX2_passDay.data.toList.drop 20 = dktX2_passDay_1 := dk_seg dksX2_passDay_0 20 rfl rfl
theorem dksX2_passDay_2 : cX2_passDay.data.toList.drop 44 = dktX2_passDay_2 := dk_seg dksX2_passDay_1 24 rfl rfl
theorem dksX2_passDay_3 : cX2_passDay.data.toList.drop 67 = dktX2_passDay_3 := dk_seg dksX2_passDay_2 23 rfl rfl
theorem dksX2_passDay_4 : cX2_passDay.data.toList.drop 90 = dktX2_passDay_4 := dk_seg dksX2_passDay_3 23 rfl rfl
theorem dksX2_passDay_5 : cX2_passDay.data.toList.drop 112 = dktX2_passDay_5 := dk_seg dksX2_passDay_4 22 rfl rfl
theorem dksX2_passDay_6 : cX2_passDay.data.toList.drop 135 = dktX2_passDay_6 := dk_seg dksX2_passDay_5 23 rfl rfl
theorem dX2_passDay_0 : decode cX2_passDay 0 = .ok (.iconst 0, 1) := dk_3 (dk_at dksX2_passDay_0 0 rfl rfl)
theorem dX2_passDay_1 : decode cX2_passDay 1 = .ok (.istore_n 1, 1) := dk_60 (dk_at dksX2_passDay_0 1 rfl rfl)
theorem dX2_passDay_2 : decode cX2_passDay 2 = .ok (.aload_n 0, 1) := dk_42 (dk_at dksX2_passDay_0 2 rfl rfl)
theorem dX2_passDay_3 : decode cX2_passDay 3 = .ok (.getfield 28, 3) := dk_180 0 28 (dk_at dksX2_passDay_0 3 rfl rfl)
theorem dX2_passDay_6 : decode cX2_passDay 6 = .ok (.invokevirtual 39, 3) := dk_182 0 39 (dk_at dksX2_passDay_0 6 rfl rfl)
theorem dX2_passDay_9 : decode cX2_passDay 9 = .ok (.astore_n 2, 1) := dk_77 (dk_at dksX2_passDay_0 9 rfl rfl)
theorem dX2_passDay_10 : decode cX2_passDay 10 = .ok (.aload_n 2, 1) := dk_44 (dk_at dksX2_passDay_0 10 rfl rfl)
theorem dX2_passDay_11 : decode cX2_passDay 11 = .ok (.invokeinterface 43 1, 5) := by decide +kernel
theorem dX2_passDay_16 : decode cX2_passDay 16 = .ok (.ifCond .eq 60, 3) := dk_153 0 60 (dk_at dksX2_passDay_0 16 rfl rfl)
theorem dX2_passDay_19 : decode cX2_passDay 19 = .ok (.aload_n 2, 1) := dk_44 (dk_at dksX2_passDay_0 19 rfl rfl)
theorem dX2_passDay_20 : decode cX2_passDay 20 = .ok (.invokeinterface 49 1, 5) := by decide +kernel
theorem dX2_passDay_25 : decode cX2_passDay 25 = .ok (.checkcast 53, 3) := dk_192 0 53 (dk_at dksX2_passDay_1 5 rfl rfl)
theorem dX2_passDay_28 : decode cX2_passDay 28 = .ok (.astore_n 3, 1) := dk_78 (dk_at dksX2_passDay_1 8 rfl rfl)
theorem dX2_passDay_29 : decode cX2_passDay 29 = .ok (.aload_n 3, 1) := dk_45 (dk_at dksX2_passDay_1 9 rfl rfl)
theorem dX2_passDay_30 : decode cX2_passDay 30 = .ok (.invokevirtual 126, 3) := dk_182 0 126 (dk_at dksX2_passDay_1 10 rfl rfl)
theorem dX2_passDay_33 : decode cX2_passDay 33 = .ok (.ifCond .ne 40, 3) := dk_154 0 40 (dk_at dksX2_passDay_1 13 rfl rfl)
theorem dX2_passDay_36 : decode cX2_passDay 36 = .ok (.aload_n 3, 1) := dk_45 (dk_at dksX2_passDay_1 16 rfl rfl)
theorem dX2_passDay_37 : decode cX2_passDay 37 = .ok (.getfield 256, 3) := dk_180 1 0 (dk_at dksX2_passDay_1 17 rfl rfl)
theorem dX2_passDay_40 : decode cX2_passDay 40 = .ok (.dup, 1) := dk_89 (dk_at dksX2_passDay_1 20 rfl rfl)
theorem dX2_passDay_41 : decode cX2_passDay 41 = .ok (.getfield 195, 3) := dk_180 0 195 (dk_at dksX2_passDay_1 21 rfl rfl)
theorem dX2_passDay_44 : decode cX2_passDay 44 = .ok (.aload_n 3, 1) := dk_45 (dk_at dksX2_passDay_2 0 rfl rfl)
theorem dX2_passDay_45 : decode cX2_passDay 45 = .ok (.getfield 168, 3) := dk_180 0 168 (dk_at dksX2_passDay_2 1 rfl rfl)
theorem dX2_passDay_48 : decode cX2_passDay 48 = .ok (.iadd, 1) := dk_96 (dk_at dksX2_passDay_2 4 rfl rfl)
theorem dX2_passDay_49 : decode cX2_passDay 49 = .ok (.putfield 195, 3) := dk_181 0 195 (dk_at dksX2_passDay_2 5 rfl rfl)
theorem dX2_passDay_52 : decode cX2_passDay 52 = .ok (.aload_n 3, 1) := dk_45 (dk_at dksX2_passDay_2 8 rfl rfl)
theorem dX2_passDay_53 : decode cX2_passDay 53 = .ok (.getfield 256, 3) := dk_180 1 0 (dk_at dksX2_passDay_2 9 rfl rfl)
theorem dX2_passDay_56 : decode cX2_passDay 56 = .ok (.bipush 50, 2) := dk_16 50 (dk_at dksX2_passDay_2 12 rfl rfl)
theorem dX2_passDay_58 : decode cX2_passDay 58 = .ok (.aload_n 3, 1) := dk_45 (dk_at dksX2_passDay_2 14 rfl rfl)
theorem dX2_passDay_59 : decode cX2_passDay 59 = .ok (.getfield 256, 3) := dk_180 1 0 (dk_at dksX2_passDay_2 15 rfl rfl)
theorem dX2_passDay_62 : decode cX2_passDay 62 = .ok (.getfield 161, 3) := dk_180 0 161 (dk_at dksX2_passDay_2 18 rfl rfl)
theorem dX2_passDay_65 : decode cX2_passDay 65 = .ok (.iconst 1, 1) := dk_4 (dk_at dksX2_passDay_2 21 rfl rfl)
theorem dX2_passDay_66 : decode cX2_passDay 66 = .ok (.iadd, 1) := dk_96 (dk_at dksX2_passDay_2 22 rfl rfl)
theorem dX2_passDay_67 : decode cX2_passDay 67 = .ok (.invokestatic 264, 3) := dk_184 1 8 (dk_at dksX2_passDay_3 0 rfl rfl)
theorem dX2_passDay_70 : decode cX2_passDay 70 = .ok (.putfield 161, 3) := dk_181 0 161 (dk_at dksX2_passDay_3 3 rfl rfl)
theorem dX2_passDay_73 : decode cX2_passDay 73 = .ok (.goto (-63), 3) := dk_167 255 193 (dk_at dksX2_passDay_3 6 rfl rfl)
theorem dX2_passDay_76 : decode cX2_passDay 76 = .ok (.aload_n 0, 1) := dk_42 (dk_at dksX2_passDay_3 9 rfl rfl)
theorem dX2_passDay_77 : decode cX2_passDay 77 = .ok (.getfield 28, 3) := dk_180 0 28 (dk_at dksX2_passDay_3 10 rfl rfl)
theorem dX2_passDay_80 : decode cX2_passDay 80 = .ok (.invokevirtual 39, 3) := dk_182 0 39 (dk_at dksX2_passDay_3 13 rfl rfl)
theorem dX2_passDay_83 : decode cX2_passDay 83 = .ok (.astore_n 2, 1) := dk_77 (dk_at dksX2_passDay_3 16 rfl rfl)
theorem dX2_passDay_84 : decode cX2_passDay 84 = .ok (.aload_n 2, 1) := dk_44 (dk_at dksX2_passDay_3 17 rfl rfl)
theorem dX2_passDay_85 : decode cX2_passDay 85 = .ok (.invokeinterface 43 1, 5) := by decide +kernel
theorem dX2_passDay_90 : decode cX2_passDay 90 = .ok (.ifCond .eq 43, 3) := dk_153 0 43 (dk_at dksX2_passDay_4 0 rfl rfl)
theorem dX2_passDay_93 : decode cX2_passDay 93 = .ok (.aload_n 2, 1) := dk_44 (dk_at dksX2_passDay_4 3 rfl rfl)
theorem dX2_passDay_94 : decode cX2_passDay 94 = .ok (.invokeinterface 49 1, 5) := by decide +kernel
theorem dX2_passDay_99 : decode cX2_passDay 99 = .ok (.checkcast 53, 3) := dk_192 0 53 (dk_at dksX2_passDay_4 9 rfl rfl)
theorem dX2_passDay_102 : decode cX2_passDay 102 = .ok (.astore_n 3, 1) := dk_78 (dk_at dksX2_passDay_4 12 rfl rfl)
theorem dX2_passDay_103 : decode cX2_passDay 103 = .ok (.aload_n 3, 1) := dk_45 (dk_at dksX2_passDay_4 13 rfl rfl)
theorem dX2_passDay_104 : decode cX2_passDay 104 = .ok (.invokevirtual 126, 3) := dk_182 0 126 (dk_at dksX2_passDay_4 14 rfl rfl)
theorem dX2_passDay_107 : decode cX2_passDay 107 = .ok (.ifCond .ne 23, 3) := dk_154 0 23 (dk_at dksX2_passDay_4 17 rfl rfl)
theorem dX2_passDay_110 : decode cX2_passDay 110 = .ok (.aload_n 3, 1) := dk_45 (dk_at dksX2_passDay_4 20 rfl rfl)
theorem dX2_passDay_111 : decode cX2_passDay 111 = .ok (.aload_n 3, 1) := dk_45 (dk_at dksX2_passDay_4 21 rfl rfl)
theorem dX2_passDay_112 : decode cX2_passDay 112 = .ok (.getfield 256, 3) := dk_180 1 0 (dk_at dksX2_passDay_5 0 rfl rfl)
theorem dX2_passDay_115 : decode cX2_passDay 115 = .ok (.invokevirtual 210, 3) := dk_182 0 210 (dk_at dksX2_passDay_5 3 rfl rfl)
theorem dX2_passDay_118 : decode cX2_passDay 118 = .ok (.ifCond .ne 12, 3) := dk_154 0 12 (dk_at dksX2_passDay_5 6 rfl rfl)
theorem dX2_passDay_121 : decode cX2_passDay 121 = .ok (.aload_n 3, 1) := dk_45 (dk_at dksX2_passDay_5 9 rfl rfl)
theorem dX2_passDay_122 : decode cX2_passDay 122 = .ok (.invokevirtual 190, 3) := dk_182 0 190 (dk_at dksX2_passDay_5 10 rfl rfl)
theorem dX2_passDay_125 : decode cX2_passDay 125 = .ok (.astore 4, 2) := dk_58 4 (dk_at dksX2_passDay_5 13 rfl rfl)
theorem dX2_passDay_127 : decode cX2_passDay 127 = .ok (.iinc 1 1, 3) := dk_132 1 1 (dk_at dksX2_passDay_5 15 rfl rfl)
theorem dX2_passDay_130 : decode cX2_passDay 130 = .ok (.goto (-46), 3) := dk_167 255 210 (dk_at dksX2_passDay_5 18 rfl rfl)
theorem dX2_passDay_133 : decode cX2_passDay 133 = .ok (.aload_n 0, 1) := dk_42 (dk_at dksX2_passDay_5 21 rfl rfl)
theorem dX2_passDay_134 : decode cX2_passDay 134 = .ok (.dup, 1) := dk_89 (dk_at dksX2_passDay_5 22 rfl rfl)
theorem dX2_passDay_135 : decode cX2_passDay 135 = .ok (.getfield 36, 3) := dk_180 0 36 (dk_at dksX2_passDay_6 0 rfl rfl)
theorem dX2_passDay_138 : decode cX2_passDay 138 = .ok (.iconst 1, 1) := dk_4 (dk_at dksX2_passDay_6 3 rfl rfl)
theorem dX2_passDay_139 : decode cX2_passDay 139 = .ok (.iadd, 1) := dk_96 (dk_at dksX2_passDay_6 4 rfl rfl)
theorem dX2_passDay_140 : decode cX2_passDay 140 = .ok (.putfield 36, 3) := dk_181 0 36 (dk_at dksX2_passDay_6 5 rfl rfl)
theorem dX2_passDay_143 : decode cX2_passDay 143 = .ok (.iload_n 1, 1) := dk_27 (dk_at dksX2_passDay_6 8 rfl rfl)
theorem dX2_passDay_144 : decode cX2_passDay 144 = .ok (.ireturn, 1) := dk_172 (dk_at dksX2_passDay_6 9 rfl rfl)
abbrev cX2_hireBest : ByteArray := prog_3_method_28_code
def yX2_hireBest : MethodName := ⟨RX2, "hireBest", "(I)I"⟩
def dkwX2_hireBest_1 : List UInt8 := [167, 0, 4, 3, 184, 0, 114, 44, 45, 182, 0, 87, 45, 180, 0, 91, 172]
abbrev dktX2_hireBest_1 : List UInt8 := dkwX2_hireBest_1 ++ []
def dkwX2_hireBest_0 : List UInt8 := [42, 27, 182, 0, 205, 77, 44, 182, 0, 126, 184, 0, 151, 42, 44, 182, 0, 224, 78, 45, 198, 0, 7, 4]
abbrev dktX2_hireBest_0 : List UInt8 := dkwX2_hireBest_0 ++ dktX2_hireBest_1
theorem dksX2_hireBest_0 : cX2_hireBest.data.toList.drop 0 = dktX2_hireBest_0 := by decide +kernel
theorem dksX2_hireBest_1 : cX2_hireBest.data.toList.drop 24 = dktX2_hireBest_1 := dk_seg dksX2_hireBest_0 24 rfl rfl
theorem dX2_hireBest_0 : decode cX2_hireBest 0 = .ok (.aload_n 0, 1) := dk_42 (dk_at dksX2_hireBest_0 0 rfl rfl)
theorem dX2_hireBest_1 : decode cX2_hireBest 1 = .ok (.iload_n 1, 1) := dk_27 (dk_at dksX2_hireBest_0 1 rfl rfl)
theorem dX2_hireBest_2 : decode cX2_hireBest 2 = .ok (.invokevirtual 205, 3) := dk_182 0 205 (dk_at dksX2_hireBest_0 2 rfl rfl)
theorem dX2_hireBest_5 : decode cX2_hireBest 5 = .ok (.astore_n 2, 1) := dk_77 (dk_at dksX2_hireBest_0 5 rfl rfl)
theorem dX2_hireBest_6 : decode cX2_hireBest 6 = .ok (.aload_n 2, 1) := dk_44 (dk_at dksX2_hireBest_0 6 rfl rfl)
theorem dX2_hireBest_7 : decode cX2_hireBest 7 = .ok (.invokevirtual 126, 3) := dk_182 0 126 (dk_at dksX2_hireBest_0 7 rfl rfl)
theorem dX2_hireBest_10 : decode cX2_hireBest 10 = .ok (.invokestatic 151, 3) := dk_184 0 151 (dk_at dksX2_hireBest_0 10 rfl rfl)
theorem dX2_hireBest_13 : decode cX2_hireBest 13 = .ok (.aload_n 0, 1) := dk_42 (dk_at dksX2_hireBest_0 13 rfl rfl)
theorem dX2_hireBest_14 : decode cX2_hireBest 14 = .ok (.aload_n 2, 1) := dk_44 (dk_at dksX2_hireBest_0 14 rfl rfl)
theorem dX2_hireBest_15 : decode cX2_hireBest 15 = .ok (.invokevirtual 224, 3) := dk_182 0 224 (dk_at dksX2_hireBest_0 15 rfl rfl)
theorem dX2_hireBest_18 : decode cX2_hireBest 18 = .ok (.astore_n 3, 1) := dk_78 (dk_at dksX2_hireBest_0 18 rfl rfl)
theorem dX2_hireBest_19 : decode cX2_hireBest 19 = .ok (.aload_n 3, 1) := dk_45 (dk_at dksX2_hireBest_0 19 rfl rfl)
theorem dX2_hireBest_20 : decode cX2_hireBest 20 = .ok (.ifnull 7, 3) := dk_198 0 7 (dk_at dksX2_hireBest_0 20 rfl rfl)
theorem dX2_hireBest_23 : decode cX2_hireBest 23 = .ok (.iconst 1, 1) := dk_4 (dk_at dksX2_hireBest_0 23 rfl rfl)
theorem dX2_hireBest_24 : decode cX2_hireBest 24 = .ok (.goto 4, 3) := dk_167 0 4 (dk_at dksX2_hireBest_1 0 rfl rfl)
theorem dX2_hireBest_27 : decode cX2_hireBest 27 = .ok (.iconst 0, 1) := dk_3 (dk_at dksX2_hireBest_1 3 rfl rfl)
theorem dX2_hireBest_28 : decode cX2_hireBest 28 = .ok (.invokestatic 114, 3) := dk_184 0 114 (dk_at dksX2_hireBest_1 4 rfl rfl)
theorem dX2_hireBest_31 : decode cX2_hireBest 31 = .ok (.aload_n 2, 1) := dk_44 (dk_at dksX2_hireBest_1 7 rfl rfl)
theorem dX2_hireBest_32 : decode cX2_hireBest 32 = .ok (.aload_n 3, 1) := dk_45 (dk_at dksX2_hireBest_1 8 rfl rfl)
theorem dX2_hireBest_33 : decode cX2_hireBest 33 = .ok (.invokevirtual 87, 3) := dk_182 0 87 (dk_at dksX2_hireBest_1 9 rfl rfl)
theorem dX2_hireBest_36 : decode cX2_hireBest 36 = .ok (.aload_n 3, 1) := dk_45 (dk_at dksX2_hireBest_1 12 rfl rfl)
theorem dX2_hireBest_37 : decode cX2_hireBest 37 = .ok (.getfield 91, 3) := dk_180 0 91 (dk_at dksX2_hireBest_1 13 rfl rfl)
theorem dX2_hireBest_40 : decode cX2_hireBest 40 = .ok (.ireturn, 1) := dk_172 (dk_at dksX2_hireBest_1 16 rfl rfl)
abbrev cX2_candidate : ByteArray := prog_3_method_25_code
def yX2_candidate : MethodName := ⟨RX2, "candidate", "(LCloudInterviews$Post;)LCloudInterviews$Applicant;"⟩
def dkwX2_candidate_3 : List UInt8 := [182, 0, 171, 153, 0, 8, 25, 4, 167, 0, 4, 44, 77, 167, 255, 186, 44, 176]
abbrev dktX2_candidate_3 : List UInt8 := dkwX2_candidate_3 ++ []
def dkwX2_candidate_2 : List UInt8 := [153, 0, 7, 4, 167, 0, 4, 3, 54, 5, 21, 5, 153, 0, 22, 44, 198, 0, 13, 42, 25, 4, 44]
abbrev dktX2_candidate_2 : List UInt8 := dkwX2_candidate_2 ++ dktX2_candidate_3
def dkwX2_candidate_1 : List UInt8 := [185, 0, 49, 1, 0, 192, 0, 63, 58, 4, 25, 4, 182, 0, 72, 154, 0, 16, 43, 25, 4, 182, 0, 210]
abbrev dktX2_candidate_1 : List UInt8 := dkwX2_candidate_1 ++ dktX2_candidate_2
def dkwX2_candidate_0 : List UInt8 := [1, 77, 42, 180, 0, 21, 182, 0, 39, 78, 45, 185, 0, 43, 1, 0, 153, 0, 67, 45]
abbrev dktX2_candidate_0 : List UInt8 := dkwX2_candidate_0 ++ dktX2_candidate_1
theorem dksX2_candidate_0 : cX2_candidate.data.toList.drop 0 = dktX2_candidate_0 := by decide +kernel
theorem dksX2_candidate_1 : cX2_candidate.data.toList.drop 20 = dktX2_candidate_1 := dk_seg dksX2_candidate_0 20 rfl rfl
theorem dksX2_candidate_2 : cX2_candidate.data.toList.drop 44 = dktX2_candidate_2 := dk_seg dksX2_candidate_1 24 rfl rfl
theorem dksX2_candidate_3 : cX2_candidate.data.toList.drop 67 = dktX2_candidate_3 := dk_seg dksX2_candidate_2 23 rfl rfl
theorem dX2_candidate_0 : decode cX2_candidate 0 = .ok (.aconst_null, 1) := dk_1 (dk_at dksX2_candidate_0 0 rfl rfl)
theorem dX2_candidate_1 : decode cX2_candidate 1 = .ok (.astore_n 2, 1) := dk_77 (dk_at dksX2_candidate_0 1 rfl rfl)
theorem dX2_candidate_2 : decode cX2_candidate 2 = .ok (.aload_n 0, 1) := dk_42 (dk_at dksX2_candidate_0 2 rfl rfl)
theorem dX2_candidate_3 : decode cX2_candidate 3 = .ok (.getfield 21, 3) := dk_180 0 21 (dk_at dksX2_candidate_0 3 rfl rfl)
theorem dX2_candidate_6 : decode cX2_candidate 6 = .ok (.invokevirtual 39, 3) := dk_182 0 39 (dk_at dksX2_candidate_0 6 rfl rfl)
theorem dX2_candidate_9 : decode cX2_candidate 9 = .ok (.astore_n 3, 1) := dk_78 (dk_at dksX2_candidate_0 9 rfl rfl)
theorem dX2_candidate_10 : decode cX2_candidate 10 = .ok (.aload_n 3, 1) := dk_45 (dk_at dksX2_candidate_0 10 rfl rfl)
theorem dX2_candidate_11 : decode cX2_candidate 11 = .ok (.invokeinterface 43 1, 5) := by decide +kernel
theorem dX2_candidate_16 : decode cX2_candidate 16 = .ok (.ifCond .eq 67, 3) := dk_153 0 67 (dk_at dksX2_candidate_0 16 rfl rfl)
theorem dX2_candidate_19 : decode cX2_candidate 19 = .ok (.aload_n 3, 1) := dk_45 (dk_at dksX2_candidate_0 19 rfl rfl)
theorem dX2_candidate_20 : decode cX2_candidate 20 = .ok (.invokeinterface 49 1, 5) := by decide +kernel
theorem dX2_candidate_25 : decode cX2_candidate 25 = .ok (.checkcast 63, 3) := dk_192 0 63 (dk_at dksX2_candidate_1 5 rfl rfl)
theorem dX2_candidate_28 : decode cX2_candidate 28 = .ok (.astore 4, 2) := dk_58 4 (dk_at dksX2_candidate_1 8 rfl rfl)
theorem dX2_candidate_30 : decode cX2_candidate 30 = .ok (.aload 4, 2) := dk_25 4 (dk_at dksX2_candidate_1 10 rfl rfl)
theorem dX2_candidate_32 : decode cX2_candidate 32 = .ok (.invokevirtual 72, 3) := dk_182 0 72 (dk_at dksX2_candidate_1 12 rfl rfl)
theorem dX2_candidate_35 : decode cX2_candidate 35 = .ok (.ifCond .ne 16, 3) := dk_154 0 16 (dk_at dksX2_candidate_1 15 rfl rfl)
theorem dX2_candidate_38 : decode cX2_candidate 38 = .ok (.aload_n 1, 1) := dk_43 (dk_at dksX2_candidate_1 18 rfl rfl)
theorem dX2_candidate_39 : decode cX2_candidate 39 = .ok (.aload 4, 2) := dk_25 4 (dk_at dksX2_candidate_1 19 rfl rfl)
theorem dX2_candidate_41 : decode cX2_candidate 41 = .ok (.invokevirtual 210, 3) := dk_182 0 210 (dk_at dksX2_candidate_1 21 rfl rfl)
theorem dX2_candidate_44 : decode cX2_candidate 44 = .ok (.ifCond .eq 7, 3) := dk_153 0 7 (dk_at dksX2_candidate_2 0 rfl rfl)
theorem dX2_candidate_47 : decode cX2_candidate 47 = .ok (.iconst 1, 1) := dk_4 (dk_at dksX2_candidate_2 3 rfl rfl)
theorem dX2_candidate_48 : decode cX2_candidate 48 = .ok (.goto 4, 3) := dk_167 0 4 (dk_at dksX2_candidate_2 4 rfl rfl)
theorem dX2_candidate_51 : decode cX2_candidate 51 = .ok (.iconst 0, 1) := dk_3 (dk_at dksX2_candidate_2 7 rfl rfl)
theorem dX2_candidate_52 : decode cX2_candidate 52 = .ok (.istore 5, 2) := dk_54 5 (dk_at dksX2_candidate_2 8 rfl rfl)
theorem dX2_candidate_54 : decode cX2_candidate 54 = .ok (.iload 5, 2) := dk_21 5 (dk_at dksX2_candidate_2 10 rfl rfl)
theorem dX2_candidate_56 : decode cX2_candidate 56 = .ok (.ifCond .eq 22, 3) := dk_153 0 22 (dk_at dksX2_candidate_2 12 rfl rfl)
theorem dX2_candidate_59 : decode cX2_candidate 59 = .ok (.aload_n 2, 1) := dk_44 (dk_at dksX2_candidate_2 15 rfl rfl)
theorem dX2_candidate_60 : decode cX2_candidate 60 = .ok (.ifnull 13, 3) := dk_198 0 13 (dk_at dksX2_candidate_2 16 rfl rfl)
theorem dX2_candidate_63 : decode cX2_candidate 63 = .ok (.aload_n 0, 1) := dk_42 (dk_at dksX2_candidate_2 19 rfl rfl)
theorem dX2_candidate_64 : decode cX2_candidate 64 = .ok (.aload 4, 2) := dk_25 4 (dk_at dksX2_candidate_2 20 rfl rfl)
theorem dX2_candidate_66 : decode cX2_candidate 66 = .ok (.aload_n 2, 1) := dk_44 (dk_at dksX2_candidate_2 22 rfl rfl)
theorem dX2_candidate_67 : decode cX2_candidate 67 = .ok (.invokevirtual 171, 3) := dk_182 0 171 (dk_at dksX2_candidate_3 0 rfl rfl)
theorem dX2_candidate_70 : decode cX2_candidate 70 = .ok (.ifCond .eq 8, 3) := dk_153 0 8 (dk_at dksX2_candidate_3 3 rfl rfl)
theorem dX2_candidate_73 : decode cX2_candidate 73 = .ok (.aload 4, 2) := dk_25 4 (dk_at dksX2_candidate_3 6 rfl rfl)
theorem dX2_candidate_75 : decode cX2_candidate 75 = .ok (.goto 4, 3) := dk_167 0 4 (dk_at dksX2_candidate_3 8 rfl rfl)
theorem dX2_candidate_78 : decode cX2_candidate 78 = .ok (.aload_n 2, 1) := dk_44 (dk_at dksX2_candidate_3 11 rfl rfl)
theorem dX2_candidate_79 : decode cX2_candidate 79 = .ok (.astore_n 2, 1) := dk_77 (dk_at dksX2_candidate_3 12 rfl rfl)
theorem dX2_candidate_80 : decode cX2_candidate 80 = .ok (.goto (-70), 3) := dk_167 255 186 (dk_at dksX2_candidate_3 13 rfl rfl)
theorem dX2_candidate_83 : decode cX2_candidate 83 = .ok (.aload_n 2, 1) := dk_44 (dk_at dksX2_candidate_3 16 rfl rfl)
theorem dX2_candidate_84 : decode cX2_candidate 84 = .ok (.areturn, 1) := dk_176 (dk_at dksX2_candidate_3 17 rfl rfl)
abbrev cX2_removeReference : ByteArray := prog_3_method_14_code
def yX2_removeReference : MethodName := ⟨RX2, "removeReference", "(II)I"⟩
def dkwX2_removeReference_1 : List UInt8 := [182, 0, 94, 184, 0, 114, 42, 27, 28, 3, 182, 0, 98, 42, 28, 182, 0, 154, 172]
abbrev dktX2_removeReference_1 : List UInt8 := dkwX2_removeReference_1 ++ []
def dkwX2_removeReference_0 : List UInt8 := [42, 27, 182, 0, 144, 78, 42, 28, 182, 0, 144, 58, 4, 42, 45, 180, 0, 91, 25, 4, 180, 0, 91]
abbrev dktX2_removeReference_0 : List UInt8 := dkwX2_removeReference_0 ++ dktX2_removeReference_1
theorem dksX2_removeReference_0 : cX2_removeReference.data.toList.drop 0 = dktX2_removeReference_0 := by decide +kernel
theorem dksX2_removeReference_1 : cX2_removeReference.data.toList.drop 23 = dktX2_removeReference_1 := dk_seg dksX2_removeReference_0 23 rfl rfl
theorem dX2_removeReference_0 : decode cX2_removeReference 0 = .ok (.aload_n 0, 1) := dk_42 (dk_at dksX2_removeReference_0 0 rfl rfl)
theorem dX2_removeReference_1 : decode cX2_removeReference 1 = .ok (.iload_n 1, 1) := dk_27 (dk_at dksX2_removeReference_0 1 rfl rfl)
theorem dX2_removeReference_2 : decode cX2_removeReference 2 = .ok (.invokevirtual 144, 3) := dk_182 0 144 (dk_at dksX2_removeReference_0 2 rfl rfl)
theorem dX2_removeReference_5 : decode cX2_removeReference 5 = .ok (.astore_n 3, 1) := dk_78 (dk_at dksX2_removeReference_0 5 rfl rfl)
theorem dX2_removeReference_6 : decode cX2_removeReference 6 = .ok (.aload_n 0, 1) := dk_42 (dk_at dksX2_removeReference_0 6 rfl rfl)
theorem dX2_removeReference_7 : decode cX2_removeReference 7 = .ok (.iload_n 2, 1) := dk_28 (dk_at dksX2_removeReference_0 7 rfl rfl)
theorem dX2_removeReference_8 : decode cX2_removeReference 8 = .ok (.invokevirtual 144, 3) := dk_182 0 144 (dk_at dksX2_removeReference_0 8 rfl rfl)
theorem dX2_removeReference_11 : decode cX2_removeReference 11 = .ok (.astore 4, 2) := dk_58 4 (dk_at dksX2_removeReference_0 11 rfl rfl)
theorem dX2_removeReference_13 : decode cX2_removeReference 13 = .ok (.aload_n 0, 1) := dk_42 (dk_at dksX2_removeReference_0 13 rfl rfl)
theorem dX2_removeReference_14 : decode cX2_removeReference 14 = .ok (.aload_n 3, 1) := dk_45 (dk_at dksX2_removeReference_0 14 rfl rfl)
theorem dX2_removeReference_15 : decode cX2_removeReference 15 = .ok (.getfield 91, 3) := dk_180 0 91 (dk_at dksX2_removeReference_0 15 rfl rfl)
theorem dX2_removeReference_18 : decode cX2_removeReference 18 = .ok (.aload 4, 2) := dk_25 4 (dk_at dksX2_removeReference_0 18 rfl rfl)
theorem dX2_removeReference_20 : decode cX2_removeReference 20 = .ok (.getfield 91, 3) := dk_180 0 91 (dk_at dksX2_removeReference_0 20 rfl rfl)
theorem dX2_removeReference_23 : decode cX2_removeReference 23 = .ok (.invokevirtual 94, 3) := dk_182 0 94 (dk_at dksX2_removeReference_1 0 rfl rfl)
theorem dX2_removeReference_26 : decode cX2_removeReference 26 = .ok (.invokestatic 114, 3) := dk_184 0 114 (dk_at dksX2_removeReference_1 3 rfl rfl)
theorem dX2_removeReference_29 : decode cX2_removeReference 29 = .ok (.aload_n 0, 1) := dk_42 (dk_at dksX2_removeReference_1 6 rfl rfl)
theorem dX2_removeReference_30 : decode cX2_removeReference 30 = .ok (.iload_n 1, 1) := dk_27 (dk_at dksX2_removeReference_1 7 rfl rfl)
theorem dX2_removeReference_31 : decode cX2_removeReference 31 = .ok (.iload_n 2, 1) := dk_28 (dk_at dksX2_removeReference_1 8 rfl rfl)
theorem dX2_removeReference_32 : decode cX2_removeReference 32 = .ok (.iconst 0, 1) := dk_3 (dk_at dksX2_removeReference_1 9 rfl rfl)
theorem dX2_removeReference_33 : decode cX2_removeReference 33 = .ok (.invokevirtual 98, 3) := dk_182 0 98 (dk_at dksX2_removeReference_1 10 rfl rfl)
theorem dX2_removeReference_36 : decode cX2_removeReference 36 = .ok (.aload_n 0, 1) := dk_42 (dk_at dksX2_removeReference_1 13 rfl rfl)
theorem dX2_removeReference_37 : decode cX2_removeReference 37 = .ok (.iload_n 2, 1) := dk_28 (dk_at dksX2_removeReference_1 14 rfl rfl)
theorem dX2_removeReference_38 : decode cX2_removeReference 38 = .ok (.invokevirtual 154, 3) := dk_182 0 154 (dk_at dksX2_removeReference_1 15 rfl rfl)
theorem dX2_removeReference_41 : decode cX2_removeReference 41 = .ok (.ireturn, 1) := dk_172 (dk_at dksX2_removeReference_1 18 rfl rfl)
abbrev cX2_rejectRainy : ByteArray := prog_3_method_21_code
def yX2_rejectRainy : MethodName := ⟨RX2, "rejectRainy", "(I)I"⟩
def dkwX2_rejectRainy_5 : List UInt8 := [44, 182, 0, 118, 172]
abbrev dktX2_rejectRainy_5 : List UInt8 := dkwX2_rejectRainy_5 ++ []
def dkwX2_rejectRainy_4 : List UInt8 := [185, 0, 49, 1, 0, 192, 0, 63, 58, 4, 42, 25, 4, 180, 0, 91, 182, 0, 198, 54, 5, 167, 255, 225]
abbrev dktX2_rejectRainy_4 : List UInt8 := dkwX2_rejectRainy_4 ++ dktX2_rejectRainy_5
def dkwX2_rejectRainy_3 : List UInt8 := [54, 5, 167, 255, 211, 44, 182, 0, 39, 78, 45, 185, 0, 43, 1, 0, 153, 0, 28, 45]
abbrev dktX2_rejectRainy_3 : List UInt8 := dkwX2_rejectRainy_3 ++ dktX2_rejectRainy_4
def dkwX2_rejectRainy_2 : List UInt8 := [25, 4, 182, 0, 72, 154, 0, 20, 25, 4, 180, 0, 161, 27, 164, 0, 11, 44, 25, 4, 182, 0, 59]
abbrev dktX2_rejectRainy_2 : List UInt8 := dkwX2_rejectRainy_2 ++ dktX2_rejectRainy_3
def dkwX2_rejectRainy_1 : List UInt8 := [182, 0, 39, 78, 45, 185, 0, 43, 1, 0, 153, 0, 42, 45, 185, 0, 49, 1, 0, 192, 0, 63, 58, 4]
abbrev dktX2_rejectRainy_1 : List UInt8 := dkwX2_rejectRainy_1 ++ dktX2_rejectRainy_2
def dkwX2_rejectRainy_0 : List UInt8 := [27, 133, 9, 20, 0, 185, 184, 0, 181, 184, 0, 148, 187, 0, 18, 89, 183, 0, 20, 77, 42, 180, 0, 21]
abbrev dktX2_rejectRainy_0 : List UInt8 := dkwX2_rejectRainy_0 ++ dktX2_rejectRainy_1
theorem dksX2_rejectRainy_0 : cX2_rejectRainy.data.toList.drop 0 = dktX2_rejectRainy_0 := by decide +kernel
theorem dksX2_rejectRainy_1 : cX2_rejectRainy.data.toList.drop 24 = dktX2_rejectRainy_1 := dk_seg dksX2_rejectRainy_0 24 rfl rfl
theorem dksX2_rejectRainy_2 : cX2_rejectRainy.data.toList.drop 48 = dktX2_rejectRainy_2 := dk_seg dksX2_rejectRainy_1 24 rfl rfl
theorem dksX2_rejectRainy_3 : cX2_rejectRainy.data.toList.drop 71 = dktX2_rejectRainy_3 := dk_seg dksX2_rejectRainy_2 23 rfl rfl
theorem dksX2_rejectRainy_4 : cX2_rejectRainy.data.toList.drop 91 = dktX2_rejectRainy_4 := dk_seg dksX2_rejectRainy_3 20 rfl rfl
theorem dksX2_rejectRainy_5 : cX2_rejectRainy.data.toList.drop 115 = dktX2_rejectRainy_5 := dk_seg dksX2_rejectRainy_4 24 rfl rfl
theorem dX2_rejectRainy_0 : decode cX2_rejectRainy 0 = .ok (.iload_n 1, 1) := dk_27 (dk_at dksX2_rejectRainy_0 0 rfl rfl)
theorem dX2_rejectRainy_1 : decode cX2_rejectRainy 1 = .ok (.i2l, 1) := dk_133 (dk_at dksX2_rejectRainy_0 1 rfl rfl)
theorem dX2_rejectRainy_2 : decode cX2_rejectRainy 2 = .ok (.lconst 0, 1) := dk_9 (dk_at dksX2_rejectRainy_0 2 rfl rfl)
theorem dX2_rejectRainy_3 : decode cX2_rejectRainy 3 = .ok (.ldc2_w 185, 3) := dk_20 0 185 (dk_at dksX2_rejectRainy_0 3 rfl rfl)
theorem dX2_rejectRainy_6 : decode cX2_rejectRainy 6 = .ok (.invokestatic 181, 3) := dk_184 0 181 (dk_at dksX2_rejectRainy_0 6 rfl rfl)
theorem dX2_rejectRainy_9 : decode cX2_rejectRainy 9 = .ok (.invokestatic 148, 3) := dk_184 0 148 (dk_at dksX2_rejectRainy_0 9 rfl rfl)
theorem dX2_rejectRainy_12 : decode cX2_rejectRainy 12 = .ok (.new 18, 3) := dk_187 0 18 (dk_at dksX2_rejectRainy_0 12 rfl rfl)
theorem dX2_rejectRainy_15 : decode cX2_rejectRainy 15 = .ok (.dup, 1) := dk_89 (dk_at dksX2_rejectRainy_0 15 rfl rfl)
theorem dX2_rejectRainy_16 : decode cX2_rejectRainy 16 = .ok (.invokespecial 20, 3) := dk_183 0 20 (dk_at dksX2_rejectRainy_0 16 rfl rfl)
theorem dX2_rejectRainy_19 : decode cX2_rejectRainy 19 = .ok (.astore_n 2, 1) := dk_77 (dk_at dksX2_rejectRainy_0 19 rfl rfl)
theorem dX2_rejectRainy_20 : decode cX2_rejectRainy 20 = .ok (.aload_n 0, 1) := dk_42 (dk_at dksX2_rejectRainy_0 20 rfl rfl)
theorem dX2_rejectRainy_21 : decode cX2_rejectRainy 21 = .ok (.getfield 21, 3) := dk_180 0 21 (dk_at dksX2_rejectRainy_0 21 rfl rfl)
theorem dX2_rejectRainy_24 : decode cX2_rejectRainy 24 = .ok (.invokevirtual 39, 3) := dk_182 0 39 (dk_at dksX2_rejectRainy_1 0 rfl rfl)
theorem dX2_rejectRainy_27 : decode cX2_rejectRainy 27 = .ok (.astore_n 3, 1) := dk_78 (dk_at dksX2_rejectRainy_1 3 rfl rfl)
theorem dX2_rejectRainy_28 : decode cX2_rejectRainy 28 = .ok (.aload_n 3, 1) := dk_45 (dk_at dksX2_rejectRainy_1 4 rfl rfl)
theorem dX2_rejectRainy_29 : decode cX2_rejectRainy 29 = .ok (.invokeinterface 43 1, 5) := by decide +kernel
theorem dX2_rejectRainy_34 : decode cX2_rejectRainy 34 = .ok (.ifCond .eq 42, 3) := dk_153 0 42 (dk_at dksX2_rejectRainy_1 10 rfl rfl)
theorem dX2_rejectRainy_37 : decode cX2_rejectRainy 37 = .ok (.aload_n 3, 1) := dk_45 (dk_at dksX2_rejectRainy_1 13 rfl rfl)
theorem dX2_rejectRainy_38 : decode cX2_rejectRainy 38 = .ok (.invokeinterface 49 1, 5) := by decide +kernel
theorem dX2_rejectRainy_43 : decode cX2_rejectRainy 43 = .ok (.checkcast 63, 3) := dk_192 0 63 (dk_at dksX2_rejectRainy_1 19 rfl rfl)
theorem dX2_rejectRainy_46 : decode cX2_rejectRainy 46 = .ok (.astore 4, 2) := dk_58 4 (dk_at dksX2_rejectRainy_1 22 rfl rfl)
theorem dX2_rejectRainy_48 : decode cX2_rejectRainy 48 = .ok (.aload 4, 2) := dk_25 4 (dk_at dksX2_rejectRainy_2 0 rfl rfl)
theorem dX2_rejectRainy_50 : decode cX2_rejectRainy 50 = .ok (.invokevirtual 72, 3) := dk_182 0 72 (dk_at dksX2_rejectRainy_2 2 rfl rfl)
theorem dX2_rejectRainy_53 : decode cX2_rejectRainy 53 = .ok (.ifCond .ne 20, 3) := dk_154 0 20 (dk_at dksX2_rejectRainy_2 5 rfl rfl)
theorem dX2_rejectRainy_56 : decode cX2_rejectRainy 56 = .ok (.aload 4, 2) := dk_25 4 (dk_at dksX2_rejectRainy_2 8 rfl rfl)
theorem dX2_rejectRainy_58 : decode cX2_rejectRainy 58 = .ok (.getfield 161, 3) := dk_180 0 161 (dk_at dksX2_rejectRainy_2 10 rfl rfl)
theorem dX2_rejectRainy_61 : decode cX2_rejectRainy 61 = .ok (.iload_n 1, 1) := dk_27 (dk_at dksX2_rejectRainy_2 13 rfl rfl)
theorem dX2_rejectRainy_62 : decode cX2_rejectRainy 62 = .ok (.if_icmp .le 11, 3) := dk_164 0 11 (dk_at dksX2_rejectRainy_2 14 rfl rfl)
theorem dX2_rejectRainy_65 : decode cX2_rejectRainy 65 = .ok (.aload_n 2, 1) := dk_44 (dk_at dksX2_rejectRainy_2 17 rfl rfl)
theorem dX2_rejectRainy_66 : decode cX2_rejectRainy 66 = .ok (.aload 4, 2) := dk_25 4 (dk_at dksX2_rejectRainy_2 18 rfl rfl)
theorem dX2_rejectRainy_68 : decode cX2_rejectRainy 68 = .ok (.invokevirtual 59, 3) := dk_182 0 59 (dk_at dksX2_rejectRainy_2 20 rfl rfl)
theorem dX2_rejectRainy_71 : decode cX2_rejectRainy 71 = .ok (.istore 5, 2) := dk_54 5 (dk_at dksX2_rejectRainy_3 0 rfl rfl)
theorem dX2_rejectRainy_73 : decode cX2_rejectRainy 73 = .ok (.goto (-45), 3) := dk_167 255 211 (dk_at dksX2_rejectRainy_3 2 rfl rfl)
theorem dX2_rejectRainy_76 : decode cX2_rejectRainy 76 = .ok (.aload_n 2, 1) := dk_44 (dk_at dksX2_rejectRainy_3 5 rfl rfl)
theorem dX2_rejectRainy_77 : decode cX2_rejectRainy 77 = .ok (.invokevirtual 39, 3) := dk_182 0 39 (dk_at dksX2_rejectRainy_3 6 rfl rfl)
theorem dX2_rejectRainy_80 : decode cX2_rejectRainy 80 = .ok (.astore_n 3, 1) := dk_78 (dk_at dksX2_rejectRainy_3 9 rfl rfl)
theorem dX2_rejectRainy_81 : decode cX2_rejectRainy 81 = .ok (.aload_n 3, 1) := dk_45 (dk_at dksX2_rejectRainy_3 10 rfl rfl)
theorem dX2_rejectRainy_82 : decode cX2_rejectRainy 82 = .ok (.invokeinterface 43 1, 5) := by decide +kernel
theorem dX2_rejectRainy_87 : decode cX2_rejectRainy 87 = .ok (.ifCond .eq 28, 3) := dk_153 0 28 (dk_at dksX2_rejectRainy_3 16 rfl rfl)
theorem dX2_rejectRainy_90 : decode cX2_rejectRainy 90 = .ok (.aload_n 3, 1) := dk_45 (dk_at dksX2_rejectRainy_3 19 rfl rfl)
theorem dX2_rejectRainy_91 : decode cX2_rejectRainy 91 = .ok (.invokeinterface 49 1, 5) := by decide +kernel
theorem dX2_rejectRainy_96 : decode cX2_rejectRainy 96 = .ok (.checkcast 63, 3) := dk_192 0 63 (dk_at dksX2_rejectRainy_4 5 rfl rfl)
theorem dX2_rejectRainy_99 : decode cX2_rejectRainy 99 = .ok (.astore 4, 2) := dk_58 4 (dk_at dksX2_rejectRainy_4 8 rfl rfl)
theorem dX2_rejectRainy_101 : decode cX2_rejectRainy 101 = .ok (.aload_n 0, 1) := dk_42 (dk_at dksX2_rejectRainy_4 10 rfl rfl)
theorem dX2_rejectRainy_102 : decode cX2_rejectRainy 102 = .ok (.aload 4, 2) := dk_25 4 (dk_at dksX2_rejectRainy_4 11 rfl rfl)
theorem dX2_rejectRainy_104 : decode cX2_rejectRainy 104 = .ok (.getfield 91, 3) := dk_180 0 91 (dk_at dksX2_rejectRainy_4 13 rfl rfl)
theorem dX2_rejectRainy_107 : decode cX2_rejectRainy 107 = .ok (.invokevirtual 198, 3) := dk_182 0 198 (dk_at dksX2_rejectRainy_4 16 rfl rfl)
theorem dX2_rejectRainy_110 : decode cX2_rejectRainy 110 = .ok (.istore 5, 2) := dk_54 5 (dk_at dksX2_rejectRainy_4 19 rfl rfl)
theorem dX2_rejectRainy_112 : decode cX2_rejectRainy 112 = .ok (.goto (-31), 3) := dk_167 255 225 (dk_at dksX2_rejectRainy_4 21 rfl rfl)
theorem dX2_rejectRainy_115 : decode cX2_rejectRainy 115 = .ok (.aload_n 2, 1) := dk_44 (dk_at dksX2_rejectRainy_5 0 rfl rfl)
theorem dX2_rejectRainy_116 : decode cX2_rejectRainy 116 = .ok (.invokevirtual 118, 3) := dk_182 0 118 (dk_at dksX2_rejectRainy_5 1 rfl rfl)
theorem dX2_rejectRainy_119 : decode cX2_rejectRainy 119 = .ok (.ireturn, 1) := dk_172 (dk_at dksX2_rejectRainy_5 4 rfl rfl)
abbrev cX2_mostHires : ByteArray := prog_3_method_33_code
def yX2_mostHires : MethodName := ⟨RX2, "mostHires", "()I"⟩
def dkwX2_mostHires_3 : List UInt8 := [167, 0, 4, 3, 96, 61, 167, 255, 201, 28, 172]
abbrev dktX2_mostHires_3 : List UInt8 := dkwX2_mostHires_3 ++ []
def dkwX2_mostHires_2 : List UInt8 := [154, 0, 30, 28, 42, 25, 4, 43, 42, 180, 0, 28, 182, 0, 118, 188, 4, 182, 0, 239, 153, 0, 7, 4]
abbrev dktX2_mostHires_2 : List UInt8 := dkwX2_mostHires_2 ++ dktX2_mostHires_3
def dkwX2_mostHires_1 : List UInt8 := [185, 0, 43, 1, 0, 153, 0, 52, 45, 185, 0, 49, 1, 0, 192, 0, 63, 58, 4, 25, 4, 182, 0, 72]
abbrev dktX2_mostHires_1 : List UInt8 := dkwX2_mostHires_1 ++ dktX2_mostHires_2
def dkwX2_mostHires_0 : List UInt8 := [42, 180, 0, 28, 182, 0, 118, 189, 0, 63, 76, 3, 61, 42, 180, 0, 21, 182, 0, 39, 78, 45]
abbrev dktX2_mostHires_0 : List UInt8 := dkwX2_mostHires_0 ++ dktX2_mostHires_1
theorem dksX2_mostHires_0 : cX2_mostHires.data.toList.drop 0 = dktX2_mostHires_0 := by decide +kernel
theorem dksX2_mostHires_1 : cX2_mostHires.data.toList.drop 22 = dktX2_mostHires_1 := dk_seg dksX2_mostHires_0 22 rfl rfl
theorem dksX2_mostHires_2 : cX2_mostHires.data.toList.drop 46 = dktX2_mostHires_2 := dk_seg dksX2_mostHires_1 24 rfl rfl
theorem dksX2_mostHires_3 : cX2_mostHires.data.toList.drop 70 = dktX2_mostHires_3 := dk_seg dksX2_mostHires_2 24 rfl rfl
theorem dX2_mostHires_0 : decode cX2_mostHires 0 = .ok (.aload_n 0, 1) := dk_42 (dk_at dksX2_mostHires_0 0 rfl rfl)
theorem dX2_mostHires_1 : decode cX2_mostHires 1 = .ok (.getfield 28, 3) := dk_180 0 28 (dk_at dksX2_mostHires_0 1 rfl rfl)
theorem dX2_mostHires_4 : decode cX2_mostHires 4 = .ok (.invokevirtual 118, 3) := dk_182 0 118 (dk_at dksX2_mostHires_0 4 rfl rfl)
theorem dX2_mostHires_7 : decode cX2_mostHires 7 = .ok (.anewarray 63, 3) := dk_189 0 63 (dk_at dksX2_mostHires_0 7 rfl rfl)
theorem dX2_mostHires_10 : decode cX2_mostHires 10 = .ok (.astore_n 1, 1) := dk_76 (dk_at dksX2_mostHires_0 10 rfl rfl)
theorem dX2_mostHires_11 : decode cX2_mostHires 11 = .ok (.iconst 0, 1) := dk_3 (dk_at dksX2_mostHires_0 11 rfl rfl)
theorem dX2_mostHires_12 : decode cX2_mostHires 12 = .ok (.istore_n 2, 1) := dk_61 (dk_at dksX2_mostHires_0 12 rfl rfl)
theorem dX2_mostHires_13 : decode cX2_mostHires 13 = .ok (.aload_n 0, 1) := dk_42 (dk_at dksX2_mostHires_0 13 rfl rfl)
theorem dX2_mostHires_14 : decode cX2_mostHires 14 = .ok (.getfield 21, 3) := dk_180 0 21 (dk_at dksX2_mostHires_0 14 rfl rfl)
theorem dX2_mostHires_17 : decode cX2_mostHires 17 = .ok (.invokevirtual 39, 3) := dk_182 0 39 (dk_at dksX2_mostHires_0 17 rfl rfl)
theorem dX2_mostHires_20 : decode cX2_mostHires 20 = .ok (.astore_n 3, 1) := dk_78 (dk_at dksX2_mostHires_0 20 rfl rfl)
theorem dX2_mostHires_21 : decode cX2_mostHires 21 = .ok (.aload_n 3, 1) := dk_45 (dk_at dksX2_mostHires_0 21 rfl rfl)
theorem dX2_mostHires_22 : decode cX2_mostHires 22 = .ok (.invokeinterface 43 1, 5) := by decide +kernel
theorem dX2_mostHires_27 : decode cX2_mostHires 27 = .ok (.ifCond .eq 52, 3) := dk_153 0 52 (dk_at dksX2_mostHires_1 5 rfl rfl)
theorem dX2_mostHires_30 : decode cX2_mostHires 30 = .ok (.aload_n 3, 1) := dk_45 (dk_at dksX2_mostHires_1 8 rfl rfl)
theorem dX2_mostHires_31 : decode cX2_mostHires 31 = .ok (.invokeinterface 49 1, 5) := by decide +kernel
theorem dX2_mostHires_36 : decode cX2_mostHires 36 = .ok (.checkcast 63, 3) := dk_192 0 63 (dk_at dksX2_mostHires_1 14 rfl rfl)
theorem dX2_mostHires_39 : decode cX2_mostHires 39 = .ok (.astore 4, 2) := dk_58 4 (dk_at dksX2_mostHires_1 17 rfl rfl)
theorem dX2_mostHires_41 : decode cX2_mostHires 41 = .ok (.aload 4, 2) := dk_25 4 (dk_at dksX2_mostHires_1 19 rfl rfl)
theorem dX2_mostHires_43 : decode cX2_mostHires 43 = .ok (.invokevirtual 72, 3) := dk_182 0 72 (dk_at dksX2_mostHires_1 21 rfl rfl)
theorem dX2_mostHires_46 : decode cX2_mostHires 46 = .ok (.ifCond .ne 30, 3) := dk_154 0 30 (dk_at dksX2_mostHires_2 0 rfl rfl)
theorem dX2_mostHires_49 : decode cX2_mostHires 49 = .ok (.iload_n 2, 1) := dk_28 (dk_at dksX2_mostHires_2 3 rfl rfl)
theorem dX2_mostHires_50 : decode cX2_mostHires 50 = .ok (.aload_n 0, 1) := dk_42 (dk_at dksX2_mostHires_2 4 rfl rfl)
theorem dX2_mostHires_51 : decode cX2_mostHires 51 = .ok (.aload 4, 2) := dk_25 4 (dk_at dksX2_mostHires_2 5 rfl rfl)
theorem dX2_mostHires_53 : decode cX2_mostHires 53 = .ok (.aload_n 1, 1) := dk_43 (dk_at dksX2_mostHires_2 7 rfl rfl)
theorem dX2_mostHires_54 : decode cX2_mostHires 54 = .ok (.aload_n 0, 1) := dk_42 (dk_at dksX2_mostHires_2 8 rfl rfl)
theorem dX2_mostHires_55 : decode cX2_mostHires 55 = .ok (.getfield 28, 3) := dk_180 0 28 (dk_at dksX2_mostHires_2 9 rfl rfl)
theorem dX2_mostHires_58 : decode cX2_mostHires 58 = .ok (.invokevirtual 118, 3) := dk_182 0 118 (dk_at dksX2_mostHires_2 12 rfl rfl)
theorem dX2_mostHires_61 : decode cX2_mostHires 61 = .ok (.newarray .boolean, 2) := dk_188_4 (dk_at dksX2_mostHires_2 15 rfl rfl)
theorem dX2_mostHires_63 : decode cX2_mostHires 63 = .ok (.invokevirtual 239, 3) := dk_182 0 239 (dk_at dksX2_mostHires_2 17 rfl rfl)
theorem dX2_mostHires_66 : decode cX2_mostHires 66 = .ok (.ifCond .eq 7, 3) := dk_153 0 7 (dk_at dksX2_mostHires_2 20 rfl rfl)
theorem dX2_mostHires_69 : decode cX2_mostHires 69 = .ok (.iconst 1, 1) := dk_4 (dk_at dksX2_mostHires_2 23 rfl rfl)
theorem dX2_mostHires_70 : decode cX2_mostHires 70 = .ok (.goto 4, 3) := dk_167 0 4 (dk_at dksX2_mostHires_3 0 rfl rfl)
theorem dX2_mostHires_73 : decode cX2_mostHires 73 = .ok (.iconst 0, 1) := dk_3 (dk_at dksX2_mostHires_3 3 rfl rfl)
theorem dX2_mostHires_74 : decode cX2_mostHires 74 = .ok (.iadd, 1) := dk_96 (dk_at dksX2_mostHires_3 4 rfl rfl)
theorem dX2_mostHires_75 : decode cX2_mostHires 75 = .ok (.istore_n 2, 1) := dk_61 (dk_at dksX2_mostHires_3 5 rfl rfl)
theorem dX2_mostHires_76 : decode cX2_mostHires 76 = .ok (.goto (-55), 3) := dk_167 255 201 (dk_at dksX2_mostHires_3 6 rfl rfl)
theorem dX2_mostHires_79 : decode cX2_mostHires 79 = .ok (.iload_n 2, 1) := dk_28 (dk_at dksX2_mostHires_3 9 rfl rfl)
theorem dX2_mostHires_80 : decode cX2_mostHires 80 = .ok (.ireturn, 1) := dk_172 (dk_at dksX2_mostHires_3 10 rfl rfl)
abbrev cX2_augment : ByteArray := prog_3_method_34_code
def yX2_augment : MethodName := ⟨RX2, "augment", "(LCloudInterviews$Applicant;[LCloudInterviews$Applicant;[Z)Z"⟩
def dkwX2_augment_3 : List UInt8 := [182, 0, 239, 153, 0, 10, 44, 21, 4, 43, 83, 4, 172, 132, 4, 1, 167, 255, 173, 3, 172]
abbrev dktX2_augment_3 : List UInt8 := dkwX2_augment_3 ++ []
def dkwX2_augment_2 : List UInt8 := [167, 0, 35, 45, 21, 4, 4, 84, 44, 21, 4, 50, 198, 0, 16, 42, 44, 21, 4, 50, 44, 45]
abbrev dktX2_augment_2 : List UInt8 := dkwX2_augment_2 ++ dktX2_augment_3
def dkwX2_augment_1 : List UInt8 := [45, 21, 4, 51, 154, 0, 55, 25, 5, 182, 0, 126, 153, 0, 47, 25, 5, 43, 182, 0, 210, 154, 0, 6]
abbrev dktX2_augment_1 : List UInt8 := dkwX2_augment_1 ++ dktX2_augment_2
def dkwX2_augment_0 : List UInt8 := [3, 54, 4, 21, 4, 44, 190, 162, 0, 82, 42, 180, 0, 28, 21, 4, 182, 0, 83, 192, 0, 53, 58, 5]
abbrev dktX2_augment_0 : List UInt8 := dkwX2_augment_0 ++ dktX2_augment_1
theorem dksX2_augment_0 : cX2_augment.data.toList.drop 0 = dktX2_augment_0 := by decide +kernel
theorem dksX2_augment_1 : cX2_augment.data.toList.drop 24 = dktX2_augment_1 := dk_seg dksX2_augment_0 24 rfl rfl
theorem dksX2_augment_2 : cX2_augment.data.toList.drop 48 = dktX2_augment_2 := dk_seg dksX2_augment_1 24 rfl rfl
theorem dksX2_augment_3 : cX2_augment.data.toList.drop 70 = dktX2_augment_3 := dk_seg dksX2_augment_2 22 rfl rfl
theorem dX2_augment_0 : decode cX2_augment 0 = .ok (.iconst 0, 1) := dk_3 (dk_at dksX2_augment_0 0 rfl rfl)
theorem dX2_augment_1 : decode cX2_augment 1 = .ok (.istore 4, 2) := dk_54 4 (dk_at dksX2_augment_0 1 rfl rfl)
theorem dX2_augment_3 : decode cX2_augment 3 = .ok (.iload 4, 2) := dk_21 4 (dk_at dksX2_augment_0 3 rfl rfl)
theorem dX2_augment_5 : decode cX2_augment 5 = .ok (.aload_n 2, 1) := dk_44 (dk_at dksX2_augment_0 5 rfl rfl)
theorem dX2_augment_6 : decode cX2_augment 6 = .ok (.arraylength, 1) := dk_190 (dk_at dksX2_augment_0 6 rfl rfl)
theorem dX2_augment_7 : decode cX2_augment 7 = .ok (.if_icmp .ge 82, 3) := dk_162 0 82 (dk_at dksX2_augment_0 7 rfl rfl)
theorem dX2_augment_10 : decode cX2_augment 10 = .ok (.aload_n 0, 1) := dk_42 (dk_at dksX2_augment_0 10 rfl rfl)
theorem dX2_augment_11 : decode cX2_augment 11 = .ok (.getfield 28, 3) := dk_180 0 28 (dk_at dksX2_augment_0 11 rfl rfl)
theorem dX2_augment_14 : decode cX2_augment 14 = .ok (.iload 4, 2) := dk_21 4 (dk_at dksX2_augment_0 14 rfl rfl)
theorem dX2_augment_16 : decode cX2_augment 16 = .ok (.invokevirtual 83, 3) := dk_182 0 83 (dk_at dksX2_augment_0 16 rfl rfl)
theorem dX2_augment_19 : decode cX2_augment 19 = .ok (.checkcast 53, 3) := dk_192 0 53 (dk_at dksX2_augment_0 19 rfl rfl)
theorem dX2_augment_22 : decode cX2_augment 22 = .ok (.astore 5, 2) := dk_58 5 (dk_at dksX2_augment_0 22 rfl rfl)
theorem dX2_augment_24 : decode cX2_augment 24 = .ok (.aload_n 3, 1) := dk_45 (dk_at dksX2_augment_1 0 rfl rfl)
theorem dX2_augment_25 : decode cX2_augment 25 = .ok (.iload 4, 2) := dk_21 4 (dk_at dksX2_augment_1 1 rfl rfl)
theorem dX2_augment_27 : decode cX2_augment 27 = .ok (.baload, 1) := dk_51 (dk_at dksX2_augment_1 3 rfl rfl)
theorem dX2_augment_28 : decode cX2_augment 28 = .ok (.ifCond .ne 55, 3) := dk_154 0 55 (dk_at dksX2_augment_1 4 rfl rfl)
theorem dX2_augment_31 : decode cX2_augment 31 = .ok (.aload 5, 2) := dk_25 5 (dk_at dksX2_augment_1 7 rfl rfl)
theorem dX2_augment_33 : decode cX2_augment 33 = .ok (.invokevirtual 126, 3) := dk_182 0 126 (dk_at dksX2_augment_1 9 rfl rfl)
theorem dX2_augment_36 : decode cX2_augment 36 = .ok (.ifCond .eq 47, 3) := dk_153 0 47 (dk_at dksX2_augment_1 12 rfl rfl)
theorem dX2_augment_39 : decode cX2_augment 39 = .ok (.aload 5, 2) := dk_25 5 (dk_at dksX2_augment_1 15 rfl rfl)
theorem dX2_augment_41 : decode cX2_augment 41 = .ok (.aload_n 1, 1) := dk_43 (dk_at dksX2_augment_1 17 rfl rfl)
theorem dX2_augment_42 : decode cX2_augment 42 = .ok (.invokevirtual 210, 3) := dk_182 0 210 (dk_at dksX2_augment_1 18 rfl rfl)
theorem dX2_augment_45 : decode cX2_augment 45 = .ok (.ifCond .ne 6, 3) := dk_154 0 6 (dk_at dksX2_augment_1 21 rfl rfl)
theorem dX2_augment_48 : decode cX2_augment 48 = .ok (.goto 35, 3) := dk_167 0 35 (dk_at dksX2_augment_2 0 rfl rfl)
theorem dX2_augment_51 : decode cX2_augment 51 = .ok (.aload_n 3, 1) := dk_45 (dk_at dksX2_augment_2 3 rfl rfl)
theorem dX2_augment_52 : decode cX2_augment 52 = .ok (.iload 4, 2) := dk_21 4 (dk_at dksX2_augment_2 4 rfl rfl)
theorem dX2_augment_54 : decode cX2_augment 54 = .ok (.iconst 1, 1) := dk_4 (dk_at dksX2_augment_2 6 rfl rfl)
theorem dX2_augment_55 : decode cX2_augment 55 = .ok (.bastore, 1) := dk_84 (dk_at dksX2_augment_2 7 rfl rfl)
theorem dX2_augment_56 : decode cX2_augment 56 = .ok (.aload_n 2, 1) := dk_44 (dk_at dksX2_augment_2 8 rfl rfl)
theorem dX2_augment_57 : decode cX2_augment 57 = .ok (.iload 4, 2) := dk_21 4 (dk_at dksX2_augment_2 9 rfl rfl)
theorem dX2_augment_59 : decode cX2_augment 59 = .ok (.aaload, 1) := dk_50 (dk_at dksX2_augment_2 11 rfl rfl)
theorem dX2_augment_60 : decode cX2_augment 60 = .ok (.ifnull 16, 3) := dk_198 0 16 (dk_at dksX2_augment_2 12 rfl rfl)
theorem dX2_augment_63 : decode cX2_augment 63 = .ok (.aload_n 0, 1) := dk_42 (dk_at dksX2_augment_2 15 rfl rfl)
theorem dX2_augment_64 : decode cX2_augment 64 = .ok (.aload_n 2, 1) := dk_44 (dk_at dksX2_augment_2 16 rfl rfl)
theorem dX2_augment_65 : decode cX2_augment 65 = .ok (.iload 4, 2) := dk_21 4 (dk_at dksX2_augment_2 17 rfl rfl)
theorem dX2_augment_67 : decode cX2_augment 67 = .ok (.aaload, 1) := dk_50 (dk_at dksX2_augment_2 19 rfl rfl)
theorem dX2_augment_68 : decode cX2_augment 68 = .ok (.aload_n 2, 1) := dk_44 (dk_at dksX2_augment_2 20 rfl rfl)
theorem dX2_augment_69 : decode cX2_augment 69 = .ok (.aload_n 3, 1) := dk_45 (dk_at dksX2_augment_2 21 rfl rfl)
theorem dX2_augment_70 : decode cX2_augment 70 = .ok (.invokevirtual 239, 3) := dk_182 0 239 (dk_at dksX2_augment_3 0 rfl rfl)
theorem dX2_augment_73 : decode cX2_augment 73 = .ok (.ifCond .eq 10, 3) := dk_153 0 10 (dk_at dksX2_augment_3 3 rfl rfl)
theorem dX2_augment_76 : decode cX2_augment 76 = .ok (.aload_n 2, 1) := dk_44 (dk_at dksX2_augment_3 6 rfl rfl)
theorem dX2_augment_77 : decode cX2_augment 77 = .ok (.iload 4, 2) := dk_21 4 (dk_at dksX2_augment_3 7 rfl rfl)
theorem dX2_augment_79 : decode cX2_augment 79 = .ok (.aload_n 1, 1) := dk_43 (dk_at dksX2_augment_3 9 rfl rfl)
theorem dX2_augment_80 : decode cX2_augment 80 = .ok (.aastore, 1) := dk_83 (dk_at dksX2_augment_3 10 rfl rfl)
theorem dX2_augment_81 : decode cX2_augment 81 = .ok (.iconst 1, 1) := dk_4 (dk_at dksX2_augment_3 11 rfl rfl)
theorem dX2_augment_82 : decode cX2_augment 82 = .ok (.ireturn, 1) := dk_172 (dk_at dksX2_augment_3 12 rfl rfl)
theorem dX2_augment_83 : decode cX2_augment 83 = .ok (.iinc 4 1, 3) := dk_132 4 1 (dk_at dksX2_augment_3 13 rfl rfl)
theorem dX2_augment_86 : decode cX2_augment 86 = .ok (.goto (-83), 3) := dk_167 255 173 (dk_at dksX2_augment_3 16 rfl rfl)
theorem dX2_augment_89 : decode cX2_augment 89 = .ok (.iconst 0, 1) := dk_3 (dk_at dksX2_augment_3 19 rfl rfl)
theorem dX2_augment_90 : decode cX2_augment 90 = .ok (.ireturn, 1) := dk_172 (dk_at dksX2_augment_3 20 rfl rfl)
abbrev cX2_mostHiresBySets : ByteArray := prog_3_method_35_code
def yX2_mostHiresBySets : MethodName := ⟨RX2, "mostHiresBySets", "()I"⟩
def dkwX2_mostHiresBySets_4 : List UInt8 := [153, 0, 14, 28, 29, 184, 0, 247, 184, 0, 250, 167, 0, 4, 28, 61, 132, 3, 1, 167, 255, 228, 28, 172]
abbrev dktX2_mostHiresBySets_4 : List UInt8 := dkwX2_mostHiresBySets_4 ++ []
def dkwX2_mostHiresBySets_3 : List UInt8 := [132, 4, 255, 167, 255, 233, 167, 255, 205, 3, 61, 3, 62, 29, 43, 190, 162, 0, 28, 43, 29, 51]
abbrev dktX2_mostHiresBySets_3 : List UInt8 := dkwX2_mostHiresBySets_3 ++ dktX2_mostHiresBySets_4
def dkwX2_mostHiresBySets_2 : List UInt8 := [54, 4, 45, 182, 0, 72, 154, 0, 22, 21, 4, 155, 0, 17, 42, 45, 21, 4, 43, 182, 0, 243]
abbrev dktX2_mostHiresBySets_2 : List UInt8 := dkwX2_mostHiresBySets_2 ++ dktX2_mostHiresBySets_3
def dkwX2_mostHiresBySets_1 : List UInt8 := [44, 185, 0, 43, 1, 0, 153, 0, 48, 44, 185, 0, 49, 1, 0, 192, 0, 63, 78, 43, 190, 4, 100]
abbrev dktX2_mostHiresBySets_1 : List UInt8 := dkwX2_mostHiresBySets_1 ++ dktX2_mostHiresBySets_2
def dkwX2_mostHiresBySets_0 : List UInt8 := [4, 42, 180, 0, 28, 182, 0, 118, 120, 188, 4, 76, 43, 3, 4, 84, 42, 180, 0, 21, 182, 0, 39, 77]
abbrev dktX2_mostHiresBySets_0 : List UInt8 := dkwX2_mostHiresBySets_0 ++ dktX2_mostHiresBySets_1
theorem dksX2_mostHiresBySets_0 : cX2_mostHiresBySets.data.toList.drop 0 = dktX2_mostHiresBySets_0 := by decide +kernel
theorem dksX2_mostHiresBySets_1 : cX2_mostHiresBySets.data.toList.drop 24 = dktX2_mostHiresBySets_1 := dk_seg dksX2_mostHiresBySets_0 24 rfl rfl
theorem dksX2_mostHiresBySets_2 : cX2_mostHiresBySets.data.toList.drop 47 = dktX2_mostHiresBySets_2 := dk_seg dksX2_mostHiresBySets_1 23 rfl rfl
theorem dksX2_mostHiresBySets_3 : cX2_mostHiresBySets.data.toList.drop 69 = dktX2_mostHiresBySets_3 := dk_seg dksX2_mostHiresBySets_2 22 rfl rfl
theorem dksX2_mostHiresBySets_4 : cX2_mostHiresBySets.data.toList.drop 91 = dktX2_mostHiresBySets_4 := dk_seg dksX2_mostHiresBySets_3 22 rfl rfl
theorem dX2_mostHiresBySets_0 : decode cX2_mostHiresBySets 0 = .ok (.iconst 1, 1) := dk_4 (dk_at dksX2_mostHiresBySets_0 0 rfl rfl)
theorem dX2_mostHiresBySets_1 : decode cX2_mostHiresBySets 1 = .ok (.aload_n 0, 1) := dk_42 (dk_at dksX2_mostHiresBySets_0 1 rfl rfl)
theorem dX2_mostHiresBySets_2 : decode cX2_mostHiresBySets 2 = .ok (.getfield 28, 3) := dk_180 0 28 (dk_at dksX2_mostHiresBySets_0 2 rfl rfl)
theorem dX2_mostHiresBySets_5 : decode cX2_mostHiresBySets 5 = .ok (.invokevirtual 118, 3) := dk_182 0 118 (dk_at dksX2_mostHiresBySets_0 5 rfl rfl)
theorem dX2_mostHiresBySets_8 : decode cX2_mostHiresBySets 8 = .ok (.ishl, 1) := dk_120 (dk_at dksX2_mostHiresBySets_0 8 rfl rfl)
theorem dX2_mostHiresBySets_9 : decode cX2_mostHiresBySets 9 = .ok (.newarray .boolean, 2) := dk_188_4 (dk_at dksX2_mostHiresBySets_0 9 rfl rfl)
theorem dX2_mostHiresBySets_11 : decode cX2_mostHiresBySets 11 = .ok (.astore_n 1, 1) := dk_76 (dk_at dksX2_mostHiresBySets_0 11 rfl rfl)
theorem dX2_mostHiresBySets_12 : decode cX2_mostHiresBySets 12 = .ok (.aload_n 1, 1) := dk_43 (dk_at dksX2_mostHiresBySets_0 12 rfl rfl)
theorem dX2_mostHiresBySets_13 : decode cX2_mostHiresBySets 13 = .ok (.iconst 0, 1) := dk_3 (dk_at dksX2_mostHiresBySets_0 13 rfl rfl)
theorem dX2_mostHiresBySets_14 : decode cX2_mostHiresBySets 14 = .ok (.iconst 1, 1) := dk_4 (dk_at dksX2_mostHiresBySets_0 14 rfl rfl)
theorem dX2_mostHiresBySets_15 : decode cX2_mostHiresBySets 15 = .ok (.bastore, 1) := dk_84 (dk_at dksX2_mostHiresBySets_0 15 rfl rfl)
theorem dX2_mostHiresBySets_16 : decode cX2_mostHiresBySets 16 = .ok (.aload_n 0, 1) := dk_42 (dk_at dksX2_mostHiresBySets_0 16 rfl rfl)
theorem dX2_mostHiresBySets_17 : decode cX2_mostHiresBySets 17 = .ok (.getfield 21, 3) := dk_180 0 21 (dk_at dksX2_mostHiresBySets_0 17 rfl rfl)
theorem dX2_mostHiresBySets_20 : decode cX2_mostHiresBySets 20 = .ok (.invokevirtual 39, 3) := dk_182 0 39 (dk_at dksX2_mostHiresBySets_0 20 rfl rfl)
theorem dX2_mostHiresBySets_23 : decode cX2_mostHiresBySets 23 = .ok (.astore_n 2, 1) := dk_77 (dk_at dksX2_mostHiresBySets_0 23 rfl rfl)
theorem dX2_mostHiresBySets_24 : decode cX2_mostHiresBySets 24 = .ok (.aload_n 2, 1) := dk_44 (dk_at dksX2_mostHiresBySets_1 0 rfl rfl)
theorem dX2_mostHiresBySets_25 : decode cX2_mostHiresBySets 25 = .ok (.invokeinterface 43 1, 5) := by decide +kernel
theorem dX2_mostHiresBySets_30 : decode cX2_mostHiresBySets 30 = .ok (.ifCond .eq 48, 3) := dk_153 0 48 (dk_at dksX2_mostHiresBySets_1 6 rfl rfl)
theorem dX2_mostHiresBySets_33 : decode cX2_mostHiresBySets 33 = .ok (.aload_n 2, 1) := dk_44 (dk_at dksX2_mostHiresBySets_1 9 rfl rfl)
theorem dX2_mostHiresBySets_34 : decode cX2_mostHiresBySets 34 = .ok (.invokeinterface 49 1, 5) := by decide +kernel
theorem dX2_mostHiresBySets_39 : decode cX2_mostHiresBySets 39 = .ok (.checkcast 63, 3) := dk_192 0 63 (dk_at dksX2_mostHiresBySets_1 15 rfl rfl)
theorem dX2_mostHiresBySets_42 : decode cX2_mostHiresBySets 42 = .ok (.astore_n 3, 1) := dk_78 (dk_at dksX2_mostHiresBySets_1 18 rfl rfl)
theorem dX2_mostHiresBySets_43 : decode cX2_mostHiresBySets 43 = .ok (.aload_n 1, 1) := dk_43 (dk_at dksX2_mostHiresBySets_1 19 rfl rfl)
theorem dX2_mostHiresBySets_44 : decode cX2_mostHiresBySets 44 = .ok (.arraylength, 1) := dk_190 (dk_at dksX2_mostHiresBySets_1 20 rfl rfl)
theorem dX2_mostHiresBySets_45 : decode cX2_mostHiresBySets 45 = .ok (.iconst 1, 1) := dk_4 (dk_at dksX2_mostHiresBySets_1 21 rfl rfl)
theorem dX2_mostHiresBySets_46 : decode cX2_mostHiresBySets 46 = .ok (.isub, 1) := dk_100 (dk_at dksX2_mostHiresBySets_1 22 rfl rfl)
theorem dX2_mostHiresBySets_47 : decode cX2_mostHiresBySets 47 = .ok (.istore 4, 2) := dk_54 4 (dk_at dksX2_mostHiresBySets_2 0 rfl rfl)
theorem dX2_mostHiresBySets_49 : decode cX2_mostHiresBySets 49 = .ok (.aload_n 3, 1) := dk_45 (dk_at dksX2_mostHiresBySets_2 2 rfl rfl)
theorem dX2_mostHiresBySets_50 : decode cX2_mostHiresBySets 50 = .ok (.invokevirtual 72, 3) := dk_182 0 72 (dk_at dksX2_mostHiresBySets_2 3 rfl rfl)
theorem dX2_mostHiresBySets_53 : decode cX2_mostHiresBySets 53 = .ok (.ifCond .ne 22, 3) := dk_154 0 22 (dk_at dksX2_mostHiresBySets_2 6 rfl rfl)
theorem dX2_mostHiresBySets_56 : decode cX2_mostHiresBySets 56 = .ok (.iload 4, 2) := dk_21 4 (dk_at dksX2_mostHiresBySets_2 9 rfl rfl)
theorem dX2_mostHiresBySets_58 : decode cX2_mostHiresBySets 58 = .ok (.ifCond .lt 17, 3) := dk_155 0 17 (dk_at dksX2_mostHiresBySets_2 11 rfl rfl)
theorem dX2_mostHiresBySets_61 : decode cX2_mostHiresBySets 61 = .ok (.aload_n 0, 1) := dk_42 (dk_at dksX2_mostHiresBySets_2 14 rfl rfl)
theorem dX2_mostHiresBySets_62 : decode cX2_mostHiresBySets 62 = .ok (.aload_n 3, 1) := dk_45 (dk_at dksX2_mostHiresBySets_2 15 rfl rfl)
theorem dX2_mostHiresBySets_63 : decode cX2_mostHiresBySets 63 = .ok (.iload 4, 2) := dk_21 4 (dk_at dksX2_mostHiresBySets_2 16 rfl rfl)
theorem dX2_mostHiresBySets_65 : decode cX2_mostHiresBySets 65 = .ok (.aload_n 1, 1) := dk_43 (dk_at dksX2_mostHiresBySets_2 18 rfl rfl)
theorem dX2_mostHiresBySets_66 : decode cX2_mostHiresBySets 66 = .ok (.invokevirtual 243, 3) := dk_182 0 243 (dk_at dksX2_mostHiresBySets_2 19 rfl rfl)
theorem dX2_mostHiresBySets_69 : decode cX2_mostHiresBySets 69 = .ok (.iinc 4 (-1), 3) := dk_132 4 255 (dk_at dksX2_mostHiresBySets_3 0 rfl rfl)
theorem dX2_mostHiresBySets_72 : decode cX2_mostHiresBySets 72 = .ok (.goto (-23), 3) := dk_167 255 233 (dk_at dksX2_mostHiresBySets_3 3 rfl rfl)
theorem dX2_mostHiresBySets_75 : decode cX2_mostHiresBySets 75 = .ok (.goto (-51), 3) := dk_167 255 205 (dk_at dksX2_mostHiresBySets_3 6 rfl rfl)
theorem dX2_mostHiresBySets_78 : decode cX2_mostHiresBySets 78 = .ok (.iconst 0, 1) := dk_3 (dk_at dksX2_mostHiresBySets_3 9 rfl rfl)
theorem dX2_mostHiresBySets_79 : decode cX2_mostHiresBySets 79 = .ok (.istore_n 2, 1) := dk_61 (dk_at dksX2_mostHiresBySets_3 10 rfl rfl)
theorem dX2_mostHiresBySets_80 : decode cX2_mostHiresBySets 80 = .ok (.iconst 0, 1) := dk_3 (dk_at dksX2_mostHiresBySets_3 11 rfl rfl)
theorem dX2_mostHiresBySets_81 : decode cX2_mostHiresBySets 81 = .ok (.istore_n 3, 1) := dk_62 (dk_at dksX2_mostHiresBySets_3 12 rfl rfl)
theorem dX2_mostHiresBySets_82 : decode cX2_mostHiresBySets 82 = .ok (.iload_n 3, 1) := dk_29 (dk_at dksX2_mostHiresBySets_3 13 rfl rfl)
theorem dX2_mostHiresBySets_83 : decode cX2_mostHiresBySets 83 = .ok (.aload_n 1, 1) := dk_43 (dk_at dksX2_mostHiresBySets_3 14 rfl rfl)
theorem dX2_mostHiresBySets_84 : decode cX2_mostHiresBySets 84 = .ok (.arraylength, 1) := dk_190 (dk_at dksX2_mostHiresBySets_3 15 rfl rfl)
theorem dX2_mostHiresBySets_85 : decode cX2_mostHiresBySets 85 = .ok (.if_icmp .ge 28, 3) := dk_162 0 28 (dk_at dksX2_mostHiresBySets_3 16 rfl rfl)
theorem dX2_mostHiresBySets_88 : decode cX2_mostHiresBySets 88 = .ok (.aload_n 1, 1) := dk_43 (dk_at dksX2_mostHiresBySets_3 19 rfl rfl)
theorem dX2_mostHiresBySets_89 : decode cX2_mostHiresBySets 89 = .ok (.iload_n 3, 1) := dk_29 (dk_at dksX2_mostHiresBySets_3 20 rfl rfl)
theorem dX2_mostHiresBySets_90 : decode cX2_mostHiresBySets 90 = .ok (.baload, 1) := dk_51 (dk_at dksX2_mostHiresBySets_3 21 rfl rfl)
theorem dX2_mostHiresBySets_91 : decode cX2_mostHiresBySets 91 = .ok (.ifCond .eq 14, 3) := dk_153 0 14 (dk_at dksX2_mostHiresBySets_4 0 rfl rfl)
theorem dX2_mostHiresBySets_94 : decode cX2_mostHiresBySets 94 = .ok (.iload_n 2, 1) := dk_28 (dk_at dksX2_mostHiresBySets_4 3 rfl rfl)
theorem dX2_mostHiresBySets_95 : decode cX2_mostHiresBySets 95 = .ok (.iload_n 3, 1) := dk_29 (dk_at dksX2_mostHiresBySets_4 4 rfl rfl)
theorem dX2_mostHiresBySets_96 : decode cX2_mostHiresBySets 96 = .ok (.invokestatic 247, 3) := dk_184 0 247 (dk_at dksX2_mostHiresBySets_4 5 rfl rfl)
theorem dX2_mostHiresBySets_99 : decode cX2_mostHiresBySets 99 = .ok (.invokestatic 250, 3) := dk_184 0 250 (dk_at dksX2_mostHiresBySets_4 8 rfl rfl)
theorem dX2_mostHiresBySets_102 : decode cX2_mostHiresBySets 102 = .ok (.goto 4, 3) := dk_167 0 4 (dk_at dksX2_mostHiresBySets_4 11 rfl rfl)
theorem dX2_mostHiresBySets_105 : decode cX2_mostHiresBySets 105 = .ok (.iload_n 2, 1) := dk_28 (dk_at dksX2_mostHiresBySets_4 14 rfl rfl)
theorem dX2_mostHiresBySets_106 : decode cX2_mostHiresBySets 106 = .ok (.istore_n 2, 1) := dk_61 (dk_at dksX2_mostHiresBySets_4 15 rfl rfl)
theorem dX2_mostHiresBySets_107 : decode cX2_mostHiresBySets 107 = .ok (.iinc 3 1, 3) := dk_132 3 1 (dk_at dksX2_mostHiresBySets_4 16 rfl rfl)
theorem dX2_mostHiresBySets_110 : decode cX2_mostHiresBySets 110 = .ok (.goto (-28), 3) := dk_167 255 228 (dk_at dksX2_mostHiresBySets_4 19 rfl rfl)
theorem dX2_mostHiresBySets_113 : decode cX2_mostHiresBySets 113 = .ok (.iload_n 2, 1) := dk_28 (dk_at dksX2_mostHiresBySets_4 22 rfl rfl)
theorem dX2_mostHiresBySets_114 : decode cX2_mostHiresBySets 114 = .ok (.ireturn, 1) := dk_172 (dk_at dksX2_mostHiresBySets_4 23 rfl rfl)
abbrev cX2_addPost : ByteArray := prog_3_method_36_code
def yX2_addPost : MethodName := ⟨RX2, "addPost", "(LCloudInterviews$Applicant;I[Z)V"⟩
def dkwX2_addPost_3 : List UInt8 := [21, 6, 153, 0, 10, 4, 21, 4, 120, 167, 0, 4, 3, 128, 4, 84, 132, 4, 1, 167, 255, 170, 177]
abbrev dktX2_addPost_3 : List UInt8 := dkwX2_addPost_3 ++ []
def dkwX2_addPost_2 : List UInt8 := [182, 0, 126, 153, 0, 16, 25, 5, 43, 182, 0, 210, 153, 0, 7, 4, 167, 0, 4, 3, 54, 6, 45, 28]
abbrev dktX2_addPost_2 : List UInt8 := dkwX2_addPost_2 ++ dktX2_addPost_3
def dkwX2_addPost_1 : List UInt8 := [180, 0, 28, 21, 4, 182, 0, 83, 192, 0, 53, 58, 5, 28, 21, 4, 122, 4, 126, 154, 0, 24, 25, 5]
abbrev dktX2_addPost_1 : List UInt8 := dkwX2_addPost_1 ++ dktX2_addPost_2
def dkwX2_addPost_0 : List UInt8 := [3, 54, 4, 45, 28, 51, 153, 0, 86, 21, 4, 42, 180, 0, 28, 182, 0, 118, 162, 0, 74, 42]
abbrev dktX2_addPost_0 : List UInt8 := dkwX2_addPost_0 ++ dktX2_addPost_1
theorem dksX2_addPost_0 : cX2_addPost.data.toList.drop 0 = dktX2_addPost_0 := by decide +kernel
theorem dksX2_addPost_1 : cX2_addPost.data.toList.drop 22 = dktX2_addPost_1 := dk_seg dksX2_addPost_0 22 rfl rfl
theorem dksX2_addPost_2 : cX2_addPost.data.toList.drop 46 = dktX2_addPost_2 := dk_seg dksX2_addPost_1 24 rfl rfl
theorem dksX2_addPost_3 : cX2_addPost.data.toList.drop 70 = dktX2_addPost_3 := dk_seg dksX2_addPost_2 24 rfl rfl
theorem dX2_addPost_0 : decode cX2_addPost 0 = .ok (.iconst 0, 1) := dk_3 (dk_at dksX2_addPost_0 0 rfl rfl)
theorem dX2_addPost_1 : decode cX2_addPost 1 = .ok (.istore 4, 2) := dk_54 4 (dk_at dksX2_addPost_0 1 rfl rfl)
theorem dX2_addPost_3 : decode cX2_addPost 3 = .ok (.aload_n 3, 1) := dk_45 (dk_at dksX2_addPost_0 3 rfl rfl)
theorem dX2_addPost_4 : decode cX2_addPost 4 = .ok (.iload_n 2, 1) := dk_28 (dk_at dksX2_addPost_0 4 rfl rfl)
theorem dX2_addPost_5 : decode cX2_addPost 5 = .ok (.baload, 1) := dk_51 (dk_at dksX2_addPost_0 5 rfl rfl)
theorem dX2_addPost_6 : decode cX2_addPost 6 = .ok (.ifCond .eq 86, 3) := dk_153 0 86 (dk_at dksX2_addPost_0 6 rfl rfl)
theorem dX2_addPost_9 : decode cX2_addPost 9 = .ok (.iload 4, 2) := dk_21 4 (dk_at dksX2_addPost_0 9 rfl rfl)
theorem dX2_addPost_11 : decode cX2_addPost 11 = .ok (.aload_n 0, 1) := dk_42 (dk_at dksX2_addPost_0 11 rfl rfl)
theorem dX2_addPost_12 : decode cX2_addPost 12 = .ok (.getfield 28, 3) := dk_180 0 28 (dk_at dksX2_addPost_0 12 rfl rfl)
theorem dX2_addPost_15 : decode cX2_addPost 15 = .ok (.invokevirtual 118, 3) := dk_182 0 118 (dk_at dksX2_addPost_0 15 rfl rfl)
theorem dX2_addPost_18 : decode cX2_addPost 18 = .ok (.if_icmp .ge 74, 3) := dk_162 0 74 (dk_at dksX2_addPost_0 18 rfl rfl)
theorem dX2_addPost_21 : decode cX2_addPost 21 = .ok (.aload_n 0, 1) := dk_42 (dk_at dksX2_addPost_0 21 rfl rfl)
theorem dX2_addPost_22 : decode cX2_addPost 22 = .ok (.getfield 28, 3) := dk_180 0 28 (dk_at dksX2_addPost_1 0 rfl rfl)
theorem dX2_addPost_25 : decode cX2_addPost 25 = .ok (.iload 4, 2) := dk_21 4 (dk_at dksX2_addPost_1 3 rfl rfl)
theorem dX2_addPost_27 : decode cX2_addPost 27 = .ok (.invokevirtual 83, 3) := dk_182 0 83 (dk_at dksX2_addPost_1 5 rfl rfl)
theorem dX2_addPost_30 : decode cX2_addPost 30 = .ok (.checkcast 53, 3) := dk_192 0 53 (dk_at dksX2_addPost_1 8 rfl rfl)
theorem dX2_addPost_33 : decode cX2_addPost 33 = .ok (.astore 5, 2) := dk_58 5 (dk_at dksX2_addPost_1 11 rfl rfl)
theorem dX2_addPost_35 : decode cX2_addPost 35 = .ok (.iload_n 2, 1) := dk_28 (dk_at dksX2_addPost_1 13 rfl rfl)
theorem dX2_addPost_36 : decode cX2_addPost 36 = .ok (.iload 4, 2) := dk_21 4 (dk_at dksX2_addPost_1 14 rfl rfl)
theorem dX2_addPost_38 : decode cX2_addPost 38 = .ok (.ishr, 1) := dk_122 (dk_at dksX2_addPost_1 16 rfl rfl)
theorem dX2_addPost_39 : decode cX2_addPost 39 = .ok (.iconst 1, 1) := dk_4 (dk_at dksX2_addPost_1 17 rfl rfl)
theorem dX2_addPost_40 : decode cX2_addPost 40 = .ok (.iand, 1) := dk_126 (dk_at dksX2_addPost_1 18 rfl rfl)
theorem dX2_addPost_41 : decode cX2_addPost 41 = .ok (.ifCond .ne 24, 3) := dk_154 0 24 (dk_at dksX2_addPost_1 19 rfl rfl)
theorem dX2_addPost_44 : decode cX2_addPost 44 = .ok (.aload 5, 2) := dk_25 5 (dk_at dksX2_addPost_1 22 rfl rfl)
theorem dX2_addPost_46 : decode cX2_addPost 46 = .ok (.invokevirtual 126, 3) := dk_182 0 126 (dk_at dksX2_addPost_2 0 rfl rfl)
theorem dX2_addPost_49 : decode cX2_addPost 49 = .ok (.ifCond .eq 16, 3) := dk_153 0 16 (dk_at dksX2_addPost_2 3 rfl rfl)
theorem dX2_addPost_52 : decode cX2_addPost 52 = .ok (.aload 5, 2) := dk_25 5 (dk_at dksX2_addPost_2 6 rfl rfl)
theorem dX2_addPost_54 : decode cX2_addPost 54 = .ok (.aload_n 1, 1) := dk_43 (dk_at dksX2_addPost_2 8 rfl rfl)
theorem dX2_addPost_55 : decode cX2_addPost 55 = .ok (.invokevirtual 210, 3) := dk_182 0 210 (dk_at dksX2_addPost_2 9 rfl rfl)
theorem dX2_addPost_58 : decode cX2_addPost 58 = .ok (.ifCond .eq 7, 3) := dk_153 0 7 (dk_at dksX2_addPost_2 12 rfl rfl)
theorem dX2_addPost_61 : decode cX2_addPost 61 = .ok (.iconst 1, 1) := dk_4 (dk_at dksX2_addPost_2 15 rfl rfl)
theorem dX2_addPost_62 : decode cX2_addPost 62 = .ok (.goto 4, 3) := dk_167 0 4 (dk_at dksX2_addPost_2 16 rfl rfl)
theorem dX2_addPost_65 : decode cX2_addPost 65 = .ok (.iconst 0, 1) := dk_3 (dk_at dksX2_addPost_2 19 rfl rfl)
theorem dX2_addPost_66 : decode cX2_addPost 66 = .ok (.istore 6, 2) := dk_54 6 (dk_at dksX2_addPost_2 20 rfl rfl)
theorem dX2_addPost_68 : decode cX2_addPost 68 = .ok (.aload_n 3, 1) := dk_45 (dk_at dksX2_addPost_2 22 rfl rfl)
theorem dX2_addPost_69 : decode cX2_addPost 69 = .ok (.iload_n 2, 1) := dk_28 (dk_at dksX2_addPost_2 23 rfl rfl)
theorem dX2_addPost_70 : decode cX2_addPost 70 = .ok (.iload 6, 2) := dk_21 6 (dk_at dksX2_addPost_3 0 rfl rfl)
theorem dX2_addPost_72 : decode cX2_addPost 72 = .ok (.ifCond .eq 10, 3) := dk_153 0 10 (dk_at dksX2_addPost_3 2 rfl rfl)
theorem dX2_addPost_75 : decode cX2_addPost 75 = .ok (.iconst 1, 1) := dk_4 (dk_at dksX2_addPost_3 5 rfl rfl)
theorem dX2_addPost_76 : decode cX2_addPost 76 = .ok (.iload 4, 2) := dk_21 4 (dk_at dksX2_addPost_3 6 rfl rfl)
theorem dX2_addPost_78 : decode cX2_addPost 78 = .ok (.ishl, 1) := dk_120 (dk_at dksX2_addPost_3 8 rfl rfl)
theorem dX2_addPost_79 : decode cX2_addPost 79 = .ok (.goto 4, 3) := dk_167 0 4 (dk_at dksX2_addPost_3 9 rfl rfl)
theorem dX2_addPost_82 : decode cX2_addPost 82 = .ok (.iconst 0, 1) := dk_3 (dk_at dksX2_addPost_3 12 rfl rfl)
theorem dX2_addPost_83 : decode cX2_addPost 83 = .ok (.ior, 1) := dk_128 (dk_at dksX2_addPost_3 13 rfl rfl)
theorem dX2_addPost_84 : decode cX2_addPost 84 = .ok (.iconst 1, 1) := dk_4 (dk_at dksX2_addPost_3 14 rfl rfl)
theorem dX2_addPost_85 : decode cX2_addPost 85 = .ok (.bastore, 1) := dk_84 (dk_at dksX2_addPost_3 15 rfl rfl)
theorem dX2_addPost_86 : decode cX2_addPost 86 = .ok (.iinc 4 1, 3) := dk_132 4 1 (dk_at dksX2_addPost_3 16 rfl rfl)
theorem dX2_addPost_89 : decode cX2_addPost 89 = .ok (.goto (-86), 3) := dk_167 255 170 (dk_at dksX2_addPost_3 19 rfl rfl)
theorem dX2_addPost_92 : decode cX2_addPost 92 = .ok (.return_, 1) := dk_177 (dk_at dksX2_addPost_3 22 rfl rfl)
abbrev cX2_blockingPairs : ByteArray := prog_3_method_38_code
def yX2_blockingPairs : MethodName := ⟨RX2, "blockingPairs", "()I"⟩
def dkwX2_blockingPairs_5 : List UInt8 := [4, 167, 0, 4, 3, 96, 60, 167, 255, 175, 167, 255, 144, 27, 172]
abbrev dktX2_blockingPairs_5 : List UInt8 := dkwX2_blockingPairs_5 ++ []
def dkwX2_blockingPairs_4 : List UInt8 := [25, 5, 45, 180, 0, 75, 165, 0, 22, 21, 6, 153, 0, 17, 42, 25, 5, 45, 182, 1, 4, 153, 0, 7]
abbrev dktX2_blockingPairs_4 : List UInt8 := dkwX2_blockingPairs_4 ++ dktX2_blockingPairs_5
def dkwX2_blockingPairs_3 : List UInt8 := [153, 0, 16, 42, 25, 5, 45, 180, 0, 75, 182, 0, 214, 153, 0, 7, 4, 167, 0, 4, 3, 54, 6, 27]
abbrev dktX2_blockingPairs_3 : List UInt8 := dkwX2_blockingPairs_3 ++ dktX2_blockingPairs_4
def dkwX2_blockingPairs_2 : List UInt8 := [185, 0, 43, 1, 0, 153, 0, 77, 25, 4, 185, 0, 49, 1, 0, 192, 0, 53, 58, 5, 45, 182, 0, 72]
abbrev dktX2_blockingPairs_2 : List UInt8 := dkwX2_blockingPairs_2 ++ dktX2_blockingPairs_3
def dkwX2_blockingPairs_1 : List UInt8 := [185, 0, 49, 1, 0, 192, 0, 63, 78, 42, 180, 0, 28, 182, 0, 39, 58, 4, 25, 4]
abbrev dktX2_blockingPairs_1 : List UInt8 := dkwX2_blockingPairs_1 ++ dktX2_blockingPairs_2
def dkwX2_blockingPairs_0 : List UInt8 := [3, 60, 42, 180, 0, 21, 182, 0, 39, 77, 44, 185, 0, 43, 1, 0, 153, 0, 109, 44]
abbrev dktX2_blockingPairs_0 : List UInt8 := dkwX2_blockingPairs_0 ++ dktX2_blockingPairs_1
theorem dksX2_blockingPairs_0 : cX2_blockingPairs.data.toList.drop 0 = dktX2_blockingPairs_0 := by decide +kernel
theorem dksX2_blockingPairs_1 : cX2_blockingPairs.data.toList.drop 20 = dktX2_blockingPairs_1 := dk_seg dksX2_blockingPairs_0 20 rfl rfl
theorem dksX2_blockingPairs_2 : cX2_blockingPairs.data.toList.drop 40 = dktX2_blockingPairs_2 := dk_seg dksX2_blockingPairs_1 20 rfl rfl
theorem dksX2_blockingPairs_3 : cX2_blockingPairs.data.toList.drop 64 = dktX2_blockingPairs_3 := dk_seg dksX2_blockingPairs_2 24 rfl rfl
theorem dksX2_blockingPairs_4 : cX2_blockingPairs.data.toList.drop 88 = dktX2_blockingPairs_4 := dk_seg dksX2_blockingPairs_3 24 rfl rfl
theorem dksX2_blockingPairs_5 : cX2_blockingPairs.data.toList.drop 112 = dktX2_blockingPairs_5 := dk_seg dksX2_blockingPairs_4 24 rfl rfl
theorem dX2_blockingPairs_0 : decode cX2_blockingPairs 0 = .ok (.iconst 0, 1) := dk_3 (dk_at dksX2_blockingPairs_0 0 rfl rfl)
theorem dX2_blockingPairs_1 : decode cX2_blockingPairs 1 = .ok (.istore_n 1, 1) := dk_60 (dk_at dksX2_blockingPairs_0 1 rfl rfl)
theorem dX2_blockingPairs_2 : decode cX2_blockingPairs 2 = .ok (.aload_n 0, 1) := dk_42 (dk_at dksX2_blockingPairs_0 2 rfl rfl)
theorem dX2_blockingPairs_3 : decode cX2_blockingPairs 3 = .ok (.getfield 21, 3) := dk_180 0 21 (dk_at dksX2_blockingPairs_0 3 rfl rfl)
theorem dX2_blockingPairs_6 : decode cX2_blockingPairs 6 = .ok (.invokevirtual 39, 3) := dk_182 0 39 (dk_at dksX2_blockingPairs_0 6 rfl rfl)
theorem dX2_blockingPairs_9 : decode cX2_blockingPairs 9 = .ok (.astore_n 2, 1) := dk_77 (dk_at dksX2_blockingPairs_0 9 rfl rfl)
theorem dX2_blockingPairs_10 : decode cX2_blockingPairs 10 = .ok (.aload_n 2, 1) := dk_44 (dk_at dksX2_blockingPairs_0 10 rfl rfl)
theorem dX2_blockingPairs_11 : decode cX2_blockingPairs 11 = .ok (.invokeinterface 43 1, 5) := by decide +kernel
theorem dX2_blockingPairs_16 : decode cX2_blockingPairs 16 = .ok (.ifCond .eq 109, 3) := dk_153 0 109 (dk_at dksX2_blockingPairs_0 16 rfl rfl)
theorem dX2_blockingPairs_19 : decode cX2_blockingPairs 19 = .ok (.aload_n 2, 1) := dk_44 (dk_at dksX2_blockingPairs_0 19 rfl rfl)
theorem dX2_blockingPairs_20 : decode cX2_blockingPairs 20 = .ok (.invokeinterface 49 1, 5) := by decide +kernel
theorem dX2_blockingPairs_25 : decode cX2_blockingPairs 25 = .ok (.checkcast 63, 3) := dk_192 0 63 (dk_at dksX2_blockingPairs_1 5 rfl rfl)
theorem dX2_blockingPairs_28 : decode cX2_blockingPairs 28 = .ok (.astore_n 3, 1) := dk_78 (dk_at dksX2_blockingPairs_1 8 rfl rfl)
theorem dX2_blockingPairs_29 : decode cX2_blockingPairs 29 = .ok (.aload_n 0, 1) := dk_42 (dk_at dksX2_blockingPairs_1 9 rfl rfl)
theorem dX2_blockingPairs_30 : decode cX2_blockingPairs 30 = .ok (.getfield 28, 3) := dk_180 0 28 (dk_at dksX2_blockingPairs_1 10 rfl rfl)
theorem dX2_blockingPairs_33 : decode cX2_blockingPairs 33 = .ok (.invokevirtual 39, 3) := dk_182 0 39 (dk_at dksX2_blockingPairs_1 13 rfl rfl)
theorem dX2_blockingPairs_36 : decode cX2_blockingPairs 36 = .ok (.astore 4, 2) := dk_58 4 (dk_at dksX2_blockingPairs_1 16 rfl rfl)
theorem dX2_blockingPairs_38 : decode cX2_blockingPairs 38 = .ok (.aload 4, 2) := dk_25 4 (dk_at dksX2_blockingPairs_1 18 rfl rfl)
theorem dX2_blockingPairs_40 : decode cX2_blockingPairs 40 = .ok (.invokeinterface 43 1, 5) := by decide +kernel
theorem dX2_blockingPairs_45 : decode cX2_blockingPairs 45 = .ok (.ifCond .eq 77, 3) := dk_153 0 77 (dk_at dksX2_blockingPairs_2 5 rfl rfl)
theorem dX2_blockingPairs_48 : decode cX2_blockingPairs 48 = .ok (.aload 4, 2) := dk_25 4 (dk_at dksX2_blockingPairs_2 8 rfl rfl)
theorem dX2_blockingPairs_50 : decode cX2_blockingPairs 50 = .ok (.invokeinterface 49 1, 5) := by decide +kernel
theorem dX2_blockingPairs_55 : decode cX2_blockingPairs 55 = .ok (.checkcast 53, 3) := dk_192 0 53 (dk_at dksX2_blockingPairs_2 15 rfl rfl)
theorem dX2_blockingPairs_58 : decode cX2_blockingPairs 58 = .ok (.astore 5, 2) := dk_58 5 (dk_at dksX2_blockingPairs_2 18 rfl rfl)
theorem dX2_blockingPairs_60 : decode cX2_blockingPairs 60 = .ok (.aload_n 3, 1) := dk_45 (dk_at dksX2_blockingPairs_2 20 rfl rfl)
theorem dX2_blockingPairs_61 : decode cX2_blockingPairs 61 = .ok (.invokevirtual 72, 3) := dk_182 0 72 (dk_at dksX2_blockingPairs_2 21 rfl rfl)
theorem dX2_blockingPairs_64 : decode cX2_blockingPairs 64 = .ok (.ifCond .eq 16, 3) := dk_153 0 16 (dk_at dksX2_blockingPairs_3 0 rfl rfl)
theorem dX2_blockingPairs_67 : decode cX2_blockingPairs 67 = .ok (.aload_n 0, 1) := dk_42 (dk_at dksX2_blockingPairs_3 3 rfl rfl)
theorem dX2_blockingPairs_68 : decode cX2_blockingPairs 68 = .ok (.aload 5, 2) := dk_25 5 (dk_at dksX2_blockingPairs_3 4 rfl rfl)
theorem dX2_blockingPairs_70 : decode cX2_blockingPairs 70 = .ok (.aload_n 3, 1) := dk_45 (dk_at dksX2_blockingPairs_3 6 rfl rfl)
theorem dX2_blockingPairs_71 : decode cX2_blockingPairs 71 = .ok (.getfield 75, 3) := dk_180 0 75 (dk_at dksX2_blockingPairs_3 7 rfl rfl)
theorem dX2_blockingPairs_74 : decode cX2_blockingPairs 74 = .ok (.invokevirtual 214, 3) := dk_182 0 214 (dk_at dksX2_blockingPairs_3 10 rfl rfl)
theorem dX2_blockingPairs_77 : decode cX2_blockingPairs 77 = .ok (.ifCond .eq 7, 3) := dk_153 0 7 (dk_at dksX2_blockingPairs_3 13 rfl rfl)
theorem dX2_blockingPairs_80 : decode cX2_blockingPairs 80 = .ok (.iconst 1, 1) := dk_4 (dk_at dksX2_blockingPairs_3 16 rfl rfl)
theorem dX2_blockingPairs_81 : decode cX2_blockingPairs 81 = .ok (.goto 4, 3) := dk_167 0 4 (dk_at dksX2_blockingPairs_3 17 rfl rfl)
theorem dX2_blockingPairs_84 : decode cX2_blockingPairs 84 = .ok (.iconst 0, 1) := dk_3 (dk_at dksX2_blockingPairs_3 20 rfl rfl)
theorem dX2_blockingPairs_85 : decode cX2_blockingPairs 85 = .ok (.istore 6, 2) := dk_54 6 (dk_at dksX2_blockingPairs_3 21 rfl rfl)
theorem dX2_blockingPairs_87 : decode cX2_blockingPairs 87 = .ok (.iload_n 1, 1) := dk_27 (dk_at dksX2_blockingPairs_3 23 rfl rfl)
theorem dX2_blockingPairs_88 : decode cX2_blockingPairs 88 = .ok (.aload 5, 2) := dk_25 5 (dk_at dksX2_blockingPairs_4 0 rfl rfl)
theorem dX2_blockingPairs_90 : decode cX2_blockingPairs 90 = .ok (.aload_n 3, 1) := dk_45 (dk_at dksX2_blockingPairs_4 2 rfl rfl)
theorem dX2_blockingPairs_91 : decode cX2_blockingPairs 91 = .ok (.getfield 75, 3) := dk_180 0 75 (dk_at dksX2_blockingPairs_4 3 rfl rfl)
theorem dX2_blockingPairs_94 : decode cX2_blockingPairs 94 = .ok (.if_acmp .eq 22, 3) := dk_165 0 22 (dk_at dksX2_blockingPairs_4 6 rfl rfl)
theorem dX2_blockingPairs_97 : decode cX2_blockingPairs 97 = .ok (.iload 6, 2) := dk_21 6 (dk_at dksX2_blockingPairs_4 9 rfl rfl)
theorem dX2_blockingPairs_99 : decode cX2_blockingPairs 99 = .ok (.ifCond .eq 17, 3) := dk_153 0 17 (dk_at dksX2_blockingPairs_4 11 rfl rfl)
theorem dX2_blockingPairs_102 : decode cX2_blockingPairs 102 = .ok (.aload_n 0, 1) := dk_42 (dk_at dksX2_blockingPairs_4 14 rfl rfl)
theorem dX2_blockingPairs_103 : decode cX2_blockingPairs 103 = .ok (.aload 5, 2) := dk_25 5 (dk_at dksX2_blockingPairs_4 15 rfl rfl)
theorem dX2_blockingPairs_105 : decode cX2_blockingPairs 105 = .ok (.aload_n 3, 1) := dk_45 (dk_at dksX2_blockingPairs_4 17 rfl rfl)
theorem dX2_blockingPairs_106 : decode cX2_blockingPairs 106 = .ok (.invokevirtual 260, 3) := dk_182 1 4 (dk_at dksX2_blockingPairs_4 18 rfl rfl)
theorem dX2_blockingPairs_109 : decode cX2_blockingPairs 109 = .ok (.ifCond .eq 7, 3) := dk_153 0 7 (dk_at dksX2_blockingPairs_4 21 rfl rfl)
theorem dX2_blockingPairs_112 : decode cX2_blockingPairs 112 = .ok (.iconst 1, 1) := dk_4 (dk_at dksX2_blockingPairs_5 0 rfl rfl)
theorem dX2_blockingPairs_113 : decode cX2_blockingPairs 113 = .ok (.goto 4, 3) := dk_167 0 4 (dk_at dksX2_blockingPairs_5 1 rfl rfl)
theorem dX2_blockingPairs_116 : decode cX2_blockingPairs 116 = .ok (.iconst 0, 1) := dk_3 (dk_at dksX2_blockingPairs_5 4 rfl rfl)
theorem dX2_blockingPairs_117 : decode cX2_blockingPairs 117 = .ok (.iadd, 1) := dk_96 (dk_at dksX2_blockingPairs_5 5 rfl rfl)
theorem dX2_blockingPairs_118 : decode cX2_blockingPairs 118 = .ok (.istore_n 1, 1) := dk_60 (dk_at dksX2_blockingPairs_5 6 rfl rfl)
theorem dX2_blockingPairs_119 : decode cX2_blockingPairs 119 = .ok (.goto (-81), 3) := dk_167 255 175 (dk_at dksX2_blockingPairs_5 7 rfl rfl)
theorem dX2_blockingPairs_122 : decode cX2_blockingPairs 122 = .ok (.goto (-112), 3) := dk_167 255 144 (dk_at dksX2_blockingPairs_5 10 rfl rfl)
theorem dX2_blockingPairs_125 : decode cX2_blockingPairs 125 = .ok (.iload_n 1, 1) := dk_27 (dk_at dksX2_blockingPairs_5 13 rfl rfl)
theorem dX2_blockingPairs_126 : decode cX2_blockingPairs 126 = .ok (.ireturn, 1) := dk_172 (dk_at dksX2_blockingPairs_5 14 rfl rfl)
abbrev cX2_wouldTake : ByteArray := prog_3_method_37_code
def yX2_wouldTake : MethodName := ⟨RX2, "wouldTake", "(LCloudInterviews$Post;LCloudInterviews$Applicant;)Z"⟩
def dkwX2_wouldTake_1 : List UInt8 := [153, 0, 7, 4, 167, 0, 4, 3, 172]
abbrev dktX2_wouldTake_1 : List UInt8 := dkwX2_wouldTake_1 ++ []
def dkwX2_wouldTake_0 : List UInt8 := [43, 44, 182, 0, 210, 153, 0, 26, 43, 182, 0, 126, 154, 0, 15, 42, 44, 43, 180, 1, 0, 182, 0, 171]
abbrev dktX2_wouldTake_0 : List UInt8 := dkwX2_wouldTake_0 ++ dktX2_wouldTake_1
theorem dksX2_wouldTake_0 : cX2_wouldTake.data.toList.drop 0 = dktX2_wouldTake_0 := by decide +kernel
theorem dksX2_wouldTake_1 : cX2_wouldTake.data.toList.drop 24 = dktX2_wouldTake_1 := dk_seg dksX2_wouldTake_0 24 rfl rfl
theorem dX2_wouldTake_0 : decode cX2_wouldTake 0 = .ok (.aload_n 1, 1) := dk_43 (dk_at dksX2_wouldTake_0 0 rfl rfl)
theorem dX2_wouldTake_1 : decode cX2_wouldTake 1 = .ok (.aload_n 2, 1) := dk_44 (dk_at dksX2_wouldTake_0 1 rfl rfl)
theorem dX2_wouldTake_2 : decode cX2_wouldTake 2 = .ok (.invokevirtual 210, 3) := dk_182 0 210 (dk_at dksX2_wouldTake_0 2 rfl rfl)
theorem dX2_wouldTake_5 : decode cX2_wouldTake 5 = .ok (.ifCond .eq 26, 3) := dk_153 0 26 (dk_at dksX2_wouldTake_0 5 rfl rfl)
theorem dX2_wouldTake_8 : decode cX2_wouldTake 8 = .ok (.aload_n 1, 1) := dk_43 (dk_at dksX2_wouldTake_0 8 rfl rfl)
theorem dX2_wouldTake_9 : decode cX2_wouldTake 9 = .ok (.invokevirtual 126, 3) := dk_182 0 126 (dk_at dksX2_wouldTake_0 9 rfl rfl)
theorem dX2_wouldTake_12 : decode cX2_wouldTake 12 = .ok (.ifCond .ne 15, 3) := dk_154 0 15 (dk_at dksX2_wouldTake_0 12 rfl rfl)
theorem dX2_wouldTake_15 : decode cX2_wouldTake 15 = .ok (.aload_n 0, 1) := dk_42 (dk_at dksX2_wouldTake_0 15 rfl rfl)
theorem dX2_wouldTake_16 : decode cX2_wouldTake 16 = .ok (.aload_n 2, 1) := dk_44 (dk_at dksX2_wouldTake_0 16 rfl rfl)
theorem dX2_wouldTake_17 : decode cX2_wouldTake 17 = .ok (.aload_n 1, 1) := dk_43 (dk_at dksX2_wouldTake_0 17 rfl rfl)
theorem dX2_wouldTake_18 : decode cX2_wouldTake 18 = .ok (.getfield 256, 3) := dk_180 1 0 (dk_at dksX2_wouldTake_0 18 rfl rfl)
theorem dX2_wouldTake_21 : decode cX2_wouldTake 21 = .ok (.invokevirtual 171, 3) := dk_182 0 171 (dk_at dksX2_wouldTake_0 21 rfl rfl)
theorem dX2_wouldTake_24 : decode cX2_wouldTake 24 = .ok (.ifCond .eq 7, 3) := dk_153 0 7 (dk_at dksX2_wouldTake_1 0 rfl rfl)
theorem dX2_wouldTake_27 : decode cX2_wouldTake 27 = .ok (.iconst 1, 1) := dk_4 (dk_at dksX2_wouldTake_1 3 rfl rfl)
theorem dX2_wouldTake_28 : decode cX2_wouldTake 28 = .ok (.goto 4, 3) := dk_167 0 4 (dk_at dksX2_wouldTake_1 4 rfl rfl)
theorem dX2_wouldTake_31 : decode cX2_wouldTake 31 = .ok (.iconst 0, 1) := dk_3 (dk_at dksX2_wouldTake_1 7 rfl rfl)
theorem dX2_wouldTake_32 : decode cX2_wouldTake 32 = .ok (.ireturn, 1) := dk_172 (dk_at dksX2_wouldTake_1 8 rfl rfl)
abbrev cX2_blockingPairsByPreference : ByteArray := prog_3_method_39_code
def yX2_blockingPairsByPreference : MethodName := ⟨RX2, "blockingPairsByPreference", "()I"⟩
def dkwX2_blockingPairsByPreference_4 : List UInt8 := [28, 172]
abbrev dktX2_blockingPairsByPreference_4 : List UInt8 := dkwX2_blockingPairsByPreference_4 ++ []
def dkwX2_blockingPairsByPreference_3 : List UInt8 := [25, 4, 182, 1, 4, 153, 0, 7, 4, 167, 0, 4, 3, 96, 61, 132, 5, 1, 167, 255, 204, 167, 255, 178]
abbrev dktX2_blockingPairsByPreference_3 : List UInt8 := dkwX2_blockingPairsByPreference_3 ++ dktX2_blockingPairsByPreference_4
def dkwX2_blockingPairsByPreference_2 : List UInt8 := [21, 5, 182, 0, 83, 25, 4, 180, 0, 75, 165, 0, 35, 28, 42, 43, 21, 5, 182, 0, 83, 192, 0, 53]
abbrev dktX2_blockingPairsByPreference_2 : List UInt8 := dkwX2_blockingPairsByPreference_2 ++ dktX2_blockingPairsByPreference_3
def dkwX2_blockingPairsByPreference_1 : List UInt8 := [45, 185, 0, 49, 1, 0, 192, 0, 63, 58, 4, 3, 54, 5, 21, 5, 43, 182, 0, 118, 162, 0, 49, 43]
abbrev dktX2_blockingPairsByPreference_1 : List UInt8 := dkwX2_blockingPairsByPreference_1 ++ dktX2_blockingPairsByPreference_2
def dkwX2_blockingPairsByPreference_0 : List UInt8 := [42, 182, 0, 231, 76, 3, 61, 42, 180, 0, 21, 182, 0, 39, 78, 45, 185, 0, 43, 1, 0, 153, 0, 75]
abbrev dktX2_blockingPairsByPreference_0 : List UInt8 := dkwX2_blockingPairsByPreference_0 ++ dktX2_blockingPairsByPreference_1
theorem dksX2_blockingPairsByPreference_0 : cX2_blockingPairsByPreference.data.toList.drop 0 = dktX2_blockingPairsByPreference_0 := by decide +kernel
theorem dksX2_blockingPairsByPreference_1 : cX2_blockingPairsByPreference.data.toList.drop 24 = dktX2_blockingPairsByPreference_1 := dk_seg dksX2_blockingPairsByPreference_0 24 rfl rfl
theorem dksX2_blockingPairsByPreference_2 : cX2_blockingPairsByPreference.data.toList.drop 48 = dktX2_blockingPairsByPreference_2 := dk_seg dksX2_blockingPairsByPreference_1 24 rfl rfl
theorem dksX2_blockingPairsByPreference_3 : cX2_blockingPairsByPreference.data.toList.drop 72 = dktX2_blockingPairsByPreference_3 := dk_seg dksX2_blockingPairsByPreference_2 24 rfl rfl
theorem dksX2_blockingPairsByPreference_4 : cX2_blockingPairsByPreference.data.toList.drop 96 = dktX2_blockingPairsByPreference_4 := dk_seg dksX2_blockingPairsByPreference_3 24 rfl rfl
theorem dX2_blockingPairsByPreference_0 : decode cX2_blockingPairsByPreference 0 = .ok (.aload_n 0, 1) := dk_42 (dk_at dksX2_blockingPairsByPreference_0 0 rfl rfl)
theorem dX2_blockingPairsByPreference_1 : decode cX2_blockingPairsByPreference 1 = .ok (.invokevirtual 231, 3) := dk_182 0 231 (dk_at dksX2_blockingPairsByPreference_0 1 rfl rfl)
theorem dX2_blockingPairsByPreference_4 : decode cX2_blockingPairsByPreference 4 = .ok (.astore_n 1, 1) := dk_76 (dk_at dksX2_blockingPairsByPreference_0 4 rfl rfl)
theorem dX2_blockingPairsByPreference_5 : decode cX2_blockingPairsByPreference 5 = .ok (.iconst 0, 1) := dk_3 (dk_at dksX2_blockingPairsByPreference_0 5 rfl rfl)
theorem dX2_blockingPairsByPreference_6 : decode cX2_blockingPairsByPreference 6 = .ok (.istore_n 2, 1) := dk_61 (dk_at dksX2_blockingPairsByPreference_0 6 rfl rfl)
theorem dX2_blockingPairsByPreference_7 : decode cX2_blockingPairsByPreference 7 = .ok (.aload_n 0, 1) := dk_42 (dk_at dksX2_blockingPairsByPreference_0 7 rfl rfl)
theorem dX2_blockingPairsByPreference_8 : decode cX2_blockingPairsByPreference 8 = .ok (.getfield 21, 3) := dk_180 0 21 (dk_at dksX2_blockingPairsByPreference_0 8 rfl rfl)
theorem dX2_blockingPairsByPreference_11 : decode cX2_blockingPairsByPreference 11 = .ok (.invokevirtual 39, 3) := dk_182 0 39 (dk_at dksX2_blockingPairsByPreference_0 11 rfl rfl)
theorem dX2_blockingPairsByPreference_14 : decode cX2_blockingPairsByPreference 14 = .ok (.astore_n 3, 1) := dk_78 (dk_at dksX2_blockingPairsByPreference_0 14 rfl rfl)
theorem dX2_blockingPairsByPreference_15 : decode cX2_blockingPairsByPreference 15 = .ok (.aload_n 3, 1) := dk_45 (dk_at dksX2_blockingPairsByPreference_0 15 rfl rfl)
theorem dX2_blockingPairsByPreference_16 : decode cX2_blockingPairsByPreference 16 = .ok (.invokeinterface 43 1, 5) := by decide +kernel
theorem dX2_blockingPairsByPreference_21 : decode cX2_blockingPairsByPreference 21 = .ok (.ifCond .eq 75, 3) := dk_153 0 75 (dk_at dksX2_blockingPairsByPreference_0 21 rfl rfl)
theorem dX2_blockingPairsByPreference_24 : decode cX2_blockingPairsByPreference 24 = .ok (.aload_n 3, 1) := dk_45 (dk_at dksX2_blockingPairsByPreference_1 0 rfl rfl)
theorem dX2_blockingPairsByPreference_25 : decode cX2_blockingPairsByPreference 25 = .ok (.invokeinterface 49 1, 5) := by decide +kernel
theorem dX2_blockingPairsByPreference_30 : decode cX2_blockingPairsByPreference 30 = .ok (.checkcast 63, 3) := dk_192 0 63 (dk_at dksX2_blockingPairsByPreference_1 6 rfl rfl)
theorem dX2_blockingPairsByPreference_33 : decode cX2_blockingPairsByPreference 33 = .ok (.astore 4, 2) := dk_58 4 (dk_at dksX2_blockingPairsByPreference_1 9 rfl rfl)
theorem dX2_blockingPairsByPreference_35 : decode cX2_blockingPairsByPreference 35 = .ok (.iconst 0, 1) := dk_3 (dk_at dksX2_blockingPairsByPreference_1 11 rfl rfl)
theorem dX2_blockingPairsByPreference_36 : decode cX2_blockingPairsByPreference 36 = .ok (.istore 5, 2) := dk_54 5 (dk_at dksX2_blockingPairsByPreference_1 12 rfl rfl)
theorem dX2_blockingPairsByPreference_38 : decode cX2_blockingPairsByPreference 38 = .ok (.iload 5, 2) := dk_21 5 (dk_at dksX2_blockingPairsByPreference_1 14 rfl rfl)
theorem dX2_blockingPairsByPreference_40 : decode cX2_blockingPairsByPreference 40 = .ok (.aload_n 1, 1) := dk_43 (dk_at dksX2_blockingPairsByPreference_1 16 rfl rfl)
theorem dX2_blockingPairsByPreference_41 : decode cX2_blockingPairsByPreference 41 = .ok (.invokevirtual 118, 3) := dk_182 0 118 (dk_at dksX2_blockingPairsByPreference_1 17 rfl rfl)
theorem dX2_blockingPairsByPreference_44 : decode cX2_blockingPairsByPreference 44 = .ok (.if_icmp .ge 49, 3) := dk_162 0 49 (dk_at dksX2_blockingPairsByPreference_1 20 rfl rfl)
theorem dX2_blockingPairsByPreference_47 : decode cX2_blockingPairsByPreference 47 = .ok (.aload_n 1, 1) := dk_43 (dk_at dksX2_blockingPairsByPreference_1 23 rfl rfl)
theorem dX2_blockingPairsByPreference_48 : decode cX2_blockingPairsByPreference 48 = .ok (.iload 5, 2) := dk_21 5 (dk_at dksX2_blockingPairsByPreference_2 0 rfl rfl)
theorem dX2_blockingPairsByPreference_50 : decode cX2_blockingPairsByPreference 50 = .ok (.invokevirtual 83, 3) := dk_182 0 83 (dk_at dksX2_blockingPairsByPreference_2 2 rfl rfl)
theorem dX2_blockingPairsByPreference_53 : decode cX2_blockingPairsByPreference 53 = .ok (.aload 4, 2) := dk_25 4 (dk_at dksX2_blockingPairsByPreference_2 5 rfl rfl)
theorem dX2_blockingPairsByPreference_55 : decode cX2_blockingPairsByPreference 55 = .ok (.getfield 75, 3) := dk_180 0 75 (dk_at dksX2_blockingPairsByPreference_2 7 rfl rfl)
theorem dX2_blockingPairsByPreference_58 : decode cX2_blockingPairsByPreference 58 = .ok (.if_acmp .eq 35, 3) := dk_165 0 35 (dk_at dksX2_blockingPairsByPreference_2 10 rfl rfl)
theorem dX2_blockingPairsByPreference_61 : decode cX2_blockingPairsByPreference 61 = .ok (.iload_n 2, 1) := dk_28 (dk_at dksX2_blockingPairsByPreference_2 13 rfl rfl)
theorem dX2_blockingPairsByPreference_62 : decode cX2_blockingPairsByPreference 62 = .ok (.aload_n 0, 1) := dk_42 (dk_at dksX2_blockingPairsByPreference_2 14 rfl rfl)
theorem dX2_blockingPairsByPreference_63 : decode cX2_blockingPairsByPreference 63 = .ok (.aload_n 1, 1) := dk_43 (dk_at dksX2_blockingPairsByPreference_2 15 rfl rfl)
theorem dX2_blockingPairsByPreference_64 : decode cX2_blockingPairsByPreference 64 = .ok (.iload 5, 2) := dk_21 5 (dk_at dksX2_blockingPairsByPreference_2 16 rfl rfl)
theorem dX2_blockingPairsByPreference_66 : decode cX2_blockingPairsByPreference 66 = .ok (.invokevirtual 83, 3) := dk_182 0 83 (dk_at dksX2_blockingPairsByPreference_2 18 rfl rfl)
theorem dX2_blockingPairsByPreference_69 : decode cX2_blockingPairsByPreference 69 = .ok (.checkcast 53, 3) := dk_192 0 53 (dk_at dksX2_blockingPairsByPreference_2 21 rfl rfl)
theorem dX2_blockingPairsByPreference_72 : decode cX2_blockingPairsByPreference 72 = .ok (.aload 4, 2) := dk_25 4 (dk_at dksX2_blockingPairsByPreference_3 0 rfl rfl)
theorem dX2_blockingPairsByPreference_74 : decode cX2_blockingPairsByPreference 74 = .ok (.invokevirtual 260, 3) := dk_182 1 4 (dk_at dksX2_blockingPairsByPreference_3 2 rfl rfl)
theorem dX2_blockingPairsByPreference_77 : decode cX2_blockingPairsByPreference 77 = .ok (.ifCond .eq 7, 3) := dk_153 0 7 (dk_at dksX2_blockingPairsByPreference_3 5 rfl rfl)
theorem dX2_blockingPairsByPreference_80 : decode cX2_blockingPairsByPreference 80 = .ok (.iconst 1, 1) := dk_4 (dk_at dksX2_blockingPairsByPreference_3 8 rfl rfl)
theorem dX2_blockingPairsByPreference_81 : decode cX2_blockingPairsByPreference 81 = .ok (.goto 4, 3) := dk_167 0 4 (dk_at dksX2_blockingPairsByPreference_3 9 rfl rfl)
theorem dX2_blockingPairsByPreference_84 : decode cX2_blockingPairsByPreference 84 = .ok (.iconst 0, 1) := dk_3 (dk_at dksX2_blockingPairsByPreference_3 12 rfl rfl)
theorem dX2_blockingPairsByPreference_85 : decode cX2_blockingPairsByPreference 85 = .ok (.iadd, 1) := dk_96 (dk_at dksX2_blockingPairsByPreference_3 13 rfl rfl)
theorem dX2_blockingPairsByPreference_86 : decode cX2_blockingPairsByPreference 86 = .ok (.istore_n 2, 1) := dk_61 (dk_at dksX2_blockingPairsByPreference_3 14 rfl rfl)
theorem dX2_blockingPairsByPreference_87 : decode cX2_blockingPairsByPreference 87 = .ok (.iinc 5 1, 3) := dk_132 5 1 (dk_at dksX2_blockingPairsByPreference_3 15 rfl rfl)
theorem dX2_blockingPairsByPreference_90 : decode cX2_blockingPairsByPreference 90 = .ok (.goto (-52), 3) := dk_167 255 204 (dk_at dksX2_blockingPairsByPreference_3 18 rfl rfl)
theorem dX2_blockingPairsByPreference_93 : decode cX2_blockingPairsByPreference 93 = .ok (.goto (-78), 3) := dk_167 255 178 (dk_at dksX2_blockingPairsByPreference_3 21 rfl rfl)
theorem dX2_blockingPairsByPreference_96 : decode cX2_blockingPairsByPreference 96 = .ok (.iload_n 2, 1) := dk_28 (dk_at dksX2_blockingPairsByPreference_4 0 rfl rfl)
theorem dX2_blockingPairsByPreference_97 : decode cX2_blockingPairsByPreference 97 = .ok (.ireturn, 1) := dk_172 (dk_at dksX2_blockingPairsByPreference_4 1 rfl rfl)
abbrev cX2_dailyWages : ByteArray := prog_3_method_43_code
def yX2_dailyWages : MethodName := ⟨RX2, "dailyWages", "()I"⟩
def dkwX2_dailyWages_2 : List UInt8 := [180, 0, 168, 96, 60, 167, 255, 219, 27, 172]
abbrev dktX2_dailyWages_2 : List UInt8 := dkwX2_dailyWages_2 ++ []
def dkwX2_dailyWages_1 : List UInt8 := [185, 0, 49, 1, 0, 192, 0, 53, 78, 27, 45, 182, 0, 126, 153, 0, 7, 3, 167, 0, 7, 45]
abbrev dktX2_dailyWages_1 : List UInt8 := dkwX2_dailyWages_1 ++ dktX2_dailyWages_2
def dkwX2_dailyWages_0 : List UInt8 := [3, 60, 42, 180, 0, 28, 182, 0, 39, 77, 44, 185, 0, 43, 1, 0, 153, 0, 34, 44]
abbrev dktX2_dailyWages_0 : List UInt8 := dkwX2_dailyWages_0 ++ dktX2_dailyWages_1
theorem dksX2_dailyWages_0 : cX2_dailyWages.data.toList.drop 0 = dktX2_dailyWages_0 := by decide +kernel
theorem dksX2_dailyWages_1 : cX2_dailyWages.data.toList.drop 20 = dktX2_dailyWages_1 := dk_seg dksX2_dailyWages_0 20 rfl rfl
theorem dksX2_dailyWages_2 : cX2_dailyWages.data.toList.drop 42 = dktX2_dailyWages_2 := dk_seg dksX2_dailyWages_1 22 rfl rfl
theorem dX2_dailyWages_0 : decode cX2_dailyWages 0 = .ok (.iconst 0, 1) := dk_3 (dk_at dksX2_dailyWages_0 0 rfl rfl)
theorem dX2_dailyWages_1 : decode cX2_dailyWages 1 = .ok (.istore_n 1, 1) := dk_60 (dk_at dksX2_dailyWages_0 1 rfl rfl)
theorem dX2_dailyWages_2 : decode cX2_dailyWages 2 = .ok (.aload_n 0, 1) := dk_42 (dk_at dksX2_dailyWages_0 2 rfl rfl)
theorem dX2_dailyWages_3 : decode cX2_dailyWages 3 = .ok (.getfield 28, 3) := dk_180 0 28 (dk_at dksX2_dailyWages_0 3 rfl rfl)
theorem dX2_dailyWages_6 : decode cX2_dailyWages 6 = .ok (.invokevirtual 39, 3) := dk_182 0 39 (dk_at dksX2_dailyWages_0 6 rfl rfl)
theorem dX2_dailyWages_9 : decode cX2_dailyWages 9 = .ok (.astore_n 2, 1) := dk_77 (dk_at dksX2_dailyWages_0 9 rfl rfl)
theorem dX2_dailyWages_10 : decode cX2_dailyWages 10 = .ok (.aload_n 2, 1) := dk_44 (dk_at dksX2_dailyWages_0 10 rfl rfl)
theorem dX2_dailyWages_11 : decode cX2_dailyWages 11 = .ok (.invokeinterface 43 1, 5) := by decide +kernel
theorem dX2_dailyWages_16 : decode cX2_dailyWages 16 = .ok (.ifCond .eq 34, 3) := dk_153 0 34 (dk_at dksX2_dailyWages_0 16 rfl rfl)
theorem dX2_dailyWages_19 : decode cX2_dailyWages 19 = .ok (.aload_n 2, 1) := dk_44 (dk_at dksX2_dailyWages_0 19 rfl rfl)
theorem dX2_dailyWages_20 : decode cX2_dailyWages 20 = .ok (.invokeinterface 49 1, 5) := by decide +kernel
theorem dX2_dailyWages_25 : decode cX2_dailyWages 25 = .ok (.checkcast 53, 3) := dk_192 0 53 (dk_at dksX2_dailyWages_1 5 rfl rfl)
theorem dX2_dailyWages_28 : decode cX2_dailyWages 28 = .ok (.astore_n 3, 1) := dk_78 (dk_at dksX2_dailyWages_1 8 rfl rfl)
theorem dX2_dailyWages_29 : decode cX2_dailyWages 29 = .ok (.iload_n 1, 1) := dk_27 (dk_at dksX2_dailyWages_1 9 rfl rfl)
theorem dX2_dailyWages_30 : decode cX2_dailyWages 30 = .ok (.aload_n 3, 1) := dk_45 (dk_at dksX2_dailyWages_1 10 rfl rfl)
theorem dX2_dailyWages_31 : decode cX2_dailyWages 31 = .ok (.invokevirtual 126, 3) := dk_182 0 126 (dk_at dksX2_dailyWages_1 11 rfl rfl)
theorem dX2_dailyWages_34 : decode cX2_dailyWages 34 = .ok (.ifCond .eq 7, 3) := dk_153 0 7 (dk_at dksX2_dailyWages_1 14 rfl rfl)
theorem dX2_dailyWages_37 : decode cX2_dailyWages 37 = .ok (.iconst 0, 1) := dk_3 (dk_at dksX2_dailyWages_1 17 rfl rfl)
theorem dX2_dailyWages_38 : decode cX2_dailyWages 38 = .ok (.goto 7, 3) := dk_167 0 7 (dk_at dksX2_dailyWages_1 18 rfl rfl)
theorem dX2_dailyWages_41 : decode cX2_dailyWages 41 = .ok (.aload_n 3, 1) := dk_45 (dk_at dksX2_dailyWages_1 21 rfl rfl)
theorem dX2_dailyWages_42 : decode cX2_dailyWages 42 = .ok (.getfield 168, 3) := dk_180 0 168 (dk_at dksX2_dailyWages_2 0 rfl rfl)
theorem dX2_dailyWages_45 : decode cX2_dailyWages 45 = .ok (.iadd, 1) := dk_96 (dk_at dksX2_dailyWages_2 3 rfl rfl)
theorem dX2_dailyWages_46 : decode cX2_dailyWages 46 = .ok (.istore_n 1, 1) := dk_60 (dk_at dksX2_dailyWages_2 4 rfl rfl)
theorem dX2_dailyWages_47 : decode cX2_dailyWages 47 = .ok (.goto (-37), 3) := dk_167 255 219 (dk_at dksX2_dailyWages_2 5 rfl rfl)
theorem dX2_dailyWages_50 : decode cX2_dailyWages 50 = .ok (.iload_n 1, 1) := dk_27 (dk_at dksX2_dailyWages_2 8 rfl rfl)
theorem dX2_dailyWages_51 : decode cX2_dailyWages 51 = .ok (.ireturn, 1) := dk_172 (dk_at dksX2_dailyWages_2 9 rfl rfl)
abbrev cX2_postsTold : ByteArray := prog_3_method_46_code
def yX2_postsTold : MethodName := ⟨RX2, "postsTold", "()Ljava/lang/String;"⟩
def dkwX2_postsTold_3 : List UInt8 := [180, 1, 0, 180, 0, 91, 182, 1, 42, 87, 167, 255, 194, 43, 182, 1, 45, 176]
abbrev dktX2_postsTold_3 : List UInt8 := dkwX2_postsTold_3 ++ []
def dkwX2_postsTold_2 : List UInt8 := [182, 1, 38, 87, 45, 182, 0, 126, 153, 0, 13, 43, 16, 45, 182, 1, 38, 87, 167, 0, 15, 43, 45]
abbrev dktX2_postsTold_2 : List UInt8 := dkwX2_postsTold_2 ++ dktX2_postsTold_3
def dkwX2_postsTold_1 : List UInt8 := [153, 0, 59, 44, 185, 0, 49, 1, 0, 192, 0, 53, 78, 43, 182, 1, 49, 158, 0, 10, 43, 16, 32]
abbrev dktX2_postsTold_1 : List UInt8 := dkwX2_postsTold_1 ++ dktX2_postsTold_2
def dkwX2_postsTold_0 : List UInt8 := [187, 1, 31, 89, 183, 1, 33, 76, 42, 180, 0, 28, 182, 0, 39, 77, 44, 185, 0, 43, 1, 0]
abbrev dktX2_postsTold_0 : List UInt8 := dkwX2_postsTold_0 ++ dktX2_postsTold_1
theorem dksX2_postsTold_0 : cX2_postsTold.data.toList.drop 0 = dktX2_postsTold_0 := by decide +kernel
theorem dksX2_postsTold_1 : cX2_postsTold.data.toList.drop 22 = dktX2_postsTold_1 := dk_seg dksX2_postsTold_0 22 rfl rfl
theorem dksX2_postsTold_2 : cX2_postsTold.data.toList.drop 45 = dktX2_postsTold_2 := dk_seg dksX2_postsTold_1 23 rfl rfl
theorem dksX2_postsTold_3 : cX2_postsTold.data.toList.drop 68 = dktX2_postsTold_3 := dk_seg dksX2_postsTold_2 23 rfl rfl
theorem dX2_postsTold_0 : decode cX2_postsTold 0 = .ok (.new 287, 3) := dk_187 1 31 (dk_at dksX2_postsTold_0 0 rfl rfl)
theorem dX2_postsTold_3 : decode cX2_postsTold 3 = .ok (.dup, 1) := dk_89 (dk_at dksX2_postsTold_0 3 rfl rfl)
theorem dX2_postsTold_4 : decode cX2_postsTold 4 = .ok (.invokespecial 289, 3) := dk_183 1 33 (dk_at dksX2_postsTold_0 4 rfl rfl)
theorem dX2_postsTold_7 : decode cX2_postsTold 7 = .ok (.astore_n 1, 1) := dk_76 (dk_at dksX2_postsTold_0 7 rfl rfl)
theorem dX2_postsTold_8 : decode cX2_postsTold 8 = .ok (.aload_n 0, 1) := dk_42 (dk_at dksX2_postsTold_0 8 rfl rfl)
theorem dX2_postsTold_9 : decode cX2_postsTold 9 = .ok (.getfield 28, 3) := dk_180 0 28 (dk_at dksX2_postsTold_0 9 rfl rfl)
theorem dX2_postsTold_12 : decode cX2_postsTold 12 = .ok (.invokevirtual 39, 3) := dk_182 0 39 (dk_at dksX2_postsTold_0 12 rfl rfl)
theorem dX2_postsTold_15 : decode cX2_postsTold 15 = .ok (.astore_n 2, 1) := dk_77 (dk_at dksX2_postsTold_0 15 rfl rfl)
theorem dX2_postsTold_16 : decode cX2_postsTold 16 = .ok (.aload_n 2, 1) := dk_44 (dk_at dksX2_postsTold_0 16 rfl rfl)
theorem dX2_postsTold_17 : decode cX2_postsTold 17 = .ok (.invokeinterface 43 1, 5) := by decide +kernel
theorem dX2_postsTold_22 : decode cX2_postsTold 22 = .ok (.ifCond .eq 59, 3) := dk_153 0 59 (dk_at dksX2_postsTold_1 0 rfl rfl)
theorem dX2_postsTold_25 : decode cX2_postsTold 25 = .ok (.aload_n 2, 1) := dk_44 (dk_at dksX2_postsTold_1 3 rfl rfl)
theorem dX2_postsTold_26 : decode cX2_postsTold 26 = .ok (.invokeinterface 49 1, 5) := by decide +kernel
theorem dX2_postsTold_31 : decode cX2_postsTold 31 = .ok (.checkcast 53, 3) := dk_192 0 53 (dk_at dksX2_postsTold_1 9 rfl rfl)
theorem dX2_postsTold_34 : decode cX2_postsTold 34 = .ok (.astore_n 3, 1) := dk_78 (dk_at dksX2_postsTold_1 12 rfl rfl)
theorem dX2_postsTold_35 : decode cX2_postsTold 35 = .ok (.aload_n 1, 1) := dk_43 (dk_at dksX2_postsTold_1 13 rfl rfl)
theorem dX2_postsTold_36 : decode cX2_postsTold 36 = .ok (.invokevirtual 305, 3) := dk_182 1 49 (dk_at dksX2_postsTold_1 14 rfl rfl)
theorem dX2_postsTold_39 : decode cX2_postsTold 39 = .ok (.ifCond .le 10, 3) := dk_158 0 10 (dk_at dksX2_postsTold_1 17 rfl rfl)
theorem dX2_postsTold_42 : decode cX2_postsTold 42 = .ok (.aload_n 1, 1) := dk_43 (dk_at dksX2_postsTold_1 20 rfl rfl)
theorem dX2_postsTold_43 : decode cX2_postsTold 43 = .ok (.bipush 32, 2) := dk_16 32 (dk_at dksX2_postsTold_1 21 rfl rfl)
theorem dX2_postsTold_45 : decode cX2_postsTold 45 = .ok (.invokevirtual 294, 3) := dk_182 1 38 (dk_at dksX2_postsTold_2 0 rfl rfl)
theorem dX2_postsTold_48 : decode cX2_postsTold 48 = .ok (.pop, 1) := dk_87 (dk_at dksX2_postsTold_2 3 rfl rfl)
theorem dX2_postsTold_49 : decode cX2_postsTold 49 = .ok (.aload_n 3, 1) := dk_45 (dk_at dksX2_postsTold_2 4 rfl rfl)
theorem dX2_postsTold_50 : decode cX2_postsTold 50 = .ok (.invokevirtual 126, 3) := dk_182 0 126 (dk_at dksX2_postsTold_2 5 rfl rfl)
theorem dX2_postsTold_53 : decode cX2_postsTold 53 = .ok (.ifCond .eq 13, 3) := dk_153 0 13 (dk_at dksX2_postsTold_2 8 rfl rfl)
theorem dX2_postsTold_56 : decode cX2_postsTold 56 = .ok (.aload_n 1, 1) := dk_43 (dk_at dksX2_postsTold_2 11 rfl rfl)
theorem dX2_postsTold_57 : decode cX2_postsTold 57 = .ok (.bipush 45, 2) := dk_16 45 (dk_at dksX2_postsTold_2 12 rfl rfl)
theorem dX2_postsTold_59 : decode cX2_postsTold 59 = .ok (.invokevirtual 294, 3) := dk_182 1 38 (dk_at dksX2_postsTold_2 14 rfl rfl)
theorem dX2_postsTold_62 : decode cX2_postsTold 62 = .ok (.pop, 1) := dk_87 (dk_at dksX2_postsTold_2 17 rfl rfl)
theorem dX2_postsTold_63 : decode cX2_postsTold 63 = .ok (.goto 15, 3) := dk_167 0 15 (dk_at dksX2_postsTold_2 18 rfl rfl)
theorem dX2_postsTold_66 : decode cX2_postsTold 66 = .ok (.aload_n 1, 1) := dk_43 (dk_at dksX2_postsTold_2 21 rfl rfl)
theorem dX2_postsTold_67 : decode cX2_postsTold 67 = .ok (.aload_n 3, 1) := dk_45 (dk_at dksX2_postsTold_2 22 rfl rfl)
theorem dX2_postsTold_68 : decode cX2_postsTold 68 = .ok (.getfield 256, 3) := dk_180 1 0 (dk_at dksX2_postsTold_3 0 rfl rfl)
theorem dX2_postsTold_71 : decode cX2_postsTold 71 = .ok (.getfield 91, 3) := dk_180 0 91 (dk_at dksX2_postsTold_3 3 rfl rfl)
theorem dX2_postsTold_74 : decode cX2_postsTold 74 = .ok (.invokevirtual 298, 3) := dk_182 1 42 (dk_at dksX2_postsTold_3 6 rfl rfl)
theorem dX2_postsTold_77 : decode cX2_postsTold 77 = .ok (.pop, 1) := dk_87 (dk_at dksX2_postsTold_3 9 rfl rfl)
theorem dX2_postsTold_78 : decode cX2_postsTold 78 = .ok (.goto (-62), 3) := dk_167 255 194 (dk_at dksX2_postsTold_3 10 rfl rfl)
theorem dX2_postsTold_81 : decode cX2_postsTold 81 = .ok (.aload_n 1, 1) := dk_43 (dk_at dksX2_postsTold_3 13 rfl rfl)
theorem dX2_postsTold_82 : decode cX2_postsTold 82 = .ok (.invokevirtual 301, 3) := dk_182 1 45 (dk_at dksX2_postsTold_3 14 rfl rfl)
theorem dX2_postsTold_85 : decode cX2_postsTold 85 = .ok (.areturn, 1) := dk_176 (dk_at dksX2_postsTold_3 17 rfl rfl)
abbrev cX2_isConsistent : ByteArray := prog_3_method_44_code
def yX2_isConsistent : MethodName := ⟨RX2, "isConsistent", "()Z"⟩
def dkwX2_isConsistent_3 : List UInt8 := [182, 0, 210, 153, 0, 7, 4, 167, 0, 4, 3, 126, 60, 167, 255, 211, 27, 172]
abbrev dktX2_isConsistent_3 : List UInt8 := dkwX2_isConsistent_3 ++ []
def dkwX2_isConsistent_2 : List UInt8 := [185, 0, 49, 1, 0, 192, 0, 53, 78, 27, 45, 182, 0, 126, 154, 0, 14, 45, 45, 180, 1, 0]
abbrev dktX2_isConsistent_2 : List UInt8 := dkwX2_isConsistent_2 ++ dktX2_isConsistent_3
def dkwX2_isConsistent_1 : List UInt8 := [167, 0, 4, 3, 60, 42, 180, 0, 28, 182, 0, 39, 77, 44, 185, 0, 43, 1, 0, 153, 0, 42, 44]
abbrev dktX2_isConsistent_1 : List UInt8 := dkwX2_isConsistent_1 ++ dktX2_isConsistent_2
def dkwX2_isConsistent_0 : List UInt8 := [42, 182, 1, 19, 42, 182, 1, 22, 160, 0, 18, 42, 182, 1, 25, 42, 182, 1, 28, 160, 0, 7, 4]
abbrev dktX2_isConsistent_0 : List UInt8 := dkwX2_isConsistent_0 ++ dktX2_isConsistent_1
theorem dksX2_isConsistent_0 : cX2_isConsistent.data.toList.drop 0 = dktX2_isConsistent_0 := by decide +kernel
theorem dksX2_isConsistent_1 : cX2_isConsistent.data.toList.drop 23 = dktX2_isConsistent_1 := dk_seg dksX2_isConsistent_0 23 rfl rfl
theorem dksX2_isConsistent_2 : cX2_isConsistent.data.toList.drop 46 = dktX2_isConsistent_2 := dk_seg dksX2_isConsistent_1 23 rfl rfl
theorem dksX2_isConsistent_3 : cX2_isConsistent.data.toList.drop 68 = dktX2_isConsistent_3 := dk_seg dksX2_isConsistent_2 22 rfl rfl
theorem dX2_isConsistent_0 : decode cX2_isConsistent 0 = .ok (.aload_n 0, 1) := dk_42 (dk_at dksX2_isConsistent_0 0 rfl rfl)
theorem dX2_isConsistent_1 : decode cX2_isConsistent 1 = .ok (.invokevirtual 275, 3) := dk_182 1 19 (dk_at dksX2_isConsistent_0 1 rfl rfl)
theorem dX2_isConsistent_4 : decode cX2_isConsistent 4 = .ok (.aload_n 0, 1) := dk_42 (dk_at dksX2_isConsistent_0 4 rfl rfl)
theorem dX2_isConsistent_5 : decode cX2_isConsistent 5 = .ok (.invokevirtual 278, 3) := dk_182 1 22 (dk_at dksX2_isConsistent_0 5 rfl rfl)
theorem dX2_isConsistent_8 : decode cX2_isConsistent 8 = .ok (.if_icmp .ne 18, 3) := dk_160 0 18 (dk_at dksX2_isConsistent_0 8 rfl rfl)
theorem dX2_isConsistent_11 : decode cX2_isConsistent 11 = .ok (.aload_n 0, 1) := dk_42 (dk_at dksX2_isConsistent_0 11 rfl rfl)
theorem dX2_isConsistent_12 : decode cX2_isConsistent 12 = .ok (.invokevirtual 281, 3) := dk_182 1 25 (dk_at dksX2_isConsistent_0 12 rfl rfl)
theorem dX2_isConsistent_15 : decode cX2_isConsistent 15 = .ok (.aload_n 0, 1) := dk_42 (dk_at dksX2_isConsistent_0 15 rfl rfl)
theorem dX2_isConsistent_16 : decode cX2_isConsistent 16 = .ok (.invokevirtual 284, 3) := dk_182 1 28 (dk_at dksX2_isConsistent_0 16 rfl rfl)
theorem dX2_isConsistent_19 : decode cX2_isConsistent 19 = .ok (.if_icmp .ne 7, 3) := dk_160 0 7 (dk_at dksX2_isConsistent_0 19 rfl rfl)
theorem dX2_isConsistent_22 : decode cX2_isConsistent 22 = .ok (.iconst 1, 1) := dk_4 (dk_at dksX2_isConsistent_0 22 rfl rfl)
theorem dX2_isConsistent_23 : decode cX2_isConsistent 23 = .ok (.goto 4, 3) := dk_167 0 4 (dk_at dksX2_isConsistent_1 0 rfl rfl)
theorem dX2_isConsistent_26 : decode cX2_isConsistent 26 = .ok (.iconst 0, 1) := dk_3 (dk_at dksX2_isConsistent_1 3 rfl rfl)
theorem dX2_isConsistent_27 : decode cX2_isConsistent 27 = .ok (.istore_n 1, 1) := dk_60 (dk_at dksX2_isConsistent_1 4 rfl rfl)
theorem dX2_isConsistent_28 : decode cX2_isConsistent 28 = .ok (.aload_n 0, 1) := dk_42 (dk_at dksX2_isConsistent_1 5 rfl rfl)
theorem dX2_isConsistent_29 : decode cX2_isConsistent 29 = .ok (.getfield 28, 3) := dk_180 0 28 (dk_at dksX2_isConsistent_1 6 rfl rfl)
theorem dX2_isConsistent_32 : decode cX2_isConsistent 32 = .ok (.invokevirtual 39, 3) := dk_182 0 39 (dk_at dksX2_isConsistent_1 9 rfl rfl)
theorem dX2_isConsistent_35 : decode cX2_isConsistent 35 = .ok (.astore_n 2, 1) := dk_77 (dk_at dksX2_isConsistent_1 12 rfl rfl)
theorem dX2_isConsistent_36 : decode cX2_isConsistent 36 = .ok (.aload_n 2, 1) := dk_44 (dk_at dksX2_isConsistent_1 13 rfl rfl)
theorem dX2_isConsistent_37 : decode cX2_isConsistent 37 = .ok (.invokeinterface 43 1, 5) := by decide +kernel
theorem dX2_isConsistent_42 : decode cX2_isConsistent 42 = .ok (.ifCond .eq 42, 3) := dk_153 0 42 (dk_at dksX2_isConsistent_1 19 rfl rfl)
theorem dX2_isConsistent_45 : decode cX2_isConsistent 45 = .ok (.aload_n 2, 1) := dk_44 (dk_at dksX2_isConsistent_1 22 rfl rfl)
theorem dX2_isConsistent_46 : decode cX2_isConsistent 46 = .ok (.invokeinterface 49 1, 5) := by decide +kernel
theorem dX2_isConsistent_51 : decode cX2_isConsistent 51 = .ok (.checkcast 53, 3) := dk_192 0 53 (dk_at dksX2_isConsistent_2 5 rfl rfl)
theorem dX2_isConsistent_54 : decode cX2_isConsistent 54 = .ok (.astore_n 3, 1) := dk_78 (dk_at dksX2_isConsistent_2 8 rfl rfl)
theorem dX2_isConsistent_55 : decode cX2_isConsistent 55 = .ok (.iload_n 1, 1) := dk_27 (dk_at dksX2_isConsistent_2 9 rfl rfl)
theorem dX2_isConsistent_56 : decode cX2_isConsistent 56 = .ok (.aload_n 3, 1) := dk_45 (dk_at dksX2_isConsistent_2 10 rfl rfl)
theorem dX2_isConsistent_57 : decode cX2_isConsistent 57 = .ok (.invokevirtual 126, 3) := dk_182 0 126 (dk_at dksX2_isConsistent_2 11 rfl rfl)
theorem dX2_isConsistent_60 : decode cX2_isConsistent 60 = .ok (.ifCond .ne 14, 3) := dk_154 0 14 (dk_at dksX2_isConsistent_2 14 rfl rfl)
theorem dX2_isConsistent_63 : decode cX2_isConsistent 63 = .ok (.aload_n 3, 1) := dk_45 (dk_at dksX2_isConsistent_2 17 rfl rfl)
theorem dX2_isConsistent_64 : decode cX2_isConsistent 64 = .ok (.aload_n 3, 1) := dk_45 (dk_at dksX2_isConsistent_2 18 rfl rfl)
theorem dX2_isConsistent_65 : decode cX2_isConsistent 65 = .ok (.getfield 256, 3) := dk_180 1 0 (dk_at dksX2_isConsistent_2 19 rfl rfl)
theorem dX2_isConsistent_68 : decode cX2_isConsistent 68 = .ok (.invokevirtual 210, 3) := dk_182 0 210 (dk_at dksX2_isConsistent_3 0 rfl rfl)
theorem dX2_isConsistent_71 : decode cX2_isConsistent 71 = .ok (.ifCond .eq 7, 3) := dk_153 0 7 (dk_at dksX2_isConsistent_3 3 rfl rfl)
theorem dX2_isConsistent_74 : decode cX2_isConsistent 74 = .ok (.iconst 1, 1) := dk_4 (dk_at dksX2_isConsistent_3 6 rfl rfl)
theorem dX2_isConsistent_75 : decode cX2_isConsistent 75 = .ok (.goto 4, 3) := dk_167 0 4 (dk_at dksX2_isConsistent_3 7 rfl rfl)
theorem dX2_isConsistent_78 : decode cX2_isConsistent 78 = .ok (.iconst 0, 1) := dk_3 (dk_at dksX2_isConsistent_3 10 rfl rfl)
theorem dX2_isConsistent_79 : decode cX2_isConsistent 79 = .ok (.iand, 1) := dk_126 (dk_at dksX2_isConsistent_3 11 rfl rfl)
theorem dX2_isConsistent_80 : decode cX2_isConsistent 80 = .ok (.istore_n 1, 1) := dk_60 (dk_at dksX2_isConsistent_3 12 rfl rfl)
theorem dX2_isConsistent_81 : decode cX2_isConsistent 81 = .ok (.goto (-45), 3) := dk_167 255 211 (dk_at dksX2_isConsistent_3 13 rfl rfl)
theorem dX2_isConsistent_84 : decode cX2_isConsistent 84 = .ok (.iload_n 1, 1) := dk_27 (dk_at dksX2_isConsistent_3 16 rfl rfl)
theorem dX2_isConsistent_85 : decode cX2_isConsistent 85 = .ok (.ireturn, 1) := dk_172 (dk_at dksX2_isConsistent_3 17 rfl rfl)
abbrev cX2_byScore : ByteArray := prog_3_method_18_code
def yX2_byScore : MethodName := ⟨RX2, "byScore", "(I)I"⟩
def dkwX2_byScore_5 : List UInt8 := [28, 61, 167, 255, 162, 28, 172]
abbrev dktX2_byScore_5 : List UInt8 := dkwX2_byScore_5 ++ []
def dkwX2_byScore_4 : List UInt8 := [167, 0, 4, 3, 96, 54, 5, 167, 255, 213, 21, 5, 27, 160, 0, 11, 25, 4, 180, 0, 91, 167, 0, 4]
abbrev dktX2_byScore_4 : List UInt8 := dkwX2_byScore_4 ++ dktX2_byScore_5
def dkwX2_byScore_3 : List UInt8 := [185, 0, 49, 1, 0, 192, 0, 63, 58, 7, 21, 5, 42, 25, 7, 25, 4, 182, 0, 171, 153, 0, 7, 4]
abbrev dktX2_byScore_3 : List UInt8 := dkwX2_byScore_3 ++ dktX2_byScore_4
def dkwX2_byScore_2 : List UInt8 := [180, 0, 21, 182, 0, 39, 58, 6, 25, 6, 185, 0, 43, 1, 0, 153, 0, 39, 25, 6]
abbrev dktX2_byScore_2 : List UInt8 := dkwX2_byScore_2 ++ dktX2_byScore_3
def dkwX2_byScore_1 : List UInt8 := [185, 0, 43, 1, 0, 153, 0, 91, 45, 185, 0, 49, 1, 0, 192, 0, 63, 58, 4, 3, 54, 5, 42]
abbrev dktX2_byScore_1 : List UInt8 := dkwX2_byScore_1 ++ dktX2_byScore_2
def dkwX2_byScore_0 : List UInt8 := [27, 42, 180, 0, 21, 182, 0, 118, 184, 0, 122, 2, 61, 42, 180, 0, 21, 182, 0, 39, 78, 45]
abbrev dktX2_byScore_0 : List UInt8 := dkwX2_byScore_0 ++ dktX2_byScore_1
theorem dksX2_byScore_0 : cX2_byScore.data.toList.drop 0 = dktX2_byScore_0 := by decide +kernel
theorem dksX2_byScore_1 : cX2_byScore.data.toList.drop 22 = dktX2_byScore_1 := dk_seg dksX2_byScore_0 22 rfl rfl
theorem dksX2_byScore_2 : cX2_byScore.data.toList.drop 45 = dktX2_byScore_2 := dk_seg dksX2_byScore_1 23 rfl rfl
theorem dksX2_byScore_3 : cX2_byScore.data.toList.drop 65 = dktX2_byScore_3 := dk_seg dksX2_byScore_2 20 rfl rfl
theorem dksX2_byScore_4 : cX2_byScore.data.toList.drop 89 = dktX2_byScore_4 := dk_seg dksX2_byScore_3 24 rfl rfl
theorem dksX2_byScore_5 : cX2_byScore.data.toList.drop 113 = dktX2_byScore_5 := dk_seg dksX2_byScore_4 24 rfl rfl
theorem dX2_byScore_0 : decode cX2_byScore 0 = .ok (.iload_n 1, 1) := dk_27 (dk_at dksX2_byScore_0 0 rfl rfl)
theorem dX2_byScore_1 : decode cX2_byScore 1 = .ok (.aload_n 0, 1) := dk_42 (dk_at dksX2_byScore_0 1 rfl rfl)
theorem dX2_byScore_2 : decode cX2_byScore 2 = .ok (.getfield 21, 3) := dk_180 0 21 (dk_at dksX2_byScore_0 2 rfl rfl)
theorem dX2_byScore_5 : decode cX2_byScore 5 = .ok (.invokevirtual 118, 3) := dk_182 0 118 (dk_at dksX2_byScore_0 5 rfl rfl)
theorem dX2_byScore_8 : decode cX2_byScore 8 = .ok (.invokestatic 122, 3) := dk_184 0 122 (dk_at dksX2_byScore_0 8 rfl rfl)
theorem dX2_byScore_11 : decode cX2_byScore 11 = .ok (.iconst (-1), 1) := dk_2 (dk_at dksX2_byScore_0 11 rfl rfl)
theorem dX2_byScore_12 : decode cX2_byScore 12 = .ok (.istore_n 2, 1) := dk_61 (dk_at dksX2_byScore_0 12 rfl rfl)
theorem dX2_byScore_13 : decode cX2_byScore 13 = .ok (.aload_n 0, 1) := dk_42 (dk_at dksX2_byScore_0 13 rfl rfl)
theorem dX2_byScore_14 : decode cX2_byScore 14 = .ok (.getfield 21, 3) := dk_180 0 21 (dk_at dksX2_byScore_0 14 rfl rfl)
theorem dX2_byScore_17 : decode cX2_byScore 17 = .ok (.invokevirtual 39, 3) := dk_182 0 39 (dk_at dksX2_byScore_0 17 rfl rfl)
theorem dX2_byScore_20 : decode cX2_byScore 20 = .ok (.astore_n 3, 1) := dk_78 (dk_at dksX2_byScore_0 20 rfl rfl)
theorem dX2_byScore_21 : decode cX2_byScore 21 = .ok (.aload_n 3, 1) := dk_45 (dk_at dksX2_byScore_0 21 rfl rfl)
theorem dX2_byScore_22 : decode cX2_byScore 22 = .ok (.invokeinterface 43 1, 5) := by decide +kernel
theorem dX2_byScore_27 : decode cX2_byScore 27 = .ok (.ifCond .eq 91, 3) := dk_153 0 91 (dk_at dksX2_byScore_1 5 rfl rfl)
theorem dX2_byScore_30 : decode cX2_byScore 30 = .ok (.aload_n 3, 1) := dk_45 (dk_at dksX2_byScore_1 8 rfl rfl)
theorem dX2_byScore_31 : decode cX2_byScore 31 = .ok (.invokeinterface 49 1, 5) := by decide +kernel
theorem dX2_byScore_36 : decode cX2_byScore 36 = .ok (.checkcast 63, 3) := dk_192 0 63 (dk_at dksX2_byScore_1 14 rfl rfl)
theorem dX2_byScore_39 : decode cX2_byScore 39 = .ok (.astore 4, 2) := dk_58 4 (dk_at dksX2_byScore_1 17 rfl rfl)
theorem dX2_byScore_41 : decode cX2_byScore 41 = .ok (.iconst 0, 1) := dk_3 (dk_at dksX2_byScore_1 19 rfl rfl)
theorem dX2_byScore_42 : decode cX2_byScore 42 = .ok (.istore 5, 2) := dk_54 5 (dk_at dksX2_byScore_1 20 rfl rfl)
theorem dX2_byScore_44 : decode cX2_byScore 44 = .ok (.aload_n 0, 1) := dk_42 (dk_at dksX2_byScore_1 22 rfl rfl)
theorem dX2_byScore_45 : decode cX2_byScore 45 = .ok (.getfield 21, 3) := dk_180 0 21 (dk_at dksX2_byScore_2 0 rfl rfl)
theorem dX2_byScore_48 : decode cX2_byScore 48 = .ok (.invokevirtual 39, 3) := dk_182 0 39 (dk_at dksX2_byScore_2 3 rfl rfl)
theorem dX2_byScore_51 : decode cX2_byScore 51 = .ok (.astore 6, 2) := dk_58 6 (dk_at dksX2_byScore_2 6 rfl rfl)
theorem dX2_byScore_53 : decode cX2_byScore 53 = .ok (.aload 6, 2) := dk_25 6 (dk_at dksX2_byScore_2 8 rfl rfl)
theorem dX2_byScore_55 : decode cX2_byScore 55 = .ok (.invokeinterface 43 1, 5) := by decide +kernel
theorem dX2_byScore_60 : decode cX2_byScore 60 = .ok (.ifCond .eq 39, 3) := dk_153 0 39 (dk_at dksX2_byScore_2 15 rfl rfl)
theorem dX2_byScore_63 : decode cX2_byScore 63 = .ok (.aload 6, 2) := dk_25 6 (dk_at dksX2_byScore_2 18 rfl rfl)
theorem dX2_byScore_65 : decode cX2_byScore 65 = .ok (.invokeinterface 49 1, 5) := by decide +kernel
theorem dX2_byScore_70 : decode cX2_byScore 70 = .ok (.checkcast 63, 3) := dk_192 0 63 (dk_at dksX2_byScore_3 5 rfl rfl)
theorem dX2_byScore_73 : decode cX2_byScore 73 = .ok (.astore 7, 2) := dk_58 7 (dk_at dksX2_byScore_3 8 rfl rfl)
theorem dX2_byScore_75 : decode cX2_byScore 75 = .ok (.iload 5, 2) := dk_21 5 (dk_at dksX2_byScore_3 10 rfl rfl)
theorem dX2_byScore_77 : decode cX2_byScore 77 = .ok (.aload_n 0, 1) := dk_42 (dk_at dksX2_byScore_3 12 rfl rfl)
theorem dX2_byScore_78 : decode cX2_byScore 78 = .ok (.aload 7, 2) := dk_25 7 (dk_at dksX2_byScore_3 13 rfl rfl)
theorem dX2_byScore_80 : decode cX2_byScore 80 = .ok (.aload 4, 2) := dk_25 4 (dk_at dksX2_byScore_3 15 rfl rfl)
theorem dX2_byScore_82 : decode cX2_byScore 82 = .ok (.invokevirtual 171, 3) := dk_182 0 171 (dk_at dksX2_byScore_3 17 rfl rfl)
theorem dX2_byScore_85 : decode cX2_byScore 85 = .ok (.ifCond .eq 7, 3) := dk_153 0 7 (dk_at dksX2_byScore_3 20 rfl rfl)
theorem dX2_byScore_88 : decode cX2_byScore 88 = .ok (.iconst 1, 1) := dk_4 (dk_at dksX2_byScore_3 23 rfl rfl)
theorem dX2_byScore_89 : decode cX2_byScore 89 = .ok (.goto 4, 3) := dk_167 0 4 (dk_at dksX2_byScore_4 0 rfl rfl)
theorem dX2_byScore_92 : decode cX2_byScore 92 = .ok (.iconst 0, 1) := dk_3 (dk_at dksX2_byScore_4 3 rfl rfl)
theorem dX2_byScore_93 : decode cX2_byScore 93 = .ok (.iadd, 1) := dk_96 (dk_at dksX2_byScore_4 4 rfl rfl)
theorem dX2_byScore_94 : decode cX2_byScore 94 = .ok (.istore 5, 2) := dk_54 5 (dk_at dksX2_byScore_4 5 rfl rfl)
theorem dX2_byScore_96 : decode cX2_byScore 96 = .ok (.goto (-43), 3) := dk_167 255 213 (dk_at dksX2_byScore_4 7 rfl rfl)
theorem dX2_byScore_99 : decode cX2_byScore 99 = .ok (.iload 5, 2) := dk_21 5 (dk_at dksX2_byScore_4 10 rfl rfl)
theorem dX2_byScore_101 : decode cX2_byScore 101 = .ok (.iload_n 1, 1) := dk_27 (dk_at dksX2_byScore_4 12 rfl rfl)
theorem dX2_byScore_102 : decode cX2_byScore 102 = .ok (.if_icmp .ne 11, 3) := dk_160 0 11 (dk_at dksX2_byScore_4 13 rfl rfl)
theorem dX2_byScore_105 : decode cX2_byScore 105 = .ok (.aload 4, 2) := dk_25 4 (dk_at dksX2_byScore_4 16 rfl rfl)
theorem dX2_byScore_107 : decode cX2_byScore 107 = .ok (.getfield 91, 3) := dk_180 0 91 (dk_at dksX2_byScore_4 18 rfl rfl)
theorem dX2_byScore_110 : decode cX2_byScore 110 = .ok (.goto 4, 3) := dk_167 0 4 (dk_at dksX2_byScore_4 21 rfl rfl)
theorem dX2_byScore_113 : decode cX2_byScore 113 = .ok (.iload_n 2, 1) := dk_28 (dk_at dksX2_byScore_5 0 rfl rfl)
theorem dX2_byScore_114 : decode cX2_byScore 114 = .ok (.istore_n 2, 1) := dk_61 (dk_at dksX2_byScore_5 1 rfl rfl)
theorem dX2_byScore_115 : decode cX2_byScore 115 = .ok (.goto (-94), 3) := dk_167 255 162 (dk_at dksX2_byScore_5 2 rfl rfl)
theorem dX2_byScore_118 : decode cX2_byScore 118 = .ok (.iload_n 2, 1) := dk_28 (dk_at dksX2_byScore_5 5 rfl rfl)
theorem dX2_byScore_119 : decode cX2_byScore 119 = .ok (.ireturn, 1) := dk_172 (dk_at dksX2_byScore_5 6 rfl rfl)
abbrev cX2_referencesFrom : ByteArray := prog_3_method_12_code
def yX2_referencesFrom : MethodName := ⟨RX2, "referencesFrom", "(I)I"⟩
def dkwX2_referencesFrom_2 : List UInt8 := [4, 167, 0, 4, 3, 96, 61, 167, 255, 215, 28, 172]
abbrev dktX2_referencesFrom_2 : List UInt8 := dkwX2_referencesFrom_2 ++ []
def dkwX2_referencesFrom_1 : List UInt8 := [185, 0, 49, 1, 0, 192, 0, 63, 58, 4, 28, 42, 27, 25, 4, 180, 0, 91, 182, 0, 94, 153, 0, 7]
abbrev dktX2_referencesFrom_1 : List UInt8 := dkwX2_referencesFrom_1 ++ dktX2_referencesFrom_2
def dkwX2_referencesFrom_0 : List UInt8 := [3, 61, 42, 180, 0, 21, 182, 0, 39, 78, 45, 185, 0, 43, 1, 0, 153, 0, 38, 45]
abbrev dktX2_referencesFrom_0 : List UInt8 := dkwX2_referencesFrom_0 ++ dktX2_referencesFrom_1
theorem dksX2_referencesFrom_0 : cX2_referencesFrom.data.toList.drop 0 = dktX2_referencesFrom_0 := by decide +kernel
theorem dksX2_referencesFrom_1 : cX2_referencesFrom.data.toList.drop 20 = dktX2_referencesFrom_1 := dk_seg dksX2_referencesFrom_0 20 rfl rfl
theorem dksX2_referencesFrom_2 : cX2_referencesFrom.data.toList.drop 44 = dktX2_referencesFrom_2 := dk_seg dksX2_referencesFrom_1 24 rfl rfl
theorem dX2_referencesFrom_0 : decode cX2_referencesFrom 0 = .ok (.iconst 0, 1) := dk_3 (dk_at dksX2_referencesFrom_0 0 rfl rfl)
theorem dX2_referencesFrom_1 : decode cX2_referencesFrom 1 = .ok (.istore_n 2, 1) := dk_61 (dk_at dksX2_referencesFrom_0 1 rfl rfl)
theorem dX2_referencesFrom_2 : decode cX2_referencesFrom 2 = .ok (.aload_n 0, 1) := dk_42 (dk_at dksX2_referencesFrom_0 2 rfl rfl)
theorem dX2_referencesFrom_3 : decode cX2_referencesFrom 3 = .ok (.getfield 21, 3) := dk_180 0 21 (dk_at dksX2_referencesFrom_0 3 rfl rfl)
theorem dX2_referencesFrom_6 : decode cX2_referencesFrom 6 = .ok (.invokevirtual 39, 3) := dk_182 0 39 (dk_at dksX2_referencesFrom_0 6 rfl rfl)
theorem dX2_referencesFrom_9 : decode cX2_referencesFrom 9 = .ok (.astore_n 3, 1) := dk_78 (dk_at dksX2_referencesFrom_0 9 rfl rfl)
theorem dX2_referencesFrom_10 : decode cX2_referencesFrom 10 = .ok (.aload_n 3, 1) := dk_45 (dk_at dksX2_referencesFrom_0 10 rfl rfl)
theorem dX2_referencesFrom_11 : decode cX2_referencesFrom 11 = .ok (.invokeinterface 43 1, 5) := by decide +kernel
theorem dX2_referencesFrom_16 : decode cX2_referencesFrom 16 = .ok (.ifCond .eq 38, 3) := dk_153 0 38 (dk_at dksX2_referencesFrom_0 16 rfl rfl)
theorem dX2_referencesFrom_19 : decode cX2_referencesFrom 19 = .ok (.aload_n 3, 1) := dk_45 (dk_at dksX2_referencesFrom_0 19 rfl rfl)
theorem dX2_referencesFrom_20 : decode cX2_referencesFrom 20 = .ok (.invokeinterface 49 1, 5) := by decide +kernel
theorem dX2_referencesFrom_25 : decode cX2_referencesFrom 25 = .ok (.checkcast 63, 3) := dk_192 0 63 (dk_at dksX2_referencesFrom_1 5 rfl rfl)
theorem dX2_referencesFrom_28 : decode cX2_referencesFrom 28 = .ok (.astore 4, 2) := dk_58 4 (dk_at dksX2_referencesFrom_1 8 rfl rfl)
theorem dX2_referencesFrom_30 : decode cX2_referencesFrom 30 = .ok (.iload_n 2, 1) := dk_28 (dk_at dksX2_referencesFrom_1 10 rfl rfl)
theorem dX2_referencesFrom_31 : decode cX2_referencesFrom 31 = .ok (.aload_n 0, 1) := dk_42 (dk_at dksX2_referencesFrom_1 11 rfl rfl)
theorem dX2_referencesFrom_32 : decode cX2_referencesFrom 32 = .ok (.iload_n 1, 1) := dk_27 (dk_at dksX2_referencesFrom_1 12 rfl rfl)
theorem dX2_referencesFrom_33 : decode cX2_referencesFrom 33 = .ok (.aload 4, 2) := dk_25 4 (dk_at dksX2_referencesFrom_1 13 rfl rfl)
theorem dX2_referencesFrom_35 : decode cX2_referencesFrom 35 = .ok (.getfield 91, 3) := dk_180 0 91 (dk_at dksX2_referencesFrom_1 15 rfl rfl)
theorem dX2_referencesFrom_38 : decode cX2_referencesFrom 38 = .ok (.invokevirtual 94, 3) := dk_182 0 94 (dk_at dksX2_referencesFrom_1 18 rfl rfl)
theorem dX2_referencesFrom_41 : decode cX2_referencesFrom 41 = .ok (.ifCond .eq 7, 3) := dk_153 0 7 (dk_at dksX2_referencesFrom_1 21 rfl rfl)
theorem dX2_referencesFrom_44 : decode cX2_referencesFrom 44 = .ok (.iconst 1, 1) := dk_4 (dk_at dksX2_referencesFrom_2 0 rfl rfl)
theorem dX2_referencesFrom_45 : decode cX2_referencesFrom 45 = .ok (.goto 4, 3) := dk_167 0 4 (dk_at dksX2_referencesFrom_2 1 rfl rfl)
theorem dX2_referencesFrom_48 : decode cX2_referencesFrom 48 = .ok (.iconst 0, 1) := dk_3 (dk_at dksX2_referencesFrom_2 4 rfl rfl)
theorem dX2_referencesFrom_49 : decode cX2_referencesFrom 49 = .ok (.iadd, 1) := dk_96 (dk_at dksX2_referencesFrom_2 5 rfl rfl)
theorem dX2_referencesFrom_50 : decode cX2_referencesFrom 50 = .ok (.istore_n 2, 1) := dk_61 (dk_at dksX2_referencesFrom_2 6 rfl rfl)
theorem dX2_referencesFrom_51 : decode cX2_referencesFrom 51 = .ok (.goto (-41), 3) := dk_167 255 215 (dk_at dksX2_referencesFrom_2 7 rfl rfl)
theorem dX2_referencesFrom_54 : decode cX2_referencesFrom 54 = .ok (.iload_n 2, 1) := dk_28 (dk_at dksX2_referencesFrom_2 10 rfl rfl)
theorem dX2_referencesFrom_55 : decode cX2_referencesFrom 55 = .ok (.ireturn, 1) := dk_172 (dk_at dksX2_referencesFrom_2 11 rfl rfl)
abbrev cX2_favourite : ByteArray := prog_3_method_24_code
def yX2_favourite : MethodName := ⟨RX2, "favourite", "(LCloudInterviews$Applicant;)LCloudInterviews$Post;"⟩
def dkwX2_favourite_3 : List UInt8 := [167, 0, 4, 44, 77, 167, 255, 194, 44, 176]
abbrev dktX2_favourite_3 : List UInt8 := dkwX2_favourite_3 ++ []
def dkwX2_favourite_2 : List UInt8 := [25, 4, 44, 182, 0, 214, 153, 0, 7, 4, 167, 0, 4, 3, 54, 5, 21, 5, 153, 0, 8, 25, 4]
abbrev dktX2_favourite_2 : List UInt8 := dkwX2_favourite_2 ++ dktX2_favourite_3
def dkwX2_favourite_1 : List UInt8 := [185, 0, 49, 1, 0, 192, 0, 53, 58, 4, 25, 4, 43, 182, 0, 210, 153, 0, 21, 44, 198, 0, 13, 42]
abbrev dktX2_favourite_1 : List UInt8 := dkwX2_favourite_1 ++ dktX2_favourite_2
def dkwX2_favourite_0 : List UInt8 := [1, 77, 42, 180, 0, 28, 182, 0, 39, 78, 45, 185, 0, 43, 1, 0, 153, 0, 59, 45]
abbrev dktX2_favourite_0 : List UInt8 := dkwX2_favourite_0 ++ dktX2_favourite_1
theorem dksX2_favourite_0 : cX2_favourite.data.toList.drop 0 = dktX2_favourite_0 := by decide +kernel
theorem dksX2_favourite_1 : cX2_favourite.data.toList.drop 20 = dktX2_favourite_1 := dk_seg dksX2_favourite_0 20 rfl rfl
theorem dksX2_favourite_2 : cX2_favourite.data.toList.drop 44 = dktX2_favourite_2 := dk_seg dksX2_favourite_1 24 rfl rfl
theorem dksX2_favourite_3 : cX2_favourite.data.toList.drop 67 = dktX2_favourite_3 := dk_seg dksX2_favourite_2 23 rfl rfl
theorem dX2_favourite_0 : decode cX2_favourite 0 = .ok (.aconst_null, 1) := dk_1 (dk_at dksX2_favourite_0 0 rfl rfl)
theorem dX2_favourite_1 : decode cX2_favourite 1 = .ok (.astore_n 2, 1) := dk_77 (dk_at dksX2_favourite_0 1 rfl rfl)
theorem dX2_favourite_2 : decode cX2_favourite 2 = .ok (.aload_n 0, 1) := dk_42 (dk_at dksX2_favourite_0 2 rfl rfl)
theorem dX2_favourite_3 : decode cX2_favourite 3 = .ok (.getfield 28, 3) := dk_180 0 28 (dk_at dksX2_favourite_0 3 rfl rfl)
theorem dX2_favourite_6 : decode cX2_favourite 6 = .ok (.invokevirtual 39, 3) := dk_182 0 39 (dk_at dksX2_favourite_0 6 rfl rfl)
theorem dX2_favourite_9 : decode cX2_favourite 9 = .ok (.astore_n 3, 1) := dk_78 (dk_at dksX2_favourite_0 9 rfl rfl)
theorem dX2_favourite_10 : decode cX2_favourite 10 = .ok (.aload_n 3, 1) := dk_45 (dk_at dksX2_favourite_0 10 rfl rfl)
theorem dX2_favourite_11 : decode cX2_favourite 11 = .ok (.invokeinterface 43 1, 5) := by decide +kernel
theorem dX2_favourite_16 : decode cX2_favourite 16 = .ok (.ifCond .eq 59, 3) := dk_153 0 59 (dk_at dksX2_favourite_0 16 rfl rfl)
theorem dX2_favourite_19 : decode cX2_favourite 19 = .ok (.aload_n 3, 1) := dk_45 (dk_at dksX2_favourite_0 19 rfl rfl)
theorem dX2_favourite_20 : decode cX2_favourite 20 = .ok (.invokeinterface 49 1, 5) := by decide +kernel
theorem dX2_favourite_25 : decode cX2_favourite 25 = .ok (.checkcast 53, 3) := dk_192 0 53 (dk_at dksX2_favourite_1 5 rfl rfl)
theorem dX2_favourite_28 : decode cX2_favourite 28 = .ok (.astore 4, 2) := dk_58 4 (dk_at dksX2_favourite_1 8 rfl rfl)
theorem dX2_favourite_30 : decode cX2_favourite 30 = .ok (.aload 4, 2) := dk_25 4 (dk_at dksX2_favourite_1 10 rfl rfl)
theorem dX2_favourite_32 : decode cX2_favourite 32 = .ok (.aload_n 1, 1) := dk_43 (dk_at dksX2_favourite_1 12 rfl rfl)
theorem dX2_favourite_33 : decode cX2_favourite 33 = .ok (.invokevirtual 210, 3) := dk_182 0 210 (dk_at dksX2_favourite_1 13 rfl rfl)
theorem dX2_favourite_36 : decode cX2_favourite 36 = .ok (.ifCond .eq 21, 3) := dk_153 0 21 (dk_at dksX2_favourite_1 16 rfl rfl)
theorem dX2_favourite_39 : decode cX2_favourite 39 = .ok (.aload_n 2, 1) := dk_44 (dk_at dksX2_favourite_1 19 rfl rfl)
theorem dX2_favourite_40 : decode cX2_favourite 40 = .ok (.ifnull 13, 3) := dk_198 0 13 (dk_at dksX2_favourite_1 20 rfl rfl)
theorem dX2_favourite_43 : decode cX2_favourite 43 = .ok (.aload_n 0, 1) := dk_42 (dk_at dksX2_favourite_1 23 rfl rfl)
theorem dX2_favourite_44 : decode cX2_favourite 44 = .ok (.aload 4, 2) := dk_25 4 (dk_at dksX2_favourite_2 0 rfl rfl)
theorem dX2_favourite_46 : decode cX2_favourite 46 = .ok (.aload_n 2, 1) := dk_44 (dk_at dksX2_favourite_2 2 rfl rfl)
theorem dX2_favourite_47 : decode cX2_favourite 47 = .ok (.invokevirtual 214, 3) := dk_182 0 214 (dk_at dksX2_favourite_2 3 rfl rfl)
theorem dX2_favourite_50 : decode cX2_favourite 50 = .ok (.ifCond .eq 7, 3) := dk_153 0 7 (dk_at dksX2_favourite_2 6 rfl rfl)
theorem dX2_favourite_53 : decode cX2_favourite 53 = .ok (.iconst 1, 1) := dk_4 (dk_at dksX2_favourite_2 9 rfl rfl)
theorem dX2_favourite_54 : decode cX2_favourite 54 = .ok (.goto 4, 3) := dk_167 0 4 (dk_at dksX2_favourite_2 10 rfl rfl)
theorem dX2_favourite_57 : decode cX2_favourite 57 = .ok (.iconst 0, 1) := dk_3 (dk_at dksX2_favourite_2 13 rfl rfl)
theorem dX2_favourite_58 : decode cX2_favourite 58 = .ok (.istore 5, 2) := dk_54 5 (dk_at dksX2_favourite_2 14 rfl rfl)
theorem dX2_favourite_60 : decode cX2_favourite 60 = .ok (.iload 5, 2) := dk_21 5 (dk_at dksX2_favourite_2 16 rfl rfl)
theorem dX2_favourite_62 : decode cX2_favourite 62 = .ok (.ifCond .eq 8, 3) := dk_153 0 8 (dk_at dksX2_favourite_2 18 rfl rfl)
theorem dX2_favourite_65 : decode cX2_favourite 65 = .ok (.aload 4, 2) := dk_25 4 (dk_at dksX2_favourite_2 21 rfl rfl)
theorem dX2_favourite_67 : decode cX2_favourite 67 = .ok (.goto 4, 3) := dk_167 0 4 (dk_at dksX2_favourite_3 0 rfl rfl)
theorem dX2_favourite_70 : decode cX2_favourite 70 = .ok (.aload_n 2, 1) := dk_44 (dk_at dksX2_favourite_3 3 rfl rfl)
theorem dX2_favourite_71 : decode cX2_favourite 71 = .ok (.astore_n 2, 1) := dk_77 (dk_at dksX2_favourite_3 4 rfl rfl)
theorem dX2_favourite_72 : decode cX2_favourite 72 = .ok (.goto (-62), 3) := dk_167 255 194 (dk_at dksX2_favourite_3 5 rfl rfl)
theorem dX2_favourite_75 : decode cX2_favourite 75 = .ok (.aload_n 2, 1) := dk_44 (dk_at dksX2_favourite_3 8 rfl rfl)
theorem dX2_favourite_76 : decode cX2_favourite 76 = .ok (.areturn, 1) := dk_176 (dk_at dksX2_favourite_3 9 rfl rfl)
abbrev cX2_candidates : ByteArray := prog_3_method_26_code
def yX2_candidates : MethodName := ⟨RX2, "candidates", "(LCloudInterviews$Post;)I"⟩
def dkwX2_candidates_2 : List UInt8 := [182, 0, 210, 153, 0, 7, 4, 167, 0, 4, 3, 96, 61, 167, 255, 211, 28, 172]
abbrev dktX2_candidates_2 : List UInt8 := dkwX2_candidates_2 ++ []
def dkwX2_candidates_1 : List UInt8 := [185, 0, 49, 1, 0, 192, 0, 63, 58, 4, 28, 25, 4, 182, 0, 72, 154, 0, 16, 43, 25, 4]
abbrev dktX2_candidates_1 : List UInt8 := dkwX2_candidates_1 ++ dktX2_candidates_2
def dkwX2_candidates_0 : List UInt8 := [3, 61, 42, 180, 0, 21, 182, 0, 39, 78, 45, 185, 0, 43, 1, 0, 153, 0, 42, 45]
abbrev dktX2_candidates_0 : List UInt8 := dkwX2_candidates_0 ++ dktX2_candidates_1
theorem dksX2_candidates_0 : cX2_candidates.data.toList.drop 0 = dktX2_candidates_0 := by decide +kernel
theorem dksX2_candidates_1 : cX2_candidates.data.toList.drop 20 = dktX2_candidates_1 := dk_seg dksX2_candidates_0 20 rfl rfl
theorem dksX2_candidates_2 : cX2_candidates.data.toList.drop 42 = dktX2_candidates_2 := dk_seg dksX2_candidates_1 22 rfl rfl
theorem dX2_candidates_0 : decode cX2_candidates 0 = .ok (.iconst 0, 1) := dk_3 (dk_at dksX2_candidates_0 0 rfl rfl)
theorem dX2_candidates_1 : decode cX2_candidates 1 = .ok (.istore_n 2, 1) := dk_61 (dk_at dksX2_candidates_0 1 rfl rfl)
theorem dX2_candidates_2 : decode cX2_candidates 2 = .ok (.aload_n 0, 1) := dk_42 (dk_at dksX2_candidates_0 2 rfl rfl)
theorem dX2_candidates_3 : decode cX2_candidates 3 = .ok (.getfield 21, 3) := dk_180 0 21 (dk_at dksX2_candidates_0 3 rfl rfl)
theorem dX2_candidates_6 : decode cX2_candidates 6 = .ok (.invokevirtual 39, 3) := dk_182 0 39 (dk_at dksX2_candidates_0 6 rfl rfl)
theorem dX2_candidates_9 : decode cX2_candidates 9 = .ok (.astore_n 3, 1) := dk_78 (dk_at dksX2_candidates_0 9 rfl rfl)
theorem dX2_candidates_10 : decode cX2_candidates 10 = .ok (.aload_n 3, 1) := dk_45 (dk_at dksX2_candidates_0 10 rfl rfl)
theorem dX2_candidates_11 : decode cX2_candidates 11 = .ok (.invokeinterface 43 1, 5) := by decide +kernel
theorem dX2_candidates_16 : decode cX2_candidates 16 = .ok (.ifCond .eq 42, 3) := dk_153 0 42 (dk_at dksX2_candidates_0 16 rfl rfl)
theorem dX2_candidates_19 : decode cX2_candidates 19 = .ok (.aload_n 3, 1) := dk_45 (dk_at dksX2_candidates_0 19 rfl rfl)
theorem dX2_candidates_20 : decode cX2_candidates 20 = .ok (.invokeinterface 49 1, 5) := by decide +kernel
theorem dX2_candidates_25 : decode cX2_candidates 25 = .ok (.checkcast 63, 3) := dk_192 0 63 (dk_at dksX2_candidates_1 5 rfl rfl)
theorem dX2_candidates_28 : decode cX2_candidates 28 = .ok (.astore 4, 2) := dk_58 4 (dk_at dksX2_candidates_1 8 rfl rfl)
theorem dX2_candidates_30 : decode cX2_candidates 30 = .ok (.iload_n 2, 1) := dk_28 (dk_at dksX2_candidates_1 10 rfl rfl)
theorem dX2_candidates_31 : decode cX2_candidates 31 = .ok (.aload 4, 2) := dk_25 4 (dk_at dksX2_candidates_1 11 rfl rfl)
theorem dX2_candidates_33 : decode cX2_candidates 33 = .ok (.invokevirtual 72, 3) := dk_182 0 72 (dk_at dksX2_candidates_1 13 rfl rfl)
theorem dX2_candidates_36 : decode cX2_candidates 36 = .ok (.ifCond .ne 16, 3) := dk_154 0 16 (dk_at dksX2_candidates_1 16 rfl rfl)
theorem dX2_candidates_39 : decode cX2_candidates 39 = .ok (.aload_n 1, 1) := dk_43 (dk_at dksX2_candidates_1 19 rfl rfl)
theorem dX2_candidates_40 : decode cX2_candidates 40 = .ok (.aload 4, 2) := dk_25 4 (dk_at dksX2_candidates_1 20 rfl rfl)
theorem dX2_candidates_42 : decode cX2_candidates 42 = .ok (.invokevirtual 210, 3) := dk_182 0 210 (dk_at dksX2_candidates_2 0 rfl rfl)
theorem dX2_candidates_45 : decode cX2_candidates 45 = .ok (.ifCond .eq 7, 3) := dk_153 0 7 (dk_at dksX2_candidates_2 3 rfl rfl)
theorem dX2_candidates_48 : decode cX2_candidates 48 = .ok (.iconst 1, 1) := dk_4 (dk_at dksX2_candidates_2 6 rfl rfl)
theorem dX2_candidates_49 : decode cX2_candidates 49 = .ok (.goto 4, 3) := dk_167 0 4 (dk_at dksX2_candidates_2 7 rfl rfl)
theorem dX2_candidates_52 : decode cX2_candidates 52 = .ok (.iconst 0, 1) := dk_3 (dk_at dksX2_candidates_2 10 rfl rfl)
theorem dX2_candidates_53 : decode cX2_candidates 53 = .ok (.iadd, 1) := dk_96 (dk_at dksX2_candidates_2 11 rfl rfl)
theorem dX2_candidates_54 : decode cX2_candidates 54 = .ok (.istore_n 2, 1) := dk_61 (dk_at dksX2_candidates_2 12 rfl rfl)
theorem dX2_candidates_55 : decode cX2_candidates 55 = .ok (.goto (-45), 3) := dk_167 255 211 (dk_at dksX2_candidates_2 13 rfl rfl)
theorem dX2_candidates_58 : decode cX2_candidates 58 = .ok (.iload_n 2, 1) := dk_28 (dk_at dksX2_candidates_2 16 rfl rfl)
theorem dX2_candidates_59 : decode cX2_candidates 59 = .ok (.ireturn, 1) := dk_172 (dk_at dksX2_candidates_2 17 rfl rfl)
abbrev cX2_daysUntilDismissal : ByteArray := prog_3_method_42_code
def yX2_daysUntilDismissal : MethodName := ⟨RX2, "daysUntilDismissal", "(I)I"⟩
def dkwX2_daysUntilDismissal_2 : List UInt8 := [96, 172]
abbrev dktX2_daysUntilDismissal_2 : List UInt8 := dkwX2_daysUntilDismissal_2 ++ []
def dkwX2_daysUntilDismissal_1 : List UInt8 := [162, 0, 7, 4, 167, 0, 4, 3, 184, 0, 114, 44, 180, 0, 75, 180, 1, 16, 44, 180, 0, 161, 100, 4]
abbrev dktX2_daysUntilDismissal_1 : List UInt8 := dkwX2_daysUntilDismissal_1 ++ dktX2_daysUntilDismissal_2
def dkwX2_daysUntilDismissal_0 : List UInt8 := [42, 27, 182, 0, 144, 77, 44, 182, 0, 72, 153, 0, 19, 44, 180, 0, 75, 180, 1, 16, 16, 50]
abbrev dktX2_daysUntilDismissal_0 : List UInt8 := dkwX2_daysUntilDismissal_0 ++ dktX2_daysUntilDismissal_1
theorem dksX2_daysUntilDismissal_0 : cX2_daysUntilDismissal.data.toList.drop 0 = dktX2_daysUntilDismissal_0 := by decide +kernel
theorem dksX2_daysUntilDismissal_1 : cX2_daysUntilDismissal.data.toList.drop 22 = dktX2_daysUntilDismissal_1 := dk_seg dksX2_daysUntilDismissal_0 22 rfl rfl
theorem dksX2_daysUntilDismissal_2 : cX2_daysUntilDismissal.data.toList.drop 46 = dktX2_daysUntilDismissal_2 := dk_seg dksX2_daysUntilDismissal_1 24 rfl rfl
theorem dX2_daysUntilDismissal_0 : decode cX2_daysUntilDismissal 0 = .ok (.aload_n 0, 1) := dk_42 (dk_at dksX2_daysUntilDismissal_0 0 rfl rfl)
theorem dX2_daysUntilDismissal_1 : decode cX2_daysUntilDismissal 1 = .ok (.iload_n 1, 1) := dk_27 (dk_at dksX2_daysUntilDismissal_0 1 rfl rfl)
theorem dX2_daysUntilDismissal_2 : decode cX2_daysUntilDismissal 2 = .ok (.invokevirtual 144, 3) := dk_182 0 144 (dk_at dksX2_daysUntilDismissal_0 2 rfl rfl)
theorem dX2_daysUntilDismissal_5 : decode cX2_daysUntilDismissal 5 = .ok (.astore_n 2, 1) := dk_77 (dk_at dksX2_daysUntilDismissal_0 5 rfl rfl)
theorem dX2_daysUntilDismissal_6 : decode cX2_daysUntilDismissal 6 = .ok (.aload_n 2, 1) := dk_44 (dk_at dksX2_daysUntilDismissal_0 6 rfl rfl)
theorem dX2_daysUntilDismissal_7 : decode cX2_daysUntilDismissal 7 = .ok (.invokevirtual 72, 3) := dk_182 0 72 (dk_at dksX2_daysUntilDismissal_0 7 rfl rfl)
theorem dX2_daysUntilDismissal_10 : decode cX2_daysUntilDismissal 10 = .ok (.ifCond .eq 19, 3) := dk_153 0 19 (dk_at dksX2_daysUntilDismissal_0 10 rfl rfl)
theorem dX2_daysUntilDismissal_13 : decode cX2_daysUntilDismissal 13 = .ok (.aload_n 2, 1) := dk_44 (dk_at dksX2_daysUntilDismissal_0 13 rfl rfl)
theorem dX2_daysUntilDismissal_14 : decode cX2_daysUntilDismissal 14 = .ok (.getfield 75, 3) := dk_180 0 75 (dk_at dksX2_daysUntilDismissal_0 14 rfl rfl)
theorem dX2_daysUntilDismissal_17 : decode cX2_daysUntilDismissal 17 = .ok (.getfield 272, 3) := dk_180 1 16 (dk_at dksX2_daysUntilDismissal_0 17 rfl rfl)
theorem dX2_daysUntilDismissal_20 : decode cX2_daysUntilDismissal 20 = .ok (.bipush 50, 2) := dk_16 50 (dk_at dksX2_daysUntilDismissal_0 20 rfl rfl)
theorem dX2_daysUntilDismissal_22 : decode cX2_daysUntilDismissal 22 = .ok (.if_icmp .ge 7, 3) := dk_162 0 7 (dk_at dksX2_daysUntilDismissal_1 0 rfl rfl)
theorem dX2_daysUntilDismissal_25 : decode cX2_daysUntilDismissal 25 = .ok (.iconst 1, 1) := dk_4 (dk_at dksX2_daysUntilDismissal_1 3 rfl rfl)
theorem dX2_daysUntilDismissal_26 : decode cX2_daysUntilDismissal 26 = .ok (.goto 4, 3) := dk_167 0 4 (dk_at dksX2_daysUntilDismissal_1 4 rfl rfl)
theorem dX2_daysUntilDismissal_29 : decode cX2_daysUntilDismissal 29 = .ok (.iconst 0, 1) := dk_3 (dk_at dksX2_daysUntilDismissal_1 7 rfl rfl)
theorem dX2_daysUntilDismissal_30 : decode cX2_daysUntilDismissal 30 = .ok (.invokestatic 114, 3) := dk_184 0 114 (dk_at dksX2_daysUntilDismissal_1 8 rfl rfl)
theorem dX2_daysUntilDismissal_33 : decode cX2_daysUntilDismissal 33 = .ok (.aload_n 2, 1) := dk_44 (dk_at dksX2_daysUntilDismissal_1 11 rfl rfl)
theorem dX2_daysUntilDismissal_34 : decode cX2_daysUntilDismissal 34 = .ok (.getfield 75, 3) := dk_180 0 75 (dk_at dksX2_daysUntilDismissal_1 12 rfl rfl)
theorem dX2_daysUntilDismissal_37 : decode cX2_daysUntilDismissal 37 = .ok (.getfield 272, 3) := dk_180 1 16 (dk_at dksX2_daysUntilDismissal_1 15 rfl rfl)
theorem dX2_daysUntilDismissal_40 : decode cX2_daysUntilDismissal 40 = .ok (.aload_n 2, 1) := dk_44 (dk_at dksX2_daysUntilDismissal_1 18 rfl rfl)
theorem dX2_daysUntilDismissal_41 : decode cX2_daysUntilDismissal 41 = .ok (.getfield 161, 3) := dk_180 0 161 (dk_at dksX2_daysUntilDismissal_1 19 rfl rfl)
theorem dX2_daysUntilDismissal_44 : decode cX2_daysUntilDismissal 44 = .ok (.isub, 1) := dk_100 (dk_at dksX2_daysUntilDismissal_1 22 rfl rfl)
theorem dX2_daysUntilDismissal_45 : decode cX2_daysUntilDismissal 45 = .ok (.iconst 1, 1) := dk_4 (dk_at dksX2_daysUntilDismissal_1 23 rfl rfl)
theorem dX2_daysUntilDismissal_46 : decode cX2_daysUntilDismissal 46 = .ok (.iadd, 1) := dk_96 (dk_at dksX2_daysUntilDismissal_2 0 rfl rfl)
theorem dX2_daysUntilDismissal_47 : decode cX2_daysUntilDismissal 47 = .ok (.ireturn, 1) := dk_172 (dk_at dksX2_daysUntilDismissal_2 1 rfl rfl)
abbrev cX2_told : ByteArray := prog_3_method_45_code
def yX2_told : MethodName := ⟨RX2, "told", "(LCloudInterviews$Applicant;)Ljava/lang/String;"⟩
def dkwX2_told_4 : List UInt8 := [44, 16, 64, 182, 1, 38, 42, 43, 180, 0, 75, 182, 0, 79, 182, 1, 42, 87, 44, 182, 1, 45, 176]
abbrev dktX2_told_4 : List UInt8 := dkwX2_told_4 ++ []
def dkwX2_told_3 : List UInt8 := [158, 0, 17, 44, 16, 36, 182, 1, 38, 43, 180, 0, 195, 182, 1, 42, 87, 43, 182, 0, 72, 153, 0, 21]
abbrev dktX2_told_3 : List UInt8 := dkwX2_told_3 ++ dktX2_told_4
def dkwX2_told_2 : List UInt8 := [44, 16, 43, 182, 1, 38, 42, 43, 180, 0, 91, 182, 0, 154, 182, 1, 42, 87, 43, 180, 0, 195]
abbrev dktX2_told_2 : List UInt8 := dkwX2_told_2 ++ dktX2_told_3
def dkwX2_told_1 : List UInt8 := [16, 47, 182, 1, 38, 43, 180, 0, 161, 182, 1, 42, 87, 42, 43, 180, 0, 91, 182, 0, 154, 158, 0, 21]
abbrev dktX2_told_1 : List UInt8 := dkwX2_told_1 ++ dktX2_told_2
def dkwX2_told_0 : List UInt8 := [187, 1, 31, 89, 183, 1, 33, 77, 44, 43, 180, 1, 34, 182, 1, 38, 43, 180, 0, 158, 182, 1, 42]
abbrev dktX2_told_0 : List UInt8 := dkwX2_told_0 ++ dktX2_told_1
theorem dksX2_told_0 : cX2_told.data.toList.drop 0 = dktX2_told_0 := by decide +kernel
theorem dksX2_told_1 : cX2_told.data.toList.drop 23 = dktX2_told_1 := dk_seg dksX2_told_0 23 rfl rfl
theorem dksX2_told_2 : cX2_told.data.toList.drop 47 = dktX2_told_2 := dk_seg dksX2_told_1 24 rfl rfl
theorem dksX2_told_3 : cX2_told.data.toList.drop 69 = dktX2_told_3 := dk_seg dksX2_told_2 22 rfl rfl
theorem dksX2_told_4 : cX2_told.data.toList.drop 93 = dktX2_told_4 := dk_seg dksX2_told_3 24 rfl rfl
theorem dX2_told_0 : decode cX2_told 0 = .ok (.new 287, 3) := dk_187 1 31 (dk_at dksX2_told_0 0 rfl rfl)
theorem dX2_told_3 : decode cX2_told 3 = .ok (.dup, 1) := dk_89 (dk_at dksX2_told_0 3 rfl rfl)
theorem dX2_told_4 : decode cX2_told 4 = .ok (.invokespecial 289, 3) := dk_183 1 33 (dk_at dksX2_told_0 4 rfl rfl)
theorem dX2_told_7 : decode cX2_told 7 = .ok (.astore_n 2, 1) := dk_77 (dk_at dksX2_told_0 7 rfl rfl)
theorem dX2_told_8 : decode cX2_told 8 = .ok (.aload_n 2, 1) := dk_44 (dk_at dksX2_told_0 8 rfl rfl)
theorem dX2_told_9 : decode cX2_told 9 = .ok (.aload_n 1, 1) := dk_43 (dk_at dksX2_told_0 9 rfl rfl)
theorem dX2_told_10 : decode cX2_told 10 = .ok (.getfield 290, 3) := dk_180 1 34 (dk_at dksX2_told_0 10 rfl rfl)
theorem dX2_told_13 : decode cX2_told 13 = .ok (.invokevirtual 294, 3) := dk_182 1 38 (dk_at dksX2_told_0 13 rfl rfl)
theorem dX2_told_16 : decode cX2_told 16 = .ok (.aload_n 1, 1) := dk_43 (dk_at dksX2_told_0 16 rfl rfl)
theorem dX2_told_17 : decode cX2_told 17 = .ok (.getfield 158, 3) := dk_180 0 158 (dk_at dksX2_told_0 17 rfl rfl)
theorem dX2_told_20 : decode cX2_told 20 = .ok (.invokevirtual 298, 3) := dk_182 1 42 (dk_at dksX2_told_0 20 rfl rfl)
theorem dX2_told_23 : decode cX2_told 23 = .ok (.bipush 47, 2) := dk_16 47 (dk_at dksX2_told_1 0 rfl rfl)
theorem dX2_told_25 : decode cX2_told 25 = .ok (.invokevirtual 294, 3) := dk_182 1 38 (dk_at dksX2_told_1 2 rfl rfl)
theorem dX2_told_28 : decode cX2_told 28 = .ok (.aload_n 1, 1) := dk_43 (dk_at dksX2_told_1 5 rfl rfl)
theorem dX2_told_29 : decode cX2_told 29 = .ok (.getfield 161, 3) := dk_180 0 161 (dk_at dksX2_told_1 6 rfl rfl)
theorem dX2_told_32 : decode cX2_told 32 = .ok (.invokevirtual 298, 3) := dk_182 1 42 (dk_at dksX2_told_1 9 rfl rfl)
theorem dX2_told_35 : decode cX2_told 35 = .ok (.pop, 1) := dk_87 (dk_at dksX2_told_1 12 rfl rfl)
theorem dX2_told_36 : decode cX2_told 36 = .ok (.aload_n 0, 1) := dk_42 (dk_at dksX2_told_1 13 rfl rfl)
theorem dX2_told_37 : decode cX2_told 37 = .ok (.aload_n 1, 1) := dk_43 (dk_at dksX2_told_1 14 rfl rfl)
theorem dX2_told_38 : decode cX2_told 38 = .ok (.getfield 91, 3) := dk_180 0 91 (dk_at dksX2_told_1 15 rfl rfl)
theorem dX2_told_41 : decode cX2_told 41 = .ok (.invokevirtual 154, 3) := dk_182 0 154 (dk_at dksX2_told_1 18 rfl rfl)
theorem dX2_told_44 : decode cX2_told 44 = .ok (.ifCond .le 21, 3) := dk_158 0 21 (dk_at dksX2_told_1 21 rfl rfl)
theorem dX2_told_47 : decode cX2_told 47 = .ok (.aload_n 2, 1) := dk_44 (dk_at dksX2_told_2 0 rfl rfl)
theorem dX2_told_48 : decode cX2_told 48 = .ok (.bipush 43, 2) := dk_16 43 (dk_at dksX2_told_2 1 rfl rfl)
theorem dX2_told_50 : decode cX2_told 50 = .ok (.invokevirtual 294, 3) := dk_182 1 38 (dk_at dksX2_told_2 3 rfl rfl)
theorem dX2_told_53 : decode cX2_told 53 = .ok (.aload_n 0, 1) := dk_42 (dk_at dksX2_told_2 6 rfl rfl)
theorem dX2_told_54 : decode cX2_told 54 = .ok (.aload_n 1, 1) := dk_43 (dk_at dksX2_told_2 7 rfl rfl)
theorem dX2_told_55 : decode cX2_told 55 = .ok (.getfield 91, 3) := dk_180 0 91 (dk_at dksX2_told_2 8 rfl rfl)
theorem dX2_told_58 : decode cX2_told 58 = .ok (.invokevirtual 154, 3) := dk_182 0 154 (dk_at dksX2_told_2 11 rfl rfl)
theorem dX2_told_61 : decode cX2_told 61 = .ok (.invokevirtual 298, 3) := dk_182 1 42 (dk_at dksX2_told_2 14 rfl rfl)
theorem dX2_told_64 : decode cX2_told 64 = .ok (.pop, 1) := dk_87 (dk_at dksX2_told_2 17 rfl rfl)
theorem dX2_told_65 : decode cX2_told 65 = .ok (.aload_n 1, 1) := dk_43 (dk_at dksX2_told_2 18 rfl rfl)
theorem dX2_told_66 : decode cX2_told 66 = .ok (.getfield 195, 3) := dk_180 0 195 (dk_at dksX2_told_2 19 rfl rfl)
theorem dX2_told_69 : decode cX2_told 69 = .ok (.ifCond .le 17, 3) := dk_158 0 17 (dk_at dksX2_told_3 0 rfl rfl)
theorem dX2_told_72 : decode cX2_told 72 = .ok (.aload_n 2, 1) := dk_44 (dk_at dksX2_told_3 3 rfl rfl)
theorem dX2_told_73 : decode cX2_told 73 = .ok (.bipush 36, 2) := dk_16 36 (dk_at dksX2_told_3 4 rfl rfl)
theorem dX2_told_75 : decode cX2_told 75 = .ok (.invokevirtual 294, 3) := dk_182 1 38 (dk_at dksX2_told_3 6 rfl rfl)
theorem dX2_told_78 : decode cX2_told 78 = .ok (.aload_n 1, 1) := dk_43 (dk_at dksX2_told_3 9 rfl rfl)
theorem dX2_told_79 : decode cX2_told 79 = .ok (.getfield 195, 3) := dk_180 0 195 (dk_at dksX2_told_3 10 rfl rfl)
theorem dX2_told_82 : decode cX2_told 82 = .ok (.invokevirtual 298, 3) := dk_182 1 42 (dk_at dksX2_told_3 13 rfl rfl)
theorem dX2_told_85 : decode cX2_told 85 = .ok (.pop, 1) := dk_87 (dk_at dksX2_told_3 16 rfl rfl)
theorem dX2_told_86 : decode cX2_told 86 = .ok (.aload_n 1, 1) := dk_43 (dk_at dksX2_told_3 17 rfl rfl)
theorem dX2_told_87 : decode cX2_told 87 = .ok (.invokevirtual 72, 3) := dk_182 0 72 (dk_at dksX2_told_3 18 rfl rfl)
theorem dX2_told_90 : decode cX2_told 90 = .ok (.ifCond .eq 21, 3) := dk_153 0 21 (dk_at dksX2_told_3 21 rfl rfl)
theorem dX2_told_93 : decode cX2_told 93 = .ok (.aload_n 2, 1) := dk_44 (dk_at dksX2_told_4 0 rfl rfl)
theorem dX2_told_94 : decode cX2_told 94 = .ok (.bipush 64, 2) := dk_16 64 (dk_at dksX2_told_4 1 rfl rfl)
theorem dX2_told_96 : decode cX2_told 96 = .ok (.invokevirtual 294, 3) := dk_182 1 38 (dk_at dksX2_told_4 3 rfl rfl)
theorem dX2_told_99 : decode cX2_told 99 = .ok (.aload_n 0, 1) := dk_42 (dk_at dksX2_told_4 6 rfl rfl)
theorem dX2_told_100 : decode cX2_told 100 = .ok (.aload_n 1, 1) := dk_43 (dk_at dksX2_told_4 7 rfl rfl)
theorem dX2_told_101 : decode cX2_told 101 = .ok (.getfield 75, 3) := dk_180 0 75 (dk_at dksX2_told_4 8 rfl rfl)
theorem dX2_told_104 : decode cX2_told 104 = .ok (.invokevirtual 79, 3) := dk_182 0 79 (dk_at dksX2_told_4 11 rfl rfl)
theorem dX2_told_107 : decode cX2_told 107 = .ok (.invokevirtual 298, 3) := dk_182 1 42 (dk_at dksX2_told_4 14 rfl rfl)
theorem dX2_told_110 : decode cX2_told 110 = .ok (.pop, 1) := dk_87 (dk_at dksX2_told_4 17 rfl rfl)
theorem dX2_told_111 : decode cX2_told 111 = .ok (.aload_n 2, 1) := dk_44 (dk_at dksX2_told_4 18 rfl rfl)
theorem dX2_told_112 : decode cX2_told 112 = .ok (.invokevirtual 301, 3) := dk_182 1 45 (dk_at dksX2_told_4 19 rfl rfl)
theorem dX2_told_115 : decode cX2_told 115 = .ok (.areturn, 1) := dk_176 (dk_at dksX2_told_4 22 rfl rfl)
theorem q82 : (Jvm.Cond.initialized "CloudInterviews$Board") ∈ lw_all := lw_g (lw_at lw_m1 2 rfl) rfl
theorem q137 : (Jvm.Cond.instantiable "CloudInterviews$Board" (6 : Nat)) ∈ lw_all := lw_g (lw_at lw_m1 57 rfl) rfl
theorem q139 : (Jvm.Cond.instanceMethod ({ cls := "CloudInterviews$Board", name := "<init>", desc := "()V" } : Jvm.MethodName)) ∈ lw_all := lw_g (lw_at lw_m1 59 rfl) rfl
theorem q140 : (Jvm.Cond.code ({ cls := "CloudInterviews$Board", name := "<init>", desc := "()V" } : Jvm.MethodName) prog_3_method_1_code (1 : Nat) (Option.none : Option Jvm.ClassFile.FieldType)) ∈ lw_all := lw_g (lw_at lw_m1 60 rfl) rfl
theorem q141 : (Jvm.Cond.methodLink "CloudInterviews$Board" (3 : Nat) ({ cls := "java/lang/Object", name := "<init>", desc := "()V" } : Jvm.MethodName)) ∈ lw_all := lw_g (lw_at lw_m1 61 rfl) rfl
theorem q142 : (Jvm.Cond.classLink "CloudInterviews$Board" (9 : Nat) "java/util/HashMap") ∈ lw_all := lw_g (lw_at lw_m1 62 rfl) rfl
theorem q144 : (Jvm.Cond.methodLink "CloudInterviews$Board" (11 : Nat) ({ cls := "java/util/HashMap", name := "<init>", desc := "()V" } : Jvm.MethodName)) ∈ lw_all := lw_g (lw_at lw_m1 64 rfl) rfl
theorem q174 : (Jvm.Cond.classLink "CloudInterviews$Board" (18 : Nat) "java/util/ArrayList") ∈ lw_all := lw_g (lw_at lw_m1 94 rfl) rfl
theorem q176 : (Jvm.Cond.methodLink "CloudInterviews$Board" (20 : Nat) ({ cls := "java/util/ArrayList", name := "<init>", desc := "()V" } : Jvm.MethodName)) ∈ lw_all := lw_g (lw_at lw_m1 96 rfl) rfl
theorem q203 : (Jvm.Cond.fieldLink "CloudInterviews$Board" (12 : Nat) "CloudInterviews$Board" "byId" "Ljava/util/HashMap;") ∈ lw_all := lw_g (lw_at lw_m1 123 rfl) rfl
theorem q204 : (Jvm.Cond.fieldLink "CloudInterviews$Board" (21 : Nat) "CloudInterviews$Board" "applicants" "Ljava/util/ArrayList;") ∈ lw_all := lw_g (lw_at lw_m1 124 rfl) rfl
theorem q206 : (Jvm.Cond.fieldLink "CloudInterviews$Board" (25 : Nat) "CloudInterviews$Board" "references" "Ljava/util/HashMap;") ∈ lw_all := lw_g (lw_at lw_m1 126 rfl) rfl
theorem q207 : (Jvm.Cond.fieldLink "CloudInterviews$Board" (28 : Nat) "CloudInterviews$Board" "posts" "Ljava/util/ArrayList;") ∈ lw_all := lw_g (lw_at lw_m1 127 rfl) rfl
theorem q209 : (Jvm.Cond.fieldLink "CloudInterviews$Board" (32 : Nat) "CloudInterviews$Board" "nextId" "I") ∈ lw_all := lw_g (lw_at lw_m1 129 rfl) rfl
theorem q210 : (Jvm.Cond.fieldLink "CloudInterviews$Board" (36 : Nat) "CloudInterviews$Board" "day" "I") ∈ lw_all := lw_g (lw_at lw_m1 130 rfl) rfl
theorem q212 : (Jvm.Cond.laysFinal "CloudInterviews$Board" "CloudInterviews$Board" "byId" "Ljava/util/HashMap;") ∈ lw_all := lw_g (lw_at lw_m1 132 rfl) rfl
theorem q213 : (Jvm.Cond.soleField "CloudInterviews$Board" "byId") ∈ lw_all := lw_g (lw_at lw_m1 133 rfl) rfl
theorem q214 : (Jvm.Cond.laysFinal "CloudInterviews$Board" "CloudInterviews$Board" "applicants" "Ljava/util/ArrayList;") ∈ lw_all := lw_g (lw_at lw_m1 134 rfl) rfl
theorem q215 : (Jvm.Cond.soleField "CloudInterviews$Board" "applicants") ∈ lw_all := lw_g (lw_at lw_m1 135 rfl) rfl
theorem q216 : (Jvm.Cond.laysFinal "CloudInterviews$Board" "CloudInterviews$Board" "references" "Ljava/util/HashMap;") ∈ lw_all := lw_g (lw_at lw_m1 136 rfl) rfl
theorem q217 : (Jvm.Cond.soleField "CloudInterviews$Board" "references") ∈ lw_all := lw_g (lw_at lw_m1 137 rfl) rfl
theorem q218 : (Jvm.Cond.laysFinal "CloudInterviews$Board" "CloudInterviews$Board" "posts" "Ljava/util/ArrayList;") ∈ lw_all := lw_g (lw_at lw_m1 138 rfl) rfl
theorem q219 : (Jvm.Cond.soleField "CloudInterviews$Board" "posts") ∈ lw_all := lw_g (lw_at lw_m1 139 rfl) rfl
theorem q220 : (Jvm.Cond.lays "CloudInterviews$Board" "CloudInterviews$Board" "nextId" "I") ∈ lw_all := lw_g (lw_at lw_m1 140 rfl) rfl
theorem q221 : (Jvm.Cond.soleField "CloudInterviews$Board" "nextId") ∈ lw_all := lw_g (lw_at lw_m1 141 rfl) rfl
theorem q222 : (Jvm.Cond.lays "CloudInterviews$Board" "CloudInterviews$Board" "day" "I") ∈ lw_all := lw_g (lw_at lw_m1 142 rfl) rfl
theorem q223 : (Jvm.Cond.soleField "CloudInterviews$Board" "day") ∈ lw_all := lw_g (lw_at lw_m1 143 rfl) rfl
theorem q224 : (Jvm.Cond.superclass "CloudInterviews$Board" "java/lang/Object") ∈ lw_all := lw_g (lw_at lw_m1 144 rfl) rfl
theorem q311 : (Jvm.Cond.instanceMethod ({ cls := "CloudInterviews$Board", name := "waiting", desc := "()I" } : Jvm.MethodName)) ∈ lw_all := lw_g (lw_at lw_m1 231 rfl) rfl
theorem q312 : (Jvm.Cond.selects "CloudInterviews$Board" ({ cls := "CloudInterviews$Board", name := "waiting", desc := "()I" } : Jvm.MethodName) ({ cls := "CloudInterviews$Board", name := "waiting", desc := "()I" } : Jvm.MethodName)) ∈ lw_all := lw_g (lw_at lw_m1 232 rfl) rfl
theorem q313 : (Jvm.Cond.code ({ cls := "CloudInterviews$Board", name := "waiting", desc := "()I" } : Jvm.MethodName) prog_3_method_7_code (4 : Nat) (Option.some Jvm.ClassFile.FieldType.int)) ∈ lw_all := lw_g (lw_at lw_m1 233 rfl) rfl
theorem q314 : (Jvm.Cond.methodLink "CloudInterviews$Board" (39 : Nat) ({ cls := "java/util/ArrayList", name := "iterator", desc := "()Ljava/util/Iterator;" } : Jvm.MethodName)) ∈ lw_all := lw_g (lw_at lw_m1 234 rfl) rfl
theorem q337 : (Jvm.Cond.interfaceEntry "CloudInterviews$Board" (43 : Nat)) ∈ lw_tbl := lw_at lw_m2 17 rfl
theorem q338 : (Jvm.Cond.methodLink "CloudInterviews$Board" (43 : Nat) ({ cls := "java/util/Iterator", name := "hasNext", desc := "()Z" } : Jvm.MethodName)) ∈ lw_all := lw_g (lw_at lw_m2 18 rfl) rfl
theorem q347 : (Jvm.Cond.interfaceEntry "CloudInterviews$Board" (49 : Nat)) ∈ lw_tbl := lw_at lw_m2 27 rfl
theorem q348 : (Jvm.Cond.methodLink "CloudInterviews$Board" (49 : Nat) ({ cls := "java/util/Iterator", name := "next", desc := "()Ljava/lang/Object;" } : Jvm.MethodName)) ∈ lw_all := lw_g (lw_at lw_m2 28 rfl) rfl
theorem q429 : (Jvm.Cond.classLink "CloudInterviews$Board" (63 : Nat) "CloudInterviews$Applicant") ∈ lw_all := lw_g (lw_at lw_m2 109 rfl) rfl
theorem q430 : (Jvm.Cond.methodLink "CloudInterviews$Board" (72 : Nat) ({ cls := "CloudInterviews$Applicant", name := "isHired", desc := "()Z" } : Jvm.MethodName)) ∈ lw_all := lw_g (lw_at lw_m2 110 rfl) rfl
theorem q443 : (Jvm.Cond.instanceMethod ({ cls := "CloudInterviews$Board", name := "vacant", desc := "()I" } : Jvm.MethodName)) ∈ lw_all := lw_g (lw_at lw_m2 123 rfl) rfl
theorem q444 : (Jvm.Cond.selects "CloudInterviews$Board" ({ cls := "CloudInterviews$Board", name := "vacant", desc := "()I" } : Jvm.MethodName) ({ cls := "CloudInterviews$Board", name := "vacant", desc := "()I" } : Jvm.MethodName)) ∈ lw_all := lw_g (lw_at lw_m2 124 rfl) rfl
theorem q445 : (Jvm.Cond.code ({ cls := "CloudInterviews$Board", name := "vacant", desc := "()I" } : Jvm.MethodName) prog_3_method_8_code (4 : Nat) (Option.some Jvm.ClassFile.FieldType.int)) ∈ lw_all := lw_g (lw_at lw_m2 125 rfl) rfl
theorem q446 : (Jvm.Cond.classLink "CloudInterviews$Board" (53 : Nat) "CloudInterviews$Post") ∈ lw_all := lw_g (lw_at lw_m2 126 rfl) rfl
theorem q447 : (Jvm.Cond.methodLink "CloudInterviews$Board" (126 : Nat) ({ cls := "CloudInterviews$Post", name := "isVacant", desc := "()Z" } : Jvm.MethodName)) ∈ lw_all := lw_g (lw_at lw_m2 127 rfl) rfl
theorem q461 : (Jvm.Cond.instanceMethod ({ cls := "CloudInterviews$Board", name := "copy", desc := "()LCloudInterviews$Board;" } : Jvm.MethodName)) ∈ lw_all := lw_g (lw_at lw_m2 141 rfl) rfl
theorem q462 : (Jvm.Cond.selects "CloudInterviews$Board" ({ cls := "CloudInterviews$Board", name := "copy", desc := "()LCloudInterviews$Board;" } : Jvm.MethodName) ({ cls := "CloudInterviews$Board", name := "copy", desc := "()LCloudInterviews$Board;" } : Jvm.MethodName)) ∈ lw_all := lw_g (lw_at lw_m2 142 rfl) rfl
theorem q463 : (Jvm.Cond.code ({ cls := "CloudInterviews$Board", name := "copy", desc := "()LCloudInterviews$Board;" } : Jvm.MethodName) prog_3_method_2_code (6 : Nat) (Option.some (Jvm.ClassFile.FieldType.object "CloudInterviews$Board"))) ∈ lw_all := lw_g (lw_at lw_m2 143 rfl) rfl
theorem q464 : (Jvm.Cond.classLink "CloudInterviews$Board" (13 : Nat) "CloudInterviews$Board") ∈ lw_all := lw_g (lw_at lw_m2 144 rfl) rfl
theorem q465 : (Jvm.Cond.methodLink "CloudInterviews$Board" (31 : Nat) ({ cls := "CloudInterviews$Board", name := "<init>", desc := "()V" } : Jvm.MethodName)) ∈ lw_all := lw_g (lw_at lw_m2 145 rfl) rfl
theorem q466 : (Jvm.Cond.methodLink "CloudInterviews$Board" (55 : Nat) ({ cls := "CloudInterviews$Post", name := "copy", desc := "()LCloudInterviews$Post;" } : Jvm.MethodName)) ∈ lw_all := lw_g (lw_at lw_m2 146 rfl) rfl
theorem q482 : (Jvm.Cond.fieldLinkNest "CloudInterviews$Board" (272 : Nat) "CloudInterviews$Post" "highestRain" "I" "CloudInterviews") ∈ lw_tbl := lw_at lw_m2 162 rfl
theorem q484 : (Jvm.Cond.fieldLinkNest "CloudInterviews$Board" (168 : Nat) "CloudInterviews$Post" "wage" "I" "CloudInterviews") ∈ lw_tbl := lw_at lw_m2 164 rfl
theorem q487 : (Jvm.Cond.fieldLinkNest "CloudInterviews$Board" (256 : Nat) "CloudInterviews$Post" "holder" "LCloudInterviews$Applicant;" "CloudInterviews") ∈ lw_tbl := lw_at lw_m2 167 rfl
theorem q501 : (Jvm.Cond.methodLink "CloudInterviews$Board" (59 : Nat) ({ cls := "java/util/ArrayList", name := "add", desc := "(Ljava/lang/Object;)Z" } : Jvm.MethodName)) ∈ lw_all := lw_g (lw_at lw_m2 181 rfl) rfl
theorem q535 : (Jvm.Cond.selects "CloudInterviews$Board" ({ cls := "java/lang/Object", name := "getClass", desc := "()Ljava/lang/Class;" } : Jvm.MethodName) ({ cls := "java/lang/Object", name := "getClass", desc := "()Ljava/lang/Class;" } : Jvm.MethodName)) ∈ lw_all := lw_g (lw_at lw_m2 215 rfl) rfl
theorem q575 : (Jvm.Cond.methodLink "CloudInterviews$Board" (65 : Nat) ({ cls := "CloudInterviews$Applicant", name := "copy", desc := "()LCloudInterviews$Applicant;" } : Jvm.MethodName)) ∈ lw_all := lw_g (lw_at lw_m3 15 rfl) rfl
theorem q586 : (Jvm.Cond.fieldLinkNest "CloudInterviews$Board" (91 : Nat) "CloudInterviews$Applicant" "id" "I" "CloudInterviews") ∈ lw_tbl := lw_at lw_m3 26 rfl
theorem q591 : (Jvm.Cond.fieldLinkNest "CloudInterviews$Board" (290 : Nat) "CloudInterviews$Applicant" "shape" "C" "CloudInterviews") ∈ lw_tbl := lw_at lw_m3 31 rfl
theorem q594 : (Jvm.Cond.fieldLinkNest "CloudInterviews$Board" (158 : Nat) "CloudInterviews$Applicant" "whiteness" "I" "CloudInterviews") ∈ lw_tbl := lw_at lw_m3 34 rfl
theorem q598 : (Jvm.Cond.fieldLinkNest "CloudInterviews$Board" (161 : Nat) "CloudInterviews$Applicant" "rain" "I" "CloudInterviews") ∈ lw_tbl := lw_at lw_m3 38 rfl
theorem q601 : (Jvm.Cond.fieldLinkNest "CloudInterviews$Board" (195 : Nat) "CloudInterviews$Applicant" "coins" "I" "CloudInterviews") ∈ lw_tbl := lw_at lw_m3 41 rfl
theorem q604 : (Jvm.Cond.fieldLinkNest "CloudInterviews$Board" (75 : Nat) "CloudInterviews$Applicant" "post" "LCloudInterviews$Post;" "CloudInterviews") ∈ lw_tbl := lw_at lw_m3 44 rfl
theorem q620 : (Jvm.Cond.methodLink "CloudInterviews$Board" (68 : Nat) ({ cls := "CloudInterviews$Board", name := "put", desc := "(LCloudInterviews$Applicant;)LCloudInterviews$Applicant;" } : Jvm.MethodName)) ∈ lw_all := lw_g (lw_at lw_m3 60 rfl) rfl
theorem q621 : (Jvm.Cond.privateMethod ({ cls := "CloudInterviews$Board", name := "put", desc := "(LCloudInterviews$Applicant;)LCloudInterviews$Applicant;" } : Jvm.MethodName)) ∈ lw_tbl := lw_at lw_m3 61 rfl
theorem q622 : (Jvm.Cond.instanceMethod ({ cls := "CloudInterviews$Board", name := "put", desc := "(LCloudInterviews$Applicant;)LCloudInterviews$Applicant;" } : Jvm.MethodName)) ∈ lw_all := lw_g (lw_at lw_m3 62 rfl) rfl
theorem q623 : (Jvm.Cond.code ({ cls := "CloudInterviews$Board", name := "put", desc := "(LCloudInterviews$Applicant;)LCloudInterviews$Applicant;" } : Jvm.MethodName) prog_3_method_3_code (4 : Nat) (Option.some (Jvm.ClassFile.FieldType.object "CloudInterviews$Applicant"))) ∈ lw_all := lw_g (lw_at lw_m3 63 rfl) rfl
theorem q624 : (Jvm.Cond.methodLink "CloudInterviews$Board" (102 : Nat) ({ cls := "java/lang/Integer", name := "valueOf", desc := "(I)Ljava/lang/Integer;" } : Jvm.MethodName)) ∈ lw_all := lw_g (lw_at lw_m3 64 rfl) rfl
theorem q644 : (Jvm.Cond.methodLink "CloudInterviews$Board" (108 : Nat) ({ cls := "java/util/HashMap", name := "put", desc := "(Ljava/lang/Object;Ljava/lang/Object;)Ljava/lang/Object;" } : Jvm.MethodName)) ∈ lw_all := lw_g (lw_at lw_m3 84 rfl) rfl
theorem q657 : (Jvm.Cond.selects "CloudInterviews$Board" ({ cls := "java/lang/Object", name := "hashCode", desc := "()I" } : Jvm.MethodName) ({ cls := "java/lang/Object", name := "hashCode", desc := "()I" } : Jvm.MethodName)) ∈ lw_all := lw_g (lw_at lw_m3 97 rfl) rfl
theorem q1270 : (Jvm.Cond.selects "CloudInterviews$Board" ({ cls := "java/lang/Object", name := "equals", desc := "(Ljava/lang/Object;)Z" } : Jvm.MethodName) ({ cls := "java/lang/Object", name := "equals", desc := "(Ljava/lang/Object;)Z" } : Jvm.MethodName)) ∈ lw_all := lw_g (lw_at lw_m5 230 rfl) rfl
theorem q1377 : (Jvm.Cond.methodLink "CloudInterviews$Board" (79 : Nat) ({ cls := "CloudInterviews$Board", name := "indexOf", desc := "(LCloudInterviews$Post;)I" } : Jvm.MethodName)) ∈ lw_all := lw_g (lw_at lw_m6 97 rfl) rfl
theorem q1378 : (Jvm.Cond.instanceMethod ({ cls := "CloudInterviews$Board", name := "indexOf", desc := "(LCloudInterviews$Post;)I" } : Jvm.MethodName)) ∈ lw_all := lw_g (lw_at lw_m6 98 rfl) rfl
theorem q1379 : (Jvm.Cond.selects "CloudInterviews$Board" ({ cls := "CloudInterviews$Board", name := "indexOf", desc := "(LCloudInterviews$Post;)I" } : Jvm.MethodName) ({ cls := "CloudInterviews$Board", name := "indexOf", desc := "(LCloudInterviews$Post;)I" } : Jvm.MethodName)) ∈ lw_all := lw_g (lw_at lw_m6 99 rfl) rfl
theorem q1380 : (Jvm.Cond.code ({ cls := "CloudInterviews$Board", name := "indexOf", desc := "(LCloudInterviews$Post;)I" } : Jvm.MethodName) prog_3_method_6_code (3 : Nat) (Option.some Jvm.ClassFile.FieldType.int)) ∈ lw_all := lw_g (lw_at lw_m6 100 rfl) rfl
theorem q1381 : (Jvm.Cond.methodLink "CloudInterviews$Board" (83 : Nat) ({ cls := "java/util/ArrayList", name := "get", desc := "(I)Ljava/lang/Object;" } : Jvm.MethodName)) ∈ lw_all := lw_g (lw_at lw_m6 101 rfl) rfl
theorem q1395 : (Jvm.Cond.methodLink "CloudInterviews$Board" (87 : Nat) ({ cls := "CloudInterviews$Post", name := "fill", desc := "(LCloudInterviews$Applicant;)V" } : Jvm.MethodName)) ∈ lw_all := lw_g (lw_at lw_m6 115 rfl) rfl
theorem q1399 : (Jvm.Cond.methodLink "CloudInterviews$Board" (94 : Nat) ({ cls := "CloudInterviews$Board", name := "hasReference", desc := "(II)Z" } : Jvm.MethodName)) ∈ lw_all := lw_g (lw_at lw_m6 119 rfl) rfl
theorem q1400 : (Jvm.Cond.instanceMethod ({ cls := "CloudInterviews$Board", name := "hasReference", desc := "(II)Z" } : Jvm.MethodName)) ∈ lw_all := lw_g (lw_at lw_m6 120 rfl) rfl
theorem q1401 : (Jvm.Cond.selects "CloudInterviews$Board" ({ cls := "CloudInterviews$Board", name := "hasReference", desc := "(II)Z" } : Jvm.MethodName) ({ cls := "CloudInterviews$Board", name := "hasReference", desc := "(II)Z" } : Jvm.MethodName)) ∈ lw_all := lw_g (lw_at lw_m6 121 rfl) rfl
theorem q1402 : (Jvm.Cond.code ({ cls := "CloudInterviews$Board", name := "hasReference", desc := "(II)Z" } : Jvm.MethodName) prog_3_method_9_code (3 : Nat) (Option.some Jvm.ClassFile.FieldType.boolean)) ∈ lw_all := lw_g (lw_at lw_m6 122 rfl) rfl
theorem q1403 : (Jvm.Cond.classLink "CloudInterviews$Board" (129 : Nat) "CloudInterviews$Reference") ∈ lw_all := lw_g (lw_at lw_m6 123 rfl) rfl
theorem q1405 : (Jvm.Cond.methodLink "CloudInterviews$Board" (131 : Nat) ({ cls := "CloudInterviews$Reference", name := "<init>", desc := "(II)V" } : Jvm.MethodName)) ∈ lw_all := lw_g (lw_at lw_m6 125 rfl) rfl
theorem q1416 : (Jvm.Cond.methodLink "CloudInterviews$Board" (133 : Nat) ({ cls := "java/util/HashMap", name := "containsKey", desc := "(Ljava/lang/Object;)Z" } : Jvm.MethodName)) ∈ lw_all := lw_g (lw_at lw_m6 136 rfl) rfl
theorem q1428 : (Jvm.Cond.methodLink "CloudInterviews$Board" (98 : Nat) ({ cls := "CloudInterviews$Board", name := "setReference", desc := "(IIZ)V" } : Jvm.MethodName)) ∈ lw_all := lw_g (lw_at lw_m6 148 rfl) rfl
theorem q1429 : (Jvm.Cond.privateMethod ({ cls := "CloudInterviews$Board", name := "setReference", desc := "(IIZ)V" } : Jvm.MethodName)) ∈ lw_tbl := lw_at lw_m6 149 rfl
theorem q1430 : (Jvm.Cond.instanceMethod ({ cls := "CloudInterviews$Board", name := "setReference", desc := "(IIZ)V" } : Jvm.MethodName)) ∈ lw_all := lw_g (lw_at lw_m6 150 rfl) rfl
theorem q1431 : (Jvm.Cond.code ({ cls := "CloudInterviews$Board", name := "setReference", desc := "(IIZ)V" } : Jvm.MethodName) prog_3_method_10_code (5 : Nat) (Option.none : Option Jvm.ClassFile.FieldType)) ∈ lw_all := lw_g (lw_at lw_m6 151 rfl) rfl
theorem q1432 : (Jvm.Cond.methodLink "CloudInterviews$Board" (136 : Nat) ({ cls := "java/lang/Boolean", name := "valueOf", desc := "(Z)Ljava/lang/Boolean;" } : Jvm.MethodName)) ∈ lw_all := lw_g (lw_at lw_m6 152 rfl) rfl
theorem q1439 : (Jvm.Cond.classLink "CloudInterviews$Board" (137 : Nat) "java/lang/Boolean") ∈ lw_all := lw_g (lw_at lw_m6 159 rfl) rfl
theorem q1440 : (Jvm.Cond.methodLink "CloudInterviews$Board" (141 : Nat) ({ cls := "java/util/HashMap", name := "remove", desc := "(Ljava/lang/Object;)Ljava/lang/Object;" } : Jvm.MethodName)) ∈ lw_all := lw_g (lw_at lw_m6 160 rfl) rfl
theorem q1490 : (Jvm.Cond.instanceMethod ({ cls := "CloudInterviews$Board", name := "addApplicant", desc := "(CII)I" } : Jvm.MethodName)) ∈ lw_all := lw_g (lw_at lw_m6 210 rfl) rfl
theorem q1491 : (Jvm.Cond.selects "CloudInterviews$Board" ({ cls := "CloudInterviews$Board", name := "addApplicant", desc := "(CII)I" } : Jvm.MethodName) ({ cls := "CloudInterviews$Board", name := "addApplicant", desc := "(CII)I" } : Jvm.MethodName)) ∈ lw_all := lw_g (lw_at lw_m6 211 rfl) rfl
theorem q1492 : (Jvm.Cond.code ({ cls := "CloudInterviews$Board", name := "addApplicant", desc := "(CII)I" } : Jvm.MethodName) prog_3_method_19_code (5 : Nat) (Option.some Jvm.ClassFile.FieldType.int)) ∈ lw_all := lw_g (lw_at lw_m6 212 rfl) rfl
theorem q1493 : (Jvm.Cond.methodLinkNest "CloudInterviews$Board" (175 : Nat) ({ cls := "CloudInterviews", name := "isShape", desc := "(C)Z" } : Jvm.MethodName) "CloudInterviews") ∈ lw_tbl := lw_at lw_m6 213 rfl
theorem q1496 : (Jvm.Cond.constantLong "CloudInterviews$Board" (179 : Nat) (100 : Int64)) ∈ lw_all := lw_g (lw_at lw_m6 216 rfl) rfl
theorem q1497 : (Jvm.Cond.methodLinkNest "CloudInterviews$Board" (181 : Nat) ({ cls := "CloudInterviews", name := "inRange", desc := "(JJJ)Z" } : Jvm.MethodName) "CloudInterviews") ∈ lw_tbl := lw_at lw_m6 217 rfl
theorem q1500 : (Jvm.Cond.constantLong "CloudInterviews$Board" (185 : Nat) (50 : Int64)) ∈ lw_all := lw_g (lw_at lw_m6 220 rfl) rfl
theorem q1501 : (Jvm.Cond.methodLinkNest "CloudInterviews$Board" (148 : Nat) ({ cls := "CloudInterviews", name := "checkArgument", desc := "(Z)V" } : Jvm.MethodName) "CloudInterviews") ∈ lw_tbl := lw_at lw_m6 221 rfl
theorem q1509 : (Jvm.Cond.methodLink "CloudInterviews$Board" (118 : Nat) ({ cls := "java/util/ArrayList", name := "size", desc := "()I" } : Jvm.MethodName)) ∈ lw_all := lw_g (lw_at lw_m6 229 rfl) rfl
theorem q1510 : (Jvm.Cond.methodLinkNest "CloudInterviews$Board" (151 : Nat) ({ cls := "CloudInterviews", name := "checkState", desc := "(Z)V" } : Jvm.MethodName) "CloudInterviews") ∈ lw_tbl := lw_at lw_m6 230 rfl
theorem q1528 : (Jvm.Cond.methodLink "CloudInterviews$Board" (187 : Nat) ({ cls := "CloudInterviews$Applicant", name := "<init>", desc := "(ICIII)V" } : Jvm.MethodName)) ∈ lw_all := lw_g (lw_at lw_m7 8 rfl) rfl
theorem q1530 : (Jvm.Cond.instanceMethod ({ cls := "CloudInterviews$Board", name := "remove", desc := "(I)I" } : Jvm.MethodName)) ∈ lw_all := lw_g (lw_at lw_m7 10 rfl) rfl
theorem q1531 : (Jvm.Cond.selects "CloudInterviews$Board" ({ cls := "CloudInterviews$Board", name := "remove", desc := "(I)I" } : Jvm.MethodName) ({ cls := "CloudInterviews$Board", name := "remove", desc := "(I)I" } : Jvm.MethodName)) ∈ lw_all := lw_g (lw_at lw_m7 11 rfl) rfl
theorem q1532 : (Jvm.Cond.code ({ cls := "CloudInterviews$Board", name := "remove", desc := "(I)I" } : Jvm.MethodName) prog_3_method_20_code (5 : Nat) (Option.some Jvm.ClassFile.FieldType.int)) ∈ lw_all := lw_g (lw_at lw_m7 12 rfl) rfl
theorem q1533 : (Jvm.Cond.methodLink "CloudInterviews$Board" (144 : Nat) ({ cls := "CloudInterviews$Board", name := "applicant", desc := "(I)LCloudInterviews$Applicant;" } : Jvm.MethodName)) ∈ lw_all := lw_g (lw_at lw_m7 13 rfl) rfl
theorem q1534 : (Jvm.Cond.instanceMethod ({ cls := "CloudInterviews$Board", name := "applicant", desc := "(I)LCloudInterviews$Applicant;" } : Jvm.MethodName)) ∈ lw_all := lw_g (lw_at lw_m7 14 rfl) rfl
theorem q1535 : (Jvm.Cond.selects "CloudInterviews$Board" ({ cls := "CloudInterviews$Board", name := "applicant", desc := "(I)LCloudInterviews$Applicant;" } : Jvm.MethodName) ({ cls := "CloudInterviews$Board", name := "applicant", desc := "(I)LCloudInterviews$Applicant;" } : Jvm.MethodName)) ∈ lw_all := lw_g (lw_at lw_m7 15 rfl) rfl
theorem q1536 : (Jvm.Cond.code ({ cls := "CloudInterviews$Board", name := "applicant", desc := "(I)LCloudInterviews$Applicant;" } : Jvm.MethodName) prog_3_method_4_code (3 : Nat) (Option.some (Jvm.ClassFile.FieldType.object "CloudInterviews$Applicant"))) ∈ lw_all := lw_g (lw_at lw_m7 16 rfl) rfl
theorem q1537 : (Jvm.Cond.methodLink "CloudInterviews$Board" (111 : Nat) ({ cls := "java/util/HashMap", name := "get", desc := "(Ljava/lang/Object;)Ljava/lang/Object;" } : Jvm.MethodName)) ∈ lw_all := lw_g (lw_at lw_m7 17 rfl) rfl
theorem q1541 : (Jvm.Cond.methodLinkNest "CloudInterviews$Board" (114 : Nat) ({ cls := "CloudInterviews", name := "checkElement", desc := "(Z)V" } : Jvm.MethodName) "CloudInterviews") ∈ lw_tbl := lw_at lw_m7 21 rfl
theorem q1546 : (Jvm.Cond.methodLink "CloudInterviews$Board" (190 : Nat) ({ cls := "CloudInterviews$Post", name := "empty", desc := "()LCloudInterviews$Applicant;" } : Jvm.MethodName)) ∈ lw_all := lw_g (lw_at lw_m7 26 rfl) rfl
theorem q1550 : (Jvm.Cond.methodLink "CloudInterviews$Board" (193 : Nat) ({ cls := "java/util/ArrayList", name := "remove", desc := "(Ljava/lang/Object;)Z" } : Jvm.MethodName)) ∈ lw_all := lw_g (lw_at lw_m7 30 rfl) rfl
theorem q1561 : (Jvm.Cond.instanceMethod ({ cls := "CloudInterviews$Board", name := "open", desc := "(CIII)I" } : Jvm.MethodName)) ∈ lw_all := lw_g (lw_at lw_m7 41 rfl) rfl
theorem q1562 : (Jvm.Cond.selects "CloudInterviews$Board" ({ cls := "CloudInterviews$Board", name := "open", desc := "(CIII)I" } : Jvm.MethodName) ({ cls := "CloudInterviews$Board", name := "open", desc := "(CIII)I" } : Jvm.MethodName)) ∈ lw_all := lw_g (lw_at lw_m7 42 rfl) rfl
theorem q1563 : (Jvm.Cond.code ({ cls := "CloudInterviews$Board", name := "open", desc := "(CIII)I" } : Jvm.MethodName) prog_3_method_22_code (6 : Nat) (Option.some Jvm.ClassFile.FieldType.int)) ∈ lw_all := lw_g (lw_at lw_m7 43 rfl) rfl
theorem q1564 : (Jvm.Cond.constantLong "CloudInterviews$Board" (200 : Nat) (99 : Int64)) ∈ lw_all := lw_g (lw_at lw_m7 44 rfl) rfl
theorem q1565 : (Jvm.Cond.methodLink "CloudInterviews$Board" (202 : Nat) ({ cls := "CloudInterviews$Post", name := "<init>", desc := "(CIII)V" } : Jvm.MethodName)) ∈ lw_all := lw_g (lw_at lw_m7 45 rfl) rfl
theorem q1567 : (Jvm.Cond.instanceMethod ({ cls := "CloudInterviews$Board", name := "close", desc := "(I)I" } : Jvm.MethodName)) ∈ lw_all := lw_g (lw_at lw_m7 47 rfl) rfl
theorem q1568 : (Jvm.Cond.selects "CloudInterviews$Board" ({ cls := "CloudInterviews$Board", name := "close", desc := "(I)I" } : Jvm.MethodName) ({ cls := "CloudInterviews$Board", name := "close", desc := "(I)I" } : Jvm.MethodName)) ∈ lw_all := lw_g (lw_at lw_m7 48 rfl) rfl
theorem q1569 : (Jvm.Cond.code ({ cls := "CloudInterviews$Board", name := "close", desc := "(I)I" } : Jvm.MethodName) prog_3_method_23_code (5 : Nat) (Option.some Jvm.ClassFile.FieldType.int)) ∈ lw_all := lw_g (lw_at lw_m7 49 rfl) rfl
theorem q1570 : (Jvm.Cond.methodLink "CloudInterviews$Board" (205 : Nat) ({ cls := "CloudInterviews$Board", name := "post", desc := "(I)LCloudInterviews$Post;" } : Jvm.MethodName)) ∈ lw_all := lw_g (lw_at lw_m7 50 rfl) rfl
theorem q1571 : (Jvm.Cond.instanceMethod ({ cls := "CloudInterviews$Board", name := "post", desc := "(I)LCloudInterviews$Post;" } : Jvm.MethodName)) ∈ lw_all := lw_g (lw_at lw_m7 51 rfl) rfl
theorem q1572 : (Jvm.Cond.selects "CloudInterviews$Board" ({ cls := "CloudInterviews$Board", name := "post", desc := "(I)LCloudInterviews$Post;" } : Jvm.MethodName) ({ cls := "CloudInterviews$Board", name := "post", desc := "(I)LCloudInterviews$Post;" } : Jvm.MethodName)) ∈ lw_all := lw_g (lw_at lw_m7 52 rfl) rfl
theorem q1573 : (Jvm.Cond.code ({ cls := "CloudInterviews$Board", name := "post", desc := "(I)LCloudInterviews$Post;" } : Jvm.MethodName) prog_3_method_5_code (2 : Nat) (Option.some (Jvm.ClassFile.FieldType.object "CloudInterviews$Post"))) ∈ lw_all := lw_g (lw_at lw_m7 53 rfl) rfl
theorem q1574 : (Jvm.Cond.methodLinkNest "CloudInterviews$Board" (122 : Nat) ({ cls := "CloudInterviews", name := "checkIndex", desc := "(II)V" } : Jvm.MethodName) "CloudInterviews") ∈ lw_tbl := lw_at lw_m7 54 rfl
theorem q1593 : (Jvm.Cond.methodLink "CloudInterviews$Board" (208 : Nat) ({ cls := "java/util/ArrayList", name := "remove", desc := "(I)Ljava/lang/Object;" } : Jvm.MethodName)) ∈ lw_all := lw_g (lw_at lw_m7 73 rfl) rfl
theorem q1598 : (Jvm.Cond.instanceMethod ({ cls := "CloudInterviews$Board", name := "hire", desc := "(II)I" } : Jvm.MethodName)) ∈ lw_all := lw_g (lw_at lw_m7 78 rfl) rfl
theorem q1599 : (Jvm.Cond.selects "CloudInterviews$Board" ({ cls := "CloudInterviews$Board", name := "hire", desc := "(II)I" } : Jvm.MethodName) ({ cls := "CloudInterviews$Board", name := "hire", desc := "(II)I" } : Jvm.MethodName)) ∈ lw_all := lw_g (lw_at lw_m7 79 rfl) rfl
theorem q1600 : (Jvm.Cond.code ({ cls := "CloudInterviews$Board", name := "hire", desc := "(II)I" } : Jvm.MethodName) prog_3_method_27_code (5 : Nat) (Option.some Jvm.ClassFile.FieldType.int)) ∈ lw_all := lw_g (lw_at lw_m7 80 rfl) rfl
theorem q1601 : (Jvm.Cond.methodLink "CloudInterviews$Board" (210 : Nat) ({ cls := "CloudInterviews$Post", name := "fits", desc := "(LCloudInterviews$Applicant;)Z" } : Jvm.MethodName)) ∈ lw_all := lw_g (lw_at lw_m7 81 rfl) rfl
theorem q1605 : (Jvm.Cond.methodLinkNest "CloudInterviews$Board" (218 : Nat) ({ cls := "CloudInterviews", name := "checkSupported", desc := "(Z)V" } : Jvm.MethodName) "CloudInterviews") ∈ lw_tbl := lw_at lw_m7 85 rfl
theorem q1623 : (Jvm.Cond.methodLink "CloudInterviews$Board" (221 : Nat) ({ cls := "CloudInterviews$Board", name := "vacant", desc := "()I" } : Jvm.MethodName)) ∈ lw_all := lw_g (lw_at lw_m7 103 rfl) rfl
theorem q1625 : (Jvm.Cond.instanceMethod ({ cls := "CloudInterviews$Board", name := "dismiss", desc := "(I)I" } : Jvm.MethodName)) ∈ lw_all := lw_g (lw_at lw_m7 105 rfl) rfl
theorem q1626 : (Jvm.Cond.selects "CloudInterviews$Board" ({ cls := "CloudInterviews$Board", name := "dismiss", desc := "(I)I" } : Jvm.MethodName) ({ cls := "CloudInterviews$Board", name := "dismiss", desc := "(I)I" } : Jvm.MethodName)) ∈ lw_all := lw_g (lw_at lw_m7 106 rfl) rfl
theorem q1627 : (Jvm.Cond.code ({ cls := "CloudInterviews$Board", name := "dismiss", desc := "(I)I" } : Jvm.MethodName) prog_3_method_29_code (3 : Nat) (Option.some Jvm.ClassFile.FieldType.int)) ∈ lw_all := lw_g (lw_at lw_m7 107 rfl) rfl
theorem q1629 : (Jvm.Cond.instanceMethod ({ cls := "CloudInterviews$Board", name := "addReference", desc := "(II)I" } : Jvm.MethodName)) ∈ lw_all := lw_g (lw_at lw_m7 109 rfl) rfl
theorem q1630 : (Jvm.Cond.selects "CloudInterviews$Board" ({ cls := "CloudInterviews$Board", name := "addReference", desc := "(II)I" } : Jvm.MethodName) ({ cls := "CloudInterviews$Board", name := "addReference", desc := "(II)I" } : Jvm.MethodName)) ∈ lw_all := lw_g (lw_at lw_m7 110 rfl) rfl
theorem q1631 : (Jvm.Cond.code ({ cls := "CloudInterviews$Board", name := "addReference", desc := "(II)I" } : Jvm.MethodName) prog_3_method_13_code (5 : Nat) (Option.some Jvm.ClassFile.FieldType.int)) ∈ lw_all := lw_g (lw_at lw_m7 111 rfl) rfl
theorem q1632 : (Jvm.Cond.methodLink "CloudInterviews$Board" (154 : Nat) ({ cls := "CloudInterviews$Board", name := "referencesFor", desc := "(I)I" } : Jvm.MethodName)) ∈ lw_all := lw_g (lw_at lw_m7 112 rfl) rfl
theorem q1633 : (Jvm.Cond.instanceMethod ({ cls := "CloudInterviews$Board", name := "referencesFor", desc := "(I)I" } : Jvm.MethodName)) ∈ lw_all := lw_g (lw_at lw_m7 113 rfl) rfl
theorem q1634 : (Jvm.Cond.selects "CloudInterviews$Board" ({ cls := "CloudInterviews$Board", name := "referencesFor", desc := "(I)I" } : Jvm.MethodName) ({ cls := "CloudInterviews$Board", name := "referencesFor", desc := "(I)I" } : Jvm.MethodName)) ∈ lw_all := lw_g (lw_at lw_m7 114 rfl) rfl
theorem q1635 : (Jvm.Cond.code ({ cls := "CloudInterviews$Board", name := "referencesFor", desc := "(I)I" } : Jvm.MethodName) prog_3_method_11_code (5 : Nat) (Option.some Jvm.ClassFile.FieldType.int)) ∈ lw_all := lw_g (lw_at lw_m7 115 rfl) rfl
theorem q1637 : (Jvm.Cond.instanceMethod ({ cls := "CloudInterviews$Board", name := "match", desc := "()I" } : Jvm.MethodName)) ∈ lw_all := lw_g (lw_at lw_m7 117 rfl) rfl
theorem q1638 : (Jvm.Cond.selects "CloudInterviews$Board" ({ cls := "CloudInterviews$Board", name := "match", desc := "()I" } : Jvm.MethodName) ({ cls := "CloudInterviews$Board", name := "match", desc := "()I" } : Jvm.MethodName)) ∈ lw_all := lw_g (lw_at lw_m7 118 rfl) rfl
theorem q1639 : (Jvm.Cond.code ({ cls := "CloudInterviews$Board", name := "match", desc := "()I" } : Jvm.MethodName) prog_3_method_31_code (5 : Nat) (Option.some Jvm.ClassFile.FieldType.int)) ∈ lw_all := lw_g (lw_at lw_m7 119 rfl) rfl
theorem q1640 : (Jvm.Cond.methodLink "CloudInterviews$Board" (231 : Nat) ({ cls := "CloudInterviews$Board", name := "byPreference", desc := "()Ljava/util/ArrayList;" } : Jvm.MethodName)) ∈ lw_all := lw_g (lw_at lw_m7 120 rfl) rfl
theorem q1641 : (Jvm.Cond.privateMethod ({ cls := "CloudInterviews$Board", name := "byPreference", desc := "()Ljava/util/ArrayList;" } : Jvm.MethodName)) ∈ lw_tbl := lw_at lw_m7 121 rfl
theorem q1642 : (Jvm.Cond.instanceMethod ({ cls := "CloudInterviews$Board", name := "byPreference", desc := "()Ljava/util/ArrayList;" } : Jvm.MethodName)) ∈ lw_all := lw_g (lw_at lw_m7 122 rfl) rfl
theorem q1643 : (Jvm.Cond.code ({ cls := "CloudInterviews$Board", name := "byPreference", desc := "()Ljava/util/ArrayList;" } : Jvm.MethodName) prog_3_method_30_code (5 : Nat) (Option.some (Jvm.ClassFile.FieldType.object "java/util/ArrayList"))) ∈ lw_all := lw_g (lw_at lw_m7 123 rfl) rfl
theorem q1644 : (Jvm.Cond.methodLink "CloudInterviews$Board" (214 : Nat) ({ cls := "CloudInterviews$Board", name := "isPreferred", desc := "(LCloudInterviews$Post;LCloudInterviews$Post;)Z" } : Jvm.MethodName)) ∈ lw_all := lw_g (lw_at lw_m7 124 rfl) rfl
theorem q1645 : (Jvm.Cond.instanceMethod ({ cls := "CloudInterviews$Board", name := "isPreferred", desc := "(LCloudInterviews$Post;LCloudInterviews$Post;)Z" } : Jvm.MethodName)) ∈ lw_all := lw_g (lw_at lw_m7 125 rfl) rfl
theorem q1646 : (Jvm.Cond.selects "CloudInterviews$Board" ({ cls := "CloudInterviews$Board", name := "isPreferred", desc := "(LCloudInterviews$Post;LCloudInterviews$Post;)Z" } : Jvm.MethodName) ({ cls := "CloudInterviews$Board", name := "isPreferred", desc := "(LCloudInterviews$Post;LCloudInterviews$Post;)Z" } : Jvm.MethodName)) ∈ lw_all := lw_g (lw_at lw_m7 126 rfl) rfl
theorem q1647 : (Jvm.Cond.code ({ cls := "CloudInterviews$Board", name := "isPreferred", desc := "(LCloudInterviews$Post;LCloudInterviews$Post;)Z" } : Jvm.MethodName) prog_3_method_17_code (4 : Nat) (Option.some Jvm.ClassFile.FieldType.boolean)) ∈ lw_all := lw_g (lw_at lw_m7 127 rfl) rfl
theorem q1648 : (Jvm.Cond.methodLink "CloudInterviews$Board" (228 : Nat) ({ cls := "java/util/ArrayList", name := "add", desc := "(ILjava/lang/Object;)V" } : Jvm.MethodName)) ∈ lw_all := lw_g (lw_at lw_m7 128 rfl) rfl
theorem q1673 : (Jvm.Cond.methodLink "CloudInterviews$Board" (235 : Nat) ({ cls := "CloudInterviews$Board", name := "propose", desc := "(LCloudInterviews$Applicant;ILjava/util/ArrayList;[LCloudInterviews$Applicant;)V" } : Jvm.MethodName)) ∈ lw_all := lw_g (lw_at lw_m7 153 rfl) rfl
theorem q1674 : (Jvm.Cond.privateMethod ({ cls := "CloudInterviews$Board", name := "propose", desc := "(LCloudInterviews$Applicant;ILjava/util/ArrayList;[LCloudInterviews$Applicant;)V" } : Jvm.MethodName)) ∈ lw_tbl := lw_at lw_m7 154 rfl
theorem q1675 : (Jvm.Cond.instanceMethod ({ cls := "CloudInterviews$Board", name := "propose", desc := "(LCloudInterviews$Applicant;ILjava/util/ArrayList;[LCloudInterviews$Applicant;)V" } : Jvm.MethodName)) ∈ lw_all := lw_g (lw_at lw_m7 155 rfl) rfl
theorem q1676 : (Jvm.Cond.code ({ cls := "CloudInterviews$Board", name := "propose", desc := "(LCloudInterviews$Applicant;ILjava/util/ArrayList;[LCloudInterviews$Applicant;)V" } : Jvm.MethodName) prog_3_method_32_code (9 : Nat) (Option.none : Option Jvm.ClassFile.FieldType)) ∈ lw_all := lw_g (lw_at lw_m7 156 rfl) rfl
theorem q1677 : (Jvm.Cond.methodLink "CloudInterviews$Board" (171 : Nat) ({ cls := "CloudInterviews$Board", name := "isBetter", desc := "(LCloudInterviews$Applicant;LCloudInterviews$Applicant;)Z" } : Jvm.MethodName)) ∈ lw_all := lw_g (lw_at lw_m7 157 rfl) rfl
theorem q1678 : (Jvm.Cond.instanceMethod ({ cls := "CloudInterviews$Board", name := "isBetter", desc := "(LCloudInterviews$Applicant;LCloudInterviews$Applicant;)Z" } : Jvm.MethodName)) ∈ lw_all := lw_g (lw_at lw_m7 158 rfl) rfl
theorem q1679 : (Jvm.Cond.selects "CloudInterviews$Board" ({ cls := "CloudInterviews$Board", name := "isBetter", desc := "(LCloudInterviews$Applicant;LCloudInterviews$Applicant;)Z" } : Jvm.MethodName) ({ cls := "CloudInterviews$Board", name := "isBetter", desc := "(LCloudInterviews$Applicant;LCloudInterviews$Applicant;)Z" } : Jvm.MethodName)) ∈ lw_all := lw_g (lw_at lw_m7 159 rfl) rfl
theorem q1680 : (Jvm.Cond.code ({ cls := "CloudInterviews$Board", name := "isBetter", desc := "(LCloudInterviews$Applicant;LCloudInterviews$Applicant;)Z" } : Jvm.MethodName) prog_3_method_16_code (4 : Nat) (Option.some Jvm.ClassFile.FieldType.boolean)) ∈ lw_all := lw_g (lw_at lw_m7 160 rfl) rfl
theorem q1681 : (Jvm.Cond.methodLink "CloudInterviews$Board" (164 : Nat) ({ cls := "CloudInterviews$Board", name := "score", desc := "(LCloudInterviews$Applicant;)I" } : Jvm.MethodName)) ∈ lw_all := lw_g (lw_at lw_m7 161 rfl) rfl
theorem q1682 : (Jvm.Cond.instanceMethod ({ cls := "CloudInterviews$Board", name := "score", desc := "(LCloudInterviews$Applicant;)I" } : Jvm.MethodName)) ∈ lw_all := lw_g (lw_at lw_m7 162 rfl) rfl
theorem q1683 : (Jvm.Cond.selects "CloudInterviews$Board" ({ cls := "CloudInterviews$Board", name := "score", desc := "(LCloudInterviews$Applicant;)I" } : Jvm.MethodName) ({ cls := "CloudInterviews$Board", name := "score", desc := "(LCloudInterviews$Applicant;)I" } : Jvm.MethodName)) ∈ lw_all := lw_g (lw_at lw_m7 163 rfl) rfl
theorem q1684 : (Jvm.Cond.code ({ cls := "CloudInterviews$Board", name := "score", desc := "(LCloudInterviews$Applicant;)I" } : Jvm.MethodName) prog_3_method_15_code (2 : Nat) (Option.some Jvm.ClassFile.FieldType.int)) ∈ lw_all := lw_g (lw_at lw_m7 164 rfl) rfl
theorem q1686 : (Jvm.Cond.instanceMethod ({ cls := "CloudInterviews$Board", name := "passDays", desc := "(I)I" } : Jvm.MethodName)) ∈ lw_all := lw_g (lw_at lw_m7 166 rfl) rfl
theorem q1687 : (Jvm.Cond.selects "CloudInterviews$Board" ({ cls := "CloudInterviews$Board", name := "passDays", desc := "(I)I" } : Jvm.MethodName) ({ cls := "CloudInterviews$Board", name := "passDays", desc := "(I)I" } : Jvm.MethodName)) ∈ lw_all := lw_g (lw_at lw_m7 167 rfl) rfl
theorem q1688 : (Jvm.Cond.code ({ cls := "CloudInterviews$Board", name := "passDays", desc := "(I)I" } : Jvm.MethodName) prog_3_method_41_code (4 : Nat) (Option.some Jvm.ClassFile.FieldType.int)) ∈ lw_all := lw_g (lw_at lw_m7 168 rfl) rfl
theorem q1689 : (Jvm.Cond.constantLong "CloudInterviews$Board" (267 : Nat) (30 : Int64)) ∈ lw_all := lw_g (lw_at lw_m7 169 rfl) rfl
theorem q1690 : (Jvm.Cond.methodLink "CloudInterviews$Board" (269 : Nat) ({ cls := "CloudInterviews$Board", name := "passDay", desc := "()I" } : Jvm.MethodName)) ∈ lw_all := lw_g (lw_at lw_m7 170 rfl) rfl
theorem q1691 : (Jvm.Cond.privateMethod ({ cls := "CloudInterviews$Board", name := "passDay", desc := "()I" } : Jvm.MethodName)) ∈ lw_tbl := lw_at lw_m7 171 rfl
theorem q1692 : (Jvm.Cond.instanceMethod ({ cls := "CloudInterviews$Board", name := "passDay", desc := "()I" } : Jvm.MethodName)) ∈ lw_all := lw_g (lw_at lw_m7 172 rfl) rfl
theorem q1693 : (Jvm.Cond.code ({ cls := "CloudInterviews$Board", name := "passDay", desc := "()I" } : Jvm.MethodName) prog_3_method_40_code (5 : Nat) (Option.some Jvm.ClassFile.FieldType.int)) ∈ lw_all := lw_g (lw_at lw_m7 173 rfl) rfl
theorem q1694 : (Jvm.Cond.methodLink "CloudInterviews$Board" (264 : Nat) ({ cls := "java/lang/Math", name := "min", desc := "(II)I" } : Jvm.MethodName)) ∈ lw_all := lw_g (lw_at lw_m7 174 rfl) rfl
theorem q1696 : (Jvm.Cond.instanceMethod ({ cls := "CloudInterviews$Board", name := "hireBest", desc := "(I)I" } : Jvm.MethodName)) ∈ lw_all := lw_g (lw_at lw_m7 176 rfl) rfl
theorem q1697 : (Jvm.Cond.selects "CloudInterviews$Board" ({ cls := "CloudInterviews$Board", name := "hireBest", desc := "(I)I" } : Jvm.MethodName) ({ cls := "CloudInterviews$Board", name := "hireBest", desc := "(I)I" } : Jvm.MethodName)) ∈ lw_all := lw_g (lw_at lw_m7 177 rfl) rfl
theorem q1698 : (Jvm.Cond.code ({ cls := "CloudInterviews$Board", name := "hireBest", desc := "(I)I" } : Jvm.MethodName) prog_3_method_28_code (4 : Nat) (Option.some Jvm.ClassFile.FieldType.int)) ∈ lw_all := lw_g (lw_at lw_m7 178 rfl) rfl
theorem q1699 : (Jvm.Cond.methodLink "CloudInterviews$Board" (224 : Nat) ({ cls := "CloudInterviews$Board", name := "candidate", desc := "(LCloudInterviews$Post;)LCloudInterviews$Applicant;" } : Jvm.MethodName)) ∈ lw_all := lw_g (lw_at lw_m7 179 rfl) rfl
theorem q1700 : (Jvm.Cond.instanceMethod ({ cls := "CloudInterviews$Board", name := "candidate", desc := "(LCloudInterviews$Post;)LCloudInterviews$Applicant;" } : Jvm.MethodName)) ∈ lw_all := lw_g (lw_at lw_m7 180 rfl) rfl
theorem q1701 : (Jvm.Cond.selects "CloudInterviews$Board" ({ cls := "CloudInterviews$Board", name := "candidate", desc := "(LCloudInterviews$Post;)LCloudInterviews$Applicant;" } : Jvm.MethodName) ({ cls := "CloudInterviews$Board", name := "candidate", desc := "(LCloudInterviews$Post;)LCloudInterviews$Applicant;" } : Jvm.MethodName)) ∈ lw_all := lw_g (lw_at lw_m7 181 rfl) rfl
theorem q1702 : (Jvm.Cond.code ({ cls := "CloudInterviews$Board", name := "candidate", desc := "(LCloudInterviews$Post;)LCloudInterviews$Applicant;" } : Jvm.MethodName) prog_3_method_25_code (6 : Nat) (Option.some (Jvm.ClassFile.FieldType.object "CloudInterviews$Applicant"))) ∈ lw_all := lw_g (lw_at lw_m7 182 rfl) rfl
theorem q1704 : (Jvm.Cond.instanceMethod ({ cls := "CloudInterviews$Board", name := "removeReference", desc := "(II)I" } : Jvm.MethodName)) ∈ lw_all := lw_g (lw_at lw_m7 184 rfl) rfl
theorem q1705 : (Jvm.Cond.selects "CloudInterviews$Board" ({ cls := "CloudInterviews$Board", name := "removeReference", desc := "(II)I" } : Jvm.MethodName) ({ cls := "CloudInterviews$Board", name := "removeReference", desc := "(II)I" } : Jvm.MethodName)) ∈ lw_all := lw_g (lw_at lw_m7 185 rfl) rfl
theorem q1706 : (Jvm.Cond.code ({ cls := "CloudInterviews$Board", name := "removeReference", desc := "(II)I" } : Jvm.MethodName) prog_3_method_14_code (5 : Nat) (Option.some Jvm.ClassFile.FieldType.int)) ∈ lw_all := lw_g (lw_at lw_m7 186 rfl) rfl
theorem q1708 : (Jvm.Cond.instanceMethod ({ cls := "CloudInterviews$Board", name := "rejectRainy", desc := "(I)I" } : Jvm.MethodName)) ∈ lw_all := lw_g (lw_at lw_m7 188 rfl) rfl
theorem q1709 : (Jvm.Cond.selects "CloudInterviews$Board" ({ cls := "CloudInterviews$Board", name := "rejectRainy", desc := "(I)I" } : Jvm.MethodName) ({ cls := "CloudInterviews$Board", name := "rejectRainy", desc := "(I)I" } : Jvm.MethodName)) ∈ lw_all := lw_g (lw_at lw_m7 189 rfl) rfl
theorem q1710 : (Jvm.Cond.code ({ cls := "CloudInterviews$Board", name := "rejectRainy", desc := "(I)I" } : Jvm.MethodName) prog_3_method_21_code (6 : Nat) (Option.some Jvm.ClassFile.FieldType.int)) ∈ lw_all := lw_g (lw_at lw_m7 190 rfl) rfl
theorem q1711 : (Jvm.Cond.methodLink "CloudInterviews$Board" (198 : Nat) ({ cls := "CloudInterviews$Board", name := "remove", desc := "(I)I" } : Jvm.MethodName)) ∈ lw_all := lw_g (lw_at lw_m7 191 rfl) rfl
theorem q1766 : (Jvm.Cond.instanceMethod ({ cls := "CloudInterviews$Board", name := "mostHires", desc := "()I" } : Jvm.MethodName)) ∈ lw_all := lw_g (lw_at lw_m8 6 rfl) rfl
theorem q1767 : (Jvm.Cond.selects "CloudInterviews$Board" ({ cls := "CloudInterviews$Board", name := "mostHires", desc := "()I" } : Jvm.MethodName) ({ cls := "CloudInterviews$Board", name := "mostHires", desc := "()I" } : Jvm.MethodName)) ∈ lw_all := lw_g (lw_at lw_m8 7 rfl) rfl
theorem q1768 : (Jvm.Cond.code ({ cls := "CloudInterviews$Board", name := "mostHires", desc := "()I" } : Jvm.MethodName) prog_3_method_33_code (5 : Nat) (Option.some Jvm.ClassFile.FieldType.int)) ∈ lw_all := lw_g (lw_at lw_m8 8 rfl) rfl
theorem q1769 : (Jvm.Cond.methodLink "CloudInterviews$Board" (239 : Nat) ({ cls := "CloudInterviews$Board", name := "augment", desc := "(LCloudInterviews$Applicant;[LCloudInterviews$Applicant;[Z)Z" } : Jvm.MethodName)) ∈ lw_all := lw_g (lw_at lw_m8 9 rfl) rfl
theorem q1770 : (Jvm.Cond.privateMethod ({ cls := "CloudInterviews$Board", name := "augment", desc := "(LCloudInterviews$Applicant;[LCloudInterviews$Applicant;[Z)Z" } : Jvm.MethodName)) ∈ lw_tbl := lw_at lw_m8 10 rfl
theorem q1771 : (Jvm.Cond.instanceMethod ({ cls := "CloudInterviews$Board", name := "augment", desc := "(LCloudInterviews$Applicant;[LCloudInterviews$Applicant;[Z)Z" } : Jvm.MethodName)) ∈ lw_all := lw_g (lw_at lw_m8 11 rfl) rfl
theorem q1772 : (Jvm.Cond.code ({ cls := "CloudInterviews$Board", name := "augment", desc := "(LCloudInterviews$Applicant;[LCloudInterviews$Applicant;[Z)Z" } : Jvm.MethodName) prog_3_method_34_code (6 : Nat) (Option.some Jvm.ClassFile.FieldType.boolean)) ∈ lw_all := lw_g (lw_at lw_m8 12 rfl) rfl
theorem q1779 : (Jvm.Cond.instanceMethod ({ cls := "CloudInterviews$Board", name := "mostHiresBySets", desc := "()I" } : Jvm.MethodName)) ∈ lw_all := lw_g (lw_at lw_m8 19 rfl) rfl
theorem q1780 : (Jvm.Cond.selects "CloudInterviews$Board" ({ cls := "CloudInterviews$Board", name := "mostHiresBySets", desc := "()I" } : Jvm.MethodName) ({ cls := "CloudInterviews$Board", name := "mostHiresBySets", desc := "()I" } : Jvm.MethodName)) ∈ lw_all := lw_g (lw_at lw_m8 20 rfl) rfl
theorem q1781 : (Jvm.Cond.code ({ cls := "CloudInterviews$Board", name := "mostHiresBySets", desc := "()I" } : Jvm.MethodName) prog_3_method_35_code (5 : Nat) (Option.some Jvm.ClassFile.FieldType.int)) ∈ lw_all := lw_g (lw_at lw_m8 21 rfl) rfl
theorem q1782 : (Jvm.Cond.methodLink "CloudInterviews$Board" (243 : Nat) ({ cls := "CloudInterviews$Board", name := "addPost", desc := "(LCloudInterviews$Applicant;I[Z)V" } : Jvm.MethodName)) ∈ lw_all := lw_g (lw_at lw_m8 22 rfl) rfl
theorem q1783 : (Jvm.Cond.privateMethod ({ cls := "CloudInterviews$Board", name := "addPost", desc := "(LCloudInterviews$Applicant;I[Z)V" } : Jvm.MethodName)) ∈ lw_tbl := lw_at lw_m8 23 rfl
theorem q1784 : (Jvm.Cond.instanceMethod ({ cls := "CloudInterviews$Board", name := "addPost", desc := "(LCloudInterviews$Applicant;I[Z)V" } : Jvm.MethodName)) ∈ lw_all := lw_g (lw_at lw_m8 24 rfl) rfl
theorem q1785 : (Jvm.Cond.code ({ cls := "CloudInterviews$Board", name := "addPost", desc := "(LCloudInterviews$Applicant;I[Z)V" } : Jvm.MethodName) prog_3_method_36_code (7 : Nat) (Option.none : Option Jvm.ClassFile.FieldType)) ∈ lw_all := lw_g (lw_at lw_m8 25 rfl) rfl
theorem q1786 : (Jvm.Cond.methodLink "CloudInterviews$Board" (247 : Nat) ({ cls := "java/lang/Integer", name := "bitCount", desc := "(I)I" } : Jvm.MethodName)) ∈ lw_all := lw_g (lw_at lw_m8 26 rfl) rfl
theorem q1792 : (Jvm.Cond.methodLink "CloudInterviews$Board" (250 : Nat) ({ cls := "java/lang/Math", name := "max", desc := "(II)I" } : Jvm.MethodName)) ∈ lw_all := lw_g (lw_at lw_m8 32 rfl) rfl
theorem q1798 : (Jvm.Cond.instanceMethod ({ cls := "CloudInterviews$Board", name := "blockingPairs", desc := "()I" } : Jvm.MethodName)) ∈ lw_all := lw_g (lw_at lw_m8 38 rfl) rfl
theorem q1799 : (Jvm.Cond.selects "CloudInterviews$Board" ({ cls := "CloudInterviews$Board", name := "blockingPairs", desc := "()I" } : Jvm.MethodName) ({ cls := "CloudInterviews$Board", name := "blockingPairs", desc := "()I" } : Jvm.MethodName)) ∈ lw_all := lw_g (lw_at lw_m8 39 rfl) rfl
theorem q1800 : (Jvm.Cond.code ({ cls := "CloudInterviews$Board", name := "blockingPairs", desc := "()I" } : Jvm.MethodName) prog_3_method_38_code (7 : Nat) (Option.some Jvm.ClassFile.FieldType.int)) ∈ lw_all := lw_g (lw_at lw_m8 40 rfl) rfl
theorem q1801 : (Jvm.Cond.methodLink "CloudInterviews$Board" (260 : Nat) ({ cls := "CloudInterviews$Board", name := "wouldTake", desc := "(LCloudInterviews$Post;LCloudInterviews$Applicant;)Z" } : Jvm.MethodName)) ∈ lw_all := lw_g (lw_at lw_m8 41 rfl) rfl
theorem q1802 : (Jvm.Cond.privateMethod ({ cls := "CloudInterviews$Board", name := "wouldTake", desc := "(LCloudInterviews$Post;LCloudInterviews$Applicant;)Z" } : Jvm.MethodName)) ∈ lw_tbl := lw_at lw_m8 42 rfl
theorem q1803 : (Jvm.Cond.instanceMethod ({ cls := "CloudInterviews$Board", name := "wouldTake", desc := "(LCloudInterviews$Post;LCloudInterviews$Applicant;)Z" } : Jvm.MethodName)) ∈ lw_all := lw_g (lw_at lw_m8 43 rfl) rfl
theorem q1804 : (Jvm.Cond.code ({ cls := "CloudInterviews$Board", name := "wouldTake", desc := "(LCloudInterviews$Post;LCloudInterviews$Applicant;)Z" } : Jvm.MethodName) prog_3_method_37_code (3 : Nat) (Option.some Jvm.ClassFile.FieldType.boolean)) ∈ lw_all := lw_g (lw_at lw_m8 44 rfl) rfl
theorem q1810 : (Jvm.Cond.instanceMethod ({ cls := "CloudInterviews$Board", name := "blockingPairsByPreference", desc := "()I" } : Jvm.MethodName)) ∈ lw_all := lw_g (lw_at lw_m8 50 rfl) rfl
theorem q1811 : (Jvm.Cond.selects "CloudInterviews$Board" ({ cls := "CloudInterviews$Board", name := "blockingPairsByPreference", desc := "()I" } : Jvm.MethodName) ({ cls := "CloudInterviews$Board", name := "blockingPairsByPreference", desc := "()I" } : Jvm.MethodName)) ∈ lw_all := lw_g (lw_at lw_m8 51 rfl) rfl
theorem q1812 : (Jvm.Cond.code ({ cls := "CloudInterviews$Board", name := "blockingPairsByPreference", desc := "()I" } : Jvm.MethodName) prog_3_method_39_code (6 : Nat) (Option.some Jvm.ClassFile.FieldType.int)) ∈ lw_all := lw_g (lw_at lw_m8 52 rfl) rfl
theorem q1822 : (Jvm.Cond.instanceMethod ({ cls := "CloudInterviews$Board", name := "dailyWages", desc := "()I" } : Jvm.MethodName)) ∈ lw_all := lw_g (lw_at lw_m8 62 rfl) rfl
theorem q1823 : (Jvm.Cond.selects "CloudInterviews$Board" ({ cls := "CloudInterviews$Board", name := "dailyWages", desc := "()I" } : Jvm.MethodName) ({ cls := "CloudInterviews$Board", name := "dailyWages", desc := "()I" } : Jvm.MethodName)) ∈ lw_all := lw_g (lw_at lw_m8 63 rfl) rfl
theorem q1824 : (Jvm.Cond.code ({ cls := "CloudInterviews$Board", name := "dailyWages", desc := "()I" } : Jvm.MethodName) prog_3_method_43_code (4 : Nat) (Option.some Jvm.ClassFile.FieldType.int)) ∈ lw_all := lw_g (lw_at lw_m8 64 rfl) rfl
theorem q1830 : (Jvm.Cond.instanceMethod ({ cls := "CloudInterviews$Board", name := "postsTold", desc := "()Ljava/lang/String;" } : Jvm.MethodName)) ∈ lw_all := lw_g (lw_at lw_m8 70 rfl) rfl
theorem q1831 : (Jvm.Cond.selects "CloudInterviews$Board" ({ cls := "CloudInterviews$Board", name := "postsTold", desc := "()Ljava/lang/String;" } : Jvm.MethodName) ({ cls := "CloudInterviews$Board", name := "postsTold", desc := "()Ljava/lang/String;" } : Jvm.MethodName)) ∈ lw_all := lw_g (lw_at lw_m8 71 rfl) rfl
theorem q1832 : (Jvm.Cond.code ({ cls := "CloudInterviews$Board", name := "postsTold", desc := "()Ljava/lang/String;" } : Jvm.MethodName) prog_3_method_46_code (4 : Nat) (Option.some (Jvm.ClassFile.FieldType.object "java/lang/String"))) ∈ lw_all := lw_g (lw_at lw_m8 72 rfl) rfl
theorem q1833 : (Jvm.Cond.classLink "CloudInterviews$Board" (287 : Nat) "java/lang/StringBuilder") ∈ lw_all := lw_g (lw_at lw_m8 73 rfl) rfl
theorem q1834 : (Jvm.Cond.methodLink "CloudInterviews$Board" (289 : Nat) ({ cls := "java/lang/StringBuilder", name := "<init>", desc := "()V" } : Jvm.MethodName)) ∈ lw_all := lw_g (lw_at lw_m8 74 rfl) rfl
theorem q1835 : (Jvm.Cond.methodLink "CloudInterviews$Board" (305 : Nat) ({ cls := "java/lang/StringBuilder", name := "length", desc := "()I" } : Jvm.MethodName)) ∈ lw_all := lw_g (lw_at lw_m8 75 rfl) rfl
theorem q1836 : (Jvm.Cond.methodLink "CloudInterviews$Board" (294 : Nat) ({ cls := "java/lang/StringBuilder", name := "append", desc := "(C)Ljava/lang/StringBuilder;" } : Jvm.MethodName)) ∈ lw_all := lw_g (lw_at lw_m8 76 rfl) rfl
theorem q1856 : (Jvm.Cond.methodLink "CloudInterviews$Board" (298 : Nat) ({ cls := "java/lang/StringBuilder", name := "append", desc := "(I)Ljava/lang/StringBuilder;" } : Jvm.MethodName)) ∈ lw_all := lw_g (lw_at lw_m8 96 rfl) rfl
theorem q1857 : (Jvm.Cond.methodLink "CloudInterviews$Board" (301 : Nat) ({ cls := "java/lang/StringBuilder", name := "toString", desc := "()Ljava/lang/String;" } : Jvm.MethodName)) ∈ lw_all := lw_g (lw_at lw_m8 97 rfl) rfl
theorem q1868 : (Jvm.Cond.instanceMethod ({ cls := "CloudInterviews$Board", name := "isConsistent", desc := "()Z" } : Jvm.MethodName)) ∈ lw_all := lw_g (lw_at lw_m8 108 rfl) rfl
theorem q1869 : (Jvm.Cond.selects "CloudInterviews$Board" ({ cls := "CloudInterviews$Board", name := "isConsistent", desc := "()Z" } : Jvm.MethodName) ({ cls := "CloudInterviews$Board", name := "isConsistent", desc := "()Z" } : Jvm.MethodName)) ∈ lw_all := lw_g (lw_at lw_m8 109 rfl) rfl
theorem q1870 : (Jvm.Cond.code ({ cls := "CloudInterviews$Board", name := "isConsistent", desc := "()Z" } : Jvm.MethodName) prog_3_method_44_code (4 : Nat) (Option.some Jvm.ClassFile.FieldType.boolean)) ∈ lw_all := lw_g (lw_at lw_m8 110 rfl) rfl
theorem q1871 : (Jvm.Cond.methodLink "CloudInterviews$Board" (275 : Nat) ({ cls := "CloudInterviews$Board", name := "mostHires", desc := "()I" } : Jvm.MethodName)) ∈ lw_all := lw_g (lw_at lw_m8 111 rfl) rfl
theorem q1872 : (Jvm.Cond.methodLink "CloudInterviews$Board" (278 : Nat) ({ cls := "CloudInterviews$Board", name := "mostHiresBySets", desc := "()I" } : Jvm.MethodName)) ∈ lw_all := lw_g (lw_at lw_m8 112 rfl) rfl
theorem q1873 : (Jvm.Cond.methodLink "CloudInterviews$Board" (281 : Nat) ({ cls := "CloudInterviews$Board", name := "blockingPairs", desc := "()I" } : Jvm.MethodName)) ∈ lw_all := lw_g (lw_at lw_m8 113 rfl) rfl
theorem q1874 : (Jvm.Cond.methodLink "CloudInterviews$Board" (284 : Nat) ({ cls := "CloudInterviews$Board", name := "blockingPairsByPreference", desc := "()I" } : Jvm.MethodName)) ∈ lw_all := lw_g (lw_at lw_m8 114 rfl) rfl
theorem q1998 : (Jvm.Cond.instanceMethod ({ cls := "CloudInterviews$Board", name := "byScore", desc := "(I)I" } : Jvm.MethodName)) ∈ lw_all := lw_g (lw_at lw_m8 238 rfl) rfl
theorem q1999 : (Jvm.Cond.selects "CloudInterviews$Board" ({ cls := "CloudInterviews$Board", name := "byScore", desc := "(I)I" } : Jvm.MethodName) ({ cls := "CloudInterviews$Board", name := "byScore", desc := "(I)I" } : Jvm.MethodName)) ∈ lw_all := lw_g (lw_at lw_m8 239 rfl) rfl
theorem q2000 : (Jvm.Cond.code ({ cls := "CloudInterviews$Board", name := "byScore", desc := "(I)I" } : Jvm.MethodName) prog_3_method_18_code (8 : Nat) (Option.some Jvm.ClassFile.FieldType.int)) ∈ lw_all := lw_g (lw_at lw_m9 0 rfl) rfl
theorem q2041 : (Jvm.Cond.instanceMethod ({ cls := "CloudInterviews$Board", name := "referencesFrom", desc := "(I)I" } : Jvm.MethodName)) ∈ lw_all := lw_g (lw_at lw_m9 41 rfl) rfl
theorem q2042 : (Jvm.Cond.selects "CloudInterviews$Board" ({ cls := "CloudInterviews$Board", name := "referencesFrom", desc := "(I)I" } : Jvm.MethodName) ({ cls := "CloudInterviews$Board", name := "referencesFrom", desc := "(I)I" } : Jvm.MethodName)) ∈ lw_all := lw_g (lw_at lw_m9 42 rfl) rfl
theorem q2043 : (Jvm.Cond.code ({ cls := "CloudInterviews$Board", name := "referencesFrom", desc := "(I)I" } : Jvm.MethodName) prog_3_method_12_code (5 : Nat) (Option.some Jvm.ClassFile.FieldType.int)) ∈ lw_all := lw_g (lw_at lw_m9 43 rfl) rfl
theorem q2113 : (Jvm.Cond.instanceMethod ({ cls := "CloudInterviews$Board", name := "favourite", desc := "(LCloudInterviews$Applicant;)LCloudInterviews$Post;" } : Jvm.MethodName)) ∈ lw_all := lw_g (lw_at lw_m9 113 rfl) rfl
theorem q2114 : (Jvm.Cond.selects "CloudInterviews$Board" ({ cls := "CloudInterviews$Board", name := "favourite", desc := "(LCloudInterviews$Applicant;)LCloudInterviews$Post;" } : Jvm.MethodName) ({ cls := "CloudInterviews$Board", name := "favourite", desc := "(LCloudInterviews$Applicant;)LCloudInterviews$Post;" } : Jvm.MethodName)) ∈ lw_all := lw_g (lw_at lw_m9 114 rfl) rfl
theorem q2115 : (Jvm.Cond.code ({ cls := "CloudInterviews$Board", name := "favourite", desc := "(LCloudInterviews$Applicant;)LCloudInterviews$Post;" } : Jvm.MethodName) prog_3_method_24_code (6 : Nat) (Option.some (Jvm.ClassFile.FieldType.object "CloudInterviews$Post"))) ∈ lw_all := lw_g (lw_at lw_m9 115 rfl) rfl
theorem q2132 : (Jvm.Cond.instanceMethod ({ cls := "CloudInterviews$Board", name := "candidates", desc := "(LCloudInterviews$Post;)I" } : Jvm.MethodName)) ∈ lw_all := lw_g (lw_at lw_m9 132 rfl) rfl
theorem q2133 : (Jvm.Cond.selects "CloudInterviews$Board" ({ cls := "CloudInterviews$Board", name := "candidates", desc := "(LCloudInterviews$Post;)I" } : Jvm.MethodName) ({ cls := "CloudInterviews$Board", name := "candidates", desc := "(LCloudInterviews$Post;)I" } : Jvm.MethodName)) ∈ lw_all := lw_g (lw_at lw_m9 133 rfl) rfl
theorem q2134 : (Jvm.Cond.code ({ cls := "CloudInterviews$Board", name := "candidates", desc := "(LCloudInterviews$Post;)I" } : Jvm.MethodName) prog_3_method_26_code (5 : Nat) (Option.some Jvm.ClassFile.FieldType.int)) ∈ lw_all := lw_g (lw_at lw_m9 134 rfl) rfl
theorem q2176 : (Jvm.Cond.instanceMethod ({ cls := "CloudInterviews$Board", name := "daysUntilDismissal", desc := "(I)I" } : Jvm.MethodName)) ∈ lw_all := lw_g (lw_at lw_m9 176 rfl) rfl
theorem q2177 : (Jvm.Cond.selects "CloudInterviews$Board" ({ cls := "CloudInterviews$Board", name := "daysUntilDismissal", desc := "(I)I" } : Jvm.MethodName) ({ cls := "CloudInterviews$Board", name := "daysUntilDismissal", desc := "(I)I" } : Jvm.MethodName)) ∈ lw_all := lw_g (lw_at lw_m9 177 rfl) rfl
theorem q2178 : (Jvm.Cond.code ({ cls := "CloudInterviews$Board", name := "daysUntilDismissal", desc := "(I)I" } : Jvm.MethodName) prog_3_method_42_code (3 : Nat) (Option.some Jvm.ClassFile.FieldType.int)) ∈ lw_all := lw_g (lw_at lw_m9 178 rfl) rfl
theorem q2228 : (Jvm.Cond.instanceMethod ({ cls := "CloudInterviews$Board", name := "told", desc := "(LCloudInterviews$Applicant;)Ljava/lang/String;" } : Jvm.MethodName)) ∈ lw_all := lw_g (lw_at lw_m9 228 rfl) rfl
theorem q2229 : (Jvm.Cond.selects "CloudInterviews$Board" ({ cls := "CloudInterviews$Board", name := "told", desc := "(LCloudInterviews$Applicant;)Ljava/lang/String;" } : Jvm.MethodName) ({ cls := "CloudInterviews$Board", name := "told", desc := "(LCloudInterviews$Applicant;)Ljava/lang/String;" } : Jvm.MethodName)) ∈ lw_all := lw_g (lw_at lw_m9 229 rfl) rfl
theorem q2230 : (Jvm.Cond.code ({ cls := "CloudInterviews$Board", name := "told", desc := "(LCloudInterviews$Applicant;)Ljava/lang/String;" } : Jvm.MethodName) prog_3_method_45_code (3 : Nat) (Option.some (Jvm.ClassFile.FieldType.object "java/lang/String"))) ∈ lw_all := lw_g (lw_at lw_m9 230 rfl) rfl
theorem q3001 : (Jvm.Cond.castable "CloudInterviews$Board" "java/lang/Object") ∈ lw_tbl := lw_at lw_m13 41 rfl
theorem in_X2 : ∀ w ∈ wsX20, w ∈ lw_all := lw_in wsX20 [212, 214, 216, 218, 220, 222] (by decide +kernel) (by decide +kernel)

/-! java/util/AbstractMap -/
set_option maxRecDepth 100000
def RJ0 : String := "java/util/AbstractMap"
abbrev cJ0_init : ByteArray := prog_43_method_1_code
def yJ0_init : MethodName := ⟨RJ0, "<init>", "()V"⟩
theorem dJ0_init_0 : decode cJ0_init 0 = .ok (.aload_n 0, 1) := by decide +kernel
theorem dJ0_init_1 : decode cJ0_init 1 = .ok (.invokespecial 1, 3) := by decide +kernel
theorem dJ0_init_4 : decode cJ0_init 4 = .ok (.return_, 1) := by decide +kernel
theorem q83 : (Jvm.Cond.initialized "java/util/AbstractMap") ∈ lw_all := lw_g (lw_at lw_m1 3 rfl) rfl
theorem q148 : (Jvm.Cond.instanceMethod ({ cls := "java/util/AbstractMap", name := "<init>", desc := "()V" } : Jvm.MethodName)) ∈ lw_all := lw_g (lw_at lw_m1 68 rfl) rfl
theorem q149 : (Jvm.Cond.code ({ cls := "java/util/AbstractMap", name := "<init>", desc := "()V" } : Jvm.MethodName) prog_43_method_1_code (1 : Nat) (Option.none : Option Jvm.ClassFile.FieldType)) ∈ lw_all := lw_g (lw_at lw_m1 69 rfl) rfl
theorem q150 : (Jvm.Cond.methodLink "java/util/AbstractMap" (1 : Nat) ({ cls := "java/lang/Object", name := "<init>", desc := "()V" } : Jvm.MethodName)) ∈ lw_all := lw_g (lw_at lw_m1 70 rfl) rfl
theorem q170 : (Jvm.Cond.soleField "java/util/AbstractMap" "keySet") ∈ lw_all := lw_g (lw_at lw_m1 90 rfl) rfl
theorem q172 : (Jvm.Cond.soleField "java/util/AbstractMap" "values") ∈ lw_all := lw_g (lw_at lw_m1 92 rfl) rfl

/-! java/util/HashMap -/
set_option maxRecDepth 100000
def RJ1 : String := "java/util/HashMap"
def TJ1 : u_T := fun k => match k with
  | 0 => ("java/util/AbstractMap", "keySet", "Ljava/util/Set;", false)
  | 1 => ("java/util/AbstractMap", "values", "Ljava/util/Collection;", false)
  | 2 => ("java/util/HashMap", "table", "[Ljava/util/HashMap$Node;", false)
  | 3 => ("java/util/HashMap", "entrySet", "Ljava/util/Set;", false)
  | 4 => ("java/util/HashMap", "size", "I", false)
  | 5 => ("java/util/HashMap", "modCount", "I", false)
  | 6 => ("java/util/HashMap", "threshold", "I", false)
  | _ => ("java/util/HashMap", "loadFactor", "F", true)
def tyJ1 : Nat → FieldType := fun k => match k with
  | 0 => .object "java/util/Set"
  | 1 => .object "java/util/Collection"
  | 2 => .array (.object "java/util/HashMap$Node")
  | 3 => .object "java/util/Set"
  | 4 => .int
  | 5 => .int
  | 6 => .int
  | _ => .float
abbrev wsJ10 : List Cond := u_ws RJ1 TJ1 8
theorem nmJ1 : ∀ a, a < 8 → ∀ b, b < 8 → a ≠ b → (TJ1 a).2.1 ≠ (TJ1 b).2.1 := by decide +kernel
theorem tyJ1_ok : ∀ k, k < 8 → parseFieldDescriptor (TJ1 k).2.2.1 = some (tyJ1 k) := by decide +kernel
abbrev cJ1_init : ByteArray := prog_50_method_7_code
def yJ1_init : MethodName := ⟨RJ1, "<init>", "()V"⟩
def dkwJ1_init_0 : List UInt8 := [42, 183, 0, 43, 42, 18, 92, 181, 0, 81, 177]
abbrev dktJ1_init_0 : List UInt8 := dkwJ1_init_0 ++ []
theorem dksJ1_init_0 : cJ1_init.data.toList.drop 0 = dktJ1_init_0 := by decide +kernel
theorem dJ1_init_0 : decode cJ1_init 0 = .ok (.aload_n 0, 1) := dk_42 (dk_at dksJ1_init_0 0 rfl rfl)
theorem dJ1_init_1 : decode cJ1_init 1 = .ok (.invokespecial 43, 3) := dk_183 0 43 (dk_at dksJ1_init_0 1 rfl rfl)
theorem dJ1_init_4 : decode cJ1_init 4 = .ok (.aload_n 0, 1) := dk_42 (dk_at dksJ1_init_0 4 rfl rfl)
theorem dJ1_init_5 : decode cJ1_init 5 = .ok (.ldc 92, 2) := dk_18 92 (dk_at dksJ1_init_0 5 rfl rfl)
theorem dJ1_init_7 : decode cJ1_init 7 = .ok (.putfield 81, 3) := dk_181 0 81 (dk_at dksJ1_init_0 7 rfl rfl)
theorem dJ1_init_10 : decode cJ1_init 10 = .ok (.return_, 1) := dk_177 (dk_at dksJ1_init_0 10 rfl rfl)
abbrev cJ1_put : ByteArray := prog_50_method_15_code
def yJ1_put : MethodName := ⟨RJ1, "put", "(Ljava/lang/Object;Ljava/lang/Object;)Ljava/lang/Object;"⟩
def dkwJ1_put_0 : List UInt8 := [42, 43, 184, 0, 149, 43, 44, 3, 4, 182, 0, 152, 176]
abbrev dktJ1_put_0 : List UInt8 := dkwJ1_put_0 ++ []
theorem dksJ1_put_0 : cJ1_put.data.toList.drop 0 = dktJ1_put_0 := by decide +kernel
theorem dJ1_put_0 : decode cJ1_put 0 = .ok (.aload_n 0, 1) := dk_42 (dk_at dksJ1_put_0 0 rfl rfl)
theorem dJ1_put_1 : decode cJ1_put 1 = .ok (.aload_n 1, 1) := dk_43 (dk_at dksJ1_put_0 1 rfl rfl)
theorem dJ1_put_2 : decode cJ1_put 2 = .ok (.invokestatic 149, 3) := dk_184 0 149 (dk_at dksJ1_put_0 2 rfl rfl)
theorem dJ1_put_5 : decode cJ1_put 5 = .ok (.aload_n 1, 1) := dk_43 (dk_at dksJ1_put_0 5 rfl rfl)
theorem dJ1_put_6 : decode cJ1_put 6 = .ok (.aload_n 2, 1) := dk_44 (dk_at dksJ1_put_0 6 rfl rfl)
theorem dJ1_put_7 : decode cJ1_put 7 = .ok (.iconst 0, 1) := dk_3 (dk_at dksJ1_put_0 7 rfl rfl)
theorem dJ1_put_8 : decode cJ1_put 8 = .ok (.iconst 1, 1) := dk_4 (dk_at dksJ1_put_0 8 rfl rfl)
theorem dJ1_put_9 : decode cJ1_put 9 = .ok (.invokevirtual 152, 3) := dk_182 0 152 (dk_at dksJ1_put_0 9 rfl rfl)
theorem dJ1_put_12 : decode cJ1_put 12 = .ok (.areturn, 1) := dk_176 (dk_at dksJ1_put_0 12 rfl rfl)
abbrev cJ1_hash : ByteArray := prog_50_method_1_code
def yJ1_hash : MethodName := ⟨RJ1, "hash", "(Ljava/lang/Object;)I"⟩
def dkwJ1_hash_0 : List UInt8 := [42, 199, 0, 7, 3, 167, 0, 14, 42, 182, 0, 1, 89, 60, 27, 16, 16, 124, 130, 172]
abbrev dktJ1_hash_0 : List UInt8 := dkwJ1_hash_0 ++ []
theorem dksJ1_hash_0 : cJ1_hash.data.toList.drop 0 = dktJ1_hash_0 := by decide +kernel
theorem dJ1_hash_0 : decode cJ1_hash 0 = .ok (.aload_n 0, 1) := dk_42 (dk_at dksJ1_hash_0 0 rfl rfl)
theorem dJ1_hash_1 : decode cJ1_hash 1 = .ok (.ifnonnull 7, 3) := dk_199 0 7 (dk_at dksJ1_hash_0 1 rfl rfl)
theorem dJ1_hash_4 : decode cJ1_hash 4 = .ok (.iconst 0, 1) := dk_3 (dk_at dksJ1_hash_0 4 rfl rfl)
theorem dJ1_hash_5 : decode cJ1_hash 5 = .ok (.goto 14, 3) := dk_167 0 14 (dk_at dksJ1_hash_0 5 rfl rfl)
theorem dJ1_hash_8 : decode cJ1_hash 8 = .ok (.aload_n 0, 1) := dk_42 (dk_at dksJ1_hash_0 8 rfl rfl)
theorem dJ1_hash_9 : decode cJ1_hash 9 = .ok (.invokevirtual 1, 3) := dk_182 0 1 (dk_at dksJ1_hash_0 9 rfl rfl)
theorem dJ1_hash_12 : decode cJ1_hash 12 = .ok (.dup, 1) := dk_89 (dk_at dksJ1_hash_0 12 rfl rfl)
theorem dJ1_hash_13 : decode cJ1_hash 13 = .ok (.istore_n 1, 1) := dk_60 (dk_at dksJ1_hash_0 13 rfl rfl)
theorem dJ1_hash_14 : decode cJ1_hash 14 = .ok (.iload_n 1, 1) := dk_27 (dk_at dksJ1_hash_0 14 rfl rfl)
theorem dJ1_hash_15 : decode cJ1_hash 15 = .ok (.bipush 16, 2) := dk_16 16 (dk_at dksJ1_hash_0 15 rfl rfl)
theorem dJ1_hash_17 : decode cJ1_hash 17 = .ok (.iushr, 1) := dk_124 (dk_at dksJ1_hash_0 17 rfl rfl)
theorem dJ1_hash_18 : decode cJ1_hash 18 = .ok (.ixor, 1) := dk_130 (dk_at dksJ1_hash_0 18 rfl rfl)
theorem dJ1_hash_19 : decode cJ1_hash 19 = .ok (.ireturn, 1) := dk_172 (dk_at dksJ1_hash_0 19 rfl rfl)
abbrev cJ1_putVal : ByteArray := prog_50_method_16_code
def yJ1_putVal : MethodName := ⟨RJ1, "putVal", "(ILjava/lang/Object;Ljava/lang/Object;ZZ)Ljava/lang/Object;"⟩
def dkwJ1_putVal_12 : List UInt8 := [181, 0, 156, 42, 180, 0, 88, 164, 0, 8, 42, 182, 0, 117, 87, 42, 21, 5, 182, 0, 205, 1, 176]
abbrev dktJ1_putVal_12 : List UInt8 := dkwJ1_putVal_12 ++ []
def dkwJ1_putVal_11 : List UInt8 := [182, 0, 198, 25, 12, 176, 42, 89, 180, 0, 202, 4, 96, 181, 0, 202, 42, 89, 180, 0, 156, 4, 96, 90]
abbrev dktJ1_putVal_11 : List UInt8 := dkwJ1_putVal_11 ++ dktJ1_putVal_12
def dkwJ1_putVal_10 : List UInt8 := [180, 0, 162, 58, 12, 21, 4, 153, 0, 8, 25, 12, 199, 0, 9, 25, 10, 45, 181, 0, 162, 42, 25, 10]
abbrev dktJ1_putVal_10 : List UInt8 := dkwJ1_putVal_10 ++ dktJ1_putVal_11
def dkwJ1_putVal_9 : List UInt8 := [153, 0, 6, 167, 0, 13, 25, 10, 58, 7, 132, 12, 1, 167, 255, 171, 25, 10, 198, 0, 35, 25, 10]
abbrev dktJ1_putVal_9 : List UInt8 := dkwJ1_putVal_9 ++ dktJ1_putVal_10
def dkwJ1_putVal_8 : List UInt8 := [25, 10, 180, 0, 170, 89, 58, 11, 44, 165, 0, 29, 44, 198, 0, 15, 44, 25, 11, 182, 0, 173]
abbrev dktJ1_putVal_8 : List UInt8 := dkwJ1_putVal_8 ++ dktJ1_putVal_9
def dkwJ1_putVal_7 : List UInt8 := [16, 7, 161, 0, 60, 42, 25, 6, 27, 182, 0, 194, 167, 0, 50, 25, 10, 180, 0, 168, 27, 160, 0, 31]
abbrev dktJ1_putVal_7 : List UInt8 := dkwJ1_putVal_7 ++ dktJ1_putVal_8
def dkwJ1_putVal_6 : List UInt8 := [180, 0, 177, 89, 58, 10, 199, 0, 33, 25, 7, 42, 27, 44, 45, 1, 182, 0, 186, 181, 0, 177, 21, 12]
abbrev dktJ1_putVal_6 : List UInt8 := dkwJ1_putVal_6 ++ dktJ1_putVal_7
def dkwJ1_putVal_5 : List UInt8 := [192, 0, 180, 42, 25, 6, 27, 44, 45, 182, 0, 190, 58, 10, 167, 0, 94, 3, 54, 12, 25, 7]
abbrev dktJ1_putVal_5 : List UInt8 := dkwJ1_putVal_5 ++ dktJ1_putVal_6
def dkwJ1_putVal_4 : List UInt8 := [182, 0, 173, 153, 0, 10, 25, 7, 58, 10, 167, 0, 121, 25, 7, 193, 0, 180, 153, 0, 22, 25, 7]
abbrev dktJ1_putVal_4 : List UInt8 := dkwJ1_putVal_4 ++ dktJ1_putVal_5
def dkwJ1_putVal_3 : List UInt8 := [160, 0, 35, 25, 7, 180, 0, 170, 89, 58, 11, 44, 165, 0, 16, 44, 198, 0, 19, 44, 25, 11]
abbrev dktJ1_putVal_3 : List UInt8 := dkwJ1_putVal_3 ++ dktJ1_putVal_4
def dkwJ1_putVal_2 : List UInt8 := [25, 6, 21, 9, 42, 27, 44, 45, 1, 182, 0, 186, 83, 167, 0, 199, 25, 7, 180, 0, 168, 27]
abbrev dktJ1_putVal_2 : List UInt8 := dkwJ1_putVal_2 ++ dktJ1_putVal_3
def dkwJ1_putVal_1 : List UInt8 := [58, 6, 190, 54, 8, 25, 6, 21, 8, 4, 100, 27, 126, 89, 54, 9, 50, 89, 58, 7, 199, 0, 19]
abbrev dktJ1_putVal_1 : List UInt8 := dkwJ1_putVal_1 ++ dktJ1_putVal_2
def dkwJ1_putVal_0 : List UInt8 := [42, 180, 0, 105, 89, 58, 6, 198, 0, 12, 25, 6, 190, 89, 54, 8, 154, 0, 13, 42, 182, 0, 117, 89]
abbrev dktJ1_putVal_0 : List UInt8 := dkwJ1_putVal_0 ++ dktJ1_putVal_1
theorem dksJ1_putVal_0 : cJ1_putVal.data.toList.drop 0 = dktJ1_putVal_0 := by decide +kernel
theorem dksJ1_putVal_1 : cJ1_putVal.data.toList.drop 24 = dktJ1_putVal_1 := dk_seg dksJ1_putVal_0 24 rfl rfl
theorem dksJ1_putVal_2 : cJ1_putVal.data.toList.drop 47 = dktJ1_putVal_2 := dk_seg dksJ1_putVal_1 23 rfl rfl
theorem dksJ1_putVal_3 : cJ1_putVal.data.toList.drop 69 = dktJ1_putVal_3 := dk_seg dksJ1_putVal_2 22 rfl rfl
theorem dksJ1_putVal_4 : cJ1_putVal.data.toList.drop 91 = dktJ1_putVal_4 := dk_seg dksJ1_putVal_3 22 rfl rfl
theorem dksJ1_putVal_5 : cJ1_putVal.data.toList.drop 114 = dktJ1_putVal_5 := dk_seg dksJ1_putVal_4 23 rfl rfl
theorem dksJ1_putVal_6 : cJ1_putVal.data.toList.drop 136 = dktJ1_putVal_6 := dk_seg dksJ1_putVal_5 22 rfl rfl
theorem dksJ1_putVal_7 : cJ1_putVal.data.toList.drop 160 = dktJ1_putVal_7 := dk_seg dksJ1_putVal_6 24 rfl rfl
theorem dksJ1_putVal_8 : cJ1_putVal.data.toList.drop 184 = dktJ1_putVal_8 := dk_seg dksJ1_putVal_7 24 rfl rfl
theorem dksJ1_putVal_9 : cJ1_putVal.data.toList.drop 206 = dktJ1_putVal_9 := dk_seg dksJ1_putVal_8 22 rfl rfl
theorem dksJ1_putVal_10 : cJ1_putVal.data.toList.drop 229 = dktJ1_putVal_10 := dk_seg dksJ1_putVal_9 23 rfl rfl
theorem dksJ1_putVal_11 : cJ1_putVal.data.toList.drop 253 = dktJ1_putVal_11 := dk_seg dksJ1_putVal_10 24 rfl rfl
theorem dksJ1_putVal_12 : cJ1_putVal.data.toList.drop 277 = dktJ1_putVal_12 := dk_seg dksJ1_putVal_11 24 rfl rfl
theorem dJ1_putVal_0 : decode cJ1_putVal 0 = .ok (.aload_n 0, 1) := dk_42 (dk_at dksJ1_putVal_0 0 rfl rfl)
theorem dJ1_putVal_1 : decode cJ1_putVal 1 = .ok (.getfield 105, 3) := dk_180 0 105 (dk_at dksJ1_putVal_0 1 rfl rfl)
theorem dJ1_putVal_4 : decode cJ1_putVal 4 = .ok (.dup, 1) := dk_89 (dk_at dksJ1_putVal_0 4 rfl rfl)
theorem dJ1_putVal_5 : decode cJ1_putVal 5 = .ok (.astore 6, 2) := dk_58 6 (dk_at dksJ1_putVal_0 5 rfl rfl)
theorem dJ1_putVal_7 : decode cJ1_putVal 7 = .ok (.ifnull 12, 3) := dk_198 0 12 (dk_at dksJ1_putVal_0 7 rfl rfl)
theorem dJ1_putVal_10 : decode cJ1_putVal 10 = .ok (.aload 6, 2) := dk_25 6 (dk_at dksJ1_putVal_0 10 rfl rfl)
theorem dJ1_putVal_12 : decode cJ1_putVal 12 = .ok (.arraylength, 1) := dk_190 (dk_at dksJ1_putVal_0 12 rfl rfl)
theorem dJ1_putVal_13 : decode cJ1_putVal 13 = .ok (.dup, 1) := dk_89 (dk_at dksJ1_putVal_0 13 rfl rfl)
theorem dJ1_putVal_14 : decode cJ1_putVal 14 = .ok (.istore 8, 2) := dk_54 8 (dk_at dksJ1_putVal_0 14 rfl rfl)
theorem dJ1_putVal_16 : decode cJ1_putVal 16 = .ok (.ifCond .ne 13, 3) := dk_154 0 13 (dk_at dksJ1_putVal_0 16 rfl rfl)
theorem dJ1_putVal_19 : decode cJ1_putVal 19 = .ok (.aload_n 0, 1) := dk_42 (dk_at dksJ1_putVal_0 19 rfl rfl)
theorem dJ1_putVal_20 : decode cJ1_putVal 20 = .ok (.invokevirtual 117, 3) := dk_182 0 117 (dk_at dksJ1_putVal_0 20 rfl rfl)
theorem dJ1_putVal_23 : decode cJ1_putVal 23 = .ok (.dup, 1) := dk_89 (dk_at dksJ1_putVal_0 23 rfl rfl)
theorem dJ1_putVal_24 : decode cJ1_putVal 24 = .ok (.astore 6, 2) := dk_58 6 (dk_at dksJ1_putVal_1 0 rfl rfl)
theorem dJ1_putVal_26 : decode cJ1_putVal 26 = .ok (.arraylength, 1) := dk_190 (dk_at dksJ1_putVal_1 2 rfl rfl)
theorem dJ1_putVal_27 : decode cJ1_putVal 27 = .ok (.istore 8, 2) := dk_54 8 (dk_at dksJ1_putVal_1 3 rfl rfl)
theorem dJ1_putVal_29 : decode cJ1_putVal 29 = .ok (.aload 6, 2) := dk_25 6 (dk_at dksJ1_putVal_1 5 rfl rfl)
theorem dJ1_putVal_31 : decode cJ1_putVal 31 = .ok (.iload 8, 2) := dk_21 8 (dk_at dksJ1_putVal_1 7 rfl rfl)
theorem dJ1_putVal_33 : decode cJ1_putVal 33 = .ok (.iconst 1, 1) := dk_4 (dk_at dksJ1_putVal_1 9 rfl rfl)
theorem dJ1_putVal_34 : decode cJ1_putVal 34 = .ok (.isub, 1) := dk_100 (dk_at dksJ1_putVal_1 10 rfl rfl)
theorem dJ1_putVal_35 : decode cJ1_putVal 35 = .ok (.iload_n 1, 1) := dk_27 (dk_at dksJ1_putVal_1 11 rfl rfl)
theorem dJ1_putVal_36 : decode cJ1_putVal 36 = .ok (.iand, 1) := dk_126 (dk_at dksJ1_putVal_1 12 rfl rfl)
theorem dJ1_putVal_37 : decode cJ1_putVal 37 = .ok (.dup, 1) := dk_89 (dk_at dksJ1_putVal_1 13 rfl rfl)
theorem dJ1_putVal_38 : decode cJ1_putVal 38 = .ok (.istore 9, 2) := dk_54 9 (dk_at dksJ1_putVal_1 14 rfl rfl)
theorem dJ1_putVal_40 : decode cJ1_putVal 40 = .ok (.aaload, 1) := dk_50 (dk_at dksJ1_putVal_1 16 rfl rfl)
theorem dJ1_putVal_41 : decode cJ1_putVal 41 = .ok (.dup, 1) := dk_89 (dk_at dksJ1_putVal_1 17 rfl rfl)
theorem dJ1_putVal_42 : decode cJ1_putVal 42 = .ok (.astore 7, 2) := dk_58 7 (dk_at dksJ1_putVal_1 18 rfl rfl)
theorem dJ1_putVal_44 : decode cJ1_putVal 44 = .ok (.ifnonnull 19, 3) := dk_199 0 19 (dk_at dksJ1_putVal_1 20 rfl rfl)
theorem dJ1_putVal_47 : decode cJ1_putVal 47 = .ok (.aload 6, 2) := dk_25 6 (dk_at dksJ1_putVal_2 0 rfl rfl)
theorem dJ1_putVal_49 : decode cJ1_putVal 49 = .ok (.iload 9, 2) := dk_21 9 (dk_at dksJ1_putVal_2 2 rfl rfl)
theorem dJ1_putVal_51 : decode cJ1_putVal 51 = .ok (.aload_n 0, 1) := dk_42 (dk_at dksJ1_putVal_2 4 rfl rfl)
theorem dJ1_putVal_52 : decode cJ1_putVal 52 = .ok (.iload_n 1, 1) := dk_27 (dk_at dksJ1_putVal_2 5 rfl rfl)
theorem dJ1_putVal_53 : decode cJ1_putVal 53 = .ok (.aload_n 2, 1) := dk_44 (dk_at dksJ1_putVal_2 6 rfl rfl)
theorem dJ1_putVal_54 : decode cJ1_putVal 54 = .ok (.aload_n 3, 1) := dk_45 (dk_at dksJ1_putVal_2 7 rfl rfl)
theorem dJ1_putVal_55 : decode cJ1_putVal 55 = .ok (.aconst_null, 1) := dk_1 (dk_at dksJ1_putVal_2 8 rfl rfl)
theorem dJ1_putVal_56 : decode cJ1_putVal 56 = .ok (.invokevirtual 186, 3) := dk_182 0 186 (dk_at dksJ1_putVal_2 9 rfl rfl)
theorem dJ1_putVal_59 : decode cJ1_putVal 59 = .ok (.aastore, 1) := dk_83 (dk_at dksJ1_putVal_2 12 rfl rfl)
theorem dJ1_putVal_60 : decode cJ1_putVal 60 = .ok (.goto 199, 3) := dk_167 0 199 (dk_at dksJ1_putVal_2 13 rfl rfl)
theorem dJ1_putVal_63 : decode cJ1_putVal 63 = .ok (.aload 7, 2) := dk_25 7 (dk_at dksJ1_putVal_2 16 rfl rfl)
theorem dJ1_putVal_65 : decode cJ1_putVal 65 = .ok (.getfield 168, 3) := dk_180 0 168 (dk_at dksJ1_putVal_2 18 rfl rfl)
theorem dJ1_putVal_68 : decode cJ1_putVal 68 = .ok (.iload_n 1, 1) := dk_27 (dk_at dksJ1_putVal_2 21 rfl rfl)
theorem dJ1_putVal_69 : decode cJ1_putVal 69 = .ok (.if_icmp .ne 35, 3) := dk_160 0 35 (dk_at dksJ1_putVal_3 0 rfl rfl)
theorem dJ1_putVal_72 : decode cJ1_putVal 72 = .ok (.aload 7, 2) := dk_25 7 (dk_at dksJ1_putVal_3 3 rfl rfl)
theorem dJ1_putVal_74 : decode cJ1_putVal 74 = .ok (.getfield 170, 3) := dk_180 0 170 (dk_at dksJ1_putVal_3 5 rfl rfl)
theorem dJ1_putVal_77 : decode cJ1_putVal 77 = .ok (.dup, 1) := dk_89 (dk_at dksJ1_putVal_3 8 rfl rfl)
theorem dJ1_putVal_78 : decode cJ1_putVal 78 = .ok (.astore 11, 2) := dk_58 11 (dk_at dksJ1_putVal_3 9 rfl rfl)
theorem dJ1_putVal_80 : decode cJ1_putVal 80 = .ok (.aload_n 2, 1) := dk_44 (dk_at dksJ1_putVal_3 11 rfl rfl)
theorem dJ1_putVal_81 : decode cJ1_putVal 81 = .ok (.if_acmp .eq 16, 3) := dk_165 0 16 (dk_at dksJ1_putVal_3 12 rfl rfl)
theorem dJ1_putVal_84 : decode cJ1_putVal 84 = .ok (.aload_n 2, 1) := dk_44 (dk_at dksJ1_putVal_3 15 rfl rfl)
theorem dJ1_putVal_85 : decode cJ1_putVal 85 = .ok (.ifnull 19, 3) := dk_198 0 19 (dk_at dksJ1_putVal_3 16 rfl rfl)
theorem dJ1_putVal_88 : decode cJ1_putVal 88 = .ok (.aload_n 2, 1) := dk_44 (dk_at dksJ1_putVal_3 19 rfl rfl)
theorem dJ1_putVal_89 : decode cJ1_putVal 89 = .ok (.aload 11, 2) := dk_25 11 (dk_at dksJ1_putVal_3 20 rfl rfl)
theorem dJ1_putVal_91 : decode cJ1_putVal 91 = .ok (.invokevirtual 173, 3) := dk_182 0 173 (dk_at dksJ1_putVal_4 0 rfl rfl)
theorem dJ1_putVal_94 : decode cJ1_putVal 94 = .ok (.ifCond .eq 10, 3) := dk_153 0 10 (dk_at dksJ1_putVal_4 3 rfl rfl)
theorem dJ1_putVal_97 : decode cJ1_putVal 97 = .ok (.aload 7, 2) := dk_25 7 (dk_at dksJ1_putVal_4 6 rfl rfl)
theorem dJ1_putVal_99 : decode cJ1_putVal 99 = .ok (.astore 10, 2) := dk_58 10 (dk_at dksJ1_putVal_4 8 rfl rfl)
theorem dJ1_putVal_101 : decode cJ1_putVal 101 = .ok (.goto 121, 3) := dk_167 0 121 (dk_at dksJ1_putVal_4 10 rfl rfl)
theorem dJ1_putVal_104 : decode cJ1_putVal 104 = .ok (.aload 7, 2) := dk_25 7 (dk_at dksJ1_putVal_4 13 rfl rfl)
theorem dJ1_putVal_106 : decode cJ1_putVal 106 = .ok (.instanceof 180, 3) := dk_193 0 180 (dk_at dksJ1_putVal_4 15 rfl rfl)
theorem dJ1_putVal_109 : decode cJ1_putVal 109 = .ok (.ifCond .eq 22, 3) := dk_153 0 22 (dk_at dksJ1_putVal_4 18 rfl rfl)
theorem dJ1_putVal_112 : decode cJ1_putVal 112 = .ok (.aload 7, 2) := dk_25 7 (dk_at dksJ1_putVal_4 21 rfl rfl)
theorem dJ1_putVal_114 : decode cJ1_putVal 114 = .ok (.checkcast 180, 3) := dk_192 0 180 (dk_at dksJ1_putVal_5 0 rfl rfl)
theorem dJ1_putVal_117 : decode cJ1_putVal 117 = .ok (.aload_n 0, 1) := dk_42 (dk_at dksJ1_putVal_5 3 rfl rfl)
theorem dJ1_putVal_118 : decode cJ1_putVal 118 = .ok (.aload 6, 2) := dk_25 6 (dk_at dksJ1_putVal_5 4 rfl rfl)
theorem dJ1_putVal_120 : decode cJ1_putVal 120 = .ok (.iload_n 1, 1) := dk_27 (dk_at dksJ1_putVal_5 6 rfl rfl)
theorem dJ1_putVal_121 : decode cJ1_putVal 121 = .ok (.aload_n 2, 1) := dk_44 (dk_at dksJ1_putVal_5 7 rfl rfl)
theorem dJ1_putVal_122 : decode cJ1_putVal 122 = .ok (.aload_n 3, 1) := dk_45 (dk_at dksJ1_putVal_5 8 rfl rfl)
theorem dJ1_putVal_123 : decode cJ1_putVal 123 = .ok (.invokevirtual 190, 3) := dk_182 0 190 (dk_at dksJ1_putVal_5 9 rfl rfl)
theorem dJ1_putVal_126 : decode cJ1_putVal 126 = .ok (.astore 10, 2) := dk_58 10 (dk_at dksJ1_putVal_5 12 rfl rfl)
theorem dJ1_putVal_128 : decode cJ1_putVal 128 = .ok (.goto 94, 3) := dk_167 0 94 (dk_at dksJ1_putVal_5 14 rfl rfl)
theorem dJ1_putVal_131 : decode cJ1_putVal 131 = .ok (.iconst 0, 1) := dk_3 (dk_at dksJ1_putVal_5 17 rfl rfl)
theorem dJ1_putVal_132 : decode cJ1_putVal 132 = .ok (.istore 12, 2) := dk_54 12 (dk_at dksJ1_putVal_5 18 rfl rfl)
theorem dJ1_putVal_134 : decode cJ1_putVal 134 = .ok (.aload 7, 2) := dk_25 7 (dk_at dksJ1_putVal_5 20 rfl rfl)
theorem dJ1_putVal_136 : decode cJ1_putVal 136 = .ok (.getfield 177, 3) := dk_180 0 177 (dk_at dksJ1_putVal_6 0 rfl rfl)
theorem dJ1_putVal_139 : decode cJ1_putVal 139 = .ok (.dup, 1) := dk_89 (dk_at dksJ1_putVal_6 3 rfl rfl)
theorem dJ1_putVal_140 : decode cJ1_putVal 140 = .ok (.astore 10, 2) := dk_58 10 (dk_at dksJ1_putVal_6 4 rfl rfl)
theorem dJ1_putVal_142 : decode cJ1_putVal 142 = .ok (.ifnonnull 33, 3) := dk_199 0 33 (dk_at dksJ1_putVal_6 6 rfl rfl)
theorem dJ1_putVal_145 : decode cJ1_putVal 145 = .ok (.aload 7, 2) := dk_25 7 (dk_at dksJ1_putVal_6 9 rfl rfl)
theorem dJ1_putVal_147 : decode cJ1_putVal 147 = .ok (.aload_n 0, 1) := dk_42 (dk_at dksJ1_putVal_6 11 rfl rfl)
theorem dJ1_putVal_148 : decode cJ1_putVal 148 = .ok (.iload_n 1, 1) := dk_27 (dk_at dksJ1_putVal_6 12 rfl rfl)
theorem dJ1_putVal_149 : decode cJ1_putVal 149 = .ok (.aload_n 2, 1) := dk_44 (dk_at dksJ1_putVal_6 13 rfl rfl)
theorem dJ1_putVal_150 : decode cJ1_putVal 150 = .ok (.aload_n 3, 1) := dk_45 (dk_at dksJ1_putVal_6 14 rfl rfl)
theorem dJ1_putVal_151 : decode cJ1_putVal 151 = .ok (.aconst_null, 1) := dk_1 (dk_at dksJ1_putVal_6 15 rfl rfl)
theorem dJ1_putVal_152 : decode cJ1_putVal 152 = .ok (.invokevirtual 186, 3) := dk_182 0 186 (dk_at dksJ1_putVal_6 16 rfl rfl)
theorem dJ1_putVal_155 : decode cJ1_putVal 155 = .ok (.putfield 177, 3) := dk_181 0 177 (dk_at dksJ1_putVal_6 19 rfl rfl)
theorem dJ1_putVal_158 : decode cJ1_putVal 158 = .ok (.iload 12, 2) := dk_21 12 (dk_at dksJ1_putVal_6 22 rfl rfl)
theorem dJ1_putVal_160 : decode cJ1_putVal 160 = .ok (.bipush 7, 2) := dk_16 7 (dk_at dksJ1_putVal_7 0 rfl rfl)
theorem dJ1_putVal_162 : decode cJ1_putVal 162 = .ok (.if_icmp .lt 60, 3) := dk_161 0 60 (dk_at dksJ1_putVal_7 2 rfl rfl)
theorem dJ1_putVal_165 : decode cJ1_putVal 165 = .ok (.aload_n 0, 1) := dk_42 (dk_at dksJ1_putVal_7 5 rfl rfl)
theorem dJ1_putVal_166 : decode cJ1_putVal 166 = .ok (.aload 6, 2) := dk_25 6 (dk_at dksJ1_putVal_7 6 rfl rfl)
theorem dJ1_putVal_168 : decode cJ1_putVal 168 = .ok (.iload_n 1, 1) := dk_27 (dk_at dksJ1_putVal_7 8 rfl rfl)
theorem dJ1_putVal_169 : decode cJ1_putVal 169 = .ok (.invokevirtual 194, 3) := dk_182 0 194 (dk_at dksJ1_putVal_7 9 rfl rfl)
theorem dJ1_putVal_172 : decode cJ1_putVal 172 = .ok (.goto 50, 3) := dk_167 0 50 (dk_at dksJ1_putVal_7 12 rfl rfl)
theorem dJ1_putVal_175 : decode cJ1_putVal 175 = .ok (.aload 10, 2) := dk_25 10 (dk_at dksJ1_putVal_7 15 rfl rfl)
theorem dJ1_putVal_177 : decode cJ1_putVal 177 = .ok (.getfield 168, 3) := dk_180 0 168 (dk_at dksJ1_putVal_7 17 rfl rfl)
theorem dJ1_putVal_180 : decode cJ1_putVal 180 = .ok (.iload_n 1, 1) := dk_27 (dk_at dksJ1_putVal_7 20 rfl rfl)
theorem dJ1_putVal_181 : decode cJ1_putVal 181 = .ok (.if_icmp .ne 31, 3) := dk_160 0 31 (dk_at dksJ1_putVal_7 21 rfl rfl)
theorem dJ1_putVal_184 : decode cJ1_putVal 184 = .ok (.aload 10, 2) := dk_25 10 (dk_at dksJ1_putVal_8 0 rfl rfl)
theorem dJ1_putVal_186 : decode cJ1_putVal 186 = .ok (.getfield 170, 3) := dk_180 0 170 (dk_at dksJ1_putVal_8 2 rfl rfl)
theorem dJ1_putVal_189 : decode cJ1_putVal 189 = .ok (.dup, 1) := dk_89 (dk_at dksJ1_putVal_8 5 rfl rfl)
theorem dJ1_putVal_190 : decode cJ1_putVal 190 = .ok (.astore 11, 2) := dk_58 11 (dk_at dksJ1_putVal_8 6 rfl rfl)
theorem dJ1_putVal_192 : decode cJ1_putVal 192 = .ok (.aload_n 2, 1) := dk_44 (dk_at dksJ1_putVal_8 8 rfl rfl)
theorem dJ1_putVal_193 : decode cJ1_putVal 193 = .ok (.if_acmp .eq 29, 3) := dk_165 0 29 (dk_at dksJ1_putVal_8 9 rfl rfl)
theorem dJ1_putVal_196 : decode cJ1_putVal 196 = .ok (.aload_n 2, 1) := dk_44 (dk_at dksJ1_putVal_8 12 rfl rfl)
theorem dJ1_putVal_197 : decode cJ1_putVal 197 = .ok (.ifnull 15, 3) := dk_198 0 15 (dk_at dksJ1_putVal_8 13 rfl rfl)
theorem dJ1_putVal_200 : decode cJ1_putVal 200 = .ok (.aload_n 2, 1) := dk_44 (dk_at dksJ1_putVal_8 16 rfl rfl)
theorem dJ1_putVal_201 : decode cJ1_putVal 201 = .ok (.aload 11, 2) := dk_25 11 (dk_at dksJ1_putVal_8 17 rfl rfl)
theorem dJ1_putVal_203 : decode cJ1_putVal 203 = .ok (.invokevirtual 173, 3) := dk_182 0 173 (dk_at dksJ1_putVal_8 19 rfl rfl)
theorem dJ1_putVal_206 : decode cJ1_putVal 206 = .ok (.ifCond .eq 6, 3) := dk_153 0 6 (dk_at dksJ1_putVal_9 0 rfl rfl)
theorem dJ1_putVal_209 : decode cJ1_putVal 209 = .ok (.goto 13, 3) := dk_167 0 13 (dk_at dksJ1_putVal_9 3 rfl rfl)
theorem dJ1_putVal_212 : decode cJ1_putVal 212 = .ok (.aload 10, 2) := dk_25 10 (dk_at dksJ1_putVal_9 6 rfl rfl)
theorem dJ1_putVal_214 : decode cJ1_putVal 214 = .ok (.astore 7, 2) := dk_58 7 (dk_at dksJ1_putVal_9 8 rfl rfl)
theorem dJ1_putVal_216 : decode cJ1_putVal 216 = .ok (.iinc 12 1, 3) := dk_132 12 1 (dk_at dksJ1_putVal_9 10 rfl rfl)
theorem dJ1_putVal_219 : decode cJ1_putVal 219 = .ok (.goto (-85), 3) := dk_167 255 171 (dk_at dksJ1_putVal_9 13 rfl rfl)
theorem dJ1_putVal_222 : decode cJ1_putVal 222 = .ok (.aload 10, 2) := dk_25 10 (dk_at dksJ1_putVal_9 16 rfl rfl)
theorem dJ1_putVal_224 : decode cJ1_putVal 224 = .ok (.ifnull 35, 3) := dk_198 0 35 (dk_at dksJ1_putVal_9 18 rfl rfl)
theorem dJ1_putVal_227 : decode cJ1_putVal 227 = .ok (.aload 10, 2) := dk_25 10 (dk_at dksJ1_putVal_9 21 rfl rfl)
theorem dJ1_putVal_229 : decode cJ1_putVal 229 = .ok (.getfield 162, 3) := dk_180 0 162 (dk_at dksJ1_putVal_10 0 rfl rfl)
theorem dJ1_putVal_232 : decode cJ1_putVal 232 = .ok (.astore 12, 2) := dk_58 12 (dk_at dksJ1_putVal_10 3 rfl rfl)
theorem dJ1_putVal_234 : decode cJ1_putVal 234 = .ok (.iload 4, 2) := dk_21 4 (dk_at dksJ1_putVal_10 5 rfl rfl)
theorem dJ1_putVal_236 : decode cJ1_putVal 236 = .ok (.ifCond .eq 8, 3) := dk_153 0 8 (dk_at dksJ1_putVal_10 7 rfl rfl)
theorem dJ1_putVal_239 : decode cJ1_putVal 239 = .ok (.aload 12, 2) := dk_25 12 (dk_at dksJ1_putVal_10 10 rfl rfl)
theorem dJ1_putVal_241 : decode cJ1_putVal 241 = .ok (.ifnonnull 9, 3) := dk_199 0 9 (dk_at dksJ1_putVal_10 12 rfl rfl)
theorem dJ1_putVal_244 : decode cJ1_putVal 244 = .ok (.aload 10, 2) := dk_25 10 (dk_at dksJ1_putVal_10 15 rfl rfl)
theorem dJ1_putVal_246 : decode cJ1_putVal 246 = .ok (.aload_n 3, 1) := dk_45 (dk_at dksJ1_putVal_10 17 rfl rfl)
theorem dJ1_putVal_247 : decode cJ1_putVal 247 = .ok (.putfield 162, 3) := dk_181 0 162 (dk_at dksJ1_putVal_10 18 rfl rfl)
theorem dJ1_putVal_250 : decode cJ1_putVal 250 = .ok (.aload_n 0, 1) := dk_42 (dk_at dksJ1_putVal_10 21 rfl rfl)
theorem dJ1_putVal_251 : decode cJ1_putVal 251 = .ok (.aload 10, 2) := dk_25 10 (dk_at dksJ1_putVal_10 22 rfl rfl)
theorem dJ1_putVal_253 : decode cJ1_putVal 253 = .ok (.invokevirtual 198, 3) := dk_182 0 198 (dk_at dksJ1_putVal_11 0 rfl rfl)
theorem dJ1_putVal_256 : decode cJ1_putVal 256 = .ok (.aload 12, 2) := dk_25 12 (dk_at dksJ1_putVal_11 3 rfl rfl)
theorem dJ1_putVal_258 : decode cJ1_putVal 258 = .ok (.areturn, 1) := dk_176 (dk_at dksJ1_putVal_11 5 rfl rfl)
theorem dJ1_putVal_259 : decode cJ1_putVal 259 = .ok (.aload_n 0, 1) := dk_42 (dk_at dksJ1_putVal_11 6 rfl rfl)
theorem dJ1_putVal_260 : decode cJ1_putVal 260 = .ok (.dup, 1) := dk_89 (dk_at dksJ1_putVal_11 7 rfl rfl)
theorem dJ1_putVal_261 : decode cJ1_putVal 261 = .ok (.getfield 202, 3) := dk_180 0 202 (dk_at dksJ1_putVal_11 8 rfl rfl)
theorem dJ1_putVal_264 : decode cJ1_putVal 264 = .ok (.iconst 1, 1) := dk_4 (dk_at dksJ1_putVal_11 11 rfl rfl)
theorem dJ1_putVal_265 : decode cJ1_putVal 265 = .ok (.iadd, 1) := dk_96 (dk_at dksJ1_putVal_11 12 rfl rfl)
theorem dJ1_putVal_266 : decode cJ1_putVal 266 = .ok (.putfield 202, 3) := dk_181 0 202 (dk_at dksJ1_putVal_11 13 rfl rfl)
theorem dJ1_putVal_269 : decode cJ1_putVal 269 = .ok (.aload_n 0, 1) := dk_42 (dk_at dksJ1_putVal_11 16 rfl rfl)
theorem dJ1_putVal_270 : decode cJ1_putVal 270 = .ok (.dup, 1) := dk_89 (dk_at dksJ1_putVal_11 17 rfl rfl)
theorem dJ1_putVal_271 : decode cJ1_putVal 271 = .ok (.getfield 156, 3) := dk_180 0 156 (dk_at dksJ1_putVal_11 18 rfl rfl)
theorem dJ1_putVal_274 : decode cJ1_putVal 274 = .ok (.iconst 1, 1) := dk_4 (dk_at dksJ1_putVal_11 21 rfl rfl)
theorem dJ1_putVal_275 : decode cJ1_putVal 275 = .ok (.iadd, 1) := dk_96 (dk_at dksJ1_putVal_11 22 rfl rfl)
theorem dJ1_putVal_276 : decode cJ1_putVal 276 = .ok (.dup_x1, 1) := dk_90 (dk_at dksJ1_putVal_11 23 rfl rfl)
theorem dJ1_putVal_277 : decode cJ1_putVal 277 = .ok (.putfield 156, 3) := dk_181 0 156 (dk_at dksJ1_putVal_12 0 rfl rfl)
theorem dJ1_putVal_280 : decode cJ1_putVal 280 = .ok (.aload_n 0, 1) := dk_42 (dk_at dksJ1_putVal_12 3 rfl rfl)
theorem dJ1_putVal_281 : decode cJ1_putVal 281 = .ok (.getfield 88, 3) := dk_180 0 88 (dk_at dksJ1_putVal_12 4 rfl rfl)
theorem dJ1_putVal_284 : decode cJ1_putVal 284 = .ok (.if_icmp .le 8, 3) := dk_164 0 8 (dk_at dksJ1_putVal_12 7 rfl rfl)
theorem dJ1_putVal_287 : decode cJ1_putVal 287 = .ok (.aload_n 0, 1) := dk_42 (dk_at dksJ1_putVal_12 10 rfl rfl)
theorem dJ1_putVal_288 : decode cJ1_putVal 288 = .ok (.invokevirtual 117, 3) := dk_182 0 117 (dk_at dksJ1_putVal_12 11 rfl rfl)
theorem dJ1_putVal_291 : decode cJ1_putVal 291 = .ok (.pop, 1) := dk_87 (dk_at dksJ1_putVal_12 14 rfl rfl)
theorem dJ1_putVal_292 : decode cJ1_putVal 292 = .ok (.aload_n 0, 1) := dk_42 (dk_at dksJ1_putVal_12 15 rfl rfl)
theorem dJ1_putVal_293 : decode cJ1_putVal 293 = .ok (.iload 5, 2) := dk_21 5 (dk_at dksJ1_putVal_12 16 rfl rfl)
theorem dJ1_putVal_295 : decode cJ1_putVal 295 = .ok (.invokevirtual 205, 3) := dk_182 0 205 (dk_at dksJ1_putVal_12 18 rfl rfl)
theorem dJ1_putVal_298 : decode cJ1_putVal 298 = .ok (.aconst_null, 1) := dk_1 (dk_at dksJ1_putVal_12 21 rfl rfl)
theorem dJ1_putVal_299 : decode cJ1_putVal 299 = .ok (.areturn, 1) := dk_176 (dk_at dksJ1_putVal_12 22 rfl rfl)
abbrev cJ1_resize : ByteArray := prog_50_method_17_code
def yJ1_resize : MethodName := ⟨RJ1, "resize", "()[Ljava/util/HashMap$Node;"⟩
def dkwJ1_resize_15 : List UInt8 := [25, 6, 176]
abbrev dktJ1_resize_15 : List UInt8 := dkwJ1_resize_15 ++ []
def dkwJ1_resize_14 : List UInt8 := [198, 0, 18, 25, 12, 1, 181, 0, 177, 25, 6, 21, 7, 28, 96, 25, 11, 83, 132, 7, 1, 167, 255, 57]
abbrev dktJ1_resize_14 : List UInt8 := dkwJ1_resize_14 ++ dktJ1_resize_15
def dkwJ1_resize_13 : List UInt8 := [199, 255, 185, 25, 10, 198, 0, 16, 25, 10, 1, 181, 0, 177, 25, 6, 21, 7, 25, 9, 83, 25, 12]
abbrev dktJ1_resize_13 : List UInt8 := dkwJ1_resize_13 ++ dktJ1_resize_14
def dkwJ1_resize_12 : List UInt8 := [25, 8, 58, 11, 167, 0, 10, 25, 12, 25, 8, 181, 0, 177, 25, 8, 58, 12, 25, 13, 89, 58, 8]
abbrev dktJ1_resize_12 : List UInt8 := dkwJ1_resize_12 ++ dktJ1_resize_13
def dkwJ1_resize_11 : List UInt8 := [58, 9, 167, 0, 10, 25, 10, 25, 8, 181, 0, 177, 25, 8, 58, 10, 167, 0, 26, 25, 12, 199, 0, 10]
abbrev dktJ1_resize_11 : List UInt8 := dkwJ1_resize_11 ++ dktJ1_resize_12
def dkwJ1_resize_10 : List UInt8 := [25, 8, 180, 0, 177, 58, 13, 25, 8, 180, 0, 168, 28, 126, 154, 0, 29, 25, 10, 199, 0, 10, 25, 8]
abbrev dktJ1_resize_10 : List UInt8 := dkwJ1_resize_10 ++ dktJ1_resize_11
def dkwJ1_resize_9 : List UInt8 := [42, 25, 6, 21, 7, 28, 182, 0, 211, 167, 0, 127, 1, 58, 9, 1, 58, 10, 1, 58, 11, 1, 58, 12]
abbrev dktJ1_resize_9 : List UInt8 := dkwJ1_resize_9 ++ dktJ1_resize_10
def dkwJ1_resize_8 : List UInt8 := [21, 4, 4, 100, 126, 25, 8, 83, 167, 0, 152, 25, 8, 193, 0, 180, 153, 0, 20, 25, 8, 192, 0, 180]
abbrev dktJ1_resize_8 : List UInt8 := dkwJ1_resize_8 ++ dktJ1_resize_9
def dkwJ1_resize_7 : List UInt8 := [198, 0, 183, 43, 21, 7, 1, 83, 25, 8, 180, 0, 177, 199, 0, 21, 25, 6, 25, 8, 180, 0, 168]
abbrev dktJ1_resize_7 : List UInt8 := dkwJ1_resize_7 ++ dktJ1_resize_8
def dkwJ1_resize_6 : List UInt8 := [181, 0, 105, 43, 198, 0, 208, 3, 54, 7, 21, 7, 28, 162, 0, 199, 43, 21, 7, 50, 89, 58, 8]
abbrev dktJ1_resize_6 : List UInt8 := dkwJ1_resize_6 ++ dktJ1_resize_7
def dkwJ1_resize_5 : List UInt8 := [167, 0, 5, 18, 209, 54, 5, 42, 21, 5, 181, 0, 88, 21, 4, 189, 0, 163, 58, 6, 42, 25, 6]
abbrev dktJ1_resize_5 : List UInt8 := dkwJ1_resize_5 ++ dktJ1_resize_6
def dkwJ1_resize_4 : List UInt8 := [180, 0, 81, 106, 56, 6, 21, 4, 18, 42, 162, 0, 17, 23, 6, 18, 210, 150, 156, 0, 9, 23, 6, 139]
abbrev dktJ1_resize_4 : List UInt8 := dkwJ1_resize_4 ++ dktJ1_resize_5
def dkwJ1_resize_3 : List UInt8 := [54, 4, 167, 0, 11, 16, 16, 54, 4, 16, 12, 54, 5, 21, 5, 154, 0, 38, 21, 4, 134, 42]
abbrev dktJ1_resize_3 : List UInt8 := dkwJ1_resize_3 ++ dktJ1_resize_4
def dkwJ1_resize_2 : List UInt8 := [18, 42, 162, 0, 35, 28, 16, 16, 161, 0, 29, 29, 4, 120, 54, 5, 167, 0, 21, 29, 158, 0, 9, 29]
abbrev dktJ1_resize_2 : List UInt8 := dkwJ1_resize_2 ++ dktJ1_resize_3
def dkwJ1_resize_1 : List UInt8 := [28, 158, 0, 42, 28, 18, 42, 161, 0, 11, 42, 18, 209, 181, 0, 88, 43, 176, 28, 4, 120, 89, 54, 4]
abbrev dktJ1_resize_1 : List UInt8 := dkwJ1_resize_1 ++ dktJ1_resize_2
def dkwJ1_resize_0 : List UInt8 := [42, 180, 0, 105, 76, 43, 199, 0, 7, 3, 167, 0, 5, 43, 190, 61, 42, 180, 0, 88, 62, 3, 54, 5]
abbrev dktJ1_resize_0 : List UInt8 := dkwJ1_resize_0 ++ dktJ1_resize_1
theorem dksJ1_resize_0 : cJ1_resize.data.toList.drop 0 = dktJ1_resize_0 := by decide +kernel
theorem dksJ1_resize_1 : cJ1_resize.data.toList.drop 24 = dktJ1_resize_1 := dk_seg dksJ1_resize_0 24 rfl rfl
theorem dksJ1_resize_2 : cJ1_resize.data.toList.drop 48 = dktJ1_resize_2 := dk_seg dksJ1_resize_1 24 rfl rfl
theorem dksJ1_resize_3 : cJ1_resize.data.toList.drop 72 = dktJ1_resize_3 := dk_seg dksJ1_resize_2 24 rfl rfl
theorem dksJ1_resize_4 : cJ1_resize.data.toList.drop 94 = dktJ1_resize_4 := dk_seg dksJ1_resize_3 22 rfl rfl
theorem dksJ1_resize_5 : cJ1_resize.data.toList.drop 118 = dktJ1_resize_5 := dk_seg dksJ1_resize_4 24 rfl rfl
theorem dksJ1_resize_6 : cJ1_resize.data.toList.drop 141 = dktJ1_resize_6 := dk_seg dksJ1_resize_5 23 rfl rfl
theorem dksJ1_resize_7 : cJ1_resize.data.toList.drop 164 = dktJ1_resize_7 := dk_seg dksJ1_resize_6 23 rfl rfl
theorem dksJ1_resize_8 : cJ1_resize.data.toList.drop 187 = dktJ1_resize_8 := dk_seg dksJ1_resize_7 23 rfl rfl
theorem dksJ1_resize_9 : cJ1_resize.data.toList.drop 211 = dktJ1_resize_9 := dk_seg dksJ1_resize_8 24 rfl rfl
theorem dksJ1_resize_10 : cJ1_resize.data.toList.drop 235 = dktJ1_resize_10 := dk_seg dksJ1_resize_9 24 rfl rfl
theorem dksJ1_resize_11 : cJ1_resize.data.toList.drop 259 = dktJ1_resize_11 := dk_seg dksJ1_resize_10 24 rfl rfl
theorem dksJ1_resize_12 : cJ1_resize.data.toList.drop 283 = dktJ1_resize_12 := dk_seg dksJ1_resize_11 24 rfl rfl
theorem dksJ1_resize_13 : cJ1_resize.data.toList.drop 306 = dktJ1_resize_13 := dk_seg dksJ1_resize_12 23 rfl rfl
theorem dksJ1_resize_14 : cJ1_resize.data.toList.drop 329 = dktJ1_resize_14 := dk_seg dksJ1_resize_13 23 rfl rfl
theorem dksJ1_resize_15 : cJ1_resize.data.toList.drop 353 = dktJ1_resize_15 := dk_seg dksJ1_resize_14 24 rfl rfl
theorem dJ1_resize_0 : decode cJ1_resize 0 = .ok (.aload_n 0, 1) := dk_42 (dk_at dksJ1_resize_0 0 rfl rfl)
theorem dJ1_resize_1 : decode cJ1_resize 1 = .ok (.getfield 105, 3) := dk_180 0 105 (dk_at dksJ1_resize_0 1 rfl rfl)
theorem dJ1_resize_4 : decode cJ1_resize 4 = .ok (.astore_n 1, 1) := dk_76 (dk_at dksJ1_resize_0 4 rfl rfl)
theorem dJ1_resize_5 : decode cJ1_resize 5 = .ok (.aload_n 1, 1) := dk_43 (dk_at dksJ1_resize_0 5 rfl rfl)
theorem dJ1_resize_6 : decode cJ1_resize 6 = .ok (.ifnonnull 7, 3) := dk_199 0 7 (dk_at dksJ1_resize_0 6 rfl rfl)
theorem dJ1_resize_9 : decode cJ1_resize 9 = .ok (.iconst 0, 1) := dk_3 (dk_at dksJ1_resize_0 9 rfl rfl)
theorem dJ1_resize_10 : decode cJ1_resize 10 = .ok (.goto 5, 3) := dk_167 0 5 (dk_at dksJ1_resize_0 10 rfl rfl)
theorem dJ1_resize_13 : decode cJ1_resize 13 = .ok (.aload_n 1, 1) := dk_43 (dk_at dksJ1_resize_0 13 rfl rfl)
theorem dJ1_resize_14 : decode cJ1_resize 14 = .ok (.arraylength, 1) := dk_190 (dk_at dksJ1_resize_0 14 rfl rfl)
theorem dJ1_resize_15 : decode cJ1_resize 15 = .ok (.istore_n 2, 1) := dk_61 (dk_at dksJ1_resize_0 15 rfl rfl)
theorem dJ1_resize_16 : decode cJ1_resize 16 = .ok (.aload_n 0, 1) := dk_42 (dk_at dksJ1_resize_0 16 rfl rfl)
theorem dJ1_resize_17 : decode cJ1_resize 17 = .ok (.getfield 88, 3) := dk_180 0 88 (dk_at dksJ1_resize_0 17 rfl rfl)
theorem dJ1_resize_20 : decode cJ1_resize 20 = .ok (.istore_n 3, 1) := dk_62 (dk_at dksJ1_resize_0 20 rfl rfl)
theorem dJ1_resize_21 : decode cJ1_resize 21 = .ok (.iconst 0, 1) := dk_3 (dk_at dksJ1_resize_0 21 rfl rfl)
theorem dJ1_resize_22 : decode cJ1_resize 22 = .ok (.istore 5, 2) := dk_54 5 (dk_at dksJ1_resize_0 22 rfl rfl)
theorem dJ1_resize_24 : decode cJ1_resize 24 = .ok (.iload_n 2, 1) := dk_28 (dk_at dksJ1_resize_1 0 rfl rfl)
theorem dJ1_resize_25 : decode cJ1_resize 25 = .ok (.ifCond .le 42, 3) := dk_158 0 42 (dk_at dksJ1_resize_1 1 rfl rfl)
theorem dJ1_resize_28 : decode cJ1_resize 28 = .ok (.iload_n 2, 1) := dk_28 (dk_at dksJ1_resize_1 4 rfl rfl)
theorem dJ1_resize_29 : decode cJ1_resize 29 = .ok (.ldc 42, 2) := dk_18 42 (dk_at dksJ1_resize_1 5 rfl rfl)
theorem dJ1_resize_31 : decode cJ1_resize 31 = .ok (.if_icmp .lt 11, 3) := dk_161 0 11 (dk_at dksJ1_resize_1 7 rfl rfl)
theorem dJ1_resize_34 : decode cJ1_resize 34 = .ok (.aload_n 0, 1) := dk_42 (dk_at dksJ1_resize_1 10 rfl rfl)
theorem dJ1_resize_35 : decode cJ1_resize 35 = .ok (.ldc 209, 2) := dk_18 209 (dk_at dksJ1_resize_1 11 rfl rfl)
theorem dJ1_resize_37 : decode cJ1_resize 37 = .ok (.putfield 88, 3) := dk_181 0 88 (dk_at dksJ1_resize_1 13 rfl rfl)
theorem dJ1_resize_40 : decode cJ1_resize 40 = .ok (.aload_n 1, 1) := dk_43 (dk_at dksJ1_resize_1 16 rfl rfl)
theorem dJ1_resize_41 : decode cJ1_resize 41 = .ok (.areturn, 1) := dk_176 (dk_at dksJ1_resize_1 17 rfl rfl)
theorem dJ1_resize_42 : decode cJ1_resize 42 = .ok (.iload_n 2, 1) := dk_28 (dk_at dksJ1_resize_1 18 rfl rfl)
theorem dJ1_resize_43 : decode cJ1_resize 43 = .ok (.iconst 1, 1) := dk_4 (dk_at dksJ1_resize_1 19 rfl rfl)
theorem dJ1_resize_44 : decode cJ1_resize 44 = .ok (.ishl, 1) := dk_120 (dk_at dksJ1_resize_1 20 rfl rfl)
theorem dJ1_resize_45 : decode cJ1_resize 45 = .ok (.dup, 1) := dk_89 (dk_at dksJ1_resize_1 21 rfl rfl)
theorem dJ1_resize_46 : decode cJ1_resize 46 = .ok (.istore 4, 2) := dk_54 4 (dk_at dksJ1_resize_1 22 rfl rfl)
theorem dJ1_resize_48 : decode cJ1_resize 48 = .ok (.ldc 42, 2) := dk_18 42 (dk_at dksJ1_resize_2 0 rfl rfl)
theorem dJ1_resize_50 : decode cJ1_resize 50 = .ok (.if_icmp .ge 35, 3) := dk_162 0 35 (dk_at dksJ1_resize_2 2 rfl rfl)
theorem dJ1_resize_53 : decode cJ1_resize 53 = .ok (.iload_n 2, 1) := dk_28 (dk_at dksJ1_resize_2 5 rfl rfl)
theorem dJ1_resize_54 : decode cJ1_resize 54 = .ok (.bipush 16, 2) := dk_16 16 (dk_at dksJ1_resize_2 6 rfl rfl)
theorem dJ1_resize_56 : decode cJ1_resize 56 = .ok (.if_icmp .lt 29, 3) := dk_161 0 29 (dk_at dksJ1_resize_2 8 rfl rfl)
theorem dJ1_resize_59 : decode cJ1_resize 59 = .ok (.iload_n 3, 1) := dk_29 (dk_at dksJ1_resize_2 11 rfl rfl)
theorem dJ1_resize_60 : decode cJ1_resize 60 = .ok (.iconst 1, 1) := dk_4 (dk_at dksJ1_resize_2 12 rfl rfl)
theorem dJ1_resize_61 : decode cJ1_resize 61 = .ok (.ishl, 1) := dk_120 (dk_at dksJ1_resize_2 13 rfl rfl)
theorem dJ1_resize_62 : decode cJ1_resize 62 = .ok (.istore 5, 2) := dk_54 5 (dk_at dksJ1_resize_2 14 rfl rfl)
theorem dJ1_resize_64 : decode cJ1_resize 64 = .ok (.goto 21, 3) := dk_167 0 21 (dk_at dksJ1_resize_2 16 rfl rfl)
theorem dJ1_resize_67 : decode cJ1_resize 67 = .ok (.iload_n 3, 1) := dk_29 (dk_at dksJ1_resize_2 19 rfl rfl)
theorem dJ1_resize_68 : decode cJ1_resize 68 = .ok (.ifCond .le 9, 3) := dk_158 0 9 (dk_at dksJ1_resize_2 20 rfl rfl)
theorem dJ1_resize_71 : decode cJ1_resize 71 = .ok (.iload_n 3, 1) := dk_29 (dk_at dksJ1_resize_2 23 rfl rfl)
theorem dJ1_resize_72 : decode cJ1_resize 72 = .ok (.istore 4, 2) := dk_54 4 (dk_at dksJ1_resize_3 0 rfl rfl)
theorem dJ1_resize_74 : decode cJ1_resize 74 = .ok (.goto 11, 3) := dk_167 0 11 (dk_at dksJ1_resize_3 2 rfl rfl)
theorem dJ1_resize_77 : decode cJ1_resize 77 = .ok (.bipush 16, 2) := dk_16 16 (dk_at dksJ1_resize_3 5 rfl rfl)
theorem dJ1_resize_79 : decode cJ1_resize 79 = .ok (.istore 4, 2) := dk_54 4 (dk_at dksJ1_resize_3 7 rfl rfl)
theorem dJ1_resize_81 : decode cJ1_resize 81 = .ok (.bipush 12, 2) := dk_16 12 (dk_at dksJ1_resize_3 9 rfl rfl)
theorem dJ1_resize_83 : decode cJ1_resize 83 = .ok (.istore 5, 2) := dk_54 5 (dk_at dksJ1_resize_3 11 rfl rfl)
theorem dJ1_resize_85 : decode cJ1_resize 85 = .ok (.iload 5, 2) := dk_21 5 (dk_at dksJ1_resize_3 13 rfl rfl)
theorem dJ1_resize_87 : decode cJ1_resize 87 = .ok (.ifCond .ne 38, 3) := dk_154 0 38 (dk_at dksJ1_resize_3 15 rfl rfl)
theorem dJ1_resize_90 : decode cJ1_resize 90 = .ok (.iload 4, 2) := dk_21 4 (dk_at dksJ1_resize_3 18 rfl rfl)
theorem dJ1_resize_92 : decode cJ1_resize 92 = .ok (.i2f, 1) := dk_134 (dk_at dksJ1_resize_3 20 rfl rfl)
theorem dJ1_resize_93 : decode cJ1_resize 93 = .ok (.aload_n 0, 1) := dk_42 (dk_at dksJ1_resize_3 21 rfl rfl)
theorem dJ1_resize_94 : decode cJ1_resize 94 = .ok (.getfield 81, 3) := dk_180 0 81 (dk_at dksJ1_resize_4 0 rfl rfl)
theorem dJ1_resize_97 : decode cJ1_resize 97 = .ok (.fmul, 1) := dk_106 (dk_at dksJ1_resize_4 3 rfl rfl)
theorem dJ1_resize_98 : decode cJ1_resize 98 = .ok (.fstore 6, 2) := dk_56 6 (dk_at dksJ1_resize_4 4 rfl rfl)
theorem dJ1_resize_100 : decode cJ1_resize 100 = .ok (.iload 4, 2) := dk_21 4 (dk_at dksJ1_resize_4 6 rfl rfl)
theorem dJ1_resize_102 : decode cJ1_resize 102 = .ok (.ldc 42, 2) := dk_18 42 (dk_at dksJ1_resize_4 8 rfl rfl)
theorem dJ1_resize_104 : decode cJ1_resize 104 = .ok (.if_icmp .ge 17, 3) := dk_162 0 17 (dk_at dksJ1_resize_4 10 rfl rfl)
theorem dJ1_resize_107 : decode cJ1_resize 107 = .ok (.fload 6, 2) := dk_23 6 (dk_at dksJ1_resize_4 13 rfl rfl)
theorem dJ1_resize_109 : decode cJ1_resize 109 = .ok (.ldc 210, 2) := dk_18 210 (dk_at dksJ1_resize_4 15 rfl rfl)
theorem dJ1_resize_111 : decode cJ1_resize 111 = .ok (.fcmp .g, 1) := dk_150 (dk_at dksJ1_resize_4 17 rfl rfl)
theorem dJ1_resize_112 : decode cJ1_resize 112 = .ok (.ifCond .ge 9, 3) := dk_156 0 9 (dk_at dksJ1_resize_4 18 rfl rfl)
theorem dJ1_resize_115 : decode cJ1_resize 115 = .ok (.fload 6, 2) := dk_23 6 (dk_at dksJ1_resize_4 21 rfl rfl)
theorem dJ1_resize_117 : decode cJ1_resize 117 = .ok (.f2i, 1) := dk_139 (dk_at dksJ1_resize_4 23 rfl rfl)
theorem dJ1_resize_118 : decode cJ1_resize 118 = .ok (.goto 5, 3) := dk_167 0 5 (dk_at dksJ1_resize_5 0 rfl rfl)
theorem dJ1_resize_121 : decode cJ1_resize 121 = .ok (.ldc 209, 2) := dk_18 209 (dk_at dksJ1_resize_5 3 rfl rfl)
theorem dJ1_resize_123 : decode cJ1_resize 123 = .ok (.istore 5, 2) := dk_54 5 (dk_at dksJ1_resize_5 5 rfl rfl)
theorem dJ1_resize_125 : decode cJ1_resize 125 = .ok (.aload_n 0, 1) := dk_42 (dk_at dksJ1_resize_5 7 rfl rfl)
theorem dJ1_resize_126 : decode cJ1_resize 126 = .ok (.iload 5, 2) := dk_21 5 (dk_at dksJ1_resize_5 8 rfl rfl)
theorem dJ1_resize_128 : decode cJ1_resize 128 = .ok (.putfield 88, 3) := dk_181 0 88 (dk_at dksJ1_resize_5 10 rfl rfl)
theorem dJ1_resize_131 : decode cJ1_resize 131 = .ok (.iload 4, 2) := dk_21 4 (dk_at dksJ1_resize_5 13 rfl rfl)
theorem dJ1_resize_133 : decode cJ1_resize 133 = .ok (.anewarray 163, 3) := dk_189 0 163 (dk_at dksJ1_resize_5 15 rfl rfl)
theorem dJ1_resize_136 : decode cJ1_resize 136 = .ok (.astore 6, 2) := dk_58 6 (dk_at dksJ1_resize_5 18 rfl rfl)
theorem dJ1_resize_138 : decode cJ1_resize 138 = .ok (.aload_n 0, 1) := dk_42 (dk_at dksJ1_resize_5 20 rfl rfl)
theorem dJ1_resize_139 : decode cJ1_resize 139 = .ok (.aload 6, 2) := dk_25 6 (dk_at dksJ1_resize_5 21 rfl rfl)
theorem dJ1_resize_141 : decode cJ1_resize 141 = .ok (.putfield 105, 3) := dk_181 0 105 (dk_at dksJ1_resize_6 0 rfl rfl)
theorem dJ1_resize_144 : decode cJ1_resize 144 = .ok (.aload_n 1, 1) := dk_43 (dk_at dksJ1_resize_6 3 rfl rfl)
theorem dJ1_resize_145 : decode cJ1_resize 145 = .ok (.ifnull 208, 3) := dk_198 0 208 (dk_at dksJ1_resize_6 4 rfl rfl)
theorem dJ1_resize_148 : decode cJ1_resize 148 = .ok (.iconst 0, 1) := dk_3 (dk_at dksJ1_resize_6 7 rfl rfl)
theorem dJ1_resize_149 : decode cJ1_resize 149 = .ok (.istore 7, 2) := dk_54 7 (dk_at dksJ1_resize_6 8 rfl rfl)
theorem dJ1_resize_151 : decode cJ1_resize 151 = .ok (.iload 7, 2) := dk_21 7 (dk_at dksJ1_resize_6 10 rfl rfl)
theorem dJ1_resize_153 : decode cJ1_resize 153 = .ok (.iload_n 2, 1) := dk_28 (dk_at dksJ1_resize_6 12 rfl rfl)
theorem dJ1_resize_154 : decode cJ1_resize 154 = .ok (.if_icmp .ge 199, 3) := dk_162 0 199 (dk_at dksJ1_resize_6 13 rfl rfl)
theorem dJ1_resize_157 : decode cJ1_resize 157 = .ok (.aload_n 1, 1) := dk_43 (dk_at dksJ1_resize_6 16 rfl rfl)
theorem dJ1_resize_158 : decode cJ1_resize 158 = .ok (.iload 7, 2) := dk_21 7 (dk_at dksJ1_resize_6 17 rfl rfl)
theorem dJ1_resize_160 : decode cJ1_resize 160 = .ok (.aaload, 1) := dk_50 (dk_at dksJ1_resize_6 19 rfl rfl)
theorem dJ1_resize_161 : decode cJ1_resize 161 = .ok (.dup, 1) := dk_89 (dk_at dksJ1_resize_6 20 rfl rfl)
theorem dJ1_resize_162 : decode cJ1_resize 162 = .ok (.astore 8, 2) := dk_58 8 (dk_at dksJ1_resize_6 21 rfl rfl)
theorem dJ1_resize_164 : decode cJ1_resize 164 = .ok (.ifnull 183, 3) := dk_198 0 183 (dk_at dksJ1_resize_7 0 rfl rfl)
theorem dJ1_resize_167 : decode cJ1_resize 167 = .ok (.aload_n 1, 1) := dk_43 (dk_at dksJ1_resize_7 3 rfl rfl)
theorem dJ1_resize_168 : decode cJ1_resize 168 = .ok (.iload 7, 2) := dk_21 7 (dk_at dksJ1_resize_7 4 rfl rfl)
theorem dJ1_resize_170 : decode cJ1_resize 170 = .ok (.aconst_null, 1) := dk_1 (dk_at dksJ1_resize_7 6 rfl rfl)
theorem dJ1_resize_171 : decode cJ1_resize 171 = .ok (.aastore, 1) := dk_83 (dk_at dksJ1_resize_7 7 rfl rfl)
theorem dJ1_resize_172 : decode cJ1_resize 172 = .ok (.aload 8, 2) := dk_25 8 (dk_at dksJ1_resize_7 8 rfl rfl)
theorem dJ1_resize_174 : decode cJ1_resize 174 = .ok (.getfield 177, 3) := dk_180 0 177 (dk_at dksJ1_resize_7 10 rfl rfl)
theorem dJ1_resize_177 : decode cJ1_resize 177 = .ok (.ifnonnull 21, 3) := dk_199 0 21 (dk_at dksJ1_resize_7 13 rfl rfl)
theorem dJ1_resize_180 : decode cJ1_resize 180 = .ok (.aload 6, 2) := dk_25 6 (dk_at dksJ1_resize_7 16 rfl rfl)
theorem dJ1_resize_182 : decode cJ1_resize 182 = .ok (.aload 8, 2) := dk_25 8 (dk_at dksJ1_resize_7 18 rfl rfl)
theorem dJ1_resize_184 : decode cJ1_resize 184 = .ok (.getfield 168, 3) := dk_180 0 168 (dk_at dksJ1_resize_7 20 rfl rfl)
theorem dJ1_resize_187 : decode cJ1_resize 187 = .ok (.iload 4, 2) := dk_21 4 (dk_at dksJ1_resize_8 0 rfl rfl)
theorem dJ1_resize_189 : decode cJ1_resize 189 = .ok (.iconst 1, 1) := dk_4 (dk_at dksJ1_resize_8 2 rfl rfl)
theorem dJ1_resize_190 : decode cJ1_resize 190 = .ok (.isub, 1) := dk_100 (dk_at dksJ1_resize_8 3 rfl rfl)
theorem dJ1_resize_191 : decode cJ1_resize 191 = .ok (.iand, 1) := dk_126 (dk_at dksJ1_resize_8 4 rfl rfl)
theorem dJ1_resize_192 : decode cJ1_resize 192 = .ok (.aload 8, 2) := dk_25 8 (dk_at dksJ1_resize_8 5 rfl rfl)
theorem dJ1_resize_194 : decode cJ1_resize 194 = .ok (.aastore, 1) := dk_83 (dk_at dksJ1_resize_8 7 rfl rfl)
theorem dJ1_resize_195 : decode cJ1_resize 195 = .ok (.goto 152, 3) := dk_167 0 152 (dk_at dksJ1_resize_8 8 rfl rfl)
theorem dJ1_resize_198 : decode cJ1_resize 198 = .ok (.aload 8, 2) := dk_25 8 (dk_at dksJ1_resize_8 11 rfl rfl)
theorem dJ1_resize_200 : decode cJ1_resize 200 = .ok (.instanceof 180, 3) := dk_193 0 180 (dk_at dksJ1_resize_8 13 rfl rfl)
theorem dJ1_resize_203 : decode cJ1_resize 203 = .ok (.ifCond .eq 20, 3) := dk_153 0 20 (dk_at dksJ1_resize_8 16 rfl rfl)
theorem dJ1_resize_206 : decode cJ1_resize 206 = .ok (.aload 8, 2) := dk_25 8 (dk_at dksJ1_resize_8 19 rfl rfl)
theorem dJ1_resize_208 : decode cJ1_resize 208 = .ok (.checkcast 180, 3) := dk_192 0 180 (dk_at dksJ1_resize_8 21 rfl rfl)
theorem dJ1_resize_211 : decode cJ1_resize 211 = .ok (.aload_n 0, 1) := dk_42 (dk_at dksJ1_resize_9 0 rfl rfl)
theorem dJ1_resize_212 : decode cJ1_resize 212 = .ok (.aload 6, 2) := dk_25 6 (dk_at dksJ1_resize_9 1 rfl rfl)
theorem dJ1_resize_214 : decode cJ1_resize 214 = .ok (.iload 7, 2) := dk_21 7 (dk_at dksJ1_resize_9 3 rfl rfl)
theorem dJ1_resize_216 : decode cJ1_resize 216 = .ok (.iload_n 2, 1) := dk_28 (dk_at dksJ1_resize_9 5 rfl rfl)
theorem dJ1_resize_217 : decode cJ1_resize 217 = .ok (.invokevirtual 211, 3) := dk_182 0 211 (dk_at dksJ1_resize_9 6 rfl rfl)
theorem dJ1_resize_220 : decode cJ1_resize 220 = .ok (.goto 127, 3) := dk_167 0 127 (dk_at dksJ1_resize_9 9 rfl rfl)
theorem dJ1_resize_223 : decode cJ1_resize 223 = .ok (.aconst_null, 1) := dk_1 (dk_at dksJ1_resize_9 12 rfl rfl)
theorem dJ1_resize_224 : decode cJ1_resize 224 = .ok (.astore 9, 2) := dk_58 9 (dk_at dksJ1_resize_9 13 rfl rfl)
theorem dJ1_resize_226 : decode cJ1_resize 226 = .ok (.aconst_null, 1) := dk_1 (dk_at dksJ1_resize_9 15 rfl rfl)
theorem dJ1_resize_227 : decode cJ1_resize 227 = .ok (.astore 10, 2) := dk_58 10 (dk_at dksJ1_resize_9 16 rfl rfl)
theorem dJ1_resize_229 : decode cJ1_resize 229 = .ok (.aconst_null, 1) := dk_1 (dk_at dksJ1_resize_9 18 rfl rfl)
theorem dJ1_resize_230 : decode cJ1_resize 230 = .ok (.astore 11, 2) := dk_58 11 (dk_at dksJ1_resize_9 19 rfl rfl)
theorem dJ1_resize_232 : decode cJ1_resize 232 = .ok (.aconst_null, 1) := dk_1 (dk_at dksJ1_resize_9 21 rfl rfl)
theorem dJ1_resize_233 : decode cJ1_resize 233 = .ok (.astore 12, 2) := dk_58 12 (dk_at dksJ1_resize_9 22 rfl rfl)
theorem dJ1_resize_235 : decode cJ1_resize 235 = .ok (.aload 8, 2) := dk_25 8 (dk_at dksJ1_resize_10 0 rfl rfl)
theorem dJ1_resize_237 : decode cJ1_resize 237 = .ok (.getfield 177, 3) := dk_180 0 177 (dk_at dksJ1_resize_10 2 rfl rfl)
theorem dJ1_resize_240 : decode cJ1_resize 240 = .ok (.astore 13, 2) := dk_58 13 (dk_at dksJ1_resize_10 5 rfl rfl)
theorem dJ1_resize_242 : decode cJ1_resize 242 = .ok (.aload 8, 2) := dk_25 8 (dk_at dksJ1_resize_10 7 rfl rfl)
theorem dJ1_resize_244 : decode cJ1_resize 244 = .ok (.getfield 168, 3) := dk_180 0 168 (dk_at dksJ1_resize_10 9 rfl rfl)
theorem dJ1_resize_247 : decode cJ1_resize 247 = .ok (.iload_n 2, 1) := dk_28 (dk_at dksJ1_resize_10 12 rfl rfl)
theorem dJ1_resize_248 : decode cJ1_resize 248 = .ok (.iand, 1) := dk_126 (dk_at dksJ1_resize_10 13 rfl rfl)
theorem dJ1_resize_249 : decode cJ1_resize 249 = .ok (.ifCond .ne 29, 3) := dk_154 0 29 (dk_at dksJ1_resize_10 14 rfl rfl)
theorem dJ1_resize_252 : decode cJ1_resize 252 = .ok (.aload 10, 2) := dk_25 10 (dk_at dksJ1_resize_10 17 rfl rfl)
theorem dJ1_resize_254 : decode cJ1_resize 254 = .ok (.ifnonnull 10, 3) := dk_199 0 10 (dk_at dksJ1_resize_10 19 rfl rfl)
theorem dJ1_resize_257 : decode cJ1_resize 257 = .ok (.aload 8, 2) := dk_25 8 (dk_at dksJ1_resize_10 22 rfl rfl)
theorem dJ1_resize_259 : decode cJ1_resize 259 = .ok (.astore 9, 2) := dk_58 9 (dk_at dksJ1_resize_11 0 rfl rfl)
theorem dJ1_resize_261 : decode cJ1_resize 261 = .ok (.goto 10, 3) := dk_167 0 10 (dk_at dksJ1_resize_11 2 rfl rfl)
theorem dJ1_resize_264 : decode cJ1_resize 264 = .ok (.aload 10, 2) := dk_25 10 (dk_at dksJ1_resize_11 5 rfl rfl)
theorem dJ1_resize_266 : decode cJ1_resize 266 = .ok (.aload 8, 2) := dk_25 8 (dk_at dksJ1_resize_11 7 rfl rfl)
theorem dJ1_resize_268 : decode cJ1_resize 268 = .ok (.putfield 177, 3) := dk_181 0 177 (dk_at dksJ1_resize_11 9 rfl rfl)
theorem dJ1_resize_271 : decode cJ1_resize 271 = .ok (.aload 8, 2) := dk_25 8 (dk_at dksJ1_resize_11 12 rfl rfl)
theorem dJ1_resize_273 : decode cJ1_resize 273 = .ok (.astore 10, 2) := dk_58 10 (dk_at dksJ1_resize_11 14 rfl rfl)
theorem dJ1_resize_275 : decode cJ1_resize 275 = .ok (.goto 26, 3) := dk_167 0 26 (dk_at dksJ1_resize_11 16 rfl rfl)
theorem dJ1_resize_278 : decode cJ1_resize 278 = .ok (.aload 12, 2) := dk_25 12 (dk_at dksJ1_resize_11 19 rfl rfl)
theorem dJ1_resize_280 : decode cJ1_resize 280 = .ok (.ifnonnull 10, 3) := dk_199 0 10 (dk_at dksJ1_resize_11 21 rfl rfl)
theorem dJ1_resize_283 : decode cJ1_resize 283 = .ok (.aload 8, 2) := dk_25 8 (dk_at dksJ1_resize_12 0 rfl rfl)
theorem dJ1_resize_285 : decode cJ1_resize 285 = .ok (.astore 11, 2) := dk_58 11 (dk_at dksJ1_resize_12 2 rfl rfl)
theorem dJ1_resize_287 : decode cJ1_resize 287 = .ok (.goto 10, 3) := dk_167 0 10 (dk_at dksJ1_resize_12 4 rfl rfl)
theorem dJ1_resize_290 : decode cJ1_resize 290 = .ok (.aload 12, 2) := dk_25 12 (dk_at dksJ1_resize_12 7 rfl rfl)
theorem dJ1_resize_292 : decode cJ1_resize 292 = .ok (.aload 8, 2) := dk_25 8 (dk_at dksJ1_resize_12 9 rfl rfl)
theorem dJ1_resize_294 : decode cJ1_resize 294 = .ok (.putfield 177, 3) := dk_181 0 177 (dk_at dksJ1_resize_12 11 rfl rfl)
theorem dJ1_resize_297 : decode cJ1_resize 297 = .ok (.aload 8, 2) := dk_25 8 (dk_at dksJ1_resize_12 14 rfl rfl)
theorem dJ1_resize_299 : decode cJ1_resize 299 = .ok (.astore 12, 2) := dk_58 12 (dk_at dksJ1_resize_12 16 rfl rfl)
theorem dJ1_resize_301 : decode cJ1_resize 301 = .ok (.aload 13, 2) := dk_25 13 (dk_at dksJ1_resize_12 18 rfl rfl)
theorem dJ1_resize_303 : decode cJ1_resize 303 = .ok (.dup, 1) := dk_89 (dk_at dksJ1_resize_12 20 rfl rfl)
theorem dJ1_resize_304 : decode cJ1_resize 304 = .ok (.astore 8, 2) := dk_58 8 (dk_at dksJ1_resize_12 21 rfl rfl)
theorem dJ1_resize_306 : decode cJ1_resize 306 = .ok (.ifnonnull (-71), 3) := dk_199 255 185 (dk_at dksJ1_resize_13 0 rfl rfl)
theorem dJ1_resize_309 : decode cJ1_resize 309 = .ok (.aload 10, 2) := dk_25 10 (dk_at dksJ1_resize_13 3 rfl rfl)
theorem dJ1_resize_311 : decode cJ1_resize 311 = .ok (.ifnull 16, 3) := dk_198 0 16 (dk_at dksJ1_resize_13 5 rfl rfl)
theorem dJ1_resize_314 : decode cJ1_resize 314 = .ok (.aload 10, 2) := dk_25 10 (dk_at dksJ1_resize_13 8 rfl rfl)
theorem dJ1_resize_316 : decode cJ1_resize 316 = .ok (.aconst_null, 1) := dk_1 (dk_at dksJ1_resize_13 10 rfl rfl)
theorem dJ1_resize_317 : decode cJ1_resize 317 = .ok (.putfield 177, 3) := dk_181 0 177 (dk_at dksJ1_resize_13 11 rfl rfl)
theorem dJ1_resize_320 : decode cJ1_resize 320 = .ok (.aload 6, 2) := dk_25 6 (dk_at dksJ1_resize_13 14 rfl rfl)
theorem dJ1_resize_322 : decode cJ1_resize 322 = .ok (.iload 7, 2) := dk_21 7 (dk_at dksJ1_resize_13 16 rfl rfl)
theorem dJ1_resize_324 : decode cJ1_resize 324 = .ok (.aload 9, 2) := dk_25 9 (dk_at dksJ1_resize_13 18 rfl rfl)
theorem dJ1_resize_326 : decode cJ1_resize 326 = .ok (.aastore, 1) := dk_83 (dk_at dksJ1_resize_13 20 rfl rfl)
theorem dJ1_resize_327 : decode cJ1_resize 327 = .ok (.aload 12, 2) := dk_25 12 (dk_at dksJ1_resize_13 21 rfl rfl)
theorem dJ1_resize_329 : decode cJ1_resize 329 = .ok (.ifnull 18, 3) := dk_198 0 18 (dk_at dksJ1_resize_14 0 rfl rfl)
theorem dJ1_resize_332 : decode cJ1_resize 332 = .ok (.aload 12, 2) := dk_25 12 (dk_at dksJ1_resize_14 3 rfl rfl)
theorem dJ1_resize_334 : decode cJ1_resize 334 = .ok (.aconst_null, 1) := dk_1 (dk_at dksJ1_resize_14 5 rfl rfl)
theorem dJ1_resize_335 : decode cJ1_resize 335 = .ok (.putfield 177, 3) := dk_181 0 177 (dk_at dksJ1_resize_14 6 rfl rfl)
theorem dJ1_resize_338 : decode cJ1_resize 338 = .ok (.aload 6, 2) := dk_25 6 (dk_at dksJ1_resize_14 9 rfl rfl)
theorem dJ1_resize_340 : decode cJ1_resize 340 = .ok (.iload 7, 2) := dk_21 7 (dk_at dksJ1_resize_14 11 rfl rfl)
theorem dJ1_resize_342 : decode cJ1_resize 342 = .ok (.iload_n 2, 1) := dk_28 (dk_at dksJ1_resize_14 13 rfl rfl)
theorem dJ1_resize_343 : decode cJ1_resize 343 = .ok (.iadd, 1) := dk_96 (dk_at dksJ1_resize_14 14 rfl rfl)
theorem dJ1_resize_344 : decode cJ1_resize 344 = .ok (.aload 11, 2) := dk_25 11 (dk_at dksJ1_resize_14 15 rfl rfl)
theorem dJ1_resize_346 : decode cJ1_resize 346 = .ok (.aastore, 1) := dk_83 (dk_at dksJ1_resize_14 17 rfl rfl)
theorem dJ1_resize_347 : decode cJ1_resize 347 = .ok (.iinc 7 1, 3) := dk_132 7 1 (dk_at dksJ1_resize_14 18 rfl rfl)
theorem dJ1_resize_350 : decode cJ1_resize 350 = .ok (.goto (-199), 3) := dk_167 255 57 (dk_at dksJ1_resize_14 21 rfl rfl)
theorem dJ1_resize_353 : decode cJ1_resize 353 = .ok (.aload 6, 2) := dk_25 6 (dk_at dksJ1_resize_15 0 rfl rfl)
theorem dJ1_resize_355 : decode cJ1_resize 355 = .ok (.areturn, 1) := dk_176 (dk_at dksJ1_resize_15 2 rfl rfl)
abbrev cJ1_newNode : ByteArray := prog_50_method_46_code
def yJ1_newNode : MethodName := ⟨RJ1, "newNode", "(ILjava/lang/Object;Ljava/lang/Object;Ljava/util/HashMap$Node;)Ljava/util/HashMap$Node;"⟩
def dkwJ1_newNode_0 : List UInt8 := [187, 0, 163, 89, 27, 44, 45, 25, 4, 183, 1, 119, 176]
abbrev dktJ1_newNode_0 : List UInt8 := dkwJ1_newNode_0 ++ []
theorem dksJ1_newNode_0 : cJ1_newNode.data.toList.drop 0 = dktJ1_newNode_0 := by decide +kernel
theorem dJ1_newNode_0 : decode cJ1_newNode 0 = .ok (.new 163, 3) := dk_187 0 163 (dk_at dksJ1_newNode_0 0 rfl rfl)
theorem dJ1_newNode_3 : decode cJ1_newNode 3 = .ok (.dup, 1) := dk_89 (dk_at dksJ1_newNode_0 3 rfl rfl)
theorem dJ1_newNode_4 : decode cJ1_newNode 4 = .ok (.iload_n 1, 1) := dk_27 (dk_at dksJ1_newNode_0 4 rfl rfl)
theorem dJ1_newNode_5 : decode cJ1_newNode 5 = .ok (.aload_n 2, 1) := dk_44 (dk_at dksJ1_newNode_0 5 rfl rfl)
theorem dJ1_newNode_6 : decode cJ1_newNode 6 = .ok (.aload_n 3, 1) := dk_45 (dk_at dksJ1_newNode_0 6 rfl rfl)
theorem dJ1_newNode_7 : decode cJ1_newNode 7 = .ok (.aload 4, 2) := dk_25 4 (dk_at dksJ1_newNode_0 7 rfl rfl)
theorem dJ1_newNode_9 : decode cJ1_newNode 9 = .ok (.invokespecial 375, 3) := dk_183 1 119 (dk_at dksJ1_newNode_0 9 rfl rfl)
theorem dJ1_newNode_12 : decode cJ1_newNode 12 = .ok (.areturn, 1) := dk_176 (dk_at dksJ1_newNode_0 12 rfl rfl)
abbrev cJ1_treeifyBin : ByteArray := prog_50_method_18_code
def yJ1_treeifyBin : MethodName := ⟨RJ1, "treeifyBin", "([Ljava/util/HashMap$Node;I)V"⟩
def dkwJ1_treeifyBin_4 : List UInt8 := [21, 4, 25, 6, 91, 83, 198, 0, 9, 25, 6, 43, 182, 0, 224, 177]
abbrev dktJ1_treeifyBin_4 : List UInt8 := dkwJ1_treeifyBin_4 ++ []
def dkwJ1_treeifyBin_3 : List UInt8 := [25, 7, 25, 8, 181, 0, 223, 25, 8, 58, 7, 25, 5, 180, 0, 177, 89, 58, 5, 199, 255, 209, 43]
abbrev dktJ1_treeifyBin_3 : List UInt8 := dkwJ1_treeifyBin_3 ++ dktJ1_treeifyBin_4
def dkwJ1_treeifyBin_2 : List UInt8 := [182, 0, 215, 58, 8, 25, 7, 199, 0, 10, 25, 8, 58, 6, 167, 0, 17, 25, 8, 25, 7, 181, 0, 219]
abbrev dktJ1_treeifyBin_2 : List UInt8 := dkwJ1_treeifyBin_2 ++ dktJ1_treeifyBin_3
def dkwJ1_treeifyBin_1 : List UInt8 := [100, 28, 126, 89, 54, 4, 50, 89, 58, 5, 198, 0, 75, 1, 58, 6, 1, 58, 7, 42, 25, 5, 1]
abbrev dktJ1_treeifyBin_1 : List UInt8 := dkwJ1_treeifyBin_1 ++ dktJ1_treeifyBin_2
def dkwJ1_treeifyBin_0 : List UInt8 := [43, 198, 0, 12, 43, 190, 89, 62, 16, 64, 162, 0, 11, 42, 182, 0, 117, 87, 167, 0, 91, 43, 29, 4]
abbrev dktJ1_treeifyBin_0 : List UInt8 := dkwJ1_treeifyBin_0 ++ dktJ1_treeifyBin_1
theorem dksJ1_treeifyBin_0 : cJ1_treeifyBin.data.toList.drop 0 = dktJ1_treeifyBin_0 := by decide +kernel
theorem dksJ1_treeifyBin_1 : cJ1_treeifyBin.data.toList.drop 24 = dktJ1_treeifyBin_1 := dk_seg dksJ1_treeifyBin_0 24 rfl rfl
theorem dksJ1_treeifyBin_2 : cJ1_treeifyBin.data.toList.drop 47 = dktJ1_treeifyBin_2 := dk_seg dksJ1_treeifyBin_1 23 rfl rfl
theorem dksJ1_treeifyBin_3 : cJ1_treeifyBin.data.toList.drop 71 = dktJ1_treeifyBin_3 := dk_seg dksJ1_treeifyBin_2 24 rfl rfl
theorem dksJ1_treeifyBin_4 : cJ1_treeifyBin.data.toList.drop 94 = dktJ1_treeifyBin_4 := dk_seg dksJ1_treeifyBin_3 23 rfl rfl
theorem dJ1_treeifyBin_0 : decode cJ1_treeifyBin 0 = .ok (.aload_n 1, 1) := dk_43 (dk_at dksJ1_treeifyBin_0 0 rfl rfl)
theorem dJ1_treeifyBin_1 : decode cJ1_treeifyBin 1 = .ok (.ifnull 12, 3) := dk_198 0 12 (dk_at dksJ1_treeifyBin_0 1 rfl rfl)
theorem dJ1_treeifyBin_4 : decode cJ1_treeifyBin 4 = .ok (.aload_n 1, 1) := dk_43 (dk_at dksJ1_treeifyBin_0 4 rfl rfl)
theorem dJ1_treeifyBin_5 : decode cJ1_treeifyBin 5 = .ok (.arraylength, 1) := dk_190 (dk_at dksJ1_treeifyBin_0 5 rfl rfl)
theorem dJ1_treeifyBin_6 : decode cJ1_treeifyBin 6 = .ok (.dup, 1) := dk_89 (dk_at dksJ1_treeifyBin_0 6 rfl rfl)
theorem dJ1_treeifyBin_7 : decode cJ1_treeifyBin 7 = .ok (.istore_n 3, 1) := dk_62 (dk_at dksJ1_treeifyBin_0 7 rfl rfl)
theorem dJ1_treeifyBin_8 : decode cJ1_treeifyBin 8 = .ok (.bipush 64, 2) := dk_16 64 (dk_at dksJ1_treeifyBin_0 8 rfl rfl)
theorem dJ1_treeifyBin_10 : decode cJ1_treeifyBin 10 = .ok (.if_icmp .ge 11, 3) := dk_162 0 11 (dk_at dksJ1_treeifyBin_0 10 rfl rfl)
theorem dJ1_treeifyBin_13 : decode cJ1_treeifyBin 13 = .ok (.aload_n 0, 1) := dk_42 (dk_at dksJ1_treeifyBin_0 13 rfl rfl)
theorem dJ1_treeifyBin_14 : decode cJ1_treeifyBin 14 = .ok (.invokevirtual 117, 3) := dk_182 0 117 (dk_at dksJ1_treeifyBin_0 14 rfl rfl)
theorem dJ1_treeifyBin_17 : decode cJ1_treeifyBin 17 = .ok (.pop, 1) := dk_87 (dk_at dksJ1_treeifyBin_0 17 rfl rfl)
theorem dJ1_treeifyBin_18 : decode cJ1_treeifyBin 18 = .ok (.goto 91, 3) := dk_167 0 91 (dk_at dksJ1_treeifyBin_0 18 rfl rfl)
theorem dJ1_treeifyBin_21 : decode cJ1_treeifyBin 21 = .ok (.aload_n 1, 1) := dk_43 (dk_at dksJ1_treeifyBin_0 21 rfl rfl)
theorem dJ1_treeifyBin_22 : decode cJ1_treeifyBin 22 = .ok (.iload_n 3, 1) := dk_29 (dk_at dksJ1_treeifyBin_0 22 rfl rfl)
theorem dJ1_treeifyBin_23 : decode cJ1_treeifyBin 23 = .ok (.iconst 1, 1) := dk_4 (dk_at dksJ1_treeifyBin_0 23 rfl rfl)
theorem dJ1_treeifyBin_24 : decode cJ1_treeifyBin 24 = .ok (.isub, 1) := dk_100 (dk_at dksJ1_treeifyBin_1 0 rfl rfl)
theorem dJ1_treeifyBin_25 : decode cJ1_treeifyBin 25 = .ok (.iload_n 2, 1) := dk_28 (dk_at dksJ1_treeifyBin_1 1 rfl rfl)
theorem dJ1_treeifyBin_26 : decode cJ1_treeifyBin 26 = .ok (.iand, 1) := dk_126 (dk_at dksJ1_treeifyBin_1 2 rfl rfl)
theorem dJ1_treeifyBin_27 : decode cJ1_treeifyBin 27 = .ok (.dup, 1) := dk_89 (dk_at dksJ1_treeifyBin_1 3 rfl rfl)
theorem dJ1_treeifyBin_28 : decode cJ1_treeifyBin 28 = .ok (.istore 4, 2) := dk_54 4 (dk_at dksJ1_treeifyBin_1 4 rfl rfl)
theorem dJ1_treeifyBin_30 : decode cJ1_treeifyBin 30 = .ok (.aaload, 1) := dk_50 (dk_at dksJ1_treeifyBin_1 6 rfl rfl)
theorem dJ1_treeifyBin_31 : decode cJ1_treeifyBin 31 = .ok (.dup, 1) := dk_89 (dk_at dksJ1_treeifyBin_1 7 rfl rfl)
theorem dJ1_treeifyBin_32 : decode cJ1_treeifyBin 32 = .ok (.astore 5, 2) := dk_58 5 (dk_at dksJ1_treeifyBin_1 8 rfl rfl)
theorem dJ1_treeifyBin_34 : decode cJ1_treeifyBin 34 = .ok (.ifnull 75, 3) := dk_198 0 75 (dk_at dksJ1_treeifyBin_1 10 rfl rfl)
theorem dJ1_treeifyBin_37 : decode cJ1_treeifyBin 37 = .ok (.aconst_null, 1) := dk_1 (dk_at dksJ1_treeifyBin_1 13 rfl rfl)
theorem dJ1_treeifyBin_38 : decode cJ1_treeifyBin 38 = .ok (.astore 6, 2) := dk_58 6 (dk_at dksJ1_treeifyBin_1 14 rfl rfl)
theorem dJ1_treeifyBin_40 : decode cJ1_treeifyBin 40 = .ok (.aconst_null, 1) := dk_1 (dk_at dksJ1_treeifyBin_1 16 rfl rfl)
theorem dJ1_treeifyBin_41 : decode cJ1_treeifyBin 41 = .ok (.astore 7, 2) := dk_58 7 (dk_at dksJ1_treeifyBin_1 17 rfl rfl)
theorem dJ1_treeifyBin_43 : decode cJ1_treeifyBin 43 = .ok (.aload_n 0, 1) := dk_42 (dk_at dksJ1_treeifyBin_1 19 rfl rfl)
theorem dJ1_treeifyBin_44 : decode cJ1_treeifyBin 44 = .ok (.aload 5, 2) := dk_25 5 (dk_at dksJ1_treeifyBin_1 20 rfl rfl)
theorem dJ1_treeifyBin_46 : decode cJ1_treeifyBin 46 = .ok (.aconst_null, 1) := dk_1 (dk_at dksJ1_treeifyBin_1 22 rfl rfl)
theorem dJ1_treeifyBin_47 : decode cJ1_treeifyBin 47 = .ok (.invokevirtual 215, 3) := dk_182 0 215 (dk_at dksJ1_treeifyBin_2 0 rfl rfl)
theorem dJ1_treeifyBin_50 : decode cJ1_treeifyBin 50 = .ok (.astore 8, 2) := dk_58 8 (dk_at dksJ1_treeifyBin_2 3 rfl rfl)
theorem dJ1_treeifyBin_52 : decode cJ1_treeifyBin 52 = .ok (.aload 7, 2) := dk_25 7 (dk_at dksJ1_treeifyBin_2 5 rfl rfl)
theorem dJ1_treeifyBin_54 : decode cJ1_treeifyBin 54 = .ok (.ifnonnull 10, 3) := dk_199 0 10 (dk_at dksJ1_treeifyBin_2 7 rfl rfl)
theorem dJ1_treeifyBin_57 : decode cJ1_treeifyBin 57 = .ok (.aload 8, 2) := dk_25 8 (dk_at dksJ1_treeifyBin_2 10 rfl rfl)
theorem dJ1_treeifyBin_59 : decode cJ1_treeifyBin 59 = .ok (.astore 6, 2) := dk_58 6 (dk_at dksJ1_treeifyBin_2 12 rfl rfl)
theorem dJ1_treeifyBin_61 : decode cJ1_treeifyBin 61 = .ok (.goto 17, 3) := dk_167 0 17 (dk_at dksJ1_treeifyBin_2 14 rfl rfl)
theorem dJ1_treeifyBin_64 : decode cJ1_treeifyBin 64 = .ok (.aload 8, 2) := dk_25 8 (dk_at dksJ1_treeifyBin_2 17 rfl rfl)
theorem dJ1_treeifyBin_66 : decode cJ1_treeifyBin 66 = .ok (.aload 7, 2) := dk_25 7 (dk_at dksJ1_treeifyBin_2 19 rfl rfl)
theorem dJ1_treeifyBin_68 : decode cJ1_treeifyBin 68 = .ok (.putfield 219, 3) := dk_181 0 219 (dk_at dksJ1_treeifyBin_2 21 rfl rfl)
theorem dJ1_treeifyBin_71 : decode cJ1_treeifyBin 71 = .ok (.aload 7, 2) := dk_25 7 (dk_at dksJ1_treeifyBin_3 0 rfl rfl)
theorem dJ1_treeifyBin_73 : decode cJ1_treeifyBin 73 = .ok (.aload 8, 2) := dk_25 8 (dk_at dksJ1_treeifyBin_3 2 rfl rfl)
theorem dJ1_treeifyBin_75 : decode cJ1_treeifyBin 75 = .ok (.putfield 223, 3) := dk_181 0 223 (dk_at dksJ1_treeifyBin_3 4 rfl rfl)
theorem dJ1_treeifyBin_78 : decode cJ1_treeifyBin 78 = .ok (.aload 8, 2) := dk_25 8 (dk_at dksJ1_treeifyBin_3 7 rfl rfl)
theorem dJ1_treeifyBin_80 : decode cJ1_treeifyBin 80 = .ok (.astore 7, 2) := dk_58 7 (dk_at dksJ1_treeifyBin_3 9 rfl rfl)
theorem dJ1_treeifyBin_82 : decode cJ1_treeifyBin 82 = .ok (.aload 5, 2) := dk_25 5 (dk_at dksJ1_treeifyBin_3 11 rfl rfl)
theorem dJ1_treeifyBin_84 : decode cJ1_treeifyBin 84 = .ok (.getfield 177, 3) := dk_180 0 177 (dk_at dksJ1_treeifyBin_3 13 rfl rfl)
theorem dJ1_treeifyBin_87 : decode cJ1_treeifyBin 87 = .ok (.dup, 1) := dk_89 (dk_at dksJ1_treeifyBin_3 16 rfl rfl)
theorem dJ1_treeifyBin_88 : decode cJ1_treeifyBin 88 = .ok (.astore 5, 2) := dk_58 5 (dk_at dksJ1_treeifyBin_3 17 rfl rfl)
theorem dJ1_treeifyBin_90 : decode cJ1_treeifyBin 90 = .ok (.ifnonnull (-47), 3) := dk_199 255 209 (dk_at dksJ1_treeifyBin_3 19 rfl rfl)
theorem dJ1_treeifyBin_93 : decode cJ1_treeifyBin 93 = .ok (.aload_n 1, 1) := dk_43 (dk_at dksJ1_treeifyBin_3 22 rfl rfl)
theorem dJ1_treeifyBin_94 : decode cJ1_treeifyBin 94 = .ok (.iload 4, 2) := dk_21 4 (dk_at dksJ1_treeifyBin_4 0 rfl rfl)
theorem dJ1_treeifyBin_96 : decode cJ1_treeifyBin 96 = .ok (.aload 6, 2) := dk_25 6 (dk_at dksJ1_treeifyBin_4 2 rfl rfl)
theorem dJ1_treeifyBin_98 : decode cJ1_treeifyBin 98 = .ok (.dup_x2, 1) := dk_91 (dk_at dksJ1_treeifyBin_4 4 rfl rfl)
theorem dJ1_treeifyBin_99 : decode cJ1_treeifyBin 99 = .ok (.aastore, 1) := dk_83 (dk_at dksJ1_treeifyBin_4 5 rfl rfl)
theorem dJ1_treeifyBin_100 : decode cJ1_treeifyBin 100 = .ok (.ifnull 9, 3) := dk_198 0 9 (dk_at dksJ1_treeifyBin_4 6 rfl rfl)
theorem dJ1_treeifyBin_103 : decode cJ1_treeifyBin 103 = .ok (.aload 6, 2) := dk_25 6 (dk_at dksJ1_treeifyBin_4 9 rfl rfl)
theorem dJ1_treeifyBin_105 : decode cJ1_treeifyBin 105 = .ok (.aload_n 1, 1) := dk_43 (dk_at dksJ1_treeifyBin_4 11 rfl rfl)
theorem dJ1_treeifyBin_106 : decode cJ1_treeifyBin 106 = .ok (.invokevirtual 224, 3) := dk_182 0 224 (dk_at dksJ1_treeifyBin_4 12 rfl rfl)
theorem dJ1_treeifyBin_109 : decode cJ1_treeifyBin 109 = .ok (.return_, 1) := dk_177 (dk_at dksJ1_treeifyBin_4 15 rfl rfl)
abbrev cJ1_afterNodeAccess : ByteArray := prog_50_method_51_code
def yJ1_afterNodeAccess : MethodName := ⟨RJ1, "afterNodeAccess", "(Ljava/util/HashMap$Node;)V"⟩
theorem dJ1_afterNodeAccess_0 : decode cJ1_afterNodeAccess 0 = .ok (.return_, 1) := by decide +kernel
abbrev cJ1_afterNodeInsertion : ByteArray := prog_50_method_52_code
def yJ1_afterNodeInsertion : MethodName := ⟨RJ1, "afterNodeInsertion", "(Z)V"⟩
theorem dJ1_afterNodeInsertion_0 : decode cJ1_afterNodeInsertion 0 = .ok (.return_, 1) := by decide +kernel
abbrev cJ1_containsKey : ByteArray := prog_50_method_14_code
def yJ1_containsKey : MethodName := ⟨RJ1, "containsKey", "(Ljava/lang/Object;)Z"⟩
def dkwJ1_containsKey_0 : List UInt8 := [42, 43, 182, 0, 158, 198, 0, 7, 4, 167, 0, 4, 3, 172]
abbrev dktJ1_containsKey_0 : List UInt8 := dkwJ1_containsKey_0 ++ []
theorem dksJ1_containsKey_0 : cJ1_containsKey.data.toList.drop 0 = dktJ1_containsKey_0 := by decide +kernel
theorem dJ1_containsKey_0 : decode cJ1_containsKey 0 = .ok (.aload_n 0, 1) := dk_42 (dk_at dksJ1_containsKey_0 0 rfl rfl)
theorem dJ1_containsKey_1 : decode cJ1_containsKey 1 = .ok (.aload_n 1, 1) := dk_43 (dk_at dksJ1_containsKey_0 1 rfl rfl)
theorem dJ1_containsKey_2 : decode cJ1_containsKey 2 = .ok (.invokevirtual 158, 3) := dk_182 0 158 (dk_at dksJ1_containsKey_0 2 rfl rfl)
theorem dJ1_containsKey_5 : decode cJ1_containsKey 5 = .ok (.ifnull 7, 3) := dk_198 0 7 (dk_at dksJ1_containsKey_0 5 rfl rfl)
theorem dJ1_containsKey_8 : decode cJ1_containsKey 8 = .ok (.iconst 1, 1) := dk_4 (dk_at dksJ1_containsKey_0 8 rfl rfl)
theorem dJ1_containsKey_9 : decode cJ1_containsKey 9 = .ok (.goto 4, 3) := dk_167 0 4 (dk_at dksJ1_containsKey_0 9 rfl rfl)
theorem dJ1_containsKey_12 : decode cJ1_containsKey 12 = .ok (.iconst 0, 1) := dk_3 (dk_at dksJ1_containsKey_0 12 rfl rfl)
theorem dJ1_containsKey_13 : decode cJ1_containsKey 13 = .ok (.ireturn, 1) := dk_172 (dk_at dksJ1_containsKey_0 13 rfl rfl)
abbrev cJ1_getNode : ByteArray := prog_50_method_13_code
def yJ1_getNode : MethodName := ⟨RJ1, "getNode", "(Ljava/lang/Object;)Ljava/util/HashMap$Node;"⟩
def dkwJ1_getNode_6 : List UInt8 := [89, 58, 4, 199, 255, 210, 1, 176]
abbrev dktJ1_getNode_6 : List UInt8 := dkwJ1_getNode_6 ++ []
def dkwJ1_getNode_5 : List UInt8 := [165, 0, 16, 43, 198, 0, 15, 43, 25, 7, 182, 0, 173, 153, 0, 6, 25, 4, 176, 25, 4, 180, 0, 177]
abbrev dktJ1_getNode_5 : List UInt8 := dkwJ1_getNode_5 ++ dktJ1_getNode_6
def dkwJ1_getNode_4 : List UInt8 := [43, 182, 0, 182, 176, 25, 4, 180, 0, 168, 21, 6, 160, 0, 31, 25, 4, 180, 0, 170, 89, 58, 7, 43]
abbrev dktJ1_getNode_4 : List UInt8 := dkwJ1_getNode_4 ++ dktJ1_getNode_5
def dkwJ1_getNode_3 : List UInt8 := [176, 45, 180, 0, 177, 89, 58, 4, 198, 0, 70, 45, 193, 0, 180, 153, 0, 14, 45, 192, 0, 180, 21, 6]
abbrev dktJ1_getNode_3 : List UInt8 := dkwJ1_getNode_3 ++ dktJ1_getNode_4
def dkwJ1_getNode_2 : List UInt8 := [180, 0, 170, 89, 58, 7, 43, 165, 0, 16, 43, 198, 0, 14, 43, 25, 7, 182, 0, 173, 153, 0, 5, 45]
abbrev dktJ1_getNode_2 : List UInt8 := dkwJ1_getNode_2 ++ dktJ1_getNode_3
def dkwJ1_getNode_1 : List UInt8 := [184, 0, 149, 89, 54, 6, 126, 50, 89, 78, 198, 0, 115, 45, 180, 0, 168, 21, 6, 160, 0, 29, 45]
abbrev dktJ1_getNode_1 : List UInt8 := dkwJ1_getNode_1 ++ dktJ1_getNode_2
def dkwJ1_getNode_0 : List UInt8 := [42, 180, 0, 105, 89, 77, 198, 0, 142, 44, 190, 89, 54, 5, 158, 0, 134, 44, 21, 5, 4, 100, 43]
abbrev dktJ1_getNode_0 : List UInt8 := dkwJ1_getNode_0 ++ dktJ1_getNode_1
theorem dksJ1_getNode_0 : cJ1_getNode.data.toList.drop 0 = dktJ1_getNode_0 := by decide +kernel
theorem dksJ1_getNode_1 : cJ1_getNode.data.toList.drop 23 = dktJ1_getNode_1 := dk_seg dksJ1_getNode_0 23 rfl rfl
theorem dksJ1_getNode_2 : cJ1_getNode.data.toList.drop 46 = dktJ1_getNode_2 := dk_seg dksJ1_getNode_1 23 rfl rfl
theorem dksJ1_getNode_3 : cJ1_getNode.data.toList.drop 70 = dktJ1_getNode_3 := dk_seg dksJ1_getNode_2 24 rfl rfl
theorem dksJ1_getNode_4 : cJ1_getNode.data.toList.drop 94 = dktJ1_getNode_4 := dk_seg dksJ1_getNode_3 24 rfl rfl
theorem dksJ1_getNode_5 : cJ1_getNode.data.toList.drop 118 = dktJ1_getNode_5 := dk_seg dksJ1_getNode_4 24 rfl rfl
theorem dksJ1_getNode_6 : cJ1_getNode.data.toList.drop 142 = dktJ1_getNode_6 := dk_seg dksJ1_getNode_5 24 rfl rfl
theorem dJ1_getNode_0 : decode cJ1_getNode 0 = .ok (.aload_n 0, 1) := dk_42 (dk_at dksJ1_getNode_0 0 rfl rfl)
theorem dJ1_getNode_1 : decode cJ1_getNode 1 = .ok (.getfield 105, 3) := dk_180 0 105 (dk_at dksJ1_getNode_0 1 rfl rfl)
theorem dJ1_getNode_4 : decode cJ1_getNode 4 = .ok (.dup, 1) := dk_89 (dk_at dksJ1_getNode_0 4 rfl rfl)
theorem dJ1_getNode_5 : decode cJ1_getNode 5 = .ok (.astore_n 2, 1) := dk_77 (dk_at dksJ1_getNode_0 5 rfl rfl)
theorem dJ1_getNode_6 : decode cJ1_getNode 6 = .ok (.ifnull 142, 3) := dk_198 0 142 (dk_at dksJ1_getNode_0 6 rfl rfl)
theorem dJ1_getNode_9 : decode cJ1_getNode 9 = .ok (.aload_n 2, 1) := dk_44 (dk_at dksJ1_getNode_0 9 rfl rfl)
theorem dJ1_getNode_10 : decode cJ1_getNode 10 = .ok (.arraylength, 1) := dk_190 (dk_at dksJ1_getNode_0 10 rfl rfl)
theorem dJ1_getNode_11 : decode cJ1_getNode 11 = .ok (.dup, 1) := dk_89 (dk_at dksJ1_getNode_0 11 rfl rfl)
theorem dJ1_getNode_12 : decode cJ1_getNode 12 = .ok (.istore 5, 2) := dk_54 5 (dk_at dksJ1_getNode_0 12 rfl rfl)
theorem dJ1_getNode_14 : decode cJ1_getNode 14 = .ok (.ifCond .le 134, 3) := dk_158 0 134 (dk_at dksJ1_getNode_0 14 rfl rfl)
theorem dJ1_getNode_17 : decode cJ1_getNode 17 = .ok (.aload_n 2, 1) := dk_44 (dk_at dksJ1_getNode_0 17 rfl rfl)
theorem dJ1_getNode_18 : decode cJ1_getNode 18 = .ok (.iload 5, 2) := dk_21 5 (dk_at dksJ1_getNode_0 18 rfl rfl)
theorem dJ1_getNode_20 : decode cJ1_getNode 20 = .ok (.iconst 1, 1) := dk_4 (dk_at dksJ1_getNode_0 20 rfl rfl)
theorem dJ1_getNode_21 : decode cJ1_getNode 21 = .ok (.isub, 1) := dk_100 (dk_at dksJ1_getNode_0 21 rfl rfl)
theorem dJ1_getNode_22 : decode cJ1_getNode 22 = .ok (.aload_n 1, 1) := dk_43 (dk_at dksJ1_getNode_0 22 rfl rfl)
theorem dJ1_getNode_23 : decode cJ1_getNode 23 = .ok (.invokestatic 149, 3) := dk_184 0 149 (dk_at dksJ1_getNode_1 0 rfl rfl)
theorem dJ1_getNode_26 : decode cJ1_getNode 26 = .ok (.dup, 1) := dk_89 (dk_at dksJ1_getNode_1 3 rfl rfl)
theorem dJ1_getNode_27 : decode cJ1_getNode 27 = .ok (.istore 6, 2) := dk_54 6 (dk_at dksJ1_getNode_1 4 rfl rfl)
theorem dJ1_getNode_29 : decode cJ1_getNode 29 = .ok (.iand, 1) := dk_126 (dk_at dksJ1_getNode_1 6 rfl rfl)
theorem dJ1_getNode_30 : decode cJ1_getNode 30 = .ok (.aaload, 1) := dk_50 (dk_at dksJ1_getNode_1 7 rfl rfl)
theorem dJ1_getNode_31 : decode cJ1_getNode 31 = .ok (.dup, 1) := dk_89 (dk_at dksJ1_getNode_1 8 rfl rfl)
theorem dJ1_getNode_32 : decode cJ1_getNode 32 = .ok (.astore_n 3, 1) := dk_78 (dk_at dksJ1_getNode_1 9 rfl rfl)
theorem dJ1_getNode_33 : decode cJ1_getNode 33 = .ok (.ifnull 115, 3) := dk_198 0 115 (dk_at dksJ1_getNode_1 10 rfl rfl)
theorem dJ1_getNode_36 : decode cJ1_getNode 36 = .ok (.aload_n 3, 1) := dk_45 (dk_at dksJ1_getNode_1 13 rfl rfl)
theorem dJ1_getNode_37 : decode cJ1_getNode 37 = .ok (.getfield 168, 3) := dk_180 0 168 (dk_at dksJ1_getNode_1 14 rfl rfl)
theorem dJ1_getNode_40 : decode cJ1_getNode 40 = .ok (.iload 6, 2) := dk_21 6 (dk_at dksJ1_getNode_1 17 rfl rfl)
theorem dJ1_getNode_42 : decode cJ1_getNode 42 = .ok (.if_icmp .ne 29, 3) := dk_160 0 29 (dk_at dksJ1_getNode_1 19 rfl rfl)
theorem dJ1_getNode_45 : decode cJ1_getNode 45 = .ok (.aload_n 3, 1) := dk_45 (dk_at dksJ1_getNode_1 22 rfl rfl)
theorem dJ1_getNode_46 : decode cJ1_getNode 46 = .ok (.getfield 170, 3) := dk_180 0 170 (dk_at dksJ1_getNode_2 0 rfl rfl)
theorem dJ1_getNode_49 : decode cJ1_getNode 49 = .ok (.dup, 1) := dk_89 (dk_at dksJ1_getNode_2 3 rfl rfl)
theorem dJ1_getNode_50 : decode cJ1_getNode 50 = .ok (.astore 7, 2) := dk_58 7 (dk_at dksJ1_getNode_2 4 rfl rfl)
theorem dJ1_getNode_52 : decode cJ1_getNode 52 = .ok (.aload_n 1, 1) := dk_43 (dk_at dksJ1_getNode_2 6 rfl rfl)
theorem dJ1_getNode_53 : decode cJ1_getNode 53 = .ok (.if_acmp .eq 16, 3) := dk_165 0 16 (dk_at dksJ1_getNode_2 7 rfl rfl)
theorem dJ1_getNode_56 : decode cJ1_getNode 56 = .ok (.aload_n 1, 1) := dk_43 (dk_at dksJ1_getNode_2 10 rfl rfl)
theorem dJ1_getNode_57 : decode cJ1_getNode 57 = .ok (.ifnull 14, 3) := dk_198 0 14 (dk_at dksJ1_getNode_2 11 rfl rfl)
theorem dJ1_getNode_60 : decode cJ1_getNode 60 = .ok (.aload_n 1, 1) := dk_43 (dk_at dksJ1_getNode_2 14 rfl rfl)
theorem dJ1_getNode_61 : decode cJ1_getNode 61 = .ok (.aload 7, 2) := dk_25 7 (dk_at dksJ1_getNode_2 15 rfl rfl)
theorem dJ1_getNode_63 : decode cJ1_getNode 63 = .ok (.invokevirtual 173, 3) := dk_182 0 173 (dk_at dksJ1_getNode_2 17 rfl rfl)
theorem dJ1_getNode_66 : decode cJ1_getNode 66 = .ok (.ifCond .eq 5, 3) := dk_153 0 5 (dk_at dksJ1_getNode_2 20 rfl rfl)
theorem dJ1_getNode_69 : decode cJ1_getNode 69 = .ok (.aload_n 3, 1) := dk_45 (dk_at dksJ1_getNode_2 23 rfl rfl)
theorem dJ1_getNode_70 : decode cJ1_getNode 70 = .ok (.areturn, 1) := dk_176 (dk_at dksJ1_getNode_3 0 rfl rfl)
theorem dJ1_getNode_71 : decode cJ1_getNode 71 = .ok (.aload_n 3, 1) := dk_45 (dk_at dksJ1_getNode_3 1 rfl rfl)
theorem dJ1_getNode_72 : decode cJ1_getNode 72 = .ok (.getfield 177, 3) := dk_180 0 177 (dk_at dksJ1_getNode_3 2 rfl rfl)
theorem dJ1_getNode_75 : decode cJ1_getNode 75 = .ok (.dup, 1) := dk_89 (dk_at dksJ1_getNode_3 5 rfl rfl)
theorem dJ1_getNode_76 : decode cJ1_getNode 76 = .ok (.astore 4, 2) := dk_58 4 (dk_at dksJ1_getNode_3 6 rfl rfl)
theorem dJ1_getNode_78 : decode cJ1_getNode 78 = .ok (.ifnull 70, 3) := dk_198 0 70 (dk_at dksJ1_getNode_3 8 rfl rfl)
theorem dJ1_getNode_81 : decode cJ1_getNode 81 = .ok (.aload_n 3, 1) := dk_45 (dk_at dksJ1_getNode_3 11 rfl rfl)
theorem dJ1_getNode_82 : decode cJ1_getNode 82 = .ok (.instanceof 180, 3) := dk_193 0 180 (dk_at dksJ1_getNode_3 12 rfl rfl)
theorem dJ1_getNode_85 : decode cJ1_getNode 85 = .ok (.ifCond .eq 14, 3) := dk_153 0 14 (dk_at dksJ1_getNode_3 15 rfl rfl)
theorem dJ1_getNode_88 : decode cJ1_getNode 88 = .ok (.aload_n 3, 1) := dk_45 (dk_at dksJ1_getNode_3 18 rfl rfl)
theorem dJ1_getNode_89 : decode cJ1_getNode 89 = .ok (.checkcast 180, 3) := dk_192 0 180 (dk_at dksJ1_getNode_3 19 rfl rfl)
theorem dJ1_getNode_92 : decode cJ1_getNode 92 = .ok (.iload 6, 2) := dk_21 6 (dk_at dksJ1_getNode_3 22 rfl rfl)
theorem dJ1_getNode_94 : decode cJ1_getNode 94 = .ok (.aload_n 1, 1) := dk_43 (dk_at dksJ1_getNode_4 0 rfl rfl)
theorem dJ1_getNode_95 : decode cJ1_getNode 95 = .ok (.invokevirtual 182, 3) := dk_182 0 182 (dk_at dksJ1_getNode_4 1 rfl rfl)
theorem dJ1_getNode_98 : decode cJ1_getNode 98 = .ok (.areturn, 1) := dk_176 (dk_at dksJ1_getNode_4 4 rfl rfl)
theorem dJ1_getNode_99 : decode cJ1_getNode 99 = .ok (.aload 4, 2) := dk_25 4 (dk_at dksJ1_getNode_4 5 rfl rfl)
theorem dJ1_getNode_101 : decode cJ1_getNode 101 = .ok (.getfield 168, 3) := dk_180 0 168 (dk_at dksJ1_getNode_4 7 rfl rfl)
theorem dJ1_getNode_104 : decode cJ1_getNode 104 = .ok (.iload 6, 2) := dk_21 6 (dk_at dksJ1_getNode_4 10 rfl rfl)
theorem dJ1_getNode_106 : decode cJ1_getNode 106 = .ok (.if_icmp .ne 31, 3) := dk_160 0 31 (dk_at dksJ1_getNode_4 12 rfl rfl)
theorem dJ1_getNode_109 : decode cJ1_getNode 109 = .ok (.aload 4, 2) := dk_25 4 (dk_at dksJ1_getNode_4 15 rfl rfl)
theorem dJ1_getNode_111 : decode cJ1_getNode 111 = .ok (.getfield 170, 3) := dk_180 0 170 (dk_at dksJ1_getNode_4 17 rfl rfl)
theorem dJ1_getNode_114 : decode cJ1_getNode 114 = .ok (.dup, 1) := dk_89 (dk_at dksJ1_getNode_4 20 rfl rfl)
theorem dJ1_getNode_115 : decode cJ1_getNode 115 = .ok (.astore 7, 2) := dk_58 7 (dk_at dksJ1_getNode_4 21 rfl rfl)
theorem dJ1_getNode_117 : decode cJ1_getNode 117 = .ok (.aload_n 1, 1) := dk_43 (dk_at dksJ1_getNode_4 23 rfl rfl)
theorem dJ1_getNode_118 : decode cJ1_getNode 118 = .ok (.if_acmp .eq 16, 3) := dk_165 0 16 (dk_at dksJ1_getNode_5 0 rfl rfl)
theorem dJ1_getNode_121 : decode cJ1_getNode 121 = .ok (.aload_n 1, 1) := dk_43 (dk_at dksJ1_getNode_5 3 rfl rfl)
theorem dJ1_getNode_122 : decode cJ1_getNode 122 = .ok (.ifnull 15, 3) := dk_198 0 15 (dk_at dksJ1_getNode_5 4 rfl rfl)
theorem dJ1_getNode_125 : decode cJ1_getNode 125 = .ok (.aload_n 1, 1) := dk_43 (dk_at dksJ1_getNode_5 7 rfl rfl)
theorem dJ1_getNode_126 : decode cJ1_getNode 126 = .ok (.aload 7, 2) := dk_25 7 (dk_at dksJ1_getNode_5 8 rfl rfl)
theorem dJ1_getNode_128 : decode cJ1_getNode 128 = .ok (.invokevirtual 173, 3) := dk_182 0 173 (dk_at dksJ1_getNode_5 10 rfl rfl)
theorem dJ1_getNode_131 : decode cJ1_getNode 131 = .ok (.ifCond .eq 6, 3) := dk_153 0 6 (dk_at dksJ1_getNode_5 13 rfl rfl)
theorem dJ1_getNode_134 : decode cJ1_getNode 134 = .ok (.aload 4, 2) := dk_25 4 (dk_at dksJ1_getNode_5 16 rfl rfl)
theorem dJ1_getNode_136 : decode cJ1_getNode 136 = .ok (.areturn, 1) := dk_176 (dk_at dksJ1_getNode_5 18 rfl rfl)
theorem dJ1_getNode_137 : decode cJ1_getNode 137 = .ok (.aload 4, 2) := dk_25 4 (dk_at dksJ1_getNode_5 19 rfl rfl)
theorem dJ1_getNode_139 : decode cJ1_getNode 139 = .ok (.getfield 177, 3) := dk_180 0 177 (dk_at dksJ1_getNode_5 21 rfl rfl)
theorem dJ1_getNode_142 : decode cJ1_getNode 142 = .ok (.dup, 1) := dk_89 (dk_at dksJ1_getNode_6 0 rfl rfl)
theorem dJ1_getNode_143 : decode cJ1_getNode 143 = .ok (.astore 4, 2) := dk_58 4 (dk_at dksJ1_getNode_6 1 rfl rfl)
theorem dJ1_getNode_145 : decode cJ1_getNode 145 = .ok (.ifnonnull (-46), 3) := dk_199 255 210 (dk_at dksJ1_getNode_6 3 rfl rfl)
theorem dJ1_getNode_148 : decode cJ1_getNode 148 = .ok (.aconst_null, 1) := dk_1 (dk_at dksJ1_getNode_6 6 rfl rfl)
theorem dJ1_getNode_149 : decode cJ1_getNode 149 = .ok (.areturn, 1) := dk_176 (dk_at dksJ1_getNode_6 7 rfl rfl)
abbrev cJ1_remove : ByteArray := prog_50_method_20_code
def yJ1_remove : MethodName := ⟨RJ1, "remove", "(Ljava/lang/Object;)Ljava/lang/Object;"⟩
def dkwJ1_remove_1 : List UInt8 := [180, 0, 162, 176]
abbrev dktJ1_remove_1 : List UInt8 := dkwJ1_remove_1 ++ []
def dkwJ1_remove_0 : List UInt8 := [42, 43, 184, 0, 149, 43, 1, 3, 4, 182, 0, 228, 89, 77, 199, 0, 7, 1, 167, 0, 7, 44]
abbrev dktJ1_remove_0 : List UInt8 := dkwJ1_remove_0 ++ dktJ1_remove_1
theorem dksJ1_remove_0 : cJ1_remove.data.toList.drop 0 = dktJ1_remove_0 := by decide +kernel
theorem dksJ1_remove_1 : cJ1_remove.data.toList.drop 22 = dktJ1_remove_1 := dk_seg dksJ1_remove_0 22 rfl rfl
theorem dJ1_remove_0 : decode cJ1_remove 0 = .ok (.aload_n 0, 1) := dk_42 (dk_at dksJ1_remove_0 0 rfl rfl)
theorem dJ1_remove_1 : decode cJ1_remove 1 = .ok (.aload_n 1, 1) := dk_43 (dk_at dksJ1_remove_0 1 rfl rfl)
theorem dJ1_remove_2 : decode cJ1_remove 2 = .ok (.invokestatic 149, 3) := dk_184 0 149 (dk_at dksJ1_remove_0 2 rfl rfl)
theorem dJ1_remove_5 : decode cJ1_remove 5 = .ok (.aload_n 1, 1) := dk_43 (dk_at dksJ1_remove_0 5 rfl rfl)
theorem dJ1_remove_6 : decode cJ1_remove 6 = .ok (.aconst_null, 1) := dk_1 (dk_at dksJ1_remove_0 6 rfl rfl)
theorem dJ1_remove_7 : decode cJ1_remove 7 = .ok (.iconst 0, 1) := dk_3 (dk_at dksJ1_remove_0 7 rfl rfl)
theorem dJ1_remove_8 : decode cJ1_remove 8 = .ok (.iconst 1, 1) := dk_4 (dk_at dksJ1_remove_0 8 rfl rfl)
theorem dJ1_remove_9 : decode cJ1_remove 9 = .ok (.invokevirtual 228, 3) := dk_182 0 228 (dk_at dksJ1_remove_0 9 rfl rfl)
theorem dJ1_remove_12 : decode cJ1_remove 12 = .ok (.dup, 1) := dk_89 (dk_at dksJ1_remove_0 12 rfl rfl)
theorem dJ1_remove_13 : decode cJ1_remove 13 = .ok (.astore_n 2, 1) := dk_77 (dk_at dksJ1_remove_0 13 rfl rfl)
theorem dJ1_remove_14 : decode cJ1_remove 14 = .ok (.ifnonnull 7, 3) := dk_199 0 7 (dk_at dksJ1_remove_0 14 rfl rfl)
theorem dJ1_remove_17 : decode cJ1_remove 17 = .ok (.aconst_null, 1) := dk_1 (dk_at dksJ1_remove_0 17 rfl rfl)
theorem dJ1_remove_18 : decode cJ1_remove 18 = .ok (.goto 7, 3) := dk_167 0 7 (dk_at dksJ1_remove_0 18 rfl rfl)
theorem dJ1_remove_21 : decode cJ1_remove 21 = .ok (.aload_n 2, 1) := dk_44 (dk_at dksJ1_remove_0 21 rfl rfl)
theorem dJ1_remove_22 : decode cJ1_remove 22 = .ok (.getfield 162, 3) := dk_180 0 162 (dk_at dksJ1_remove_1 0 rfl rfl)
theorem dJ1_remove_25 : decode cJ1_remove 25 = .ok (.areturn, 1) := dk_176 (dk_at dksJ1_remove_1 3 rfl rfl)
abbrev cJ1_removeNode : ByteArray := prog_50_method_21_code
def yJ1_removeNode : MethodName := ⟨RJ1, "removeNode", "(ILjava/lang/Object;Ljava/lang/Object;ZZ)Ljava/util/HashMap$Node;"⟩
def dkwJ1_removeNode_12 : List UInt8 := [181, 0, 156, 42, 25, 10, 182, 0, 236, 25, 10, 176, 1, 176]
abbrev dktJ1_removeNode_12 : List UInt8 := dkwJ1_removeNode_12 ++ []
def dkwJ1_removeNode_11 : List UInt8 := [180, 0, 177, 181, 0, 177, 42, 89, 180, 0, 202, 4, 96, 181, 0, 202, 42, 89, 180, 0, 156, 4, 100]
abbrev dktJ1_removeNode_11 : List UInt8 := dkwJ1_removeNode_11 ++ dktJ1_removeNode_12
def dkwJ1_removeNode_10 : List UInt8 := [25, 10, 25, 7, 166, 0, 16, 25, 6, 21, 9, 25, 10, 180, 0, 177, 83, 167, 0, 13, 25, 7, 25, 10]
abbrev dktJ1_removeNode_10 : List UInt8 := dkwJ1_removeNode_10 ++ dktJ1_removeNode_11
def dkwJ1_removeNode_9 : List UInt8 := [25, 10, 193, 0, 180, 153, 0, 19, 25, 10, 192, 0, 180, 42, 25, 6, 21, 5, 182, 0, 232, 167, 0, 33]
abbrev dktJ1_removeNode_9 : List UInt8 := dkwJ1_removeNode_9 ++ dktJ1_removeNode_10
def dkwJ1_removeNode_8 : List UInt8 := [180, 0, 162, 89, 58, 13, 45, 165, 0, 16, 45, 198, 0, 95, 45, 25, 13, 182, 0, 173, 153, 0, 86]
abbrev dktJ1_removeNode_8 : List UInt8 := dkwJ1_removeNode_8 ++ dktJ1_removeNode_9
def dkwJ1_removeNode_7 : List UInt8 := [25, 11, 180, 0, 177, 89, 58, 11, 199, 255, 203, 25, 10, 198, 0, 116, 21, 4, 153, 0, 28, 25, 10]
abbrev dktJ1_removeNode_7 : List UInt8 := dkwJ1_removeNode_7 ++ dktJ1_removeNode_8
def dkwJ1_removeNode_6 : List UInt8 := [198, 0, 19, 44, 25, 12, 182, 0, 173, 153, 0, 10, 25, 11, 58, 10, 167, 0, 18, 25, 11, 58, 7]
abbrev dktJ1_removeNode_6 : List UInt8 := dkwJ1_removeNode_6 ++ dktJ1_removeNode_7
def dkwJ1_removeNode_5 : List UInt8 := [25, 11, 180, 0, 168, 27, 160, 0, 35, 25, 11, 180, 0, 170, 89, 58, 12, 44, 165, 0, 16, 44]
abbrev dktJ1_removeNode_5 : List UInt8 := dkwJ1_removeNode_5 ++ dktJ1_removeNode_6
def dkwJ1_removeNode_4 : List UInt8 := [25, 7, 193, 0, 180, 153, 0, 18, 25, 7, 192, 0, 180, 27, 44, 182, 0, 182, 58, 10, 167, 0, 59]
abbrev dktJ1_removeNode_4 : List UInt8 := dkwJ1_removeNode_4 ++ dktJ1_removeNode_5
def dkwJ1_removeNode_3 : List UInt8 := [182, 0, 173, 153, 0, 10, 25, 7, 58, 10, 167, 0, 93, 25, 7, 180, 0, 177, 89, 58, 11, 198, 0, 82]
abbrev dktJ1_removeNode_3 : List UInt8 := dkwJ1_removeNode_3 ++ dktJ1_removeNode_4
def dkwJ1_removeNode_2 : List UInt8 := [160, 0, 35, 25, 7, 180, 0, 170, 89, 58, 12, 44, 165, 0, 16, 44, 198, 0, 19, 44, 25, 12]
abbrev dktJ1_removeNode_2 : List UInt8 := dkwJ1_removeNode_2 ++ dktJ1_removeNode_3
def dkwJ1_removeNode_1 : List UInt8 := [100, 27, 126, 89, 54, 9, 50, 89, 58, 7, 198, 0, 255, 1, 58, 10, 25, 7, 180, 0, 168, 27]
abbrev dktJ1_removeNode_1 : List UInt8 := dkwJ1_removeNode_1 ++ dktJ1_removeNode_2
def dkwJ1_removeNode_0 : List UInt8 := [42, 180, 0, 105, 89, 58, 6, 198, 1, 26, 25, 6, 190, 89, 54, 8, 158, 1, 17, 25, 6, 21, 8, 4]
abbrev dktJ1_removeNode_0 : List UInt8 := dkwJ1_removeNode_0 ++ dktJ1_removeNode_1
theorem dksJ1_removeNode_0 : cJ1_removeNode.data.toList.drop 0 = dktJ1_removeNode_0 := by decide +kernel
theorem dksJ1_removeNode_1 : cJ1_removeNode.data.toList.drop 24 = dktJ1_removeNode_1 := dk_seg dksJ1_removeNode_0 24 rfl rfl
theorem dksJ1_removeNode_2 : cJ1_removeNode.data.toList.drop 46 = dktJ1_removeNode_2 := dk_seg dksJ1_removeNode_1 22 rfl rfl
theorem dksJ1_removeNode_3 : cJ1_removeNode.data.toList.drop 68 = dktJ1_removeNode_3 := dk_seg dksJ1_removeNode_2 22 rfl rfl
theorem dksJ1_removeNode_4 : cJ1_removeNode.data.toList.drop 92 = dktJ1_removeNode_4 := dk_seg dksJ1_removeNode_3 24 rfl rfl
theorem dksJ1_removeNode_5 : cJ1_removeNode.data.toList.drop 115 = dktJ1_removeNode_5 := dk_seg dksJ1_removeNode_4 23 rfl rfl
theorem dksJ1_removeNode_6 : cJ1_removeNode.data.toList.drop 137 = dktJ1_removeNode_6 := dk_seg dksJ1_removeNode_5 22 rfl rfl
theorem dksJ1_removeNode_7 : cJ1_removeNode.data.toList.drop 160 = dktJ1_removeNode_7 := dk_seg dksJ1_removeNode_6 23 rfl rfl
theorem dksJ1_removeNode_8 : cJ1_removeNode.data.toList.drop 183 = dktJ1_removeNode_8 := dk_seg dksJ1_removeNode_7 23 rfl rfl
theorem dksJ1_removeNode_9 : cJ1_removeNode.data.toList.drop 206 = dktJ1_removeNode_9 := dk_seg dksJ1_removeNode_8 23 rfl rfl
theorem dksJ1_removeNode_10 : cJ1_removeNode.data.toList.drop 230 = dktJ1_removeNode_10 := dk_seg dksJ1_removeNode_9 24 rfl rfl
theorem dksJ1_removeNode_11 : cJ1_removeNode.data.toList.drop 254 = dktJ1_removeNode_11 := dk_seg dksJ1_removeNode_10 24 rfl rfl
theorem dksJ1_removeNode_12 : cJ1_removeNode.data.toList.drop 277 = dktJ1_removeNode_12 := dk_seg dksJ1_removeNode_11 23 rfl rfl
theorem dJ1_removeNode_0 : decode cJ1_removeNode 0 = .ok (.aload_n 0, 1) := dk_42 (dk_at dksJ1_removeNode_0 0 rfl rfl)
theorem dJ1_removeNode_1 : decode cJ1_removeNode 1 = .ok (.getfield 105, 3) := dk_180 0 105 (dk_at dksJ1_removeNode_0 1 rfl rfl)
theorem dJ1_removeNode_4 : decode cJ1_removeNode 4 = .ok (.dup, 1) := dk_89 (dk_at dksJ1_removeNode_0 4 rfl rfl)
theorem dJ1_removeNode_5 : decode cJ1_removeNode 5 = .ok (.astore 6, 2) := dk_58 6 (dk_at dksJ1_removeNode_0 5 rfl rfl)
theorem dJ1_removeNode_7 : decode cJ1_removeNode 7 = .ok (.ifnull 282, 3) := dk_198 1 26 (dk_at dksJ1_removeNode_0 7 rfl rfl)
theorem dJ1_removeNode_10 : decode cJ1_removeNode 10 = .ok (.aload 6, 2) := dk_25 6 (dk_at dksJ1_removeNode_0 10 rfl rfl)
theorem dJ1_removeNode_12 : decode cJ1_removeNode 12 = .ok (.arraylength, 1) := dk_190 (dk_at dksJ1_removeNode_0 12 rfl rfl)
theorem dJ1_removeNode_13 : decode cJ1_removeNode 13 = .ok (.dup, 1) := dk_89 (dk_at dksJ1_removeNode_0 13 rfl rfl)
theorem dJ1_removeNode_14 : decode cJ1_removeNode 14 = .ok (.istore 8, 2) := dk_54 8 (dk_at dksJ1_removeNode_0 14 rfl rfl)
theorem dJ1_removeNode_16 : decode cJ1_removeNode 16 = .ok (.ifCond .le 273, 3) := dk_158 1 17 (dk_at dksJ1_removeNode_0 16 rfl rfl)
theorem dJ1_removeNode_19 : decode cJ1_removeNode 19 = .ok (.aload 6, 2) := dk_25 6 (dk_at dksJ1_removeNode_0 19 rfl rfl)
theorem dJ1_removeNode_21 : decode cJ1_removeNode 21 = .ok (.iload 8, 2) := dk_21 8 (dk_at dksJ1_removeNode_0 21 rfl rfl)
theorem dJ1_removeNode_23 : decode cJ1_removeNode 23 = .ok (.iconst 1, 1) := dk_4 (dk_at dksJ1_removeNode_0 23 rfl rfl)
theorem dJ1_removeNode_24 : decode cJ1_removeNode 24 = .ok (.isub, 1) := dk_100 (dk_at dksJ1_removeNode_1 0 rfl rfl)
theorem dJ1_removeNode_25 : decode cJ1_removeNode 25 = .ok (.iload_n 1, 1) := dk_27 (dk_at dksJ1_removeNode_1 1 rfl rfl)
theorem dJ1_removeNode_26 : decode cJ1_removeNode 26 = .ok (.iand, 1) := dk_126 (dk_at dksJ1_removeNode_1 2 rfl rfl)
theorem dJ1_removeNode_27 : decode cJ1_removeNode 27 = .ok (.dup, 1) := dk_89 (dk_at dksJ1_removeNode_1 3 rfl rfl)
theorem dJ1_removeNode_28 : decode cJ1_removeNode 28 = .ok (.istore 9, 2) := dk_54 9 (dk_at dksJ1_removeNode_1 4 rfl rfl)
theorem dJ1_removeNode_30 : decode cJ1_removeNode 30 = .ok (.aaload, 1) := dk_50 (dk_at dksJ1_removeNode_1 6 rfl rfl)
theorem dJ1_removeNode_31 : decode cJ1_removeNode 31 = .ok (.dup, 1) := dk_89 (dk_at dksJ1_removeNode_1 7 rfl rfl)
theorem dJ1_removeNode_32 : decode cJ1_removeNode 32 = .ok (.astore 7, 2) := dk_58 7 (dk_at dksJ1_removeNode_1 8 rfl rfl)
theorem dJ1_removeNode_34 : decode cJ1_removeNode 34 = .ok (.ifnull 255, 3) := dk_198 0 255 (dk_at dksJ1_removeNode_1 10 rfl rfl)
theorem dJ1_removeNode_37 : decode cJ1_removeNode 37 = .ok (.aconst_null, 1) := dk_1 (dk_at dksJ1_removeNode_1 13 rfl rfl)
theorem dJ1_removeNode_38 : decode cJ1_removeNode 38 = .ok (.astore 10, 2) := dk_58 10 (dk_at dksJ1_removeNode_1 14 rfl rfl)
theorem dJ1_removeNode_40 : decode cJ1_removeNode 40 = .ok (.aload 7, 2) := dk_25 7 (dk_at dksJ1_removeNode_1 16 rfl rfl)
theorem dJ1_removeNode_42 : decode cJ1_removeNode 42 = .ok (.getfield 168, 3) := dk_180 0 168 (dk_at dksJ1_removeNode_1 18 rfl rfl)
theorem dJ1_removeNode_45 : decode cJ1_removeNode 45 = .ok (.iload_n 1, 1) := dk_27 (dk_at dksJ1_removeNode_1 21 rfl rfl)
theorem dJ1_removeNode_46 : decode cJ1_removeNode 46 = .ok (.if_icmp .ne 35, 3) := dk_160 0 35 (dk_at dksJ1_removeNode_2 0 rfl rfl)
theorem dJ1_removeNode_49 : decode cJ1_removeNode 49 = .ok (.aload 7, 2) := dk_25 7 (dk_at dksJ1_removeNode_2 3 rfl rfl)
theorem dJ1_removeNode_51 : decode cJ1_removeNode 51 = .ok (.getfield 170, 3) := dk_180 0 170 (dk_at dksJ1_removeNode_2 5 rfl rfl)
theorem dJ1_removeNode_54 : decode cJ1_removeNode 54 = .ok (.dup, 1) := dk_89 (dk_at dksJ1_removeNode_2 8 rfl rfl)
theorem dJ1_removeNode_55 : decode cJ1_removeNode 55 = .ok (.astore 12, 2) := dk_58 12 (dk_at dksJ1_removeNode_2 9 rfl rfl)
theorem dJ1_removeNode_57 : decode cJ1_removeNode 57 = .ok (.aload_n 2, 1) := dk_44 (dk_at dksJ1_removeNode_2 11 rfl rfl)
theorem dJ1_removeNode_58 : decode cJ1_removeNode 58 = .ok (.if_acmp .eq 16, 3) := dk_165 0 16 (dk_at dksJ1_removeNode_2 12 rfl rfl)
theorem dJ1_removeNode_61 : decode cJ1_removeNode 61 = .ok (.aload_n 2, 1) := dk_44 (dk_at dksJ1_removeNode_2 15 rfl rfl)
theorem dJ1_removeNode_62 : decode cJ1_removeNode 62 = .ok (.ifnull 19, 3) := dk_198 0 19 (dk_at dksJ1_removeNode_2 16 rfl rfl)
theorem dJ1_removeNode_65 : decode cJ1_removeNode 65 = .ok (.aload_n 2, 1) := dk_44 (dk_at dksJ1_removeNode_2 19 rfl rfl)
theorem dJ1_removeNode_66 : decode cJ1_removeNode 66 = .ok (.aload 12, 2) := dk_25 12 (dk_at dksJ1_removeNode_2 20 rfl rfl)
theorem dJ1_removeNode_68 : decode cJ1_removeNode 68 = .ok (.invokevirtual 173, 3) := dk_182 0 173 (dk_at dksJ1_removeNode_3 0 rfl rfl)
theorem dJ1_removeNode_71 : decode cJ1_removeNode 71 = .ok (.ifCond .eq 10, 3) := dk_153 0 10 (dk_at dksJ1_removeNode_3 3 rfl rfl)
theorem dJ1_removeNode_74 : decode cJ1_removeNode 74 = .ok (.aload 7, 2) := dk_25 7 (dk_at dksJ1_removeNode_3 6 rfl rfl)
theorem dJ1_removeNode_76 : decode cJ1_removeNode 76 = .ok (.astore 10, 2) := dk_58 10 (dk_at dksJ1_removeNode_3 8 rfl rfl)
theorem dJ1_removeNode_78 : decode cJ1_removeNode 78 = .ok (.goto 93, 3) := dk_167 0 93 (dk_at dksJ1_removeNode_3 10 rfl rfl)
theorem dJ1_removeNode_81 : decode cJ1_removeNode 81 = .ok (.aload 7, 2) := dk_25 7 (dk_at dksJ1_removeNode_3 13 rfl rfl)
theorem dJ1_removeNode_83 : decode cJ1_removeNode 83 = .ok (.getfield 177, 3) := dk_180 0 177 (dk_at dksJ1_removeNode_3 15 rfl rfl)
theorem dJ1_removeNode_86 : decode cJ1_removeNode 86 = .ok (.dup, 1) := dk_89 (dk_at dksJ1_removeNode_3 18 rfl rfl)
theorem dJ1_removeNode_87 : decode cJ1_removeNode 87 = .ok (.astore 11, 2) := dk_58 11 (dk_at dksJ1_removeNode_3 19 rfl rfl)
theorem dJ1_removeNode_89 : decode cJ1_removeNode 89 = .ok (.ifnull 82, 3) := dk_198 0 82 (dk_at dksJ1_removeNode_3 21 rfl rfl)
theorem dJ1_removeNode_92 : decode cJ1_removeNode 92 = .ok (.aload 7, 2) := dk_25 7 (dk_at dksJ1_removeNode_4 0 rfl rfl)
theorem dJ1_removeNode_94 : decode cJ1_removeNode 94 = .ok (.instanceof 180, 3) := dk_193 0 180 (dk_at dksJ1_removeNode_4 2 rfl rfl)
theorem dJ1_removeNode_97 : decode cJ1_removeNode 97 = .ok (.ifCond .eq 18, 3) := dk_153 0 18 (dk_at dksJ1_removeNode_4 5 rfl rfl)
theorem dJ1_removeNode_100 : decode cJ1_removeNode 100 = .ok (.aload 7, 2) := dk_25 7 (dk_at dksJ1_removeNode_4 8 rfl rfl)
theorem dJ1_removeNode_102 : decode cJ1_removeNode 102 = .ok (.checkcast 180, 3) := dk_192 0 180 (dk_at dksJ1_removeNode_4 10 rfl rfl)
theorem dJ1_removeNode_105 : decode cJ1_removeNode 105 = .ok (.iload_n 1, 1) := dk_27 (dk_at dksJ1_removeNode_4 13 rfl rfl)
theorem dJ1_removeNode_106 : decode cJ1_removeNode 106 = .ok (.aload_n 2, 1) := dk_44 (dk_at dksJ1_removeNode_4 14 rfl rfl)
theorem dJ1_removeNode_107 : decode cJ1_removeNode 107 = .ok (.invokevirtual 182, 3) := dk_182 0 182 (dk_at dksJ1_removeNode_4 15 rfl rfl)
theorem dJ1_removeNode_110 : decode cJ1_removeNode 110 = .ok (.astore 10, 2) := dk_58 10 (dk_at dksJ1_removeNode_4 18 rfl rfl)
theorem dJ1_removeNode_112 : decode cJ1_removeNode 112 = .ok (.goto 59, 3) := dk_167 0 59 (dk_at dksJ1_removeNode_4 20 rfl rfl)
theorem dJ1_removeNode_115 : decode cJ1_removeNode 115 = .ok (.aload 11, 2) := dk_25 11 (dk_at dksJ1_removeNode_5 0 rfl rfl)
theorem dJ1_removeNode_117 : decode cJ1_removeNode 117 = .ok (.getfield 168, 3) := dk_180 0 168 (dk_at dksJ1_removeNode_5 2 rfl rfl)
theorem dJ1_removeNode_120 : decode cJ1_removeNode 120 = .ok (.iload_n 1, 1) := dk_27 (dk_at dksJ1_removeNode_5 5 rfl rfl)
theorem dJ1_removeNode_121 : decode cJ1_removeNode 121 = .ok (.if_icmp .ne 35, 3) := dk_160 0 35 (dk_at dksJ1_removeNode_5 6 rfl rfl)
theorem dJ1_removeNode_124 : decode cJ1_removeNode 124 = .ok (.aload 11, 2) := dk_25 11 (dk_at dksJ1_removeNode_5 9 rfl rfl)
theorem dJ1_removeNode_126 : decode cJ1_removeNode 126 = .ok (.getfield 170, 3) := dk_180 0 170 (dk_at dksJ1_removeNode_5 11 rfl rfl)
theorem dJ1_removeNode_129 : decode cJ1_removeNode 129 = .ok (.dup, 1) := dk_89 (dk_at dksJ1_removeNode_5 14 rfl rfl)
theorem dJ1_removeNode_130 : decode cJ1_removeNode 130 = .ok (.astore 12, 2) := dk_58 12 (dk_at dksJ1_removeNode_5 15 rfl rfl)
theorem dJ1_removeNode_132 : decode cJ1_removeNode 132 = .ok (.aload_n 2, 1) := dk_44 (dk_at dksJ1_removeNode_5 17 rfl rfl)
theorem dJ1_removeNode_133 : decode cJ1_removeNode 133 = .ok (.if_acmp .eq 16, 3) := dk_165 0 16 (dk_at dksJ1_removeNode_5 18 rfl rfl)
theorem dJ1_removeNode_136 : decode cJ1_removeNode 136 = .ok (.aload_n 2, 1) := dk_44 (dk_at dksJ1_removeNode_5 21 rfl rfl)
theorem dJ1_removeNode_137 : decode cJ1_removeNode 137 = .ok (.ifnull 19, 3) := dk_198 0 19 (dk_at dksJ1_removeNode_6 0 rfl rfl)
theorem dJ1_removeNode_140 : decode cJ1_removeNode 140 = .ok (.aload_n 2, 1) := dk_44 (dk_at dksJ1_removeNode_6 3 rfl rfl)
theorem dJ1_removeNode_141 : decode cJ1_removeNode 141 = .ok (.aload 12, 2) := dk_25 12 (dk_at dksJ1_removeNode_6 4 rfl rfl)
theorem dJ1_removeNode_143 : decode cJ1_removeNode 143 = .ok (.invokevirtual 173, 3) := dk_182 0 173 (dk_at dksJ1_removeNode_6 6 rfl rfl)
theorem dJ1_removeNode_146 : decode cJ1_removeNode 146 = .ok (.ifCond .eq 10, 3) := dk_153 0 10 (dk_at dksJ1_removeNode_6 9 rfl rfl)
theorem dJ1_removeNode_149 : decode cJ1_removeNode 149 = .ok (.aload 11, 2) := dk_25 11 (dk_at dksJ1_removeNode_6 12 rfl rfl)
theorem dJ1_removeNode_151 : decode cJ1_removeNode 151 = .ok (.astore 10, 2) := dk_58 10 (dk_at dksJ1_removeNode_6 14 rfl rfl)
theorem dJ1_removeNode_153 : decode cJ1_removeNode 153 = .ok (.goto 18, 3) := dk_167 0 18 (dk_at dksJ1_removeNode_6 16 rfl rfl)
theorem dJ1_removeNode_156 : decode cJ1_removeNode 156 = .ok (.aload 11, 2) := dk_25 11 (dk_at dksJ1_removeNode_6 19 rfl rfl)
theorem dJ1_removeNode_158 : decode cJ1_removeNode 158 = .ok (.astore 7, 2) := dk_58 7 (dk_at dksJ1_removeNode_6 21 rfl rfl)
theorem dJ1_removeNode_160 : decode cJ1_removeNode 160 = .ok (.aload 11, 2) := dk_25 11 (dk_at dksJ1_removeNode_7 0 rfl rfl)
theorem dJ1_removeNode_162 : decode cJ1_removeNode 162 = .ok (.getfield 177, 3) := dk_180 0 177 (dk_at dksJ1_removeNode_7 2 rfl rfl)
theorem dJ1_removeNode_165 : decode cJ1_removeNode 165 = .ok (.dup, 1) := dk_89 (dk_at dksJ1_removeNode_7 5 rfl rfl)
theorem dJ1_removeNode_166 : decode cJ1_removeNode 166 = .ok (.astore 11, 2) := dk_58 11 (dk_at dksJ1_removeNode_7 6 rfl rfl)
theorem dJ1_removeNode_168 : decode cJ1_removeNode 168 = .ok (.ifnonnull (-53), 3) := dk_199 255 203 (dk_at dksJ1_removeNode_7 8 rfl rfl)
theorem dJ1_removeNode_171 : decode cJ1_removeNode 171 = .ok (.aload 10, 2) := dk_25 10 (dk_at dksJ1_removeNode_7 11 rfl rfl)
theorem dJ1_removeNode_173 : decode cJ1_removeNode 173 = .ok (.ifnull 116, 3) := dk_198 0 116 (dk_at dksJ1_removeNode_7 13 rfl rfl)
theorem dJ1_removeNode_176 : decode cJ1_removeNode 176 = .ok (.iload 4, 2) := dk_21 4 (dk_at dksJ1_removeNode_7 16 rfl rfl)
theorem dJ1_removeNode_178 : decode cJ1_removeNode 178 = .ok (.ifCond .eq 28, 3) := dk_153 0 28 (dk_at dksJ1_removeNode_7 18 rfl rfl)
theorem dJ1_removeNode_181 : decode cJ1_removeNode 181 = .ok (.aload 10, 2) := dk_25 10 (dk_at dksJ1_removeNode_7 21 rfl rfl)
theorem dJ1_removeNode_183 : decode cJ1_removeNode 183 = .ok (.getfield 162, 3) := dk_180 0 162 (dk_at dksJ1_removeNode_8 0 rfl rfl)
theorem dJ1_removeNode_186 : decode cJ1_removeNode 186 = .ok (.dup, 1) := dk_89 (dk_at dksJ1_removeNode_8 3 rfl rfl)
theorem dJ1_removeNode_187 : decode cJ1_removeNode 187 = .ok (.astore 13, 2) := dk_58 13 (dk_at dksJ1_removeNode_8 4 rfl rfl)
theorem dJ1_removeNode_189 : decode cJ1_removeNode 189 = .ok (.aload_n 3, 1) := dk_45 (dk_at dksJ1_removeNode_8 6 rfl rfl)
theorem dJ1_removeNode_190 : decode cJ1_removeNode 190 = .ok (.if_acmp .eq 16, 3) := dk_165 0 16 (dk_at dksJ1_removeNode_8 7 rfl rfl)
theorem dJ1_removeNode_193 : decode cJ1_removeNode 193 = .ok (.aload_n 3, 1) := dk_45 (dk_at dksJ1_removeNode_8 10 rfl rfl)
theorem dJ1_removeNode_194 : decode cJ1_removeNode 194 = .ok (.ifnull 95, 3) := dk_198 0 95 (dk_at dksJ1_removeNode_8 11 rfl rfl)
theorem dJ1_removeNode_197 : decode cJ1_removeNode 197 = .ok (.aload_n 3, 1) := dk_45 (dk_at dksJ1_removeNode_8 14 rfl rfl)
theorem dJ1_removeNode_198 : decode cJ1_removeNode 198 = .ok (.aload 13, 2) := dk_25 13 (dk_at dksJ1_removeNode_8 15 rfl rfl)
theorem dJ1_removeNode_200 : decode cJ1_removeNode 200 = .ok (.invokevirtual 173, 3) := dk_182 0 173 (dk_at dksJ1_removeNode_8 17 rfl rfl)
theorem dJ1_removeNode_203 : decode cJ1_removeNode 203 = .ok (.ifCond .eq 86, 3) := dk_153 0 86 (dk_at dksJ1_removeNode_8 20 rfl rfl)
theorem dJ1_removeNode_206 : decode cJ1_removeNode 206 = .ok (.aload 10, 2) := dk_25 10 (dk_at dksJ1_removeNode_9 0 rfl rfl)
theorem dJ1_removeNode_208 : decode cJ1_removeNode 208 = .ok (.instanceof 180, 3) := dk_193 0 180 (dk_at dksJ1_removeNode_9 2 rfl rfl)
theorem dJ1_removeNode_211 : decode cJ1_removeNode 211 = .ok (.ifCond .eq 19, 3) := dk_153 0 19 (dk_at dksJ1_removeNode_9 5 rfl rfl)
theorem dJ1_removeNode_214 : decode cJ1_removeNode 214 = .ok (.aload 10, 2) := dk_25 10 (dk_at dksJ1_removeNode_9 8 rfl rfl)
theorem dJ1_removeNode_216 : decode cJ1_removeNode 216 = .ok (.checkcast 180, 3) := dk_192 0 180 (dk_at dksJ1_removeNode_9 10 rfl rfl)
theorem dJ1_removeNode_219 : decode cJ1_removeNode 219 = .ok (.aload_n 0, 1) := dk_42 (dk_at dksJ1_removeNode_9 13 rfl rfl)
theorem dJ1_removeNode_220 : decode cJ1_removeNode 220 = .ok (.aload 6, 2) := dk_25 6 (dk_at dksJ1_removeNode_9 14 rfl rfl)
theorem dJ1_removeNode_222 : decode cJ1_removeNode 222 = .ok (.iload 5, 2) := dk_21 5 (dk_at dksJ1_removeNode_9 16 rfl rfl)
theorem dJ1_removeNode_224 : decode cJ1_removeNode 224 = .ok (.invokevirtual 232, 3) := dk_182 0 232 (dk_at dksJ1_removeNode_9 18 rfl rfl)
theorem dJ1_removeNode_227 : decode cJ1_removeNode 227 = .ok (.goto 33, 3) := dk_167 0 33 (dk_at dksJ1_removeNode_9 21 rfl rfl)
theorem dJ1_removeNode_230 : decode cJ1_removeNode 230 = .ok (.aload 10, 2) := dk_25 10 (dk_at dksJ1_removeNode_10 0 rfl rfl)
theorem dJ1_removeNode_232 : decode cJ1_removeNode 232 = .ok (.aload 7, 2) := dk_25 7 (dk_at dksJ1_removeNode_10 2 rfl rfl)
theorem dJ1_removeNode_234 : decode cJ1_removeNode 234 = .ok (.if_acmp .ne 16, 3) := dk_166 0 16 (dk_at dksJ1_removeNode_10 4 rfl rfl)
theorem dJ1_removeNode_237 : decode cJ1_removeNode 237 = .ok (.aload 6, 2) := dk_25 6 (dk_at dksJ1_removeNode_10 7 rfl rfl)
theorem dJ1_removeNode_239 : decode cJ1_removeNode 239 = .ok (.iload 9, 2) := dk_21 9 (dk_at dksJ1_removeNode_10 9 rfl rfl)
theorem dJ1_removeNode_241 : decode cJ1_removeNode 241 = .ok (.aload 10, 2) := dk_25 10 (dk_at dksJ1_removeNode_10 11 rfl rfl)
theorem dJ1_removeNode_243 : decode cJ1_removeNode 243 = .ok (.getfield 177, 3) := dk_180 0 177 (dk_at dksJ1_removeNode_10 13 rfl rfl)
theorem dJ1_removeNode_246 : decode cJ1_removeNode 246 = .ok (.aastore, 1) := dk_83 (dk_at dksJ1_removeNode_10 16 rfl rfl)
theorem dJ1_removeNode_247 : decode cJ1_removeNode 247 = .ok (.goto 13, 3) := dk_167 0 13 (dk_at dksJ1_removeNode_10 17 rfl rfl)
theorem dJ1_removeNode_250 : decode cJ1_removeNode 250 = .ok (.aload 7, 2) := dk_25 7 (dk_at dksJ1_removeNode_10 20 rfl rfl)
theorem dJ1_removeNode_252 : decode cJ1_removeNode 252 = .ok (.aload 10, 2) := dk_25 10 (dk_at dksJ1_removeNode_10 22 rfl rfl)
theorem dJ1_removeNode_254 : decode cJ1_removeNode 254 = .ok (.getfield 177, 3) := dk_180 0 177 (dk_at dksJ1_removeNode_11 0 rfl rfl)
theorem dJ1_removeNode_257 : decode cJ1_removeNode 257 = .ok (.putfield 177, 3) := dk_181 0 177 (dk_at dksJ1_removeNode_11 3 rfl rfl)
theorem dJ1_removeNode_260 : decode cJ1_removeNode 260 = .ok (.aload_n 0, 1) := dk_42 (dk_at dksJ1_removeNode_11 6 rfl rfl)
theorem dJ1_removeNode_261 : decode cJ1_removeNode 261 = .ok (.dup, 1) := dk_89 (dk_at dksJ1_removeNode_11 7 rfl rfl)
theorem dJ1_removeNode_262 : decode cJ1_removeNode 262 = .ok (.getfield 202, 3) := dk_180 0 202 (dk_at dksJ1_removeNode_11 8 rfl rfl)
theorem dJ1_removeNode_265 : decode cJ1_removeNode 265 = .ok (.iconst 1, 1) := dk_4 (dk_at dksJ1_removeNode_11 11 rfl rfl)
theorem dJ1_removeNode_266 : decode cJ1_removeNode 266 = .ok (.iadd, 1) := dk_96 (dk_at dksJ1_removeNode_11 12 rfl rfl)
theorem dJ1_removeNode_267 : decode cJ1_removeNode 267 = .ok (.putfield 202, 3) := dk_181 0 202 (dk_at dksJ1_removeNode_11 13 rfl rfl)
theorem dJ1_removeNode_270 : decode cJ1_removeNode 270 = .ok (.aload_n 0, 1) := dk_42 (dk_at dksJ1_removeNode_11 16 rfl rfl)
theorem dJ1_removeNode_271 : decode cJ1_removeNode 271 = .ok (.dup, 1) := dk_89 (dk_at dksJ1_removeNode_11 17 rfl rfl)
theorem dJ1_removeNode_272 : decode cJ1_removeNode 272 = .ok (.getfield 156, 3) := dk_180 0 156 (dk_at dksJ1_removeNode_11 18 rfl rfl)
theorem dJ1_removeNode_275 : decode cJ1_removeNode 275 = .ok (.iconst 1, 1) := dk_4 (dk_at dksJ1_removeNode_11 21 rfl rfl)
theorem dJ1_removeNode_276 : decode cJ1_removeNode 276 = .ok (.isub, 1) := dk_100 (dk_at dksJ1_removeNode_11 22 rfl rfl)
theorem dJ1_removeNode_277 : decode cJ1_removeNode 277 = .ok (.putfield 156, 3) := dk_181 0 156 (dk_at dksJ1_removeNode_12 0 rfl rfl)
theorem dJ1_removeNode_280 : decode cJ1_removeNode 280 = .ok (.aload_n 0, 1) := dk_42 (dk_at dksJ1_removeNode_12 3 rfl rfl)
theorem dJ1_removeNode_281 : decode cJ1_removeNode 281 = .ok (.aload 10, 2) := dk_25 10 (dk_at dksJ1_removeNode_12 4 rfl rfl)
theorem dJ1_removeNode_283 : decode cJ1_removeNode 283 = .ok (.invokevirtual 236, 3) := dk_182 0 236 (dk_at dksJ1_removeNode_12 6 rfl rfl)
theorem dJ1_removeNode_286 : decode cJ1_removeNode 286 = .ok (.aload 10, 2) := dk_25 10 (dk_at dksJ1_removeNode_12 9 rfl rfl)
theorem dJ1_removeNode_288 : decode cJ1_removeNode 288 = .ok (.areturn, 1) := dk_176 (dk_at dksJ1_removeNode_12 11 rfl rfl)
theorem dJ1_removeNode_289 : decode cJ1_removeNode 289 = .ok (.aconst_null, 1) := dk_1 (dk_at dksJ1_removeNode_12 12 rfl rfl)
theorem dJ1_removeNode_290 : decode cJ1_removeNode 290 = .ok (.areturn, 1) := dk_176 (dk_at dksJ1_removeNode_12 13 rfl rfl)
abbrev cJ1_afterNodeRemoval : ByteArray := prog_50_method_53_code
def yJ1_afterNodeRemoval : MethodName := ⟨RJ1, "afterNodeRemoval", "(Ljava/util/HashMap$Node;)V"⟩
theorem dJ1_afterNodeRemoval_0 : decode cJ1_afterNodeRemoval 0 = .ok (.return_, 1) := by decide +kernel
abbrev cJ1_get : ByteArray := prog_50_method_12_code
def yJ1_get : MethodName := ⟨RJ1, "get", "(Ljava/lang/Object;)Ljava/lang/Object;"⟩
def dkwJ1_get_0 : List UInt8 := [42, 43, 182, 0, 158, 89, 77, 199, 0, 7, 1, 167, 0, 7, 44, 180, 0, 162, 176]
abbrev dktJ1_get_0 : List UInt8 := dkwJ1_get_0 ++ []
theorem dksJ1_get_0 : cJ1_get.data.toList.drop 0 = dktJ1_get_0 := by decide +kernel
theorem dJ1_get_0 : decode cJ1_get 0 = .ok (.aload_n 0, 1) := dk_42 (dk_at dksJ1_get_0 0 rfl rfl)
theorem dJ1_get_1 : decode cJ1_get 1 = .ok (.aload_n 1, 1) := dk_43 (dk_at dksJ1_get_0 1 rfl rfl)
theorem dJ1_get_2 : decode cJ1_get 2 = .ok (.invokevirtual 158, 3) := dk_182 0 158 (dk_at dksJ1_get_0 2 rfl rfl)
theorem dJ1_get_5 : decode cJ1_get 5 = .ok (.dup, 1) := dk_89 (dk_at dksJ1_get_0 5 rfl rfl)
theorem dJ1_get_6 : decode cJ1_get 6 = .ok (.astore_n 2, 1) := dk_77 (dk_at dksJ1_get_0 6 rfl rfl)
theorem dJ1_get_7 : decode cJ1_get 7 = .ok (.ifnonnull 7, 3) := dk_199 0 7 (dk_at dksJ1_get_0 7 rfl rfl)
theorem dJ1_get_10 : decode cJ1_get 10 = .ok (.aconst_null, 1) := dk_1 (dk_at dksJ1_get_0 10 rfl rfl)
theorem dJ1_get_11 : decode cJ1_get 11 = .ok (.goto 7, 3) := dk_167 0 7 (dk_at dksJ1_get_0 11 rfl rfl)
theorem dJ1_get_14 : decode cJ1_get 14 = .ok (.aload_n 2, 1) := dk_44 (dk_at dksJ1_get_0 14 rfl rfl)
theorem dJ1_get_15 : decode cJ1_get 15 = .ok (.getfield 162, 3) := dk_180 0 162 (dk_at dksJ1_get_0 15 rfl rfl)
theorem dJ1_get_18 : decode cJ1_get 18 = .ok (.areturn, 1) := dk_176 (dk_at dksJ1_get_0 18 rfl rfl)
theorem q84 : (Jvm.Cond.initialized "java/util/HashMap") ∈ lw_all := lw_g (lw_at lw_m1 4 rfl) rfl
theorem q143 : (Jvm.Cond.instantiable "java/util/HashMap" (8 : Nat)) ∈ lw_all := lw_g (lw_at lw_m1 63 rfl) rfl
theorem q145 : (Jvm.Cond.instanceMethod ({ cls := "java/util/HashMap", name := "<init>", desc := "()V" } : Jvm.MethodName)) ∈ lw_all := lw_g (lw_at lw_m1 65 rfl) rfl
theorem q146 : (Jvm.Cond.code ({ cls := "java/util/HashMap", name := "<init>", desc := "()V" } : Jvm.MethodName) prog_50_method_7_code (1 : Nat) (Option.none : Option Jvm.ClassFile.FieldType)) ∈ lw_all := lw_g (lw_at lw_m1 66 rfl) rfl
theorem q147 : (Jvm.Cond.methodLink "java/util/HashMap" (43 : Nat) ({ cls := "java/util/AbstractMap", name := "<init>", desc := "()V" } : Jvm.MethodName)) ∈ lw_all := lw_g (lw_at lw_m1 67 rfl) rfl
theorem q151 : (Jvm.Cond.constantFloat "java/util/HashMap" (92 : Nat) (1061158912 : UInt32)) ∈ lw_all := lw_g (lw_at lw_m1 71 rfl) rfl
theorem q152 : (Jvm.Cond.fieldLink "java/util/HashMap" (105 : Nat) "java/util/HashMap" "table" "[Ljava/util/HashMap$Node;") ∈ lw_all := lw_g (lw_at lw_m1 72 rfl) rfl
theorem q153 : (Jvm.Cond.fieldLink "java/util/HashMap" (156 : Nat) "java/util/HashMap" "size" "I") ∈ lw_all := lw_g (lw_at lw_m1 73 rfl) rfl
theorem q154 : (Jvm.Cond.fieldLink "java/util/HashMap" (202 : Nat) "java/util/HashMap" "modCount" "I") ∈ lw_all := lw_g (lw_at lw_m1 74 rfl) rfl
theorem q155 : (Jvm.Cond.fieldLink "java/util/HashMap" (88 : Nat) "java/util/HashMap" "threshold" "I") ∈ lw_all := lw_g (lw_at lw_m1 75 rfl) rfl
theorem q156 : (Jvm.Cond.fieldLink "java/util/HashMap" (81 : Nat) "java/util/HashMap" "loadFactor" "F") ∈ lw_all := lw_g (lw_at lw_m1 76 rfl) rfl
theorem q157 : (Jvm.Cond.lays "java/util/HashMap" "java/util/HashMap" "table" "[Ljava/util/HashMap$Node;") ∈ lw_all := lw_g (lw_at lw_m1 77 rfl) rfl
theorem q158 : (Jvm.Cond.soleField "java/util/HashMap" "table") ∈ lw_all := lw_g (lw_at lw_m1 78 rfl) rfl
theorem q159 : (Jvm.Cond.lays "java/util/HashMap" "java/util/HashMap" "entrySet" "Ljava/util/Set;") ∈ lw_all := lw_g (lw_at lw_m1 79 rfl) rfl
theorem q160 : (Jvm.Cond.soleField "java/util/HashMap" "entrySet") ∈ lw_all := lw_g (lw_at lw_m1 80 rfl) rfl
theorem q161 : (Jvm.Cond.lays "java/util/HashMap" "java/util/HashMap" "size" "I") ∈ lw_all := lw_g (lw_at lw_m1 81 rfl) rfl
theorem q162 : (Jvm.Cond.soleField "java/util/HashMap" "size") ∈ lw_all := lw_g (lw_at lw_m1 82 rfl) rfl
theorem q163 : (Jvm.Cond.lays "java/util/HashMap" "java/util/HashMap" "modCount" "I") ∈ lw_all := lw_g (lw_at lw_m1 83 rfl) rfl
theorem q164 : (Jvm.Cond.soleField "java/util/HashMap" "modCount") ∈ lw_all := lw_g (lw_at lw_m1 84 rfl) rfl
theorem q165 : (Jvm.Cond.lays "java/util/HashMap" "java/util/HashMap" "threshold" "I") ∈ lw_all := lw_g (lw_at lw_m1 85 rfl) rfl
theorem q166 : (Jvm.Cond.soleField "java/util/HashMap" "threshold") ∈ lw_all := lw_g (lw_at lw_m1 86 rfl) rfl
theorem q167 : (Jvm.Cond.laysFinal "java/util/HashMap" "java/util/HashMap" "loadFactor" "F") ∈ lw_all := lw_g (lw_at lw_m1 87 rfl) rfl
theorem q168 : (Jvm.Cond.soleField "java/util/HashMap" "loadFactor") ∈ lw_all := lw_g (lw_at lw_m1 88 rfl) rfl
theorem q169 : (Jvm.Cond.lays "java/util/HashMap" "java/util/AbstractMap" "keySet" "Ljava/util/Set;") ∈ lw_all := lw_g (lw_at lw_m1 89 rfl) rfl
theorem q171 : (Jvm.Cond.lays "java/util/HashMap" "java/util/AbstractMap" "values" "Ljava/util/Collection;") ∈ lw_all := lw_g (lw_at lw_m1 91 rfl) rfl
theorem q173 : (Jvm.Cond.superclass "java/util/HashMap" "java/util/AbstractMap") ∈ lw_all := lw_g (lw_at lw_m1 93 rfl) rfl
theorem q556 : (Jvm.Cond.selects "java/util/HashMap" ({ cls := "java/lang/Object", name := "getClass", desc := "()Ljava/lang/Class;" } : Jvm.MethodName) ({ cls := "java/lang/Object", name := "getClass", desc := "()Ljava/lang/Class;" } : Jvm.MethodName)) ∈ lw_all := lw_g (lw_at lw_m2 236 rfl) rfl
theorem q645 : (Jvm.Cond.instanceMethod ({ cls := "java/util/HashMap", name := "put", desc := "(Ljava/lang/Object;Ljava/lang/Object;)Ljava/lang/Object;" } : Jvm.MethodName)) ∈ lw_all := lw_g (lw_at lw_m3 85 rfl) rfl
theorem q646 : (Jvm.Cond.selects "java/util/HashMap" ({ cls := "java/util/HashMap", name := "put", desc := "(Ljava/lang/Object;Ljava/lang/Object;)Ljava/lang/Object;" } : Jvm.MethodName) ({ cls := "java/util/HashMap", name := "put", desc := "(Ljava/lang/Object;Ljava/lang/Object;)Ljava/lang/Object;" } : Jvm.MethodName)) ∈ lw_all := lw_g (lw_at lw_m3 86 rfl) rfl
theorem q647 : (Jvm.Cond.code ({ cls := "java/util/HashMap", name := "put", desc := "(Ljava/lang/Object;Ljava/lang/Object;)Ljava/lang/Object;" } : Jvm.MethodName) prog_50_method_15_code (3 : Nat) (Option.some (Jvm.ClassFile.FieldType.object "java/lang/Object"))) ∈ lw_all := lw_g (lw_at lw_m3 87 rfl) rfl
theorem q648 : (Jvm.Cond.methodLink "java/util/HashMap" (149 : Nat) ({ cls := "java/util/HashMap", name := "hash", desc := "(Ljava/lang/Object;)I" } : Jvm.MethodName)) ∈ lw_all := lw_g (lw_at lw_m3 88 rfl) rfl
theorem q649 : (Jvm.Cond.static ({ cls := "java/util/HashMap", name := "hash", desc := "(Ljava/lang/Object;)I" } : Jvm.MethodName)) ∈ lw_all := lw_g (lw_at lw_m3 89 rfl) rfl
theorem q650 : (Jvm.Cond.code ({ cls := "java/util/HashMap", name := "hash", desc := "(Ljava/lang/Object;)I" } : Jvm.MethodName) prog_50_method_1_code (2 : Nat) (Option.some Jvm.ClassFile.FieldType.int)) ∈ lw_all := lw_g (lw_at lw_m3 90 rfl) rfl
theorem q652 : (Jvm.Cond.methodLink "java/util/HashMap" (1 : Nat) ({ cls := "java/lang/Object", name := "hashCode", desc := "()I" } : Jvm.MethodName)) ∈ lw_all := lw_g (lw_at lw_m3 92 rfl) rfl
theorem q966 : (Jvm.Cond.methodLink "java/util/HashMap" (152 : Nat) ({ cls := "java/util/HashMap", name := "putVal", desc := "(ILjava/lang/Object;Ljava/lang/Object;ZZ)Ljava/lang/Object;" } : Jvm.MethodName)) ∈ lw_all := lw_g (lw_at lw_m4 166 rfl) rfl
theorem q967 : (Jvm.Cond.instanceMethod ({ cls := "java/util/HashMap", name := "putVal", desc := "(ILjava/lang/Object;Ljava/lang/Object;ZZ)Ljava/lang/Object;" } : Jvm.MethodName)) ∈ lw_all := lw_g (lw_at lw_m4 167 rfl) rfl
theorem q968 : (Jvm.Cond.selects "java/util/HashMap" ({ cls := "java/util/HashMap", name := "putVal", desc := "(ILjava/lang/Object;Ljava/lang/Object;ZZ)Ljava/lang/Object;" } : Jvm.MethodName) ({ cls := "java/util/HashMap", name := "putVal", desc := "(ILjava/lang/Object;Ljava/lang/Object;ZZ)Ljava/lang/Object;" } : Jvm.MethodName)) ∈ lw_all := lw_g (lw_at lw_m4 168 rfl) rfl
theorem q969 : (Jvm.Cond.code ({ cls := "java/util/HashMap", name := "putVal", desc := "(ILjava/lang/Object;Ljava/lang/Object;ZZ)Ljava/lang/Object;" } : Jvm.MethodName) prog_50_method_16_code (13 : Nat) (Option.some (Jvm.ClassFile.FieldType.object "java/lang/Object"))) ∈ lw_all := lw_g (lw_at lw_m4 169 rfl) rfl
theorem q970 : (Jvm.Cond.methodLink "java/util/HashMap" (117 : Nat) ({ cls := "java/util/HashMap", name := "resize", desc := "()[Ljava/util/HashMap$Node;" } : Jvm.MethodName)) ∈ lw_all := lw_g (lw_at lw_m4 170 rfl) rfl
theorem q971 : (Jvm.Cond.instanceMethod ({ cls := "java/util/HashMap", name := "resize", desc := "()[Ljava/util/HashMap$Node;" } : Jvm.MethodName)) ∈ lw_all := lw_g (lw_at lw_m4 171 rfl) rfl
theorem q972 : (Jvm.Cond.selects "java/util/HashMap" ({ cls := "java/util/HashMap", name := "resize", desc := "()[Ljava/util/HashMap$Node;" } : Jvm.MethodName) ({ cls := "java/util/HashMap", name := "resize", desc := "()[Ljava/util/HashMap$Node;" } : Jvm.MethodName)) ∈ lw_all := lw_g (lw_at lw_m4 172 rfl) rfl
theorem q973 : (Jvm.Cond.code ({ cls := "java/util/HashMap", name := "resize", desc := "()[Ljava/util/HashMap$Node;" } : Jvm.MethodName) prog_50_method_17_code (14 : Nat) (Option.some (Jvm.ClassFile.FieldType.array (Jvm.ClassFile.FieldType.object "java/util/HashMap$Node")))) ∈ lw_all := lw_g (lw_at lw_m4 173 rfl) rfl
theorem q974 : (Jvm.Cond.constant "java/util/HashMap" (42 : Nat) (1073741824 : Int32)) ∈ lw_all := lw_g (lw_at lw_m4 174 rfl) rfl
theorem q975 : (Jvm.Cond.constant "java/util/HashMap" (209 : Nat) (2147483647 : Int32)) ∈ lw_all := lw_g (lw_at lw_m4 175 rfl) rfl
theorem q976 : (Jvm.Cond.constantFloat "java/util/HashMap" (210 : Nat) (1317011456 : UInt32)) ∈ lw_all := lw_g (lw_at lw_m4 176 rfl) rfl
theorem q977 : (Jvm.Cond.classLink "java/util/HashMap" (163 : Nat) "java/util/HashMap$Node") ∈ lw_all := lw_g (lw_at lw_m4 177 rfl) rfl
theorem q979 : (Jvm.Cond.classLink "java/util/HashMap" (180 : Nat) "java/util/HashMap$TreeNode") ∈ lw_all := lw_g (lw_at lw_m4 179 rfl) rfl
theorem q980 : (Jvm.Cond.methodLink "java/util/HashMap" (211 : Nat) ({ cls := "java/util/HashMap$TreeNode", name := "split", desc := "(Ljava/util/HashMap;[Ljava/util/HashMap$Node;II)V" } : Jvm.MethodName)) ∈ lw_all := lw_g (lw_at lw_m4 180 rfl) rfl
theorem q990 : (Jvm.Cond.instanceMethod ({ cls := "java/util/HashMap", name := "replacementNode", desc := "(Ljava/util/HashMap$Node;Ljava/util/HashMap$Node;)Ljava/util/HashMap$Node;" } : Jvm.MethodName)) ∈ lw_all := lw_g (lw_at lw_m4 190 rfl) rfl
theorem q991 : (Jvm.Cond.selects "java/util/HashMap" ({ cls := "java/util/HashMap", name := "replacementNode", desc := "(Ljava/util/HashMap$Node;Ljava/util/HashMap$Node;)Ljava/util/HashMap$Node;" } : Jvm.MethodName) ({ cls := "java/util/HashMap", name := "replacementNode", desc := "(Ljava/util/HashMap$Node;Ljava/util/HashMap$Node;)Ljava/util/HashMap$Node;" } : Jvm.MethodName)) ∈ lw_all := lw_g (lw_at lw_m4 191 rfl) rfl
theorem q992 : (Jvm.Cond.code ({ cls := "java/util/HashMap", name := "replacementNode", desc := "(Ljava/util/HashMap$Node;Ljava/util/HashMap$Node;)Ljava/util/HashMap$Node;" } : Jvm.MethodName) prog_50_method_47_code (3 : Nat) (Option.some (Jvm.ClassFile.FieldType.object "java/util/HashMap$Node"))) ∈ lw_all := lw_g (lw_at lw_m4 192 rfl) rfl
theorem q994 : (Jvm.Cond.methodLink "java/util/HashMap" (375 : Nat) ({ cls := "java/util/HashMap$Node", name := "<init>", desc := "(ILjava/lang/Object;Ljava/lang/Object;Ljava/util/HashMap$Node;)V" } : Jvm.MethodName)) ∈ lw_all := lw_g (lw_at lw_m4 194 rfl) rfl
theorem q1001 : (Jvm.Cond.fieldLink "java/util/HashMap" (168 : Nat) "java/util/HashMap$Node" "hash" "I") ∈ lw_all := lw_g (lw_at lw_m4 201 rfl) rfl
theorem q1005 : (Jvm.Cond.fieldLink "java/util/HashMap" (170 : Nat) "java/util/HashMap$Node" "key" "Ljava/lang/Object;") ∈ lw_all := lw_g (lw_at lw_m4 205 rfl) rfl
theorem q1007 : (Jvm.Cond.fieldLink "java/util/HashMap" (162 : Nat) "java/util/HashMap$Node" "value" "Ljava/lang/Object;") ∈ lw_all := lw_g (lw_at lw_m4 207 rfl) rfl
theorem q1012 : (Jvm.Cond.fieldLink "java/util/HashMap" (177 : Nat) "java/util/HashMap$Node" "next" "Ljava/util/HashMap$Node;") ∈ lw_all := lw_g (lw_at lw_m4 212 rfl) rfl
theorem q1013 : (Jvm.Cond.fieldLink "java/util/HashMap" (223 : Nat) "java/util/HashMap$TreeNode" "next" "Ljava/util/HashMap$Node;") ∈ lw_all := lw_g (lw_at lw_m4 213 rfl) rfl
theorem q1028 : (Jvm.Cond.static ({ cls := "java/util/HashMap", name := "comparableClassFor", desc := "(Ljava/lang/Object;)Ljava/lang/Class;" } : Jvm.MethodName)) ∈ lw_all := lw_g (lw_at lw_m4 228 rfl) rfl
theorem q1029 : (Jvm.Cond.code ({ cls := "java/util/HashMap", name := "comparableClassFor", desc := "(Ljava/lang/Object;)Ljava/lang/Class;" } : Jvm.MethodName) prog_50_method_2_code (9 : Nat) (Option.some (Jvm.ClassFile.FieldType.object "java/lang/Class"))) ∈ lw_all := lw_g (lw_at lw_m4 229 rfl) rfl
theorem q1030 : (Jvm.Cond.classLink "java/util/HashMap" (7 : Nat) "java/lang/Comparable") ∈ lw_all := lw_g (lw_at lw_m4 230 rfl) rfl
theorem q1031 : (Jvm.Cond.methodLink "java/util/HashMap" (9 : Nat) ({ cls := "java/lang/Object", name := "getClass", desc := "()Ljava/lang/Class;" } : Jvm.MethodName)) ∈ lw_all := lw_g (lw_at lw_m4 231 rfl) rfl
theorem q1032 : (Jvm.Cond.classLink "java/util/HashMap" (13 : Nat) "java/lang/String") ∈ lw_all := lw_g (lw_at lw_m4 232 rfl) rfl
theorem q1034 : (Jvm.Cond.static ({ cls := "java/util/HashMap", name := "compareComparables", desc := "(Ljava/lang/Class;Ljava/lang/Object;Ljava/lang/Object;)I" } : Jvm.MethodName)) ∈ lw_all := lw_g (lw_at lw_m4 234 rfl) rfl
theorem q1035 : (Jvm.Cond.code ({ cls := "java/util/HashMap", name := "compareComparables", desc := "(Ljava/lang/Class;Ljava/lang/Object;Ljava/lang/Object;)I" } : Jvm.MethodName) prog_50_method_3_code (3 : Nat) (Option.some Jvm.ClassFile.FieldType.int)) ∈ lw_all := lw_g (lw_at lw_m4 235 rfl) rfl
theorem q1036 : (Jvm.Cond.interfaceEntry "java/util/HashMap" (30 : Nat)) ∈ lw_tbl := lw_at lw_m4 236 rfl
theorem q1037 : (Jvm.Cond.methodLink "java/util/HashMap" (30 : Nat) ({ cls := "java/lang/Comparable", name := "compareTo", desc := "(Ljava/lang/Object;)I" } : Jvm.MethodName)) ∈ lw_all := lw_g (lw_at lw_m4 237 rfl) rfl
theorem q1260 : (Jvm.Cond.methodLink "java/util/HashMap" (186 : Nat) ({ cls := "java/util/HashMap", name := "newNode", desc := "(ILjava/lang/Object;Ljava/lang/Object;Ljava/util/HashMap$Node;)Ljava/util/HashMap$Node;" } : Jvm.MethodName)) ∈ lw_all := lw_g (lw_at lw_m5 220 rfl) rfl
theorem q1261 : (Jvm.Cond.instanceMethod ({ cls := "java/util/HashMap", name := "newNode", desc := "(ILjava/lang/Object;Ljava/lang/Object;Ljava/util/HashMap$Node;)Ljava/util/HashMap$Node;" } : Jvm.MethodName)) ∈ lw_all := lw_g (lw_at lw_m5 221 rfl) rfl
theorem q1262 : (Jvm.Cond.selects "java/util/HashMap" ({ cls := "java/util/HashMap", name := "newNode", desc := "(ILjava/lang/Object;Ljava/lang/Object;Ljava/util/HashMap$Node;)Ljava/util/HashMap$Node;" } : Jvm.MethodName) ({ cls := "java/util/HashMap", name := "newNode", desc := "(ILjava/lang/Object;Ljava/lang/Object;Ljava/util/HashMap$Node;)Ljava/util/HashMap$Node;" } : Jvm.MethodName)) ∈ lw_all := lw_g (lw_at lw_m5 222 rfl) rfl
theorem q1263 : (Jvm.Cond.code ({ cls := "java/util/HashMap", name := "newNode", desc := "(ILjava/lang/Object;Ljava/lang/Object;Ljava/util/HashMap$Node;)Ljava/util/HashMap$Node;" } : Jvm.MethodName) prog_50_method_46_code (5 : Nat) (Option.some (Jvm.ClassFile.FieldType.object "java/util/HashMap$Node"))) ∈ lw_all := lw_g (lw_at lw_m5 223 rfl) rfl
theorem q1265 : (Jvm.Cond.methodLink "java/util/HashMap" (173 : Nat) ({ cls := "java/lang/Object", name := "equals", desc := "(Ljava/lang/Object;)Z" } : Jvm.MethodName)) ∈ lw_all := lw_g (lw_at lw_m5 225 rfl) rfl
theorem q1310 : (Jvm.Cond.methodLink "java/util/HashMap" (190 : Nat) ({ cls := "java/util/HashMap$TreeNode", name := "putTreeVal", desc := "(Ljava/util/HashMap;[Ljava/util/HashMap$Node;ILjava/lang/Object;Ljava/lang/Object;)Ljava/util/HashMap$TreeNode;" } : Jvm.MethodName)) ∈ lw_all := lw_g (lw_at lw_m6 30 rfl) rfl
theorem q1324 : (Jvm.Cond.instanceMethod ({ cls := "java/util/HashMap", name := "newTreeNode", desc := "(ILjava/lang/Object;Ljava/lang/Object;Ljava/util/HashMap$Node;)Ljava/util/HashMap$TreeNode;" } : Jvm.MethodName)) ∈ lw_all := lw_g (lw_at lw_m6 44 rfl) rfl
theorem q1325 : (Jvm.Cond.selects "java/util/HashMap" ({ cls := "java/util/HashMap", name := "newTreeNode", desc := "(ILjava/lang/Object;Ljava/lang/Object;Ljava/util/HashMap$Node;)Ljava/util/HashMap$TreeNode;" } : Jvm.MethodName) ({ cls := "java/util/HashMap", name := "newTreeNode", desc := "(ILjava/lang/Object;Ljava/lang/Object;Ljava/util/HashMap$Node;)Ljava/util/HashMap$TreeNode;" } : Jvm.MethodName)) ∈ lw_all := lw_g (lw_at lw_m6 45 rfl) rfl
theorem q1326 : (Jvm.Cond.code ({ cls := "java/util/HashMap", name := "newTreeNode", desc := "(ILjava/lang/Object;Ljava/lang/Object;Ljava/util/HashMap$Node;)Ljava/util/HashMap$TreeNode;" } : Jvm.MethodName) prog_50_method_48_code (5 : Nat) (Option.some (Jvm.ClassFile.FieldType.object "java/util/HashMap$TreeNode"))) ∈ lw_all := lw_g (lw_at lw_m6 46 rfl) rfl
theorem q1328 : (Jvm.Cond.methodLink "java/util/HashMap" (378 : Nat) ({ cls := "java/util/HashMap$TreeNode", name := "<init>", desc := "(ILjava/lang/Object;Ljava/lang/Object;Ljava/util/HashMap$Node;)V" } : Jvm.MethodName)) ∈ lw_all := lw_g (lw_at lw_m6 48 rfl) rfl
theorem q1339 : (Jvm.Cond.fieldLink "java/util/HashMap" (219 : Nat) "java/util/HashMap$TreeNode" "prev" "Ljava/util/HashMap$TreeNode;") ∈ lw_all := lw_g (lw_at lw_m6 59 rfl) rfl
theorem q1360 : (Jvm.Cond.methodLink "java/util/HashMap" (194 : Nat) ({ cls := "java/util/HashMap", name := "treeifyBin", desc := "([Ljava/util/HashMap$Node;I)V" } : Jvm.MethodName)) ∈ lw_all := lw_g (lw_at lw_m6 80 rfl) rfl
theorem q1361 : (Jvm.Cond.instanceMethod ({ cls := "java/util/HashMap", name := "treeifyBin", desc := "([Ljava/util/HashMap$Node;I)V" } : Jvm.MethodName)) ∈ lw_all := lw_g (lw_at lw_m6 81 rfl) rfl
theorem q1362 : (Jvm.Cond.selects "java/util/HashMap" ({ cls := "java/util/HashMap", name := "treeifyBin", desc := "([Ljava/util/HashMap$Node;I)V" } : Jvm.MethodName) ({ cls := "java/util/HashMap", name := "treeifyBin", desc := "([Ljava/util/HashMap$Node;I)V" } : Jvm.MethodName)) ∈ lw_all := lw_g (lw_at lw_m6 82 rfl) rfl
theorem q1363 : (Jvm.Cond.code ({ cls := "java/util/HashMap", name := "treeifyBin", desc := "([Ljava/util/HashMap$Node;I)V" } : Jvm.MethodName) prog_50_method_18_code (9 : Nat) (Option.none : Option Jvm.ClassFile.FieldType)) ∈ lw_all := lw_g (lw_at lw_m6 83 rfl) rfl
theorem q1364 : (Jvm.Cond.methodLink "java/util/HashMap" (215 : Nat) ({ cls := "java/util/HashMap", name := "replacementTreeNode", desc := "(Ljava/util/HashMap$Node;Ljava/util/HashMap$Node;)Ljava/util/HashMap$TreeNode;" } : Jvm.MethodName)) ∈ lw_all := lw_g (lw_at lw_m6 84 rfl) rfl
theorem q1365 : (Jvm.Cond.instanceMethod ({ cls := "java/util/HashMap", name := "replacementTreeNode", desc := "(Ljava/util/HashMap$Node;Ljava/util/HashMap$Node;)Ljava/util/HashMap$TreeNode;" } : Jvm.MethodName)) ∈ lw_all := lw_g (lw_at lw_m6 85 rfl) rfl
theorem q1366 : (Jvm.Cond.selects "java/util/HashMap" ({ cls := "java/util/HashMap", name := "replacementTreeNode", desc := "(Ljava/util/HashMap$Node;Ljava/util/HashMap$Node;)Ljava/util/HashMap$TreeNode;" } : Jvm.MethodName) ({ cls := "java/util/HashMap", name := "replacementTreeNode", desc := "(Ljava/util/HashMap$Node;Ljava/util/HashMap$Node;)Ljava/util/HashMap$TreeNode;" } : Jvm.MethodName)) ∈ lw_all := lw_g (lw_at lw_m6 86 rfl) rfl
theorem q1367 : (Jvm.Cond.code ({ cls := "java/util/HashMap", name := "replacementTreeNode", desc := "(Ljava/util/HashMap$Node;Ljava/util/HashMap$Node;)Ljava/util/HashMap$TreeNode;" } : Jvm.MethodName) prog_50_method_49_code (3 : Nat) (Option.some (Jvm.ClassFile.FieldType.object "java/util/HashMap$TreeNode"))) ∈ lw_all := lw_g (lw_at lw_m6 87 rfl) rfl
theorem q1368 : (Jvm.Cond.methodLink "java/util/HashMap" (224 : Nat) ({ cls := "java/util/HashMap$TreeNode", name := "treeify", desc := "([Ljava/util/HashMap$Node;)V" } : Jvm.MethodName)) ∈ lw_all := lw_g (lw_at lw_m6 88 rfl) rfl
theorem q1369 : (Jvm.Cond.methodLink "java/util/HashMap" (198 : Nat) ({ cls := "java/util/HashMap", name := "afterNodeAccess", desc := "(Ljava/util/HashMap$Node;)V" } : Jvm.MethodName)) ∈ lw_all := lw_g (lw_at lw_m6 89 rfl) rfl
theorem q1370 : (Jvm.Cond.instanceMethod ({ cls := "java/util/HashMap", name := "afterNodeAccess", desc := "(Ljava/util/HashMap$Node;)V" } : Jvm.MethodName)) ∈ lw_all := lw_g (lw_at lw_m6 90 rfl) rfl
theorem q1371 : (Jvm.Cond.selects "java/util/HashMap" ({ cls := "java/util/HashMap", name := "afterNodeAccess", desc := "(Ljava/util/HashMap$Node;)V" } : Jvm.MethodName) ({ cls := "java/util/HashMap", name := "afterNodeAccess", desc := "(Ljava/util/HashMap$Node;)V" } : Jvm.MethodName)) ∈ lw_all := lw_g (lw_at lw_m6 91 rfl) rfl
theorem q1372 : (Jvm.Cond.code ({ cls := "java/util/HashMap", name := "afterNodeAccess", desc := "(Ljava/util/HashMap$Node;)V" } : Jvm.MethodName) prog_50_method_51_code (2 : Nat) (Option.none : Option Jvm.ClassFile.FieldType)) ∈ lw_all := lw_g (lw_at lw_m6 92 rfl) rfl
theorem q1373 : (Jvm.Cond.methodLink "java/util/HashMap" (205 : Nat) ({ cls := "java/util/HashMap", name := "afterNodeInsertion", desc := "(Z)V" } : Jvm.MethodName)) ∈ lw_all := lw_g (lw_at lw_m6 93 rfl) rfl
theorem q1374 : (Jvm.Cond.instanceMethod ({ cls := "java/util/HashMap", name := "afterNodeInsertion", desc := "(Z)V" } : Jvm.MethodName)) ∈ lw_all := lw_g (lw_at lw_m6 94 rfl) rfl
theorem q1375 : (Jvm.Cond.selects "java/util/HashMap" ({ cls := "java/util/HashMap", name := "afterNodeInsertion", desc := "(Z)V" } : Jvm.MethodName) ({ cls := "java/util/HashMap", name := "afterNodeInsertion", desc := "(Z)V" } : Jvm.MethodName)) ∈ lw_all := lw_g (lw_at lw_m6 95 rfl) rfl
theorem q1376 : (Jvm.Cond.code ({ cls := "java/util/HashMap", name := "afterNodeInsertion", desc := "(Z)V" } : Jvm.MethodName) prog_50_method_52_code (2 : Nat) (Option.none : Option Jvm.ClassFile.FieldType)) ∈ lw_all := lw_g (lw_at lw_m6 96 rfl) rfl
theorem q1417 : (Jvm.Cond.instanceMethod ({ cls := "java/util/HashMap", name := "containsKey", desc := "(Ljava/lang/Object;)Z" } : Jvm.MethodName)) ∈ lw_all := lw_g (lw_at lw_m6 137 rfl) rfl
theorem q1418 : (Jvm.Cond.selects "java/util/HashMap" ({ cls := "java/util/HashMap", name := "containsKey", desc := "(Ljava/lang/Object;)Z" } : Jvm.MethodName) ({ cls := "java/util/HashMap", name := "containsKey", desc := "(Ljava/lang/Object;)Z" } : Jvm.MethodName)) ∈ lw_all := lw_g (lw_at lw_m6 138 rfl) rfl
theorem q1419 : (Jvm.Cond.code ({ cls := "java/util/HashMap", name := "containsKey", desc := "(Ljava/lang/Object;)Z" } : Jvm.MethodName) prog_50_method_14_code (2 : Nat) (Option.some Jvm.ClassFile.FieldType.boolean)) ∈ lw_all := lw_g (lw_at lw_m6 139 rfl) rfl
theorem q1420 : (Jvm.Cond.methodLink "java/util/HashMap" (158 : Nat) ({ cls := "java/util/HashMap", name := "getNode", desc := "(Ljava/lang/Object;)Ljava/util/HashMap$Node;" } : Jvm.MethodName)) ∈ lw_all := lw_g (lw_at lw_m6 140 rfl) rfl
theorem q1421 : (Jvm.Cond.instanceMethod ({ cls := "java/util/HashMap", name := "getNode", desc := "(Ljava/lang/Object;)Ljava/util/HashMap$Node;" } : Jvm.MethodName)) ∈ lw_all := lw_g (lw_at lw_m6 141 rfl) rfl
theorem q1422 : (Jvm.Cond.selects "java/util/HashMap" ({ cls := "java/util/HashMap", name := "getNode", desc := "(Ljava/lang/Object;)Ljava/util/HashMap$Node;" } : Jvm.MethodName) ({ cls := "java/util/HashMap", name := "getNode", desc := "(Ljava/lang/Object;)Ljava/util/HashMap$Node;" } : Jvm.MethodName)) ∈ lw_all := lw_g (lw_at lw_m6 142 rfl) rfl
theorem q1423 : (Jvm.Cond.code ({ cls := "java/util/HashMap", name := "getNode", desc := "(Ljava/lang/Object;)Ljava/util/HashMap$Node;" } : Jvm.MethodName) prog_50_method_13_code (8 : Nat) (Option.some (Jvm.ClassFile.FieldType.object "java/util/HashMap$Node"))) ∈ lw_all := lw_g (lw_at lw_m6 143 rfl) rfl
theorem q1424 : (Jvm.Cond.methodLink "java/util/HashMap" (182 : Nat) ({ cls := "java/util/HashMap$TreeNode", name := "getTreeNode", desc := "(ILjava/lang/Object;)Ljava/util/HashMap$TreeNode;" } : Jvm.MethodName)) ∈ lw_all := lw_g (lw_at lw_m6 144 rfl) rfl
theorem q1441 : (Jvm.Cond.instanceMethod ({ cls := "java/util/HashMap", name := "remove", desc := "(Ljava/lang/Object;)Ljava/lang/Object;" } : Jvm.MethodName)) ∈ lw_all := lw_g (lw_at lw_m6 161 rfl) rfl
theorem q1442 : (Jvm.Cond.selects "java/util/HashMap" ({ cls := "java/util/HashMap", name := "remove", desc := "(Ljava/lang/Object;)Ljava/lang/Object;" } : Jvm.MethodName) ({ cls := "java/util/HashMap", name := "remove", desc := "(Ljava/lang/Object;)Ljava/lang/Object;" } : Jvm.MethodName)) ∈ lw_all := lw_g (lw_at lw_m6 162 rfl) rfl
theorem q1443 : (Jvm.Cond.code ({ cls := "java/util/HashMap", name := "remove", desc := "(Ljava/lang/Object;)Ljava/lang/Object;" } : Jvm.MethodName) prog_50_method_20_code (3 : Nat) (Option.some (Jvm.ClassFile.FieldType.object "java/lang/Object"))) ∈ lw_all := lw_g (lw_at lw_m6 163 rfl) rfl
theorem q1444 : (Jvm.Cond.methodLink "java/util/HashMap" (228 : Nat) ({ cls := "java/util/HashMap", name := "removeNode", desc := "(ILjava/lang/Object;Ljava/lang/Object;ZZ)Ljava/util/HashMap$Node;" } : Jvm.MethodName)) ∈ lw_all := lw_g (lw_at lw_m6 164 rfl) rfl
theorem q1445 : (Jvm.Cond.instanceMethod ({ cls := "java/util/HashMap", name := "removeNode", desc := "(ILjava/lang/Object;Ljava/lang/Object;ZZ)Ljava/util/HashMap$Node;" } : Jvm.MethodName)) ∈ lw_all := lw_g (lw_at lw_m6 165 rfl) rfl
theorem q1446 : (Jvm.Cond.selects "java/util/HashMap" ({ cls := "java/util/HashMap", name := "removeNode", desc := "(ILjava/lang/Object;Ljava/lang/Object;ZZ)Ljava/util/HashMap$Node;" } : Jvm.MethodName) ({ cls := "java/util/HashMap", name := "removeNode", desc := "(ILjava/lang/Object;Ljava/lang/Object;ZZ)Ljava/util/HashMap$Node;" } : Jvm.MethodName)) ∈ lw_all := lw_g (lw_at lw_m6 166 rfl) rfl
theorem q1447 : (Jvm.Cond.code ({ cls := "java/util/HashMap", name := "removeNode", desc := "(ILjava/lang/Object;Ljava/lang/Object;ZZ)Ljava/util/HashMap$Node;" } : Jvm.MethodName) prog_50_method_21_code (14 : Nat) (Option.some (Jvm.ClassFile.FieldType.object "java/util/HashMap$Node"))) ∈ lw_all := lw_g (lw_at lw_m6 167 rfl) rfl
theorem q1448 : (Jvm.Cond.methodLink "java/util/HashMap" (232 : Nat) ({ cls := "java/util/HashMap$TreeNode", name := "removeTreeNode", desc := "(Ljava/util/HashMap;[Ljava/util/HashMap$Node;Z)V" } : Jvm.MethodName)) ∈ lw_all := lw_g (lw_at lw_m6 168 rfl) rfl
theorem q1455 : (Jvm.Cond.methodLink "java/util/HashMap" (236 : Nat) ({ cls := "java/util/HashMap", name := "afterNodeRemoval", desc := "(Ljava/util/HashMap$Node;)V" } : Jvm.MethodName)) ∈ lw_all := lw_g (lw_at lw_m6 175 rfl) rfl
theorem q1456 : (Jvm.Cond.instanceMethod ({ cls := "java/util/HashMap", name := "afterNodeRemoval", desc := "(Ljava/util/HashMap$Node;)V" } : Jvm.MethodName)) ∈ lw_all := lw_g (lw_at lw_m6 176 rfl) rfl
theorem q1457 : (Jvm.Cond.selects "java/util/HashMap" ({ cls := "java/util/HashMap", name := "afterNodeRemoval", desc := "(Ljava/util/HashMap$Node;)V" } : Jvm.MethodName) ({ cls := "java/util/HashMap", name := "afterNodeRemoval", desc := "(Ljava/util/HashMap$Node;)V" } : Jvm.MethodName)) ∈ lw_all := lw_g (lw_at lw_m6 177 rfl) rfl
theorem q1458 : (Jvm.Cond.code ({ cls := "java/util/HashMap", name := "afterNodeRemoval", desc := "(Ljava/util/HashMap$Node;)V" } : Jvm.MethodName) prog_50_method_53_code (2 : Nat) (Option.none : Option Jvm.ClassFile.FieldType)) ∈ lw_all := lw_g (lw_at lw_m6 178 rfl) rfl
theorem q1538 : (Jvm.Cond.instanceMethod ({ cls := "java/util/HashMap", name := "get", desc := "(Ljava/lang/Object;)Ljava/lang/Object;" } : Jvm.MethodName)) ∈ lw_all := lw_g (lw_at lw_m7 18 rfl) rfl
theorem q1539 : (Jvm.Cond.selects "java/util/HashMap" ({ cls := "java/util/HashMap", name := "get", desc := "(Ljava/lang/Object;)Ljava/lang/Object;" } : Jvm.MethodName) ({ cls := "java/util/HashMap", name := "get", desc := "(Ljava/lang/Object;)Ljava/lang/Object;" } : Jvm.MethodName)) ∈ lw_all := lw_g (lw_at lw_m7 19 rfl) rfl
theorem q1540 : (Jvm.Cond.code ({ cls := "java/util/HashMap", name := "get", desc := "(Ljava/lang/Object;)Ljava/lang/Object;" } : Jvm.MethodName) prog_50_method_12_code (3 : Nat) (Option.some (Jvm.ClassFile.FieldType.object "java/lang/Object"))) ∈ lw_all := lw_g (lw_at lw_m7 20 rfl) rfl
theorem q3002 : (Jvm.Cond.castable "java/util/HashMap" "java/lang/Object") ∈ lw_tbl := lw_at lw_m13 42 rfl
theorem in_J1 : ∀ w ∈ wsJ10, w ∈ lw_all := lw_in wsJ10 [169, 171, 157, 159, 161, 163, 165, 167] (by decide +kernel) (by decide +kernel)

/-! java/util/AbstractCollection -/
set_option maxRecDepth 100000
def RJ2 : String := "java/util/AbstractCollection"
abbrev cJ2_init : ByteArray := prog_41_method_1_code
def yJ2_init : MethodName := ⟨RJ2, "<init>", "()V"⟩
theorem dJ2_init_0 : decode cJ2_init 0 = .ok (.aload_n 0, 1) := by decide +kernel
theorem dJ2_init_1 : decode cJ2_init 1 = .ok (.invokespecial 1, 3) := by decide +kernel
theorem dJ2_init_4 : decode cJ2_init 4 = .ok (.return_, 1) := by decide +kernel
theorem q85 : (Jvm.Cond.initialized "java/util/AbstractCollection") ∈ lw_all := lw_g (lw_at lw_m1 5 rfl) rfl
theorem q183 : (Jvm.Cond.instanceMethod ({ cls := "java/util/AbstractCollection", name := "<init>", desc := "()V" } : Jvm.MethodName)) ∈ lw_all := lw_g (lw_at lw_m1 103 rfl) rfl
theorem q184 : (Jvm.Cond.code ({ cls := "java/util/AbstractCollection", name := "<init>", desc := "()V" } : Jvm.MethodName) prog_41_method_1_code (1 : Nat) (Option.none : Option Jvm.ClassFile.FieldType)) ∈ lw_all := lw_g (lw_at lw_m1 104 rfl) rfl
theorem q185 : (Jvm.Cond.methodLink "java/util/AbstractCollection" (1 : Nat) ({ cls := "java/lang/Object", name := "<init>", desc := "()V" } : Jvm.MethodName)) ∈ lw_all := lw_g (lw_at lw_m1 105 rfl) rfl

/-! java/util/AbstractList -/
set_option maxRecDepth 100000
def RJ3 : String := "java/util/AbstractList"
abbrev cJ3_init : ByteArray := prog_42_method_1_code
def yJ3_init : MethodName := ⟨RJ3, "<init>", "()V"⟩
def dkwJ3_init_0 : List UInt8 := [42, 183, 0, 1, 42, 3, 181, 0, 7, 177]
abbrev dktJ3_init_0 : List UInt8 := dkwJ3_init_0 ++ []
theorem dksJ3_init_0 : cJ3_init.data.toList.drop 0 = dktJ3_init_0 := by decide +kernel
theorem dJ3_init_0 : decode cJ3_init 0 = .ok (.aload_n 0, 1) := dk_42 (dk_at dksJ3_init_0 0 rfl rfl)
theorem dJ3_init_1 : decode cJ3_init 1 = .ok (.invokespecial 1, 3) := dk_183 0 1 (dk_at dksJ3_init_0 1 rfl rfl)
theorem dJ3_init_4 : decode cJ3_init 4 = .ok (.aload_n 0, 1) := dk_42 (dk_at dksJ3_init_0 4 rfl rfl)
theorem dJ3_init_5 : decode cJ3_init 5 = .ok (.iconst 0, 1) := dk_3 (dk_at dksJ3_init_0 5 rfl rfl)
theorem dJ3_init_6 : decode cJ3_init 6 = .ok (.putfield 7, 3) := dk_181 0 7 (dk_at dksJ3_init_0 6 rfl rfl)
theorem dJ3_init_9 : decode cJ3_init 9 = .ok (.return_, 1) := dk_177 (dk_at dksJ3_init_0 9 rfl rfl)
theorem q86 : (Jvm.Cond.initialized "java/util/AbstractList") ∈ lw_all := lw_g (lw_at lw_m1 6 rfl) rfl
theorem q180 : (Jvm.Cond.instanceMethod ({ cls := "java/util/AbstractList", name := "<init>", desc := "()V" } : Jvm.MethodName)) ∈ lw_all := lw_g (lw_at lw_m1 100 rfl) rfl
theorem q181 : (Jvm.Cond.code ({ cls := "java/util/AbstractList", name := "<init>", desc := "()V" } : Jvm.MethodName) prog_42_method_1_code (1 : Nat) (Option.none : Option Jvm.ClassFile.FieldType)) ∈ lw_all := lw_g (lw_at lw_m1 101 rfl) rfl
theorem q182 : (Jvm.Cond.methodLink "java/util/AbstractList" (1 : Nat) ({ cls := "java/util/AbstractCollection", name := "<init>", desc := "()V" } : Jvm.MethodName)) ∈ lw_all := lw_g (lw_at lw_m1 102 rfl) rfl
theorem q192 : (Jvm.Cond.fieldLink "java/util/AbstractList" (7 : Nat) "java/util/AbstractList" "modCount" "I") ∈ lw_all := lw_g (lw_at lw_m1 112 rfl) rfl
theorem q201 : (Jvm.Cond.soleField "java/util/AbstractList" "modCount") ∈ lw_all := lw_g (lw_at lw_m1 121 rfl) rfl

/-! java/util/ArrayList -/
set_option maxRecDepth 100000
def RJ4 : String := "java/util/ArrayList"
def TJ4 : u_T := fun k => match k with
  | 0 => ("java/util/AbstractList", "modCount", "I", false)
  | 1 => ("java/util/ArrayList", "elementData", "[Ljava/lang/Object;", false)
  | _ => ("java/util/ArrayList", "size", "I", false)
def tyJ4 : Nat → FieldType := fun k => match k with
  | 0 => .int
  | 1 => .array (.object "java/lang/Object")
  | _ => .int
abbrev wsJ40 : List Cond := u_ws RJ4 TJ4 3
theorem nmJ4 : ∀ a, a < 3 → ∀ b, b < 3 → a ≠ b → (TJ4 a).2.1 ≠ (TJ4 b).2.1 := by decide +kernel
theorem tyJ4_ok : ∀ k, k < 3 → parseFieldDescriptor (TJ4 k).2.2.1 = some (tyJ4 k) := by decide +kernel
abbrev cJ4_init : ByteArray := prog_45_method_2_code
def yJ4_init : MethodName := ⟨RJ4, "<init>", "()V"⟩
def dkwJ4_init_0 : List UInt8 := [42, 183, 0, 1, 42, 178, 0, 39, 181, 0, 9, 177]
abbrev dktJ4_init_0 : List UInt8 := dkwJ4_init_0 ++ []
theorem dksJ4_init_0 : cJ4_init.data.toList.drop 0 = dktJ4_init_0 := by decide +kernel
theorem dJ4_init_0 : decode cJ4_init 0 = .ok (.aload_n 0, 1) := dk_42 (dk_at dksJ4_init_0 0 rfl rfl)
theorem dJ4_init_1 : decode cJ4_init 1 = .ok (.invokespecial 1, 3) := dk_183 0 1 (dk_at dksJ4_init_0 1 rfl rfl)
theorem dJ4_init_4 : decode cJ4_init 4 = .ok (.aload_n 0, 1) := dk_42 (dk_at dksJ4_init_0 4 rfl rfl)
theorem dJ4_init_5 : decode cJ4_init 5 = .ok (.getstatic 39, 3) := dk_178 0 39 (dk_at dksJ4_init_0 5 rfl rfl)
theorem dJ4_init_8 : decode cJ4_init 8 = .ok (.putfield 9, 3) := dk_181 0 9 (dk_at dksJ4_init_0 8 rfl rfl)
theorem dJ4_init_11 : decode cJ4_init 11 = .ok (.return_, 1) := dk_177 (dk_at dksJ4_init_0 11 rfl rfl)
abbrev cJ4_size : ByteArray := prog_45_method_8_code
def yJ4_size : MethodName := ⟨RJ4, "size", "()I"⟩
theorem dJ4_size_0 : decode cJ4_size 0 = .ok (.aload_n 0, 1) := by decide +kernel
theorem dJ4_size_1 : decode cJ4_size 1 = .ok (.getfield 48, 3) := by decide +kernel
theorem dJ4_size_4 : decode cJ4_size 4 = .ok (.ireturn, 1) := by decide +kernel
abbrev cJ4_iterator : ByteArray := prog_45_method_55_code
def yJ4_iterator : MethodName := ⟨RJ4, "iterator", "()Ljava/util/Iterator;"⟩
def dkwJ4_iterator_0 : List UInt8 := [187, 1, 11, 89, 42, 183, 1, 13, 176]
abbrev dktJ4_iterator_0 : List UInt8 := dkwJ4_iterator_0 ++ []
theorem dksJ4_iterator_0 : cJ4_iterator.data.toList.drop 0 = dktJ4_iterator_0 := by decide +kernel
theorem dJ4_iterator_0 : decode cJ4_iterator 0 = .ok (.new 267, 3) := dk_187 1 11 (dk_at dksJ4_iterator_0 0 rfl rfl)
theorem dJ4_iterator_3 : decode cJ4_iterator 3 = .ok (.dup, 1) := dk_89 (dk_at dksJ4_iterator_0 3 rfl rfl)
theorem dJ4_iterator_4 : decode cJ4_iterator 4 = .ok (.aload_n 0, 1) := dk_42 (dk_at dksJ4_iterator_0 4 rfl rfl)
theorem dJ4_iterator_5 : decode cJ4_iterator 5 = .ok (.invokespecial 269, 3) := dk_183 1 13 (dk_at dksJ4_iterator_0 5 rfl rfl)
theorem dJ4_iterator_8 : decode cJ4_iterator 8 = .ok (.areturn, 1) := dk_176 (dk_at dksJ4_iterator_0 8 rfl rfl)
abbrev cJ4_add : ByteArray := prog_45_method_25_code
def yJ4_add : MethodName := ⟨RJ4, "add", "(Ljava/lang/Object;)Z"⟩
def dkwJ4_add_1 : List UInt8 := [172]
abbrev dktJ4_add_1 : List UInt8 := dkwJ4_add_1 ++ []
def dkwJ4_add_0 : List UInt8 := [42, 89, 180, 0, 63, 4, 96, 181, 0, 63, 42, 43, 42, 180, 0, 9, 42, 180, 0, 48, 182, 0, 131, 4]
abbrev dktJ4_add_0 : List UInt8 := dkwJ4_add_0 ++ dktJ4_add_1
theorem dksJ4_add_0 : cJ4_add.data.toList.drop 0 = dktJ4_add_0 := by decide +kernel
theorem dksJ4_add_1 : cJ4_add.data.toList.drop 24 = dktJ4_add_1 := dk_seg dksJ4_add_0 24 rfl rfl
theorem dJ4_add_0 : decode cJ4_add 0 = .ok (.aload_n 0, 1) := dk_42 (dk_at dksJ4_add_0 0 rfl rfl)
theorem dJ4_add_1 : decode cJ4_add 1 = .ok (.dup, 1) := dk_89 (dk_at dksJ4_add_0 1 rfl rfl)
theorem dJ4_add_2 : decode cJ4_add 2 = .ok (.getfield 63, 3) := dk_180 0 63 (dk_at dksJ4_add_0 2 rfl rfl)
theorem dJ4_add_5 : decode cJ4_add 5 = .ok (.iconst 1, 1) := dk_4 (dk_at dksJ4_add_0 5 rfl rfl)
theorem dJ4_add_6 : decode cJ4_add 6 = .ok (.iadd, 1) := dk_96 (dk_at dksJ4_add_0 6 rfl rfl)
theorem dJ4_add_7 : decode cJ4_add 7 = .ok (.putfield 63, 3) := dk_181 0 63 (dk_at dksJ4_add_0 7 rfl rfl)
theorem dJ4_add_10 : decode cJ4_add 10 = .ok (.aload_n 0, 1) := dk_42 (dk_at dksJ4_add_0 10 rfl rfl)
theorem dJ4_add_11 : decode cJ4_add 11 = .ok (.aload_n 1, 1) := dk_43 (dk_at dksJ4_add_0 11 rfl rfl)
theorem dJ4_add_12 : decode cJ4_add 12 = .ok (.aload_n 0, 1) := dk_42 (dk_at dksJ4_add_0 12 rfl rfl)
theorem dJ4_add_13 : decode cJ4_add 13 = .ok (.getfield 9, 3) := dk_180 0 9 (dk_at dksJ4_add_0 13 rfl rfl)
theorem dJ4_add_16 : decode cJ4_add 16 = .ok (.aload_n 0, 1) := dk_42 (dk_at dksJ4_add_0 16 rfl rfl)
theorem dJ4_add_17 : decode cJ4_add 17 = .ok (.getfield 48, 3) := dk_180 0 48 (dk_at dksJ4_add_0 17 rfl rfl)
theorem dJ4_add_20 : decode cJ4_add 20 = .ok (.invokevirtual 131, 3) := dk_182 0 131 (dk_at dksJ4_add_0 20 rfl rfl)
theorem dJ4_add_23 : decode cJ4_add 23 = .ok (.iconst 1, 1) := dk_4 (dk_at dksJ4_add_0 23 rfl rfl)
theorem dJ4_add_24 : decode cJ4_add 24 = .ok (.ireturn, 1) := dk_172 (dk_at dksJ4_add_1 0 rfl rfl)
abbrev cJ4_add_2 : ByteArray := prog_45_method_24_code
def yJ4_add_2 : MethodName := ⟨RJ4, "add", "(Ljava/lang/Object;[Ljava/lang/Object;I)V"⟩
def dkwJ4_add_2_0 : List UInt8 := [29, 44, 190, 160, 0, 8, 42, 182, 0, 129, 77, 44, 29, 43, 83, 42, 29, 4, 96, 181, 0, 48, 177]
abbrev dktJ4_add_2_0 : List UInt8 := dkwJ4_add_2_0 ++ []
theorem dksJ4_add_2_0 : cJ4_add_2.data.toList.drop 0 = dktJ4_add_2_0 := by decide +kernel
theorem dJ4_add_2_0 : decode cJ4_add_2 0 = .ok (.iload_n 3, 1) := dk_29 (dk_at dksJ4_add_2_0 0 rfl rfl)
theorem dJ4_add_2_1 : decode cJ4_add_2 1 = .ok (.aload_n 2, 1) := dk_44 (dk_at dksJ4_add_2_0 1 rfl rfl)
theorem dJ4_add_2_2 : decode cJ4_add_2 2 = .ok (.arraylength, 1) := dk_190 (dk_at dksJ4_add_2_0 2 rfl rfl)
theorem dJ4_add_2_3 : decode cJ4_add_2 3 = .ok (.if_icmp .ne 8, 3) := dk_160 0 8 (dk_at dksJ4_add_2_0 3 rfl rfl)
theorem dJ4_add_2_6 : decode cJ4_add_2 6 = .ok (.aload_n 0, 1) := dk_42 (dk_at dksJ4_add_2_0 6 rfl rfl)
theorem dJ4_add_2_7 : decode cJ4_add_2 7 = .ok (.invokevirtual 129, 3) := dk_182 0 129 (dk_at dksJ4_add_2_0 7 rfl rfl)
theorem dJ4_add_2_10 : decode cJ4_add_2 10 = .ok (.astore_n 2, 1) := dk_77 (dk_at dksJ4_add_2_0 10 rfl rfl)
theorem dJ4_add_2_11 : decode cJ4_add_2 11 = .ok (.aload_n 2, 1) := dk_44 (dk_at dksJ4_add_2_0 11 rfl rfl)
theorem dJ4_add_2_12 : decode cJ4_add_2 12 = .ok (.iload_n 3, 1) := dk_29 (dk_at dksJ4_add_2_0 12 rfl rfl)
theorem dJ4_add_2_13 : decode cJ4_add_2 13 = .ok (.aload_n 1, 1) := dk_43 (dk_at dksJ4_add_2_0 13 rfl rfl)
theorem dJ4_add_2_14 : decode cJ4_add_2 14 = .ok (.aastore, 1) := dk_83 (dk_at dksJ4_add_2_0 14 rfl rfl)
theorem dJ4_add_2_15 : decode cJ4_add_2 15 = .ok (.aload_n 0, 1) := dk_42 (dk_at dksJ4_add_2_0 15 rfl rfl)
theorem dJ4_add_2_16 : decode cJ4_add_2 16 = .ok (.iload_n 3, 1) := dk_29 (dk_at dksJ4_add_2_0 16 rfl rfl)
theorem dJ4_add_2_17 : decode cJ4_add_2 17 = .ok (.iconst 1, 1) := dk_4 (dk_at dksJ4_add_2_0 17 rfl rfl)
theorem dJ4_add_2_18 : decode cJ4_add_2 18 = .ok (.iadd, 1) := dk_96 (dk_at dksJ4_add_2_0 18 rfl rfl)
theorem dJ4_add_2_19 : decode cJ4_add_2 19 = .ok (.putfield 48, 3) := dk_181 0 48 (dk_at dksJ4_add_2_0 19 rfl rfl)
theorem dJ4_add_2_22 : decode cJ4_add_2 22 = .ok (.return_, 1) := dk_177 (dk_at dksJ4_add_2_0 22 rfl rfl)
abbrev cJ4_grow : ByteArray := prog_45_method_7_code
def yJ4_grow : MethodName := ⟨RJ4, "grow", "()[Ljava/lang/Object;"⟩
def dkwJ4_grow_0 : List UInt8 := [42, 42, 180, 0, 48, 4, 96, 182, 0, 69, 176]
abbrev dktJ4_grow_0 : List UInt8 := dkwJ4_grow_0 ++ []
theorem dksJ4_grow_0 : cJ4_grow.data.toList.drop 0 = dktJ4_grow_0 := by decide +kernel
theorem dJ4_grow_0 : decode cJ4_grow 0 = .ok (.aload_n 0, 1) := dk_42 (dk_at dksJ4_grow_0 0 rfl rfl)
theorem dJ4_grow_1 : decode cJ4_grow 1 = .ok (.aload_n 0, 1) := dk_42 (dk_at dksJ4_grow_0 1 rfl rfl)
theorem dJ4_grow_2 : decode cJ4_grow 2 = .ok (.getfield 48, 3) := dk_180 0 48 (dk_at dksJ4_grow_0 2 rfl rfl)
theorem dJ4_grow_5 : decode cJ4_grow 5 = .ok (.iconst 1, 1) := dk_4 (dk_at dksJ4_grow_0 5 rfl rfl)
theorem dJ4_grow_6 : decode cJ4_grow 6 = .ok (.iadd, 1) := dk_96 (dk_at dksJ4_grow_0 6 rfl rfl)
theorem dJ4_grow_7 : decode cJ4_grow 7 = .ok (.invokevirtual 69, 3) := dk_182 0 69 (dk_at dksJ4_grow_0 7 rfl rfl)
theorem dJ4_grow_10 : decode cJ4_grow 10 = .ok (.areturn, 1) := dk_176 (dk_at dksJ4_grow_0 10 rfl rfl)
abbrev cJ4_grow_2 : ByteArray := prog_45_method_6_code
def yJ4_grow_2 : MethodName := ⟨RJ4, "grow", "(I)[Ljava/lang/Object;"⟩
def dkwJ4_grow_2_2 : List UInt8 := [27, 184, 0, 79, 189, 0, 7, 90, 181, 0, 9, 176]
abbrev dktJ4_grow_2_2 : List UInt8 := dkwJ4_grow_2_2 ++ []
def dkwJ4_grow_2_1 : List UInt8 := [28, 4, 122, 184, 0, 73, 62, 42, 42, 180, 0, 9, 29, 184, 0, 66, 90, 181, 0, 9, 176, 42, 16, 10]
abbrev dktJ4_grow_2_1 : List UInt8 := dkwJ4_grow_2_1 ++ dktJ4_grow_2_2
def dkwJ4_grow_2_0 : List UInt8 := [42, 180, 0, 9, 190, 61, 28, 157, 0, 13, 42, 180, 0, 9, 178, 0, 39, 165, 0, 28, 28, 27, 28, 100]
abbrev dktJ4_grow_2_0 : List UInt8 := dkwJ4_grow_2_0 ++ dktJ4_grow_2_1
theorem dksJ4_grow_2_0 : cJ4_grow_2.data.toList.drop 0 = dktJ4_grow_2_0 := by decide +kernel
theorem dksJ4_grow_2_1 : cJ4_grow_2.data.toList.drop 24 = dktJ4_grow_2_1 := dk_seg dksJ4_grow_2_0 24 rfl rfl
theorem dksJ4_grow_2_2 : cJ4_grow_2.data.toList.drop 48 = dktJ4_grow_2_2 := dk_seg dksJ4_grow_2_1 24 rfl rfl
theorem dJ4_grow_2_0 : decode cJ4_grow_2 0 = .ok (.aload_n 0, 1) := dk_42 (dk_at dksJ4_grow_2_0 0 rfl rfl)
theorem dJ4_grow_2_1 : decode cJ4_grow_2 1 = .ok (.getfield 9, 3) := dk_180 0 9 (dk_at dksJ4_grow_2_0 1 rfl rfl)
theorem dJ4_grow_2_4 : decode cJ4_grow_2 4 = .ok (.arraylength, 1) := dk_190 (dk_at dksJ4_grow_2_0 4 rfl rfl)
theorem dJ4_grow_2_5 : decode cJ4_grow_2 5 = .ok (.istore_n 2, 1) := dk_61 (dk_at dksJ4_grow_2_0 5 rfl rfl)
theorem dJ4_grow_2_6 : decode cJ4_grow_2 6 = .ok (.iload_n 2, 1) := dk_28 (dk_at dksJ4_grow_2_0 6 rfl rfl)
theorem dJ4_grow_2_7 : decode cJ4_grow_2 7 = .ok (.ifCond .gt 13, 3) := dk_157 0 13 (dk_at dksJ4_grow_2_0 7 rfl rfl)
theorem dJ4_grow_2_10 : decode cJ4_grow_2 10 = .ok (.aload_n 0, 1) := dk_42 (dk_at dksJ4_grow_2_0 10 rfl rfl)
theorem dJ4_grow_2_11 : decode cJ4_grow_2 11 = .ok (.getfield 9, 3) := dk_180 0 9 (dk_at dksJ4_grow_2_0 11 rfl rfl)
theorem dJ4_grow_2_14 : decode cJ4_grow_2 14 = .ok (.getstatic 39, 3) := dk_178 0 39 (dk_at dksJ4_grow_2_0 14 rfl rfl)
theorem dJ4_grow_2_17 : decode cJ4_grow_2 17 = .ok (.if_acmp .eq 28, 3) := dk_165 0 28 (dk_at dksJ4_grow_2_0 17 rfl rfl)
theorem dJ4_grow_2_20 : decode cJ4_grow_2 20 = .ok (.iload_n 2, 1) := dk_28 (dk_at dksJ4_grow_2_0 20 rfl rfl)
theorem dJ4_grow_2_21 : decode cJ4_grow_2 21 = .ok (.iload_n 1, 1) := dk_27 (dk_at dksJ4_grow_2_0 21 rfl rfl)
theorem dJ4_grow_2_22 : decode cJ4_grow_2 22 = .ok (.iload_n 2, 1) := dk_28 (dk_at dksJ4_grow_2_0 22 rfl rfl)
theorem dJ4_grow_2_23 : decode cJ4_grow_2 23 = .ok (.isub, 1) := dk_100 (dk_at dksJ4_grow_2_0 23 rfl rfl)
theorem dJ4_grow_2_24 : decode cJ4_grow_2 24 = .ok (.iload_n 2, 1) := dk_28 (dk_at dksJ4_grow_2_1 0 rfl rfl)
theorem dJ4_grow_2_25 : decode cJ4_grow_2 25 = .ok (.iconst 1, 1) := dk_4 (dk_at dksJ4_grow_2_1 1 rfl rfl)
theorem dJ4_grow_2_26 : decode cJ4_grow_2 26 = .ok (.ishr, 1) := dk_122 (dk_at dksJ4_grow_2_1 2 rfl rfl)
theorem dJ4_grow_2_27 : decode cJ4_grow_2 27 = .ok (.invokestatic 73, 3) := dk_184 0 73 (dk_at dksJ4_grow_2_1 3 rfl rfl)
theorem dJ4_grow_2_30 : decode cJ4_grow_2 30 = .ok (.istore_n 3, 1) := dk_62 (dk_at dksJ4_grow_2_1 6 rfl rfl)
theorem dJ4_grow_2_31 : decode cJ4_grow_2 31 = .ok (.aload_n 0, 1) := dk_42 (dk_at dksJ4_grow_2_1 7 rfl rfl)
theorem dJ4_grow_2_32 : decode cJ4_grow_2 32 = .ok (.aload_n 0, 1) := dk_42 (dk_at dksJ4_grow_2_1 8 rfl rfl)
theorem dJ4_grow_2_33 : decode cJ4_grow_2 33 = .ok (.getfield 9, 3) := dk_180 0 9 (dk_at dksJ4_grow_2_1 9 rfl rfl)
theorem dJ4_grow_2_36 : decode cJ4_grow_2 36 = .ok (.iload_n 3, 1) := dk_29 (dk_at dksJ4_grow_2_1 12 rfl rfl)
theorem dJ4_grow_2_37 : decode cJ4_grow_2 37 = .ok (.invokestatic 66, 3) := dk_184 0 66 (dk_at dksJ4_grow_2_1 13 rfl rfl)
theorem dJ4_grow_2_40 : decode cJ4_grow_2 40 = .ok (.dup_x1, 1) := dk_90 (dk_at dksJ4_grow_2_1 16 rfl rfl)
theorem dJ4_grow_2_41 : decode cJ4_grow_2 41 = .ok (.putfield 9, 3) := dk_181 0 9 (dk_at dksJ4_grow_2_1 17 rfl rfl)
theorem dJ4_grow_2_44 : decode cJ4_grow_2 44 = .ok (.areturn, 1) := dk_176 (dk_at dksJ4_grow_2_1 20 rfl rfl)
theorem dJ4_grow_2_45 : decode cJ4_grow_2 45 = .ok (.aload_n 0, 1) := dk_42 (dk_at dksJ4_grow_2_1 21 rfl rfl)
theorem dJ4_grow_2_46 : decode cJ4_grow_2 46 = .ok (.bipush 10, 2) := dk_16 10 (dk_at dksJ4_grow_2_1 22 rfl rfl)
theorem dJ4_grow_2_48 : decode cJ4_grow_2 48 = .ok (.iload_n 1, 1) := dk_27 (dk_at dksJ4_grow_2_2 0 rfl rfl)
theorem dJ4_grow_2_49 : decode cJ4_grow_2 49 = .ok (.invokestatic 79, 3) := dk_184 0 79 (dk_at dksJ4_grow_2_2 1 rfl rfl)
theorem dJ4_grow_2_52 : decode cJ4_grow_2 52 = .ok (.anewarray 7, 3) := dk_189 0 7 (dk_at dksJ4_grow_2_2 4 rfl rfl)
theorem dJ4_grow_2_55 : decode cJ4_grow_2 55 = .ok (.dup_x1, 1) := dk_90 (dk_at dksJ4_grow_2_2 7 rfl rfl)
theorem dJ4_grow_2_56 : decode cJ4_grow_2 56 = .ok (.putfield 9, 3) := dk_181 0 9 (dk_at dksJ4_grow_2_2 8 rfl rfl)
theorem dJ4_grow_2_59 : decode cJ4_grow_2 59 = .ok (.areturn, 1) := dk_176 (dk_at dksJ4_grow_2_2 11 rfl rfl)
abbrev cJ4_get : ByteArray := prog_45_method_20_code
def yJ4_get : MethodName := ⟨RJ4, "get", "(I)Ljava/lang/Object;"⟩
def dkwJ4_get_0 : List UInt8 := [27, 42, 180, 0, 48, 184, 0, 118, 87, 42, 27, 182, 0, 123, 176]
abbrev dktJ4_get_0 : List UInt8 := dkwJ4_get_0 ++ []
theorem dksJ4_get_0 : cJ4_get.data.toList.drop 0 = dktJ4_get_0 := by decide +kernel
theorem dJ4_get_0 : decode cJ4_get 0 = .ok (.iload_n 1, 1) := dk_27 (dk_at dksJ4_get_0 0 rfl rfl)
theorem dJ4_get_1 : decode cJ4_get 1 = .ok (.aload_n 0, 1) := dk_42 (dk_at dksJ4_get_0 1 rfl rfl)
theorem dJ4_get_2 : decode cJ4_get 2 = .ok (.getfield 48, 3) := dk_180 0 48 (dk_at dksJ4_get_0 2 rfl rfl)
theorem dJ4_get_5 : decode cJ4_get 5 = .ok (.invokestatic 118, 3) := dk_184 0 118 (dk_at dksJ4_get_0 5 rfl rfl)
theorem dJ4_get_8 : decode cJ4_get 8 = .ok (.pop, 1) := dk_87 (dk_at dksJ4_get_0 8 rfl rfl)
theorem dJ4_get_9 : decode cJ4_get 9 = .ok (.aload_n 0, 1) := dk_42 (dk_at dksJ4_get_0 9 rfl rfl)
theorem dJ4_get_10 : decode cJ4_get 10 = .ok (.iload_n 1, 1) := dk_27 (dk_at dksJ4_get_0 10 rfl rfl)
theorem dJ4_get_11 : decode cJ4_get 11 = .ok (.invokevirtual 123, 3) := dk_182 0 123 (dk_at dksJ4_get_0 11 rfl rfl)
theorem dJ4_get_14 : decode cJ4_get 14 = .ok (.areturn, 1) := dk_176 (dk_at dksJ4_get_0 14 rfl rfl)
abbrev cJ4_elementData : ByteArray := prog_45_method_18_code
def yJ4_elementData : MethodName := ⟨RJ4, "elementData", "(I)Ljava/lang/Object;"⟩
def dkwJ4_elementData_0 : List UInt8 := [42, 180, 0, 9, 27, 50, 176]
abbrev dktJ4_elementData_0 : List UInt8 := dkwJ4_elementData_0 ++ []
theorem dksJ4_elementData_0 : cJ4_elementData.data.toList.drop 0 = dktJ4_elementData_0 := by decide +kernel
theorem dJ4_elementData_0 : decode cJ4_elementData 0 = .ok (.aload_n 0, 1) := dk_42 (dk_at dksJ4_elementData_0 0 rfl rfl)
theorem dJ4_elementData_1 : decode cJ4_elementData 1 = .ok (.getfield 9, 3) := dk_180 0 9 (dk_at dksJ4_elementData_0 1 rfl rfl)
theorem dJ4_elementData_4 : decode cJ4_elementData 4 = .ok (.iload_n 1, 1) := dk_27 (dk_at dksJ4_elementData_0 4 rfl rfl)
theorem dJ4_elementData_5 : decode cJ4_elementData 5 = .ok (.aaload, 1) := dk_50 (dk_at dksJ4_elementData_0 5 rfl rfl)
theorem dJ4_elementData_6 : decode cJ4_elementData 6 = .ok (.areturn, 1) := dk_176 (dk_at dksJ4_elementData_0 6 rfl rfl)
abbrev cJ4_remove : ByteArray := prog_45_method_38_code
def yJ4_remove : MethodName := ⟨RJ4, "remove", "(Ljava/lang/Object;)Z"⟩
def dkwJ4_remove_3 : List UInt8 := [182, 0, 144, 4, 172]
abbrev dktJ4_remove_3 : List UInt8 := dkwJ4_remove_3 ++ []
def dkwJ4_remove_2 : List UInt8 := [21, 4, 50, 182, 0, 93, 153, 0, 6, 167, 0, 11, 132, 4, 1, 167, 255, 233, 3, 172, 42, 44, 21, 4]
abbrev dktJ4_remove_2 : List UInt8 := dkwJ4_remove_2 ++ dktJ4_remove_3
def dkwJ4_remove_1 : List UInt8 := [21, 4, 50, 199, 0, 6, 167, 0, 37, 132, 4, 1, 167, 255, 237, 21, 4, 29, 162, 0, 23, 43, 44]
abbrev dktJ4_remove_1 : List UInt8 := dkwJ4_remove_1 ++ dktJ4_remove_2
def dkwJ4_remove_0 : List UInt8 := [42, 180, 0, 9, 77, 42, 180, 0, 48, 62, 3, 54, 4, 43, 199, 0, 25, 21, 4, 29, 162, 0, 45, 44]
abbrev dktJ4_remove_0 : List UInt8 := dkwJ4_remove_0 ++ dktJ4_remove_1
theorem dksJ4_remove_0 : cJ4_remove.data.toList.drop 0 = dktJ4_remove_0 := by decide +kernel
theorem dksJ4_remove_1 : cJ4_remove.data.toList.drop 24 = dktJ4_remove_1 := dk_seg dksJ4_remove_0 24 rfl rfl
theorem dksJ4_remove_2 : cJ4_remove.data.toList.drop 47 = dktJ4_remove_2 := dk_seg dksJ4_remove_1 23 rfl rfl
theorem dksJ4_remove_3 : cJ4_remove.data.toList.drop 71 = dktJ4_remove_3 := dk_seg dksJ4_remove_2 24 rfl rfl
theorem dJ4_remove_0 : decode cJ4_remove 0 = .ok (.aload_n 0, 1) := dk_42 (dk_at dksJ4_remove_0 0 rfl rfl)
theorem dJ4_remove_1 : decode cJ4_remove 1 = .ok (.getfield 9, 3) := dk_180 0 9 (dk_at dksJ4_remove_0 1 rfl rfl)
theorem dJ4_remove_4 : decode cJ4_remove 4 = .ok (.astore_n 2, 1) := dk_77 (dk_at dksJ4_remove_0 4 rfl rfl)
theorem dJ4_remove_5 : decode cJ4_remove 5 = .ok (.aload_n 0, 1) := dk_42 (dk_at dksJ4_remove_0 5 rfl rfl)
theorem dJ4_remove_6 : decode cJ4_remove 6 = .ok (.getfield 48, 3) := dk_180 0 48 (dk_at dksJ4_remove_0 6 rfl rfl)
theorem dJ4_remove_9 : decode cJ4_remove 9 = .ok (.istore_n 3, 1) := dk_62 (dk_at dksJ4_remove_0 9 rfl rfl)
theorem dJ4_remove_10 : decode cJ4_remove 10 = .ok (.iconst 0, 1) := dk_3 (dk_at dksJ4_remove_0 10 rfl rfl)
theorem dJ4_remove_11 : decode cJ4_remove 11 = .ok (.istore 4, 2) := dk_54 4 (dk_at dksJ4_remove_0 11 rfl rfl)
theorem dJ4_remove_13 : decode cJ4_remove 13 = .ok (.aload_n 1, 1) := dk_43 (dk_at dksJ4_remove_0 13 rfl rfl)
theorem dJ4_remove_14 : decode cJ4_remove 14 = .ok (.ifnonnull 25, 3) := dk_199 0 25 (dk_at dksJ4_remove_0 14 rfl rfl)
theorem dJ4_remove_17 : decode cJ4_remove 17 = .ok (.iload 4, 2) := dk_21 4 (dk_at dksJ4_remove_0 17 rfl rfl)
theorem dJ4_remove_19 : decode cJ4_remove 19 = .ok (.iload_n 3, 1) := dk_29 (dk_at dksJ4_remove_0 19 rfl rfl)
theorem dJ4_remove_20 : decode cJ4_remove 20 = .ok (.if_icmp .ge 45, 3) := dk_162 0 45 (dk_at dksJ4_remove_0 20 rfl rfl)
theorem dJ4_remove_23 : decode cJ4_remove 23 = .ok (.aload_n 2, 1) := dk_44 (dk_at dksJ4_remove_0 23 rfl rfl)
theorem dJ4_remove_24 : decode cJ4_remove 24 = .ok (.iload 4, 2) := dk_21 4 (dk_at dksJ4_remove_1 0 rfl rfl)
theorem dJ4_remove_26 : decode cJ4_remove 26 = .ok (.aaload, 1) := dk_50 (dk_at dksJ4_remove_1 2 rfl rfl)
theorem dJ4_remove_27 : decode cJ4_remove 27 = .ok (.ifnonnull 6, 3) := dk_199 0 6 (dk_at dksJ4_remove_1 3 rfl rfl)
theorem dJ4_remove_30 : decode cJ4_remove 30 = .ok (.goto 37, 3) := dk_167 0 37 (dk_at dksJ4_remove_1 6 rfl rfl)
theorem dJ4_remove_33 : decode cJ4_remove 33 = .ok (.iinc 4 1, 3) := dk_132 4 1 (dk_at dksJ4_remove_1 9 rfl rfl)
theorem dJ4_remove_36 : decode cJ4_remove 36 = .ok (.goto (-19), 3) := dk_167 255 237 (dk_at dksJ4_remove_1 12 rfl rfl)
theorem dJ4_remove_39 : decode cJ4_remove 39 = .ok (.iload 4, 2) := dk_21 4 (dk_at dksJ4_remove_1 15 rfl rfl)
theorem dJ4_remove_41 : decode cJ4_remove 41 = .ok (.iload_n 3, 1) := dk_29 (dk_at dksJ4_remove_1 17 rfl rfl)
theorem dJ4_remove_42 : decode cJ4_remove 42 = .ok (.if_icmp .ge 23, 3) := dk_162 0 23 (dk_at dksJ4_remove_1 18 rfl rfl)
theorem dJ4_remove_45 : decode cJ4_remove 45 = .ok (.aload_n 1, 1) := dk_43 (dk_at dksJ4_remove_1 21 rfl rfl)
theorem dJ4_remove_46 : decode cJ4_remove 46 = .ok (.aload_n 2, 1) := dk_44 (dk_at dksJ4_remove_1 22 rfl rfl)
theorem dJ4_remove_47 : decode cJ4_remove 47 = .ok (.iload 4, 2) := dk_21 4 (dk_at dksJ4_remove_2 0 rfl rfl)
theorem dJ4_remove_49 : decode cJ4_remove 49 = .ok (.aaload, 1) := dk_50 (dk_at dksJ4_remove_2 2 rfl rfl)
theorem dJ4_remove_50 : decode cJ4_remove 50 = .ok (.invokevirtual 93, 3) := dk_182 0 93 (dk_at dksJ4_remove_2 3 rfl rfl)
theorem dJ4_remove_53 : decode cJ4_remove 53 = .ok (.ifCond .eq 6, 3) := dk_153 0 6 (dk_at dksJ4_remove_2 6 rfl rfl)
theorem dJ4_remove_56 : decode cJ4_remove 56 = .ok (.goto 11, 3) := dk_167 0 11 (dk_at dksJ4_remove_2 9 rfl rfl)
theorem dJ4_remove_59 : decode cJ4_remove 59 = .ok (.iinc 4 1, 3) := dk_132 4 1 (dk_at dksJ4_remove_2 12 rfl rfl)
theorem dJ4_remove_62 : decode cJ4_remove 62 = .ok (.goto (-23), 3) := dk_167 255 233 (dk_at dksJ4_remove_2 15 rfl rfl)
theorem dJ4_remove_65 : decode cJ4_remove 65 = .ok (.iconst 0, 1) := dk_3 (dk_at dksJ4_remove_2 18 rfl rfl)
theorem dJ4_remove_66 : decode cJ4_remove 66 = .ok (.ireturn, 1) := dk_172 (dk_at dksJ4_remove_2 19 rfl rfl)
theorem dJ4_remove_67 : decode cJ4_remove 67 = .ok (.aload_n 0, 1) := dk_42 (dk_at dksJ4_remove_2 20 rfl rfl)
theorem dJ4_remove_68 : decode cJ4_remove 68 = .ok (.aload_n 2, 1) := dk_44 (dk_at dksJ4_remove_2 21 rfl rfl)
theorem dJ4_remove_69 : decode cJ4_remove 69 = .ok (.iload 4, 2) := dk_21 4 (dk_at dksJ4_remove_2 22 rfl rfl)
theorem dJ4_remove_71 : decode cJ4_remove 71 = .ok (.invokevirtual 144, 3) := dk_182 0 144 (dk_at dksJ4_remove_3 0 rfl rfl)
theorem dJ4_remove_74 : decode cJ4_remove 74 = .ok (.iconst 1, 1) := dk_4 (dk_at dksJ4_remove_3 3 rfl rfl)
theorem dJ4_remove_75 : decode cJ4_remove 75 = .ok (.ireturn, 1) := dk_172 (dk_at dksJ4_remove_3 4 rfl rfl)
abbrev cJ4_fastRemove : ByteArray := prog_45_method_39_code
def yJ4_fastRemove : MethodName := ⟨RJ4, "fastRemove", "([Ljava/lang/Object;I)V"⟩
def dkwJ4_fastRemove_1 : List UInt8 := [4, 96, 43, 28, 29, 28, 100, 184, 0, 112, 43, 42, 29, 90, 181, 0, 48, 1, 83, 177]
abbrev dktJ4_fastRemove_1 : List UInt8 := dkwJ4_fastRemove_1 ++ []
def dkwJ4_fastRemove_0 : List UInt8 := [42, 89, 180, 0, 63, 4, 96, 181, 0, 63, 42, 180, 0, 48, 4, 100, 89, 62, 28, 164, 0, 15, 43, 28]
abbrev dktJ4_fastRemove_0 : List UInt8 := dkwJ4_fastRemove_0 ++ dktJ4_fastRemove_1
theorem dksJ4_fastRemove_0 : cJ4_fastRemove.data.toList.drop 0 = dktJ4_fastRemove_0 := by decide +kernel
theorem dksJ4_fastRemove_1 : cJ4_fastRemove.data.toList.drop 24 = dktJ4_fastRemove_1 := dk_seg dksJ4_fastRemove_0 24 rfl rfl
theorem dJ4_fastRemove_0 : decode cJ4_fastRemove 0 = .ok (.aload_n 0, 1) := dk_42 (dk_at dksJ4_fastRemove_0 0 rfl rfl)
theorem dJ4_fastRemove_1 : decode cJ4_fastRemove 1 = .ok (.dup, 1) := dk_89 (dk_at dksJ4_fastRemove_0 1 rfl rfl)
theorem dJ4_fastRemove_2 : decode cJ4_fastRemove 2 = .ok (.getfield 63, 3) := dk_180 0 63 (dk_at dksJ4_fastRemove_0 2 rfl rfl)
theorem dJ4_fastRemove_5 : decode cJ4_fastRemove 5 = .ok (.iconst 1, 1) := dk_4 (dk_at dksJ4_fastRemove_0 5 rfl rfl)
theorem dJ4_fastRemove_6 : decode cJ4_fastRemove 6 = .ok (.iadd, 1) := dk_96 (dk_at dksJ4_fastRemove_0 6 rfl rfl)
theorem dJ4_fastRemove_7 : decode cJ4_fastRemove 7 = .ok (.putfield 63, 3) := dk_181 0 63 (dk_at dksJ4_fastRemove_0 7 rfl rfl)
theorem dJ4_fastRemove_10 : decode cJ4_fastRemove 10 = .ok (.aload_n 0, 1) := dk_42 (dk_at dksJ4_fastRemove_0 10 rfl rfl)
theorem dJ4_fastRemove_11 : decode cJ4_fastRemove 11 = .ok (.getfield 48, 3) := dk_180 0 48 (dk_at dksJ4_fastRemove_0 11 rfl rfl)
theorem dJ4_fastRemove_14 : decode cJ4_fastRemove 14 = .ok (.iconst 1, 1) := dk_4 (dk_at dksJ4_fastRemove_0 14 rfl rfl)
theorem dJ4_fastRemove_15 : decode cJ4_fastRemove 15 = .ok (.isub, 1) := dk_100 (dk_at dksJ4_fastRemove_0 15 rfl rfl)
theorem dJ4_fastRemove_16 : decode cJ4_fastRemove 16 = .ok (.dup, 1) := dk_89 (dk_at dksJ4_fastRemove_0 16 rfl rfl)
theorem dJ4_fastRemove_17 : decode cJ4_fastRemove 17 = .ok (.istore_n 3, 1) := dk_62 (dk_at dksJ4_fastRemove_0 17 rfl rfl)
theorem dJ4_fastRemove_18 : decode cJ4_fastRemove 18 = .ok (.iload_n 2, 1) := dk_28 (dk_at dksJ4_fastRemove_0 18 rfl rfl)
theorem dJ4_fastRemove_19 : decode cJ4_fastRemove 19 = .ok (.if_icmp .le 15, 3) := dk_164 0 15 (dk_at dksJ4_fastRemove_0 19 rfl rfl)
theorem dJ4_fastRemove_22 : decode cJ4_fastRemove 22 = .ok (.aload_n 1, 1) := dk_43 (dk_at dksJ4_fastRemove_0 22 rfl rfl)
theorem dJ4_fastRemove_23 : decode cJ4_fastRemove 23 = .ok (.iload_n 2, 1) := dk_28 (dk_at dksJ4_fastRemove_0 23 rfl rfl)
theorem dJ4_fastRemove_24 : decode cJ4_fastRemove 24 = .ok (.iconst 1, 1) := dk_4 (dk_at dksJ4_fastRemove_1 0 rfl rfl)
theorem dJ4_fastRemove_25 : decode cJ4_fastRemove 25 = .ok (.iadd, 1) := dk_96 (dk_at dksJ4_fastRemove_1 1 rfl rfl)
theorem dJ4_fastRemove_26 : decode cJ4_fastRemove 26 = .ok (.aload_n 1, 1) := dk_43 (dk_at dksJ4_fastRemove_1 2 rfl rfl)
theorem dJ4_fastRemove_27 : decode cJ4_fastRemove 27 = .ok (.iload_n 2, 1) := dk_28 (dk_at dksJ4_fastRemove_1 3 rfl rfl)
theorem dJ4_fastRemove_28 : decode cJ4_fastRemove 28 = .ok (.iload_n 3, 1) := dk_29 (dk_at dksJ4_fastRemove_1 4 rfl rfl)
theorem dJ4_fastRemove_29 : decode cJ4_fastRemove 29 = .ok (.iload_n 2, 1) := dk_28 (dk_at dksJ4_fastRemove_1 5 rfl rfl)
theorem dJ4_fastRemove_30 : decode cJ4_fastRemove 30 = .ok (.isub, 1) := dk_100 (dk_at dksJ4_fastRemove_1 6 rfl rfl)
theorem dJ4_fastRemove_31 : decode cJ4_fastRemove 31 = .ok (.invokestatic 112, 3) := dk_184 0 112 (dk_at dksJ4_fastRemove_1 7 rfl rfl)
theorem dJ4_fastRemove_34 : decode cJ4_fastRemove 34 = .ok (.aload_n 1, 1) := dk_43 (dk_at dksJ4_fastRemove_1 10 rfl rfl)
theorem dJ4_fastRemove_35 : decode cJ4_fastRemove 35 = .ok (.aload_n 0, 1) := dk_42 (dk_at dksJ4_fastRemove_1 11 rfl rfl)
theorem dJ4_fastRemove_36 : decode cJ4_fastRemove 36 = .ok (.iload_n 3, 1) := dk_29 (dk_at dksJ4_fastRemove_1 12 rfl rfl)
theorem dJ4_fastRemove_37 : decode cJ4_fastRemove 37 = .ok (.dup_x1, 1) := dk_90 (dk_at dksJ4_fastRemove_1 13 rfl rfl)
theorem dJ4_fastRemove_38 : decode cJ4_fastRemove 38 = .ok (.putfield 48, 3) := dk_181 0 48 (dk_at dksJ4_fastRemove_1 14 rfl rfl)
theorem dJ4_fastRemove_41 : decode cJ4_fastRemove 41 = .ok (.aconst_null, 1) := dk_1 (dk_at dksJ4_fastRemove_1 17 rfl rfl)
theorem dJ4_fastRemove_42 : decode cJ4_fastRemove 42 = .ok (.aastore, 1) := dk_83 (dk_at dksJ4_fastRemove_1 18 rfl rfl)
theorem dJ4_fastRemove_43 : decode cJ4_fastRemove 43 = .ok (.return_, 1) := dk_177 (dk_at dksJ4_fastRemove_1 19 rfl rfl)
abbrev cJ4_remove_2 : ByteArray := prog_45_method_29_code
def yJ4_remove_2 : MethodName := ⟨RJ4, "remove", "(I)Ljava/lang/Object;"⟩
def dkwJ4_remove_2_1 : List UInt8 := [45, 176]
abbrev dktJ4_remove_2_1 : List UInt8 := dkwJ4_remove_2_1 ++ []
def dkwJ4_remove_2_0 : List UInt8 := [27, 42, 180, 0, 48, 184, 0, 118, 87, 42, 180, 0, 9, 77, 44, 27, 50, 78, 42, 44, 27, 182, 0, 144]
abbrev dktJ4_remove_2_0 : List UInt8 := dkwJ4_remove_2_0 ++ dktJ4_remove_2_1
theorem dksJ4_remove_2_0 : cJ4_remove_2.data.toList.drop 0 = dktJ4_remove_2_0 := by decide +kernel
theorem dksJ4_remove_2_1 : cJ4_remove_2.data.toList.drop 24 = dktJ4_remove_2_1 := dk_seg dksJ4_remove_2_0 24 rfl rfl
theorem dJ4_remove_2_0 : decode cJ4_remove_2 0 = .ok (.iload_n 1, 1) := dk_27 (dk_at dksJ4_remove_2_0 0 rfl rfl)
theorem dJ4_remove_2_1 : decode cJ4_remove_2 1 = .ok (.aload_n 0, 1) := dk_42 (dk_at dksJ4_remove_2_0 1 rfl rfl)
theorem dJ4_remove_2_2 : decode cJ4_remove_2 2 = .ok (.getfield 48, 3) := dk_180 0 48 (dk_at dksJ4_remove_2_0 2 rfl rfl)
theorem dJ4_remove_2_5 : decode cJ4_remove_2 5 = .ok (.invokestatic 118, 3) := dk_184 0 118 (dk_at dksJ4_remove_2_0 5 rfl rfl)
theorem dJ4_remove_2_8 : decode cJ4_remove_2 8 = .ok (.pop, 1) := dk_87 (dk_at dksJ4_remove_2_0 8 rfl rfl)
theorem dJ4_remove_2_9 : decode cJ4_remove_2 9 = .ok (.aload_n 0, 1) := dk_42 (dk_at dksJ4_remove_2_0 9 rfl rfl)
theorem dJ4_remove_2_10 : decode cJ4_remove_2 10 = .ok (.getfield 9, 3) := dk_180 0 9 (dk_at dksJ4_remove_2_0 10 rfl rfl)
theorem dJ4_remove_2_13 : decode cJ4_remove_2 13 = .ok (.astore_n 2, 1) := dk_77 (dk_at dksJ4_remove_2_0 13 rfl rfl)
theorem dJ4_remove_2_14 : decode cJ4_remove_2 14 = .ok (.aload_n 2, 1) := dk_44 (dk_at dksJ4_remove_2_0 14 rfl rfl)
theorem dJ4_remove_2_15 : decode cJ4_remove_2 15 = .ok (.iload_n 1, 1) := dk_27 (dk_at dksJ4_remove_2_0 15 rfl rfl)
theorem dJ4_remove_2_16 : decode cJ4_remove_2 16 = .ok (.aaload, 1) := dk_50 (dk_at dksJ4_remove_2_0 16 rfl rfl)
theorem dJ4_remove_2_17 : decode cJ4_remove_2 17 = .ok (.astore_n 3, 1) := dk_78 (dk_at dksJ4_remove_2_0 17 rfl rfl)
theorem dJ4_remove_2_18 : decode cJ4_remove_2 18 = .ok (.aload_n 0, 1) := dk_42 (dk_at dksJ4_remove_2_0 18 rfl rfl)
theorem dJ4_remove_2_19 : decode cJ4_remove_2 19 = .ok (.aload_n 2, 1) := dk_44 (dk_at dksJ4_remove_2_0 19 rfl rfl)
theorem dJ4_remove_2_20 : decode cJ4_remove_2 20 = .ok (.iload_n 1, 1) := dk_27 (dk_at dksJ4_remove_2_0 20 rfl rfl)
theorem dJ4_remove_2_21 : decode cJ4_remove_2 21 = .ok (.invokevirtual 144, 3) := dk_182 0 144 (dk_at dksJ4_remove_2_0 21 rfl rfl)
theorem dJ4_remove_2_24 : decode cJ4_remove_2 24 = .ok (.aload_n 3, 1) := dk_45 (dk_at dksJ4_remove_2_1 0 rfl rfl)
theorem dJ4_remove_2_25 : decode cJ4_remove_2 25 = .ok (.areturn, 1) := dk_176 (dk_at dksJ4_remove_2_1 1 rfl rfl)
abbrev cJ4_add_3 : ByteArray := prog_45_method_26_code
def yJ4_add_3 : MethodName := ⟨RJ4, "add", "(ILjava/lang/Object;)V"⟩
def dkwJ4_add_3_2 : List UInt8 := [29, 27, 100, 184, 0, 112, 25, 4, 27, 44, 83, 42, 29, 4, 96, 181, 0, 48, 177]
abbrev dktJ4_add_3_2 : List UInt8 := dkwJ4_add_3_2 ++ []
def dkwJ4_add_3_1 : List UInt8 := [180, 0, 9, 89, 58, 4, 190, 160, 0, 9, 42, 182, 0, 129, 58, 4, 25, 4, 27, 25, 4, 27, 4, 96]
abbrev dktJ4_add_3_1 : List UInt8 := dkwJ4_add_3_1 ++ dktJ4_add_3_2
def dkwJ4_add_3_0 : List UInt8 := [42, 27, 182, 0, 135, 42, 89, 180, 0, 63, 4, 96, 181, 0, 63, 42, 180, 0, 48, 89, 62, 42]
abbrev dktJ4_add_3_0 : List UInt8 := dkwJ4_add_3_0 ++ dktJ4_add_3_1
theorem dksJ4_add_3_0 : cJ4_add_3.data.toList.drop 0 = dktJ4_add_3_0 := by decide +kernel
theorem dksJ4_add_3_1 : cJ4_add_3.data.toList.drop 22 = dktJ4_add_3_1 := dk_seg dksJ4_add_3_0 22 rfl rfl
theorem dksJ4_add_3_2 : cJ4_add_3.data.toList.drop 46 = dktJ4_add_3_2 := dk_seg dksJ4_add_3_1 24 rfl rfl
theorem dJ4_add_3_0 : decode cJ4_add_3 0 = .ok (.aload_n 0, 1) := dk_42 (dk_at dksJ4_add_3_0 0 rfl rfl)
theorem dJ4_add_3_1 : decode cJ4_add_3 1 = .ok (.iload_n 1, 1) := dk_27 (dk_at dksJ4_add_3_0 1 rfl rfl)
theorem dJ4_add_3_2 : decode cJ4_add_3 2 = .ok (.invokevirtual 135, 3) := dk_182 0 135 (dk_at dksJ4_add_3_0 2 rfl rfl)
theorem dJ4_add_3_5 : decode cJ4_add_3 5 = .ok (.aload_n 0, 1) := dk_42 (dk_at dksJ4_add_3_0 5 rfl rfl)
theorem dJ4_add_3_6 : decode cJ4_add_3 6 = .ok (.dup, 1) := dk_89 (dk_at dksJ4_add_3_0 6 rfl rfl)
theorem dJ4_add_3_7 : decode cJ4_add_3 7 = .ok (.getfield 63, 3) := dk_180 0 63 (dk_at dksJ4_add_3_0 7 rfl rfl)
theorem dJ4_add_3_10 : decode cJ4_add_3 10 = .ok (.iconst 1, 1) := dk_4 (dk_at dksJ4_add_3_0 10 rfl rfl)
theorem dJ4_add_3_11 : decode cJ4_add_3 11 = .ok (.iadd, 1) := dk_96 (dk_at dksJ4_add_3_0 11 rfl rfl)
theorem dJ4_add_3_12 : decode cJ4_add_3 12 = .ok (.putfield 63, 3) := dk_181 0 63 (dk_at dksJ4_add_3_0 12 rfl rfl)
theorem dJ4_add_3_15 : decode cJ4_add_3 15 = .ok (.aload_n 0, 1) := dk_42 (dk_at dksJ4_add_3_0 15 rfl rfl)
theorem dJ4_add_3_16 : decode cJ4_add_3 16 = .ok (.getfield 48, 3) := dk_180 0 48 (dk_at dksJ4_add_3_0 16 rfl rfl)
theorem dJ4_add_3_19 : decode cJ4_add_3 19 = .ok (.dup, 1) := dk_89 (dk_at dksJ4_add_3_0 19 rfl rfl)
theorem dJ4_add_3_20 : decode cJ4_add_3 20 = .ok (.istore_n 3, 1) := dk_62 (dk_at dksJ4_add_3_0 20 rfl rfl)
theorem dJ4_add_3_21 : decode cJ4_add_3 21 = .ok (.aload_n 0, 1) := dk_42 (dk_at dksJ4_add_3_0 21 rfl rfl)
theorem dJ4_add_3_22 : decode cJ4_add_3 22 = .ok (.getfield 9, 3) := dk_180 0 9 (dk_at dksJ4_add_3_1 0 rfl rfl)
theorem dJ4_add_3_25 : decode cJ4_add_3 25 = .ok (.dup, 1) := dk_89 (dk_at dksJ4_add_3_1 3 rfl rfl)
theorem dJ4_add_3_26 : decode cJ4_add_3 26 = .ok (.astore 4, 2) := dk_58 4 (dk_at dksJ4_add_3_1 4 rfl rfl)
theorem dJ4_add_3_28 : decode cJ4_add_3 28 = .ok (.arraylength, 1) := dk_190 (dk_at dksJ4_add_3_1 6 rfl rfl)
theorem dJ4_add_3_29 : decode cJ4_add_3 29 = .ok (.if_icmp .ne 9, 3) := dk_160 0 9 (dk_at dksJ4_add_3_1 7 rfl rfl)
theorem dJ4_add_3_32 : decode cJ4_add_3 32 = .ok (.aload_n 0, 1) := dk_42 (dk_at dksJ4_add_3_1 10 rfl rfl)
theorem dJ4_add_3_33 : decode cJ4_add_3 33 = .ok (.invokevirtual 129, 3) := dk_182 0 129 (dk_at dksJ4_add_3_1 11 rfl rfl)
theorem dJ4_add_3_36 : decode cJ4_add_3 36 = .ok (.astore 4, 2) := dk_58 4 (dk_at dksJ4_add_3_1 14 rfl rfl)
theorem dJ4_add_3_38 : decode cJ4_add_3 38 = .ok (.aload 4, 2) := dk_25 4 (dk_at dksJ4_add_3_1 16 rfl rfl)
theorem dJ4_add_3_40 : decode cJ4_add_3 40 = .ok (.iload_n 1, 1) := dk_27 (dk_at dksJ4_add_3_1 18 rfl rfl)
theorem dJ4_add_3_41 : decode cJ4_add_3 41 = .ok (.aload 4, 2) := dk_25 4 (dk_at dksJ4_add_3_1 19 rfl rfl)
theorem dJ4_add_3_43 : decode cJ4_add_3 43 = .ok (.iload_n 1, 1) := dk_27 (dk_at dksJ4_add_3_1 21 rfl rfl)
theorem dJ4_add_3_44 : decode cJ4_add_3 44 = .ok (.iconst 1, 1) := dk_4 (dk_at dksJ4_add_3_1 22 rfl rfl)
theorem dJ4_add_3_45 : decode cJ4_add_3 45 = .ok (.iadd, 1) := dk_96 (dk_at dksJ4_add_3_1 23 rfl rfl)
theorem dJ4_add_3_46 : decode cJ4_add_3 46 = .ok (.iload_n 3, 1) := dk_29 (dk_at dksJ4_add_3_2 0 rfl rfl)
theorem dJ4_add_3_47 : decode cJ4_add_3 47 = .ok (.iload_n 1, 1) := dk_27 (dk_at dksJ4_add_3_2 1 rfl rfl)
theorem dJ4_add_3_48 : decode cJ4_add_3 48 = .ok (.isub, 1) := dk_100 (dk_at dksJ4_add_3_2 2 rfl rfl)
theorem dJ4_add_3_49 : decode cJ4_add_3 49 = .ok (.invokestatic 112, 3) := dk_184 0 112 (dk_at dksJ4_add_3_2 3 rfl rfl)
theorem dJ4_add_3_52 : decode cJ4_add_3 52 = .ok (.aload 4, 2) := dk_25 4 (dk_at dksJ4_add_3_2 6 rfl rfl)
theorem dJ4_add_3_54 : decode cJ4_add_3 54 = .ok (.iload_n 1, 1) := dk_27 (dk_at dksJ4_add_3_2 8 rfl rfl)
theorem dJ4_add_3_55 : decode cJ4_add_3 55 = .ok (.aload_n 2, 1) := dk_44 (dk_at dksJ4_add_3_2 9 rfl rfl)
theorem dJ4_add_3_56 : decode cJ4_add_3 56 = .ok (.aastore, 1) := dk_83 (dk_at dksJ4_add_3_2 10 rfl rfl)
theorem dJ4_add_3_57 : decode cJ4_add_3 57 = .ok (.aload_n 0, 1) := dk_42 (dk_at dksJ4_add_3_2 11 rfl rfl)
theorem dJ4_add_3_58 : decode cJ4_add_3 58 = .ok (.iload_n 3, 1) := dk_29 (dk_at dksJ4_add_3_2 12 rfl rfl)
theorem dJ4_add_3_59 : decode cJ4_add_3 59 = .ok (.iconst 1, 1) := dk_4 (dk_at dksJ4_add_3_2 13 rfl rfl)
theorem dJ4_add_3_60 : decode cJ4_add_3 60 = .ok (.iadd, 1) := dk_96 (dk_at dksJ4_add_3_2 14 rfl rfl)
theorem dJ4_add_3_61 : decode cJ4_add_3 61 = .ok (.putfield 48, 3) := dk_181 0 48 (dk_at dksJ4_add_3_2 15 rfl rfl)
theorem dJ4_add_3_64 : decode cJ4_add_3 64 = .ok (.return_, 1) := dk_177 (dk_at dksJ4_add_3_2 18 rfl rfl)
abbrev cJ4_rangeCheckForAdd : ByteArray := prog_45_method_45_code
def yJ4_rangeCheckForAdd : MethodName := ⟨RJ4, "rangeCheckForAdd", "(I)V"⟩
def dkwJ4_rangeCheckForAdd_1 : List UInt8 := [191, 177]
abbrev dktJ4_rangeCheckForAdd_1 : List UInt8 := dkwJ4_rangeCheckForAdd_1 ++ []
def dkwJ4_rangeCheckForAdd_0 : List UInt8 := [27, 42, 180, 0, 48, 163, 0, 7, 27, 156, 0, 16, 187, 0, 187, 89, 42, 27, 182, 0, 198, 183, 0, 193]
abbrev dktJ4_rangeCheckForAdd_0 : List UInt8 := dkwJ4_rangeCheckForAdd_0 ++ dktJ4_rangeCheckForAdd_1
theorem dksJ4_rangeCheckForAdd_0 : cJ4_rangeCheckForAdd.data.toList.drop 0 = dktJ4_rangeCheckForAdd_0 := by decide +kernel
theorem dksJ4_rangeCheckForAdd_1 : cJ4_rangeCheckForAdd.data.toList.drop 24 = dktJ4_rangeCheckForAdd_1 := dk_seg dksJ4_rangeCheckForAdd_0 24 rfl rfl
theorem dJ4_rangeCheckForAdd_0 : decode cJ4_rangeCheckForAdd 0 = .ok (.iload_n 1, 1) := dk_27 (dk_at dksJ4_rangeCheckForAdd_0 0 rfl rfl)
theorem dJ4_rangeCheckForAdd_1 : decode cJ4_rangeCheckForAdd 1 = .ok (.aload_n 0, 1) := dk_42 (dk_at dksJ4_rangeCheckForAdd_0 1 rfl rfl)
theorem dJ4_rangeCheckForAdd_2 : decode cJ4_rangeCheckForAdd 2 = .ok (.getfield 48, 3) := dk_180 0 48 (dk_at dksJ4_rangeCheckForAdd_0 2 rfl rfl)
theorem dJ4_rangeCheckForAdd_5 : decode cJ4_rangeCheckForAdd 5 = .ok (.if_icmp .gt 7, 3) := dk_163 0 7 (dk_at dksJ4_rangeCheckForAdd_0 5 rfl rfl)
theorem dJ4_rangeCheckForAdd_8 : decode cJ4_rangeCheckForAdd 8 = .ok (.iload_n 1, 1) := dk_27 (dk_at dksJ4_rangeCheckForAdd_0 8 rfl rfl)
theorem dJ4_rangeCheckForAdd_9 : decode cJ4_rangeCheckForAdd 9 = .ok (.ifCond .ge 16, 3) := dk_156 0 16 (dk_at dksJ4_rangeCheckForAdd_0 9 rfl rfl)
theorem dJ4_rangeCheckForAdd_12 : decode cJ4_rangeCheckForAdd 12 = .ok (.new 187, 3) := dk_187 0 187 (dk_at dksJ4_rangeCheckForAdd_0 12 rfl rfl)
theorem dJ4_rangeCheckForAdd_15 : decode cJ4_rangeCheckForAdd 15 = .ok (.dup, 1) := dk_89 (dk_at dksJ4_rangeCheckForAdd_0 15 rfl rfl)
theorem dJ4_rangeCheckForAdd_16 : decode cJ4_rangeCheckForAdd 16 = .ok (.aload_n 0, 1) := dk_42 (dk_at dksJ4_rangeCheckForAdd_0 16 rfl rfl)
theorem dJ4_rangeCheckForAdd_17 : decode cJ4_rangeCheckForAdd 17 = .ok (.iload_n 1, 1) := dk_27 (dk_at dksJ4_rangeCheckForAdd_0 17 rfl rfl)
theorem dJ4_rangeCheckForAdd_18 : decode cJ4_rangeCheckForAdd 18 = .ok (.invokevirtual 198, 3) := dk_182 0 198 (dk_at dksJ4_rangeCheckForAdd_0 18 rfl rfl)
theorem dJ4_rangeCheckForAdd_21 : decode cJ4_rangeCheckForAdd 21 = .ok (.invokespecial 193, 3) := dk_183 0 193 (dk_at dksJ4_rangeCheckForAdd_0 21 rfl rfl)
theorem dJ4_rangeCheckForAdd_24 : decode cJ4_rangeCheckForAdd 24 = .ok (.athrow, 1) := dk_191 (dk_at dksJ4_rangeCheckForAdd_1 0 rfl rfl)
theorem dJ4_rangeCheckForAdd_25 : decode cJ4_rangeCheckForAdd 25 = .ok (.return_, 1) := dk_177 (dk_at dksJ4_rangeCheckForAdd_1 1 rfl rfl)
theorem q87 : (Jvm.Cond.initialized "java/util/ArrayList") ∈ lw_all := lw_g (lw_at lw_m1 7 rfl) rfl
theorem q175 : (Jvm.Cond.instantiable "java/util/ArrayList" (3 : Nat)) ∈ lw_all := lw_g (lw_at lw_m1 95 rfl) rfl
theorem q177 : (Jvm.Cond.instanceMethod ({ cls := "java/util/ArrayList", name := "<init>", desc := "()V" } : Jvm.MethodName)) ∈ lw_all := lw_g (lw_at lw_m1 97 rfl) rfl
theorem q178 : (Jvm.Cond.code ({ cls := "java/util/ArrayList", name := "<init>", desc := "()V" } : Jvm.MethodName) prog_45_method_2_code (1 : Nat) (Option.none : Option Jvm.ClassFile.FieldType)) ∈ lw_all := lw_g (lw_at lw_m1 98 rfl) rfl
theorem q179 : (Jvm.Cond.methodLink "java/util/ArrayList" (1 : Nat) ({ cls := "java/util/AbstractList", name := "<init>", desc := "()V" } : Jvm.MethodName)) ∈ lw_all := lw_g (lw_at lw_m1 99 rfl) rfl
theorem q186 : (Jvm.Cond.fieldLink "java/util/ArrayList" (39 : Nat) "java/util/ArrayList" "DEFAULTCAPACITY_EMPTY_ELEMENTDATA" "[Ljava/lang/Object;") ∈ lw_all := lw_g (lw_at lw_m1 106 rfl) rfl
theorem q187 : (Jvm.Cond.laysStatic "java/util/ArrayList" "DEFAULTCAPACITY_EMPTY_ELEMENTDATA" "[Ljava/lang/Object;") ∈ lw_tbl := lw_at lw_m1 107 rfl
theorem q188 : (Jvm.Cond.fieldLink "java/util/ArrayList" (9 : Nat) "java/util/ArrayList" "elementData" "[Ljava/lang/Object;") ∈ lw_all := lw_g (lw_at lw_m1 108 rfl) rfl
theorem q191 : (Jvm.Cond.fieldLink "java/util/ArrayList" (48 : Nat) "java/util/ArrayList" "size" "I") ∈ lw_all := lw_g (lw_at lw_m1 111 rfl) rfl
theorem q194 : (Jvm.Cond.sameField "java/util/ArrayList" "java/util/AbstractList" "modCount" "I") ∈ lw_all := lw_g (lw_at lw_m1 114 rfl) rfl
theorem q195 : (Jvm.Cond.fieldLink "java/util/ArrayList" (63 : Nat) "java/util/ArrayList" "modCount" "I") ∈ lw_all := lw_g (lw_at lw_m1 115 rfl) rfl
theorem q196 : (Jvm.Cond.lays "java/util/ArrayList" "java/util/ArrayList" "elementData" "[Ljava/lang/Object;") ∈ lw_all := lw_g (lw_at lw_m1 116 rfl) rfl
theorem q197 : (Jvm.Cond.soleField "java/util/ArrayList" "elementData") ∈ lw_all := lw_g (lw_at lw_m1 117 rfl) rfl
theorem q198 : (Jvm.Cond.lays "java/util/ArrayList" "java/util/ArrayList" "size" "I") ∈ lw_all := lw_g (lw_at lw_m1 118 rfl) rfl
theorem q199 : (Jvm.Cond.soleField "java/util/ArrayList" "size") ∈ lw_all := lw_g (lw_at lw_m1 119 rfl) rfl
theorem q200 : (Jvm.Cond.lays "java/util/ArrayList" "java/util/AbstractList" "modCount" "I") ∈ lw_all := lw_g (lw_at lw_m1 120 rfl) rfl
theorem q202 : (Jvm.Cond.superclass "java/util/ArrayList" "java/util/AbstractList") ∈ lw_all := lw_g (lw_at lw_m1 122 rfl) rfl
theorem q303 : (Jvm.Cond.instanceMethod ({ cls := "java/util/ArrayList", name := "size", desc := "()I" } : Jvm.MethodName)) ∈ lw_all := lw_g (lw_at lw_m1 223 rfl) rfl
theorem q304 : (Jvm.Cond.selects "java/util/ArrayList" ({ cls := "java/util/ArrayList", name := "size", desc := "()I" } : Jvm.MethodName) ({ cls := "java/util/ArrayList", name := "size", desc := "()I" } : Jvm.MethodName)) ∈ lw_all := lw_g (lw_at lw_m1 224 rfl) rfl
theorem q305 : (Jvm.Cond.code ({ cls := "java/util/ArrayList", name := "size", desc := "()I" } : Jvm.MethodName) prog_45_method_8_code (1 : Nat) (Option.some Jvm.ClassFile.FieldType.int)) ∈ lw_all := lw_g (lw_at lw_m1 225 rfl) rfl
theorem q315 : (Jvm.Cond.instanceMethod ({ cls := "java/util/ArrayList", name := "iterator", desc := "()Ljava/util/Iterator;" } : Jvm.MethodName)) ∈ lw_all := lw_g (lw_at lw_m1 235 rfl) rfl
theorem q316 : (Jvm.Cond.selects "java/util/ArrayList" ({ cls := "java/util/ArrayList", name := "iterator", desc := "()Ljava/util/Iterator;" } : Jvm.MethodName) ({ cls := "java/util/ArrayList", name := "iterator", desc := "()Ljava/util/Iterator;" } : Jvm.MethodName)) ∈ lw_all := lw_g (lw_at lw_m1 236 rfl) rfl
theorem q317 : (Jvm.Cond.code ({ cls := "java/util/ArrayList", name := "iterator", desc := "()Ljava/util/Iterator;" } : Jvm.MethodName) prog_45_method_55_code (1 : Nat) (Option.some (Jvm.ClassFile.FieldType.object "java/util/Iterator"))) ∈ lw_all := lw_g (lw_at lw_m1 237 rfl) rfl
theorem q318 : (Jvm.Cond.classLink "java/util/ArrayList" (267 : Nat) "java/util/ArrayList$Itr") ∈ lw_all := lw_g (lw_at lw_m1 238 rfl) rfl
theorem q320 : (Jvm.Cond.methodLink "java/util/ArrayList" (269 : Nat) ({ cls := "java/util/ArrayList$Itr", name := "<init>", desc := "(Ljava/util/ArrayList;)V" } : Jvm.MethodName)) ∈ lw_all := lw_g (lw_at lw_m2 0 rfl) rfl
theorem q502 : (Jvm.Cond.instanceMethod ({ cls := "java/util/ArrayList", name := "add", desc := "(Ljava/lang/Object;)Z" } : Jvm.MethodName)) ∈ lw_all := lw_g (lw_at lw_m2 182 rfl) rfl
theorem q503 : (Jvm.Cond.selects "java/util/ArrayList" ({ cls := "java/util/ArrayList", name := "add", desc := "(Ljava/lang/Object;)Z" } : Jvm.MethodName) ({ cls := "java/util/ArrayList", name := "add", desc := "(Ljava/lang/Object;)Z" } : Jvm.MethodName)) ∈ lw_all := lw_g (lw_at lw_m2 183 rfl) rfl
theorem q504 : (Jvm.Cond.code ({ cls := "java/util/ArrayList", name := "add", desc := "(Ljava/lang/Object;)Z" } : Jvm.MethodName) prog_45_method_25_code (2 : Nat) (Option.some Jvm.ClassFile.FieldType.boolean)) ∈ lw_all := lw_g (lw_at lw_m2 184 rfl) rfl
theorem q505 : (Jvm.Cond.methodLink "java/util/ArrayList" (131 : Nat) ({ cls := "java/util/ArrayList", name := "add", desc := "(Ljava/lang/Object;[Ljava/lang/Object;I)V" } : Jvm.MethodName)) ∈ lw_all := lw_g (lw_at lw_m2 185 rfl) rfl
theorem q506 : (Jvm.Cond.privateMethod ({ cls := "java/util/ArrayList", name := "add", desc := "(Ljava/lang/Object;[Ljava/lang/Object;I)V" } : Jvm.MethodName)) ∈ lw_tbl := lw_at lw_m2 186 rfl
theorem q507 : (Jvm.Cond.instanceMethod ({ cls := "java/util/ArrayList", name := "add", desc := "(Ljava/lang/Object;[Ljava/lang/Object;I)V" } : Jvm.MethodName)) ∈ lw_all := lw_g (lw_at lw_m2 187 rfl) rfl
theorem q508 : (Jvm.Cond.code ({ cls := "java/util/ArrayList", name := "add", desc := "(Ljava/lang/Object;[Ljava/lang/Object;I)V" } : Jvm.MethodName) prog_45_method_24_code (4 : Nat) (Option.none : Option Jvm.ClassFile.FieldType)) ∈ lw_all := lw_g (lw_at lw_m2 188 rfl) rfl
theorem q509 : (Jvm.Cond.methodLink "java/util/ArrayList" (129 : Nat) ({ cls := "java/util/ArrayList", name := "grow", desc := "()[Ljava/lang/Object;" } : Jvm.MethodName)) ∈ lw_all := lw_g (lw_at lw_m2 189 rfl) rfl
theorem q510 : (Jvm.Cond.privateMethod ({ cls := "java/util/ArrayList", name := "grow", desc := "()[Ljava/lang/Object;" } : Jvm.MethodName)) ∈ lw_tbl := lw_at lw_m2 190 rfl
theorem q511 : (Jvm.Cond.instanceMethod ({ cls := "java/util/ArrayList", name := "grow", desc := "()[Ljava/lang/Object;" } : Jvm.MethodName)) ∈ lw_all := lw_g (lw_at lw_m2 191 rfl) rfl
theorem q512 : (Jvm.Cond.code ({ cls := "java/util/ArrayList", name := "grow", desc := "()[Ljava/lang/Object;" } : Jvm.MethodName) prog_45_method_7_code (1 : Nat) (Option.some (Jvm.ClassFile.FieldType.array (Jvm.ClassFile.FieldType.object "java/lang/Object")))) ∈ lw_all := lw_g (lw_at lw_m2 192 rfl) rfl
theorem q513 : (Jvm.Cond.methodLink "java/util/ArrayList" (69 : Nat) ({ cls := "java/util/ArrayList", name := "grow", desc := "(I)[Ljava/lang/Object;" } : Jvm.MethodName)) ∈ lw_all := lw_g (lw_at lw_m2 193 rfl) rfl
theorem q514 : (Jvm.Cond.privateMethod ({ cls := "java/util/ArrayList", name := "grow", desc := "(I)[Ljava/lang/Object;" } : Jvm.MethodName)) ∈ lw_tbl := lw_at lw_m2 194 rfl
theorem q515 : (Jvm.Cond.instanceMethod ({ cls := "java/util/ArrayList", name := "grow", desc := "(I)[Ljava/lang/Object;" } : Jvm.MethodName)) ∈ lw_all := lw_g (lw_at lw_m2 195 rfl) rfl
theorem q516 : (Jvm.Cond.code ({ cls := "java/util/ArrayList", name := "grow", desc := "(I)[Ljava/lang/Object;" } : Jvm.MethodName) prog_45_method_6_code (4 : Nat) (Option.some (Jvm.ClassFile.FieldType.array (Jvm.ClassFile.FieldType.object "java/lang/Object")))) ∈ lw_all := lw_g (lw_at lw_m2 196 rfl) rfl
theorem q517 : (Jvm.Cond.methodLink "java/util/ArrayList" (73 : Nat) ({ cls := "jdk/internal/util/ArraysSupport", name := "newLength", desc := "(III)I" } : Jvm.MethodName)) ∈ lw_all := lw_g (lw_at lw_m2 197 rfl) rfl
theorem q527 : (Jvm.Cond.methodLink "java/util/ArrayList" (66 : Nat) ({ cls := "java/util/Arrays", name := "copyOf", desc := "([Ljava/lang/Object;I)[Ljava/lang/Object;" } : Jvm.MethodName)) ∈ lw_all := lw_g (lw_at lw_m2 207 rfl) rfl
theorem q554 : (Jvm.Cond.selects "java/util/ArrayList" ({ cls := "java/lang/Object", name := "getClass", desc := "()Ljava/lang/Class;" } : Jvm.MethodName) ({ cls := "java/lang/Object", name := "getClass", desc := "()Ljava/lang/Class;" } : Jvm.MethodName)) ∈ lw_all := lw_g (lw_at lw_m2 234 rfl) rfl
theorem q573 : (Jvm.Cond.methodLink "java/util/ArrayList" (79 : Nat) ({ cls := "java/lang/Math", name := "max", desc := "(II)I" } : Jvm.MethodName)) ∈ lw_all := lw_g (lw_at lw_m3 13 rfl) rfl
theorem q574 : (Jvm.Cond.classLink "java/util/ArrayList" (7 : Nat) "java/lang/Object") ∈ lw_all := lw_g (lw_at lw_m3 14 rfl) rfl
theorem q1382 : (Jvm.Cond.instanceMethod ({ cls := "java/util/ArrayList", name := "get", desc := "(I)Ljava/lang/Object;" } : Jvm.MethodName)) ∈ lw_all := lw_g (lw_at lw_m6 102 rfl) rfl
theorem q1383 : (Jvm.Cond.selects "java/util/ArrayList" ({ cls := "java/util/ArrayList", name := "get", desc := "(I)Ljava/lang/Object;" } : Jvm.MethodName) ({ cls := "java/util/ArrayList", name := "get", desc := "(I)Ljava/lang/Object;" } : Jvm.MethodName)) ∈ lw_all := lw_g (lw_at lw_m6 103 rfl) rfl
theorem q1384 : (Jvm.Cond.code ({ cls := "java/util/ArrayList", name := "get", desc := "(I)Ljava/lang/Object;" } : Jvm.MethodName) prog_45_method_20_code (2 : Nat) (Option.some (Jvm.ClassFile.FieldType.object "java/lang/Object"))) ∈ lw_all := lw_g (lw_at lw_m6 104 rfl) rfl
theorem q1385 : (Jvm.Cond.methodLink "java/util/ArrayList" (118 : Nat) ({ cls := "java/util/Objects", name := "checkIndex", desc := "(II)I" } : Jvm.MethodName)) ∈ lw_all := lw_g (lw_at lw_m6 105 rfl) rfl
theorem q1391 : (Jvm.Cond.methodLink "java/util/ArrayList" (123 : Nat) ({ cls := "java/util/ArrayList", name := "elementData", desc := "(I)Ljava/lang/Object;" } : Jvm.MethodName)) ∈ lw_all := lw_g (lw_at lw_m6 111 rfl) rfl
theorem q1392 : (Jvm.Cond.instanceMethod ({ cls := "java/util/ArrayList", name := "elementData", desc := "(I)Ljava/lang/Object;" } : Jvm.MethodName)) ∈ lw_all := lw_g (lw_at lw_m6 112 rfl) rfl
theorem q1393 : (Jvm.Cond.selects "java/util/ArrayList" ({ cls := "java/util/ArrayList", name := "elementData", desc := "(I)Ljava/lang/Object;" } : Jvm.MethodName) ({ cls := "java/util/ArrayList", name := "elementData", desc := "(I)Ljava/lang/Object;" } : Jvm.MethodName)) ∈ lw_all := lw_g (lw_at lw_m6 113 rfl) rfl
theorem q1394 : (Jvm.Cond.code ({ cls := "java/util/ArrayList", name := "elementData", desc := "(I)Ljava/lang/Object;" } : Jvm.MethodName) prog_45_method_18_code (2 : Nat) (Option.some (Jvm.ClassFile.FieldType.object "java/lang/Object"))) ∈ lw_all := lw_g (lw_at lw_m6 114 rfl) rfl
theorem q1551 : (Jvm.Cond.instanceMethod ({ cls := "java/util/ArrayList", name := "remove", desc := "(Ljava/lang/Object;)Z" } : Jvm.MethodName)) ∈ lw_all := lw_g (lw_at lw_m7 31 rfl) rfl
theorem q1552 : (Jvm.Cond.selects "java/util/ArrayList" ({ cls := "java/util/ArrayList", name := "remove", desc := "(Ljava/lang/Object;)Z" } : Jvm.MethodName) ({ cls := "java/util/ArrayList", name := "remove", desc := "(Ljava/lang/Object;)Z" } : Jvm.MethodName)) ∈ lw_all := lw_g (lw_at lw_m7 32 rfl) rfl
theorem q1553 : (Jvm.Cond.code ({ cls := "java/util/ArrayList", name := "remove", desc := "(Ljava/lang/Object;)Z" } : Jvm.MethodName) prog_45_method_38_code (5 : Nat) (Option.some Jvm.ClassFile.FieldType.boolean)) ∈ lw_all := lw_g (lw_at lw_m7 33 rfl) rfl
theorem q1554 : (Jvm.Cond.methodLink "java/util/ArrayList" (93 : Nat) ({ cls := "java/lang/Object", name := "equals", desc := "(Ljava/lang/Object;)Z" } : Jvm.MethodName)) ∈ lw_all := lw_g (lw_at lw_m7 34 rfl) rfl
theorem q1555 : (Jvm.Cond.methodLink "java/util/ArrayList" (144 : Nat) ({ cls := "java/util/ArrayList", name := "fastRemove", desc := "([Ljava/lang/Object;I)V" } : Jvm.MethodName)) ∈ lw_all := lw_g (lw_at lw_m7 35 rfl) rfl
theorem q1556 : (Jvm.Cond.privateMethod ({ cls := "java/util/ArrayList", name := "fastRemove", desc := "([Ljava/lang/Object;I)V" } : Jvm.MethodName)) ∈ lw_tbl := lw_at lw_m7 36 rfl
theorem q1557 : (Jvm.Cond.instanceMethod ({ cls := "java/util/ArrayList", name := "fastRemove", desc := "([Ljava/lang/Object;I)V" } : Jvm.MethodName)) ∈ lw_all := lw_g (lw_at lw_m7 37 rfl) rfl
theorem q1558 : (Jvm.Cond.code ({ cls := "java/util/ArrayList", name := "fastRemove", desc := "([Ljava/lang/Object;I)V" } : Jvm.MethodName) prog_45_method_39_code (4 : Nat) (Option.none : Option Jvm.ClassFile.FieldType)) ∈ lw_all := lw_g (lw_at lw_m7 38 rfl) rfl
theorem q1559 : (Jvm.Cond.methodLink "java/util/ArrayList" (112 : Nat) ({ cls := "java/lang/System", name := "arraycopy", desc := "(Ljava/lang/Object;ILjava/lang/Object;II)V" } : Jvm.MethodName)) ∈ lw_all := lw_g (lw_at lw_m7 39 rfl) rfl
theorem q1594 : (Jvm.Cond.instanceMethod ({ cls := "java/util/ArrayList", name := "remove", desc := "(I)Ljava/lang/Object;" } : Jvm.MethodName)) ∈ lw_all := lw_g (lw_at lw_m7 74 rfl) rfl
theorem q1595 : (Jvm.Cond.selects "java/util/ArrayList" ({ cls := "java/util/ArrayList", name := "remove", desc := "(I)Ljava/lang/Object;" } : Jvm.MethodName) ({ cls := "java/util/ArrayList", name := "remove", desc := "(I)Ljava/lang/Object;" } : Jvm.MethodName)) ∈ lw_all := lw_g (lw_at lw_m7 75 rfl) rfl
theorem q1596 : (Jvm.Cond.code ({ cls := "java/util/ArrayList", name := "remove", desc := "(I)Ljava/lang/Object;" } : Jvm.MethodName) prog_45_method_29_code (4 : Nat) (Option.some (Jvm.ClassFile.FieldType.object "java/lang/Object"))) ∈ lw_all := lw_g (lw_at lw_m7 76 rfl) rfl
theorem q1649 : (Jvm.Cond.instanceMethod ({ cls := "java/util/ArrayList", name := "add", desc := "(ILjava/lang/Object;)V" } : Jvm.MethodName)) ∈ lw_all := lw_g (lw_at lw_m7 129 rfl) rfl
theorem q1650 : (Jvm.Cond.selects "java/util/ArrayList" ({ cls := "java/util/ArrayList", name := "add", desc := "(ILjava/lang/Object;)V" } : Jvm.MethodName) ({ cls := "java/util/ArrayList", name := "add", desc := "(ILjava/lang/Object;)V" } : Jvm.MethodName)) ∈ lw_all := lw_g (lw_at lw_m7 130 rfl) rfl
theorem q1651 : (Jvm.Cond.code ({ cls := "java/util/ArrayList", name := "add", desc := "(ILjava/lang/Object;)V" } : Jvm.MethodName) prog_45_method_26_code (5 : Nat) (Option.none : Option Jvm.ClassFile.FieldType)) ∈ lw_all := lw_g (lw_at lw_m7 131 rfl) rfl
theorem q1652 : (Jvm.Cond.methodLink "java/util/ArrayList" (135 : Nat) ({ cls := "java/util/ArrayList", name := "rangeCheckForAdd", desc := "(I)V" } : Jvm.MethodName)) ∈ lw_all := lw_g (lw_at lw_m7 132 rfl) rfl
theorem q1653 : (Jvm.Cond.privateMethod ({ cls := "java/util/ArrayList", name := "rangeCheckForAdd", desc := "(I)V" } : Jvm.MethodName)) ∈ lw_tbl := lw_at lw_m7 133 rfl
theorem q1654 : (Jvm.Cond.instanceMethod ({ cls := "java/util/ArrayList", name := "rangeCheckForAdd", desc := "(I)V" } : Jvm.MethodName)) ∈ lw_all := lw_g (lw_at lw_m7 134 rfl) rfl
theorem q1655 : (Jvm.Cond.code ({ cls := "java/util/ArrayList", name := "rangeCheckForAdd", desc := "(I)V" } : Jvm.MethodName) prog_45_method_45_code (2 : Nat) (Option.none : Option Jvm.ClassFile.FieldType)) ∈ lw_all := lw_g (lw_at lw_m7 135 rfl) rfl
theorem q1656 : (Jvm.Cond.classLink "java/util/ArrayList" (187 : Nat) "java/lang/IndexOutOfBoundsException") ∈ lw_all := lw_g (lw_at lw_m7 136 rfl) rfl
theorem q1657 : (Jvm.Cond.methodLink "java/util/ArrayList" (198 : Nat) ({ cls := "java/util/ArrayList", name := "outOfBoundsMsg", desc := "(I)Ljava/lang/String;" } : Jvm.MethodName)) ∈ lw_all := lw_g (lw_at lw_m7 137 rfl) rfl
theorem q1658 : (Jvm.Cond.privateMethod ({ cls := "java/util/ArrayList", name := "outOfBoundsMsg", desc := "(I)Ljava/lang/String;" } : Jvm.MethodName)) ∈ lw_tbl := lw_at lw_m7 138 rfl
theorem q1659 : (Jvm.Cond.instanceMethod ({ cls := "java/util/ArrayList", name := "outOfBoundsMsg", desc := "(I)Ljava/lang/String;" } : Jvm.MethodName)) ∈ lw_all := lw_g (lw_at lw_m7 139 rfl) rfl
theorem q1660 : (Jvm.Cond.code ({ cls := "java/util/ArrayList", name := "outOfBoundsMsg", desc := "(I)Ljava/lang/String;" } : Jvm.MethodName) prog_45_method_46_code (2 : Nat) (Option.some (Jvm.ClassFile.FieldType.object "java/lang/String"))) ∈ lw_all := lw_g (lw_at lw_m7 140 rfl) rfl
theorem q1661 : (Jvm.Cond.classLink "java/util/ArrayList" (20 : Nat) "java/lang/StringBuilder") ∈ lw_all := lw_g (lw_at lw_m7 141 rfl) rfl
theorem q1662 : (Jvm.Cond.methodLink "java/util/ArrayList" (22 : Nat) ({ cls := "java/lang/StringBuilder", name := "<init>", desc := "()V" } : Jvm.MethodName)) ∈ lw_all := lw_g (lw_at lw_m7 142 rfl) rfl
theorem q1663 : (Jvm.Cond.stringRef "java/util/ArrayList" (201 : Nat) "Index: ") ∈ lw_tbl := lw_at lw_m7 143 rfl
theorem q1664 : (Jvm.Cond.methodLink "java/util/ArrayList" (25 : Nat) ({ cls := "java/lang/StringBuilder", name := "append", desc := "(Ljava/lang/String;)Ljava/lang/StringBuilder;" } : Jvm.MethodName)) ∈ lw_all := lw_g (lw_at lw_m7 144 rfl) rfl
theorem q1665 : (Jvm.Cond.methodLink "java/util/ArrayList" (29 : Nat) ({ cls := "java/lang/StringBuilder", name := "append", desc := "(I)Ljava/lang/StringBuilder;" } : Jvm.MethodName)) ∈ lw_all := lw_g (lw_at lw_m7 145 rfl) rfl
theorem q1666 : (Jvm.Cond.stringRef "java/util/ArrayList" (203 : Nat) ", Size: ") ∈ lw_tbl := lw_at lw_m7 146 rfl
theorem q1667 : (Jvm.Cond.methodLink "java/util/ArrayList" (32 : Nat) ({ cls := "java/lang/StringBuilder", name := "toString", desc := "()Ljava/lang/String;" } : Jvm.MethodName)) ∈ lw_all := lw_g (lw_at lw_m7 147 rfl) rfl
theorem q1668 : (Jvm.Cond.methodLink "java/util/ArrayList" (193 : Nat) ({ cls := "java/lang/IndexOutOfBoundsException", name := "<init>", desc := "(Ljava/lang/String;)V" } : Jvm.MethodName)) ∈ lw_all := lw_g (lw_at lw_m7 148 rfl) rfl
theorem q3003 : (Jvm.Cond.castable "java/util/ArrayList" "java/lang/Object") ∈ lw_tbl := lw_at lw_m13 43 rfl
theorem in_J4 : ∀ w ∈ wsJ40, w ∈ lw_all := lw_in wsJ40 [200, 196, 198] (by decide +kernel) (by decide +kernel)

/-! java/util/ArrayDeque -/
set_option maxRecDepth 100000
def RJ5 : String := "java/util/ArrayDeque"
def TJ5 : u_T := fun k => match k with
  | 0 => ("java/util/ArrayDeque", "elements", "[Ljava/lang/Object;", false)
  | 1 => ("java/util/ArrayDeque", "head", "I", false)
  | _ => ("java/util/ArrayDeque", "tail", "I", false)
def tyJ5 : Nat → FieldType := fun k => match k with
  | 0 => .array (.object "java/lang/Object")
  | 1 => .int
  | _ => .int
abbrev wsJ50 : List Cond := u_ws RJ5 TJ5 3
theorem nmJ5 : ∀ a, a < 3 → ∀ b, b < 3 → a ≠ b → (TJ5 a).2.1 ≠ (TJ5 b).2.1 := by decide +kernel
theorem tyJ5_ok : ∀ k, k < 3 → parseFieldDescriptor (TJ5 k).2.2.1 = some (tyJ5 k) := by decide +kernel
abbrev cJ5_init : ByteArray := prog_44_method_3_code
def yJ5_init : MethodName := ⟨RJ5, "<init>", "()V"⟩
def dkwJ5_init_0 : List UInt8 := [42, 183, 0, 42, 42, 16, 17, 189, 0, 47, 181, 0, 3, 177]
abbrev dktJ5_init_0 : List UInt8 := dkwJ5_init_0 ++ []
theorem dksJ5_init_0 : cJ5_init.data.toList.drop 0 = dktJ5_init_0 := by decide +kernel
theorem dJ5_init_0 : decode cJ5_init 0 = .ok (.aload_n 0, 1) := dk_42 (dk_at dksJ5_init_0 0 rfl rfl)
theorem dJ5_init_1 : decode cJ5_init 1 = .ok (.invokespecial 42, 3) := dk_183 0 42 (dk_at dksJ5_init_0 1 rfl rfl)
theorem dJ5_init_4 : decode cJ5_init 4 = .ok (.aload_n 0, 1) := dk_42 (dk_at dksJ5_init_0 4 rfl rfl)
theorem dJ5_init_5 : decode cJ5_init 5 = .ok (.bipush 17, 2) := dk_16 17 (dk_at dksJ5_init_0 5 rfl rfl)
theorem dJ5_init_7 : decode cJ5_init 7 = .ok (.anewarray 47, 3) := dk_189 0 47 (dk_at dksJ5_init_0 7 rfl rfl)
theorem dJ5_init_10 : decode cJ5_init 10 = .ok (.putfield 3, 3) := dk_181 0 3 (dk_at dksJ5_init_0 10 rfl rfl)
theorem dJ5_init_13 : decode cJ5_init 13 = .ok (.return_, 1) := dk_177 (dk_at dksJ5_init_0 13 rfl rfl)
abbrev cJ5_size : ByteArray := prog_44_method_37_code
def yJ5_size : MethodName := ⟨RJ5, "size", "()I"⟩
def dkwJ5_size_0 : List UInt8 := [42, 180, 0, 20, 42, 180, 0, 24, 42, 180, 0, 3, 190, 184, 0, 127, 172]
abbrev dktJ5_size_0 : List UInt8 := dkwJ5_size_0 ++ []
theorem dksJ5_size_0 : cJ5_size.data.toList.drop 0 = dktJ5_size_0 := by decide +kernel
theorem dJ5_size_0 : decode cJ5_size 0 = .ok (.aload_n 0, 1) := dk_42 (dk_at dksJ5_size_0 0 rfl rfl)
theorem dJ5_size_1 : decode cJ5_size 1 = .ok (.getfield 20, 3) := dk_180 0 20 (dk_at dksJ5_size_0 1 rfl rfl)
theorem dJ5_size_4 : decode cJ5_size 4 = .ok (.aload_n 0, 1) := dk_42 (dk_at dksJ5_size_0 4 rfl rfl)
theorem dJ5_size_5 : decode cJ5_size 5 = .ok (.getfield 24, 3) := dk_180 0 24 (dk_at dksJ5_size_0 5 rfl rfl)
theorem dJ5_size_8 : decode cJ5_size 8 = .ok (.aload_n 0, 1) := dk_42 (dk_at dksJ5_size_0 8 rfl rfl)
theorem dJ5_size_9 : decode cJ5_size 9 = .ok (.getfield 3, 3) := dk_180 0 3 (dk_at dksJ5_size_0 9 rfl rfl)
theorem dJ5_size_12 : decode cJ5_size 12 = .ok (.arraylength, 1) := dk_190 (dk_at dksJ5_size_0 12 rfl rfl)
theorem dJ5_size_13 : decode cJ5_size 13 = .ok (.invokestatic 127, 3) := dk_184 0 127 (dk_at dksJ5_size_0 13 rfl rfl)
theorem dJ5_size_16 : decode cJ5_size 16 = .ok (.ireturn, 1) := dk_172 (dk_at dksJ5_size_0 16 rfl rfl)
abbrev cJ5_sub : ByteArray := prog_44_method_9_code
def yJ5_sub : MethodName := ⟨RJ5, "sub", "(III)I"⟩
def dkwJ5_sub_0 : List UInt8 := [26, 27, 100, 89, 59, 156, 0, 7, 26, 28, 96, 59, 26, 172]
abbrev dktJ5_sub_0 : List UInt8 := dkwJ5_sub_0 ++ []
theorem dksJ5_sub_0 : cJ5_sub.data.toList.drop 0 = dktJ5_sub_0 := by decide +kernel
theorem dJ5_sub_0 : decode cJ5_sub 0 = .ok (.iload_n 0, 1) := dk_26 (dk_at dksJ5_sub_0 0 rfl rfl)
theorem dJ5_sub_1 : decode cJ5_sub 1 = .ok (.iload_n 1, 1) := dk_27 (dk_at dksJ5_sub_0 1 rfl rfl)
theorem dJ5_sub_2 : decode cJ5_sub 2 = .ok (.isub, 1) := dk_100 (dk_at dksJ5_sub_0 2 rfl rfl)
theorem dJ5_sub_3 : decode cJ5_sub 3 = .ok (.dup, 1) := dk_89 (dk_at dksJ5_sub_0 3 rfl rfl)
theorem dJ5_sub_4 : decode cJ5_sub 4 = .ok (.istore_n 0, 1) := dk_59 (dk_at dksJ5_sub_0 4 rfl rfl)
theorem dJ5_sub_5 : decode cJ5_sub 5 = .ok (.ifCond .ge 7, 3) := dk_156 0 7 (dk_at dksJ5_sub_0 5 rfl rfl)
theorem dJ5_sub_8 : decode cJ5_sub 8 = .ok (.iload_n 0, 1) := dk_26 (dk_at dksJ5_sub_0 8 rfl rfl)
theorem dJ5_sub_9 : decode cJ5_sub 9 = .ok (.iload_n 2, 1) := dk_28 (dk_at dksJ5_sub_0 9 rfl rfl)
theorem dJ5_sub_10 : decode cJ5_sub 10 = .ok (.iadd, 1) := dk_96 (dk_at dksJ5_sub_0 10 rfl rfl)
theorem dJ5_sub_11 : decode cJ5_sub 11 = .ok (.istore_n 0, 1) := dk_59 (dk_at dksJ5_sub_0 11 rfl rfl)
theorem dJ5_sub_12 : decode cJ5_sub 12 = .ok (.iload_n 0, 1) := dk_26 (dk_at dksJ5_sub_0 12 rfl rfl)
theorem dJ5_sub_13 : decode cJ5_sub 13 = .ok (.ireturn, 1) := dk_172 (dk_at dksJ5_sub_0 13 rfl rfl)
abbrev cJ5_removeFirst : ByteArray := prog_44_method_18_code
def yJ5_removeFirst : MethodName := ⟨RJ5, "removeFirst", "()Ljava/lang/Object;"⟩
def dkwJ5_removeFirst_0 : List UInt8 := [42, 182, 0, 93, 76, 43, 199, 0, 11, 187, 0, 97, 89, 183, 0, 99, 191, 43, 176]
abbrev dktJ5_removeFirst_0 : List UInt8 := dkwJ5_removeFirst_0 ++ []
theorem dksJ5_removeFirst_0 : cJ5_removeFirst.data.toList.drop 0 = dktJ5_removeFirst_0 := by decide +kernel
theorem dJ5_removeFirst_0 : decode cJ5_removeFirst 0 = .ok (.aload_n 0, 1) := dk_42 (dk_at dksJ5_removeFirst_0 0 rfl rfl)
theorem dJ5_removeFirst_1 : decode cJ5_removeFirst 1 = .ok (.invokevirtual 93, 3) := dk_182 0 93 (dk_at dksJ5_removeFirst_0 1 rfl rfl)
theorem dJ5_removeFirst_4 : decode cJ5_removeFirst 4 = .ok (.astore_n 1, 1) := dk_76 (dk_at dksJ5_removeFirst_0 4 rfl rfl)
theorem dJ5_removeFirst_5 : decode cJ5_removeFirst 5 = .ok (.aload_n 1, 1) := dk_43 (dk_at dksJ5_removeFirst_0 5 rfl rfl)
theorem dJ5_removeFirst_6 : decode cJ5_removeFirst 6 = .ok (.ifnonnull 11, 3) := dk_199 0 11 (dk_at dksJ5_removeFirst_0 6 rfl rfl)
theorem dJ5_removeFirst_9 : decode cJ5_removeFirst 9 = .ok (.new 97, 3) := dk_187 0 97 (dk_at dksJ5_removeFirst_0 9 rfl rfl)
theorem dJ5_removeFirst_12 : decode cJ5_removeFirst 12 = .ok (.dup, 1) := dk_89 (dk_at dksJ5_removeFirst_0 12 rfl rfl)
theorem dJ5_removeFirst_13 : decode cJ5_removeFirst 13 = .ok (.invokespecial 99, 3) := dk_183 0 99 (dk_at dksJ5_removeFirst_0 13 rfl rfl)
theorem dJ5_removeFirst_16 : decode cJ5_removeFirst 16 = .ok (.athrow, 1) := dk_191 (dk_at dksJ5_removeFirst_0 16 rfl rfl)
theorem dJ5_removeFirst_17 : decode cJ5_removeFirst 17 = .ok (.aload_n 1, 1) := dk_43 (dk_at dksJ5_removeFirst_0 17 rfl rfl)
theorem dJ5_removeFirst_18 : decode cJ5_removeFirst 18 = .ok (.areturn, 1) := dk_176 (dk_at dksJ5_removeFirst_0 18 rfl rfl)
abbrev cJ5_pollFirst : ByteArray := prog_44_method_20_code
def yJ5_pollFirst : MethodName := ⟨RJ5, "pollFirst", "()Ljava/lang/Object;"⟩
def dkwJ5_pollFirst_1 : List UInt8 := [42, 28, 43, 190, 184, 0, 74, 181, 0, 24, 45, 176]
abbrev dktJ5_pollFirst_1 : List UInt8 := dkwJ5_pollFirst_1 ++ []
def dkwJ5_pollFirst_0 : List UInt8 := [42, 180, 0, 3, 89, 76, 42, 180, 0, 24, 89, 61, 184, 0, 103, 78, 45, 198, 0, 17, 43, 28, 1, 83]
abbrev dktJ5_pollFirst_0 : List UInt8 := dkwJ5_pollFirst_0 ++ dktJ5_pollFirst_1
theorem dksJ5_pollFirst_0 : cJ5_pollFirst.data.toList.drop 0 = dktJ5_pollFirst_0 := by decide +kernel
theorem dksJ5_pollFirst_1 : cJ5_pollFirst.data.toList.drop 24 = dktJ5_pollFirst_1 := dk_seg dksJ5_pollFirst_0 24 rfl rfl
theorem dJ5_pollFirst_0 : decode cJ5_pollFirst 0 = .ok (.aload_n 0, 1) := dk_42 (dk_at dksJ5_pollFirst_0 0 rfl rfl)
theorem dJ5_pollFirst_1 : decode cJ5_pollFirst 1 = .ok (.getfield 3, 3) := dk_180 0 3 (dk_at dksJ5_pollFirst_0 1 rfl rfl)
theorem dJ5_pollFirst_4 : decode cJ5_pollFirst 4 = .ok (.dup, 1) := dk_89 (dk_at dksJ5_pollFirst_0 4 rfl rfl)
theorem dJ5_pollFirst_5 : decode cJ5_pollFirst 5 = .ok (.astore_n 1, 1) := dk_76 (dk_at dksJ5_pollFirst_0 5 rfl rfl)
theorem dJ5_pollFirst_6 : decode cJ5_pollFirst 6 = .ok (.aload_n 0, 1) := dk_42 (dk_at dksJ5_pollFirst_0 6 rfl rfl)
theorem dJ5_pollFirst_7 : decode cJ5_pollFirst 7 = .ok (.getfield 24, 3) := dk_180 0 24 (dk_at dksJ5_pollFirst_0 7 rfl rfl)
theorem dJ5_pollFirst_10 : decode cJ5_pollFirst 10 = .ok (.dup, 1) := dk_89 (dk_at dksJ5_pollFirst_0 10 rfl rfl)
theorem dJ5_pollFirst_11 : decode cJ5_pollFirst 11 = .ok (.istore_n 2, 1) := dk_61 (dk_at dksJ5_pollFirst_0 11 rfl rfl)
theorem dJ5_pollFirst_12 : decode cJ5_pollFirst 12 = .ok (.invokestatic 103, 3) := dk_184 0 103 (dk_at dksJ5_pollFirst_0 12 rfl rfl)
theorem dJ5_pollFirst_15 : decode cJ5_pollFirst 15 = .ok (.astore_n 3, 1) := dk_78 (dk_at dksJ5_pollFirst_0 15 rfl rfl)
theorem dJ5_pollFirst_16 : decode cJ5_pollFirst 16 = .ok (.aload_n 3, 1) := dk_45 (dk_at dksJ5_pollFirst_0 16 rfl rfl)
theorem dJ5_pollFirst_17 : decode cJ5_pollFirst 17 = .ok (.ifnull 17, 3) := dk_198 0 17 (dk_at dksJ5_pollFirst_0 17 rfl rfl)
theorem dJ5_pollFirst_20 : decode cJ5_pollFirst 20 = .ok (.aload_n 1, 1) := dk_43 (dk_at dksJ5_pollFirst_0 20 rfl rfl)
theorem dJ5_pollFirst_21 : decode cJ5_pollFirst 21 = .ok (.iload_n 2, 1) := dk_28 (dk_at dksJ5_pollFirst_0 21 rfl rfl)
theorem dJ5_pollFirst_22 : decode cJ5_pollFirst 22 = .ok (.aconst_null, 1) := dk_1 (dk_at dksJ5_pollFirst_0 22 rfl rfl)
theorem dJ5_pollFirst_23 : decode cJ5_pollFirst 23 = .ok (.aastore, 1) := dk_83 (dk_at dksJ5_pollFirst_0 23 rfl rfl)
theorem dJ5_pollFirst_24 : decode cJ5_pollFirst 24 = .ok (.aload_n 0, 1) := dk_42 (dk_at dksJ5_pollFirst_1 0 rfl rfl)
theorem dJ5_pollFirst_25 : decode cJ5_pollFirst 25 = .ok (.iload_n 2, 1) := dk_28 (dk_at dksJ5_pollFirst_1 1 rfl rfl)
theorem dJ5_pollFirst_26 : decode cJ5_pollFirst 26 = .ok (.aload_n 1, 1) := dk_43 (dk_at dksJ5_pollFirst_1 2 rfl rfl)
theorem dJ5_pollFirst_27 : decode cJ5_pollFirst 27 = .ok (.arraylength, 1) := dk_190 (dk_at dksJ5_pollFirst_1 3 rfl rfl)
theorem dJ5_pollFirst_28 : decode cJ5_pollFirst 28 = .ok (.invokestatic 74, 3) := dk_184 0 74 (dk_at dksJ5_pollFirst_1 4 rfl rfl)
theorem dJ5_pollFirst_31 : decode cJ5_pollFirst 31 = .ok (.putfield 24, 3) := dk_181 0 24 (dk_at dksJ5_pollFirst_1 7 rfl rfl)
theorem dJ5_pollFirst_34 : decode cJ5_pollFirst 34 = .ok (.aload_n 3, 1) := dk_45 (dk_at dksJ5_pollFirst_1 10 rfl rfl)
theorem dJ5_pollFirst_35 : decode cJ5_pollFirst 35 = .ok (.areturn, 1) := dk_176 (dk_at dksJ5_pollFirst_1 11 rfl rfl)
abbrev cJ5_elementAt : ByteArray := prog_44_method_10_code
def yJ5_elementAt : MethodName := ⟨RJ5, "elementAt", "([Ljava/lang/Object;I)Ljava/lang/Object;"⟩
def dkwJ5_elementAt_0 : List UInt8 := [42, 27, 50, 176]
abbrev dktJ5_elementAt_0 : List UInt8 := dkwJ5_elementAt_0 ++ []
theorem dksJ5_elementAt_0 : cJ5_elementAt.data.toList.drop 0 = dktJ5_elementAt_0 := by decide +kernel
theorem dJ5_elementAt_0 : decode cJ5_elementAt 0 = .ok (.aload_n 0, 1) := dk_42 (dk_at dksJ5_elementAt_0 0 rfl rfl)
theorem dJ5_elementAt_1 : decode cJ5_elementAt 1 = .ok (.iload_n 1, 1) := dk_27 (dk_at dksJ5_elementAt_0 1 rfl rfl)
theorem dJ5_elementAt_2 : decode cJ5_elementAt 2 = .ok (.aaload, 1) := dk_50 (dk_at dksJ5_elementAt_0 2 rfl rfl)
theorem dJ5_elementAt_3 : decode cJ5_elementAt 3 = .ok (.areturn, 1) := dk_176 (dk_at dksJ5_elementAt_0 3 rfl rfl)
abbrev cJ5_inc : ByteArray := prog_44_method_6_code
def yJ5_inc : MethodName := ⟨RJ5, "inc", "(II)I"⟩
def dkwJ5_inc_0 : List UInt8 := [132, 0, 1, 26, 27, 161, 0, 5, 3, 59, 26, 172]
abbrev dktJ5_inc_0 : List UInt8 := dkwJ5_inc_0 ++ []
theorem dksJ5_inc_0 : cJ5_inc.data.toList.drop 0 = dktJ5_inc_0 := by decide +kernel
theorem dJ5_inc_0 : decode cJ5_inc 0 = .ok (.iinc 0 1, 3) := dk_132 0 1 (dk_at dksJ5_inc_0 0 rfl rfl)
theorem dJ5_inc_3 : decode cJ5_inc 3 = .ok (.iload_n 0, 1) := dk_26 (dk_at dksJ5_inc_0 3 rfl rfl)
theorem dJ5_inc_4 : decode cJ5_inc 4 = .ok (.iload_n 1, 1) := dk_27 (dk_at dksJ5_inc_0 4 rfl rfl)
theorem dJ5_inc_5 : decode cJ5_inc 5 = .ok (.if_icmp .lt 5, 3) := dk_161 0 5 (dk_at dksJ5_inc_0 5 rfl rfl)
theorem dJ5_inc_8 : decode cJ5_inc 8 = .ok (.iconst 0, 1) := dk_3 (dk_at dksJ5_inc_0 8 rfl rfl)
theorem dJ5_inc_9 : decode cJ5_inc 9 = .ok (.istore_n 0, 1) := dk_59 (dk_at dksJ5_inc_0 9 rfl rfl)
theorem dJ5_inc_10 : decode cJ5_inc 10 = .ok (.iload_n 0, 1) := dk_26 (dk_at dksJ5_inc_0 10 rfl rfl)
theorem dJ5_inc_11 : decode cJ5_inc 11 = .ok (.ireturn, 1) := dk_172 (dk_at dksJ5_inc_0 11 rfl rfl)
abbrev cJ5_addLast : ByteArray := prog_44_method_13_code
def yJ5_addLast : MethodName := ⟨RJ5, "addLast", "(Ljava/lang/Object;)V"⟩
def dkwJ5_addLast_2 : List UInt8 := [182, 0, 71, 177]
abbrev dktJ5_addLast_2 : List UInt8 := dkwJ5_addLast_2 ++ []
def dkwJ5_addLast_1 : List UInt8 := [42, 180, 0, 24, 42, 42, 180, 0, 20, 44, 190, 184, 0, 74, 90, 181, 0, 20, 160, 0, 8, 42, 4]
abbrev dktJ5_addLast_1 : List UInt8 := dkwJ5_addLast_1 ++ dktJ5_addLast_2
def dkwJ5_addLast_0 : List UInt8 := [43, 199, 0, 11, 187, 0, 65, 89, 183, 0, 67, 191, 42, 180, 0, 3, 77, 44, 42, 180, 0, 20, 43, 83]
abbrev dktJ5_addLast_0 : List UInt8 := dkwJ5_addLast_0 ++ dktJ5_addLast_1
theorem dksJ5_addLast_0 : cJ5_addLast.data.toList.drop 0 = dktJ5_addLast_0 := by decide +kernel
theorem dksJ5_addLast_1 : cJ5_addLast.data.toList.drop 24 = dktJ5_addLast_1 := dk_seg dksJ5_addLast_0 24 rfl rfl
theorem dksJ5_addLast_2 : cJ5_addLast.data.toList.drop 47 = dktJ5_addLast_2 := dk_seg dksJ5_addLast_1 23 rfl rfl
theorem dJ5_addLast_0 : decode cJ5_addLast 0 = .ok (.aload_n 1, 1) := dk_43 (dk_at dksJ5_addLast_0 0 rfl rfl)
theorem dJ5_addLast_1 : decode cJ5_addLast 1 = .ok (.ifnonnull 11, 3) := dk_199 0 11 (dk_at dksJ5_addLast_0 1 rfl rfl)
theorem dJ5_addLast_4 : decode cJ5_addLast 4 = .ok (.new 65, 3) := dk_187 0 65 (dk_at dksJ5_addLast_0 4 rfl rfl)
theorem dJ5_addLast_7 : decode cJ5_addLast 7 = .ok (.dup, 1) := dk_89 (dk_at dksJ5_addLast_0 7 rfl rfl)
theorem dJ5_addLast_8 : decode cJ5_addLast 8 = .ok (.invokespecial 67, 3) := dk_183 0 67 (dk_at dksJ5_addLast_0 8 rfl rfl)
theorem dJ5_addLast_11 : decode cJ5_addLast 11 = .ok (.athrow, 1) := dk_191 (dk_at dksJ5_addLast_0 11 rfl rfl)
theorem dJ5_addLast_12 : decode cJ5_addLast 12 = .ok (.aload_n 0, 1) := dk_42 (dk_at dksJ5_addLast_0 12 rfl rfl)
theorem dJ5_addLast_13 : decode cJ5_addLast 13 = .ok (.getfield 3, 3) := dk_180 0 3 (dk_at dksJ5_addLast_0 13 rfl rfl)
theorem dJ5_addLast_16 : decode cJ5_addLast 16 = .ok (.astore_n 2, 1) := dk_77 (dk_at dksJ5_addLast_0 16 rfl rfl)
theorem dJ5_addLast_17 : decode cJ5_addLast 17 = .ok (.aload_n 2, 1) := dk_44 (dk_at dksJ5_addLast_0 17 rfl rfl)
theorem dJ5_addLast_18 : decode cJ5_addLast 18 = .ok (.aload_n 0, 1) := dk_42 (dk_at dksJ5_addLast_0 18 rfl rfl)
theorem dJ5_addLast_19 : decode cJ5_addLast 19 = .ok (.getfield 20, 3) := dk_180 0 20 (dk_at dksJ5_addLast_0 19 rfl rfl)
theorem dJ5_addLast_22 : decode cJ5_addLast 22 = .ok (.aload_n 1, 1) := dk_43 (dk_at dksJ5_addLast_0 22 rfl rfl)
theorem dJ5_addLast_23 : decode cJ5_addLast 23 = .ok (.aastore, 1) := dk_83 (dk_at dksJ5_addLast_0 23 rfl rfl)
theorem dJ5_addLast_24 : decode cJ5_addLast 24 = .ok (.aload_n 0, 1) := dk_42 (dk_at dksJ5_addLast_1 0 rfl rfl)
theorem dJ5_addLast_25 : decode cJ5_addLast 25 = .ok (.getfield 24, 3) := dk_180 0 24 (dk_at dksJ5_addLast_1 1 rfl rfl)
theorem dJ5_addLast_28 : decode cJ5_addLast 28 = .ok (.aload_n 0, 1) := dk_42 (dk_at dksJ5_addLast_1 4 rfl rfl)
theorem dJ5_addLast_29 : decode cJ5_addLast 29 = .ok (.aload_n 0, 1) := dk_42 (dk_at dksJ5_addLast_1 5 rfl rfl)
theorem dJ5_addLast_30 : decode cJ5_addLast 30 = .ok (.getfield 20, 3) := dk_180 0 20 (dk_at dksJ5_addLast_1 6 rfl rfl)
theorem dJ5_addLast_33 : decode cJ5_addLast 33 = .ok (.aload_n 2, 1) := dk_44 (dk_at dksJ5_addLast_1 9 rfl rfl)
theorem dJ5_addLast_34 : decode cJ5_addLast 34 = .ok (.arraylength, 1) := dk_190 (dk_at dksJ5_addLast_1 10 rfl rfl)
theorem dJ5_addLast_35 : decode cJ5_addLast 35 = .ok (.invokestatic 74, 3) := dk_184 0 74 (dk_at dksJ5_addLast_1 11 rfl rfl)
theorem dJ5_addLast_38 : decode cJ5_addLast 38 = .ok (.dup_x1, 1) := dk_90 (dk_at dksJ5_addLast_1 14 rfl rfl)
theorem dJ5_addLast_39 : decode cJ5_addLast 39 = .ok (.putfield 20, 3) := dk_181 0 20 (dk_at dksJ5_addLast_1 15 rfl rfl)
theorem dJ5_addLast_42 : decode cJ5_addLast 42 = .ok (.if_icmp .ne 8, 3) := dk_160 0 8 (dk_at dksJ5_addLast_1 18 rfl rfl)
theorem dJ5_addLast_45 : decode cJ5_addLast 45 = .ok (.aload_n 0, 1) := dk_42 (dk_at dksJ5_addLast_1 21 rfl rfl)
theorem dJ5_addLast_46 : decode cJ5_addLast 46 = .ok (.iconst 1, 1) := dk_4 (dk_at dksJ5_addLast_1 22 rfl rfl)
theorem dJ5_addLast_47 : decode cJ5_addLast 47 = .ok (.invokevirtual 71, 3) := dk_182 0 71 (dk_at dksJ5_addLast_2 0 rfl rfl)
theorem dJ5_addLast_50 : decode cJ5_addLast 50 = .ok (.return_, 1) := dk_177 (dk_at dksJ5_addLast_2 3 rfl rfl)
abbrev cJ5_grow : ByteArray := prog_44_method_1_code
def yJ5_grow : MethodName := ⟨RJ5, "grow", "(I)V"⟩
def dkwJ5_grow_7 : List UInt8 := [177]
abbrev dktJ5_grow_7 : List UInt8 := dkwJ5_grow_7 ++ []
def dkwJ5_grow_6 : List UInt8 := [181, 0, 24, 54, 8, 21, 7, 21, 8, 162, 0, 15, 25, 5, 21, 7, 1, 83, 132, 7, 1, 167, 255, 240]
abbrev dktJ5_grow_6 : List UInt8 := dkwJ5_grow_6 ++ dktJ5_grow_7
def dkwJ5_grow_5 : List UInt8 := [42, 180, 0, 24, 100, 184, 0, 27, 42, 180, 0, 24, 54, 7, 42, 89, 180, 0, 24, 21, 6, 96, 90]
abbrev dktJ5_grow_5 : List UInt8 := dkwJ5_grow_5 ++ dktJ5_grow_6
def dkwJ5_grow_4 : List UInt8 := [198, 0, 71, 29, 28, 100, 54, 6, 25, 5, 42, 180, 0, 24, 25, 5, 42, 180, 0, 24, 21, 6, 96, 28]
abbrev dktJ5_grow_4 : List UInt8 := dkwJ5_grow_4 ++ dktJ5_grow_5
def dkwJ5_grow_3 : List UInt8 := [180, 0, 24, 161, 0, 24, 42, 180, 0, 20, 42, 180, 0, 24, 160, 0, 81, 25, 5, 42, 180, 0, 24, 50]
abbrev dktJ5_grow_3 : List UInt8 := dkwJ5_grow_3 ++ dktJ5_grow_4
def dkwJ5_grow_2 : List UInt8 := [182, 0, 10, 62, 42, 42, 180, 0, 3, 29, 184, 0, 14, 90, 181, 0, 3, 58, 5, 42, 180, 0, 20, 42]
abbrev dktJ5_grow_2 : List UInt8 := dkwJ5_grow_2 ++ dktJ5_grow_3
def dkwJ5_grow_1 : List UInt8 := [21, 4, 27, 161, 0, 15, 28, 21, 4, 96, 89, 62, 18, 9, 100, 158, 0, 11, 42, 27, 21, 4]
abbrev dktJ5_grow_1 : List UInt8 := dkwJ5_grow_1 ++ dktJ5_grow_2
def dkwJ5_grow_0 : List UInt8 := [42, 180, 0, 3, 190, 61, 28, 16, 64, 162, 0, 9, 28, 5, 96, 167, 0, 6, 28, 4, 122, 54, 4]
abbrev dktJ5_grow_0 : List UInt8 := dkwJ5_grow_0 ++ dktJ5_grow_1
theorem dksJ5_grow_0 : cJ5_grow.data.toList.drop 0 = dktJ5_grow_0 := by decide +kernel
theorem dksJ5_grow_1 : cJ5_grow.data.toList.drop 23 = dktJ5_grow_1 := dk_seg dksJ5_grow_0 23 rfl rfl
theorem dksJ5_grow_2 : cJ5_grow.data.toList.drop 45 = dktJ5_grow_2 := dk_seg dksJ5_grow_1 22 rfl rfl
theorem dksJ5_grow_3 : cJ5_grow.data.toList.drop 69 = dktJ5_grow_3 := dk_seg dksJ5_grow_2 24 rfl rfl
theorem dksJ5_grow_4 : cJ5_grow.data.toList.drop 93 = dktJ5_grow_4 := dk_seg dksJ5_grow_3 24 rfl rfl
theorem dksJ5_grow_5 : cJ5_grow.data.toList.drop 117 = dktJ5_grow_5 := dk_seg dksJ5_grow_4 24 rfl rfl
theorem dksJ5_grow_6 : cJ5_grow.data.toList.drop 140 = dktJ5_grow_6 := dk_seg dksJ5_grow_5 23 rfl rfl
theorem dksJ5_grow_7 : cJ5_grow.data.toList.drop 164 = dktJ5_grow_7 := dk_seg dksJ5_grow_6 24 rfl rfl
theorem dJ5_grow_0 : decode cJ5_grow 0 = .ok (.aload_n 0, 1) := dk_42 (dk_at dksJ5_grow_0 0 rfl rfl)
theorem dJ5_grow_1 : decode cJ5_grow 1 = .ok (.getfield 3, 3) := dk_180 0 3 (dk_at dksJ5_grow_0 1 rfl rfl)
theorem dJ5_grow_4 : decode cJ5_grow 4 = .ok (.arraylength, 1) := dk_190 (dk_at dksJ5_grow_0 4 rfl rfl)
theorem dJ5_grow_5 : decode cJ5_grow 5 = .ok (.istore_n 2, 1) := dk_61 (dk_at dksJ5_grow_0 5 rfl rfl)
theorem dJ5_grow_6 : decode cJ5_grow 6 = .ok (.iload_n 2, 1) := dk_28 (dk_at dksJ5_grow_0 6 rfl rfl)
theorem dJ5_grow_7 : decode cJ5_grow 7 = .ok (.bipush 64, 2) := dk_16 64 (dk_at dksJ5_grow_0 7 rfl rfl)
theorem dJ5_grow_9 : decode cJ5_grow 9 = .ok (.if_icmp .ge 9, 3) := dk_162 0 9 (dk_at dksJ5_grow_0 9 rfl rfl)
theorem dJ5_grow_12 : decode cJ5_grow 12 = .ok (.iload_n 2, 1) := dk_28 (dk_at dksJ5_grow_0 12 rfl rfl)
theorem dJ5_grow_13 : decode cJ5_grow 13 = .ok (.iconst 2, 1) := dk_5 (dk_at dksJ5_grow_0 13 rfl rfl)
theorem dJ5_grow_14 : decode cJ5_grow 14 = .ok (.iadd, 1) := dk_96 (dk_at dksJ5_grow_0 14 rfl rfl)
theorem dJ5_grow_15 : decode cJ5_grow 15 = .ok (.goto 6, 3) := dk_167 0 6 (dk_at dksJ5_grow_0 15 rfl rfl)
theorem dJ5_grow_18 : decode cJ5_grow 18 = .ok (.iload_n 2, 1) := dk_28 (dk_at dksJ5_grow_0 18 rfl rfl)
theorem dJ5_grow_19 : decode cJ5_grow 19 = .ok (.iconst 1, 1) := dk_4 (dk_at dksJ5_grow_0 19 rfl rfl)
theorem dJ5_grow_20 : decode cJ5_grow 20 = .ok (.ishr, 1) := dk_122 (dk_at dksJ5_grow_0 20 rfl rfl)
theorem dJ5_grow_21 : decode cJ5_grow 21 = .ok (.istore 4, 2) := dk_54 4 (dk_at dksJ5_grow_0 21 rfl rfl)
theorem dJ5_grow_23 : decode cJ5_grow 23 = .ok (.iload 4, 2) := dk_21 4 (dk_at dksJ5_grow_1 0 rfl rfl)
theorem dJ5_grow_25 : decode cJ5_grow 25 = .ok (.iload_n 1, 1) := dk_27 (dk_at dksJ5_grow_1 2 rfl rfl)
theorem dJ5_grow_26 : decode cJ5_grow 26 = .ok (.if_icmp .lt 15, 3) := dk_161 0 15 (dk_at dksJ5_grow_1 3 rfl rfl)
theorem dJ5_grow_29 : decode cJ5_grow 29 = .ok (.iload_n 2, 1) := dk_28 (dk_at dksJ5_grow_1 6 rfl rfl)
theorem dJ5_grow_30 : decode cJ5_grow 30 = .ok (.iload 4, 2) := dk_21 4 (dk_at dksJ5_grow_1 7 rfl rfl)
theorem dJ5_grow_32 : decode cJ5_grow 32 = .ok (.iadd, 1) := dk_96 (dk_at dksJ5_grow_1 9 rfl rfl)
theorem dJ5_grow_33 : decode cJ5_grow 33 = .ok (.dup, 1) := dk_89 (dk_at dksJ5_grow_1 10 rfl rfl)
theorem dJ5_grow_34 : decode cJ5_grow 34 = .ok (.istore_n 3, 1) := dk_62 (dk_at dksJ5_grow_1 11 rfl rfl)
theorem dJ5_grow_35 : decode cJ5_grow 35 = .ok (.ldc 9, 2) := dk_18 9 (dk_at dksJ5_grow_1 12 rfl rfl)
theorem dJ5_grow_37 : decode cJ5_grow 37 = .ok (.isub, 1) := dk_100 (dk_at dksJ5_grow_1 14 rfl rfl)
theorem dJ5_grow_38 : decode cJ5_grow 38 = .ok (.ifCond .le 11, 3) := dk_158 0 11 (dk_at dksJ5_grow_1 15 rfl rfl)
theorem dJ5_grow_41 : decode cJ5_grow 41 = .ok (.aload_n 0, 1) := dk_42 (dk_at dksJ5_grow_1 18 rfl rfl)
theorem dJ5_grow_42 : decode cJ5_grow 42 = .ok (.iload_n 1, 1) := dk_27 (dk_at dksJ5_grow_1 19 rfl rfl)
theorem dJ5_grow_43 : decode cJ5_grow 43 = .ok (.iload 4, 2) := dk_21 4 (dk_at dksJ5_grow_1 20 rfl rfl)
theorem dJ5_grow_45 : decode cJ5_grow 45 = .ok (.invokevirtual 10, 3) := dk_182 0 10 (dk_at dksJ5_grow_2 0 rfl rfl)
theorem dJ5_grow_48 : decode cJ5_grow 48 = .ok (.istore_n 3, 1) := dk_62 (dk_at dksJ5_grow_2 3 rfl rfl)
theorem dJ5_grow_49 : decode cJ5_grow 49 = .ok (.aload_n 0, 1) := dk_42 (dk_at dksJ5_grow_2 4 rfl rfl)
theorem dJ5_grow_50 : decode cJ5_grow 50 = .ok (.aload_n 0, 1) := dk_42 (dk_at dksJ5_grow_2 5 rfl rfl)
theorem dJ5_grow_51 : decode cJ5_grow 51 = .ok (.getfield 3, 3) := dk_180 0 3 (dk_at dksJ5_grow_2 6 rfl rfl)
theorem dJ5_grow_54 : decode cJ5_grow 54 = .ok (.iload_n 3, 1) := dk_29 (dk_at dksJ5_grow_2 9 rfl rfl)
theorem dJ5_grow_55 : decode cJ5_grow 55 = .ok (.invokestatic 14, 3) := dk_184 0 14 (dk_at dksJ5_grow_2 10 rfl rfl)
theorem dJ5_grow_58 : decode cJ5_grow 58 = .ok (.dup_x1, 1) := dk_90 (dk_at dksJ5_grow_2 13 rfl rfl)
theorem dJ5_grow_59 : decode cJ5_grow 59 = .ok (.putfield 3, 3) := dk_181 0 3 (dk_at dksJ5_grow_2 14 rfl rfl)
theorem dJ5_grow_62 : decode cJ5_grow 62 = .ok (.astore 5, 2) := dk_58 5 (dk_at dksJ5_grow_2 17 rfl rfl)
theorem dJ5_grow_64 : decode cJ5_grow 64 = .ok (.aload_n 0, 1) := dk_42 (dk_at dksJ5_grow_2 19 rfl rfl)
theorem dJ5_grow_65 : decode cJ5_grow 65 = .ok (.getfield 20, 3) := dk_180 0 20 (dk_at dksJ5_grow_2 20 rfl rfl)
theorem dJ5_grow_68 : decode cJ5_grow 68 = .ok (.aload_n 0, 1) := dk_42 (dk_at dksJ5_grow_2 23 rfl rfl)
theorem dJ5_grow_69 : decode cJ5_grow 69 = .ok (.getfield 24, 3) := dk_180 0 24 (dk_at dksJ5_grow_3 0 rfl rfl)
theorem dJ5_grow_72 : decode cJ5_grow 72 = .ok (.if_icmp .lt 24, 3) := dk_161 0 24 (dk_at dksJ5_grow_3 3 rfl rfl)
theorem dJ5_grow_75 : decode cJ5_grow 75 = .ok (.aload_n 0, 1) := dk_42 (dk_at dksJ5_grow_3 6 rfl rfl)
theorem dJ5_grow_76 : decode cJ5_grow 76 = .ok (.getfield 20, 3) := dk_180 0 20 (dk_at dksJ5_grow_3 7 rfl rfl)
theorem dJ5_grow_79 : decode cJ5_grow 79 = .ok (.aload_n 0, 1) := dk_42 (dk_at dksJ5_grow_3 10 rfl rfl)
theorem dJ5_grow_80 : decode cJ5_grow 80 = .ok (.getfield 24, 3) := dk_180 0 24 (dk_at dksJ5_grow_3 11 rfl rfl)
theorem dJ5_grow_83 : decode cJ5_grow 83 = .ok (.if_icmp .ne 81, 3) := dk_160 0 81 (dk_at dksJ5_grow_3 14 rfl rfl)
theorem dJ5_grow_86 : decode cJ5_grow 86 = .ok (.aload 5, 2) := dk_25 5 (dk_at dksJ5_grow_3 17 rfl rfl)
theorem dJ5_grow_88 : decode cJ5_grow 88 = .ok (.aload_n 0, 1) := dk_42 (dk_at dksJ5_grow_3 19 rfl rfl)
theorem dJ5_grow_89 : decode cJ5_grow 89 = .ok (.getfield 24, 3) := dk_180 0 24 (dk_at dksJ5_grow_3 20 rfl rfl)
theorem dJ5_grow_92 : decode cJ5_grow 92 = .ok (.aaload, 1) := dk_50 (dk_at dksJ5_grow_3 23 rfl rfl)
theorem dJ5_grow_93 : decode cJ5_grow 93 = .ok (.ifnull 71, 3) := dk_198 0 71 (dk_at dksJ5_grow_4 0 rfl rfl)
theorem dJ5_grow_96 : decode cJ5_grow 96 = .ok (.iload_n 3, 1) := dk_29 (dk_at dksJ5_grow_4 3 rfl rfl)
theorem dJ5_grow_97 : decode cJ5_grow 97 = .ok (.iload_n 2, 1) := dk_28 (dk_at dksJ5_grow_4 4 rfl rfl)
theorem dJ5_grow_98 : decode cJ5_grow 98 = .ok (.isub, 1) := dk_100 (dk_at dksJ5_grow_4 5 rfl rfl)
theorem dJ5_grow_99 : decode cJ5_grow 99 = .ok (.istore 6, 2) := dk_54 6 (dk_at dksJ5_grow_4 6 rfl rfl)
theorem dJ5_grow_101 : decode cJ5_grow 101 = .ok (.aload 5, 2) := dk_25 5 (dk_at dksJ5_grow_4 8 rfl rfl)
theorem dJ5_grow_103 : decode cJ5_grow 103 = .ok (.aload_n 0, 1) := dk_42 (dk_at dksJ5_grow_4 10 rfl rfl)
theorem dJ5_grow_104 : decode cJ5_grow 104 = .ok (.getfield 24, 3) := dk_180 0 24 (dk_at dksJ5_grow_4 11 rfl rfl)
theorem dJ5_grow_107 : decode cJ5_grow 107 = .ok (.aload 5, 2) := dk_25 5 (dk_at dksJ5_grow_4 14 rfl rfl)
theorem dJ5_grow_109 : decode cJ5_grow 109 = .ok (.aload_n 0, 1) := dk_42 (dk_at dksJ5_grow_4 16 rfl rfl)
theorem dJ5_grow_110 : decode cJ5_grow 110 = .ok (.getfield 24, 3) := dk_180 0 24 (dk_at dksJ5_grow_4 17 rfl rfl)
theorem dJ5_grow_113 : decode cJ5_grow 113 = .ok (.iload 6, 2) := dk_21 6 (dk_at dksJ5_grow_4 20 rfl rfl)
theorem dJ5_grow_115 : decode cJ5_grow 115 = .ok (.iadd, 1) := dk_96 (dk_at dksJ5_grow_4 22 rfl rfl)
theorem dJ5_grow_116 : decode cJ5_grow 116 = .ok (.iload_n 2, 1) := dk_28 (dk_at dksJ5_grow_4 23 rfl rfl)
theorem dJ5_grow_117 : decode cJ5_grow 117 = .ok (.aload_n 0, 1) := dk_42 (dk_at dksJ5_grow_5 0 rfl rfl)
theorem dJ5_grow_118 : decode cJ5_grow 118 = .ok (.getfield 24, 3) := dk_180 0 24 (dk_at dksJ5_grow_5 1 rfl rfl)
theorem dJ5_grow_121 : decode cJ5_grow 121 = .ok (.isub, 1) := dk_100 (dk_at dksJ5_grow_5 4 rfl rfl)
theorem dJ5_grow_122 : decode cJ5_grow 122 = .ok (.invokestatic 27, 3) := dk_184 0 27 (dk_at dksJ5_grow_5 5 rfl rfl)
theorem dJ5_grow_125 : decode cJ5_grow 125 = .ok (.aload_n 0, 1) := dk_42 (dk_at dksJ5_grow_5 8 rfl rfl)
theorem dJ5_grow_126 : decode cJ5_grow 126 = .ok (.getfield 24, 3) := dk_180 0 24 (dk_at dksJ5_grow_5 9 rfl rfl)
theorem dJ5_grow_129 : decode cJ5_grow 129 = .ok (.istore 7, 2) := dk_54 7 (dk_at dksJ5_grow_5 12 rfl rfl)
theorem dJ5_grow_131 : decode cJ5_grow 131 = .ok (.aload_n 0, 1) := dk_42 (dk_at dksJ5_grow_5 14 rfl rfl)
theorem dJ5_grow_132 : decode cJ5_grow 132 = .ok (.dup, 1) := dk_89 (dk_at dksJ5_grow_5 15 rfl rfl)
theorem dJ5_grow_133 : decode cJ5_grow 133 = .ok (.getfield 24, 3) := dk_180 0 24 (dk_at dksJ5_grow_5 16 rfl rfl)
theorem dJ5_grow_136 : decode cJ5_grow 136 = .ok (.iload 6, 2) := dk_21 6 (dk_at dksJ5_grow_5 19 rfl rfl)
theorem dJ5_grow_138 : decode cJ5_grow 138 = .ok (.iadd, 1) := dk_96 (dk_at dksJ5_grow_5 21 rfl rfl)
theorem dJ5_grow_139 : decode cJ5_grow 139 = .ok (.dup_x1, 1) := dk_90 (dk_at dksJ5_grow_5 22 rfl rfl)
theorem dJ5_grow_140 : decode cJ5_grow 140 = .ok (.putfield 24, 3) := dk_181 0 24 (dk_at dksJ5_grow_6 0 rfl rfl)
theorem dJ5_grow_143 : decode cJ5_grow 143 = .ok (.istore 8, 2) := dk_54 8 (dk_at dksJ5_grow_6 3 rfl rfl)
theorem dJ5_grow_145 : decode cJ5_grow 145 = .ok (.iload 7, 2) := dk_21 7 (dk_at dksJ5_grow_6 5 rfl rfl)
theorem dJ5_grow_147 : decode cJ5_grow 147 = .ok (.iload 8, 2) := dk_21 8 (dk_at dksJ5_grow_6 7 rfl rfl)
theorem dJ5_grow_149 : decode cJ5_grow 149 = .ok (.if_icmp .ge 15, 3) := dk_162 0 15 (dk_at dksJ5_grow_6 9 rfl rfl)
theorem dJ5_grow_152 : decode cJ5_grow 152 = .ok (.aload 5, 2) := dk_25 5 (dk_at dksJ5_grow_6 12 rfl rfl)
theorem dJ5_grow_154 : decode cJ5_grow 154 = .ok (.iload 7, 2) := dk_21 7 (dk_at dksJ5_grow_6 14 rfl rfl)
theorem dJ5_grow_156 : decode cJ5_grow 156 = .ok (.aconst_null, 1) := dk_1 (dk_at dksJ5_grow_6 16 rfl rfl)
theorem dJ5_grow_157 : decode cJ5_grow 157 = .ok (.aastore, 1) := dk_83 (dk_at dksJ5_grow_6 17 rfl rfl)
theorem dJ5_grow_158 : decode cJ5_grow 158 = .ok (.iinc 7 1, 3) := dk_132 7 1 (dk_at dksJ5_grow_6 18 rfl rfl)
theorem dJ5_grow_161 : decode cJ5_grow 161 = .ok (.goto (-16), 3) := dk_167 255 240 (dk_at dksJ5_grow_6 21 rfl rfl)
theorem dJ5_grow_164 : decode cJ5_grow 164 = .ok (.return_, 1) := dk_177 (dk_at dksJ5_grow_7 0 rfl rfl)
abbrev cJ5_newCapacity : ByteArray := prog_44_method_2_code
def yJ5_newCapacity : MethodName := ⟨RJ5, "newCapacity", "(II)I"⟩
def dkwJ5_newCapacity_2 : List UInt8 := [18, 9, 100, 156, 0, 9, 29, 28, 96, 167, 0, 5, 18, 9, 172]
abbrev dktJ5_newCapacity_2 : List UInt8 := dkwJ5_newCapacity_2 ++ []
def dkwJ5_newCapacity_1 : List UInt8 := [187, 0, 33, 89, 18, 35, 183, 0, 37, 191, 18, 41, 172, 27, 28, 164, 0, 6, 21, 4, 172, 29, 28, 96]
abbrev dktJ5_newCapacity_1 : List UInt8 := dkwJ5_newCapacity_1 ++ dktJ5_newCapacity_2
def dkwJ5_newCapacity_0 : List UInt8 := [42, 180, 0, 3, 190, 62, 29, 27, 96, 89, 54, 4, 18, 9, 100, 158, 0, 21, 21, 4, 156, 0, 13]
abbrev dktJ5_newCapacity_0 : List UInt8 := dkwJ5_newCapacity_0 ++ dktJ5_newCapacity_1
theorem dksJ5_newCapacity_0 : cJ5_newCapacity.data.toList.drop 0 = dktJ5_newCapacity_0 := by decide +kernel
theorem dksJ5_newCapacity_1 : cJ5_newCapacity.data.toList.drop 23 = dktJ5_newCapacity_1 := dk_seg dksJ5_newCapacity_0 23 rfl rfl
theorem dksJ5_newCapacity_2 : cJ5_newCapacity.data.toList.drop 47 = dktJ5_newCapacity_2 := dk_seg dksJ5_newCapacity_1 24 rfl rfl
theorem dJ5_newCapacity_0 : decode cJ5_newCapacity 0 = .ok (.aload_n 0, 1) := dk_42 (dk_at dksJ5_newCapacity_0 0 rfl rfl)
theorem dJ5_newCapacity_1 : decode cJ5_newCapacity 1 = .ok (.getfield 3, 3) := dk_180 0 3 (dk_at dksJ5_newCapacity_0 1 rfl rfl)
theorem dJ5_newCapacity_4 : decode cJ5_newCapacity 4 = .ok (.arraylength, 1) := dk_190 (dk_at dksJ5_newCapacity_0 4 rfl rfl)
theorem dJ5_newCapacity_5 : decode cJ5_newCapacity 5 = .ok (.istore_n 3, 1) := dk_62 (dk_at dksJ5_newCapacity_0 5 rfl rfl)
theorem dJ5_newCapacity_6 : decode cJ5_newCapacity 6 = .ok (.iload_n 3, 1) := dk_29 (dk_at dksJ5_newCapacity_0 6 rfl rfl)
theorem dJ5_newCapacity_7 : decode cJ5_newCapacity 7 = .ok (.iload_n 1, 1) := dk_27 (dk_at dksJ5_newCapacity_0 7 rfl rfl)
theorem dJ5_newCapacity_8 : decode cJ5_newCapacity 8 = .ok (.iadd, 1) := dk_96 (dk_at dksJ5_newCapacity_0 8 rfl rfl)
theorem dJ5_newCapacity_9 : decode cJ5_newCapacity 9 = .ok (.dup, 1) := dk_89 (dk_at dksJ5_newCapacity_0 9 rfl rfl)
theorem dJ5_newCapacity_10 : decode cJ5_newCapacity 10 = .ok (.istore 4, 2) := dk_54 4 (dk_at dksJ5_newCapacity_0 10 rfl rfl)
theorem dJ5_newCapacity_12 : decode cJ5_newCapacity 12 = .ok (.ldc 9, 2) := dk_18 9 (dk_at dksJ5_newCapacity_0 12 rfl rfl)
theorem dJ5_newCapacity_14 : decode cJ5_newCapacity 14 = .ok (.isub, 1) := dk_100 (dk_at dksJ5_newCapacity_0 14 rfl rfl)
theorem dJ5_newCapacity_15 : decode cJ5_newCapacity 15 = .ok (.ifCond .le 21, 3) := dk_158 0 21 (dk_at dksJ5_newCapacity_0 15 rfl rfl)
theorem dJ5_newCapacity_18 : decode cJ5_newCapacity 18 = .ok (.iload 4, 2) := dk_21 4 (dk_at dksJ5_newCapacity_0 18 rfl rfl)
theorem dJ5_newCapacity_20 : decode cJ5_newCapacity 20 = .ok (.ifCond .ge 13, 3) := dk_156 0 13 (dk_at dksJ5_newCapacity_0 20 rfl rfl)
theorem dJ5_newCapacity_23 : decode cJ5_newCapacity 23 = .ok (.new 33, 3) := dk_187 0 33 (dk_at dksJ5_newCapacity_1 0 rfl rfl)
theorem dJ5_newCapacity_26 : decode cJ5_newCapacity 26 = .ok (.dup, 1) := dk_89 (dk_at dksJ5_newCapacity_1 3 rfl rfl)
theorem dJ5_newCapacity_27 : decode cJ5_newCapacity 27 = .ok (.ldc 35, 2) := dk_18 35 (dk_at dksJ5_newCapacity_1 4 rfl rfl)
theorem dJ5_newCapacity_29 : decode cJ5_newCapacity 29 = .ok (.invokespecial 37, 3) := dk_183 0 37 (dk_at dksJ5_newCapacity_1 6 rfl rfl)
theorem dJ5_newCapacity_32 : decode cJ5_newCapacity 32 = .ok (.athrow, 1) := dk_191 (dk_at dksJ5_newCapacity_1 9 rfl rfl)
theorem dJ5_newCapacity_33 : decode cJ5_newCapacity 33 = .ok (.ldc 41, 2) := dk_18 41 (dk_at dksJ5_newCapacity_1 10 rfl rfl)
theorem dJ5_newCapacity_35 : decode cJ5_newCapacity 35 = .ok (.ireturn, 1) := dk_172 (dk_at dksJ5_newCapacity_1 12 rfl rfl)
theorem dJ5_newCapacity_36 : decode cJ5_newCapacity 36 = .ok (.iload_n 1, 1) := dk_27 (dk_at dksJ5_newCapacity_1 13 rfl rfl)
theorem dJ5_newCapacity_37 : decode cJ5_newCapacity 37 = .ok (.iload_n 2, 1) := dk_28 (dk_at dksJ5_newCapacity_1 14 rfl rfl)
theorem dJ5_newCapacity_38 : decode cJ5_newCapacity 38 = .ok (.if_icmp .le 6, 3) := dk_164 0 6 (dk_at dksJ5_newCapacity_1 15 rfl rfl)
theorem dJ5_newCapacity_41 : decode cJ5_newCapacity 41 = .ok (.iload 4, 2) := dk_21 4 (dk_at dksJ5_newCapacity_1 18 rfl rfl)
theorem dJ5_newCapacity_43 : decode cJ5_newCapacity 43 = .ok (.ireturn, 1) := dk_172 (dk_at dksJ5_newCapacity_1 20 rfl rfl)
theorem dJ5_newCapacity_44 : decode cJ5_newCapacity 44 = .ok (.iload_n 3, 1) := dk_29 (dk_at dksJ5_newCapacity_1 21 rfl rfl)
theorem dJ5_newCapacity_45 : decode cJ5_newCapacity 45 = .ok (.iload_n 2, 1) := dk_28 (dk_at dksJ5_newCapacity_1 22 rfl rfl)
theorem dJ5_newCapacity_46 : decode cJ5_newCapacity 46 = .ok (.iadd, 1) := dk_96 (dk_at dksJ5_newCapacity_1 23 rfl rfl)
theorem dJ5_newCapacity_47 : decode cJ5_newCapacity 47 = .ok (.ldc 9, 2) := dk_18 9 (dk_at dksJ5_newCapacity_2 0 rfl rfl)
theorem dJ5_newCapacity_49 : decode cJ5_newCapacity 49 = .ok (.isub, 1) := dk_100 (dk_at dksJ5_newCapacity_2 2 rfl rfl)
theorem dJ5_newCapacity_50 : decode cJ5_newCapacity 50 = .ok (.ifCond .ge 9, 3) := dk_156 0 9 (dk_at dksJ5_newCapacity_2 3 rfl rfl)
theorem dJ5_newCapacity_53 : decode cJ5_newCapacity 53 = .ok (.iload_n 3, 1) := dk_29 (dk_at dksJ5_newCapacity_2 6 rfl rfl)
theorem dJ5_newCapacity_54 : decode cJ5_newCapacity 54 = .ok (.iload_n 2, 1) := dk_28 (dk_at dksJ5_newCapacity_2 7 rfl rfl)
theorem dJ5_newCapacity_55 : decode cJ5_newCapacity 55 = .ok (.iadd, 1) := dk_96 (dk_at dksJ5_newCapacity_2 8 rfl rfl)
theorem dJ5_newCapacity_56 : decode cJ5_newCapacity 56 = .ok (.goto 5, 3) := dk_167 0 5 (dk_at dksJ5_newCapacity_2 9 rfl rfl)
theorem dJ5_newCapacity_59 : decode cJ5_newCapacity 59 = .ok (.ldc 9, 2) := dk_18 9 (dk_at dksJ5_newCapacity_2 12 rfl rfl)
theorem dJ5_newCapacity_61 : decode cJ5_newCapacity 61 = .ok (.ireturn, 1) := dk_172 (dk_at dksJ5_newCapacity_2 14 rfl rfl)
abbrev cJ5_isEmpty : ByteArray := prog_44_method_38_code
def yJ5_isEmpty : MethodName := ⟨RJ5, "isEmpty", "()Z"⟩
def dkwJ5_isEmpty_0 : List UInt8 := [42, 180, 0, 24, 42, 180, 0, 20, 160, 0, 7, 4, 167, 0, 4, 3, 172]
abbrev dktJ5_isEmpty_0 : List UInt8 := dkwJ5_isEmpty_0 ++ []
theorem dksJ5_isEmpty_0 : cJ5_isEmpty.data.toList.drop 0 = dktJ5_isEmpty_0 := by decide +kernel
theorem dJ5_isEmpty_0 : decode cJ5_isEmpty 0 = .ok (.aload_n 0, 1) := dk_42 (dk_at dksJ5_isEmpty_0 0 rfl rfl)
theorem dJ5_isEmpty_1 : decode cJ5_isEmpty 1 = .ok (.getfield 24, 3) := dk_180 0 24 (dk_at dksJ5_isEmpty_0 1 rfl rfl)
theorem dJ5_isEmpty_4 : decode cJ5_isEmpty 4 = .ok (.aload_n 0, 1) := dk_42 (dk_at dksJ5_isEmpty_0 4 rfl rfl)
theorem dJ5_isEmpty_5 : decode cJ5_isEmpty 5 = .ok (.getfield 20, 3) := dk_180 0 20 (dk_at dksJ5_isEmpty_0 5 rfl rfl)
theorem dJ5_isEmpty_8 : decode cJ5_isEmpty 8 = .ok (.if_icmp .ne 7, 3) := dk_160 0 7 (dk_at dksJ5_isEmpty_0 8 rfl rfl)
theorem dJ5_isEmpty_11 : decode cJ5_isEmpty 11 = .ok (.iconst 1, 1) := dk_4 (dk_at dksJ5_isEmpty_0 11 rfl rfl)
theorem dJ5_isEmpty_12 : decode cJ5_isEmpty 12 = .ok (.goto 4, 3) := dk_167 0 4 (dk_at dksJ5_isEmpty_0 12 rfl rfl)
theorem dJ5_isEmpty_15 : decode cJ5_isEmpty 15 = .ok (.iconst 0, 1) := dk_3 (dk_at dksJ5_isEmpty_0 15 rfl rfl)
theorem dJ5_isEmpty_16 : decode cJ5_isEmpty 16 = .ok (.ireturn, 1) := dk_172 (dk_at dksJ5_isEmpty_0 16 rfl rfl)
abbrev cJ5_removeLast : ByteArray := prog_44_method_19_code
def yJ5_removeLast : MethodName := ⟨RJ5, "removeLast", "()Ljava/lang/Object;"⟩
def dkwJ5_removeLast_0 : List UInt8 := [42, 182, 0, 100, 76, 43, 199, 0, 11, 187, 0, 97, 89, 183, 0, 99, 191, 43, 176]
abbrev dktJ5_removeLast_0 : List UInt8 := dkwJ5_removeLast_0 ++ []
theorem dksJ5_removeLast_0 : cJ5_removeLast.data.toList.drop 0 = dktJ5_removeLast_0 := by decide +kernel
theorem dJ5_removeLast_0 : decode cJ5_removeLast 0 = .ok (.aload_n 0, 1) := dk_42 (dk_at dksJ5_removeLast_0 0 rfl rfl)
theorem dJ5_removeLast_1 : decode cJ5_removeLast 1 = .ok (.invokevirtual 100, 3) := dk_182 0 100 (dk_at dksJ5_removeLast_0 1 rfl rfl)
theorem dJ5_removeLast_4 : decode cJ5_removeLast 4 = .ok (.astore_n 1, 1) := dk_76 (dk_at dksJ5_removeLast_0 4 rfl rfl)
theorem dJ5_removeLast_5 : decode cJ5_removeLast 5 = .ok (.aload_n 1, 1) := dk_43 (dk_at dksJ5_removeLast_0 5 rfl rfl)
theorem dJ5_removeLast_6 : decode cJ5_removeLast 6 = .ok (.ifnonnull 11, 3) := dk_199 0 11 (dk_at dksJ5_removeLast_0 6 rfl rfl)
theorem dJ5_removeLast_9 : decode cJ5_removeLast 9 = .ok (.new 97, 3) := dk_187 0 97 (dk_at dksJ5_removeLast_0 9 rfl rfl)
theorem dJ5_removeLast_12 : decode cJ5_removeLast 12 = .ok (.dup, 1) := dk_89 (dk_at dksJ5_removeLast_0 12 rfl rfl)
theorem dJ5_removeLast_13 : decode cJ5_removeLast 13 = .ok (.invokespecial 99, 3) := dk_183 0 99 (dk_at dksJ5_removeLast_0 13 rfl rfl)
theorem dJ5_removeLast_16 : decode cJ5_removeLast 16 = .ok (.athrow, 1) := dk_191 (dk_at dksJ5_removeLast_0 16 rfl rfl)
theorem dJ5_removeLast_17 : decode cJ5_removeLast 17 = .ok (.aload_n 1, 1) := dk_43 (dk_at dksJ5_removeLast_0 17 rfl rfl)
theorem dJ5_removeLast_18 : decode cJ5_removeLast 18 = .ok (.areturn, 1) := dk_176 (dk_at dksJ5_removeLast_0 18 rfl rfl)
abbrev cJ5_pollLast : ByteArray := prog_44_method_21_code
def yJ5_pollLast : MethodName := ⟨RJ5, "pollLast", "()Ljava/lang/Object;"⟩
def dkwJ5_pollLast_1 : List UInt8 := [198, 0, 12, 43, 42, 28, 90, 181, 0, 20, 1, 83, 45, 176]
abbrev dktJ5_pollLast_1 : List UInt8 := dkwJ5_pollLast_1 ++ []
def dkwJ5_pollLast_0 : List UInt8 := [42, 180, 0, 3, 89, 76, 42, 180, 0, 20, 43, 190, 184, 0, 68, 89, 61, 184, 0, 103, 78, 45]
abbrev dktJ5_pollLast_0 : List UInt8 := dkwJ5_pollLast_0 ++ dktJ5_pollLast_1
theorem dksJ5_pollLast_0 : cJ5_pollLast.data.toList.drop 0 = dktJ5_pollLast_0 := by decide +kernel
theorem dksJ5_pollLast_1 : cJ5_pollLast.data.toList.drop 22 = dktJ5_pollLast_1 := dk_seg dksJ5_pollLast_0 22 rfl rfl
theorem dJ5_pollLast_0 : decode cJ5_pollLast 0 = .ok (.aload_n 0, 1) := dk_42 (dk_at dksJ5_pollLast_0 0 rfl rfl)
theorem dJ5_pollLast_1 : decode cJ5_pollLast 1 = .ok (.getfield 3, 3) := dk_180 0 3 (dk_at dksJ5_pollLast_0 1 rfl rfl)
theorem dJ5_pollLast_4 : decode cJ5_pollLast 4 = .ok (.dup, 1) := dk_89 (dk_at dksJ5_pollLast_0 4 rfl rfl)
theorem dJ5_pollLast_5 : decode cJ5_pollLast 5 = .ok (.astore_n 1, 1) := dk_76 (dk_at dksJ5_pollLast_0 5 rfl rfl)
theorem dJ5_pollLast_6 : decode cJ5_pollLast 6 = .ok (.aload_n 0, 1) := dk_42 (dk_at dksJ5_pollLast_0 6 rfl rfl)
theorem dJ5_pollLast_7 : decode cJ5_pollLast 7 = .ok (.getfield 20, 3) := dk_180 0 20 (dk_at dksJ5_pollLast_0 7 rfl rfl)
theorem dJ5_pollLast_10 : decode cJ5_pollLast 10 = .ok (.aload_n 1, 1) := dk_43 (dk_at dksJ5_pollLast_0 10 rfl rfl)
theorem dJ5_pollLast_11 : decode cJ5_pollLast 11 = .ok (.arraylength, 1) := dk_190 (dk_at dksJ5_pollLast_0 11 rfl rfl)
theorem dJ5_pollLast_12 : decode cJ5_pollLast 12 = .ok (.invokestatic 68, 3) := dk_184 0 68 (dk_at dksJ5_pollLast_0 12 rfl rfl)
theorem dJ5_pollLast_15 : decode cJ5_pollLast 15 = .ok (.dup, 1) := dk_89 (dk_at dksJ5_pollLast_0 15 rfl rfl)
theorem dJ5_pollLast_16 : decode cJ5_pollLast 16 = .ok (.istore_n 2, 1) := dk_61 (dk_at dksJ5_pollLast_0 16 rfl rfl)
theorem dJ5_pollLast_17 : decode cJ5_pollLast 17 = .ok (.invokestatic 103, 3) := dk_184 0 103 (dk_at dksJ5_pollLast_0 17 rfl rfl)
theorem dJ5_pollLast_20 : decode cJ5_pollLast 20 = .ok (.astore_n 3, 1) := dk_78 (dk_at dksJ5_pollLast_0 20 rfl rfl)
theorem dJ5_pollLast_21 : decode cJ5_pollLast 21 = .ok (.aload_n 3, 1) := dk_45 (dk_at dksJ5_pollLast_0 21 rfl rfl)
theorem dJ5_pollLast_22 : decode cJ5_pollLast 22 = .ok (.ifnull 12, 3) := dk_198 0 12 (dk_at dksJ5_pollLast_1 0 rfl rfl)
theorem dJ5_pollLast_25 : decode cJ5_pollLast 25 = .ok (.aload_n 1, 1) := dk_43 (dk_at dksJ5_pollLast_1 3 rfl rfl)
theorem dJ5_pollLast_26 : decode cJ5_pollLast 26 = .ok (.aload_n 0, 1) := dk_42 (dk_at dksJ5_pollLast_1 4 rfl rfl)
theorem dJ5_pollLast_27 : decode cJ5_pollLast 27 = .ok (.iload_n 2, 1) := dk_28 (dk_at dksJ5_pollLast_1 5 rfl rfl)
theorem dJ5_pollLast_28 : decode cJ5_pollLast 28 = .ok (.dup_x1, 1) := dk_90 (dk_at dksJ5_pollLast_1 6 rfl rfl)
theorem dJ5_pollLast_29 : decode cJ5_pollLast 29 = .ok (.putfield 20, 3) := dk_181 0 20 (dk_at dksJ5_pollLast_1 7 rfl rfl)
theorem dJ5_pollLast_32 : decode cJ5_pollLast 32 = .ok (.aconst_null, 1) := dk_1 (dk_at dksJ5_pollLast_1 10 rfl rfl)
theorem dJ5_pollLast_33 : decode cJ5_pollLast 33 = .ok (.aastore, 1) := dk_83 (dk_at dksJ5_pollLast_1 11 rfl rfl)
theorem dJ5_pollLast_34 : decode cJ5_pollLast 34 = .ok (.aload_n 3, 1) := dk_45 (dk_at dksJ5_pollLast_1 12 rfl rfl)
theorem dJ5_pollLast_35 : decode cJ5_pollLast 35 = .ok (.areturn, 1) := dk_176 (dk_at dksJ5_pollLast_1 13 rfl rfl)
abbrev cJ5_dec : ByteArray := prog_44_method_7_code
def yJ5_dec : MethodName := ⟨RJ5, "dec", "(II)I"⟩
def dkwJ5_dec_0 : List UInt8 := [132, 0, 255, 26, 156, 0, 7, 27, 4, 100, 59, 26, 172]
abbrev dktJ5_dec_0 : List UInt8 := dkwJ5_dec_0 ++ []
theorem dksJ5_dec_0 : cJ5_dec.data.toList.drop 0 = dktJ5_dec_0 := by decide +kernel
theorem dJ5_dec_0 : decode cJ5_dec 0 = .ok (.iinc 0 (-1), 3) := dk_132 0 255 (dk_at dksJ5_dec_0 0 rfl rfl)
theorem dJ5_dec_3 : decode cJ5_dec 3 = .ok (.iload_n 0, 1) := dk_26 (dk_at dksJ5_dec_0 3 rfl rfl)
theorem dJ5_dec_4 : decode cJ5_dec 4 = .ok (.ifCond .ge 7, 3) := dk_156 0 7 (dk_at dksJ5_dec_0 4 rfl rfl)
theorem dJ5_dec_7 : decode cJ5_dec 7 = .ok (.iload_n 1, 1) := dk_27 (dk_at dksJ5_dec_0 7 rfl rfl)
theorem dJ5_dec_8 : decode cJ5_dec 8 = .ok (.iconst 1, 1) := dk_4 (dk_at dksJ5_dec_0 8 rfl rfl)
theorem dJ5_dec_9 : decode cJ5_dec 9 = .ok (.isub, 1) := dk_100 (dk_at dksJ5_dec_0 9 rfl rfl)
theorem dJ5_dec_10 : decode cJ5_dec 10 = .ok (.istore_n 0, 1) := dk_59 (dk_at dksJ5_dec_0 10 rfl rfl)
theorem dJ5_dec_11 : decode cJ5_dec 11 = .ok (.iload_n 0, 1) := dk_26 (dk_at dksJ5_dec_0 11 rfl rfl)
theorem dJ5_dec_12 : decode cJ5_dec 12 = .ok (.ireturn, 1) := dk_172 (dk_at dksJ5_dec_0 12 rfl rfl)
abbrev cJ5_clear : ByteArray := prog_44_method_53_code
def yJ5_clear : MethodName := ⟨RJ5, "clear", "()V"⟩
def dkwJ5_clear_1 : List UInt8 := [181, 0, 24, 177]
abbrev dktJ5_clear_1 : List UInt8 := dkwJ5_clear_1 ++ []
def dkwJ5_clear_0 : List UInt8 := [42, 180, 0, 3, 42, 180, 0, 24, 42, 180, 0, 20, 184, 0, 181, 42, 42, 3, 90, 181, 0, 20]
abbrev dktJ5_clear_0 : List UInt8 := dkwJ5_clear_0 ++ dktJ5_clear_1
theorem dksJ5_clear_0 : cJ5_clear.data.toList.drop 0 = dktJ5_clear_0 := by decide +kernel
theorem dksJ5_clear_1 : cJ5_clear.data.toList.drop 22 = dktJ5_clear_1 := dk_seg dksJ5_clear_0 22 rfl rfl
theorem dJ5_clear_0 : decode cJ5_clear 0 = .ok (.aload_n 0, 1) := dk_42 (dk_at dksJ5_clear_0 0 rfl rfl)
theorem dJ5_clear_1 : decode cJ5_clear 1 = .ok (.getfield 3, 3) := dk_180 0 3 (dk_at dksJ5_clear_0 1 rfl rfl)
theorem dJ5_clear_4 : decode cJ5_clear 4 = .ok (.aload_n 0, 1) := dk_42 (dk_at dksJ5_clear_0 4 rfl rfl)
theorem dJ5_clear_5 : decode cJ5_clear 5 = .ok (.getfield 24, 3) := dk_180 0 24 (dk_at dksJ5_clear_0 5 rfl rfl)
theorem dJ5_clear_8 : decode cJ5_clear 8 = .ok (.aload_n 0, 1) := dk_42 (dk_at dksJ5_clear_0 8 rfl rfl)
theorem dJ5_clear_9 : decode cJ5_clear 9 = .ok (.getfield 20, 3) := dk_180 0 20 (dk_at dksJ5_clear_0 9 rfl rfl)
theorem dJ5_clear_12 : decode cJ5_clear 12 = .ok (.invokestatic 181, 3) := dk_184 0 181 (dk_at dksJ5_clear_0 12 rfl rfl)
theorem dJ5_clear_15 : decode cJ5_clear 15 = .ok (.aload_n 0, 1) := dk_42 (dk_at dksJ5_clear_0 15 rfl rfl)
theorem dJ5_clear_16 : decode cJ5_clear 16 = .ok (.aload_n 0, 1) := dk_42 (dk_at dksJ5_clear_0 16 rfl rfl)
theorem dJ5_clear_17 : decode cJ5_clear 17 = .ok (.iconst 0, 1) := dk_3 (dk_at dksJ5_clear_0 17 rfl rfl)
theorem dJ5_clear_18 : decode cJ5_clear 18 = .ok (.dup_x1, 1) := dk_90 (dk_at dksJ5_clear_0 18 rfl rfl)
theorem dJ5_clear_19 : decode cJ5_clear 19 = .ok (.putfield 20, 3) := dk_181 0 20 (dk_at dksJ5_clear_0 19 rfl rfl)
theorem dJ5_clear_22 : decode cJ5_clear 22 = .ok (.putfield 24, 3) := dk_181 0 24 (dk_at dksJ5_clear_1 0 rfl rfl)
theorem dJ5_clear_25 : decode cJ5_clear 25 = .ok (.return_, 1) := dk_177 (dk_at dksJ5_clear_1 3 rfl rfl)
abbrev cJ5_circularClear : ByteArray := prog_44_method_54_code
def yJ5_circularClear : MethodName := ⟨RJ5, "circularClear", "([Ljava/lang/Object;II)V"⟩
def dkwJ5_circularClear_1 : List UInt8 := [167, 255, 244, 29, 28, 160, 0, 6, 167, 0, 10, 3, 60, 28, 62, 167, 255, 229, 177]
abbrev dktJ5_circularClear_1 : List UInt8 := dkwJ5_circularClear_1 ++ []
def dkwJ5_circularClear_0 : List UInt8 := [27, 28, 163, 0, 7, 28, 167, 0, 5, 42, 190, 62, 27, 29, 162, 0, 13, 42, 27, 1, 83, 132, 1, 1]
abbrev dktJ5_circularClear_0 : List UInt8 := dkwJ5_circularClear_0 ++ dktJ5_circularClear_1
theorem dksJ5_circularClear_0 : cJ5_circularClear.data.toList.drop 0 = dktJ5_circularClear_0 := by decide +kernel
theorem dksJ5_circularClear_1 : cJ5_circularClear.data.toList.drop 24 = dktJ5_circularClear_1 := dk_seg dksJ5_circularClear_0 24 rfl rfl
theorem dJ5_circularClear_0 : decode cJ5_circularClear 0 = .ok (.iload_n 1, 1) := dk_27 (dk_at dksJ5_circularClear_0 0 rfl rfl)
theorem dJ5_circularClear_1 : decode cJ5_circularClear 1 = .ok (.iload_n 2, 1) := dk_28 (dk_at dksJ5_circularClear_0 1 rfl rfl)
theorem dJ5_circularClear_2 : decode cJ5_circularClear 2 = .ok (.if_icmp .gt 7, 3) := dk_163 0 7 (dk_at dksJ5_circularClear_0 2 rfl rfl)
theorem dJ5_circularClear_5 : decode cJ5_circularClear 5 = .ok (.iload_n 2, 1) := dk_28 (dk_at dksJ5_circularClear_0 5 rfl rfl)
theorem dJ5_circularClear_6 : decode cJ5_circularClear 6 = .ok (.goto 5, 3) := dk_167 0 5 (dk_at dksJ5_circularClear_0 6 rfl rfl)
theorem dJ5_circularClear_9 : decode cJ5_circularClear 9 = .ok (.aload_n 0, 1) := dk_42 (dk_at dksJ5_circularClear_0 9 rfl rfl)
theorem dJ5_circularClear_10 : decode cJ5_circularClear 10 = .ok (.arraylength, 1) := dk_190 (dk_at dksJ5_circularClear_0 10 rfl rfl)
theorem dJ5_circularClear_11 : decode cJ5_circularClear 11 = .ok (.istore_n 3, 1) := dk_62 (dk_at dksJ5_circularClear_0 11 rfl rfl)
theorem dJ5_circularClear_12 : decode cJ5_circularClear 12 = .ok (.iload_n 1, 1) := dk_27 (dk_at dksJ5_circularClear_0 12 rfl rfl)
theorem dJ5_circularClear_13 : decode cJ5_circularClear 13 = .ok (.iload_n 3, 1) := dk_29 (dk_at dksJ5_circularClear_0 13 rfl rfl)
theorem dJ5_circularClear_14 : decode cJ5_circularClear 14 = .ok (.if_icmp .ge 13, 3) := dk_162 0 13 (dk_at dksJ5_circularClear_0 14 rfl rfl)
theorem dJ5_circularClear_17 : decode cJ5_circularClear 17 = .ok (.aload_n 0, 1) := dk_42 (dk_at dksJ5_circularClear_0 17 rfl rfl)
theorem dJ5_circularClear_18 : decode cJ5_circularClear 18 = .ok (.iload_n 1, 1) := dk_27 (dk_at dksJ5_circularClear_0 18 rfl rfl)
theorem dJ5_circularClear_19 : decode cJ5_circularClear 19 = .ok (.aconst_null, 1) := dk_1 (dk_at dksJ5_circularClear_0 19 rfl rfl)
theorem dJ5_circularClear_20 : decode cJ5_circularClear 20 = .ok (.aastore, 1) := dk_83 (dk_at dksJ5_circularClear_0 20 rfl rfl)
theorem dJ5_circularClear_21 : decode cJ5_circularClear 21 = .ok (.iinc 1 1, 3) := dk_132 1 1 (dk_at dksJ5_circularClear_0 21 rfl rfl)
theorem dJ5_circularClear_24 : decode cJ5_circularClear 24 = .ok (.goto (-12), 3) := dk_167 255 244 (dk_at dksJ5_circularClear_1 0 rfl rfl)
theorem dJ5_circularClear_27 : decode cJ5_circularClear 27 = .ok (.iload_n 3, 1) := dk_29 (dk_at dksJ5_circularClear_1 3 rfl rfl)
theorem dJ5_circularClear_28 : decode cJ5_circularClear 28 = .ok (.iload_n 2, 1) := dk_28 (dk_at dksJ5_circularClear_1 4 rfl rfl)
theorem dJ5_circularClear_29 : decode cJ5_circularClear 29 = .ok (.if_icmp .ne 6, 3) := dk_160 0 6 (dk_at dksJ5_circularClear_1 5 rfl rfl)
theorem dJ5_circularClear_32 : decode cJ5_circularClear 32 = .ok (.goto 10, 3) := dk_167 0 10 (dk_at dksJ5_circularClear_1 8 rfl rfl)
theorem dJ5_circularClear_35 : decode cJ5_circularClear 35 = .ok (.iconst 0, 1) := dk_3 (dk_at dksJ5_circularClear_1 11 rfl rfl)
theorem dJ5_circularClear_36 : decode cJ5_circularClear 36 = .ok (.istore_n 1, 1) := dk_60 (dk_at dksJ5_circularClear_1 12 rfl rfl)
theorem dJ5_circularClear_37 : decode cJ5_circularClear 37 = .ok (.iload_n 2, 1) := dk_28 (dk_at dksJ5_circularClear_1 13 rfl rfl)
theorem dJ5_circularClear_38 : decode cJ5_circularClear 38 = .ok (.istore_n 3, 1) := dk_62 (dk_at dksJ5_circularClear_1 14 rfl rfl)
theorem dJ5_circularClear_39 : decode cJ5_circularClear 39 = .ok (.goto (-27), 3) := dk_167 255 229 (dk_at dksJ5_circularClear_1 15 rfl rfl)
theorem dJ5_circularClear_42 : decode cJ5_circularClear 42 = .ok (.return_, 1) := dk_177 (dk_at dksJ5_circularClear_1 18 rfl rfl)
theorem q88 : (Jvm.Cond.initialized "java/util/ArrayDeque") ∈ lw_all := lw_g (lw_at lw_m1 8 rfl) rfl
theorem q226 : (Jvm.Cond.instantiable "java/util/ArrayDeque" (3 : Nat)) ∈ lw_all := lw_g (lw_at lw_m1 146 rfl) rfl
theorem q228 : (Jvm.Cond.instanceMethod ({ cls := "java/util/ArrayDeque", name := "<init>", desc := "()V" } : Jvm.MethodName)) ∈ lw_all := lw_g (lw_at lw_m1 148 rfl) rfl
theorem q229 : (Jvm.Cond.code ({ cls := "java/util/ArrayDeque", name := "<init>", desc := "()V" } : Jvm.MethodName) prog_44_method_3_code (1 : Nat) (Option.none : Option Jvm.ClassFile.FieldType)) ∈ lw_all := lw_g (lw_at lw_m1 149 rfl) rfl
theorem q230 : (Jvm.Cond.methodLink "java/util/ArrayDeque" (42 : Nat) ({ cls := "java/util/AbstractCollection", name := "<init>", desc := "()V" } : Jvm.MethodName)) ∈ lw_all := lw_g (lw_at lw_m1 150 rfl) rfl
theorem q231 : (Jvm.Cond.classLink "java/util/ArrayDeque" (47 : Nat) "java/lang/Object") ∈ lw_all := lw_g (lw_at lw_m1 151 rfl) rfl
theorem q233 : (Jvm.Cond.fieldLink "java/util/ArrayDeque" (3 : Nat) "java/util/ArrayDeque" "elements" "[Ljava/lang/Object;") ∈ lw_all := lw_g (lw_at lw_m1 153 rfl) rfl
theorem q234 : (Jvm.Cond.fieldLink "java/util/ArrayDeque" (24 : Nat) "java/util/ArrayDeque" "head" "I") ∈ lw_all := lw_g (lw_at lw_m1 154 rfl) rfl
theorem q235 : (Jvm.Cond.fieldLink "java/util/ArrayDeque" (20 : Nat) "java/util/ArrayDeque" "tail" "I") ∈ lw_all := lw_g (lw_at lw_m1 155 rfl) rfl
theorem q236 : (Jvm.Cond.lays "java/util/ArrayDeque" "java/util/ArrayDeque" "elements" "[Ljava/lang/Object;") ∈ lw_all := lw_g (lw_at lw_m1 156 rfl) rfl
theorem q237 : (Jvm.Cond.soleField "java/util/ArrayDeque" "elements") ∈ lw_all := lw_g (lw_at lw_m1 157 rfl) rfl
theorem q238 : (Jvm.Cond.lays "java/util/ArrayDeque" "java/util/ArrayDeque" "head" "I") ∈ lw_all := lw_g (lw_at lw_m1 158 rfl) rfl
theorem q239 : (Jvm.Cond.soleField "java/util/ArrayDeque" "head") ∈ lw_all := lw_g (lw_at lw_m1 159 rfl) rfl
theorem q240 : (Jvm.Cond.lays "java/util/ArrayDeque" "java/util/ArrayDeque" "tail" "I") ∈ lw_all := lw_g (lw_at lw_m1 160 rfl) rfl
theorem q241 : (Jvm.Cond.soleField "java/util/ArrayDeque" "tail") ∈ lw_all := lw_g (lw_at lw_m1 161 rfl) rfl
theorem q242 : (Jvm.Cond.superclass "java/util/ArrayDeque" "java/util/AbstractCollection") ∈ lw_all := lw_g (lw_at lw_m1 162 rfl) rfl
theorem q553 : (Jvm.Cond.selects "java/util/ArrayDeque" ({ cls := "java/lang/Object", name := "getClass", desc := "()Ljava/lang/Class;" } : Jvm.MethodName) ({ cls := "java/lang/Object", name := "getClass", desc := "()Ljava/lang/Class;" } : Jvm.MethodName)) ∈ lw_all := lw_g (lw_at lw_m2 233 rfl) rfl
theorem q1717 : (Jvm.Cond.instanceMethod ({ cls := "java/util/ArrayDeque", name := "size", desc := "()I" } : Jvm.MethodName)) ∈ lw_all := lw_g (lw_at lw_m7 197 rfl) rfl
theorem q1718 : (Jvm.Cond.selects "java/util/ArrayDeque" ({ cls := "java/util/ArrayDeque", name := "size", desc := "()I" } : Jvm.MethodName) ({ cls := "java/util/ArrayDeque", name := "size", desc := "()I" } : Jvm.MethodName)) ∈ lw_all := lw_g (lw_at lw_m7 198 rfl) rfl
theorem q1719 : (Jvm.Cond.code ({ cls := "java/util/ArrayDeque", name := "size", desc := "()I" } : Jvm.MethodName) prog_44_method_37_code (1 : Nat) (Option.some Jvm.ClassFile.FieldType.int)) ∈ lw_all := lw_g (lw_at lw_m7 199 rfl) rfl
theorem q1720 : (Jvm.Cond.methodLink "java/util/ArrayDeque" (127 : Nat) ({ cls := "java/util/ArrayDeque", name := "sub", desc := "(III)I" } : Jvm.MethodName)) ∈ lw_all := lw_g (lw_at lw_m7 200 rfl) rfl
theorem q1721 : (Jvm.Cond.static ({ cls := "java/util/ArrayDeque", name := "sub", desc := "(III)I" } : Jvm.MethodName)) ∈ lw_all := lw_g (lw_at lw_m7 201 rfl) rfl
theorem q1722 : (Jvm.Cond.code ({ cls := "java/util/ArrayDeque", name := "sub", desc := "(III)I" } : Jvm.MethodName) prog_44_method_9_code (3 : Nat) (Option.some Jvm.ClassFile.FieldType.int)) ∈ lw_all := lw_g (lw_at lw_m7 202 rfl) rfl
theorem q1724 : (Jvm.Cond.instanceMethod ({ cls := "java/util/ArrayDeque", name := "removeFirst", desc := "()Ljava/lang/Object;" } : Jvm.MethodName)) ∈ lw_all := lw_g (lw_at lw_m7 204 rfl) rfl
theorem q1725 : (Jvm.Cond.selects "java/util/ArrayDeque" ({ cls := "java/util/ArrayDeque", name := "removeFirst", desc := "()Ljava/lang/Object;" } : Jvm.MethodName) ({ cls := "java/util/ArrayDeque", name := "removeFirst", desc := "()Ljava/lang/Object;" } : Jvm.MethodName)) ∈ lw_all := lw_g (lw_at lw_m7 205 rfl) rfl
theorem q1726 : (Jvm.Cond.code ({ cls := "java/util/ArrayDeque", name := "removeFirst", desc := "()Ljava/lang/Object;" } : Jvm.MethodName) prog_44_method_18_code (2 : Nat) (Option.some (Jvm.ClassFile.FieldType.object "java/lang/Object"))) ∈ lw_all := lw_g (lw_at lw_m7 206 rfl) rfl
theorem q1727 : (Jvm.Cond.methodLink "java/util/ArrayDeque" (93 : Nat) ({ cls := "java/util/ArrayDeque", name := "pollFirst", desc := "()Ljava/lang/Object;" } : Jvm.MethodName)) ∈ lw_all := lw_g (lw_at lw_m7 207 rfl) rfl
theorem q1728 : (Jvm.Cond.instanceMethod ({ cls := "java/util/ArrayDeque", name := "pollFirst", desc := "()Ljava/lang/Object;" } : Jvm.MethodName)) ∈ lw_all := lw_g (lw_at lw_m7 208 rfl) rfl
theorem q1729 : (Jvm.Cond.selects "java/util/ArrayDeque" ({ cls := "java/util/ArrayDeque", name := "pollFirst", desc := "()Ljava/lang/Object;" } : Jvm.MethodName) ({ cls := "java/util/ArrayDeque", name := "pollFirst", desc := "()Ljava/lang/Object;" } : Jvm.MethodName)) ∈ lw_all := lw_g (lw_at lw_m7 209 rfl) rfl
theorem q1730 : (Jvm.Cond.code ({ cls := "java/util/ArrayDeque", name := "pollFirst", desc := "()Ljava/lang/Object;" } : Jvm.MethodName) prog_44_method_20_code (4 : Nat) (Option.some (Jvm.ClassFile.FieldType.object "java/lang/Object"))) ∈ lw_all := lw_g (lw_at lw_m7 210 rfl) rfl
theorem q1731 : (Jvm.Cond.methodLink "java/util/ArrayDeque" (103 : Nat) ({ cls := "java/util/ArrayDeque", name := "elementAt", desc := "([Ljava/lang/Object;I)Ljava/lang/Object;" } : Jvm.MethodName)) ∈ lw_all := lw_g (lw_at lw_m7 211 rfl) rfl
theorem q1732 : (Jvm.Cond.static ({ cls := "java/util/ArrayDeque", name := "elementAt", desc := "([Ljava/lang/Object;I)Ljava/lang/Object;" } : Jvm.MethodName)) ∈ lw_all := lw_g (lw_at lw_m7 212 rfl) rfl
theorem q1733 : (Jvm.Cond.code ({ cls := "java/util/ArrayDeque", name := "elementAt", desc := "([Ljava/lang/Object;I)Ljava/lang/Object;" } : Jvm.MethodName) prog_44_method_10_code (2 : Nat) (Option.some (Jvm.ClassFile.FieldType.object "java/lang/Object"))) ∈ lw_all := lw_g (lw_at lw_m7 213 rfl) rfl
theorem q1734 : (Jvm.Cond.methodLink "java/util/ArrayDeque" (74 : Nat) ({ cls := "java/util/ArrayDeque", name := "inc", desc := "(II)I" } : Jvm.MethodName)) ∈ lw_all := lw_g (lw_at lw_m7 214 rfl) rfl
theorem q1735 : (Jvm.Cond.static ({ cls := "java/util/ArrayDeque", name := "inc", desc := "(II)I" } : Jvm.MethodName)) ∈ lw_all := lw_g (lw_at lw_m7 215 rfl) rfl
theorem q1736 : (Jvm.Cond.code ({ cls := "java/util/ArrayDeque", name := "inc", desc := "(II)I" } : Jvm.MethodName) prog_44_method_6_code (2 : Nat) (Option.some Jvm.ClassFile.FieldType.int)) ∈ lw_all := lw_g (lw_at lw_m7 216 rfl) rfl
theorem q1737 : (Jvm.Cond.classLink "java/util/ArrayDeque" (97 : Nat) "java/util/NoSuchElementException") ∈ lw_all := lw_g (lw_at lw_m7 217 rfl) rfl
theorem q1738 : (Jvm.Cond.methodLink "java/util/ArrayDeque" (99 : Nat) ({ cls := "java/util/NoSuchElementException", name := "<init>", desc := "()V" } : Jvm.MethodName)) ∈ lw_all := lw_g (lw_at lw_m7 218 rfl) rfl
theorem q1740 : (Jvm.Cond.instanceMethod ({ cls := "java/util/ArrayDeque", name := "addLast", desc := "(Ljava/lang/Object;)V" } : Jvm.MethodName)) ∈ lw_all := lw_g (lw_at lw_m7 220 rfl) rfl
theorem q1741 : (Jvm.Cond.selects "java/util/ArrayDeque" ({ cls := "java/util/ArrayDeque", name := "addLast", desc := "(Ljava/lang/Object;)V" } : Jvm.MethodName) ({ cls := "java/util/ArrayDeque", name := "addLast", desc := "(Ljava/lang/Object;)V" } : Jvm.MethodName)) ∈ lw_all := lw_g (lw_at lw_m7 221 rfl) rfl
theorem q1742 : (Jvm.Cond.code ({ cls := "java/util/ArrayDeque", name := "addLast", desc := "(Ljava/lang/Object;)V" } : Jvm.MethodName) prog_44_method_13_code (3 : Nat) (Option.none : Option Jvm.ClassFile.FieldType)) ∈ lw_all := lw_g (lw_at lw_m7 222 rfl) rfl
theorem q1743 : (Jvm.Cond.methodLink "java/util/ArrayDeque" (71 : Nat) ({ cls := "java/util/ArrayDeque", name := "grow", desc := "(I)V" } : Jvm.MethodName)) ∈ lw_all := lw_g (lw_at lw_m7 223 rfl) rfl
theorem q1744 : (Jvm.Cond.privateMethod ({ cls := "java/util/ArrayDeque", name := "grow", desc := "(I)V" } : Jvm.MethodName)) ∈ lw_tbl := lw_at lw_m7 224 rfl
theorem q1745 : (Jvm.Cond.instanceMethod ({ cls := "java/util/ArrayDeque", name := "grow", desc := "(I)V" } : Jvm.MethodName)) ∈ lw_all := lw_g (lw_at lw_m7 225 rfl) rfl
theorem q1746 : (Jvm.Cond.code ({ cls := "java/util/ArrayDeque", name := "grow", desc := "(I)V" } : Jvm.MethodName) prog_44_method_1_code (9 : Nat) (Option.none : Option Jvm.ClassFile.FieldType)) ∈ lw_all := lw_g (lw_at lw_m7 226 rfl) rfl
theorem q1747 : (Jvm.Cond.constant "java/util/ArrayDeque" (9 : Nat) (2147483639 : Int32)) ∈ lw_all := lw_g (lw_at lw_m7 227 rfl) rfl
theorem q1748 : (Jvm.Cond.methodLink "java/util/ArrayDeque" (10 : Nat) ({ cls := "java/util/ArrayDeque", name := "newCapacity", desc := "(II)I" } : Jvm.MethodName)) ∈ lw_all := lw_g (lw_at lw_m7 228 rfl) rfl
theorem q1749 : (Jvm.Cond.privateMethod ({ cls := "java/util/ArrayDeque", name := "newCapacity", desc := "(II)I" } : Jvm.MethodName)) ∈ lw_tbl := lw_at lw_m7 229 rfl
theorem q1750 : (Jvm.Cond.instanceMethod ({ cls := "java/util/ArrayDeque", name := "newCapacity", desc := "(II)I" } : Jvm.MethodName)) ∈ lw_all := lw_g (lw_at lw_m7 230 rfl) rfl
theorem q1751 : (Jvm.Cond.code ({ cls := "java/util/ArrayDeque", name := "newCapacity", desc := "(II)I" } : Jvm.MethodName) prog_44_method_2_code (5 : Nat) (Option.some Jvm.ClassFile.FieldType.int)) ∈ lw_all := lw_g (lw_at lw_m7 231 rfl) rfl
theorem q1752 : (Jvm.Cond.classLink "java/util/ArrayDeque" (33 : Nat) "java/lang/IllegalStateException") ∈ lw_all := lw_g (lw_at lw_m7 232 rfl) rfl
theorem q1753 : (Jvm.Cond.stringRef "java/util/ArrayDeque" (35 : Nat) "Sorry, deque too big") ∈ lw_tbl := lw_at lw_m7 233 rfl
theorem q1754 : (Jvm.Cond.methodLink "java/util/ArrayDeque" (37 : Nat) ({ cls := "java/lang/IllegalStateException", name := "<init>", desc := "(Ljava/lang/String;)V" } : Jvm.MethodName)) ∈ lw_all := lw_g (lw_at lw_m7 234 rfl) rfl
theorem q1758 : (Jvm.Cond.constant "java/util/ArrayDeque" (41 : Nat) (2147483647 : Int32)) ∈ lw_all := lw_g (lw_at lw_m7 238 rfl) rfl
theorem q1759 : (Jvm.Cond.methodLink "java/util/ArrayDeque" (14 : Nat) ({ cls := "java/util/Arrays", name := "copyOf", desc := "([Ljava/lang/Object;I)[Ljava/lang/Object;" } : Jvm.MethodName)) ∈ lw_all := lw_g (lw_at lw_m7 239 rfl) rfl
theorem q1760 : (Jvm.Cond.methodLink "java/util/ArrayDeque" (27 : Nat) ({ cls := "java/lang/System", name := "arraycopy", desc := "(Ljava/lang/Object;ILjava/lang/Object;II)V" } : Jvm.MethodName)) ∈ lw_all := lw_g (lw_at lw_m8 0 rfl) rfl
theorem q2426 : (Jvm.Cond.instanceMethod ({ cls := "java/util/ArrayDeque", name := "isEmpty", desc := "()Z" } : Jvm.MethodName)) ∈ lw_all := lw_g (lw_at lw_m10 186 rfl) rfl
theorem q2427 : (Jvm.Cond.selects "java/util/ArrayDeque" ({ cls := "java/util/ArrayDeque", name := "isEmpty", desc := "()Z" } : Jvm.MethodName) ({ cls := "java/util/ArrayDeque", name := "isEmpty", desc := "()Z" } : Jvm.MethodName)) ∈ lw_all := lw_g (lw_at lw_m10 187 rfl) rfl
theorem q2428 : (Jvm.Cond.code ({ cls := "java/util/ArrayDeque", name := "isEmpty", desc := "()Z" } : Jvm.MethodName) prog_44_method_38_code (1 : Nat) (Option.some Jvm.ClassFile.FieldType.boolean)) ∈ lw_all := lw_g (lw_at lw_m10 188 rfl) rfl
theorem q2430 : (Jvm.Cond.instanceMethod ({ cls := "java/util/ArrayDeque", name := "removeLast", desc := "()Ljava/lang/Object;" } : Jvm.MethodName)) ∈ lw_all := lw_g (lw_at lw_m10 190 rfl) rfl
theorem q2431 : (Jvm.Cond.selects "java/util/ArrayDeque" ({ cls := "java/util/ArrayDeque", name := "removeLast", desc := "()Ljava/lang/Object;" } : Jvm.MethodName) ({ cls := "java/util/ArrayDeque", name := "removeLast", desc := "()Ljava/lang/Object;" } : Jvm.MethodName)) ∈ lw_all := lw_g (lw_at lw_m10 191 rfl) rfl
theorem q2432 : (Jvm.Cond.code ({ cls := "java/util/ArrayDeque", name := "removeLast", desc := "()Ljava/lang/Object;" } : Jvm.MethodName) prog_44_method_19_code (2 : Nat) (Option.some (Jvm.ClassFile.FieldType.object "java/lang/Object"))) ∈ lw_all := lw_g (lw_at lw_m10 192 rfl) rfl
theorem q2433 : (Jvm.Cond.methodLink "java/util/ArrayDeque" (100 : Nat) ({ cls := "java/util/ArrayDeque", name := "pollLast", desc := "()Ljava/lang/Object;" } : Jvm.MethodName)) ∈ lw_all := lw_g (lw_at lw_m10 193 rfl) rfl
theorem q2434 : (Jvm.Cond.instanceMethod ({ cls := "java/util/ArrayDeque", name := "pollLast", desc := "()Ljava/lang/Object;" } : Jvm.MethodName)) ∈ lw_all := lw_g (lw_at lw_m10 194 rfl) rfl
theorem q2435 : (Jvm.Cond.selects "java/util/ArrayDeque" ({ cls := "java/util/ArrayDeque", name := "pollLast", desc := "()Ljava/lang/Object;" } : Jvm.MethodName) ({ cls := "java/util/ArrayDeque", name := "pollLast", desc := "()Ljava/lang/Object;" } : Jvm.MethodName)) ∈ lw_all := lw_g (lw_at lw_m10 195 rfl) rfl
theorem q2436 : (Jvm.Cond.code ({ cls := "java/util/ArrayDeque", name := "pollLast", desc := "()Ljava/lang/Object;" } : Jvm.MethodName) prog_44_method_21_code (4 : Nat) (Option.some (Jvm.ClassFile.FieldType.object "java/lang/Object"))) ∈ lw_all := lw_g (lw_at lw_m10 196 rfl) rfl
theorem q2437 : (Jvm.Cond.methodLink "java/util/ArrayDeque" (68 : Nat) ({ cls := "java/util/ArrayDeque", name := "dec", desc := "(II)I" } : Jvm.MethodName)) ∈ lw_all := lw_g (lw_at lw_m10 197 rfl) rfl
theorem q2438 : (Jvm.Cond.static ({ cls := "java/util/ArrayDeque", name := "dec", desc := "(II)I" } : Jvm.MethodName)) ∈ lw_all := lw_g (lw_at lw_m10 198 rfl) rfl
theorem q2439 : (Jvm.Cond.code ({ cls := "java/util/ArrayDeque", name := "dec", desc := "(II)I" } : Jvm.MethodName) prog_44_method_7_code (2 : Nat) (Option.some Jvm.ClassFile.FieldType.int)) ∈ lw_all := lw_g (lw_at lw_m10 199 rfl) rfl
theorem q2448 : (Jvm.Cond.instanceMethod ({ cls := "java/util/ArrayDeque", name := "clear", desc := "()V" } : Jvm.MethodName)) ∈ lw_all := lw_g (lw_at lw_m10 208 rfl) rfl
theorem q2449 : (Jvm.Cond.selects "java/util/ArrayDeque" ({ cls := "java/util/ArrayDeque", name := "clear", desc := "()V" } : Jvm.MethodName) ({ cls := "java/util/ArrayDeque", name := "clear", desc := "()V" } : Jvm.MethodName)) ∈ lw_all := lw_g (lw_at lw_m10 209 rfl) rfl
theorem q2450 : (Jvm.Cond.code ({ cls := "java/util/ArrayDeque", name := "clear", desc := "()V" } : Jvm.MethodName) prog_44_method_53_code (1 : Nat) (Option.none : Option Jvm.ClassFile.FieldType)) ∈ lw_all := lw_g (lw_at lw_m10 210 rfl) rfl
theorem q2451 : (Jvm.Cond.methodLink "java/util/ArrayDeque" (181 : Nat) ({ cls := "java/util/ArrayDeque", name := "circularClear", desc := "([Ljava/lang/Object;II)V" } : Jvm.MethodName)) ∈ lw_all := lw_g (lw_at lw_m10 211 rfl) rfl
theorem q2452 : (Jvm.Cond.static ({ cls := "java/util/ArrayDeque", name := "circularClear", desc := "([Ljava/lang/Object;II)V" } : Jvm.MethodName)) ∈ lw_all := lw_g (lw_at lw_m10 212 rfl) rfl
theorem q2453 : (Jvm.Cond.code ({ cls := "java/util/ArrayDeque", name := "circularClear", desc := "([Ljava/lang/Object;II)V" } : Jvm.MethodName) prog_44_method_54_code (4 : Nat) (Option.none : Option Jvm.ClassFile.FieldType)) ∈ lw_all := lw_g (lw_at lw_m10 213 rfl) rfl
theorem q3004 : (Jvm.Cond.castable "java/util/ArrayDeque" "java/lang/Object") ∈ lw_tbl := lw_at lw_m13 44 rfl
theorem in_J5 : ∀ w ∈ wsJ50, w ∈ lw_all := lw_in wsJ50 [236, 238, 240] (by decide +kernel) (by decide +kernel)

/-! java/lang/AbstractStringBuilder -/
set_option maxRecDepth 100000
def RJ6 : String := "java/lang/AbstractStringBuilder"
abbrev cJ6_init : ByteArray := prog_12_method_2_code
def yJ6_init : MethodName := ⟨RJ6, "<init>", "(I)V"⟩
def dkwJ6_init_1 : List UInt8 := [167, 0, 16, 42, 27, 184, 0, 26, 181, 0, 15, 42, 4, 181, 0, 22, 177]
abbrev dktJ6_init_1 : List UInt8 := dkwJ6_init_1 ++ []
def dkwJ6_init_0 : List UInt8 := [42, 183, 0, 3, 178, 0, 18, 153, 0, 18, 42, 27, 188, 8, 181, 0, 15, 42, 3, 181, 0, 22]
abbrev dktJ6_init_0 : List UInt8 := dkwJ6_init_0 ++ dktJ6_init_1
theorem dksJ6_init_0 : cJ6_init.data.toList.drop 0 = dktJ6_init_0 := by decide +kernel
theorem dksJ6_init_1 : cJ6_init.data.toList.drop 22 = dktJ6_init_1 := dk_seg dksJ6_init_0 22 rfl rfl
theorem dJ6_init_0 : decode cJ6_init 0 = .ok (.aload_n 0, 1) := dk_42 (dk_at dksJ6_init_0 0 rfl rfl)
theorem dJ6_init_1 : decode cJ6_init 1 = .ok (.invokespecial 3, 3) := dk_183 0 3 (dk_at dksJ6_init_0 1 rfl rfl)
theorem dJ6_init_4 : decode cJ6_init 4 = .ok (.getstatic 18, 3) := dk_178 0 18 (dk_at dksJ6_init_0 4 rfl rfl)
theorem dJ6_init_7 : decode cJ6_init 7 = .ok (.ifCond .eq 18, 3) := dk_153 0 18 (dk_at dksJ6_init_0 7 rfl rfl)
theorem dJ6_init_10 : decode cJ6_init 10 = .ok (.aload_n 0, 1) := dk_42 (dk_at dksJ6_init_0 10 rfl rfl)
theorem dJ6_init_11 : decode cJ6_init 11 = .ok (.iload_n 1, 1) := dk_27 (dk_at dksJ6_init_0 11 rfl rfl)
theorem dJ6_init_12 : decode cJ6_init 12 = .ok (.newarray .byte, 2) := dk_188_8 (dk_at dksJ6_init_0 12 rfl rfl)
theorem dJ6_init_14 : decode cJ6_init 14 = .ok (.putfield 15, 3) := dk_181 0 15 (dk_at dksJ6_init_0 14 rfl rfl)
theorem dJ6_init_17 : decode cJ6_init 17 = .ok (.aload_n 0, 1) := dk_42 (dk_at dksJ6_init_0 17 rfl rfl)
theorem dJ6_init_18 : decode cJ6_init 18 = .ok (.iconst 0, 1) := dk_3 (dk_at dksJ6_init_0 18 rfl rfl)
theorem dJ6_init_19 : decode cJ6_init 19 = .ok (.putfield 22, 3) := dk_181 0 22 (dk_at dksJ6_init_0 19 rfl rfl)
theorem dJ6_init_22 : decode cJ6_init 22 = .ok (.goto 16, 3) := dk_167 0 16 (dk_at dksJ6_init_1 0 rfl rfl)
theorem dJ6_init_25 : decode cJ6_init 25 = .ok (.aload_n 0, 1) := dk_42 (dk_at dksJ6_init_1 3 rfl rfl)
theorem dJ6_init_26 : decode cJ6_init 26 = .ok (.iload_n 1, 1) := dk_27 (dk_at dksJ6_init_1 4 rfl rfl)
theorem dJ6_init_27 : decode cJ6_init 27 = .ok (.invokestatic 26, 3) := dk_184 0 26 (dk_at dksJ6_init_1 5 rfl rfl)
theorem dJ6_init_30 : decode cJ6_init 30 = .ok (.putfield 15, 3) := dk_181 0 15 (dk_at dksJ6_init_1 8 rfl rfl)
theorem dJ6_init_33 : decode cJ6_init 33 = .ok (.aload_n 0, 1) := dk_42 (dk_at dksJ6_init_1 11 rfl rfl)
theorem dJ6_init_34 : decode cJ6_init 34 = .ok (.iconst 1, 1) := dk_4 (dk_at dksJ6_init_1 12 rfl rfl)
theorem dJ6_init_35 : decode cJ6_init 35 = .ok (.putfield 22, 3) := dk_181 0 22 (dk_at dksJ6_init_1 13 rfl rfl)
theorem dJ6_init_38 : decode cJ6_init 38 = .ok (.return_, 1) := dk_177 (dk_at dksJ6_init_1 16 rfl rfl)
abbrev cJ6_append : ByteArray := prog_12_method_22_code
def yJ6_append : MethodName := ⟨RJ6, "append", "(Ljava/lang/String;)Ljava/lang/AbstractStringBuilder;"⟩
def dkwJ6_append_1 : List UInt8 := [42, 42, 180, 0, 79, 43, 182, 0, 208, 42, 89, 180, 0, 79, 28, 96, 181, 0, 79, 42, 176]
abbrev dktJ6_append_1 : List UInt8 := dkwJ6_append_1 ++ []
def dkwJ6_append_0 : List UInt8 := [43, 199, 0, 8, 42, 182, 0, 204, 176, 43, 182, 0, 32, 61, 42, 42, 180, 0, 79, 28, 96, 182, 0, 100]
abbrev dktJ6_append_0 : List UInt8 := dkwJ6_append_0 ++ dktJ6_append_1
theorem dksJ6_append_0 : cJ6_append.data.toList.drop 0 = dktJ6_append_0 := by decide +kernel
theorem dksJ6_append_1 : cJ6_append.data.toList.drop 24 = dktJ6_append_1 := dk_seg dksJ6_append_0 24 rfl rfl
theorem dJ6_append_0 : decode cJ6_append 0 = .ok (.aload_n 1, 1) := dk_43 (dk_at dksJ6_append_0 0 rfl rfl)
theorem dJ6_append_1 : decode cJ6_append 1 = .ok (.ifnonnull 8, 3) := dk_199 0 8 (dk_at dksJ6_append_0 1 rfl rfl)
theorem dJ6_append_4 : decode cJ6_append 4 = .ok (.aload_n 0, 1) := dk_42 (dk_at dksJ6_append_0 4 rfl rfl)
theorem dJ6_append_5 : decode cJ6_append 5 = .ok (.invokevirtual 204, 3) := dk_182 0 204 (dk_at dksJ6_append_0 5 rfl rfl)
theorem dJ6_append_8 : decode cJ6_append 8 = .ok (.areturn, 1) := dk_176 (dk_at dksJ6_append_0 8 rfl rfl)
theorem dJ6_append_9 : decode cJ6_append 9 = .ok (.aload_n 1, 1) := dk_43 (dk_at dksJ6_append_0 9 rfl rfl)
theorem dJ6_append_10 : decode cJ6_append 10 = .ok (.invokevirtual 32, 3) := dk_182 0 32 (dk_at dksJ6_append_0 10 rfl rfl)
theorem dJ6_append_13 : decode cJ6_append 13 = .ok (.istore_n 2, 1) := dk_61 (dk_at dksJ6_append_0 13 rfl rfl)
theorem dJ6_append_14 : decode cJ6_append 14 = .ok (.aload_n 0, 1) := dk_42 (dk_at dksJ6_append_0 14 rfl rfl)
theorem dJ6_append_15 : decode cJ6_append 15 = .ok (.aload_n 0, 1) := dk_42 (dk_at dksJ6_append_0 15 rfl rfl)
theorem dJ6_append_16 : decode cJ6_append 16 = .ok (.getfield 79, 3) := dk_180 0 79 (dk_at dksJ6_append_0 16 rfl rfl)
theorem dJ6_append_19 : decode cJ6_append 19 = .ok (.iload_n 2, 1) := dk_28 (dk_at dksJ6_append_0 19 rfl rfl)
theorem dJ6_append_20 : decode cJ6_append 20 = .ok (.iadd, 1) := dk_96 (dk_at dksJ6_append_0 20 rfl rfl)
theorem dJ6_append_21 : decode cJ6_append 21 = .ok (.invokevirtual 100, 3) := dk_182 0 100 (dk_at dksJ6_append_0 21 rfl rfl)
theorem dJ6_append_24 : decode cJ6_append 24 = .ok (.aload_n 0, 1) := dk_42 (dk_at dksJ6_append_1 0 rfl rfl)
theorem dJ6_append_25 : decode cJ6_append 25 = .ok (.aload_n 0, 1) := dk_42 (dk_at dksJ6_append_1 1 rfl rfl)
theorem dJ6_append_26 : decode cJ6_append 26 = .ok (.getfield 79, 3) := dk_180 0 79 (dk_at dksJ6_append_1 2 rfl rfl)
theorem dJ6_append_29 : decode cJ6_append 29 = .ok (.aload_n 1, 1) := dk_43 (dk_at dksJ6_append_1 5 rfl rfl)
theorem dJ6_append_30 : decode cJ6_append 30 = .ok (.invokevirtual 208, 3) := dk_182 0 208 (dk_at dksJ6_append_1 6 rfl rfl)
theorem dJ6_append_33 : decode cJ6_append 33 = .ok (.aload_n 0, 1) := dk_42 (dk_at dksJ6_append_1 9 rfl rfl)
theorem dJ6_append_34 : decode cJ6_append 34 = .ok (.dup, 1) := dk_89 (dk_at dksJ6_append_1 10 rfl rfl)
theorem dJ6_append_35 : decode cJ6_append 35 = .ok (.getfield 79, 3) := dk_180 0 79 (dk_at dksJ6_append_1 11 rfl rfl)
theorem dJ6_append_38 : decode cJ6_append 38 = .ok (.iload_n 2, 1) := dk_28 (dk_at dksJ6_append_1 14 rfl rfl)
theorem dJ6_append_39 : decode cJ6_append 39 = .ok (.iadd, 1) := dk_96 (dk_at dksJ6_append_1 15 rfl rfl)
theorem dJ6_append_40 : decode cJ6_append 40 = .ok (.putfield 79, 3) := dk_181 0 79 (dk_at dksJ6_append_1 16 rfl rfl)
theorem dJ6_append_43 : decode cJ6_append 43 = .ok (.aload_n 0, 1) := dk_42 (dk_at dksJ6_append_1 19 rfl rfl)
theorem dJ6_append_44 : decode cJ6_append 44 = .ok (.areturn, 1) := dk_176 (dk_at dksJ6_append_1 20 rfl rfl)
abbrev cJ6_ensureCapacityInternal : ByteArray := prog_12_method_9_code
def yJ6_ensureCapacityInternal : MethodName := ⟨RJ6, "ensureCapacityInternal", "(I)V"⟩
def dkwJ6_ensureCapacityInternal_1 : List UInt8 := [182, 0, 104, 42, 180, 0, 22, 120, 184, 0, 108, 181, 0, 15, 177]
abbrev dktJ6_ensureCapacityInternal_1 : List UInt8 := dkwJ6_ensureCapacityInternal_1 ++ []
def dkwJ6_ensureCapacityInternal_0 : List UInt8 := [42, 180, 0, 15, 190, 42, 180, 0, 22, 122, 61, 27, 28, 100, 158, 0, 24, 42, 42, 180, 0, 15, 42, 27]
abbrev dktJ6_ensureCapacityInternal_0 : List UInt8 := dkwJ6_ensureCapacityInternal_0 ++ dktJ6_ensureCapacityInternal_1
theorem dksJ6_ensureCapacityInternal_0 : cJ6_ensureCapacityInternal.data.toList.drop 0 = dktJ6_ensureCapacityInternal_0 := by decide +kernel
theorem dksJ6_ensureCapacityInternal_1 : cJ6_ensureCapacityInternal.data.toList.drop 24 = dktJ6_ensureCapacityInternal_1 := dk_seg dksJ6_ensureCapacityInternal_0 24 rfl rfl
theorem dJ6_ensureCapacityInternal_0 : decode cJ6_ensureCapacityInternal 0 = .ok (.aload_n 0, 1) := dk_42 (dk_at dksJ6_ensureCapacityInternal_0 0 rfl rfl)
theorem dJ6_ensureCapacityInternal_1 : decode cJ6_ensureCapacityInternal 1 = .ok (.getfield 15, 3) := dk_180 0 15 (dk_at dksJ6_ensureCapacityInternal_0 1 rfl rfl)
theorem dJ6_ensureCapacityInternal_4 : decode cJ6_ensureCapacityInternal 4 = .ok (.arraylength, 1) := dk_190 (dk_at dksJ6_ensureCapacityInternal_0 4 rfl rfl)
theorem dJ6_ensureCapacityInternal_5 : decode cJ6_ensureCapacityInternal 5 = .ok (.aload_n 0, 1) := dk_42 (dk_at dksJ6_ensureCapacityInternal_0 5 rfl rfl)
theorem dJ6_ensureCapacityInternal_6 : decode cJ6_ensureCapacityInternal 6 = .ok (.getfield 22, 3) := dk_180 0 22 (dk_at dksJ6_ensureCapacityInternal_0 6 rfl rfl)
theorem dJ6_ensureCapacityInternal_9 : decode cJ6_ensureCapacityInternal 9 = .ok (.ishr, 1) := dk_122 (dk_at dksJ6_ensureCapacityInternal_0 9 rfl rfl)
theorem dJ6_ensureCapacityInternal_10 : decode cJ6_ensureCapacityInternal 10 = .ok (.istore_n 2, 1) := dk_61 (dk_at dksJ6_ensureCapacityInternal_0 10 rfl rfl)
theorem dJ6_ensureCapacityInternal_11 : decode cJ6_ensureCapacityInternal 11 = .ok (.iload_n 1, 1) := dk_27 (dk_at dksJ6_ensureCapacityInternal_0 11 rfl rfl)
theorem dJ6_ensureCapacityInternal_12 : decode cJ6_ensureCapacityInternal 12 = .ok (.iload_n 2, 1) := dk_28 (dk_at dksJ6_ensureCapacityInternal_0 12 rfl rfl)
theorem dJ6_ensureCapacityInternal_13 : decode cJ6_ensureCapacityInternal 13 = .ok (.isub, 1) := dk_100 (dk_at dksJ6_ensureCapacityInternal_0 13 rfl rfl)
theorem dJ6_ensureCapacityInternal_14 : decode cJ6_ensureCapacityInternal 14 = .ok (.ifCond .le 24, 3) := dk_158 0 24 (dk_at dksJ6_ensureCapacityInternal_0 14 rfl rfl)
theorem dJ6_ensureCapacityInternal_17 : decode cJ6_ensureCapacityInternal 17 = .ok (.aload_n 0, 1) := dk_42 (dk_at dksJ6_ensureCapacityInternal_0 17 rfl rfl)
theorem dJ6_ensureCapacityInternal_18 : decode cJ6_ensureCapacityInternal 18 = .ok (.aload_n 0, 1) := dk_42 (dk_at dksJ6_ensureCapacityInternal_0 18 rfl rfl)
theorem dJ6_ensureCapacityInternal_19 : decode cJ6_ensureCapacityInternal 19 = .ok (.getfield 15, 3) := dk_180 0 15 (dk_at dksJ6_ensureCapacityInternal_0 19 rfl rfl)
theorem dJ6_ensureCapacityInternal_22 : decode cJ6_ensureCapacityInternal 22 = .ok (.aload_n 0, 1) := dk_42 (dk_at dksJ6_ensureCapacityInternal_0 22 rfl rfl)
theorem dJ6_ensureCapacityInternal_23 : decode cJ6_ensureCapacityInternal 23 = .ok (.iload_n 1, 1) := dk_27 (dk_at dksJ6_ensureCapacityInternal_0 23 rfl rfl)
theorem dJ6_ensureCapacityInternal_24 : decode cJ6_ensureCapacityInternal 24 = .ok (.invokevirtual 104, 3) := dk_182 0 104 (dk_at dksJ6_ensureCapacityInternal_1 0 rfl rfl)
theorem dJ6_ensureCapacityInternal_27 : decode cJ6_ensureCapacityInternal 27 = .ok (.aload_n 0, 1) := dk_42 (dk_at dksJ6_ensureCapacityInternal_1 3 rfl rfl)
theorem dJ6_ensureCapacityInternal_28 : decode cJ6_ensureCapacityInternal 28 = .ok (.getfield 22, 3) := dk_180 0 22 (dk_at dksJ6_ensureCapacityInternal_1 4 rfl rfl)
theorem dJ6_ensureCapacityInternal_31 : decode cJ6_ensureCapacityInternal 31 = .ok (.ishl, 1) := dk_120 (dk_at dksJ6_ensureCapacityInternal_1 7 rfl rfl)
theorem dJ6_ensureCapacityInternal_32 : decode cJ6_ensureCapacityInternal 32 = .ok (.invokestatic 108, 3) := dk_184 0 108 (dk_at dksJ6_ensureCapacityInternal_1 8 rfl rfl)
theorem dJ6_ensureCapacityInternal_35 : decode cJ6_ensureCapacityInternal 35 = .ok (.putfield 15, 3) := dk_181 0 15 (dk_at dksJ6_ensureCapacityInternal_1 11 rfl rfl)
theorem dJ6_ensureCapacityInternal_38 : decode cJ6_ensureCapacityInternal 38 = .ok (.return_, 1) := dk_177 (dk_at dksJ6_ensureCapacityInternal_1 14 rfl rfl)
abbrev cJ6_newCapacity : ByteArray := prog_12_method_10_code
def yJ6_newCapacity : MethodName := ⟨RJ6, "newCapacity", "(I)I"⟩
def dkwJ6_newCapacity_2 : List UInt8 := [183, 0, 124, 191, 21, 5, 42, 180, 0, 22, 122, 172]
abbrev dktJ6_newCapacity_2 : List UInt8 := dkwJ6_newCapacity_2 ++ []
def dkwJ6_newCapacity_1 : List UInt8 := [180, 0, 22, 120, 96, 184, 0, 114, 54, 5, 21, 5, 18, 39, 160, 0, 13, 187, 0, 120, 89, 18, 122]
abbrev dktJ6_newCapacity_1 : List UInt8 := dkwJ6_newCapacity_1 ++ dktJ6_newCapacity_2
def dkwJ6_newCapacity_0 : List UInt8 := [42, 180, 0, 15, 190, 61, 27, 42, 180, 0, 22, 120, 62, 29, 28, 100, 54, 4, 28, 21, 4, 28, 5, 42]
abbrev dktJ6_newCapacity_0 : List UInt8 := dkwJ6_newCapacity_0 ++ dktJ6_newCapacity_1
theorem dksJ6_newCapacity_0 : cJ6_newCapacity.data.toList.drop 0 = dktJ6_newCapacity_0 := by decide +kernel
theorem dksJ6_newCapacity_1 : cJ6_newCapacity.data.toList.drop 24 = dktJ6_newCapacity_1 := dk_seg dksJ6_newCapacity_0 24 rfl rfl
theorem dksJ6_newCapacity_2 : cJ6_newCapacity.data.toList.drop 47 = dktJ6_newCapacity_2 := dk_seg dksJ6_newCapacity_1 23 rfl rfl
theorem dJ6_newCapacity_0 : decode cJ6_newCapacity 0 = .ok (.aload_n 0, 1) := dk_42 (dk_at dksJ6_newCapacity_0 0 rfl rfl)
theorem dJ6_newCapacity_1 : decode cJ6_newCapacity 1 = .ok (.getfield 15, 3) := dk_180 0 15 (dk_at dksJ6_newCapacity_0 1 rfl rfl)
theorem dJ6_newCapacity_4 : decode cJ6_newCapacity 4 = .ok (.arraylength, 1) := dk_190 (dk_at dksJ6_newCapacity_0 4 rfl rfl)
theorem dJ6_newCapacity_5 : decode cJ6_newCapacity 5 = .ok (.istore_n 2, 1) := dk_61 (dk_at dksJ6_newCapacity_0 5 rfl rfl)
theorem dJ6_newCapacity_6 : decode cJ6_newCapacity 6 = .ok (.iload_n 1, 1) := dk_27 (dk_at dksJ6_newCapacity_0 6 rfl rfl)
theorem dJ6_newCapacity_7 : decode cJ6_newCapacity 7 = .ok (.aload_n 0, 1) := dk_42 (dk_at dksJ6_newCapacity_0 7 rfl rfl)
theorem dJ6_newCapacity_8 : decode cJ6_newCapacity 8 = .ok (.getfield 22, 3) := dk_180 0 22 (dk_at dksJ6_newCapacity_0 8 rfl rfl)
theorem dJ6_newCapacity_11 : decode cJ6_newCapacity 11 = .ok (.ishl, 1) := dk_120 (dk_at dksJ6_newCapacity_0 11 rfl rfl)
theorem dJ6_newCapacity_12 : decode cJ6_newCapacity 12 = .ok (.istore_n 3, 1) := dk_62 (dk_at dksJ6_newCapacity_0 12 rfl rfl)
theorem dJ6_newCapacity_13 : decode cJ6_newCapacity 13 = .ok (.iload_n 3, 1) := dk_29 (dk_at dksJ6_newCapacity_0 13 rfl rfl)
theorem dJ6_newCapacity_14 : decode cJ6_newCapacity 14 = .ok (.iload_n 2, 1) := dk_28 (dk_at dksJ6_newCapacity_0 14 rfl rfl)
theorem dJ6_newCapacity_15 : decode cJ6_newCapacity 15 = .ok (.isub, 1) := dk_100 (dk_at dksJ6_newCapacity_0 15 rfl rfl)
theorem dJ6_newCapacity_16 : decode cJ6_newCapacity 16 = .ok (.istore 4, 2) := dk_54 4 (dk_at dksJ6_newCapacity_0 16 rfl rfl)
theorem dJ6_newCapacity_18 : decode cJ6_newCapacity 18 = .ok (.iload_n 2, 1) := dk_28 (dk_at dksJ6_newCapacity_0 18 rfl rfl)
theorem dJ6_newCapacity_19 : decode cJ6_newCapacity 19 = .ok (.iload 4, 2) := dk_21 4 (dk_at dksJ6_newCapacity_0 19 rfl rfl)
theorem dJ6_newCapacity_21 : decode cJ6_newCapacity 21 = .ok (.iload_n 2, 1) := dk_28 (dk_at dksJ6_newCapacity_0 21 rfl rfl)
theorem dJ6_newCapacity_22 : decode cJ6_newCapacity 22 = .ok (.iconst 2, 1) := dk_5 (dk_at dksJ6_newCapacity_0 22 rfl rfl)
theorem dJ6_newCapacity_23 : decode cJ6_newCapacity 23 = .ok (.aload_n 0, 1) := dk_42 (dk_at dksJ6_newCapacity_0 23 rfl rfl)
theorem dJ6_newCapacity_24 : decode cJ6_newCapacity 24 = .ok (.getfield 22, 3) := dk_180 0 22 (dk_at dksJ6_newCapacity_1 0 rfl rfl)
theorem dJ6_newCapacity_27 : decode cJ6_newCapacity 27 = .ok (.ishl, 1) := dk_120 (dk_at dksJ6_newCapacity_1 3 rfl rfl)
theorem dJ6_newCapacity_28 : decode cJ6_newCapacity 28 = .ok (.iadd, 1) := dk_96 (dk_at dksJ6_newCapacity_1 4 rfl rfl)
theorem dJ6_newCapacity_29 : decode cJ6_newCapacity 29 = .ok (.invokestatic 114, 3) := dk_184 0 114 (dk_at dksJ6_newCapacity_1 5 rfl rfl)
theorem dJ6_newCapacity_32 : decode cJ6_newCapacity 32 = .ok (.istore 5, 2) := dk_54 5 (dk_at dksJ6_newCapacity_1 8 rfl rfl)
theorem dJ6_newCapacity_34 : decode cJ6_newCapacity 34 = .ok (.iload 5, 2) := dk_21 5 (dk_at dksJ6_newCapacity_1 10 rfl rfl)
theorem dJ6_newCapacity_36 : decode cJ6_newCapacity 36 = .ok (.ldc 39, 2) := dk_18 39 (dk_at dksJ6_newCapacity_1 12 rfl rfl)
theorem dJ6_newCapacity_38 : decode cJ6_newCapacity 38 = .ok (.if_icmp .ne 13, 3) := dk_160 0 13 (dk_at dksJ6_newCapacity_1 14 rfl rfl)
theorem dJ6_newCapacity_41 : decode cJ6_newCapacity 41 = .ok (.new 120, 3) := dk_187 0 120 (dk_at dksJ6_newCapacity_1 17 rfl rfl)
theorem dJ6_newCapacity_44 : decode cJ6_newCapacity 44 = .ok (.dup, 1) := dk_89 (dk_at dksJ6_newCapacity_1 20 rfl rfl)
theorem dJ6_newCapacity_45 : decode cJ6_newCapacity 45 = .ok (.ldc 122, 2) := dk_18 122 (dk_at dksJ6_newCapacity_1 21 rfl rfl)
theorem dJ6_newCapacity_47 : decode cJ6_newCapacity 47 = .ok (.invokespecial 124, 3) := dk_183 0 124 (dk_at dksJ6_newCapacity_2 0 rfl rfl)
theorem dJ6_newCapacity_50 : decode cJ6_newCapacity 50 = .ok (.athrow, 1) := dk_191 (dk_at dksJ6_newCapacity_2 3 rfl rfl)
theorem dJ6_newCapacity_51 : decode cJ6_newCapacity 51 = .ok (.iload 5, 2) := dk_21 5 (dk_at dksJ6_newCapacity_2 4 rfl rfl)
theorem dJ6_newCapacity_53 : decode cJ6_newCapacity 53 = .ok (.aload_n 0, 1) := dk_42 (dk_at dksJ6_newCapacity_2 6 rfl rfl)
theorem dJ6_newCapacity_54 : decode cJ6_newCapacity 54 = .ok (.getfield 22, 3) := dk_180 0 22 (dk_at dksJ6_newCapacity_2 7 rfl rfl)
theorem dJ6_newCapacity_57 : decode cJ6_newCapacity 57 = .ok (.ishr, 1) := dk_122 (dk_at dksJ6_newCapacity_2 10 rfl rfl)
theorem dJ6_newCapacity_58 : decode cJ6_newCapacity 58 = .ok (.ireturn, 1) := dk_172 (dk_at dksJ6_newCapacity_2 11 rfl rfl)
abbrev cJ6_isLatin1 : ByteArray := prog_12_method_68_code
def yJ6_isLatin1 : MethodName := ⟨RJ6, "isLatin1", "()Z"⟩
def dkwJ6_isLatin1_0 : List UInt8 := [178, 0, 18, 153, 0, 14, 42, 180, 0, 22, 154, 0, 7, 4, 167, 0, 4, 3, 172]
abbrev dktJ6_isLatin1_0 : List UInt8 := dkwJ6_isLatin1_0 ++ []
theorem dksJ6_isLatin1_0 : cJ6_isLatin1.data.toList.drop 0 = dktJ6_isLatin1_0 := by decide +kernel
theorem dJ6_isLatin1_0 : decode cJ6_isLatin1 0 = .ok (.getstatic 18, 3) := dk_178 0 18 (dk_at dksJ6_isLatin1_0 0 rfl rfl)
theorem dJ6_isLatin1_3 : decode cJ6_isLatin1 3 = .ok (.ifCond .eq 14, 3) := dk_153 0 14 (dk_at dksJ6_isLatin1_0 3 rfl rfl)
theorem dJ6_isLatin1_6 : decode cJ6_isLatin1 6 = .ok (.aload_n 0, 1) := dk_42 (dk_at dksJ6_isLatin1_0 6 rfl rfl)
theorem dJ6_isLatin1_7 : decode cJ6_isLatin1 7 = .ok (.getfield 22, 3) := dk_180 0 22 (dk_at dksJ6_isLatin1_0 7 rfl rfl)
theorem dJ6_isLatin1_10 : decode cJ6_isLatin1 10 = .ok (.ifCond .ne 7, 3) := dk_154 0 7 (dk_at dksJ6_isLatin1_0 10 rfl rfl)
theorem dJ6_isLatin1_13 : decode cJ6_isLatin1 13 = .ok (.iconst 1, 1) := dk_4 (dk_at dksJ6_isLatin1_0 13 rfl rfl)
theorem dJ6_isLatin1_14 : decode cJ6_isLatin1 14 = .ok (.goto 4, 3) := dk_167 0 4 (dk_at dksJ6_isLatin1_0 14 rfl rfl)
theorem dJ6_isLatin1_17 : decode cJ6_isLatin1 17 = .ok (.iconst 0, 1) := dk_3 (dk_at dksJ6_isLatin1_0 17 rfl rfl)
theorem dJ6_isLatin1_18 : decode cJ6_isLatin1 18 = .ok (.ireturn, 1) := dk_172 (dk_at dksJ6_isLatin1_0 18 rfl rfl)
abbrev cJ6_inflateIfNeededFor : ByteArray := prog_12_method_71_code
def yJ6_inflateIfNeededFor : MethodName := ⟨RJ6, "inflateIfNeededFor", "(Ljava/lang/String;)V"⟩
def dkwJ6_inflateIfNeededFor_0 : List UInt8 := [178, 0, 18, 153, 0, 18, 42, 180, 0, 22, 43, 182, 0, 40, 159, 0, 7, 42, 182, 0, 195, 177]
abbrev dktJ6_inflateIfNeededFor_0 : List UInt8 := dkwJ6_inflateIfNeededFor_0 ++ []
theorem dksJ6_inflateIfNeededFor_0 : cJ6_inflateIfNeededFor.data.toList.drop 0 = dktJ6_inflateIfNeededFor_0 := by decide +kernel
theorem dJ6_inflateIfNeededFor_0 : decode cJ6_inflateIfNeededFor 0 = .ok (.getstatic 18, 3) := dk_178 0 18 (dk_at dksJ6_inflateIfNeededFor_0 0 rfl rfl)
theorem dJ6_inflateIfNeededFor_3 : decode cJ6_inflateIfNeededFor 3 = .ok (.ifCond .eq 18, 3) := dk_153 0 18 (dk_at dksJ6_inflateIfNeededFor_0 3 rfl rfl)
theorem dJ6_inflateIfNeededFor_6 : decode cJ6_inflateIfNeededFor 6 = .ok (.aload_n 0, 1) := dk_42 (dk_at dksJ6_inflateIfNeededFor_0 6 rfl rfl)
theorem dJ6_inflateIfNeededFor_7 : decode cJ6_inflateIfNeededFor 7 = .ok (.getfield 22, 3) := dk_180 0 22 (dk_at dksJ6_inflateIfNeededFor_0 7 rfl rfl)
theorem dJ6_inflateIfNeededFor_10 : decode cJ6_inflateIfNeededFor 10 = .ok (.aload_n 1, 1) := dk_43 (dk_at dksJ6_inflateIfNeededFor_0 10 rfl rfl)
theorem dJ6_inflateIfNeededFor_11 : decode cJ6_inflateIfNeededFor 11 = .ok (.invokevirtual 40, 3) := dk_182 0 40 (dk_at dksJ6_inflateIfNeededFor_0 11 rfl rfl)
theorem dJ6_inflateIfNeededFor_14 : decode cJ6_inflateIfNeededFor 14 = .ok (.if_icmp .eq 7, 3) := dk_159 0 7 (dk_at dksJ6_inflateIfNeededFor_0 14 rfl rfl)
theorem dJ6_inflateIfNeededFor_17 : decode cJ6_inflateIfNeededFor 17 = .ok (.aload_n 0, 1) := dk_42 (dk_at dksJ6_inflateIfNeededFor_0 17 rfl rfl)
theorem dJ6_inflateIfNeededFor_18 : decode cJ6_inflateIfNeededFor 18 = .ok (.invokevirtual 195, 3) := dk_182 0 195 (dk_at dksJ6_inflateIfNeededFor_0 18 rfl rfl)
theorem dJ6_inflateIfNeededFor_21 : decode cJ6_inflateIfNeededFor 21 = .ok (.return_, 1) := dk_177 (dk_at dksJ6_inflateIfNeededFor_0 21 rfl rfl)
abbrev cJ6_inflate : ByteArray := prog_12_method_11_code
def yJ6_inflate : MethodName := ⟨RJ6, "inflate", "()V"⟩
def dkwJ6_inflate_1 : List UInt8 := [42, 180, 0, 79, 184, 0, 125, 42, 43, 181, 0, 15, 42, 4, 181, 0, 22, 177]
abbrev dktJ6_inflate_1 : List UInt8 := dkwJ6_inflate_1 ++ []
def dkwJ6_inflate_0 : List UInt8 := [42, 182, 0, 83, 154, 0, 4, 177, 42, 180, 0, 15, 190, 184, 0, 26, 76, 42, 180, 0, 15, 3, 43, 3]
abbrev dktJ6_inflate_0 : List UInt8 := dkwJ6_inflate_0 ++ dktJ6_inflate_1
theorem dksJ6_inflate_0 : cJ6_inflate.data.toList.drop 0 = dktJ6_inflate_0 := by decide +kernel
theorem dksJ6_inflate_1 : cJ6_inflate.data.toList.drop 24 = dktJ6_inflate_1 := dk_seg dksJ6_inflate_0 24 rfl rfl
theorem dJ6_inflate_0 : decode cJ6_inflate 0 = .ok (.aload_n 0, 1) := dk_42 (dk_at dksJ6_inflate_0 0 rfl rfl)
theorem dJ6_inflate_1 : decode cJ6_inflate 1 = .ok (.invokevirtual 83, 3) := dk_182 0 83 (dk_at dksJ6_inflate_0 1 rfl rfl)
theorem dJ6_inflate_4 : decode cJ6_inflate 4 = .ok (.ifCond .ne 4, 3) := dk_154 0 4 (dk_at dksJ6_inflate_0 4 rfl rfl)
theorem dJ6_inflate_7 : decode cJ6_inflate 7 = .ok (.return_, 1) := dk_177 (dk_at dksJ6_inflate_0 7 rfl rfl)
theorem dJ6_inflate_8 : decode cJ6_inflate 8 = .ok (.aload_n 0, 1) := dk_42 (dk_at dksJ6_inflate_0 8 rfl rfl)
theorem dJ6_inflate_9 : decode cJ6_inflate 9 = .ok (.getfield 15, 3) := dk_180 0 15 (dk_at dksJ6_inflate_0 9 rfl rfl)
theorem dJ6_inflate_12 : decode cJ6_inflate 12 = .ok (.arraylength, 1) := dk_190 (dk_at dksJ6_inflate_0 12 rfl rfl)
theorem dJ6_inflate_13 : decode cJ6_inflate 13 = .ok (.invokestatic 26, 3) := dk_184 0 26 (dk_at dksJ6_inflate_0 13 rfl rfl)
theorem dJ6_inflate_16 : decode cJ6_inflate 16 = .ok (.astore_n 1, 1) := dk_76 (dk_at dksJ6_inflate_0 16 rfl rfl)
theorem dJ6_inflate_17 : decode cJ6_inflate 17 = .ok (.aload_n 0, 1) := dk_42 (dk_at dksJ6_inflate_0 17 rfl rfl)
theorem dJ6_inflate_18 : decode cJ6_inflate 18 = .ok (.getfield 15, 3) := dk_180 0 15 (dk_at dksJ6_inflate_0 18 rfl rfl)
theorem dJ6_inflate_21 : decode cJ6_inflate 21 = .ok (.iconst 0, 1) := dk_3 (dk_at dksJ6_inflate_0 21 rfl rfl)
theorem dJ6_inflate_22 : decode cJ6_inflate 22 = .ok (.aload_n 1, 1) := dk_43 (dk_at dksJ6_inflate_0 22 rfl rfl)
theorem dJ6_inflate_23 : decode cJ6_inflate 23 = .ok (.iconst 0, 1) := dk_3 (dk_at dksJ6_inflate_0 23 rfl rfl)
theorem dJ6_inflate_24 : decode cJ6_inflate 24 = .ok (.aload_n 0, 1) := dk_42 (dk_at dksJ6_inflate_1 0 rfl rfl)
theorem dJ6_inflate_25 : decode cJ6_inflate 25 = .ok (.getfield 79, 3) := dk_180 0 79 (dk_at dksJ6_inflate_1 1 rfl rfl)
theorem dJ6_inflate_28 : decode cJ6_inflate 28 = .ok (.invokestatic 125, 3) := dk_184 0 125 (dk_at dksJ6_inflate_1 4 rfl rfl)
theorem dJ6_inflate_31 : decode cJ6_inflate 31 = .ok (.aload_n 0, 1) := dk_42 (dk_at dksJ6_inflate_1 7 rfl rfl)
theorem dJ6_inflate_32 : decode cJ6_inflate 32 = .ok (.aload_n 1, 1) := dk_43 (dk_at dksJ6_inflate_1 8 rfl rfl)
theorem dJ6_inflate_33 : decode cJ6_inflate 33 = .ok (.putfield 15, 3) := dk_181 0 15 (dk_at dksJ6_inflate_1 9 rfl rfl)
theorem dJ6_inflate_36 : decode cJ6_inflate 36 = .ok (.aload_n 0, 1) := dk_42 (dk_at dksJ6_inflate_1 12 rfl rfl)
theorem dJ6_inflate_37 : decode cJ6_inflate 37 = .ok (.iconst 1, 1) := dk_4 (dk_at dksJ6_inflate_1 13 rfl rfl)
theorem dJ6_inflate_38 : decode cJ6_inflate 38 = .ok (.putfield 22, 3) := dk_181 0 22 (dk_at dksJ6_inflate_1 14 rfl rfl)
theorem dJ6_inflate_41 : decode cJ6_inflate 41 = .ok (.return_, 1) := dk_177 (dk_at dksJ6_inflate_1 17 rfl rfl)
abbrev cJ6_append_2 : ByteArray := prog_12_method_32_code
def yJ6_append_2 : MethodName := ⟨RJ6, "append", "(I)Ljava/lang/AbstractStringBuilder;"⟩
def dkwJ6_append_2_2 : List UInt8 := [42, 29, 181, 0, 79, 42, 176]
abbrev dktJ6_append_2_2 : List UInt8 := dkwJ6_append_2_2 ++ []
def dkwJ6_append_2_1 : List UInt8 := [27, 29, 42, 180, 0, 15, 184, 0, 248, 87, 167, 0, 14, 27, 28, 29, 42, 180, 0, 15, 184, 0, 251, 87]
abbrev dktJ6_append_2_1 : List UInt8 := dkwJ6_append_2_1 ++ dktJ6_append_2_2
def dkwJ6_append_2_0 : List UInt8 := [42, 180, 0, 79, 61, 28, 27, 184, 0, 245, 96, 62, 42, 29, 182, 0, 100, 42, 182, 0, 83, 153, 0, 16]
abbrev dktJ6_append_2_0 : List UInt8 := dkwJ6_append_2_0 ++ dktJ6_append_2_1
theorem dksJ6_append_2_0 : cJ6_append_2.data.toList.drop 0 = dktJ6_append_2_0 := by decide +kernel
theorem dksJ6_append_2_1 : cJ6_append_2.data.toList.drop 24 = dktJ6_append_2_1 := dk_seg dksJ6_append_2_0 24 rfl rfl
theorem dksJ6_append_2_2 : cJ6_append_2.data.toList.drop 48 = dktJ6_append_2_2 := dk_seg dksJ6_append_2_1 24 rfl rfl
theorem dJ6_append_2_0 : decode cJ6_append_2 0 = .ok (.aload_n 0, 1) := dk_42 (dk_at dksJ6_append_2_0 0 rfl rfl)
theorem dJ6_append_2_1 : decode cJ6_append_2 1 = .ok (.getfield 79, 3) := dk_180 0 79 (dk_at dksJ6_append_2_0 1 rfl rfl)
theorem dJ6_append_2_4 : decode cJ6_append_2 4 = .ok (.istore_n 2, 1) := dk_61 (dk_at dksJ6_append_2_0 4 rfl rfl)
theorem dJ6_append_2_5 : decode cJ6_append_2 5 = .ok (.iload_n 2, 1) := dk_28 (dk_at dksJ6_append_2_0 5 rfl rfl)
theorem dJ6_append_2_6 : decode cJ6_append_2 6 = .ok (.iload_n 1, 1) := dk_27 (dk_at dksJ6_append_2_0 6 rfl rfl)
theorem dJ6_append_2_7 : decode cJ6_append_2 7 = .ok (.invokestatic 245, 3) := dk_184 0 245 (dk_at dksJ6_append_2_0 7 rfl rfl)
theorem dJ6_append_2_10 : decode cJ6_append_2 10 = .ok (.iadd, 1) := dk_96 (dk_at dksJ6_append_2_0 10 rfl rfl)
theorem dJ6_append_2_11 : decode cJ6_append_2 11 = .ok (.istore_n 3, 1) := dk_62 (dk_at dksJ6_append_2_0 11 rfl rfl)
theorem dJ6_append_2_12 : decode cJ6_append_2 12 = .ok (.aload_n 0, 1) := dk_42 (dk_at dksJ6_append_2_0 12 rfl rfl)
theorem dJ6_append_2_13 : decode cJ6_append_2 13 = .ok (.iload_n 3, 1) := dk_29 (dk_at dksJ6_append_2_0 13 rfl rfl)
theorem dJ6_append_2_14 : decode cJ6_append_2 14 = .ok (.invokevirtual 100, 3) := dk_182 0 100 (dk_at dksJ6_append_2_0 14 rfl rfl)
theorem dJ6_append_2_17 : decode cJ6_append_2 17 = .ok (.aload_n 0, 1) := dk_42 (dk_at dksJ6_append_2_0 17 rfl rfl)
theorem dJ6_append_2_18 : decode cJ6_append_2 18 = .ok (.invokevirtual 83, 3) := dk_182 0 83 (dk_at dksJ6_append_2_0 18 rfl rfl)
theorem dJ6_append_2_21 : decode cJ6_append_2 21 = .ok (.ifCond .eq 16, 3) := dk_153 0 16 (dk_at dksJ6_append_2_0 21 rfl rfl)
theorem dJ6_append_2_24 : decode cJ6_append_2 24 = .ok (.iload_n 1, 1) := dk_27 (dk_at dksJ6_append_2_1 0 rfl rfl)
theorem dJ6_append_2_25 : decode cJ6_append_2 25 = .ok (.iload_n 3, 1) := dk_29 (dk_at dksJ6_append_2_1 1 rfl rfl)
theorem dJ6_append_2_26 : decode cJ6_append_2 26 = .ok (.aload_n 0, 1) := dk_42 (dk_at dksJ6_append_2_1 2 rfl rfl)
theorem dJ6_append_2_27 : decode cJ6_append_2 27 = .ok (.getfield 15, 3) := dk_180 0 15 (dk_at dksJ6_append_2_1 3 rfl rfl)
theorem dJ6_append_2_30 : decode cJ6_append_2 30 = .ok (.invokestatic 248, 3) := dk_184 0 248 (dk_at dksJ6_append_2_1 6 rfl rfl)
theorem dJ6_append_2_33 : decode cJ6_append_2 33 = .ok (.pop, 1) := dk_87 (dk_at dksJ6_append_2_1 9 rfl rfl)
theorem dJ6_append_2_34 : decode cJ6_append_2 34 = .ok (.goto 14, 3) := dk_167 0 14 (dk_at dksJ6_append_2_1 10 rfl rfl)
theorem dJ6_append_2_37 : decode cJ6_append_2 37 = .ok (.iload_n 1, 1) := dk_27 (dk_at dksJ6_append_2_1 13 rfl rfl)
theorem dJ6_append_2_38 : decode cJ6_append_2 38 = .ok (.iload_n 2, 1) := dk_28 (dk_at dksJ6_append_2_1 14 rfl rfl)
theorem dJ6_append_2_39 : decode cJ6_append_2 39 = .ok (.iload_n 3, 1) := dk_29 (dk_at dksJ6_append_2_1 15 rfl rfl)
theorem dJ6_append_2_40 : decode cJ6_append_2 40 = .ok (.aload_n 0, 1) := dk_42 (dk_at dksJ6_append_2_1 16 rfl rfl)
theorem dJ6_append_2_41 : decode cJ6_append_2 41 = .ok (.getfield 15, 3) := dk_180 0 15 (dk_at dksJ6_append_2_1 17 rfl rfl)
theorem dJ6_append_2_44 : decode cJ6_append_2 44 = .ok (.invokestatic 251, 3) := dk_184 0 251 (dk_at dksJ6_append_2_1 20 rfl rfl)
theorem dJ6_append_2_47 : decode cJ6_append_2 47 = .ok (.pop, 1) := dk_87 (dk_at dksJ6_append_2_1 23 rfl rfl)
theorem dJ6_append_2_48 : decode cJ6_append_2 48 = .ok (.aload_n 0, 1) := dk_42 (dk_at dksJ6_append_2_2 0 rfl rfl)
theorem dJ6_append_2_49 : decode cJ6_append_2 49 = .ok (.iload_n 3, 1) := dk_29 (dk_at dksJ6_append_2_2 1 rfl rfl)
theorem dJ6_append_2_50 : decode cJ6_append_2 50 = .ok (.putfield 79, 3) := dk_181 0 79 (dk_at dksJ6_append_2_2 2 rfl rfl)
theorem dJ6_append_2_53 : decode cJ6_append_2 53 = .ok (.aload_n 0, 1) := dk_42 (dk_at dksJ6_append_2_2 5 rfl rfl)
theorem dJ6_append_2_54 : decode cJ6_append_2 54 = .ok (.areturn, 1) := dk_176 (dk_at dksJ6_append_2_2 6 rfl rfl)
abbrev cJ6_getValue : ByteArray := prog_12_method_64_code
def yJ6_getValue : MethodName := ⟨RJ6, "getValue", "()[B"⟩
theorem dJ6_getValue_0 : decode cJ6_getValue 0 = .ok (.aload_n 0, 1) := by decide +kernel
theorem dJ6_getValue_1 : decode cJ6_getValue 1 = .ok (.getfield 15, 3) := by decide +kernel
theorem dJ6_getValue_4 : decode cJ6_getValue 4 = .ok (.areturn, 1) := by decide +kernel
abbrev cJ6_length : ByteArray := prog_12_method_6_code
def yJ6_length : MethodName := ⟨RJ6, "length", "()I"⟩
theorem dJ6_length_0 : decode cJ6_length 0 = .ok (.aload_n 0, 1) := by decide +kernel
theorem dJ6_length_1 : decode cJ6_length 1 = .ok (.getfield 79, 3) := by decide +kernel
theorem dJ6_length_4 : decode cJ6_length 4 = .ok (.ireturn, 1) := by decide +kernel
abbrev cJ6_append_3 : ByteArray := prog_12_method_31_code
def yJ6_append_3 : MethodName := ⟨RJ6, "append", "(C)Ljava/lang/AbstractStringBuilder;"⟩
def dkwJ6_append_3_3 : List UInt8 := [181, 0, 79, 27, 184, 0, 197, 42, 176]
abbrev dktJ6_append_3_3 : List UInt8 := dkwJ6_append_3_3 ++ []
def dkwJ6_append_3_2 : List UInt8 := [182, 0, 83, 153, 0, 7, 42, 182, 0, 195, 42, 180, 0, 15, 42, 89, 180, 0, 79, 90, 4, 96]
abbrev dktJ6_append_3_2 : List UInt8 := dkwJ6_append_3_2 ++ dktJ6_append_3_3
def dkwJ6_append_3_1 : List UInt8 := [42, 180, 0, 15, 42, 89, 180, 0, 79, 90, 4, 96, 181, 0, 79, 27, 145, 84, 167, 0, 33, 42]
abbrev dktJ6_append_3_1 : List UInt8 := dkwJ6_append_3_1 ++ dktJ6_append_3_2
def dkwJ6_append_3_0 : List UInt8 := [42, 42, 180, 0, 79, 4, 96, 182, 0, 100, 42, 182, 0, 83, 153, 0, 31, 27, 184, 0, 191, 153, 0, 24]
abbrev dktJ6_append_3_0 : List UInt8 := dkwJ6_append_3_0 ++ dktJ6_append_3_1
theorem dksJ6_append_3_0 : cJ6_append_3.data.toList.drop 0 = dktJ6_append_3_0 := by decide +kernel
theorem dksJ6_append_3_1 : cJ6_append_3.data.toList.drop 24 = dktJ6_append_3_1 := dk_seg dksJ6_append_3_0 24 rfl rfl
theorem dksJ6_append_3_2 : cJ6_append_3.data.toList.drop 46 = dktJ6_append_3_2 := dk_seg dksJ6_append_3_1 22 rfl rfl
theorem dksJ6_append_3_3 : cJ6_append_3.data.toList.drop 68 = dktJ6_append_3_3 := dk_seg dksJ6_append_3_2 22 rfl rfl
theorem dJ6_append_3_0 : decode cJ6_append_3 0 = .ok (.aload_n 0, 1) := dk_42 (dk_at dksJ6_append_3_0 0 rfl rfl)
theorem dJ6_append_3_1 : decode cJ6_append_3 1 = .ok (.aload_n 0, 1) := dk_42 (dk_at dksJ6_append_3_0 1 rfl rfl)
theorem dJ6_append_3_2 : decode cJ6_append_3 2 = .ok (.getfield 79, 3) := dk_180 0 79 (dk_at dksJ6_append_3_0 2 rfl rfl)
theorem dJ6_append_3_5 : decode cJ6_append_3 5 = .ok (.iconst 1, 1) := dk_4 (dk_at dksJ6_append_3_0 5 rfl rfl)
theorem dJ6_append_3_6 : decode cJ6_append_3 6 = .ok (.iadd, 1) := dk_96 (dk_at dksJ6_append_3_0 6 rfl rfl)
theorem dJ6_append_3_7 : decode cJ6_append_3 7 = .ok (.invokevirtual 100, 3) := dk_182 0 100 (dk_at dksJ6_append_3_0 7 rfl rfl)
theorem dJ6_append_3_10 : decode cJ6_append_3 10 = .ok (.aload_n 0, 1) := dk_42 (dk_at dksJ6_append_3_0 10 rfl rfl)
theorem dJ6_append_3_11 : decode cJ6_append_3 11 = .ok (.invokevirtual 83, 3) := dk_182 0 83 (dk_at dksJ6_append_3_0 11 rfl rfl)
theorem dJ6_append_3_14 : decode cJ6_append_3 14 = .ok (.ifCond .eq 31, 3) := dk_153 0 31 (dk_at dksJ6_append_3_0 14 rfl rfl)
theorem dJ6_append_3_17 : decode cJ6_append_3 17 = .ok (.iload_n 1, 1) := dk_27 (dk_at dksJ6_append_3_0 17 rfl rfl)
theorem dJ6_append_3_18 : decode cJ6_append_3 18 = .ok (.invokestatic 191, 3) := dk_184 0 191 (dk_at dksJ6_append_3_0 18 rfl rfl)
theorem dJ6_append_3_21 : decode cJ6_append_3 21 = .ok (.ifCond .eq 24, 3) := dk_153 0 24 (dk_at dksJ6_append_3_0 21 rfl rfl)
theorem dJ6_append_3_24 : decode cJ6_append_3 24 = .ok (.aload_n 0, 1) := dk_42 (dk_at dksJ6_append_3_1 0 rfl rfl)
theorem dJ6_append_3_25 : decode cJ6_append_3 25 = .ok (.getfield 15, 3) := dk_180 0 15 (dk_at dksJ6_append_3_1 1 rfl rfl)
theorem dJ6_append_3_28 : decode cJ6_append_3 28 = .ok (.aload_n 0, 1) := dk_42 (dk_at dksJ6_append_3_1 4 rfl rfl)
theorem dJ6_append_3_29 : decode cJ6_append_3 29 = .ok (.dup, 1) := dk_89 (dk_at dksJ6_append_3_1 5 rfl rfl)
theorem dJ6_append_3_30 : decode cJ6_append_3 30 = .ok (.getfield 79, 3) := dk_180 0 79 (dk_at dksJ6_append_3_1 6 rfl rfl)
theorem dJ6_append_3_33 : decode cJ6_append_3 33 = .ok (.dup_x1, 1) := dk_90 (dk_at dksJ6_append_3_1 9 rfl rfl)
theorem dJ6_append_3_34 : decode cJ6_append_3 34 = .ok (.iconst 1, 1) := dk_4 (dk_at dksJ6_append_3_1 10 rfl rfl)
theorem dJ6_append_3_35 : decode cJ6_append_3 35 = .ok (.iadd, 1) := dk_96 (dk_at dksJ6_append_3_1 11 rfl rfl)
theorem dJ6_append_3_36 : decode cJ6_append_3 36 = .ok (.putfield 79, 3) := dk_181 0 79 (dk_at dksJ6_append_3_1 12 rfl rfl)
theorem dJ6_append_3_39 : decode cJ6_append_3 39 = .ok (.iload_n 1, 1) := dk_27 (dk_at dksJ6_append_3_1 15 rfl rfl)
theorem dJ6_append_3_40 : decode cJ6_append_3 40 = .ok (.i2b, 1) := dk_145 (dk_at dksJ6_append_3_1 16 rfl rfl)
theorem dJ6_append_3_41 : decode cJ6_append_3 41 = .ok (.bastore, 1) := dk_84 (dk_at dksJ6_append_3_1 17 rfl rfl)
theorem dJ6_append_3_42 : decode cJ6_append_3 42 = .ok (.goto 33, 3) := dk_167 0 33 (dk_at dksJ6_append_3_1 18 rfl rfl)
theorem dJ6_append_3_45 : decode cJ6_append_3 45 = .ok (.aload_n 0, 1) := dk_42 (dk_at dksJ6_append_3_1 21 rfl rfl)
theorem dJ6_append_3_46 : decode cJ6_append_3 46 = .ok (.invokevirtual 83, 3) := dk_182 0 83 (dk_at dksJ6_append_3_2 0 rfl rfl)
theorem dJ6_append_3_49 : decode cJ6_append_3 49 = .ok (.ifCond .eq 7, 3) := dk_153 0 7 (dk_at dksJ6_append_3_2 3 rfl rfl)
theorem dJ6_append_3_52 : decode cJ6_append_3 52 = .ok (.aload_n 0, 1) := dk_42 (dk_at dksJ6_append_3_2 6 rfl rfl)
theorem dJ6_append_3_53 : decode cJ6_append_3 53 = .ok (.invokevirtual 195, 3) := dk_182 0 195 (dk_at dksJ6_append_3_2 7 rfl rfl)
theorem dJ6_append_3_56 : decode cJ6_append_3 56 = .ok (.aload_n 0, 1) := dk_42 (dk_at dksJ6_append_3_2 10 rfl rfl)
theorem dJ6_append_3_57 : decode cJ6_append_3 57 = .ok (.getfield 15, 3) := dk_180 0 15 (dk_at dksJ6_append_3_2 11 rfl rfl)
theorem dJ6_append_3_60 : decode cJ6_append_3 60 = .ok (.aload_n 0, 1) := dk_42 (dk_at dksJ6_append_3_2 14 rfl rfl)
theorem dJ6_append_3_61 : decode cJ6_append_3 61 = .ok (.dup, 1) := dk_89 (dk_at dksJ6_append_3_2 15 rfl rfl)
theorem dJ6_append_3_62 : decode cJ6_append_3 62 = .ok (.getfield 79, 3) := dk_180 0 79 (dk_at dksJ6_append_3_2 16 rfl rfl)
theorem dJ6_append_3_65 : decode cJ6_append_3 65 = .ok (.dup_x1, 1) := dk_90 (dk_at dksJ6_append_3_2 19 rfl rfl)
theorem dJ6_append_3_66 : decode cJ6_append_3 66 = .ok (.iconst 1, 1) := dk_4 (dk_at dksJ6_append_3_2 20 rfl rfl)
theorem dJ6_append_3_67 : decode cJ6_append_3 67 = .ok (.iadd, 1) := dk_96 (dk_at dksJ6_append_3_2 21 rfl rfl)
theorem dJ6_append_3_68 : decode cJ6_append_3 68 = .ok (.putfield 79, 3) := dk_181 0 79 (dk_at dksJ6_append_3_3 0 rfl rfl)
theorem dJ6_append_3_71 : decode cJ6_append_3 71 = .ok (.iload_n 1, 1) := dk_27 (dk_at dksJ6_append_3_3 3 rfl rfl)
theorem dJ6_append_3_72 : decode cJ6_append_3 72 = .ok (.invokestatic 197, 3) := dk_184 0 197 (dk_at dksJ6_append_3_3 4 rfl rfl)
theorem dJ6_append_3_75 : decode cJ6_append_3 75 = .ok (.aload_n 0, 1) := dk_42 (dk_at dksJ6_append_3_3 7 rfl rfl)
theorem dJ6_append_3_76 : decode cJ6_append_3 76 = .ok (.areturn, 1) := dk_176 (dk_at dksJ6_append_3_3 8 rfl rfl)
abbrev cJ6_charAt : ByteArray := prog_12_method_14_code
def yJ6_charAt : MethodName := ⟨RJ6, "charAt", "(I)C"⟩
def dkwJ6_charAt_1 : List UInt8 := [21, 4, 184, 0, 144, 28, 154, 0, 12, 45, 27, 51, 17, 0, 255, 126, 146, 172, 45, 27, 184, 0, 148, 172]
abbrev dktJ6_charAt_1 : List UInt8 := dkwJ6_charAt_1 ++ []
def dkwJ6_charAt_0 : List UInt8 := [42, 180, 0, 22, 61, 42, 180, 0, 15, 78, 42, 180, 0, 79, 45, 190, 28, 122, 184, 0, 138, 54, 4, 27]
abbrev dktJ6_charAt_0 : List UInt8 := dkwJ6_charAt_0 ++ dktJ6_charAt_1
theorem dksJ6_charAt_0 : cJ6_charAt.data.toList.drop 0 = dktJ6_charAt_0 := by decide +kernel
theorem dksJ6_charAt_1 : cJ6_charAt.data.toList.drop 24 = dktJ6_charAt_1 := dk_seg dksJ6_charAt_0 24 rfl rfl
theorem dJ6_charAt_0 : decode cJ6_charAt 0 = .ok (.aload_n 0, 1) := dk_42 (dk_at dksJ6_charAt_0 0 rfl rfl)
theorem dJ6_charAt_1 : decode cJ6_charAt 1 = .ok (.getfield 22, 3) := dk_180 0 22 (dk_at dksJ6_charAt_0 1 rfl rfl)
theorem dJ6_charAt_4 : decode cJ6_charAt 4 = .ok (.istore_n 2, 1) := dk_61 (dk_at dksJ6_charAt_0 4 rfl rfl)
theorem dJ6_charAt_5 : decode cJ6_charAt 5 = .ok (.aload_n 0, 1) := dk_42 (dk_at dksJ6_charAt_0 5 rfl rfl)
theorem dJ6_charAt_6 : decode cJ6_charAt 6 = .ok (.getfield 15, 3) := dk_180 0 15 (dk_at dksJ6_charAt_0 6 rfl rfl)
theorem dJ6_charAt_9 : decode cJ6_charAt 9 = .ok (.astore_n 3, 1) := dk_78 (dk_at dksJ6_charAt_0 9 rfl rfl)
theorem dJ6_charAt_10 : decode cJ6_charAt 10 = .ok (.aload_n 0, 1) := dk_42 (dk_at dksJ6_charAt_0 10 rfl rfl)
theorem dJ6_charAt_11 : decode cJ6_charAt 11 = .ok (.getfield 79, 3) := dk_180 0 79 (dk_at dksJ6_charAt_0 11 rfl rfl)
theorem dJ6_charAt_14 : decode cJ6_charAt 14 = .ok (.aload_n 3, 1) := dk_45 (dk_at dksJ6_charAt_0 14 rfl rfl)
theorem dJ6_charAt_15 : decode cJ6_charAt 15 = .ok (.arraylength, 1) := dk_190 (dk_at dksJ6_charAt_0 15 rfl rfl)
theorem dJ6_charAt_16 : decode cJ6_charAt 16 = .ok (.iload_n 2, 1) := dk_28 (dk_at dksJ6_charAt_0 16 rfl rfl)
theorem dJ6_charAt_17 : decode cJ6_charAt 17 = .ok (.ishr, 1) := dk_122 (dk_at dksJ6_charAt_0 17 rfl rfl)
theorem dJ6_charAt_18 : decode cJ6_charAt 18 = .ok (.invokestatic 138, 3) := dk_184 0 138 (dk_at dksJ6_charAt_0 18 rfl rfl)
theorem dJ6_charAt_21 : decode cJ6_charAt 21 = .ok (.istore 4, 2) := dk_54 4 (dk_at dksJ6_charAt_0 21 rfl rfl)
theorem dJ6_charAt_23 : decode cJ6_charAt 23 = .ok (.iload_n 1, 1) := dk_27 (dk_at dksJ6_charAt_0 23 rfl rfl)
theorem dJ6_charAt_24 : decode cJ6_charAt 24 = .ok (.iload 4, 2) := dk_21 4 (dk_at dksJ6_charAt_1 0 rfl rfl)
theorem dJ6_charAt_26 : decode cJ6_charAt 26 = .ok (.invokestatic 144, 3) := dk_184 0 144 (dk_at dksJ6_charAt_1 2 rfl rfl)
theorem dJ6_charAt_29 : decode cJ6_charAt 29 = .ok (.iload_n 2, 1) := dk_28 (dk_at dksJ6_charAt_1 5 rfl rfl)
theorem dJ6_charAt_30 : decode cJ6_charAt 30 = .ok (.ifCond .ne 12, 3) := dk_154 0 12 (dk_at dksJ6_charAt_1 6 rfl rfl)
theorem dJ6_charAt_33 : decode cJ6_charAt 33 = .ok (.aload_n 3, 1) := dk_45 (dk_at dksJ6_charAt_1 9 rfl rfl)
theorem dJ6_charAt_34 : decode cJ6_charAt 34 = .ok (.iload_n 1, 1) := dk_27 (dk_at dksJ6_charAt_1 10 rfl rfl)
theorem dJ6_charAt_35 : decode cJ6_charAt 35 = .ok (.baload, 1) := dk_51 (dk_at dksJ6_charAt_1 11 rfl rfl)
theorem dJ6_charAt_36 : decode cJ6_charAt 36 = .ok (.sipush 255, 3) := dk_17 0 255 (dk_at dksJ6_charAt_1 12 rfl rfl)
theorem dJ6_charAt_39 : decode cJ6_charAt 39 = .ok (.iand, 1) := dk_126 (dk_at dksJ6_charAt_1 15 rfl rfl)
theorem dJ6_charAt_40 : decode cJ6_charAt 40 = .ok (.i2c, 1) := dk_146 (dk_at dksJ6_charAt_1 16 rfl rfl)
theorem dJ6_charAt_41 : decode cJ6_charAt 41 = .ok (.ireturn, 1) := dk_172 (dk_at dksJ6_charAt_1 17 rfl rfl)
theorem dJ6_charAt_42 : decode cJ6_charAt 42 = .ok (.aload_n 3, 1) := dk_45 (dk_at dksJ6_charAt_1 18 rfl rfl)
theorem dJ6_charAt_43 : decode cJ6_charAt 43 = .ok (.iload_n 1, 1) := dk_27 (dk_at dksJ6_charAt_1 19 rfl rfl)
theorem dJ6_charAt_44 : decode cJ6_charAt 44 = .ok (.invokestatic 148, 3) := dk_184 0 148 (dk_at dksJ6_charAt_1 20 rfl rfl)
theorem dJ6_charAt_47 : decode cJ6_charAt 47 = .ok (.ireturn, 1) := dk_172 (dk_at dksJ6_charAt_1 23 rfl rfl)
theorem q89 : (Jvm.Cond.initialized "java/lang/AbstractStringBuilder") ∈ lw_all := lw_g (lw_at lw_m1 9 rfl) rfl
theorem q249 : (Jvm.Cond.instanceMethod ({ cls := "java/lang/AbstractStringBuilder", name := "<init>", desc := "(I)V" } : Jvm.MethodName)) ∈ lw_all := lw_g (lw_at lw_m1 169 rfl) rfl
theorem q250 : (Jvm.Cond.code ({ cls := "java/lang/AbstractStringBuilder", name := "<init>", desc := "(I)V" } : Jvm.MethodName) prog_12_method_2_code (2 : Nat) (Option.none : Option Jvm.ClassFile.FieldType)) ∈ lw_all := lw_g (lw_at lw_m1 170 rfl) rfl
theorem q251 : (Jvm.Cond.methodLink "java/lang/AbstractStringBuilder" (3 : Nat) ({ cls := "java/lang/Object", name := "<init>", desc := "()V" } : Jvm.MethodName)) ∈ lw_all := lw_g (lw_at lw_m1 171 rfl) rfl
theorem q252 : (Jvm.Cond.fieldLink "java/lang/AbstractStringBuilder" (18 : Nat) "java/lang/String" "COMPACT_STRINGS" "Z") ∈ lw_all := lw_g (lw_at lw_m1 172 rfl) rfl
theorem q254 : (Jvm.Cond.methodLink "java/lang/AbstractStringBuilder" (26 : Nat) ({ cls := "java/lang/StringUTF16", name := "newBytesFor", desc := "(I)[B" } : Jvm.MethodName)) ∈ lw_all := lw_g (lw_at lw_m1 174 rfl) rfl
theorem q261 : (Jvm.Cond.fieldLink "java/lang/AbstractStringBuilder" (15 : Nat) "java/lang/AbstractStringBuilder" "value" "[B") ∈ lw_all := lw_g (lw_at lw_m1 181 rfl) rfl
theorem q262 : (Jvm.Cond.fieldLink "java/lang/AbstractStringBuilder" (22 : Nat) "java/lang/AbstractStringBuilder" "coder" "B") ∈ lw_all := lw_g (lw_at lw_m1 182 rfl) rfl
theorem q264 : (Jvm.Cond.fieldLink "java/lang/AbstractStringBuilder" (79 : Nat) "java/lang/AbstractStringBuilder" "count" "I") ∈ lw_all := lw_g (lw_at lw_m1 184 rfl) rfl
theorem q266 : (Jvm.Cond.soleField "java/lang/AbstractStringBuilder" "value") ∈ lw_all := lw_g (lw_at lw_m1 186 rfl) rfl
theorem q268 : (Jvm.Cond.soleField "java/lang/AbstractStringBuilder" "coder") ∈ lw_all := lw_g (lw_at lw_m1 188 rfl) rfl
theorem q270 : (Jvm.Cond.soleField "java/lang/AbstractStringBuilder" "maybeLatin1") ∈ lw_all := lw_g (lw_at lw_m1 190 rfl) rfl
theorem q272 : (Jvm.Cond.soleField "java/lang/AbstractStringBuilder" "count") ∈ lw_all := lw_g (lw_at lw_m1 192 rfl) rfl
theorem q760 : (Jvm.Cond.instanceMethod ({ cls := "java/lang/AbstractStringBuilder", name := "append", desc := "(Ljava/lang/String;)Ljava/lang/AbstractStringBuilder;" } : Jvm.MethodName)) ∈ lw_all := lw_g (lw_at lw_m3 200 rfl) rfl
theorem q761 : (Jvm.Cond.code ({ cls := "java/lang/AbstractStringBuilder", name := "append", desc := "(Ljava/lang/String;)Ljava/lang/AbstractStringBuilder;" } : Jvm.MethodName) prog_12_method_22_code (3 : Nat) (Option.some (Jvm.ClassFile.FieldType.object "java/lang/AbstractStringBuilder"))) ∈ lw_all := lw_g (lw_at lw_m3 201 rfl) rfl
theorem q762 : (Jvm.Cond.methodLink "java/lang/AbstractStringBuilder" (204 : Nat) ({ cls := "java/lang/AbstractStringBuilder", name := "appendNull", desc := "()Ljava/lang/AbstractStringBuilder;" } : Jvm.MethodName)) ∈ lw_all := lw_g (lw_at lw_m3 202 rfl) rfl
theorem q763 : (Jvm.Cond.privateMethod ({ cls := "java/lang/AbstractStringBuilder", name := "appendNull", desc := "()Ljava/lang/AbstractStringBuilder;" } : Jvm.MethodName)) ∈ lw_tbl := lw_at lw_m3 203 rfl
theorem q764 : (Jvm.Cond.instanceMethod ({ cls := "java/lang/AbstractStringBuilder", name := "appendNull", desc := "()Ljava/lang/AbstractStringBuilder;" } : Jvm.MethodName)) ∈ lw_all := lw_g (lw_at lw_m3 204 rfl) rfl
theorem q765 : (Jvm.Cond.code ({ cls := "java/lang/AbstractStringBuilder", name := "appendNull", desc := "()Ljava/lang/AbstractStringBuilder;" } : Jvm.MethodName) prog_12_method_26_code (3 : Nat) (Option.some (Jvm.ClassFile.FieldType.object "java/lang/AbstractStringBuilder"))) ∈ lw_all := lw_g (lw_at lw_m3 205 rfl) rfl
theorem q766 : (Jvm.Cond.methodLink "java/lang/AbstractStringBuilder" (100 : Nat) ({ cls := "java/lang/AbstractStringBuilder", name := "ensureCapacityInternal", desc := "(I)V" } : Jvm.MethodName)) ∈ lw_all := lw_g (lw_at lw_m3 206 rfl) rfl
theorem q767 : (Jvm.Cond.privateMethod ({ cls := "java/lang/AbstractStringBuilder", name := "ensureCapacityInternal", desc := "(I)V" } : Jvm.MethodName)) ∈ lw_tbl := lw_at lw_m3 207 rfl
theorem q768 : (Jvm.Cond.instanceMethod ({ cls := "java/lang/AbstractStringBuilder", name := "ensureCapacityInternal", desc := "(I)V" } : Jvm.MethodName)) ∈ lw_all := lw_g (lw_at lw_m3 208 rfl) rfl
theorem q769 : (Jvm.Cond.code ({ cls := "java/lang/AbstractStringBuilder", name := "ensureCapacityInternal", desc := "(I)V" } : Jvm.MethodName) prog_12_method_9_code (3 : Nat) (Option.none : Option Jvm.ClassFile.FieldType)) ∈ lw_all := lw_g (lw_at lw_m3 209 rfl) rfl
theorem q770 : (Jvm.Cond.methodLink "java/lang/AbstractStringBuilder" (104 : Nat) ({ cls := "java/lang/AbstractStringBuilder", name := "newCapacity", desc := "(I)I" } : Jvm.MethodName)) ∈ lw_all := lw_g (lw_at lw_m3 210 rfl) rfl
theorem q771 : (Jvm.Cond.privateMethod ({ cls := "java/lang/AbstractStringBuilder", name := "newCapacity", desc := "(I)I" } : Jvm.MethodName)) ∈ lw_tbl := lw_at lw_m3 211 rfl
theorem q772 : (Jvm.Cond.instanceMethod ({ cls := "java/lang/AbstractStringBuilder", name := "newCapacity", desc := "(I)I" } : Jvm.MethodName)) ∈ lw_all := lw_g (lw_at lw_m3 212 rfl) rfl
theorem q773 : (Jvm.Cond.code ({ cls := "java/lang/AbstractStringBuilder", name := "newCapacity", desc := "(I)I" } : Jvm.MethodName) prog_12_method_10_code (6 : Nat) (Option.some Jvm.ClassFile.FieldType.int)) ∈ lw_all := lw_g (lw_at lw_m3 213 rfl) rfl
theorem q774 : (Jvm.Cond.methodLink "java/lang/AbstractStringBuilder" (114 : Nat) ({ cls := "jdk/internal/util/ArraysSupport", name := "newLength", desc := "(III)I" } : Jvm.MethodName)) ∈ lw_all := lw_g (lw_at lw_m3 214 rfl) rfl
theorem q775 : (Jvm.Cond.constant "java/lang/AbstractStringBuilder" (39 : Nat) (2147483647 : Int32)) ∈ lw_all := lw_g (lw_at lw_m3 215 rfl) rfl
theorem q776 : (Jvm.Cond.methodLink "java/lang/AbstractStringBuilder" (108 : Nat) ({ cls := "java/util/Arrays", name := "copyOf", desc := "([BI)[B" } : Jvm.MethodName)) ∈ lw_all := lw_g (lw_at lw_m3 216 rfl) rfl
theorem q786 : (Jvm.Cond.methodLink "java/lang/AbstractStringBuilder" (83 : Nat) ({ cls := "java/lang/AbstractStringBuilder", name := "isLatin1", desc := "()Z" } : Jvm.MethodName)) ∈ lw_all := lw_g (lw_at lw_m3 226 rfl) rfl
theorem q787 : (Jvm.Cond.instanceMethod ({ cls := "java/lang/AbstractStringBuilder", name := "isLatin1", desc := "()Z" } : Jvm.MethodName)) ∈ lw_all := lw_g (lw_at lw_m3 227 rfl) rfl
theorem q788 : (Jvm.Cond.sameMethod "java/lang/AbstractStringBuilder" "java/lang/AbstractStringBuilder" "isLatin1" "()Z") ∈ lw_all := lw_g (lw_at lw_m3 228 rfl) rfl
theorem q790 : (Jvm.Cond.code ({ cls := "java/lang/AbstractStringBuilder", name := "isLatin1", desc := "()Z" } : Jvm.MethodName) prog_12_method_68_code (1 : Nat) (Option.some Jvm.ClassFile.FieldType.boolean)) ∈ lw_all := lw_g (lw_at lw_m3 230 rfl) rfl
theorem q791 : (Jvm.Cond.methodLink "java/lang/AbstractStringBuilder" (226 : Nat) ({ cls := "java/lang/StringUTF16", name := "putCharsAt", desc := "([BICCCC)I" } : Jvm.MethodName)) ∈ lw_all := lw_g (lw_at lw_m3 231 rfl) rfl
theorem q808 : (Jvm.Cond.methodLink "java/lang/AbstractStringBuilder" (32 : Nat) ({ cls := "java/lang/String", name := "length", desc := "()I" } : Jvm.MethodName)) ∈ lw_all := lw_g (lw_at lw_m4 8 rfl) rfl
theorem q816 : (Jvm.Cond.methodLink "java/lang/AbstractStringBuilder" (208 : Nat) ({ cls := "java/lang/AbstractStringBuilder", name := "putStringAt", desc := "(ILjava/lang/String;)V" } : Jvm.MethodName)) ∈ lw_all := lw_g (lw_at lw_m4 16 rfl) rfl
theorem q817 : (Jvm.Cond.privateMethod ({ cls := "java/lang/AbstractStringBuilder", name := "putStringAt", desc := "(ILjava/lang/String;)V" } : Jvm.MethodName)) ∈ lw_tbl := lw_at lw_m4 17 rfl
theorem q818 : (Jvm.Cond.instanceMethod ({ cls := "java/lang/AbstractStringBuilder", name := "putStringAt", desc := "(ILjava/lang/String;)V" } : Jvm.MethodName)) ∈ lw_all := lw_g (lw_at lw_m4 18 rfl) rfl
theorem q819 : (Jvm.Cond.code ({ cls := "java/lang/AbstractStringBuilder", name := "putStringAt", desc := "(ILjava/lang/String;)V" } : Jvm.MethodName) prog_12_method_73_code (3 : Nat) (Option.none : Option Jvm.ClassFile.FieldType)) ∈ lw_all := lw_g (lw_at lw_m4 19 rfl) rfl
theorem q820 : (Jvm.Cond.methodLink "java/lang/AbstractStringBuilder" (397 : Nat) ({ cls := "java/lang/AbstractStringBuilder", name := "inflateIfNeededFor", desc := "(Ljava/lang/String;)V" } : Jvm.MethodName)) ∈ lw_all := lw_g (lw_at lw_m4 20 rfl) rfl
theorem q821 : (Jvm.Cond.privateMethod ({ cls := "java/lang/AbstractStringBuilder", name := "inflateIfNeededFor", desc := "(Ljava/lang/String;)V" } : Jvm.MethodName)) ∈ lw_tbl := lw_at lw_m4 21 rfl
theorem q822 : (Jvm.Cond.instanceMethod ({ cls := "java/lang/AbstractStringBuilder", name := "inflateIfNeededFor", desc := "(Ljava/lang/String;)V" } : Jvm.MethodName)) ∈ lw_all := lw_g (lw_at lw_m4 22 rfl) rfl
theorem q823 : (Jvm.Cond.code ({ cls := "java/lang/AbstractStringBuilder", name := "inflateIfNeededFor", desc := "(Ljava/lang/String;)V" } : Jvm.MethodName) prog_12_method_71_code (2 : Nat) (Option.none : Option Jvm.ClassFile.FieldType)) ∈ lw_all := lw_g (lw_at lw_m4 23 rfl) rfl
theorem q824 : (Jvm.Cond.methodLink "java/lang/AbstractStringBuilder" (40 : Nat) ({ cls := "java/lang/String", name := "coder", desc := "()B" } : Jvm.MethodName)) ∈ lw_all := lw_g (lw_at lw_m4 24 rfl) rfl
theorem q825 : (Jvm.Cond.methodLink "java/lang/AbstractStringBuilder" (195 : Nat) ({ cls := "java/lang/AbstractStringBuilder", name := "inflate", desc := "()V" } : Jvm.MethodName)) ∈ lw_all := lw_g (lw_at lw_m4 25 rfl) rfl
theorem q826 : (Jvm.Cond.privateMethod ({ cls := "java/lang/AbstractStringBuilder", name := "inflate", desc := "()V" } : Jvm.MethodName)) ∈ lw_tbl := lw_at lw_m4 26 rfl
theorem q827 : (Jvm.Cond.instanceMethod ({ cls := "java/lang/AbstractStringBuilder", name := "inflate", desc := "()V" } : Jvm.MethodName)) ∈ lw_all := lw_g (lw_at lw_m4 27 rfl) rfl
theorem q828 : (Jvm.Cond.code ({ cls := "java/lang/AbstractStringBuilder", name := "inflate", desc := "()V" } : Jvm.MethodName) prog_12_method_11_code (2 : Nat) (Option.none : Option Jvm.ClassFile.FieldType)) ∈ lw_all := lw_g (lw_at lw_m4 28 rfl) rfl
theorem q829 : (Jvm.Cond.methodLink "java/lang/AbstractStringBuilder" (125 : Nat) ({ cls := "java/lang/StringLatin1", name := "inflate", desc := "([BI[BII)V" } : Jvm.MethodName)) ∈ lw_all := lw_g (lw_at lw_m4 29 rfl) rfl
theorem q844 : (Jvm.Cond.methodLink "java/lang/AbstractStringBuilder" (399 : Nat) ({ cls := "java/lang/String", name := "getBytes", desc := "([BIB)V" } : Jvm.MethodName)) ∈ lw_all := lw_g (lw_at lw_m4 44 rfl) rfl
theorem q855 : (Jvm.Cond.instanceMethod ({ cls := "java/lang/AbstractStringBuilder", name := "append", desc := "(I)Ljava/lang/AbstractStringBuilder;" } : Jvm.MethodName)) ∈ lw_all := lw_g (lw_at lw_m4 55 rfl) rfl
theorem q856 : (Jvm.Cond.code ({ cls := "java/lang/AbstractStringBuilder", name := "append", desc := "(I)Ljava/lang/AbstractStringBuilder;" } : Jvm.MethodName) prog_12_method_32_code (4 : Nat) (Option.some (Jvm.ClassFile.FieldType.object "java/lang/AbstractStringBuilder"))) ∈ lw_all := lw_g (lw_at lw_m4 56 rfl) rfl
theorem q857 : (Jvm.Cond.methodLink "java/lang/AbstractStringBuilder" (245 : Nat) ({ cls := "java/lang/Integer", name := "stringSize", desc := "(I)I" } : Jvm.MethodName)) ∈ lw_all := lw_g (lw_at lw_m4 57 rfl) rfl
theorem q860 : (Jvm.Cond.methodLink "java/lang/AbstractStringBuilder" (248 : Nat) ({ cls := "java/lang/Integer", name := "getChars", desc := "(II[B)I" } : Jvm.MethodName)) ∈ lw_all := lw_g (lw_at lw_m4 60 rfl) rfl
theorem q867 : (Jvm.Cond.methodLink "java/lang/AbstractStringBuilder" (251 : Nat) ({ cls := "java/lang/StringUTF16", name := "getChars", desc := "(III[B)I" } : Jvm.MethodName)) ∈ lw_all := lw_g (lw_at lw_m4 67 rfl) rfl
theorem q889 : (Jvm.Cond.instanceMethod ({ cls := "java/lang/AbstractStringBuilder", name := "getValue", desc := "()[B" } : Jvm.MethodName)) ∈ lw_all := lw_g (lw_at lw_m4 89 rfl) rfl
theorem q890 : (Jvm.Cond.sameMethod "java/lang/AbstractStringBuilder" "java/lang/AbstractStringBuilder" "getValue" "()[B") ∈ lw_all := lw_g (lw_at lw_m4 90 rfl) rfl
theorem q892 : (Jvm.Cond.code ({ cls := "java/lang/AbstractStringBuilder", name := "getValue", desc := "()[B" } : Jvm.MethodName) prog_12_method_64_code (1 : Nat) (Option.some (Jvm.ClassFile.FieldType.array Jvm.ClassFile.FieldType.byte))) ∈ lw_all := lw_g (lw_at lw_m4 92 rfl) rfl
theorem q894 : (Jvm.Cond.instanceMethod ({ cls := "java/lang/AbstractStringBuilder", name := "length", desc := "()I" } : Jvm.MethodName)) ∈ lw_all := lw_g (lw_at lw_m4 94 rfl) rfl
theorem q895 : (Jvm.Cond.sameMethod "java/lang/AbstractStringBuilder" "java/lang/AbstractStringBuilder" "length" "()I") ∈ lw_all := lw_g (lw_at lw_m4 95 rfl) rfl
theorem q900 : (Jvm.Cond.code ({ cls := "java/lang/AbstractStringBuilder", name := "length", desc := "()I" } : Jvm.MethodName) prog_12_method_6_code (1 : Nat) (Option.some Jvm.ClassFile.FieldType.int)) ∈ lw_all := lw_g (lw_at lw_m4 100 rfl) rfl
theorem q1226 : (Jvm.Cond.instanceMethod ({ cls := "java/lang/AbstractStringBuilder", name := "compareTo", desc := "(Ljava/lang/AbstractStringBuilder;)I" } : Jvm.MethodName)) ∈ lw_all := lw_g (lw_at lw_m5 186 rfl) rfl
theorem q1227 : (Jvm.Cond.code ({ cls := "java/lang/AbstractStringBuilder", name := "compareTo", desc := "(Ljava/lang/AbstractStringBuilder;)I" } : Jvm.MethodName) prog_12_method_5_code (6 : Nat) (Option.some Jvm.ClassFile.FieldType.int)) ∈ lw_all := lw_g (lw_at lw_m5 187 rfl) rfl
theorem q1228 : (Jvm.Cond.methodLink "java/lang/AbstractStringBuilder" (87 : Nat) ({ cls := "java/lang/StringLatin1", name := "compareTo", desc := "([B[BII)I" } : Jvm.MethodName)) ∈ lw_all := lw_g (lw_at lw_m5 188 rfl) rfl
theorem q1229 : (Jvm.Cond.methodLink "java/lang/AbstractStringBuilder" (93 : Nat) ({ cls := "java/lang/StringUTF16", name := "compareTo", desc := "([B[BII)I" } : Jvm.MethodName)) ∈ lw_all := lw_g (lw_at lw_m5 189 rfl) rfl
theorem q1238 : (Jvm.Cond.methodLink "java/lang/AbstractStringBuilder" (94 : Nat) ({ cls := "java/lang/StringLatin1", name := "compareToUTF16", desc := "([B[BII)I" } : Jvm.MethodName)) ∈ lw_all := lw_g (lw_at lw_m5 198 rfl) rfl
theorem q1242 : (Jvm.Cond.methodLink "java/lang/AbstractStringBuilder" (97 : Nat) ({ cls := "java/lang/StringUTF16", name := "compareToLatin1", desc := "([B[BII)I" } : Jvm.MethodName)) ∈ lw_all := lw_g (lw_at lw_m5 202 rfl) rfl
theorem q1841 : (Jvm.Cond.instanceMethod ({ cls := "java/lang/AbstractStringBuilder", name := "append", desc := "(C)Ljava/lang/AbstractStringBuilder;" } : Jvm.MethodName)) ∈ lw_all := lw_g (lw_at lw_m8 81 rfl) rfl
theorem q1842 : (Jvm.Cond.code ({ cls := "java/lang/AbstractStringBuilder", name := "append", desc := "(C)Ljava/lang/AbstractStringBuilder;" } : Jvm.MethodName) prog_12_method_31_code (2 : Nat) (Option.some (Jvm.ClassFile.FieldType.object "java/lang/AbstractStringBuilder"))) ∈ lw_all := lw_g (lw_at lw_m8 82 rfl) rfl
theorem q1843 : (Jvm.Cond.methodLink "java/lang/AbstractStringBuilder" (191 : Nat) ({ cls := "java/lang/StringLatin1", name := "canEncode", desc := "(C)Z" } : Jvm.MethodName)) ∈ lw_all := lw_g (lw_at lw_m8 83 rfl) rfl
theorem q1846 : (Jvm.Cond.methodLink "java/lang/AbstractStringBuilder" (197 : Nat) ({ cls := "java/lang/StringUTF16", name := "putCharSB", desc := "([BII)V" } : Jvm.MethodName)) ∈ lw_all := lw_g (lw_at lw_m8 86 rfl) rfl
theorem q2339 : (Jvm.Cond.instanceMethod ({ cls := "java/lang/AbstractStringBuilder", name := "charAt", desc := "(I)C" } : Jvm.MethodName)) ∈ lw_all := lw_g (lw_at lw_m10 99 rfl) rfl
theorem q2340 : (Jvm.Cond.code ({ cls := "java/lang/AbstractStringBuilder", name := "charAt", desc := "(I)C" } : Jvm.MethodName) prog_12_method_14_code (5 : Nat) (Option.some Jvm.ClassFile.FieldType.char)) ∈ lw_all := lw_g (lw_at lw_m10 100 rfl) rfl
theorem q2341 : (Jvm.Cond.methodLink "java/lang/AbstractStringBuilder" (138 : Nat) ({ cls := "java/lang/Math", name := "min", desc := "(II)I" } : Jvm.MethodName)) ∈ lw_all := lw_g (lw_at lw_m10 101 rfl) rfl
theorem q2342 : (Jvm.Cond.methodLink "java/lang/AbstractStringBuilder" (144 : Nat) ({ cls := "java/lang/String", name := "checkIndex", desc := "(II)V" } : Jvm.MethodName)) ∈ lw_all := lw_g (lw_at lw_m10 102 rfl) rfl
theorem q2343 : (Jvm.Cond.methodLink "java/lang/AbstractStringBuilder" (148 : Nat) ({ cls := "java/lang/StringUTF16", name := "getChar", desc := "([BI)C" } : Jvm.MethodName)) ∈ lw_all := lw_g (lw_at lw_m10 103 rfl) rfl
theorem q2981 : (Jvm.Cond.sameMethod "java/lang/AbstractStringBuilder" "java/lang/AbstractStringBuilder" "append" "(Ljava/lang/String;)Ljava/lang/AbstractStringBuilder;") ∈ lw_all := lw_g (lw_at lw_m13 21 rfl) rfl
theorem q2982 : (Jvm.Cond.sameMethod "java/lang/AbstractStringBuilder" "java/lang/AbstractStringBuilder" "appendNull" "()Ljava/lang/AbstractStringBuilder;") ∈ lw_all := lw_g (lw_at lw_m13 22 rfl) rfl
theorem q2983 : (Jvm.Cond.sameMethod "java/lang/AbstractStringBuilder" "java/lang/AbstractStringBuilder" "ensureCapacityInternal" "(I)V") ∈ lw_all := lw_g (lw_at lw_m13 23 rfl) rfl
theorem q2984 : (Jvm.Cond.sameMethod "java/lang/AbstractStringBuilder" "java/lang/AbstractStringBuilder" "newCapacity" "(I)I") ∈ lw_all := lw_g (lw_at lw_m13 24 rfl) rfl
theorem q2985 : (Jvm.Cond.sameMethod "java/lang/AbstractStringBuilder" "java/lang/AbstractStringBuilder" "putStringAt" "(ILjava/lang/String;)V") ∈ lw_all := lw_g (lw_at lw_m13 25 rfl) rfl
theorem q2986 : (Jvm.Cond.sameMethod "java/lang/AbstractStringBuilder" "java/lang/AbstractStringBuilder" "inflateIfNeededFor" "(Ljava/lang/String;)V") ∈ lw_all := lw_g (lw_at lw_m13 26 rfl) rfl
theorem q2987 : (Jvm.Cond.sameMethod "java/lang/AbstractStringBuilder" "java/lang/AbstractStringBuilder" "inflate" "()V") ∈ lw_all := lw_g (lw_at lw_m13 27 rfl) rfl
theorem q2988 : (Jvm.Cond.sameMethod "java/lang/AbstractStringBuilder" "java/lang/AbstractStringBuilder" "append" "(I)Ljava/lang/AbstractStringBuilder;") ∈ lw_all := lw_g (lw_at lw_m13 28 rfl) rfl
theorem q2989 : (Jvm.Cond.sameMethod "java/lang/AbstractStringBuilder" "java/lang/AbstractStringBuilder" "compareTo" "(Ljava/lang/AbstractStringBuilder;)I") ∈ lw_all := lw_g (lw_at lw_m13 29 rfl) rfl
theorem q2993 : (Jvm.Cond.sameMethod "java/lang/AbstractStringBuilder" "java/lang/AbstractStringBuilder" "append" "(C)Ljava/lang/AbstractStringBuilder;") ∈ lw_all := lw_g (lw_at lw_m13 33 rfl) rfl
theorem q2994 : (Jvm.Cond.sameMethod "java/lang/AbstractStringBuilder" "java/lang/AbstractStringBuilder" "charAt" "(I)C") ∈ lw_all := lw_g (lw_at lw_m13 34 rfl) rfl

/-! java/lang/StringBuilder -/
set_option maxRecDepth 100000
def RJ7 : String := "java/lang/StringBuilder"
def TJ7 : u_T := fun k => match k with
  | 0 => ("java/lang/AbstractStringBuilder", "value", "[B", false)
  | 1 => ("java/lang/AbstractStringBuilder", "coder", "B", false)
  | 2 => ("java/lang/AbstractStringBuilder", "maybeLatin1", "Z", false)
  | _ => ("java/lang/AbstractStringBuilder", "count", "I", false)
def tyJ7 : Nat → FieldType := fun k => match k with
  | 0 => .array .byte
  | 1 => .byte
  | 2 => .boolean
  | _ => .int
abbrev wsJ70 : List Cond := u_ws RJ7 TJ7 4
theorem nmJ7 : ∀ a, a < 4 → ∀ b, b < 4 → a ≠ b → (TJ7 a).2.1 ≠ (TJ7 b).2.1 := by decide +kernel
theorem tyJ7_ok : ∀ k, k < 4 → parseFieldDescriptor (TJ7 k).2.2.1 = some (tyJ7 k) := by decide +kernel
abbrev cJ7_init : ByteArray := prog_32_method_1_code
def yJ7_init : MethodName := ⟨RJ7, "<init>", "()V"⟩
def dkwJ7_init_0 : List UInt8 := [42, 16, 16, 183, 0, 1, 177]
abbrev dktJ7_init_0 : List UInt8 := dkwJ7_init_0 ++ []
theorem dksJ7_init_0 : cJ7_init.data.toList.drop 0 = dktJ7_init_0 := by decide +kernel
theorem dJ7_init_0 : decode cJ7_init 0 = .ok (.aload_n 0, 1) := dk_42 (dk_at dksJ7_init_0 0 rfl rfl)
theorem dJ7_init_1 : decode cJ7_init 1 = .ok (.bipush 16, 2) := dk_16 16 (dk_at dksJ7_init_0 1 rfl rfl)
theorem dJ7_init_3 : decode cJ7_init 3 = .ok (.invokespecial 1, 3) := dk_183 0 1 (dk_at dksJ7_init_0 3 rfl rfl)
theorem dJ7_init_6 : decode cJ7_init 6 = .ok (.return_, 1) := dk_177 (dk_at dksJ7_init_0 6 rfl rfl)
abbrev cJ7_append : ByteArray := prog_32_method_7_code
def yJ7_append : MethodName := ⟨RJ7, "append", "(Ljava/lang/String;)Ljava/lang/StringBuilder;"⟩
def dkwJ7_append_0 : List UInt8 := [42, 43, 183, 0, 29, 87, 42, 176]
abbrev dktJ7_append_0 : List UInt8 := dkwJ7_append_0 ++ []
theorem dksJ7_append_0 : cJ7_append.data.toList.drop 0 = dktJ7_append_0 := by decide +kernel
theorem dJ7_append_0 : decode cJ7_append 0 = .ok (.aload_n 0, 1) := dk_42 (dk_at dksJ7_append_0 0 rfl rfl)
theorem dJ7_append_1 : decode cJ7_append 1 = .ok (.aload_n 1, 1) := dk_43 (dk_at dksJ7_append_0 1 rfl rfl)
theorem dJ7_append_2 : decode cJ7_append 2 = .ok (.invokespecial 29, 3) := dk_183 0 29 (dk_at dksJ7_append_0 2 rfl rfl)
theorem dJ7_append_5 : decode cJ7_append 5 = .ok (.pop, 1) := dk_87 (dk_at dksJ7_append_0 5 rfl rfl)
theorem dJ7_append_6 : decode cJ7_append 6 = .ok (.aload_n 0, 1) := dk_42 (dk_at dksJ7_append_0 6 rfl rfl)
theorem dJ7_append_7 : decode cJ7_append 7 = .ok (.areturn, 1) := dk_176 (dk_at dksJ7_append_0 7 rfl rfl)
abbrev cJ7_append_2 : ByteArray := prog_32_method_15_code
def yJ7_append_2 : MethodName := ⟨RJ7, "append", "(I)Ljava/lang/StringBuilder;"⟩
def dkwJ7_append_2_0 : List UInt8 := [42, 27, 183, 0, 53, 87, 42, 176]
abbrev dktJ7_append_2_0 : List UInt8 := dkwJ7_append_2_0 ++ []
theorem dksJ7_append_2_0 : cJ7_append_2.data.toList.drop 0 = dktJ7_append_2_0 := by decide +kernel
theorem dJ7_append_2_0 : decode cJ7_append_2 0 = .ok (.aload_n 0, 1) := dk_42 (dk_at dksJ7_append_2_0 0 rfl rfl)
theorem dJ7_append_2_1 : decode cJ7_append_2 1 = .ok (.iload_n 1, 1) := dk_27 (dk_at dksJ7_append_2_0 1 rfl rfl)
theorem dJ7_append_2_2 : decode cJ7_append_2 2 = .ok (.invokespecial 53, 3) := dk_183 0 53 (dk_at dksJ7_append_2_0 2 rfl rfl)
theorem dJ7_append_2_5 : decode cJ7_append_2 5 = .ok (.pop, 1) := dk_87 (dk_at dksJ7_append_2_0 5 rfl rfl)
theorem dJ7_append_2_6 : decode cJ7_append_2 6 = .ok (.aload_n 0, 1) := dk_42 (dk_at dksJ7_append_2_0 6 rfl rfl)
theorem dJ7_append_2_7 : decode cJ7_append_2 7 = .ok (.areturn, 1) := dk_176 (dk_at dksJ7_append_2_0 7 rfl rfl)
abbrev cJ7_toString : ByteArray := prog_32_method_42_code
def yJ7_toString : MethodName := ⟨RJ7, "toString", "()Ljava/lang/String;"⟩
def dkwJ7_toString_0 : List UInt8 := [187, 0, 18, 89, 42, 183, 0, 137, 176]
abbrev dktJ7_toString_0 : List UInt8 := dkwJ7_toString_0 ++ []
theorem dksJ7_toString_0 : cJ7_toString.data.toList.drop 0 = dktJ7_toString_0 := by decide +kernel
theorem dJ7_toString_0 : decode cJ7_toString 0 = .ok (.new 18, 3) := dk_187 0 18 (dk_at dksJ7_toString_0 0 rfl rfl)
theorem dJ7_toString_3 : decode cJ7_toString 3 = .ok (.dup, 1) := dk_89 (dk_at dksJ7_toString_0 3 rfl rfl)
theorem dJ7_toString_4 : decode cJ7_toString 4 = .ok (.aload_n 0, 1) := dk_42 (dk_at dksJ7_toString_0 4 rfl rfl)
theorem dJ7_toString_5 : decode cJ7_toString 5 = .ok (.invokespecial 137, 3) := dk_183 0 137 (dk_at dksJ7_toString_0 5 rfl rfl)
theorem dJ7_toString_8 : decode cJ7_toString 8 = .ok (.areturn, 1) := dk_176 (dk_at dksJ7_toString_0 8 rfl rfl)
abbrev cJ7_length : ByteArray := prog_32_method_93_code
def yJ7_length : MethodName := ⟨RJ7, "length", "()I"⟩
theorem dJ7_length_0 : decode cJ7_length 0 = .ok (.aload_n 0, 1) := by decide +kernel
theorem dJ7_length_1 : decode cJ7_length 1 = .ok (.invokespecial 343, 3) := by decide +kernel
theorem dJ7_length_4 : decode cJ7_length 4 = .ok (.ireturn, 1) := by decide +kernel
abbrev cJ7_append_3 : ByteArray := prog_32_method_14_code
def yJ7_append_3 : MethodName := ⟨RJ7, "append", "(C)Ljava/lang/StringBuilder;"⟩
def dkwJ7_append_3_0 : List UInt8 := [42, 27, 183, 0, 50, 87, 42, 176]
abbrev dktJ7_append_3_0 : List UInt8 := dkwJ7_append_3_0 ++ []
theorem dksJ7_append_3_0 : cJ7_append_3.data.toList.drop 0 = dktJ7_append_3_0 := by decide +kernel
theorem dJ7_append_3_0 : decode cJ7_append_3 0 = .ok (.aload_n 0, 1) := dk_42 (dk_at dksJ7_append_3_0 0 rfl rfl)
theorem dJ7_append_3_1 : decode cJ7_append_3 1 = .ok (.iload_n 1, 1) := dk_27 (dk_at dksJ7_append_3_0 1 rfl rfl)
theorem dJ7_append_3_2 : decode cJ7_append_3 2 = .ok (.invokespecial 50, 3) := dk_183 0 50 (dk_at dksJ7_append_3_0 2 rfl rfl)
theorem dJ7_append_3_5 : decode cJ7_append_3 5 = .ok (.pop, 1) := dk_87 (dk_at dksJ7_append_3_0 5 rfl rfl)
theorem dJ7_append_3_6 : decode cJ7_append_3 6 = .ok (.aload_n 0, 1) := dk_42 (dk_at dksJ7_append_3_0 6 rfl rfl)
theorem dJ7_append_3_7 : decode cJ7_append_3 7 = .ok (.areturn, 1) := dk_176 (dk_at dksJ7_append_3_0 7 rfl rfl)
abbrev cJ7_charAt : ByteArray := prog_32_method_88_code
def yJ7_charAt : MethodName := ⟨RJ7, "charAt", "(I)C"⟩
def dkwJ7_charAt_0 : List UInt8 := [42, 27, 183, 1, 73, 172]
abbrev dktJ7_charAt_0 : List UInt8 := dkwJ7_charAt_0 ++ []
theorem dksJ7_charAt_0 : cJ7_charAt.data.toList.drop 0 = dktJ7_charAt_0 := by decide +kernel
theorem dJ7_charAt_0 : decode cJ7_charAt 0 = .ok (.aload_n 0, 1) := dk_42 (dk_at dksJ7_charAt_0 0 rfl rfl)
theorem dJ7_charAt_1 : decode cJ7_charAt 1 = .ok (.iload_n 1, 1) := dk_27 (dk_at dksJ7_charAt_0 1 rfl rfl)
theorem dJ7_charAt_2 : decode cJ7_charAt 2 = .ok (.invokespecial 329, 3) := dk_183 1 73 (dk_at dksJ7_charAt_0 2 rfl rfl)
theorem dJ7_charAt_5 : decode cJ7_charAt 5 = .ok (.ireturn, 1) := dk_172 (dk_at dksJ7_charAt_0 5 rfl rfl)
theorem q90 : (Jvm.Cond.initialized "java/lang/StringBuilder") ∈ lw_all := lw_g (lw_at lw_m1 10 rfl) rfl
theorem q244 : (Jvm.Cond.instantiable "java/lang/StringBuilder" (4 : Nat)) ∈ lw_all := lw_g (lw_at lw_m1 164 rfl) rfl
theorem q246 : (Jvm.Cond.instanceMethod ({ cls := "java/lang/StringBuilder", name := "<init>", desc := "()V" } : Jvm.MethodName)) ∈ lw_all := lw_g (lw_at lw_m1 166 rfl) rfl
theorem q247 : (Jvm.Cond.code ({ cls := "java/lang/StringBuilder", name := "<init>", desc := "()V" } : Jvm.MethodName) prog_32_method_1_code (1 : Nat) (Option.none : Option Jvm.ClassFile.FieldType)) ∈ lw_all := lw_g (lw_at lw_m1 167 rfl) rfl
theorem q248 : (Jvm.Cond.methodLink "java/lang/StringBuilder" (1 : Nat) ({ cls := "java/lang/AbstractStringBuilder", name := "<init>", desc := "(I)V" } : Jvm.MethodName)) ∈ lw_all := lw_g (lw_at lw_m1 168 rfl) rfl
theorem q265 : (Jvm.Cond.lays "java/lang/StringBuilder" "java/lang/AbstractStringBuilder" "value" "[B") ∈ lw_all := lw_g (lw_at lw_m1 185 rfl) rfl
theorem q267 : (Jvm.Cond.lays "java/lang/StringBuilder" "java/lang/AbstractStringBuilder" "coder" "B") ∈ lw_all := lw_g (lw_at lw_m1 187 rfl) rfl
theorem q269 : (Jvm.Cond.lays "java/lang/StringBuilder" "java/lang/AbstractStringBuilder" "maybeLatin1" "Z") ∈ lw_all := lw_g (lw_at lw_m1 189 rfl) rfl
theorem q271 : (Jvm.Cond.lays "java/lang/StringBuilder" "java/lang/AbstractStringBuilder" "count" "I") ∈ lw_all := lw_g (lw_at lw_m1 191 rfl) rfl
theorem q273 : (Jvm.Cond.superclass "java/lang/StringBuilder" "java/lang/AbstractStringBuilder") ∈ lw_all := lw_g (lw_at lw_m1 193 rfl) rfl
theorem q550 : (Jvm.Cond.selects "java/lang/StringBuilder" ({ cls := "java/lang/Object", name := "getClass", desc := "()Ljava/lang/Class;" } : Jvm.MethodName) ({ cls := "java/lang/Object", name := "getClass", desc := "()Ljava/lang/Class;" } : Jvm.MethodName)) ∈ lw_all := lw_g (lw_at lw_m2 230 rfl) rfl
theorem q756 : (Jvm.Cond.instanceMethod ({ cls := "java/lang/StringBuilder", name := "append", desc := "(Ljava/lang/String;)Ljava/lang/StringBuilder;" } : Jvm.MethodName)) ∈ lw_all := lw_g (lw_at lw_m3 196 rfl) rfl
theorem q757 : (Jvm.Cond.selects "java/lang/StringBuilder" ({ cls := "java/lang/StringBuilder", name := "append", desc := "(Ljava/lang/String;)Ljava/lang/StringBuilder;" } : Jvm.MethodName) ({ cls := "java/lang/StringBuilder", name := "append", desc := "(Ljava/lang/String;)Ljava/lang/StringBuilder;" } : Jvm.MethodName)) ∈ lw_all := lw_g (lw_at lw_m3 197 rfl) rfl
theorem q758 : (Jvm.Cond.code ({ cls := "java/lang/StringBuilder", name := "append", desc := "(Ljava/lang/String;)Ljava/lang/StringBuilder;" } : Jvm.MethodName) prog_32_method_7_code (2 : Nat) (Option.some (Jvm.ClassFile.FieldType.object "java/lang/StringBuilder"))) ∈ lw_all := lw_g (lw_at lw_m3 198 rfl) rfl
theorem q759 : (Jvm.Cond.methodLink "java/lang/StringBuilder" (29 : Nat) ({ cls := "java/lang/AbstractStringBuilder", name := "append", desc := "(Ljava/lang/String;)Ljava/lang/AbstractStringBuilder;" } : Jvm.MethodName)) ∈ lw_all := lw_g (lw_at lw_m3 199 rfl) rfl
theorem q789 : (Jvm.Cond.selects "java/lang/StringBuilder" ({ cls := "java/lang/AbstractStringBuilder", name := "isLatin1", desc := "()Z" } : Jvm.MethodName) ({ cls := "java/lang/AbstractStringBuilder", name := "isLatin1", desc := "()Z" } : Jvm.MethodName)) ∈ lw_all := lw_g (lw_at lw_m3 229 rfl) rfl
theorem q851 : (Jvm.Cond.instanceMethod ({ cls := "java/lang/StringBuilder", name := "append", desc := "(I)Ljava/lang/StringBuilder;" } : Jvm.MethodName)) ∈ lw_all := lw_g (lw_at lw_m4 51 rfl) rfl
theorem q852 : (Jvm.Cond.selects "java/lang/StringBuilder" ({ cls := "java/lang/StringBuilder", name := "append", desc := "(I)Ljava/lang/StringBuilder;" } : Jvm.MethodName) ({ cls := "java/lang/StringBuilder", name := "append", desc := "(I)Ljava/lang/StringBuilder;" } : Jvm.MethodName)) ∈ lw_all := lw_g (lw_at lw_m4 52 rfl) rfl
theorem q853 : (Jvm.Cond.code ({ cls := "java/lang/StringBuilder", name := "append", desc := "(I)Ljava/lang/StringBuilder;" } : Jvm.MethodName) prog_32_method_15_code (2 : Nat) (Option.some (Jvm.ClassFile.FieldType.object "java/lang/StringBuilder"))) ∈ lw_all := lw_g (lw_at lw_m4 53 rfl) rfl
theorem q854 : (Jvm.Cond.methodLink "java/lang/StringBuilder" (53 : Nat) ({ cls := "java/lang/AbstractStringBuilder", name := "append", desc := "(I)Ljava/lang/AbstractStringBuilder;" } : Jvm.MethodName)) ∈ lw_all := lw_g (lw_at lw_m4 54 rfl) rfl
theorem q876 : (Jvm.Cond.instanceMethod ({ cls := "java/lang/StringBuilder", name := "toString", desc := "()Ljava/lang/String;" } : Jvm.MethodName)) ∈ lw_all := lw_g (lw_at lw_m4 76 rfl) rfl
theorem q877 : (Jvm.Cond.selects "java/lang/StringBuilder" ({ cls := "java/lang/StringBuilder", name := "toString", desc := "()Ljava/lang/String;" } : Jvm.MethodName) ({ cls := "java/lang/StringBuilder", name := "toString", desc := "()Ljava/lang/String;" } : Jvm.MethodName)) ∈ lw_all := lw_g (lw_at lw_m4 77 rfl) rfl
theorem q878 : (Jvm.Cond.code ({ cls := "java/lang/StringBuilder", name := "toString", desc := "()Ljava/lang/String;" } : Jvm.MethodName) prog_32_method_42_code (1 : Nat) (Option.some (Jvm.ClassFile.FieldType.object "java/lang/String"))) ∈ lw_all := lw_g (lw_at lw_m4 78 rfl) rfl
theorem q879 : (Jvm.Cond.classLink "java/lang/StringBuilder" (18 : Nat) "java/lang/String") ∈ lw_all := lw_g (lw_at lw_m4 79 rfl) rfl
theorem q881 : (Jvm.Cond.methodLink "java/lang/StringBuilder" (137 : Nat) ({ cls := "java/lang/String", name := "<init>", desc := "(Ljava/lang/StringBuilder;)V" } : Jvm.MethodName)) ∈ lw_all := lw_g (lw_at lw_m4 81 rfl) rfl
theorem q891 : (Jvm.Cond.selects "java/lang/StringBuilder" ({ cls := "java/lang/AbstractStringBuilder", name := "getValue", desc := "()[B" } : Jvm.MethodName) ({ cls := "java/lang/AbstractStringBuilder", name := "getValue", desc := "()[B" } : Jvm.MethodName)) ∈ lw_all := lw_g (lw_at lw_m4 91 rfl) rfl
theorem q896 : (Jvm.Cond.selects "java/lang/StringBuilder" ({ cls := "java/lang/AbstractStringBuilder", name := "length", desc := "()I" } : Jvm.MethodName) ({ cls := "java/lang/StringBuilder", name := "length", desc := "()I" } : Jvm.MethodName)) ∈ lw_all := lw_g (lw_at lw_m4 96 rfl) rfl
theorem q897 : (Jvm.Cond.instanceMethod ({ cls := "java/lang/StringBuilder", name := "length", desc := "()I" } : Jvm.MethodName)) ∈ lw_all := lw_g (lw_at lw_m4 97 rfl) rfl
theorem q898 : (Jvm.Cond.code ({ cls := "java/lang/StringBuilder", name := "length", desc := "()I" } : Jvm.MethodName) prog_32_method_93_code (1 : Nat) (Option.some Jvm.ClassFile.FieldType.int)) ∈ lw_all := lw_g (lw_at lw_m4 98 rfl) rfl
theorem q899 : (Jvm.Cond.methodLink "java/lang/StringBuilder" (343 : Nat) ({ cls := "java/lang/AbstractStringBuilder", name := "length", desc := "()I" } : Jvm.MethodName)) ∈ lw_all := lw_g (lw_at lw_m4 99 rfl) rfl
theorem q961 : (Jvm.Cond.selects "java/lang/StringBuilder" ({ cls := "java/lang/Object", name := "hashCode", desc := "()I" } : Jvm.MethodName) ({ cls := "java/lang/Object", name := "hashCode", desc := "()I" } : Jvm.MethodName)) ∈ lw_all := lw_g (lw_at lw_m4 161 rfl) rfl
theorem q1214 : (Jvm.Cond.castable "java/lang/StringBuilder" "java/lang/Comparable") ∈ lw_tbl := lw_at lw_m5 174 rfl
theorem q1215 : (Jvm.Cond.selects "java/lang/StringBuilder" ({ cls := "java/lang/Comparable", name := "compareTo", desc := "(Ljava/lang/Object;)I" } : Jvm.MethodName) ({ cls := "java/lang/StringBuilder", name := "compareTo", desc := "(Ljava/lang/Object;)I" } : Jvm.MethodName)) ∈ lw_all := lw_g (lw_at lw_m5 175 rfl) rfl
theorem q1216 : (Jvm.Cond.unhidden "java/lang/StringBuilder" "compareTo" "(Ljava/lang/Object;)I") ∈ lw_tbl := lw_at lw_m5 176 rfl
theorem q1217 : (Jvm.Cond.instanceMethod ({ cls := "java/lang/StringBuilder", name := "compareTo", desc := "(Ljava/lang/Object;)I" } : Jvm.MethodName)) ∈ lw_all := lw_g (lw_at lw_m5 177 rfl) rfl
theorem q1218 : (Jvm.Cond.publicMethod ({ cls := "java/lang/StringBuilder", name := "compareTo", desc := "(Ljava/lang/Object;)I" } : Jvm.MethodName)) ∈ lw_tbl := lw_at lw_m5 178 rfl
theorem q1219 : (Jvm.Cond.code ({ cls := "java/lang/StringBuilder", name := "compareTo", desc := "(Ljava/lang/Object;)I" } : Jvm.MethodName) prog_32_method_97_code (2 : Nat) (Option.some Jvm.ClassFile.FieldType.int)) ∈ lw_all := lw_g (lw_at lw_m5 179 rfl) rfl
theorem q1220 : (Jvm.Cond.classLink "java/lang/StringBuilder" (24 : Nat) "java/lang/StringBuilder") ∈ lw_all := lw_g (lw_at lw_m5 180 rfl) rfl
theorem q1221 : (Jvm.Cond.methodLink "java/lang/StringBuilder" (346 : Nat) ({ cls := "java/lang/StringBuilder", name := "compareTo", desc := "(Ljava/lang/StringBuilder;)I" } : Jvm.MethodName)) ∈ lw_all := lw_g (lw_at lw_m5 181 rfl) rfl
theorem q1222 : (Jvm.Cond.instanceMethod ({ cls := "java/lang/StringBuilder", name := "compareTo", desc := "(Ljava/lang/StringBuilder;)I" } : Jvm.MethodName)) ∈ lw_all := lw_g (lw_at lw_m5 182 rfl) rfl
theorem q1223 : (Jvm.Cond.selects "java/lang/StringBuilder" ({ cls := "java/lang/StringBuilder", name := "compareTo", desc := "(Ljava/lang/StringBuilder;)I" } : Jvm.MethodName) ({ cls := "java/lang/StringBuilder", name := "compareTo", desc := "(Ljava/lang/StringBuilder;)I" } : Jvm.MethodName)) ∈ lw_all := lw_g (lw_at lw_m5 183 rfl) rfl
theorem q1224 : (Jvm.Cond.code ({ cls := "java/lang/StringBuilder", name := "compareTo", desc := "(Ljava/lang/StringBuilder;)I" } : Jvm.MethodName) prog_32_method_5_code (2 : Nat) (Option.some Jvm.ClassFile.FieldType.int)) ∈ lw_all := lw_g (lw_at lw_m5 184 rfl) rfl
theorem q1225 : (Jvm.Cond.methodLink "java/lang/StringBuilder" (13 : Nat) ({ cls := "java/lang/AbstractStringBuilder", name := "compareTo", desc := "(Ljava/lang/AbstractStringBuilder;)I" } : Jvm.MethodName)) ∈ lw_all := lw_g (lw_at lw_m5 185 rfl) rfl
theorem q1305 : (Jvm.Cond.selects "java/lang/StringBuilder" ({ cls := "java/lang/Object", name := "equals", desc := "(Ljava/lang/Object;)Z" } : Jvm.MethodName) ({ cls := "java/lang/Object", name := "equals", desc := "(Ljava/lang/Object;)Z" } : Jvm.MethodName)) ∈ lw_all := lw_g (lw_at lw_m6 25 rfl) rfl
theorem q1837 : (Jvm.Cond.instanceMethod ({ cls := "java/lang/StringBuilder", name := "append", desc := "(C)Ljava/lang/StringBuilder;" } : Jvm.MethodName)) ∈ lw_all := lw_g (lw_at lw_m8 77 rfl) rfl
theorem q1838 : (Jvm.Cond.selects "java/lang/StringBuilder" ({ cls := "java/lang/StringBuilder", name := "append", desc := "(C)Ljava/lang/StringBuilder;" } : Jvm.MethodName) ({ cls := "java/lang/StringBuilder", name := "append", desc := "(C)Ljava/lang/StringBuilder;" } : Jvm.MethodName)) ∈ lw_all := lw_g (lw_at lw_m8 78 rfl) rfl
theorem q1839 : (Jvm.Cond.code ({ cls := "java/lang/StringBuilder", name := "append", desc := "(C)Ljava/lang/StringBuilder;" } : Jvm.MethodName) prog_32_method_14_code (2 : Nat) (Option.some (Jvm.ClassFile.FieldType.object "java/lang/StringBuilder"))) ∈ lw_all := lw_g (lw_at lw_m8 79 rfl) rfl
theorem q1840 : (Jvm.Cond.methodLink "java/lang/StringBuilder" (50 : Nat) ({ cls := "java/lang/AbstractStringBuilder", name := "append", desc := "(C)Ljava/lang/AbstractStringBuilder;" } : Jvm.MethodName)) ∈ lw_all := lw_g (lw_at lw_m8 80 rfl) rfl
theorem q2322 : (Jvm.Cond.castable "java/lang/StringBuilder" "java/lang/CharSequence") ∈ lw_tbl := lw_at lw_m10 82 rfl
theorem q2323 : (Jvm.Cond.selects "java/lang/StringBuilder" ({ cls := "java/lang/CharSequence", name := "length", desc := "()I" } : Jvm.MethodName) ({ cls := "java/lang/StringBuilder", name := "length", desc := "()I" } : Jvm.MethodName)) ∈ lw_all := lw_g (lw_at lw_m10 83 rfl) rfl
theorem q2324 : (Jvm.Cond.unhidden "java/lang/StringBuilder" "length" "()I") ∈ lw_tbl := lw_at lw_m10 84 rfl
theorem q2325 : (Jvm.Cond.publicMethod ({ cls := "java/lang/StringBuilder", name := "length", desc := "()I" } : Jvm.MethodName)) ∈ lw_tbl := lw_at lw_m10 85 rfl
theorem q2333 : (Jvm.Cond.selects "java/lang/StringBuilder" ({ cls := "java/lang/CharSequence", name := "charAt", desc := "(I)C" } : Jvm.MethodName) ({ cls := "java/lang/StringBuilder", name := "charAt", desc := "(I)C" } : Jvm.MethodName)) ∈ lw_all := lw_g (lw_at lw_m10 93 rfl) rfl
theorem q2334 : (Jvm.Cond.unhidden "java/lang/StringBuilder" "charAt" "(I)C") ∈ lw_tbl := lw_at lw_m10 94 rfl
theorem q2335 : (Jvm.Cond.instanceMethod ({ cls := "java/lang/StringBuilder", name := "charAt", desc := "(I)C" } : Jvm.MethodName)) ∈ lw_all := lw_g (lw_at lw_m10 95 rfl) rfl
theorem q2336 : (Jvm.Cond.publicMethod ({ cls := "java/lang/StringBuilder", name := "charAt", desc := "(I)C" } : Jvm.MethodName)) ∈ lw_tbl := lw_at lw_m10 96 rfl
theorem q2337 : (Jvm.Cond.code ({ cls := "java/lang/StringBuilder", name := "charAt", desc := "(I)C" } : Jvm.MethodName) prog_32_method_88_code (2 : Nat) (Option.some Jvm.ClassFile.FieldType.char)) ∈ lw_all := lw_g (lw_at lw_m10 97 rfl) rfl
theorem q2338 : (Jvm.Cond.methodLink "java/lang/StringBuilder" (329 : Nat) ({ cls := "java/lang/AbstractStringBuilder", name := "charAt", desc := "(I)C" } : Jvm.MethodName)) ∈ lw_all := lw_g (lw_at lw_m10 98 rfl) rfl
theorem q2992 : (Jvm.Cond.selects "java/lang/StringBuilder" ({ cls := "java/lang/StringBuilder", name := "length", desc := "()I" } : Jvm.MethodName) ({ cls := "java/lang/StringBuilder", name := "length", desc := "()I" } : Jvm.MethodName)) ∈ lw_all := lw_g (lw_at lw_m13 32 rfl) rfl
theorem q3005 : (Jvm.Cond.castable "java/lang/StringBuilder" "java/lang/Object") ∈ lw_tbl := lw_at lw_m13 45 rfl
theorem in_J7 : ∀ w ∈ wsJ70, w ∈ lw_all := lw_in wsJ70 [265, 267, 269, 271] (by decide +kernel) (by decide +kernel)

/-! java/lang/String -/
set_option maxRecDepth 100000
def RJ8 : String := "java/lang/String"
def TJ8 : u_T := fun k => match k with
  | 0 => ("java/lang/String", "value", "[B", true)
  | 1 => ("java/lang/String", "coder", "B", true)
  | 2 => ("java/lang/String", "hash", "I", false)
  | _ => ("java/lang/String", "hashIsZero", "Z", false)
def tyJ8 : Nat → FieldType := fun k => match k with
  | 0 => .array .byte
  | 1 => .byte
  | 2 => .int
  | _ => .boolean
abbrev wsJ80 : List Cond := u_ws RJ8 TJ8 4
theorem nmJ8 : ∀ a, a < 4 → ∀ b, b < 4 → a ≠ b → (TJ8 a).2.1 ≠ (TJ8 b).2.1 := by decide +kernel
theorem tyJ8_ok : ∀ k, k < 4 → parseFieldDescriptor (TJ8 k).2.2.1 = some (tyJ8 k) := by decide +kernel
abbrev cJ8_hashCode : ByteArray := prog_31_method_78_code
def yJ8_hashCode : MethodName := ⟨RJ8, "hashCode", "()I"⟩
def dkwJ8_hashCode_2 : List UInt8 := [181, 0, 23, 167, 0, 8, 42, 27, 181, 0, 19, 27, 172]
abbrev dktJ8_hashCode_2 : List UInt8 := dkwJ8_hashCode_2 ++ []
def dkwJ8_hashCode_1 : List UInt8 := [180, 0, 9, 184, 2, 116, 167, 0, 10, 42, 180, 0, 9, 184, 2, 120, 60, 27, 154, 0, 11, 42, 4]
abbrev dktJ8_hashCode_1 : List UInt8 := dkwJ8_hashCode_1 ++ dktJ8_hashCode_2
def dkwJ8_hashCode_0 : List UInt8 := [42, 180, 0, 19, 60, 27, 154, 0, 52, 42, 180, 0, 23, 154, 0, 45, 42, 182, 1, 236, 153, 0, 13, 42]
abbrev dktJ8_hashCode_0 : List UInt8 := dkwJ8_hashCode_0 ++ dktJ8_hashCode_1
theorem dksJ8_hashCode_0 : cJ8_hashCode.data.toList.drop 0 = dktJ8_hashCode_0 := by decide +kernel
theorem dksJ8_hashCode_1 : cJ8_hashCode.data.toList.drop 24 = dktJ8_hashCode_1 := dk_seg dksJ8_hashCode_0 24 rfl rfl
theorem dksJ8_hashCode_2 : cJ8_hashCode.data.toList.drop 47 = dktJ8_hashCode_2 := dk_seg dksJ8_hashCode_1 23 rfl rfl
theorem dJ8_hashCode_0 : decode cJ8_hashCode 0 = .ok (.aload_n 0, 1) := dk_42 (dk_at dksJ8_hashCode_0 0 rfl rfl)
theorem dJ8_hashCode_1 : decode cJ8_hashCode 1 = .ok (.getfield 19, 3) := dk_180 0 19 (dk_at dksJ8_hashCode_0 1 rfl rfl)
theorem dJ8_hashCode_4 : decode cJ8_hashCode 4 = .ok (.istore_n 1, 1) := dk_60 (dk_at dksJ8_hashCode_0 4 rfl rfl)
theorem dJ8_hashCode_5 : decode cJ8_hashCode 5 = .ok (.iload_n 1, 1) := dk_27 (dk_at dksJ8_hashCode_0 5 rfl rfl)
theorem dJ8_hashCode_6 : decode cJ8_hashCode 6 = .ok (.ifCond .ne 52, 3) := dk_154 0 52 (dk_at dksJ8_hashCode_0 6 rfl rfl)
theorem dJ8_hashCode_9 : decode cJ8_hashCode 9 = .ok (.aload_n 0, 1) := dk_42 (dk_at dksJ8_hashCode_0 9 rfl rfl)
theorem dJ8_hashCode_10 : decode cJ8_hashCode 10 = .ok (.getfield 23, 3) := dk_180 0 23 (dk_at dksJ8_hashCode_0 10 rfl rfl)
theorem dJ8_hashCode_13 : decode cJ8_hashCode 13 = .ok (.ifCond .ne 45, 3) := dk_154 0 45 (dk_at dksJ8_hashCode_0 13 rfl rfl)
theorem dJ8_hashCode_16 : decode cJ8_hashCode 16 = .ok (.aload_n 0, 1) := dk_42 (dk_at dksJ8_hashCode_0 16 rfl rfl)
theorem dJ8_hashCode_17 : decode cJ8_hashCode 17 = .ok (.invokevirtual 492, 3) := dk_182 1 236 (dk_at dksJ8_hashCode_0 17 rfl rfl)
theorem dJ8_hashCode_20 : decode cJ8_hashCode 20 = .ok (.ifCond .eq 13, 3) := dk_153 0 13 (dk_at dksJ8_hashCode_0 20 rfl rfl)
theorem dJ8_hashCode_23 : decode cJ8_hashCode 23 = .ok (.aload_n 0, 1) := dk_42 (dk_at dksJ8_hashCode_0 23 rfl rfl)
theorem dJ8_hashCode_24 : decode cJ8_hashCode 24 = .ok (.getfield 9, 3) := dk_180 0 9 (dk_at dksJ8_hashCode_1 0 rfl rfl)
theorem dJ8_hashCode_27 : decode cJ8_hashCode 27 = .ok (.invokestatic 628, 3) := dk_184 2 116 (dk_at dksJ8_hashCode_1 3 rfl rfl)
theorem dJ8_hashCode_30 : decode cJ8_hashCode 30 = .ok (.goto 10, 3) := dk_167 0 10 (dk_at dksJ8_hashCode_1 6 rfl rfl)
theorem dJ8_hashCode_33 : decode cJ8_hashCode 33 = .ok (.aload_n 0, 1) := dk_42 (dk_at dksJ8_hashCode_1 9 rfl rfl)
theorem dJ8_hashCode_34 : decode cJ8_hashCode 34 = .ok (.getfield 9, 3) := dk_180 0 9 (dk_at dksJ8_hashCode_1 10 rfl rfl)
theorem dJ8_hashCode_37 : decode cJ8_hashCode 37 = .ok (.invokestatic 632, 3) := dk_184 2 120 (dk_at dksJ8_hashCode_1 13 rfl rfl)
theorem dJ8_hashCode_40 : decode cJ8_hashCode 40 = .ok (.istore_n 1, 1) := dk_60 (dk_at dksJ8_hashCode_1 16 rfl rfl)
theorem dJ8_hashCode_41 : decode cJ8_hashCode 41 = .ok (.iload_n 1, 1) := dk_27 (dk_at dksJ8_hashCode_1 17 rfl rfl)
theorem dJ8_hashCode_42 : decode cJ8_hashCode 42 = .ok (.ifCond .ne 11, 3) := dk_154 0 11 (dk_at dksJ8_hashCode_1 18 rfl rfl)
theorem dJ8_hashCode_45 : decode cJ8_hashCode 45 = .ok (.aload_n 0, 1) := dk_42 (dk_at dksJ8_hashCode_1 21 rfl rfl)
theorem dJ8_hashCode_46 : decode cJ8_hashCode 46 = .ok (.iconst 1, 1) := dk_4 (dk_at dksJ8_hashCode_1 22 rfl rfl)
theorem dJ8_hashCode_47 : decode cJ8_hashCode 47 = .ok (.putfield 23, 3) := dk_181 0 23 (dk_at dksJ8_hashCode_2 0 rfl rfl)
theorem dJ8_hashCode_50 : decode cJ8_hashCode 50 = .ok (.goto 8, 3) := dk_167 0 8 (dk_at dksJ8_hashCode_2 3 rfl rfl)
theorem dJ8_hashCode_53 : decode cJ8_hashCode 53 = .ok (.aload_n 0, 1) := dk_42 (dk_at dksJ8_hashCode_2 6 rfl rfl)
theorem dJ8_hashCode_54 : decode cJ8_hashCode 54 = .ok (.iload_n 1, 1) := dk_27 (dk_at dksJ8_hashCode_2 7 rfl rfl)
theorem dJ8_hashCode_55 : decode cJ8_hashCode 55 = .ok (.putfield 19, 3) := dk_181 0 19 (dk_at dksJ8_hashCode_2 8 rfl rfl)
theorem dJ8_hashCode_58 : decode cJ8_hashCode 58 = .ok (.iload_n 1, 1) := dk_27 (dk_at dksJ8_hashCode_2 11 rfl rfl)
theorem dJ8_hashCode_59 : decode cJ8_hashCode 59 = .ok (.ireturn, 1) := dk_172 (dk_at dksJ8_hashCode_2 12 rfl rfl)
abbrev cJ8_isLatin1 : ByteArray := prog_31_method_154_code
def yJ8_isLatin1 : MethodName := ⟨RJ8, "isLatin1", "()Z"⟩
def dkwJ8_isLatin1_0 : List UInt8 := [178, 0, 38, 153, 0, 14, 42, 180, 0, 15, 154, 0, 7, 4, 167, 0, 4, 3, 172]
abbrev dktJ8_isLatin1_0 : List UInt8 := dkwJ8_isLatin1_0 ++ []
theorem dksJ8_isLatin1_0 : cJ8_isLatin1.data.toList.drop 0 = dktJ8_isLatin1_0 := by decide +kernel
theorem dJ8_isLatin1_0 : decode cJ8_isLatin1 0 = .ok (.getstatic 38, 3) := dk_178 0 38 (dk_at dksJ8_isLatin1_0 0 rfl rfl)
theorem dJ8_isLatin1_3 : decode cJ8_isLatin1 3 = .ok (.ifCond .eq 14, 3) := dk_153 0 14 (dk_at dksJ8_isLatin1_0 3 rfl rfl)
theorem dJ8_isLatin1_6 : decode cJ8_isLatin1 6 = .ok (.aload_n 0, 1) := dk_42 (dk_at dksJ8_isLatin1_0 6 rfl rfl)
theorem dJ8_isLatin1_7 : decode cJ8_isLatin1 7 = .ok (.getfield 15, 3) := dk_180 0 15 (dk_at dksJ8_isLatin1_0 7 rfl rfl)
theorem dJ8_isLatin1_10 : decode cJ8_isLatin1 10 = .ok (.ifCond .ne 7, 3) := dk_154 0 7 (dk_at dksJ8_isLatin1_0 10 rfl rfl)
theorem dJ8_isLatin1_13 : decode cJ8_isLatin1 13 = .ok (.iconst 1, 1) := dk_4 (dk_at dksJ8_isLatin1_0 13 rfl rfl)
theorem dJ8_isLatin1_14 : decode cJ8_isLatin1 14 = .ok (.goto 4, 3) := dk_167 0 4 (dk_at dksJ8_isLatin1_0 14 rfl rfl)
theorem dJ8_isLatin1_17 : decode cJ8_isLatin1 17 = .ok (.iconst 0, 1) := dk_3 (dk_at dksJ8_isLatin1_0 17 rfl rfl)
theorem dJ8_isLatin1_18 : decode cJ8_isLatin1 18 = .ok (.ireturn, 1) := dk_172 (dk_at dksJ8_isLatin1_0 18 rfl rfl)
abbrev cJ8_checkBoundsBeginEnd : ByteArray := prog_31_method_158_code
def yJ8_checkBoundsBeginEnd : MethodName := ⟨RJ8, "checkBoundsBeginEnd", "(III)V"⟩
def dkwJ8_checkBoundsBeginEnd_0 : List UInt8 := [26, 27, 28, 178, 4, 29, 184, 4, 38, 87, 177]
abbrev dktJ8_checkBoundsBeginEnd_0 : List UInt8 := dkwJ8_checkBoundsBeginEnd_0 ++ []
theorem dksJ8_checkBoundsBeginEnd_0 : cJ8_checkBoundsBeginEnd.data.toList.drop 0 = dktJ8_checkBoundsBeginEnd_0 := by decide +kernel
theorem dJ8_checkBoundsBeginEnd_0 : decode cJ8_checkBoundsBeginEnd 0 = .ok (.iload_n 0, 1) := dk_26 (dk_at dksJ8_checkBoundsBeginEnd_0 0 rfl rfl)
theorem dJ8_checkBoundsBeginEnd_1 : decode cJ8_checkBoundsBeginEnd 1 = .ok (.iload_n 1, 1) := dk_27 (dk_at dksJ8_checkBoundsBeginEnd_0 1 rfl rfl)
theorem dJ8_checkBoundsBeginEnd_2 : decode cJ8_checkBoundsBeginEnd 2 = .ok (.iload_n 2, 1) := dk_28 (dk_at dksJ8_checkBoundsBeginEnd_0 2 rfl rfl)
theorem dJ8_checkBoundsBeginEnd_3 : decode cJ8_checkBoundsBeginEnd 3 = .ok (.getstatic 1053, 3) := dk_178 4 29 (dk_at dksJ8_checkBoundsBeginEnd_0 3 rfl rfl)
theorem dJ8_checkBoundsBeginEnd_6 : decode cJ8_checkBoundsBeginEnd 6 = .ok (.invokestatic 1062, 3) := dk_184 4 38 (dk_at dksJ8_checkBoundsBeginEnd_0 6 rfl rfl)
theorem dJ8_checkBoundsBeginEnd_9 : decode cJ8_checkBoundsBeginEnd 9 = .ok (.pop, 1) := dk_87 (dk_at dksJ8_checkBoundsBeginEnd_0 9 rfl rfl)
theorem dJ8_checkBoundsBeginEnd_10 : decode cJ8_checkBoundsBeginEnd 10 = .ok (.return_, 1) := dk_177 (dk_at dksJ8_checkBoundsBeginEnd_0 10 rfl rfl)
abbrev cJ8_length : ByteArray := prog_31_method_54_code
def yJ8_length : MethodName := ⟨RJ8, "length", "()I"⟩
def dkwJ8_length_0 : List UInt8 := [42, 180, 0, 9, 190, 42, 182, 1, 79, 122, 172]
abbrev dktJ8_length_0 : List UInt8 := dkwJ8_length_0 ++ []
theorem dksJ8_length_0 : cJ8_length.data.toList.drop 0 = dktJ8_length_0 := by decide +kernel
theorem dJ8_length_0 : decode cJ8_length 0 = .ok (.aload_n 0, 1) := dk_42 (dk_at dksJ8_length_0 0 rfl rfl)
theorem dJ8_length_1 : decode cJ8_length 1 = .ok (.getfield 9, 3) := dk_180 0 9 (dk_at dksJ8_length_0 1 rfl rfl)
theorem dJ8_length_4 : decode cJ8_length 4 = .ok (.arraylength, 1) := dk_190 (dk_at dksJ8_length_0 4 rfl rfl)
theorem dJ8_length_5 : decode cJ8_length 5 = .ok (.aload_n 0, 1) := dk_42 (dk_at dksJ8_length_0 5 rfl rfl)
theorem dJ8_length_6 : decode cJ8_length 6 = .ok (.invokevirtual 335, 3) := dk_182 1 79 (dk_at dksJ8_length_0 6 rfl rfl)
theorem dJ8_length_9 : decode cJ8_length 9 = .ok (.ishr, 1) := dk_122 (dk_at dksJ8_length_0 9 rfl rfl)
theorem dJ8_length_10 : decode cJ8_length 10 = .ok (.ireturn, 1) := dk_172 (dk_at dksJ8_length_0 10 rfl rfl)
abbrev cJ8_coder : ByteArray := prog_31_method_152_code
def yJ8_coder : MethodName := ⟨RJ8, "coder", "()B"⟩
def dkwJ8_coder_0 : List UInt8 := [178, 0, 38, 153, 0, 10, 42, 180, 0, 15, 167, 0, 4, 4, 172]
abbrev dktJ8_coder_0 : List UInt8 := dkwJ8_coder_0 ++ []
theorem dksJ8_coder_0 : cJ8_coder.data.toList.drop 0 = dktJ8_coder_0 := by decide +kernel
theorem dJ8_coder_0 : decode cJ8_coder 0 = .ok (.getstatic 38, 3) := dk_178 0 38 (dk_at dksJ8_coder_0 0 rfl rfl)
theorem dJ8_coder_3 : decode cJ8_coder 3 = .ok (.ifCond .eq 10, 3) := dk_153 0 10 (dk_at dksJ8_coder_0 3 rfl rfl)
theorem dJ8_coder_6 : decode cJ8_coder 6 = .ok (.aload_n 0, 1) := dk_42 (dk_at dksJ8_coder_0 6 rfl rfl)
theorem dJ8_coder_7 : decode cJ8_coder 7 = .ok (.getfield 15, 3) := dk_180 0 15 (dk_at dksJ8_coder_0 7 rfl rfl)
theorem dJ8_coder_10 : decode cJ8_coder 10 = .ok (.goto 4, 3) := dk_167 0 4 (dk_at dksJ8_coder_0 10 rfl rfl)
theorem dJ8_coder_13 : decode cJ8_coder 13 = .ok (.iconst 1, 1) := dk_4 (dk_at dksJ8_coder_0 13 rfl rfl)
theorem dJ8_coder_14 : decode cJ8_coder 14 = .ok (.ireturn, 1) := dk_172 (dk_at dksJ8_coder_0 14 rfl rfl)
abbrev cJ8_checkBoundsOffCount : ByteArray := prog_31_method_157_code
def yJ8_checkBoundsOffCount : MethodName := ⟨RJ8, "checkBoundsOffCount", "(III)I"⟩
def dkwJ8_checkBoundsOffCount_0 : List UInt8 := [26, 27, 28, 178, 4, 29, 184, 4, 41, 172]
abbrev dktJ8_checkBoundsOffCount_0 : List UInt8 := dkwJ8_checkBoundsOffCount_0 ++ []
theorem dksJ8_checkBoundsOffCount_0 : cJ8_checkBoundsOffCount.data.toList.drop 0 = dktJ8_checkBoundsOffCount_0 := by decide +kernel
theorem dJ8_checkBoundsOffCount_0 : decode cJ8_checkBoundsOffCount 0 = .ok (.iload_n 0, 1) := dk_26 (dk_at dksJ8_checkBoundsOffCount_0 0 rfl rfl)
theorem dJ8_checkBoundsOffCount_1 : decode cJ8_checkBoundsOffCount 1 = .ok (.iload_n 1, 1) := dk_27 (dk_at dksJ8_checkBoundsOffCount_0 1 rfl rfl)
theorem dJ8_checkBoundsOffCount_2 : decode cJ8_checkBoundsOffCount 2 = .ok (.iload_n 2, 1) := dk_28 (dk_at dksJ8_checkBoundsOffCount_0 2 rfl rfl)
theorem dJ8_checkBoundsOffCount_3 : decode cJ8_checkBoundsOffCount 3 = .ok (.getstatic 1053, 3) := dk_178 4 29 (dk_at dksJ8_checkBoundsOffCount_0 3 rfl rfl)
theorem dJ8_checkBoundsOffCount_6 : decode cJ8_checkBoundsOffCount 6 = .ok (.invokestatic 1065, 3) := dk_184 4 41 (dk_at dksJ8_checkBoundsOffCount_0 6 rfl rfl)
theorem dJ8_checkBoundsOffCount_9 : decode cJ8_checkBoundsOffCount 9 = .ok (.ireturn, 1) := dk_172 (dk_at dksJ8_checkBoundsOffCount_0 9 rfl rfl)
abbrev cJ8_getBytes : ByteArray := prog_31_method_147_code
def yJ8_getBytes : MethodName := ⟨RJ8, "getBytes", "([BIB)V"⟩
def dkwJ8_getBytes_1 : List UInt8 := [184, 0, 212, 167, 0, 18, 42, 180, 0, 9, 3, 43, 28, 42, 180, 0, 9, 190, 184, 0, 106, 177]
abbrev dktJ8_getBytes_1 : List UInt8 := dkwJ8_getBytes_1 ++ []
def dkwJ8_getBytes_0 : List UInt8 := [42, 182, 1, 79, 29, 160, 0, 23, 42, 180, 0, 9, 3, 43, 28, 29, 120, 42, 180, 0, 9, 190]
abbrev dktJ8_getBytes_0 : List UInt8 := dkwJ8_getBytes_0 ++ dktJ8_getBytes_1
theorem dksJ8_getBytes_0 : cJ8_getBytes.data.toList.drop 0 = dktJ8_getBytes_0 := by decide +kernel
theorem dksJ8_getBytes_1 : cJ8_getBytes.data.toList.drop 22 = dktJ8_getBytes_1 := dk_seg dksJ8_getBytes_0 22 rfl rfl
theorem dJ8_getBytes_0 : decode cJ8_getBytes 0 = .ok (.aload_n 0, 1) := dk_42 (dk_at dksJ8_getBytes_0 0 rfl rfl)
theorem dJ8_getBytes_1 : decode cJ8_getBytes 1 = .ok (.invokevirtual 335, 3) := dk_182 1 79 (dk_at dksJ8_getBytes_0 1 rfl rfl)
theorem dJ8_getBytes_4 : decode cJ8_getBytes 4 = .ok (.iload_n 3, 1) := dk_29 (dk_at dksJ8_getBytes_0 4 rfl rfl)
theorem dJ8_getBytes_5 : decode cJ8_getBytes 5 = .ok (.if_icmp .ne 23, 3) := dk_160 0 23 (dk_at dksJ8_getBytes_0 5 rfl rfl)
theorem dJ8_getBytes_8 : decode cJ8_getBytes 8 = .ok (.aload_n 0, 1) := dk_42 (dk_at dksJ8_getBytes_0 8 rfl rfl)
theorem dJ8_getBytes_9 : decode cJ8_getBytes 9 = .ok (.getfield 9, 3) := dk_180 0 9 (dk_at dksJ8_getBytes_0 9 rfl rfl)
theorem dJ8_getBytes_12 : decode cJ8_getBytes 12 = .ok (.iconst 0, 1) := dk_3 (dk_at dksJ8_getBytes_0 12 rfl rfl)
theorem dJ8_getBytes_13 : decode cJ8_getBytes 13 = .ok (.aload_n 1, 1) := dk_43 (dk_at dksJ8_getBytes_0 13 rfl rfl)
theorem dJ8_getBytes_14 : decode cJ8_getBytes 14 = .ok (.iload_n 2, 1) := dk_28 (dk_at dksJ8_getBytes_0 14 rfl rfl)
theorem dJ8_getBytes_15 : decode cJ8_getBytes 15 = .ok (.iload_n 3, 1) := dk_29 (dk_at dksJ8_getBytes_0 15 rfl rfl)
theorem dJ8_getBytes_16 : decode cJ8_getBytes 16 = .ok (.ishl, 1) := dk_120 (dk_at dksJ8_getBytes_0 16 rfl rfl)
theorem dJ8_getBytes_17 : decode cJ8_getBytes 17 = .ok (.aload_n 0, 1) := dk_42 (dk_at dksJ8_getBytes_0 17 rfl rfl)
theorem dJ8_getBytes_18 : decode cJ8_getBytes 18 = .ok (.getfield 9, 3) := dk_180 0 9 (dk_at dksJ8_getBytes_0 18 rfl rfl)
theorem dJ8_getBytes_21 : decode cJ8_getBytes 21 = .ok (.arraylength, 1) := dk_190 (dk_at dksJ8_getBytes_0 21 rfl rfl)
theorem dJ8_getBytes_22 : decode cJ8_getBytes 22 = .ok (.invokestatic 212, 3) := dk_184 0 212 (dk_at dksJ8_getBytes_1 0 rfl rfl)
theorem dJ8_getBytes_25 : decode cJ8_getBytes 25 = .ok (.goto 18, 3) := dk_167 0 18 (dk_at dksJ8_getBytes_1 3 rfl rfl)
theorem dJ8_getBytes_28 : decode cJ8_getBytes 28 = .ok (.aload_n 0, 1) := dk_42 (dk_at dksJ8_getBytes_1 6 rfl rfl)
theorem dJ8_getBytes_29 : decode cJ8_getBytes 29 = .ok (.getfield 9, 3) := dk_180 0 9 (dk_at dksJ8_getBytes_1 7 rfl rfl)
theorem dJ8_getBytes_32 : decode cJ8_getBytes 32 = .ok (.iconst 0, 1) := dk_3 (dk_at dksJ8_getBytes_1 10 rfl rfl)
theorem dJ8_getBytes_33 : decode cJ8_getBytes 33 = .ok (.aload_n 1, 1) := dk_43 (dk_at dksJ8_getBytes_1 11 rfl rfl)
theorem dJ8_getBytes_34 : decode cJ8_getBytes 34 = .ok (.iload_n 2, 1) := dk_28 (dk_at dksJ8_getBytes_1 12 rfl rfl)
theorem dJ8_getBytes_35 : decode cJ8_getBytes 35 = .ok (.aload_n 0, 1) := dk_42 (dk_at dksJ8_getBytes_1 13 rfl rfl)
theorem dJ8_getBytes_36 : decode cJ8_getBytes 36 = .ok (.getfield 9, 3) := dk_180 0 9 (dk_at dksJ8_getBytes_1 14 rfl rfl)
theorem dJ8_getBytes_39 : decode cJ8_getBytes 39 = .ok (.arraylength, 1) := dk_190 (dk_at dksJ8_getBytes_1 17 rfl rfl)
theorem dJ8_getBytes_40 : decode cJ8_getBytes 40 = .ok (.invokestatic 106, 3) := dk_184 0 106 (dk_at dksJ8_getBytes_1 18 rfl rfl)
theorem dJ8_getBytes_43 : decode cJ8_getBytes 43 = .ok (.return_, 1) := dk_177 (dk_at dksJ8_getBytes_1 21 rfl rfl)
abbrev cJ8_init : ByteArray := prog_31_method_53_code
def yJ8_init : MethodName := ⟨RJ8, "<init>", "(Ljava/lang/StringBuilder;)V"⟩
def dkwJ8_init_0 : List UInt8 := [42, 43, 1, 183, 1, 233, 177]
abbrev dktJ8_init_0 : List UInt8 := dkwJ8_init_0 ++ []
theorem dksJ8_init_0 : cJ8_init.data.toList.drop 0 = dktJ8_init_0 := by decide +kernel
theorem dJ8_init_0 : decode cJ8_init 0 = .ok (.aload_n 0, 1) := dk_42 (dk_at dksJ8_init_0 0 rfl rfl)
theorem dJ8_init_1 : decode cJ8_init 1 = .ok (.aload_n 1, 1) := dk_43 (dk_at dksJ8_init_0 1 rfl rfl)
theorem dJ8_init_2 : decode cJ8_init 2 = .ok (.aconst_null, 1) := dk_1 (dk_at dksJ8_init_0 2 rfl rfl)
theorem dJ8_init_3 : decode cJ8_init 3 = .ok (.invokespecial 489, 3) := dk_183 1 233 (dk_at dksJ8_init_0 3 rfl rfl)
theorem dJ8_init_6 : decode cJ8_init 6 = .ok (.return_, 1) := dk_177 (dk_at dksJ8_init_0 6 rfl rfl)
abbrev cJ8_init_2 : ByteArray := prog_31_method_150_code
def yJ8_init_2 : MethodName := ⟨RJ8, "<init>", "(Ljava/lang/AbstractStringBuilder;Ljava/lang/Void;)V"⟩
def dkwJ8_init_2_4 : List UInt8 := [181, 0, 9, 177]
abbrev dktJ8_init_2_4 : List UInt8 := dkwJ8_init_2_4 ++ []
def dkwJ8_init_2_3 : List UInt8 := [184, 0, 47, 181, 0, 15, 177, 42, 4, 181, 0, 15, 42, 45, 3, 21, 4, 4, 120, 184, 0, 54]
abbrev dktJ8_init_2_3 : List UInt8 := dkwJ8_init_2_3 ++ dktJ8_init_2_4
def dkwJ8_init_2_2 : List UInt8 := [180, 4, 24, 153, 0, 28, 42, 45, 3, 21, 4, 184, 4, 27, 181, 0, 9, 42, 42, 180, 0, 9, 21, 4]
abbrev dktJ8_init_2_2 : List UInt8 := dkwJ8_init_2_2 ++ dktJ8_init_2_3
def dkwJ8_init_2_1 : List UInt8 := [181, 0, 15, 42, 45, 3, 21, 4, 184, 0, 54, 181, 0, 9, 167, 0, 59, 178, 0, 38, 153, 0, 35, 43]
abbrev dktJ8_init_2_1 : List UInt8 := dkwJ8_init_2_1 ++ dktJ8_init_2_2
def dkwJ8_init_2_0 : List UInt8 := [42, 183, 0, 1, 43, 182, 2, 40, 78, 43, 182, 2, 37, 54, 4, 43, 182, 4, 23, 153, 0, 22, 42, 3]
abbrev dktJ8_init_2_0 : List UInt8 := dkwJ8_init_2_0 ++ dktJ8_init_2_1
theorem dksJ8_init_2_0 : cJ8_init_2.data.toList.drop 0 = dktJ8_init_2_0 := by decide +kernel
theorem dksJ8_init_2_1 : cJ8_init_2.data.toList.drop 24 = dktJ8_init_2_1 := dk_seg dksJ8_init_2_0 24 rfl rfl
theorem dksJ8_init_2_2 : cJ8_init_2.data.toList.drop 48 = dktJ8_init_2_2 := dk_seg dksJ8_init_2_1 24 rfl rfl
theorem dksJ8_init_2_3 : cJ8_init_2.data.toList.drop 72 = dktJ8_init_2_3 := dk_seg dksJ8_init_2_2 24 rfl rfl
theorem dksJ8_init_2_4 : cJ8_init_2.data.toList.drop 94 = dktJ8_init_2_4 := dk_seg dksJ8_init_2_3 22 rfl rfl
theorem dJ8_init_2_0 : decode cJ8_init_2 0 = .ok (.aload_n 0, 1) := dk_42 (dk_at dksJ8_init_2_0 0 rfl rfl)
theorem dJ8_init_2_1 : decode cJ8_init_2 1 = .ok (.invokespecial 1, 3) := dk_183 0 1 (dk_at dksJ8_init_2_0 1 rfl rfl)
theorem dJ8_init_2_4 : decode cJ8_init_2 4 = .ok (.aload_n 1, 1) := dk_43 (dk_at dksJ8_init_2_0 4 rfl rfl)
theorem dJ8_init_2_5 : decode cJ8_init_2 5 = .ok (.invokevirtual 552, 3) := dk_182 2 40 (dk_at dksJ8_init_2_0 5 rfl rfl)
theorem dJ8_init_2_8 : decode cJ8_init_2 8 = .ok (.astore_n 3, 1) := dk_78 (dk_at dksJ8_init_2_0 8 rfl rfl)
theorem dJ8_init_2_9 : decode cJ8_init_2 9 = .ok (.aload_n 1, 1) := dk_43 (dk_at dksJ8_init_2_0 9 rfl rfl)
theorem dJ8_init_2_10 : decode cJ8_init_2 10 = .ok (.invokevirtual 549, 3) := dk_182 2 37 (dk_at dksJ8_init_2_0 10 rfl rfl)
theorem dJ8_init_2_13 : decode cJ8_init_2 13 = .ok (.istore 4, 2) := dk_54 4 (dk_at dksJ8_init_2_0 13 rfl rfl)
theorem dJ8_init_2_15 : decode cJ8_init_2 15 = .ok (.aload_n 1, 1) := dk_43 (dk_at dksJ8_init_2_0 15 rfl rfl)
theorem dJ8_init_2_16 : decode cJ8_init_2 16 = .ok (.invokevirtual 1047, 3) := dk_182 4 23 (dk_at dksJ8_init_2_0 16 rfl rfl)
theorem dJ8_init_2_19 : decode cJ8_init_2 19 = .ok (.ifCond .eq 22, 3) := dk_153 0 22 (dk_at dksJ8_init_2_0 19 rfl rfl)
theorem dJ8_init_2_22 : decode cJ8_init_2 22 = .ok (.aload_n 0, 1) := dk_42 (dk_at dksJ8_init_2_0 22 rfl rfl)
theorem dJ8_init_2_23 : decode cJ8_init_2 23 = .ok (.iconst 0, 1) := dk_3 (dk_at dksJ8_init_2_0 23 rfl rfl)
theorem dJ8_init_2_24 : decode cJ8_init_2 24 = .ok (.putfield 15, 3) := dk_181 0 15 (dk_at dksJ8_init_2_1 0 rfl rfl)
theorem dJ8_init_2_27 : decode cJ8_init_2 27 = .ok (.aload_n 0, 1) := dk_42 (dk_at dksJ8_init_2_1 3 rfl rfl)
theorem dJ8_init_2_28 : decode cJ8_init_2 28 = .ok (.aload_n 3, 1) := dk_45 (dk_at dksJ8_init_2_1 4 rfl rfl)
theorem dJ8_init_2_29 : decode cJ8_init_2 29 = .ok (.iconst 0, 1) := dk_3 (dk_at dksJ8_init_2_1 5 rfl rfl)
theorem dJ8_init_2_30 : decode cJ8_init_2 30 = .ok (.iload 4, 2) := dk_21 4 (dk_at dksJ8_init_2_1 6 rfl rfl)
theorem dJ8_init_2_32 : decode cJ8_init_2 32 = .ok (.invokestatic 54, 3) := dk_184 0 54 (dk_at dksJ8_init_2_1 8 rfl rfl)
theorem dJ8_init_2_35 : decode cJ8_init_2 35 = .ok (.putfield 9, 3) := dk_181 0 9 (dk_at dksJ8_init_2_1 11 rfl rfl)
theorem dJ8_init_2_38 : decode cJ8_init_2 38 = .ok (.goto 59, 3) := dk_167 0 59 (dk_at dksJ8_init_2_1 14 rfl rfl)
theorem dJ8_init_2_41 : decode cJ8_init_2 41 = .ok (.getstatic 38, 3) := dk_178 0 38 (dk_at dksJ8_init_2_1 17 rfl rfl)
theorem dJ8_init_2_44 : decode cJ8_init_2 44 = .ok (.ifCond .eq 35, 3) := dk_153 0 35 (dk_at dksJ8_init_2_1 20 rfl rfl)
theorem dJ8_init_2_47 : decode cJ8_init_2 47 = .ok (.aload_n 1, 1) := dk_43 (dk_at dksJ8_init_2_1 23 rfl rfl)
theorem dJ8_init_2_48 : decode cJ8_init_2 48 = .ok (.getfield 1048, 3) := dk_180 4 24 (dk_at dksJ8_init_2_2 0 rfl rfl)
theorem dJ8_init_2_51 : decode cJ8_init_2 51 = .ok (.ifCond .eq 28, 3) := dk_153 0 28 (dk_at dksJ8_init_2_2 3 rfl rfl)
theorem dJ8_init_2_54 : decode cJ8_init_2 54 = .ok (.aload_n 0, 1) := dk_42 (dk_at dksJ8_init_2_2 6 rfl rfl)
theorem dJ8_init_2_55 : decode cJ8_init_2 55 = .ok (.aload_n 3, 1) := dk_45 (dk_at dksJ8_init_2_2 7 rfl rfl)
theorem dJ8_init_2_56 : decode cJ8_init_2 56 = .ok (.iconst 0, 1) := dk_3 (dk_at dksJ8_init_2_2 8 rfl rfl)
theorem dJ8_init_2_57 : decode cJ8_init_2 57 = .ok (.iload 4, 2) := dk_21 4 (dk_at dksJ8_init_2_2 9 rfl rfl)
theorem dJ8_init_2_59 : decode cJ8_init_2 59 = .ok (.invokestatic 1051, 3) := dk_184 4 27 (dk_at dksJ8_init_2_2 11 rfl rfl)
theorem dJ8_init_2_62 : decode cJ8_init_2 62 = .ok (.putfield 9, 3) := dk_181 0 9 (dk_at dksJ8_init_2_2 14 rfl rfl)
theorem dJ8_init_2_65 : decode cJ8_init_2 65 = .ok (.aload_n 0, 1) := dk_42 (dk_at dksJ8_init_2_2 17 rfl rfl)
theorem dJ8_init_2_66 : decode cJ8_init_2 66 = .ok (.aload_n 0, 1) := dk_42 (dk_at dksJ8_init_2_2 18 rfl rfl)
theorem dJ8_init_2_67 : decode cJ8_init_2 67 = .ok (.getfield 9, 3) := dk_180 0 9 (dk_at dksJ8_init_2_2 19 rfl rfl)
theorem dJ8_init_2_70 : decode cJ8_init_2 70 = .ok (.iload 4, 2) := dk_21 4 (dk_at dksJ8_init_2_2 22 rfl rfl)
theorem dJ8_init_2_72 : decode cJ8_init_2 72 = .ok (.invokestatic 47, 3) := dk_184 0 47 (dk_at dksJ8_init_2_3 0 rfl rfl)
theorem dJ8_init_2_75 : decode cJ8_init_2 75 = .ok (.putfield 15, 3) := dk_181 0 15 (dk_at dksJ8_init_2_3 3 rfl rfl)
theorem dJ8_init_2_78 : decode cJ8_init_2 78 = .ok (.return_, 1) := dk_177 (dk_at dksJ8_init_2_3 6 rfl rfl)
theorem dJ8_init_2_79 : decode cJ8_init_2 79 = .ok (.aload_n 0, 1) := dk_42 (dk_at dksJ8_init_2_3 7 rfl rfl)
theorem dJ8_init_2_80 : decode cJ8_init_2 80 = .ok (.iconst 1, 1) := dk_4 (dk_at dksJ8_init_2_3 8 rfl rfl)
theorem dJ8_init_2_81 : decode cJ8_init_2 81 = .ok (.putfield 15, 3) := dk_181 0 15 (dk_at dksJ8_init_2_3 9 rfl rfl)
theorem dJ8_init_2_84 : decode cJ8_init_2 84 = .ok (.aload_n 0, 1) := dk_42 (dk_at dksJ8_init_2_3 12 rfl rfl)
theorem dJ8_init_2_85 : decode cJ8_init_2 85 = .ok (.aload_n 3, 1) := dk_45 (dk_at dksJ8_init_2_3 13 rfl rfl)
theorem dJ8_init_2_86 : decode cJ8_init_2 86 = .ok (.iconst 0, 1) := dk_3 (dk_at dksJ8_init_2_3 14 rfl rfl)
theorem dJ8_init_2_87 : decode cJ8_init_2 87 = .ok (.iload 4, 2) := dk_21 4 (dk_at dksJ8_init_2_3 15 rfl rfl)
theorem dJ8_init_2_89 : decode cJ8_init_2 89 = .ok (.iconst 1, 1) := dk_4 (dk_at dksJ8_init_2_3 17 rfl rfl)
theorem dJ8_init_2_90 : decode cJ8_init_2 90 = .ok (.ishl, 1) := dk_120 (dk_at dksJ8_init_2_3 18 rfl rfl)
theorem dJ8_init_2_91 : decode cJ8_init_2 91 = .ok (.invokestatic 54, 3) := dk_184 0 54 (dk_at dksJ8_init_2_3 19 rfl rfl)
theorem dJ8_init_2_94 : decode cJ8_init_2 94 = .ok (.putfield 9, 3) := dk_181 0 9 (dk_at dksJ8_init_2_4 0 rfl rfl)
theorem dJ8_init_2_97 : decode cJ8_init_2 97 = .ok (.return_, 1) := dk_177 (dk_at dksJ8_init_2_4 3 rfl rfl)
abbrev cJ8_checkOffset : ByteArray := prog_31_method_156_code
def yJ8_checkOffset : MethodName := ⟨RJ8, "checkOffset", "(II)V"⟩
def dkwJ8_checkOffset_0 : List UInt8 := [26, 27, 27, 178, 4, 29, 184, 4, 38, 87, 177]
abbrev dktJ8_checkOffset_0 : List UInt8 := dkwJ8_checkOffset_0 ++ []
theorem dksJ8_checkOffset_0 : cJ8_checkOffset.data.toList.drop 0 = dktJ8_checkOffset_0 := by decide +kernel
theorem dJ8_checkOffset_0 : decode cJ8_checkOffset 0 = .ok (.iload_n 0, 1) := dk_26 (dk_at dksJ8_checkOffset_0 0 rfl rfl)
theorem dJ8_checkOffset_1 : decode cJ8_checkOffset 1 = .ok (.iload_n 1, 1) := dk_27 (dk_at dksJ8_checkOffset_0 1 rfl rfl)
theorem dJ8_checkOffset_2 : decode cJ8_checkOffset 2 = .ok (.iload_n 1, 1) := dk_27 (dk_at dksJ8_checkOffset_0 2 rfl rfl)
theorem dJ8_checkOffset_3 : decode cJ8_checkOffset 3 = .ok (.getstatic 1053, 3) := dk_178 4 29 (dk_at dksJ8_checkOffset_0 3 rfl rfl)
theorem dJ8_checkOffset_6 : decode cJ8_checkOffset 6 = .ok (.invokestatic 1062, 3) := dk_184 4 38 (dk_at dksJ8_checkOffset_0 6 rfl rfl)
theorem dJ8_checkOffset_9 : decode cJ8_checkOffset 9 = .ok (.pop, 1) := dk_87 (dk_at dksJ8_checkOffset_0 9 rfl rfl)
theorem dJ8_checkOffset_10 : decode cJ8_checkOffset 10 = .ok (.return_, 1) := dk_177 (dk_at dksJ8_checkOffset_0 10 rfl rfl)
abbrev cJ8_equals : ByteArray := prog_31_method_66_code
def yJ8_equals : MethodName := ⟨RJ8, "equals", "(Ljava/lang/Object;)Z"⟩
def dkwJ8_equals_2 : List UInt8 := [184, 2, 29, 153, 0, 7, 4, 167, 0, 4, 3, 172]
abbrev dktJ8_equals_2 : List UInt8 := dkwJ8_equals_2 ++ []
def dkwJ8_equals_1 : List UInt8 := [153, 0, 14, 42, 180, 0, 15, 44, 180, 0, 15, 160, 0, 21, 42, 180, 0, 9, 44, 180, 0, 9]
abbrev dktJ8_equals_1 : List UInt8 := dkwJ8_equals_1 ++ dktJ8_equals_2
def dkwJ8_equals_0 : List UInt8 := [42, 43, 166, 0, 5, 4, 172, 43, 193, 0, 10, 153, 0, 43, 43, 192, 0, 10, 77, 178, 0, 38]
abbrev dktJ8_equals_0 : List UInt8 := dkwJ8_equals_0 ++ dktJ8_equals_1
theorem dksJ8_equals_0 : cJ8_equals.data.toList.drop 0 = dktJ8_equals_0 := by decide +kernel
theorem dksJ8_equals_1 : cJ8_equals.data.toList.drop 22 = dktJ8_equals_1 := dk_seg dksJ8_equals_0 22 rfl rfl
theorem dksJ8_equals_2 : cJ8_equals.data.toList.drop 44 = dktJ8_equals_2 := dk_seg dksJ8_equals_1 22 rfl rfl
theorem dJ8_equals_0 : decode cJ8_equals 0 = .ok (.aload_n 0, 1) := dk_42 (dk_at dksJ8_equals_0 0 rfl rfl)
theorem dJ8_equals_1 : decode cJ8_equals 1 = .ok (.aload_n 1, 1) := dk_43 (dk_at dksJ8_equals_0 1 rfl rfl)
theorem dJ8_equals_2 : decode cJ8_equals 2 = .ok (.if_acmp .ne 5, 3) := dk_166 0 5 (dk_at dksJ8_equals_0 2 rfl rfl)
theorem dJ8_equals_5 : decode cJ8_equals 5 = .ok (.iconst 1, 1) := dk_4 (dk_at dksJ8_equals_0 5 rfl rfl)
theorem dJ8_equals_6 : decode cJ8_equals 6 = .ok (.ireturn, 1) := dk_172 (dk_at dksJ8_equals_0 6 rfl rfl)
theorem dJ8_equals_7 : decode cJ8_equals 7 = .ok (.aload_n 1, 1) := dk_43 (dk_at dksJ8_equals_0 7 rfl rfl)
theorem dJ8_equals_8 : decode cJ8_equals 8 = .ok (.instanceof 10, 3) := dk_193 0 10 (dk_at dksJ8_equals_0 8 rfl rfl)
theorem dJ8_equals_11 : decode cJ8_equals 11 = .ok (.ifCond .eq 43, 3) := dk_153 0 43 (dk_at dksJ8_equals_0 11 rfl rfl)
theorem dJ8_equals_14 : decode cJ8_equals 14 = .ok (.aload_n 1, 1) := dk_43 (dk_at dksJ8_equals_0 14 rfl rfl)
theorem dJ8_equals_15 : decode cJ8_equals 15 = .ok (.checkcast 10, 3) := dk_192 0 10 (dk_at dksJ8_equals_0 15 rfl rfl)
theorem dJ8_equals_18 : decode cJ8_equals 18 = .ok (.astore_n 2, 1) := dk_77 (dk_at dksJ8_equals_0 18 rfl rfl)
theorem dJ8_equals_19 : decode cJ8_equals 19 = .ok (.getstatic 38, 3) := dk_178 0 38 (dk_at dksJ8_equals_0 19 rfl rfl)
theorem dJ8_equals_22 : decode cJ8_equals 22 = .ok (.ifCond .eq 14, 3) := dk_153 0 14 (dk_at dksJ8_equals_1 0 rfl rfl)
theorem dJ8_equals_25 : decode cJ8_equals 25 = .ok (.aload_n 0, 1) := dk_42 (dk_at dksJ8_equals_1 3 rfl rfl)
theorem dJ8_equals_26 : decode cJ8_equals 26 = .ok (.getfield 15, 3) := dk_180 0 15 (dk_at dksJ8_equals_1 4 rfl rfl)
theorem dJ8_equals_29 : decode cJ8_equals 29 = .ok (.aload_n 2, 1) := dk_44 (dk_at dksJ8_equals_1 7 rfl rfl)
theorem dJ8_equals_30 : decode cJ8_equals 30 = .ok (.getfield 15, 3) := dk_180 0 15 (dk_at dksJ8_equals_1 8 rfl rfl)
theorem dJ8_equals_33 : decode cJ8_equals 33 = .ok (.if_icmp .ne 21, 3) := dk_160 0 21 (dk_at dksJ8_equals_1 11 rfl rfl)
theorem dJ8_equals_36 : decode cJ8_equals 36 = .ok (.aload_n 0, 1) := dk_42 (dk_at dksJ8_equals_1 14 rfl rfl)
theorem dJ8_equals_37 : decode cJ8_equals 37 = .ok (.getfield 9, 3) := dk_180 0 9 (dk_at dksJ8_equals_1 15 rfl rfl)
theorem dJ8_equals_40 : decode cJ8_equals 40 = .ok (.aload_n 2, 1) := dk_44 (dk_at dksJ8_equals_1 18 rfl rfl)
theorem dJ8_equals_41 : decode cJ8_equals 41 = .ok (.getfield 9, 3) := dk_180 0 9 (dk_at dksJ8_equals_1 19 rfl rfl)
theorem dJ8_equals_44 : decode cJ8_equals 44 = .ok (.invokestatic 541, 3) := dk_184 2 29 (dk_at dksJ8_equals_2 0 rfl rfl)
theorem dJ8_equals_47 : decode cJ8_equals 47 = .ok (.ifCond .eq 7, 3) := dk_153 0 7 (dk_at dksJ8_equals_2 3 rfl rfl)
theorem dJ8_equals_50 : decode cJ8_equals 50 = .ok (.iconst 1, 1) := dk_4 (dk_at dksJ8_equals_2 6 rfl rfl)
theorem dJ8_equals_51 : decode cJ8_equals 51 = .ok (.goto 4, 3) := dk_167 0 4 (dk_at dksJ8_equals_2 7 rfl rfl)
theorem dJ8_equals_54 : decode cJ8_equals 54 = .ok (.iconst 0, 1) := dk_3 (dk_at dksJ8_equals_2 10 rfl rfl)
theorem dJ8_equals_55 : decode cJ8_equals 55 = .ok (.ireturn, 1) := dk_172 (dk_at dksJ8_equals_2 11 rfl rfl)
abbrev cJ8_checkIndex : ByteArray := prog_31_method_155_code
def yJ8_checkIndex : MethodName := ⟨RJ8, "checkIndex", "(II)V"⟩
def dkwJ8_checkIndex_0 : List UInt8 := [26, 27, 178, 4, 29, 184, 4, 35, 87, 177]
abbrev dktJ8_checkIndex_0 : List UInt8 := dkwJ8_checkIndex_0 ++ []
theorem dksJ8_checkIndex_0 : cJ8_checkIndex.data.toList.drop 0 = dktJ8_checkIndex_0 := by decide +kernel
theorem dJ8_checkIndex_0 : decode cJ8_checkIndex 0 = .ok (.iload_n 0, 1) := dk_26 (dk_at dksJ8_checkIndex_0 0 rfl rfl)
theorem dJ8_checkIndex_1 : decode cJ8_checkIndex 1 = .ok (.iload_n 1, 1) := dk_27 (dk_at dksJ8_checkIndex_0 1 rfl rfl)
theorem dJ8_checkIndex_2 : decode cJ8_checkIndex 2 = .ok (.getstatic 1053, 3) := dk_178 4 29 (dk_at dksJ8_checkIndex_0 2 rfl rfl)
theorem dJ8_checkIndex_5 : decode cJ8_checkIndex 5 = .ok (.invokestatic 1059, 3) := dk_184 4 35 (dk_at dksJ8_checkIndex_0 5 rfl rfl)
theorem dJ8_checkIndex_8 : decode cJ8_checkIndex 8 = .ok (.pop, 1) := dk_87 (dk_at dksJ8_checkIndex_0 8 rfl rfl)
theorem dJ8_checkIndex_9 : decode cJ8_checkIndex 9 = .ok (.return_, 1) := dk_177 (dk_at dksJ8_checkIndex_0 9 rfl rfl)
abbrev cJ8_charAt : ByteArray := prog_31_method_56_code
def yJ8_charAt : MethodName := ⟨RJ8, "charAt", "(I)C"⟩
def dkwJ8_charAt_1 : List UInt8 := [172]
abbrev dktJ8_charAt_1 : List UInt8 := dkwJ8_charAt_1 ++ []
def dkwJ8_charAt_0 : List UInt8 := [42, 182, 1, 236, 153, 0, 12, 42, 180, 0, 9, 27, 184, 1, 239, 172, 42, 180, 0, 9, 27, 184, 1, 242]
abbrev dktJ8_charAt_0 : List UInt8 := dkwJ8_charAt_0 ++ dktJ8_charAt_1
theorem dksJ8_charAt_0 : cJ8_charAt.data.toList.drop 0 = dktJ8_charAt_0 := by decide +kernel
theorem dksJ8_charAt_1 : cJ8_charAt.data.toList.drop 24 = dktJ8_charAt_1 := dk_seg dksJ8_charAt_0 24 rfl rfl
theorem dJ8_charAt_0 : decode cJ8_charAt 0 = .ok (.aload_n 0, 1) := dk_42 (dk_at dksJ8_charAt_0 0 rfl rfl)
theorem dJ8_charAt_1 : decode cJ8_charAt 1 = .ok (.invokevirtual 492, 3) := dk_182 1 236 (dk_at dksJ8_charAt_0 1 rfl rfl)
theorem dJ8_charAt_4 : decode cJ8_charAt 4 = .ok (.ifCond .eq 12, 3) := dk_153 0 12 (dk_at dksJ8_charAt_0 4 rfl rfl)
theorem dJ8_charAt_7 : decode cJ8_charAt 7 = .ok (.aload_n 0, 1) := dk_42 (dk_at dksJ8_charAt_0 7 rfl rfl)
theorem dJ8_charAt_8 : decode cJ8_charAt 8 = .ok (.getfield 9, 3) := dk_180 0 9 (dk_at dksJ8_charAt_0 8 rfl rfl)
theorem dJ8_charAt_11 : decode cJ8_charAt 11 = .ok (.iload_n 1, 1) := dk_27 (dk_at dksJ8_charAt_0 11 rfl rfl)
theorem dJ8_charAt_12 : decode cJ8_charAt 12 = .ok (.invokestatic 495, 3) := dk_184 1 239 (dk_at dksJ8_charAt_0 12 rfl rfl)
theorem dJ8_charAt_15 : decode cJ8_charAt 15 = .ok (.ireturn, 1) := dk_172 (dk_at dksJ8_charAt_0 15 rfl rfl)
theorem dJ8_charAt_16 : decode cJ8_charAt 16 = .ok (.aload_n 0, 1) := dk_42 (dk_at dksJ8_charAt_0 16 rfl rfl)
theorem dJ8_charAt_17 : decode cJ8_charAt 17 = .ok (.getfield 9, 3) := dk_180 0 9 (dk_at dksJ8_charAt_0 17 rfl rfl)
theorem dJ8_charAt_20 : decode cJ8_charAt 20 = .ok (.iload_n 1, 1) := dk_27 (dk_at dksJ8_charAt_0 20 rfl rfl)
theorem dJ8_charAt_21 : decode cJ8_charAt 21 = .ok (.invokestatic 498, 3) := dk_184 1 242 (dk_at dksJ8_charAt_0 21 rfl rfl)
theorem dJ8_charAt_24 : decode cJ8_charAt 24 = .ok (.ireturn, 1) := dk_172 (dk_at dksJ8_charAt_1 0 rfl rfl)
theorem q91 : (Jvm.Cond.initialized "java/lang/String") ∈ lw_all := lw_g (lw_at lw_m1 11 rfl) rfl
theorem q253 : (Jvm.Cond.laysStatic "java/lang/String" "COMPACT_STRINGS" "Z") ∈ lw_tbl := lw_at lw_m1 173 rfl
theorem q263 : (Jvm.Cond.fieldLink "java/lang/String" (1048 : Nat) "java/lang/AbstractStringBuilder" "maybeLatin1" "Z") ∈ lw_all := lw_g (lw_at lw_m1 183 rfl) rfl
theorem q549 : (Jvm.Cond.selects "java/lang/String" ({ cls := "java/lang/Object", name := "getClass", desc := "()Ljava/lang/Class;" } : Jvm.MethodName) ({ cls := "java/lang/Object", name := "getClass", desc := "()Ljava/lang/Class;" } : Jvm.MethodName)) ∈ lw_all := lw_g (lw_at lw_m2 229 rfl) rfl
theorem q683 : (Jvm.Cond.selects "java/lang/String" ({ cls := "java/lang/Object", name := "hashCode", desc := "()I" } : Jvm.MethodName) ({ cls := "java/lang/String", name := "hashCode", desc := "()I" } : Jvm.MethodName)) ∈ lw_all := lw_g (lw_at lw_m3 123 rfl) rfl
theorem q684 : (Jvm.Cond.instanceMethod ({ cls := "java/lang/String", name := "hashCode", desc := "()I" } : Jvm.MethodName)) ∈ lw_all := lw_g (lw_at lw_m3 124 rfl) rfl
theorem q685 : (Jvm.Cond.code ({ cls := "java/lang/String", name := "hashCode", desc := "()I" } : Jvm.MethodName) prog_31_method_78_code (2 : Nat) (Option.some Jvm.ClassFile.FieldType.int)) ∈ lw_all := lw_g (lw_at lw_m3 125 rfl) rfl
theorem q686 : (Jvm.Cond.methodLink "java/lang/String" (492 : Nat) ({ cls := "java/lang/String", name := "isLatin1", desc := "()Z" } : Jvm.MethodName)) ∈ lw_all := lw_g (lw_at lw_m3 126 rfl) rfl
theorem q687 : (Jvm.Cond.instanceMethod ({ cls := "java/lang/String", name := "isLatin1", desc := "()Z" } : Jvm.MethodName)) ∈ lw_all := lw_g (lw_at lw_m3 127 rfl) rfl
theorem q688 : (Jvm.Cond.selects "java/lang/String" ({ cls := "java/lang/String", name := "isLatin1", desc := "()Z" } : Jvm.MethodName) ({ cls := "java/lang/String", name := "isLatin1", desc := "()Z" } : Jvm.MethodName)) ∈ lw_all := lw_g (lw_at lw_m3 128 rfl) rfl
theorem q689 : (Jvm.Cond.code ({ cls := "java/lang/String", name := "isLatin1", desc := "()Z" } : Jvm.MethodName) prog_31_method_154_code (1 : Nat) (Option.some Jvm.ClassFile.FieldType.boolean)) ∈ lw_all := lw_g (lw_at lw_m3 129 rfl) rfl
theorem q690 : (Jvm.Cond.fieldLink "java/lang/String" (38 : Nat) "java/lang/String" "COMPACT_STRINGS" "Z") ∈ lw_all := lw_g (lw_at lw_m3 130 rfl) rfl
theorem q691 : (Jvm.Cond.methodLink "java/lang/String" (628 : Nat) ({ cls := "java/lang/StringLatin1", name := "hashCode", desc := "([B)I" } : Jvm.MethodName)) ∈ lw_all := lw_g (lw_at lw_m3 131 rfl) rfl
theorem q798 : (Jvm.Cond.static ({ cls := "java/lang/String", name := "checkBoundsBeginEnd", desc := "(III)V" } : Jvm.MethodName)) ∈ lw_all := lw_g (lw_at lw_m3 238 rfl) rfl
theorem q799 : (Jvm.Cond.code ({ cls := "java/lang/String", name := "checkBoundsBeginEnd", desc := "(III)V" } : Jvm.MethodName) prog_31_method_158_code (3 : Nat) (Option.none : Option Jvm.ClassFile.FieldType)) ∈ lw_all := lw_g (lw_at lw_m3 239 rfl) rfl
theorem q800 : (Jvm.Cond.fieldLink "java/lang/String" (1053 : Nat) "jdk/internal/util/Preconditions" "SIOOBE_FORMATTER" "Ljava/util/function/BiFunction;") ∈ lw_all := lw_g (lw_at lw_m4 0 rfl) rfl
theorem q802 : (Jvm.Cond.methodLink "java/lang/String" (1062 : Nat) ({ cls := "jdk/internal/util/Preconditions", name := "checkFromToIndex", desc := "(IIILjava/util/function/BiFunction;)I" } : Jvm.MethodName)) ∈ lw_all := lw_g (lw_at lw_m4 2 rfl) rfl
theorem q809 : (Jvm.Cond.instanceMethod ({ cls := "java/lang/String", name := "length", desc := "()I" } : Jvm.MethodName)) ∈ lw_all := lw_g (lw_at lw_m4 9 rfl) rfl
theorem q810 : (Jvm.Cond.selects "java/lang/String" ({ cls := "java/lang/String", name := "length", desc := "()I" } : Jvm.MethodName) ({ cls := "java/lang/String", name := "length", desc := "()I" } : Jvm.MethodName)) ∈ lw_all := lw_g (lw_at lw_m4 10 rfl) rfl
theorem q811 : (Jvm.Cond.code ({ cls := "java/lang/String", name := "length", desc := "()I" } : Jvm.MethodName) prog_31_method_54_code (1 : Nat) (Option.some Jvm.ClassFile.FieldType.int)) ∈ lw_all := lw_g (lw_at lw_m4 11 rfl) rfl
theorem q812 : (Jvm.Cond.methodLink "java/lang/String" (335 : Nat) ({ cls := "java/lang/String", name := "coder", desc := "()B" } : Jvm.MethodName)) ∈ lw_all := lw_g (lw_at lw_m4 12 rfl) rfl
theorem q813 : (Jvm.Cond.instanceMethod ({ cls := "java/lang/String", name := "coder", desc := "()B" } : Jvm.MethodName)) ∈ lw_all := lw_g (lw_at lw_m4 13 rfl) rfl
theorem q814 : (Jvm.Cond.selects "java/lang/String" ({ cls := "java/lang/String", name := "coder", desc := "()B" } : Jvm.MethodName) ({ cls := "java/lang/String", name := "coder", desc := "()B" } : Jvm.MethodName)) ∈ lw_all := lw_g (lw_at lw_m4 14 rfl) rfl
theorem q815 : (Jvm.Cond.code ({ cls := "java/lang/String", name := "coder", desc := "()B" } : Jvm.MethodName) prog_31_method_152_code (1 : Nat) (Option.some Jvm.ClassFile.FieldType.byte)) ∈ lw_all := lw_g (lw_at lw_m4 15 rfl) rfl
theorem q839 : (Jvm.Cond.static ({ cls := "java/lang/String", name := "checkBoundsOffCount", desc := "(III)I" } : Jvm.MethodName)) ∈ lw_all := lw_g (lw_at lw_m4 39 rfl) rfl
theorem q840 : (Jvm.Cond.code ({ cls := "java/lang/String", name := "checkBoundsOffCount", desc := "(III)I" } : Jvm.MethodName) prog_31_method_157_code (3 : Nat) (Option.some Jvm.ClassFile.FieldType.int)) ∈ lw_all := lw_g (lw_at lw_m4 40 rfl) rfl
theorem q841 : (Jvm.Cond.methodLink "java/lang/String" (1065 : Nat) ({ cls := "jdk/internal/util/Preconditions", name := "checkFromIndexSize", desc := "(IIILjava/util/function/BiFunction;)I" } : Jvm.MethodName)) ∈ lw_all := lw_g (lw_at lw_m4 41 rfl) rfl
theorem q845 : (Jvm.Cond.instanceMethod ({ cls := "java/lang/String", name := "getBytes", desc := "([BIB)V" } : Jvm.MethodName)) ∈ lw_all := lw_g (lw_at lw_m4 45 rfl) rfl
theorem q846 : (Jvm.Cond.selects "java/lang/String" ({ cls := "java/lang/String", name := "getBytes", desc := "([BIB)V" } : Jvm.MethodName) ({ cls := "java/lang/String", name := "getBytes", desc := "([BIB)V" } : Jvm.MethodName)) ∈ lw_all := lw_g (lw_at lw_m4 46 rfl) rfl
theorem q847 : (Jvm.Cond.code ({ cls := "java/lang/String", name := "getBytes", desc := "([BIB)V" } : Jvm.MethodName) prog_31_method_147_code (4 : Nat) (Option.none : Option Jvm.ClassFile.FieldType)) ∈ lw_all := lw_g (lw_at lw_m4 47 rfl) rfl
theorem q848 : (Jvm.Cond.methodLink "java/lang/String" (212 : Nat) ({ cls := "java/lang/System", name := "arraycopy", desc := "(Ljava/lang/Object;ILjava/lang/Object;II)V" } : Jvm.MethodName)) ∈ lw_all := lw_g (lw_at lw_m4 48 rfl) rfl
theorem q849 : (Jvm.Cond.methodLink "java/lang/String" (106 : Nat) ({ cls := "java/lang/StringLatin1", name := "inflate", desc := "([BI[BII)V" } : Jvm.MethodName)) ∈ lw_all := lw_g (lw_at lw_m4 49 rfl) rfl
theorem q880 : (Jvm.Cond.instantiable "java/lang/String" (4 : Nat)) ∈ lw_all := lw_g (lw_at lw_m4 80 rfl) rfl
theorem q882 : (Jvm.Cond.instanceMethod ({ cls := "java/lang/String", name := "<init>", desc := "(Ljava/lang/StringBuilder;)V" } : Jvm.MethodName)) ∈ lw_all := lw_g (lw_at lw_m4 82 rfl) rfl
theorem q883 : (Jvm.Cond.code ({ cls := "java/lang/String", name := "<init>", desc := "(Ljava/lang/StringBuilder;)V" } : Jvm.MethodName) prog_31_method_53_code (2 : Nat) (Option.none : Option Jvm.ClassFile.FieldType)) ∈ lw_all := lw_g (lw_at lw_m4 83 rfl) rfl
theorem q884 : (Jvm.Cond.methodLink "java/lang/String" (489 : Nat) ({ cls := "java/lang/String", name := "<init>", desc := "(Ljava/lang/AbstractStringBuilder;Ljava/lang/Void;)V" } : Jvm.MethodName)) ∈ lw_all := lw_g (lw_at lw_m4 84 rfl) rfl
theorem q885 : (Jvm.Cond.instanceMethod ({ cls := "java/lang/String", name := "<init>", desc := "(Ljava/lang/AbstractStringBuilder;Ljava/lang/Void;)V" } : Jvm.MethodName)) ∈ lw_all := lw_g (lw_at lw_m4 85 rfl) rfl
theorem q886 : (Jvm.Cond.code ({ cls := "java/lang/String", name := "<init>", desc := "(Ljava/lang/AbstractStringBuilder;Ljava/lang/Void;)V" } : Jvm.MethodName) prog_31_method_150_code (5 : Nat) (Option.none : Option Jvm.ClassFile.FieldType)) ∈ lw_all := lw_g (lw_at lw_m4 86 rfl) rfl
theorem q887 : (Jvm.Cond.methodLink "java/lang/String" (1 : Nat) ({ cls := "java/lang/Object", name := "<init>", desc := "()V" } : Jvm.MethodName)) ∈ lw_all := lw_g (lw_at lw_m4 87 rfl) rfl
theorem q888 : (Jvm.Cond.methodLink "java/lang/String" (552 : Nat) ({ cls := "java/lang/AbstractStringBuilder", name := "getValue", desc := "()[B" } : Jvm.MethodName)) ∈ lw_all := lw_g (lw_at lw_m4 88 rfl) rfl
theorem q893 : (Jvm.Cond.methodLink "java/lang/String" (549 : Nat) ({ cls := "java/lang/AbstractStringBuilder", name := "length", desc := "()I" } : Jvm.MethodName)) ∈ lw_all := lw_g (lw_at lw_m4 93 rfl) rfl
theorem q901 : (Jvm.Cond.methodLink "java/lang/String" (1047 : Nat) ({ cls := "java/lang/AbstractStringBuilder", name := "isLatin1", desc := "()Z" } : Jvm.MethodName)) ∈ lw_all := lw_g (lw_at lw_m4 101 rfl) rfl
theorem q902 : (Jvm.Cond.methodLink "java/lang/String" (54 : Nat) ({ cls := "java/util/Arrays", name := "copyOfRange", desc := "([BII)[B" } : Jvm.MethodName)) ∈ lw_all := lw_g (lw_at lw_m4 102 rfl) rfl
theorem q932 : (Jvm.Cond.methodLink "java/lang/String" (1051 : Nat) ({ cls := "java/lang/StringUTF16", name := "compress", desc := "([BII)[B" } : Jvm.MethodName)) ∈ lw_all := lw_g (lw_at lw_m4 132 rfl) rfl
theorem q940 : (Jvm.Cond.methodLink "java/lang/String" (47 : Nat) ({ cls := "java/lang/StringUTF16", name := "coderFromArrayLen", desc := "([BI)B" } : Jvm.MethodName)) ∈ lw_all := lw_g (lw_at lw_m4 140 rfl) rfl
theorem q943 : (Jvm.Cond.fieldLink "java/lang/String" (9 : Nat) "java/lang/String" "value" "[B") ∈ lw_all := lw_g (lw_at lw_m4 143 rfl) rfl
theorem q944 : (Jvm.Cond.fieldLink "java/lang/String" (15 : Nat) "java/lang/String" "coder" "B") ∈ lw_all := lw_g (lw_at lw_m4 144 rfl) rfl
theorem q945 : (Jvm.Cond.fieldLink "java/lang/String" (19 : Nat) "java/lang/String" "hash" "I") ∈ lw_all := lw_g (lw_at lw_m4 145 rfl) rfl
theorem q946 : (Jvm.Cond.fieldLink "java/lang/String" (23 : Nat) "java/lang/String" "hashIsZero" "Z") ∈ lw_all := lw_g (lw_at lw_m4 146 rfl) rfl
theorem q947 : (Jvm.Cond.laysFinal "java/lang/String" "java/lang/String" "value" "[B") ∈ lw_all := lw_g (lw_at lw_m4 147 rfl) rfl
theorem q948 : (Jvm.Cond.soleField "java/lang/String" "value") ∈ lw_all := lw_g (lw_at lw_m4 148 rfl) rfl
theorem q949 : (Jvm.Cond.laysFinal "java/lang/String" "java/lang/String" "coder" "B") ∈ lw_all := lw_g (lw_at lw_m4 149 rfl) rfl
theorem q950 : (Jvm.Cond.soleField "java/lang/String" "coder") ∈ lw_all := lw_g (lw_at lw_m4 150 rfl) rfl
theorem q951 : (Jvm.Cond.lays "java/lang/String" "java/lang/String" "hash" "I") ∈ lw_all := lw_g (lw_at lw_m4 151 rfl) rfl
theorem q952 : (Jvm.Cond.soleField "java/lang/String" "hash") ∈ lw_all := lw_g (lw_at lw_m4 152 rfl) rfl
theorem q953 : (Jvm.Cond.lays "java/lang/String" "java/lang/String" "hashIsZero" "Z") ∈ lw_all := lw_g (lw_at lw_m4 153 rfl) rfl
theorem q954 : (Jvm.Cond.soleField "java/lang/String" "hashIsZero") ∈ lw_all := lw_g (lw_at lw_m4 154 rfl) rfl
theorem q955 : (Jvm.Cond.superclass "java/lang/String" "java/lang/Object") ∈ lw_all := lw_g (lw_at lw_m4 155 rfl) rfl
theorem q957 : (Jvm.Cond.methodLink "java/lang/String" (632 : Nat) ({ cls := "java/lang/StringUTF16", name := "hashCode", desc := "([B)I" } : Jvm.MethodName)) ∈ lw_all := lw_g (lw_at lw_m4 157 rfl) rfl
theorem q1067 : (Jvm.Cond.castable "java/lang/String" "java/lang/Comparable") ∈ lw_tbl := lw_at lw_m5 27 rfl
theorem q1068 : (Jvm.Cond.selects "java/lang/String" ({ cls := "java/lang/Comparable", name := "compareTo", desc := "(Ljava/lang/Object;)I" } : Jvm.MethodName) ({ cls := "java/lang/String", name := "compareTo", desc := "(Ljava/lang/Object;)I" } : Jvm.MethodName)) ∈ lw_all := lw_g (lw_at lw_m5 28 rfl) rfl
theorem q1069 : (Jvm.Cond.unhidden "java/lang/String" "compareTo" "(Ljava/lang/Object;)I") ∈ lw_tbl := lw_at lw_m5 29 rfl
theorem q1070 : (Jvm.Cond.instanceMethod ({ cls := "java/lang/String", name := "compareTo", desc := "(Ljava/lang/Object;)I" } : Jvm.MethodName)) ∈ lw_all := lw_g (lw_at lw_m5 30 rfl) rfl
theorem q1071 : (Jvm.Cond.publicMethod ({ cls := "java/lang/String", name := "compareTo", desc := "(Ljava/lang/Object;)I" } : Jvm.MethodName)) ∈ lw_tbl := lw_at lw_m5 31 rfl
theorem q1072 : (Jvm.Cond.code ({ cls := "java/lang/String", name := "compareTo", desc := "(Ljava/lang/Object;)I" } : Jvm.MethodName) prog_31_method_162_code (2 : Nat) (Option.some Jvm.ClassFile.FieldType.int)) ∈ lw_all := lw_g (lw_at lw_m5 32 rfl) rfl
theorem q1073 : (Jvm.Cond.classLink "java/lang/String" (10 : Nat) "java/lang/String") ∈ lw_all := lw_g (lw_at lw_m5 33 rfl) rfl
theorem q1074 : (Jvm.Cond.methodLink "java/lang/String" (1084 : Nat) ({ cls := "java/lang/String", name := "compareTo", desc := "(Ljava/lang/String;)I" } : Jvm.MethodName)) ∈ lw_all := lw_g (lw_at lw_m5 34 rfl) rfl
theorem q1075 : (Jvm.Cond.instanceMethod ({ cls := "java/lang/String", name := "compareTo", desc := "(Ljava/lang/String;)I" } : Jvm.MethodName)) ∈ lw_all := lw_g (lw_at lw_m5 35 rfl) rfl
theorem q1076 : (Jvm.Cond.selects "java/lang/String" ({ cls := "java/lang/String", name := "compareTo", desc := "(Ljava/lang/String;)I" } : Jvm.MethodName) ({ cls := "java/lang/String", name := "compareTo", desc := "(Ljava/lang/String;)I" } : Jvm.MethodName)) ∈ lw_all := lw_g (lw_at lw_m5 36 rfl) rfl
theorem q1077 : (Jvm.Cond.code ({ cls := "java/lang/String", name := "compareTo", desc := "(Ljava/lang/String;)I" } : Jvm.MethodName) prog_31_method_71_code (5 : Nat) (Option.some Jvm.ClassFile.FieldType.int)) ∈ lw_all := lw_g (lw_at lw_m5 37 rfl) rfl
theorem q1078 : (Jvm.Cond.methodLink "java/lang/String" (586 : Nat) ({ cls := "java/lang/StringLatin1", name := "compareTo", desc := "([B[B)I" } : Jvm.MethodName)) ∈ lw_all := lw_g (lw_at lw_m5 38 rfl) rfl
theorem q1192 : (Jvm.Cond.methodLink "java/lang/String" (590 : Nat) ({ cls := "java/lang/StringUTF16", name := "compareTo", desc := "([B[B)I" } : Jvm.MethodName)) ∈ lw_all := lw_g (lw_at lw_m5 152 rfl) rfl
theorem q1199 : (Jvm.Cond.methodLink "java/lang/String" (591 : Nat) ({ cls := "java/lang/StringLatin1", name := "compareToUTF16", desc := "([B[B)I" } : Jvm.MethodName)) ∈ lw_all := lw_g (lw_at lw_m5 159 rfl) rfl
theorem q1210 : (Jvm.Cond.methodLink "java/lang/String" (594 : Nat) ({ cls := "java/lang/StringUTF16", name := "compareToLatin1", desc := "([B[B)I" } : Jvm.MethodName)) ∈ lw_all := lw_g (lw_at lw_m5 170 rfl) rfl
theorem q1236 : (Jvm.Cond.static ({ cls := "java/lang/String", name := "checkOffset", desc := "(II)V" } : Jvm.MethodName)) ∈ lw_all := lw_g (lw_at lw_m5 196 rfl) rfl
theorem q1237 : (Jvm.Cond.code ({ cls := "java/lang/String", name := "checkOffset", desc := "(II)V" } : Jvm.MethodName) prog_31_method_156_code (2 : Nat) (Option.none : Option Jvm.ClassFile.FieldType)) ∈ lw_all := lw_g (lw_at lw_m5 197 rfl) rfl
theorem q1299 : (Jvm.Cond.selects "java/lang/String" ({ cls := "java/lang/Object", name := "equals", desc := "(Ljava/lang/Object;)Z" } : Jvm.MethodName) ({ cls := "java/lang/String", name := "equals", desc := "(Ljava/lang/Object;)Z" } : Jvm.MethodName)) ∈ lw_all := lw_g (lw_at lw_m6 19 rfl) rfl
theorem q1300 : (Jvm.Cond.instanceMethod ({ cls := "java/lang/String", name := "equals", desc := "(Ljava/lang/Object;)Z" } : Jvm.MethodName)) ∈ lw_all := lw_g (lw_at lw_m6 20 rfl) rfl
theorem q1301 : (Jvm.Cond.code ({ cls := "java/lang/String", name := "equals", desc := "(Ljava/lang/Object;)Z" } : Jvm.MethodName) prog_31_method_66_code (3 : Nat) (Option.some Jvm.ClassFile.FieldType.boolean)) ∈ lw_all := lw_g (lw_at lw_m6 21 rfl) rfl
theorem q1302 : (Jvm.Cond.methodLink "java/lang/String" (541 : Nat) ({ cls := "java/lang/StringLatin1", name := "equals", desc := "([B[B)Z" } : Jvm.MethodName)) ∈ lw_all := lw_g (lw_at lw_m6 22 rfl) rfl
theorem q1853 : (Jvm.Cond.static ({ cls := "java/lang/String", name := "checkIndex", desc := "(II)V" } : Jvm.MethodName)) ∈ lw_all := lw_g (lw_at lw_m8 93 rfl) rfl
theorem q1854 : (Jvm.Cond.code ({ cls := "java/lang/String", name := "checkIndex", desc := "(II)V" } : Jvm.MethodName) prog_31_method_155_code (2 : Nat) (Option.none : Option Jvm.ClassFile.FieldType)) ∈ lw_all := lw_g (lw_at lw_m8 94 rfl) rfl
theorem q1855 : (Jvm.Cond.methodLink "java/lang/String" (1059 : Nat) ({ cls := "jdk/internal/util/Preconditions", name := "checkIndex", desc := "(IILjava/util/function/BiFunction;)I" } : Jvm.MethodName)) ∈ lw_all := lw_g (lw_at lw_m8 95 rfl) rfl
theorem q2239 : (Jvm.Cond.instanceMethod ({ cls := "java/lang/String", name := "charAt", desc := "(I)C" } : Jvm.MethodName)) ∈ lw_all := lw_g (lw_at lw_m9 239 rfl) rfl
theorem q2240 : (Jvm.Cond.selects "java/lang/String" ({ cls := "java/lang/String", name := "charAt", desc := "(I)C" } : Jvm.MethodName) ({ cls := "java/lang/String", name := "charAt", desc := "(I)C" } : Jvm.MethodName)) ∈ lw_all := lw_g (lw_at lw_m10 0 rfl) rfl
theorem q2241 : (Jvm.Cond.code ({ cls := "java/lang/String", name := "charAt", desc := "(I)C" } : Jvm.MethodName) prog_31_method_56_code (2 : Nat) (Option.some Jvm.ClassFile.FieldType.char)) ∈ lw_all := lw_g (lw_at lw_m10 1 rfl) rfl
theorem q2242 : (Jvm.Cond.methodLink "java/lang/String" (495 : Nat) ({ cls := "java/lang/StringLatin1", name := "charAt", desc := "([BI)C" } : Jvm.MethodName)) ∈ lw_all := lw_g (lw_at lw_m10 2 rfl) rfl
theorem q2246 : (Jvm.Cond.methodLink "java/lang/String" (498 : Nat) ({ cls := "java/lang/StringUTF16", name := "charAt", desc := "([BI)C" } : Jvm.MethodName)) ∈ lw_all := lw_g (lw_at lw_m10 6 rfl) rfl
theorem q2318 : (Jvm.Cond.castable "java/lang/String" "java/lang/CharSequence") ∈ lw_tbl := lw_at lw_m10 78 rfl
theorem q2319 : (Jvm.Cond.selects "java/lang/String" ({ cls := "java/lang/CharSequence", name := "length", desc := "()I" } : Jvm.MethodName) ({ cls := "java/lang/String", name := "length", desc := "()I" } : Jvm.MethodName)) ∈ lw_all := lw_g (lw_at lw_m10 79 rfl) rfl
theorem q2320 : (Jvm.Cond.unhidden "java/lang/String" "length" "()I") ∈ lw_tbl := lw_at lw_m10 80 rfl
theorem q2321 : (Jvm.Cond.publicMethod ({ cls := "java/lang/String", name := "length", desc := "()I" } : Jvm.MethodName)) ∈ lw_tbl := lw_at lw_m10 81 rfl
theorem q2330 : (Jvm.Cond.selects "java/lang/String" ({ cls := "java/lang/CharSequence", name := "charAt", desc := "(I)C" } : Jvm.MethodName) ({ cls := "java/lang/String", name := "charAt", desc := "(I)C" } : Jvm.MethodName)) ∈ lw_all := lw_g (lw_at lw_m10 90 rfl) rfl
theorem q2331 : (Jvm.Cond.unhidden "java/lang/String" "charAt" "(I)C") ∈ lw_tbl := lw_at lw_m10 91 rfl
theorem q2332 : (Jvm.Cond.publicMethod ({ cls := "java/lang/String", name := "charAt", desc := "(I)C" } : Jvm.MethodName)) ∈ lw_tbl := lw_at lw_m10 92 rfl
theorem q2990 : (Jvm.Cond.selects "java/lang/String" ({ cls := "java/lang/String", name := "hashCode", desc := "()I" } : Jvm.MethodName) ({ cls := "java/lang/String", name := "hashCode", desc := "()I" } : Jvm.MethodName)) ∈ lw_all := lw_g (lw_at lw_m13 30 rfl) rfl
theorem q2991 : (Jvm.Cond.selects "java/lang/String" ({ cls := "java/lang/String", name := "equals", desc := "(Ljava/lang/Object;)Z" } : Jvm.MethodName) ({ cls := "java/lang/String", name := "equals", desc := "(Ljava/lang/Object;)Z" } : Jvm.MethodName)) ∈ lw_all := lw_g (lw_at lw_m13 31 rfl) rfl
theorem q2999 : (Jvm.Cond.castable "java/lang/String" "java/lang/Object") ∈ lw_tbl := lw_at lw_m13 39 rfl
theorem in_J8 : ∀ w ∈ wsJ80, w ∈ lw_all := lw_in wsJ80 [947, 949, 951, 953] (by decide +kernel) (by decide +kernel)

/-! java/lang/StringUTF16 -/
set_option maxRecDepth 100000
def RJ9 : String := "java/lang/StringUTF16"
abbrev cJ9_newBytesFor : ByteArray := prog_34_method_2_code
def yJ9_newBytesFor : MethodName := ⟨RJ9, "newBytesFor", "(I)[B"⟩
def dkwJ9_newBytesFor_0 : List UInt8 := [26, 184, 0, 11, 188, 8, 176]
abbrev dktJ9_newBytesFor_0 : List UInt8 := dkwJ9_newBytesFor_0 ++ []
theorem dksJ9_newBytesFor_0 : cJ9_newBytesFor.data.toList.drop 0 = dktJ9_newBytesFor_0 := by decide +kernel
theorem dJ9_newBytesFor_0 : decode cJ9_newBytesFor 0 = .ok (.iload_n 0, 1) := dk_26 (dk_at dksJ9_newBytesFor_0 0 rfl rfl)
theorem dJ9_newBytesFor_1 : decode cJ9_newBytesFor 1 = .ok (.invokestatic 11, 3) := dk_184 0 11 (dk_at dksJ9_newBytesFor_0 1 rfl rfl)
theorem dJ9_newBytesFor_4 : decode cJ9_newBytesFor 4 = .ok (.newarray .byte, 2) := dk_188_8 (dk_at dksJ9_newBytesFor_0 4 rfl rfl)
theorem dJ9_newBytesFor_6 : decode cJ9_newBytesFor 6 = .ok (.areturn, 1) := dk_176 (dk_at dksJ9_newBytesFor_0 6 rfl rfl)
abbrev cJ9_newBytesLength : ByteArray := prog_34_method_3_code
def yJ9_newBytesLength : MethodName := ⟨RJ9, "newBytesLength", "(I)I"⟩
def dkwJ9_newBytesLength_2 : List UInt8 := [182, 0, 32, 182, 0, 37, 183, 0, 41, 191, 26, 4, 120, 172]
abbrev dktJ9_newBytesLength_2 : List UInt8 := dkwJ9_newBytesLength_2 ++ []
def dkwJ9_newBytesLength_1 : List UInt8 := [187, 0, 23, 89, 183, 0, 25, 18, 26, 182, 0, 28, 26, 182, 0, 32, 18, 35, 182, 0, 28, 18, 20]
abbrev dktJ9_newBytesLength_1 : List UInt8 := dkwJ9_newBytesLength_1 ++ dktJ9_newBytesLength_2
def dkwJ9_newBytesLength_0 : List UInt8 := [26, 156, 0, 11, 187, 0, 17, 89, 183, 0, 19, 191, 26, 18, 20, 161, 0, 40, 187, 0, 21, 89]
abbrev dktJ9_newBytesLength_0 : List UInt8 := dkwJ9_newBytesLength_0 ++ dktJ9_newBytesLength_1
theorem dksJ9_newBytesLength_0 : cJ9_newBytesLength.data.toList.drop 0 = dktJ9_newBytesLength_0 := by decide +kernel
theorem dksJ9_newBytesLength_1 : cJ9_newBytesLength.data.toList.drop 22 = dktJ9_newBytesLength_1 := dk_seg dksJ9_newBytesLength_0 22 rfl rfl
theorem dksJ9_newBytesLength_2 : cJ9_newBytesLength.data.toList.drop 45 = dktJ9_newBytesLength_2 := dk_seg dksJ9_newBytesLength_1 23 rfl rfl
theorem dJ9_newBytesLength_0 : decode cJ9_newBytesLength 0 = .ok (.iload_n 0, 1) := dk_26 (dk_at dksJ9_newBytesLength_0 0 rfl rfl)
theorem dJ9_newBytesLength_1 : decode cJ9_newBytesLength 1 = .ok (.ifCond .ge 11, 3) := dk_156 0 11 (dk_at dksJ9_newBytesLength_0 1 rfl rfl)
theorem dJ9_newBytesLength_4 : decode cJ9_newBytesLength 4 = .ok (.new 17, 3) := dk_187 0 17 (dk_at dksJ9_newBytesLength_0 4 rfl rfl)
theorem dJ9_newBytesLength_7 : decode cJ9_newBytesLength 7 = .ok (.dup, 1) := dk_89 (dk_at dksJ9_newBytesLength_0 7 rfl rfl)
theorem dJ9_newBytesLength_8 : decode cJ9_newBytesLength 8 = .ok (.invokespecial 19, 3) := dk_183 0 19 (dk_at dksJ9_newBytesLength_0 8 rfl rfl)
theorem dJ9_newBytesLength_11 : decode cJ9_newBytesLength 11 = .ok (.athrow, 1) := dk_191 (dk_at dksJ9_newBytesLength_0 11 rfl rfl)
theorem dJ9_newBytesLength_12 : decode cJ9_newBytesLength 12 = .ok (.iload_n 0, 1) := dk_26 (dk_at dksJ9_newBytesLength_0 12 rfl rfl)
theorem dJ9_newBytesLength_13 : decode cJ9_newBytesLength 13 = .ok (.ldc 20, 2) := dk_18 20 (dk_at dksJ9_newBytesLength_0 13 rfl rfl)
theorem dJ9_newBytesLength_15 : decode cJ9_newBytesLength 15 = .ok (.if_icmp .lt 40, 3) := dk_161 0 40 (dk_at dksJ9_newBytesLength_0 15 rfl rfl)
theorem dJ9_newBytesLength_18 : decode cJ9_newBytesLength 18 = .ok (.new 21, 3) := dk_187 0 21 (dk_at dksJ9_newBytesLength_0 18 rfl rfl)
theorem dJ9_newBytesLength_21 : decode cJ9_newBytesLength 21 = .ok (.dup, 1) := dk_89 (dk_at dksJ9_newBytesLength_0 21 rfl rfl)
theorem dJ9_newBytesLength_22 : decode cJ9_newBytesLength 22 = .ok (.new 23, 3) := dk_187 0 23 (dk_at dksJ9_newBytesLength_1 0 rfl rfl)
theorem dJ9_newBytesLength_25 : decode cJ9_newBytesLength 25 = .ok (.dup, 1) := dk_89 (dk_at dksJ9_newBytesLength_1 3 rfl rfl)
theorem dJ9_newBytesLength_26 : decode cJ9_newBytesLength 26 = .ok (.invokespecial 25, 3) := dk_183 0 25 (dk_at dksJ9_newBytesLength_1 4 rfl rfl)
theorem dJ9_newBytesLength_29 : decode cJ9_newBytesLength 29 = .ok (.ldc 26, 2) := dk_18 26 (dk_at dksJ9_newBytesLength_1 7 rfl rfl)
theorem dJ9_newBytesLength_31 : decode cJ9_newBytesLength 31 = .ok (.invokevirtual 28, 3) := dk_182 0 28 (dk_at dksJ9_newBytesLength_1 9 rfl rfl)
theorem dJ9_newBytesLength_34 : decode cJ9_newBytesLength 34 = .ok (.iload_n 0, 1) := dk_26 (dk_at dksJ9_newBytesLength_1 12 rfl rfl)
theorem dJ9_newBytesLength_35 : decode cJ9_newBytesLength 35 = .ok (.invokevirtual 32, 3) := dk_182 0 32 (dk_at dksJ9_newBytesLength_1 13 rfl rfl)
theorem dJ9_newBytesLength_38 : decode cJ9_newBytesLength 38 = .ok (.ldc 35, 2) := dk_18 35 (dk_at dksJ9_newBytesLength_1 16 rfl rfl)
theorem dJ9_newBytesLength_40 : decode cJ9_newBytesLength 40 = .ok (.invokevirtual 28, 3) := dk_182 0 28 (dk_at dksJ9_newBytesLength_1 18 rfl rfl)
theorem dJ9_newBytesLength_43 : decode cJ9_newBytesLength 43 = .ok (.ldc 20, 2) := dk_18 20 (dk_at dksJ9_newBytesLength_1 21 rfl rfl)
theorem dJ9_newBytesLength_45 : decode cJ9_newBytesLength 45 = .ok (.invokevirtual 32, 3) := dk_182 0 32 (dk_at dksJ9_newBytesLength_2 0 rfl rfl)
theorem dJ9_newBytesLength_48 : decode cJ9_newBytesLength 48 = .ok (.invokevirtual 37, 3) := dk_182 0 37 (dk_at dksJ9_newBytesLength_2 3 rfl rfl)
theorem dJ9_newBytesLength_51 : decode cJ9_newBytesLength 51 = .ok (.invokespecial 41, 3) := dk_183 0 41 (dk_at dksJ9_newBytesLength_2 6 rfl rfl)
theorem dJ9_newBytesLength_54 : decode cJ9_newBytesLength 54 = .ok (.athrow, 1) := dk_191 (dk_at dksJ9_newBytesLength_2 9 rfl rfl)
theorem dJ9_newBytesLength_55 : decode cJ9_newBytesLength 55 = .ok (.iload_n 0, 1) := dk_26 (dk_at dksJ9_newBytesLength_2 10 rfl rfl)
theorem dJ9_newBytesLength_56 : decode cJ9_newBytesLength 56 = .ok (.iconst 1, 1) := dk_4 (dk_at dksJ9_newBytesLength_2 11 rfl rfl)
theorem dJ9_newBytesLength_57 : decode cJ9_newBytesLength 57 = .ok (.ishl, 1) := dk_120 (dk_at dksJ9_newBytesLength_2 12 rfl rfl)
theorem dJ9_newBytesLength_58 : decode cJ9_newBytesLength 58 = .ok (.ireturn, 1) := dk_172 (dk_at dksJ9_newBytesLength_2 13 rfl rfl)
abbrev cJ9_getChar : ByteArray := prog_34_method_5_code
def yJ9_getChar : MethodName := ⟨RJ9, "getChar", "([BI)C"⟩
def dkwJ9_getChar_2 : List UInt8 := [51, 17, 0, 255, 126, 178, 0, 63, 120, 128, 146, 172]
abbrev dktJ9_getChar_2 : List UInt8 := dkwJ9_getChar_2 ++ []
def dkwJ9_getChar_1 : List UInt8 := [183, 0, 56, 191, 27, 4, 120, 60, 42, 27, 132, 1, 1, 51, 17, 0, 255, 126, 178, 0, 59, 120, 42, 27]
abbrev dktJ9_getChar_1 : List UInt8 := dkwJ9_getChar_1 ++ dktJ9_getChar_2
def dkwJ9_getChar_0 : List UInt8 := [178, 0, 44, 154, 0, 25, 27, 155, 0, 11, 27, 42, 184, 0, 48, 161, 0, 13, 187, 0, 52, 89, 18, 54]
abbrev dktJ9_getChar_0 : List UInt8 := dkwJ9_getChar_0 ++ dktJ9_getChar_1
theorem dksJ9_getChar_0 : cJ9_getChar.data.toList.drop 0 = dktJ9_getChar_0 := by decide +kernel
theorem dksJ9_getChar_1 : cJ9_getChar.data.toList.drop 24 = dktJ9_getChar_1 := dk_seg dksJ9_getChar_0 24 rfl rfl
theorem dksJ9_getChar_2 : cJ9_getChar.data.toList.drop 48 = dktJ9_getChar_2 := dk_seg dksJ9_getChar_1 24 rfl rfl
theorem dJ9_getChar_0 : decode cJ9_getChar 0 = .ok (.getstatic 44, 3) := dk_178 0 44 (dk_at dksJ9_getChar_0 0 rfl rfl)
theorem dJ9_getChar_3 : decode cJ9_getChar 3 = .ok (.ifCond .ne 25, 3) := dk_154 0 25 (dk_at dksJ9_getChar_0 3 rfl rfl)
theorem dJ9_getChar_6 : decode cJ9_getChar 6 = .ok (.iload_n 1, 1) := dk_27 (dk_at dksJ9_getChar_0 6 rfl rfl)
theorem dJ9_getChar_7 : decode cJ9_getChar 7 = .ok (.ifCond .lt 11, 3) := dk_155 0 11 (dk_at dksJ9_getChar_0 7 rfl rfl)
theorem dJ9_getChar_10 : decode cJ9_getChar 10 = .ok (.iload_n 1, 1) := dk_27 (dk_at dksJ9_getChar_0 10 rfl rfl)
theorem dJ9_getChar_11 : decode cJ9_getChar 11 = .ok (.aload_n 0, 1) := dk_42 (dk_at dksJ9_getChar_0 11 rfl rfl)
theorem dJ9_getChar_12 : decode cJ9_getChar 12 = .ok (.invokestatic 48, 3) := dk_184 0 48 (dk_at dksJ9_getChar_0 12 rfl rfl)
theorem dJ9_getChar_15 : decode cJ9_getChar 15 = .ok (.if_icmp .lt 13, 3) := dk_161 0 13 (dk_at dksJ9_getChar_0 15 rfl rfl)
theorem dJ9_getChar_18 : decode cJ9_getChar 18 = .ok (.new 52, 3) := dk_187 0 52 (dk_at dksJ9_getChar_0 18 rfl rfl)
theorem dJ9_getChar_21 : decode cJ9_getChar 21 = .ok (.dup, 1) := dk_89 (dk_at dksJ9_getChar_0 21 rfl rfl)
theorem dJ9_getChar_22 : decode cJ9_getChar 22 = .ok (.ldc 54, 2) := dk_18 54 (dk_at dksJ9_getChar_0 22 rfl rfl)
theorem dJ9_getChar_24 : decode cJ9_getChar 24 = .ok (.invokespecial 56, 3) := dk_183 0 56 (dk_at dksJ9_getChar_1 0 rfl rfl)
theorem dJ9_getChar_27 : decode cJ9_getChar 27 = .ok (.athrow, 1) := dk_191 (dk_at dksJ9_getChar_1 3 rfl rfl)
theorem dJ9_getChar_28 : decode cJ9_getChar 28 = .ok (.iload_n 1, 1) := dk_27 (dk_at dksJ9_getChar_1 4 rfl rfl)
theorem dJ9_getChar_29 : decode cJ9_getChar 29 = .ok (.iconst 1, 1) := dk_4 (dk_at dksJ9_getChar_1 5 rfl rfl)
theorem dJ9_getChar_30 : decode cJ9_getChar 30 = .ok (.ishl, 1) := dk_120 (dk_at dksJ9_getChar_1 6 rfl rfl)
theorem dJ9_getChar_31 : decode cJ9_getChar 31 = .ok (.istore_n 1, 1) := dk_60 (dk_at dksJ9_getChar_1 7 rfl rfl)
theorem dJ9_getChar_32 : decode cJ9_getChar 32 = .ok (.aload_n 0, 1) := dk_42 (dk_at dksJ9_getChar_1 8 rfl rfl)
theorem dJ9_getChar_33 : decode cJ9_getChar 33 = .ok (.iload_n 1, 1) := dk_27 (dk_at dksJ9_getChar_1 9 rfl rfl)
theorem dJ9_getChar_34 : decode cJ9_getChar 34 = .ok (.iinc 1 1, 3) := dk_132 1 1 (dk_at dksJ9_getChar_1 10 rfl rfl)
theorem dJ9_getChar_37 : decode cJ9_getChar 37 = .ok (.baload, 1) := dk_51 (dk_at dksJ9_getChar_1 13 rfl rfl)
theorem dJ9_getChar_38 : decode cJ9_getChar 38 = .ok (.sipush 255, 3) := dk_17 0 255 (dk_at dksJ9_getChar_1 14 rfl rfl)
theorem dJ9_getChar_41 : decode cJ9_getChar 41 = .ok (.iand, 1) := dk_126 (dk_at dksJ9_getChar_1 17 rfl rfl)
theorem dJ9_getChar_42 : decode cJ9_getChar 42 = .ok (.getstatic 59, 3) := dk_178 0 59 (dk_at dksJ9_getChar_1 18 rfl rfl)
theorem dJ9_getChar_45 : decode cJ9_getChar 45 = .ok (.ishl, 1) := dk_120 (dk_at dksJ9_getChar_1 21 rfl rfl)
theorem dJ9_getChar_46 : decode cJ9_getChar 46 = .ok (.aload_n 0, 1) := dk_42 (dk_at dksJ9_getChar_1 22 rfl rfl)
theorem dJ9_getChar_47 : decode cJ9_getChar 47 = .ok (.iload_n 1, 1) := dk_27 (dk_at dksJ9_getChar_1 23 rfl rfl)
theorem dJ9_getChar_48 : decode cJ9_getChar 48 = .ok (.baload, 1) := dk_51 (dk_at dksJ9_getChar_2 0 rfl rfl)
theorem dJ9_getChar_49 : decode cJ9_getChar 49 = .ok (.sipush 255, 3) := dk_17 0 255 (dk_at dksJ9_getChar_2 1 rfl rfl)
theorem dJ9_getChar_52 : decode cJ9_getChar 52 = .ok (.iand, 1) := dk_126 (dk_at dksJ9_getChar_2 4 rfl rfl)
theorem dJ9_getChar_53 : decode cJ9_getChar 53 = .ok (.getstatic 63, 3) := dk_178 0 63 (dk_at dksJ9_getChar_2 5 rfl rfl)
theorem dJ9_getChar_56 : decode cJ9_getChar 56 = .ok (.ishl, 1) := dk_120 (dk_at dksJ9_getChar_2 8 rfl rfl)
theorem dJ9_getChar_57 : decode cJ9_getChar 57 = .ok (.ior, 1) := dk_128 (dk_at dksJ9_getChar_2 9 rfl rfl)
theorem dJ9_getChar_58 : decode cJ9_getChar 58 = .ok (.i2c, 1) := dk_146 (dk_at dksJ9_getChar_2 10 rfl rfl)
theorem dJ9_getChar_59 : decode cJ9_getChar 59 = .ok (.ireturn, 1) := dk_172 (dk_at dksJ9_getChar_2 11 rfl rfl)
abbrev cJ9_length : ByteArray := prog_34_method_6_code
def yJ9_length : MethodName := ⟨RJ9, "length", "([B)I"⟩
def dkwJ9_length_0 : List UInt8 := [42, 190, 4, 122, 172]
abbrev dktJ9_length_0 : List UInt8 := dkwJ9_length_0 ++ []
theorem dksJ9_length_0 : cJ9_length.data.toList.drop 0 = dktJ9_length_0 := by decide +kernel
theorem dJ9_length_0 : decode cJ9_length 0 = .ok (.aload_n 0, 1) := dk_42 (dk_at dksJ9_length_0 0 rfl rfl)
theorem dJ9_length_1 : decode cJ9_length 1 = .ok (.arraylength, 1) := dk_190 (dk_at dksJ9_length_0 1 rfl rfl)
theorem dJ9_length_2 : decode cJ9_length 2 = .ok (.iconst 1, 1) := dk_4 (dk_at dksJ9_length_0 2 rfl rfl)
theorem dJ9_length_3 : decode cJ9_length 3 = .ok (.ishr, 1) := dk_122 (dk_at dksJ9_length_0 3 rfl rfl)
theorem dJ9_length_4 : decode cJ9_length 4 = .ok (.ireturn, 1) := dk_172 (dk_at dksJ9_length_0 4 rfl rfl)
abbrev cJ9_putCharsAt : ByteArray := prog_34_method_81_code
def yJ9_putCharsAt : MethodName := ⟨RJ9, "putCharsAt", "([BICCCC)I"⟩
def dkwJ9_putCharsAt_3 : List UInt8 := [21, 6, 172]
abbrev dktJ9_putCharsAt_3 : List UInt8 := dkwJ9_putCharsAt_3 ++ []
def dkwJ9_putCharsAt_2 : List UInt8 := [184, 0, 111, 178, 0, 44, 154, 0, 17, 27, 21, 6, 159, 0, 11, 187, 0, 52, 89, 183, 0, 66, 191]
abbrev dktJ9_putCharsAt_2 : List UInt8 := dkwJ9_putCharsAt_2 ++ dktJ9_putCharsAt_3
def dkwJ9_putCharsAt_1 : List UInt8 := [132, 1, 1, 29, 184, 0, 111, 42, 27, 132, 1, 1, 21, 4, 184, 0, 111, 42, 27, 132, 1, 1, 21, 5]
abbrev dktJ9_putCharsAt_1 : List UInt8 := dkwJ9_putCharsAt_1 ++ dktJ9_putCharsAt_2
def dkwJ9_putCharsAt_0 : List UInt8 := [27, 7, 96, 54, 6, 27, 21, 6, 42, 184, 0, 96, 42, 27, 132, 1, 1, 28, 184, 0, 111, 42, 27]
abbrev dktJ9_putCharsAt_0 : List UInt8 := dkwJ9_putCharsAt_0 ++ dktJ9_putCharsAt_1
theorem dksJ9_putCharsAt_0 : cJ9_putCharsAt.data.toList.drop 0 = dktJ9_putCharsAt_0 := by decide +kernel
theorem dksJ9_putCharsAt_1 : cJ9_putCharsAt.data.toList.drop 23 = dktJ9_putCharsAt_1 := dk_seg dksJ9_putCharsAt_0 23 rfl rfl
theorem dksJ9_putCharsAt_2 : cJ9_putCharsAt.data.toList.drop 47 = dktJ9_putCharsAt_2 := dk_seg dksJ9_putCharsAt_1 24 rfl rfl
theorem dksJ9_putCharsAt_3 : cJ9_putCharsAt.data.toList.drop 70 = dktJ9_putCharsAt_3 := dk_seg dksJ9_putCharsAt_2 23 rfl rfl
theorem dJ9_putCharsAt_0 : decode cJ9_putCharsAt 0 = .ok (.iload_n 1, 1) := dk_27 (dk_at dksJ9_putCharsAt_0 0 rfl rfl)
theorem dJ9_putCharsAt_1 : decode cJ9_putCharsAt 1 = .ok (.iconst 4, 1) := dk_7 (dk_at dksJ9_putCharsAt_0 1 rfl rfl)
theorem dJ9_putCharsAt_2 : decode cJ9_putCharsAt 2 = .ok (.iadd, 1) := dk_96 (dk_at dksJ9_putCharsAt_0 2 rfl rfl)
theorem dJ9_putCharsAt_3 : decode cJ9_putCharsAt 3 = .ok (.istore 6, 2) := dk_54 6 (dk_at dksJ9_putCharsAt_0 3 rfl rfl)
theorem dJ9_putCharsAt_5 : decode cJ9_putCharsAt 5 = .ok (.iload_n 1, 1) := dk_27 (dk_at dksJ9_putCharsAt_0 5 rfl rfl)
theorem dJ9_putCharsAt_6 : decode cJ9_putCharsAt 6 = .ok (.iload 6, 2) := dk_21 6 (dk_at dksJ9_putCharsAt_0 6 rfl rfl)
theorem dJ9_putCharsAt_8 : decode cJ9_putCharsAt 8 = .ok (.aload_n 0, 1) := dk_42 (dk_at dksJ9_putCharsAt_0 8 rfl rfl)
theorem dJ9_putCharsAt_9 : decode cJ9_putCharsAt 9 = .ok (.invokestatic 96, 3) := dk_184 0 96 (dk_at dksJ9_putCharsAt_0 9 rfl rfl)
theorem dJ9_putCharsAt_12 : decode cJ9_putCharsAt 12 = .ok (.aload_n 0, 1) := dk_42 (dk_at dksJ9_putCharsAt_0 12 rfl rfl)
theorem dJ9_putCharsAt_13 : decode cJ9_putCharsAt 13 = .ok (.iload_n 1, 1) := dk_27 (dk_at dksJ9_putCharsAt_0 13 rfl rfl)
theorem dJ9_putCharsAt_14 : decode cJ9_putCharsAt 14 = .ok (.iinc 1 1, 3) := dk_132 1 1 (dk_at dksJ9_putCharsAt_0 14 rfl rfl)
theorem dJ9_putCharsAt_17 : decode cJ9_putCharsAt 17 = .ok (.iload_n 2, 1) := dk_28 (dk_at dksJ9_putCharsAt_0 17 rfl rfl)
theorem dJ9_putCharsAt_18 : decode cJ9_putCharsAt 18 = .ok (.invokestatic 111, 3) := dk_184 0 111 (dk_at dksJ9_putCharsAt_0 18 rfl rfl)
theorem dJ9_putCharsAt_21 : decode cJ9_putCharsAt 21 = .ok (.aload_n 0, 1) := dk_42 (dk_at dksJ9_putCharsAt_0 21 rfl rfl)
theorem dJ9_putCharsAt_22 : decode cJ9_putCharsAt 22 = .ok (.iload_n 1, 1) := dk_27 (dk_at dksJ9_putCharsAt_0 22 rfl rfl)
theorem dJ9_putCharsAt_23 : decode cJ9_putCharsAt 23 = .ok (.iinc 1 1, 3) := dk_132 1 1 (dk_at dksJ9_putCharsAt_1 0 rfl rfl)
theorem dJ9_putCharsAt_26 : decode cJ9_putCharsAt 26 = .ok (.iload_n 3, 1) := dk_29 (dk_at dksJ9_putCharsAt_1 3 rfl rfl)
theorem dJ9_putCharsAt_27 : decode cJ9_putCharsAt 27 = .ok (.invokestatic 111, 3) := dk_184 0 111 (dk_at dksJ9_putCharsAt_1 4 rfl rfl)
theorem dJ9_putCharsAt_30 : decode cJ9_putCharsAt 30 = .ok (.aload_n 0, 1) := dk_42 (dk_at dksJ9_putCharsAt_1 7 rfl rfl)
theorem dJ9_putCharsAt_31 : decode cJ9_putCharsAt 31 = .ok (.iload_n 1, 1) := dk_27 (dk_at dksJ9_putCharsAt_1 8 rfl rfl)
theorem dJ9_putCharsAt_32 : decode cJ9_putCharsAt 32 = .ok (.iinc 1 1, 3) := dk_132 1 1 (dk_at dksJ9_putCharsAt_1 9 rfl rfl)
theorem dJ9_putCharsAt_35 : decode cJ9_putCharsAt 35 = .ok (.iload 4, 2) := dk_21 4 (dk_at dksJ9_putCharsAt_1 12 rfl rfl)
theorem dJ9_putCharsAt_37 : decode cJ9_putCharsAt 37 = .ok (.invokestatic 111, 3) := dk_184 0 111 (dk_at dksJ9_putCharsAt_1 14 rfl rfl)
theorem dJ9_putCharsAt_40 : decode cJ9_putCharsAt 40 = .ok (.aload_n 0, 1) := dk_42 (dk_at dksJ9_putCharsAt_1 17 rfl rfl)
theorem dJ9_putCharsAt_41 : decode cJ9_putCharsAt 41 = .ok (.iload_n 1, 1) := dk_27 (dk_at dksJ9_putCharsAt_1 18 rfl rfl)
theorem dJ9_putCharsAt_42 : decode cJ9_putCharsAt 42 = .ok (.iinc 1 1, 3) := dk_132 1 1 (dk_at dksJ9_putCharsAt_1 19 rfl rfl)
theorem dJ9_putCharsAt_45 : decode cJ9_putCharsAt 45 = .ok (.iload 5, 2) := dk_21 5 (dk_at dksJ9_putCharsAt_1 22 rfl rfl)
theorem dJ9_putCharsAt_47 : decode cJ9_putCharsAt 47 = .ok (.invokestatic 111, 3) := dk_184 0 111 (dk_at dksJ9_putCharsAt_2 0 rfl rfl)
theorem dJ9_putCharsAt_50 : decode cJ9_putCharsAt 50 = .ok (.getstatic 44, 3) := dk_178 0 44 (dk_at dksJ9_putCharsAt_2 3 rfl rfl)
theorem dJ9_putCharsAt_53 : decode cJ9_putCharsAt 53 = .ok (.ifCond .ne 17, 3) := dk_154 0 17 (dk_at dksJ9_putCharsAt_2 6 rfl rfl)
theorem dJ9_putCharsAt_56 : decode cJ9_putCharsAt 56 = .ok (.iload_n 1, 1) := dk_27 (dk_at dksJ9_putCharsAt_2 9 rfl rfl)
theorem dJ9_putCharsAt_57 : decode cJ9_putCharsAt 57 = .ok (.iload 6, 2) := dk_21 6 (dk_at dksJ9_putCharsAt_2 10 rfl rfl)
theorem dJ9_putCharsAt_59 : decode cJ9_putCharsAt 59 = .ok (.if_icmp .eq 11, 3) := dk_159 0 11 (dk_at dksJ9_putCharsAt_2 12 rfl rfl)
theorem dJ9_putCharsAt_62 : decode cJ9_putCharsAt 62 = .ok (.new 52, 3) := dk_187 0 52 (dk_at dksJ9_putCharsAt_2 15 rfl rfl)
theorem dJ9_putCharsAt_65 : decode cJ9_putCharsAt 65 = .ok (.dup, 1) := dk_89 (dk_at dksJ9_putCharsAt_2 18 rfl rfl)
theorem dJ9_putCharsAt_66 : decode cJ9_putCharsAt 66 = .ok (.invokespecial 66, 3) := dk_183 0 66 (dk_at dksJ9_putCharsAt_2 19 rfl rfl)
theorem dJ9_putCharsAt_69 : decode cJ9_putCharsAt 69 = .ok (.athrow, 1) := dk_191 (dk_at dksJ9_putCharsAt_2 22 rfl rfl)
theorem dJ9_putCharsAt_70 : decode cJ9_putCharsAt 70 = .ok (.iload 6, 2) := dk_21 6 (dk_at dksJ9_putCharsAt_3 0 rfl rfl)
theorem dJ9_putCharsAt_72 : decode cJ9_putCharsAt 72 = .ok (.ireturn, 1) := dk_172 (dk_at dksJ9_putCharsAt_3 2 rfl rfl)
abbrev cJ9_checkBoundsBeginEnd : ByteArray := prog_34_method_93_code
def yJ9_checkBoundsBeginEnd : MethodName := ⟨RJ9, "checkBoundsBeginEnd", "(II[B)V"⟩
def dkwJ9_checkBoundsBeginEnd_0 : List UInt8 := [26, 27, 44, 184, 0, 48, 184, 0, 241, 177]
abbrev dktJ9_checkBoundsBeginEnd_0 : List UInt8 := dkwJ9_checkBoundsBeginEnd_0 ++ []
theorem dksJ9_checkBoundsBeginEnd_0 : cJ9_checkBoundsBeginEnd.data.toList.drop 0 = dktJ9_checkBoundsBeginEnd_0 := by decide +kernel
theorem dJ9_checkBoundsBeginEnd_0 : decode cJ9_checkBoundsBeginEnd 0 = .ok (.iload_n 0, 1) := dk_26 (dk_at dksJ9_checkBoundsBeginEnd_0 0 rfl rfl)
theorem dJ9_checkBoundsBeginEnd_1 : decode cJ9_checkBoundsBeginEnd 1 = .ok (.iload_n 1, 1) := dk_27 (dk_at dksJ9_checkBoundsBeginEnd_0 1 rfl rfl)
theorem dJ9_checkBoundsBeginEnd_2 : decode cJ9_checkBoundsBeginEnd 2 = .ok (.aload_n 2, 1) := dk_44 (dk_at dksJ9_checkBoundsBeginEnd_0 2 rfl rfl)
theorem dJ9_checkBoundsBeginEnd_3 : decode cJ9_checkBoundsBeginEnd 3 = .ok (.invokestatic 48, 3) := dk_184 0 48 (dk_at dksJ9_checkBoundsBeginEnd_0 3 rfl rfl)
theorem dJ9_checkBoundsBeginEnd_6 : decode cJ9_checkBoundsBeginEnd 6 = .ok (.invokestatic 241, 3) := dk_184 0 241 (dk_at dksJ9_checkBoundsBeginEnd_0 6 rfl rfl)
theorem dJ9_checkBoundsBeginEnd_9 : decode cJ9_checkBoundsBeginEnd 9 = .ok (.return_, 1) := dk_177 (dk_at dksJ9_checkBoundsBeginEnd_0 9 rfl rfl)
abbrev cJ9_putChar : ByteArray := prog_34_method_4_code
def yJ9_putChar : MethodName := ⟨RJ9, "putChar", "([BII)V"⟩
def dkwJ9_putChar_2 : List UInt8 := [178, 0, 63, 122, 145, 84, 177]
abbrev dktJ9_putChar_2 : List UInt8 := dkwJ9_putChar_2 ++ []
def dkwJ9_putChar_1 : List UInt8 := [183, 0, 56, 191, 27, 4, 120, 60, 42, 27, 132, 1, 1, 28, 178, 0, 59, 122, 145, 84, 42, 27, 28]
abbrev dktJ9_putChar_1 : List UInt8 := dkwJ9_putChar_1 ++ dktJ9_putChar_2
def dkwJ9_putChar_0 : List UInt8 := [178, 0, 44, 154, 0, 25, 27, 155, 0, 11, 27, 42, 184, 0, 48, 161, 0, 13, 187, 0, 52, 89, 18, 54]
abbrev dktJ9_putChar_0 : List UInt8 := dkwJ9_putChar_0 ++ dktJ9_putChar_1
theorem dksJ9_putChar_0 : cJ9_putChar.data.toList.drop 0 = dktJ9_putChar_0 := by decide +kernel
theorem dksJ9_putChar_1 : cJ9_putChar.data.toList.drop 24 = dktJ9_putChar_1 := dk_seg dksJ9_putChar_0 24 rfl rfl
theorem dksJ9_putChar_2 : cJ9_putChar.data.toList.drop 47 = dktJ9_putChar_2 := dk_seg dksJ9_putChar_1 23 rfl rfl
theorem dJ9_putChar_0 : decode cJ9_putChar 0 = .ok (.getstatic 44, 3) := dk_178 0 44 (dk_at dksJ9_putChar_0 0 rfl rfl)
theorem dJ9_putChar_3 : decode cJ9_putChar 3 = .ok (.ifCond .ne 25, 3) := dk_154 0 25 (dk_at dksJ9_putChar_0 3 rfl rfl)
theorem dJ9_putChar_6 : decode cJ9_putChar 6 = .ok (.iload_n 1, 1) := dk_27 (dk_at dksJ9_putChar_0 6 rfl rfl)
theorem dJ9_putChar_7 : decode cJ9_putChar 7 = .ok (.ifCond .lt 11, 3) := dk_155 0 11 (dk_at dksJ9_putChar_0 7 rfl rfl)
theorem dJ9_putChar_10 : decode cJ9_putChar 10 = .ok (.iload_n 1, 1) := dk_27 (dk_at dksJ9_putChar_0 10 rfl rfl)
theorem dJ9_putChar_11 : decode cJ9_putChar 11 = .ok (.aload_n 0, 1) := dk_42 (dk_at dksJ9_putChar_0 11 rfl rfl)
theorem dJ9_putChar_12 : decode cJ9_putChar 12 = .ok (.invokestatic 48, 3) := dk_184 0 48 (dk_at dksJ9_putChar_0 12 rfl rfl)
theorem dJ9_putChar_15 : decode cJ9_putChar 15 = .ok (.if_icmp .lt 13, 3) := dk_161 0 13 (dk_at dksJ9_putChar_0 15 rfl rfl)
theorem dJ9_putChar_18 : decode cJ9_putChar 18 = .ok (.new 52, 3) := dk_187 0 52 (dk_at dksJ9_putChar_0 18 rfl rfl)
theorem dJ9_putChar_21 : decode cJ9_putChar 21 = .ok (.dup, 1) := dk_89 (dk_at dksJ9_putChar_0 21 rfl rfl)
theorem dJ9_putChar_22 : decode cJ9_putChar 22 = .ok (.ldc 54, 2) := dk_18 54 (dk_at dksJ9_putChar_0 22 rfl rfl)
theorem dJ9_putChar_24 : decode cJ9_putChar 24 = .ok (.invokespecial 56, 3) := dk_183 0 56 (dk_at dksJ9_putChar_1 0 rfl rfl)
theorem dJ9_putChar_27 : decode cJ9_putChar 27 = .ok (.athrow, 1) := dk_191 (dk_at dksJ9_putChar_1 3 rfl rfl)
theorem dJ9_putChar_28 : decode cJ9_putChar 28 = .ok (.iload_n 1, 1) := dk_27 (dk_at dksJ9_putChar_1 4 rfl rfl)
theorem dJ9_putChar_29 : decode cJ9_putChar 29 = .ok (.iconst 1, 1) := dk_4 (dk_at dksJ9_putChar_1 5 rfl rfl)
theorem dJ9_putChar_30 : decode cJ9_putChar 30 = .ok (.ishl, 1) := dk_120 (dk_at dksJ9_putChar_1 6 rfl rfl)
theorem dJ9_putChar_31 : decode cJ9_putChar 31 = .ok (.istore_n 1, 1) := dk_60 (dk_at dksJ9_putChar_1 7 rfl rfl)
theorem dJ9_putChar_32 : decode cJ9_putChar 32 = .ok (.aload_n 0, 1) := dk_42 (dk_at dksJ9_putChar_1 8 rfl rfl)
theorem dJ9_putChar_33 : decode cJ9_putChar 33 = .ok (.iload_n 1, 1) := dk_27 (dk_at dksJ9_putChar_1 9 rfl rfl)
theorem dJ9_putChar_34 : decode cJ9_putChar 34 = .ok (.iinc 1 1, 3) := dk_132 1 1 (dk_at dksJ9_putChar_1 10 rfl rfl)
theorem dJ9_putChar_37 : decode cJ9_putChar 37 = .ok (.iload_n 2, 1) := dk_28 (dk_at dksJ9_putChar_1 13 rfl rfl)
theorem dJ9_putChar_38 : decode cJ9_putChar 38 = .ok (.getstatic 59, 3) := dk_178 0 59 (dk_at dksJ9_putChar_1 14 rfl rfl)
theorem dJ9_putChar_41 : decode cJ9_putChar 41 = .ok (.ishr, 1) := dk_122 (dk_at dksJ9_putChar_1 17 rfl rfl)
theorem dJ9_putChar_42 : decode cJ9_putChar 42 = .ok (.i2b, 1) := dk_145 (dk_at dksJ9_putChar_1 18 rfl rfl)
theorem dJ9_putChar_43 : decode cJ9_putChar 43 = .ok (.bastore, 1) := dk_84 (dk_at dksJ9_putChar_1 19 rfl rfl)
theorem dJ9_putChar_44 : decode cJ9_putChar 44 = .ok (.aload_n 0, 1) := dk_42 (dk_at dksJ9_putChar_1 20 rfl rfl)
theorem dJ9_putChar_45 : decode cJ9_putChar 45 = .ok (.iload_n 1, 1) := dk_27 (dk_at dksJ9_putChar_1 21 rfl rfl)
theorem dJ9_putChar_46 : decode cJ9_putChar 46 = .ok (.iload_n 2, 1) := dk_28 (dk_at dksJ9_putChar_1 22 rfl rfl)
theorem dJ9_putChar_47 : decode cJ9_putChar 47 = .ok (.getstatic 63, 3) := dk_178 0 63 (dk_at dksJ9_putChar_2 0 rfl rfl)
theorem dJ9_putChar_50 : decode cJ9_putChar 50 = .ok (.ishr, 1) := dk_122 (dk_at dksJ9_putChar_2 3 rfl rfl)
theorem dJ9_putChar_51 : decode cJ9_putChar 51 = .ok (.i2b, 1) := dk_145 (dk_at dksJ9_putChar_2 4 rfl rfl)
theorem dJ9_putChar_52 : decode cJ9_putChar 52 = .ok (.bastore, 1) := dk_84 (dk_at dksJ9_putChar_2 5 rfl rfl)
theorem dJ9_putChar_53 : decode cJ9_putChar 53 = .ok (.return_, 1) := dk_177 (dk_at dksJ9_putChar_2 6 rfl rfl)
abbrev cJ9_inflate : ByteArray := prog_34_method_86_code
def yJ9_inflate : MethodName := ⟨RJ9, "inflate", "([BI[BII)V"⟩
def dkwJ9_inflate_1 : List UInt8 := [132, 1, 1, 51, 17, 0, 255, 126, 184, 0, 111, 132, 5, 1, 167, 255, 228, 177]
abbrev dktJ9_inflate_1 : List UInt8 := dkwJ9_inflate_1 ++ []
def dkwJ9_inflate_0 : List UInt8 := [29, 21, 4, 44, 184, 0, 173, 3, 54, 5, 21, 5, 21, 4, 162, 0, 27, 44, 29, 132, 3, 1, 42, 27]
abbrev dktJ9_inflate_0 : List UInt8 := dkwJ9_inflate_0 ++ dktJ9_inflate_1
theorem dksJ9_inflate_0 : cJ9_inflate.data.toList.drop 0 = dktJ9_inflate_0 := by decide +kernel
theorem dksJ9_inflate_1 : cJ9_inflate.data.toList.drop 24 = dktJ9_inflate_1 := dk_seg dksJ9_inflate_0 24 rfl rfl
theorem dJ9_inflate_0 : decode cJ9_inflate 0 = .ok (.iload_n 3, 1) := dk_29 (dk_at dksJ9_inflate_0 0 rfl rfl)
theorem dJ9_inflate_1 : decode cJ9_inflate 1 = .ok (.iload 4, 2) := dk_21 4 (dk_at dksJ9_inflate_0 1 rfl rfl)
theorem dJ9_inflate_3 : decode cJ9_inflate 3 = .ok (.aload_n 2, 1) := dk_44 (dk_at dksJ9_inflate_0 3 rfl rfl)
theorem dJ9_inflate_4 : decode cJ9_inflate 4 = .ok (.invokestatic 173, 3) := dk_184 0 173 (dk_at dksJ9_inflate_0 4 rfl rfl)
theorem dJ9_inflate_7 : decode cJ9_inflate 7 = .ok (.iconst 0, 1) := dk_3 (dk_at dksJ9_inflate_0 7 rfl rfl)
theorem dJ9_inflate_8 : decode cJ9_inflate 8 = .ok (.istore 5, 2) := dk_54 5 (dk_at dksJ9_inflate_0 8 rfl rfl)
theorem dJ9_inflate_10 : decode cJ9_inflate 10 = .ok (.iload 5, 2) := dk_21 5 (dk_at dksJ9_inflate_0 10 rfl rfl)
theorem dJ9_inflate_12 : decode cJ9_inflate 12 = .ok (.iload 4, 2) := dk_21 4 (dk_at dksJ9_inflate_0 12 rfl rfl)
theorem dJ9_inflate_14 : decode cJ9_inflate 14 = .ok (.if_icmp .ge 27, 3) := dk_162 0 27 (dk_at dksJ9_inflate_0 14 rfl rfl)
theorem dJ9_inflate_17 : decode cJ9_inflate 17 = .ok (.aload_n 2, 1) := dk_44 (dk_at dksJ9_inflate_0 17 rfl rfl)
theorem dJ9_inflate_18 : decode cJ9_inflate 18 = .ok (.iload_n 3, 1) := dk_29 (dk_at dksJ9_inflate_0 18 rfl rfl)
theorem dJ9_inflate_19 : decode cJ9_inflate 19 = .ok (.iinc 3 1, 3) := dk_132 3 1 (dk_at dksJ9_inflate_0 19 rfl rfl)
theorem dJ9_inflate_22 : decode cJ9_inflate 22 = .ok (.aload_n 0, 1) := dk_42 (dk_at dksJ9_inflate_0 22 rfl rfl)
theorem dJ9_inflate_23 : decode cJ9_inflate 23 = .ok (.iload_n 1, 1) := dk_27 (dk_at dksJ9_inflate_0 23 rfl rfl)
theorem dJ9_inflate_24 : decode cJ9_inflate 24 = .ok (.iinc 1 1, 3) := dk_132 1 1 (dk_at dksJ9_inflate_1 0 rfl rfl)
theorem dJ9_inflate_27 : decode cJ9_inflate 27 = .ok (.baload, 1) := dk_51 (dk_at dksJ9_inflate_1 3 rfl rfl)
theorem dJ9_inflate_28 : decode cJ9_inflate 28 = .ok (.sipush 255, 3) := dk_17 0 255 (dk_at dksJ9_inflate_1 4 rfl rfl)
theorem dJ9_inflate_31 : decode cJ9_inflate 31 = .ok (.iand, 1) := dk_126 (dk_at dksJ9_inflate_1 7 rfl rfl)
theorem dJ9_inflate_32 : decode cJ9_inflate 32 = .ok (.invokestatic 111, 3) := dk_184 0 111 (dk_at dksJ9_inflate_1 8 rfl rfl)
theorem dJ9_inflate_35 : decode cJ9_inflate 35 = .ok (.iinc 5 1, 3) := dk_132 5 1 (dk_at dksJ9_inflate_1 11 rfl rfl)
theorem dJ9_inflate_38 : decode cJ9_inflate 38 = .ok (.goto (-28), 3) := dk_167 255 228 (dk_at dksJ9_inflate_1 14 rfl rfl)
theorem dJ9_inflate_41 : decode cJ9_inflate 41 = .ok (.return_, 1) := dk_177 (dk_at dksJ9_inflate_1 17 rfl rfl)
abbrev cJ9_checkBoundsOffCount : ByteArray := prog_34_method_94_code
def yJ9_checkBoundsOffCount : MethodName := ⟨RJ9, "checkBoundsOffCount", "(II[B)V"⟩
def dkwJ9_checkBoundsOffCount_0 : List UInt8 := [26, 27, 44, 184, 0, 48, 184, 1, 163, 87, 177]
abbrev dktJ9_checkBoundsOffCount_0 : List UInt8 := dkwJ9_checkBoundsOffCount_0 ++ []
theorem dksJ9_checkBoundsOffCount_0 : cJ9_checkBoundsOffCount.data.toList.drop 0 = dktJ9_checkBoundsOffCount_0 := by decide +kernel
theorem dJ9_checkBoundsOffCount_0 : decode cJ9_checkBoundsOffCount 0 = .ok (.iload_n 0, 1) := dk_26 (dk_at dksJ9_checkBoundsOffCount_0 0 rfl rfl)
theorem dJ9_checkBoundsOffCount_1 : decode cJ9_checkBoundsOffCount 1 = .ok (.iload_n 1, 1) := dk_27 (dk_at dksJ9_checkBoundsOffCount_0 1 rfl rfl)
theorem dJ9_checkBoundsOffCount_2 : decode cJ9_checkBoundsOffCount 2 = .ok (.aload_n 2, 1) := dk_44 (dk_at dksJ9_checkBoundsOffCount_0 2 rfl rfl)
theorem dJ9_checkBoundsOffCount_3 : decode cJ9_checkBoundsOffCount 3 = .ok (.invokestatic 48, 3) := dk_184 0 48 (dk_at dksJ9_checkBoundsOffCount_0 3 rfl rfl)
theorem dJ9_checkBoundsOffCount_6 : decode cJ9_checkBoundsOffCount 6 = .ok (.invokestatic 419, 3) := dk_184 1 163 (dk_at dksJ9_checkBoundsOffCount_0 6 rfl rfl)
theorem dJ9_checkBoundsOffCount_9 : decode cJ9_checkBoundsOffCount 9 = .ok (.pop, 1) := dk_87 (dk_at dksJ9_checkBoundsOffCount_0 9 rfl rfl)
theorem dJ9_checkBoundsOffCount_10 : decode cJ9_checkBoundsOffCount 10 = .ok (.return_, 1) := dk_177 (dk_at dksJ9_checkBoundsOffCount_0 10 rfl rfl)
abbrev cJ9_getChars : ByteArray := prog_34_method_77_code
def yJ9_getChars : MethodName := ⟨RJ9, "getChars", "(III[B)I"⟩
def dkwJ9_getChars_1 : List UInt8 := [159, 0, 11, 187, 0, 52, 89, 183, 0, 66, 191, 21, 4, 172]
abbrev dktJ9_getChars_1 : List UInt8 := dkwJ9_getChars_1 ++ []
def dkwJ9_getChars_0 : List UInt8 := [27, 28, 45, 184, 0, 96, 26, 28, 45, 184, 1, 137, 54, 4, 178, 0, 44, 154, 0, 17, 27, 21, 4]
abbrev dktJ9_getChars_0 : List UInt8 := dkwJ9_getChars_0 ++ dktJ9_getChars_1
theorem dksJ9_getChars_0 : cJ9_getChars.data.toList.drop 0 = dktJ9_getChars_0 := by decide +kernel
theorem dksJ9_getChars_1 : cJ9_getChars.data.toList.drop 23 = dktJ9_getChars_1 := dk_seg dksJ9_getChars_0 23 rfl rfl
theorem dJ9_getChars_0 : decode cJ9_getChars 0 = .ok (.iload_n 1, 1) := dk_27 (dk_at dksJ9_getChars_0 0 rfl rfl)
theorem dJ9_getChars_1 : decode cJ9_getChars 1 = .ok (.iload_n 2, 1) := dk_28 (dk_at dksJ9_getChars_0 1 rfl rfl)
theorem dJ9_getChars_2 : decode cJ9_getChars 2 = .ok (.aload_n 3, 1) := dk_45 (dk_at dksJ9_getChars_0 2 rfl rfl)
theorem dJ9_getChars_3 : decode cJ9_getChars 3 = .ok (.invokestatic 96, 3) := dk_184 0 96 (dk_at dksJ9_getChars_0 3 rfl rfl)
theorem dJ9_getChars_6 : decode cJ9_getChars 6 = .ok (.iload_n 0, 1) := dk_26 (dk_at dksJ9_getChars_0 6 rfl rfl)
theorem dJ9_getChars_7 : decode cJ9_getChars 7 = .ok (.iload_n 2, 1) := dk_28 (dk_at dksJ9_getChars_0 7 rfl rfl)
theorem dJ9_getChars_8 : decode cJ9_getChars 8 = .ok (.aload_n 3, 1) := dk_45 (dk_at dksJ9_getChars_0 8 rfl rfl)
theorem dJ9_getChars_9 : decode cJ9_getChars 9 = .ok (.invokestatic 393, 3) := dk_184 1 137 (dk_at dksJ9_getChars_0 9 rfl rfl)
theorem dJ9_getChars_12 : decode cJ9_getChars 12 = .ok (.istore 4, 2) := dk_54 4 (dk_at dksJ9_getChars_0 12 rfl rfl)
theorem dJ9_getChars_14 : decode cJ9_getChars 14 = .ok (.getstatic 44, 3) := dk_178 0 44 (dk_at dksJ9_getChars_0 14 rfl rfl)
theorem dJ9_getChars_17 : decode cJ9_getChars 17 = .ok (.ifCond .ne 17, 3) := dk_154 0 17 (dk_at dksJ9_getChars_0 17 rfl rfl)
theorem dJ9_getChars_20 : decode cJ9_getChars 20 = .ok (.iload_n 1, 1) := dk_27 (dk_at dksJ9_getChars_0 20 rfl rfl)
theorem dJ9_getChars_21 : decode cJ9_getChars 21 = .ok (.iload 4, 2) := dk_21 4 (dk_at dksJ9_getChars_0 21 rfl rfl)
theorem dJ9_getChars_23 : decode cJ9_getChars 23 = .ok (.if_icmp .eq 11, 3) := dk_159 0 11 (dk_at dksJ9_getChars_1 0 rfl rfl)
theorem dJ9_getChars_26 : decode cJ9_getChars 26 = .ok (.new 52, 3) := dk_187 0 52 (dk_at dksJ9_getChars_1 3 rfl rfl)
theorem dJ9_getChars_29 : decode cJ9_getChars 29 = .ok (.dup, 1) := dk_89 (dk_at dksJ9_getChars_1 6 rfl rfl)
theorem dJ9_getChars_30 : decode cJ9_getChars 30 = .ok (.invokespecial 66, 3) := dk_183 0 66 (dk_at dksJ9_getChars_1 7 rfl rfl)
theorem dJ9_getChars_33 : decode cJ9_getChars 33 = .ok (.athrow, 1) := dk_191 (dk_at dksJ9_getChars_1 10 rfl rfl)
theorem dJ9_getChars_34 : decode cJ9_getChars 34 = .ok (.iload 4, 2) := dk_21 4 (dk_at dksJ9_getChars_1 11 rfl rfl)
theorem dJ9_getChars_36 : decode cJ9_getChars 36 = .ok (.ireturn, 1) := dk_172 (dk_at dksJ9_getChars_1 13 rfl rfl)
abbrev cJ9_getChars_2 : ByteArray := prog_34_method_89_code
def yJ9_getChars_2 : MethodName := ⟨RJ9, "getChars", "(II[B)I"⟩
def dkwJ9_getChars_2_5 : List UInt8 := [132, 5, 255, 21, 5, 16, 45, 184, 0, 111, 21, 5, 172]
abbrev dktJ9_getChars_2_5 : List UInt8 := dkwJ9_getChars_2_5 ++ []
def dkwJ9_getChars_2_4 : List UInt8 := [162, 0, 18, 44, 132, 5, 255, 21, 5, 178, 1, 151, 26, 116, 51, 184, 0, 111, 21, 6, 153, 0, 14, 44]
abbrev dktJ9_getChars_2_4 : List UInt8 := dkwJ9_getChars_2_4 ++ dktJ9_getChars_2_5
def dkwJ9_getChars_2_3 : List UInt8 := [184, 0, 111, 167, 255, 205, 44, 132, 5, 255, 21, 5, 178, 1, 147, 26, 116, 51, 184, 0, 111, 26, 16, 247]
abbrev dktJ9_getChars_2_3 : List UInt8 := dkwJ9_getChars_2_3 ++ dktJ9_getChars_2_4
def dkwJ9_getChars_2_2 : List UInt8 := [21, 5, 178, 1, 147, 21, 4, 51, 184, 0, 111, 44, 132, 5, 255, 21, 5, 178, 1, 151, 21, 4, 51]
abbrev dktJ9_getChars_2_2 : List UInt8 := dkwJ9_getChars_2_2 ++ dktJ9_getChars_2_3
def dkwJ9_getChars_2_1 : List UInt8 := [16, 156, 163, 0, 51, 26, 16, 100, 108, 62, 29, 16, 100, 104, 26, 100, 54, 4, 29, 59, 44, 132, 5, 255]
abbrev dktJ9_getChars_2_1 : List UInt8 := dkwJ9_getChars_2_1 ++ dktJ9_getChars_2_2
def dkwJ9_getChars_2_0 : List UInt8 := [27, 54, 5, 26, 156, 0, 7, 4, 167, 0, 4, 3, 54, 6, 21, 6, 154, 0, 6, 26, 116, 59, 26]
abbrev dktJ9_getChars_2_0 : List UInt8 := dkwJ9_getChars_2_0 ++ dktJ9_getChars_2_1
theorem dksJ9_getChars_2_0 : cJ9_getChars_2.data.toList.drop 0 = dktJ9_getChars_2_0 := by decide +kernel
theorem dksJ9_getChars_2_1 : cJ9_getChars_2.data.toList.drop 23 = dktJ9_getChars_2_1 := dk_seg dksJ9_getChars_2_0 23 rfl rfl
theorem dksJ9_getChars_2_2 : cJ9_getChars_2.data.toList.drop 47 = dktJ9_getChars_2_2 := dk_seg dksJ9_getChars_2_1 24 rfl rfl
theorem dksJ9_getChars_2_3 : cJ9_getChars_2.data.toList.drop 70 = dktJ9_getChars_2_3 := dk_seg dksJ9_getChars_2_2 23 rfl rfl
theorem dksJ9_getChars_2_4 : cJ9_getChars_2.data.toList.drop 94 = dktJ9_getChars_2_4 := dk_seg dksJ9_getChars_2_3 24 rfl rfl
theorem dksJ9_getChars_2_5 : cJ9_getChars_2.data.toList.drop 118 = dktJ9_getChars_2_5 := dk_seg dksJ9_getChars_2_4 24 rfl rfl
theorem dJ9_getChars_2_0 : decode cJ9_getChars_2 0 = .ok (.iload_n 1, 1) := dk_27 (dk_at dksJ9_getChars_2_0 0 rfl rfl)
theorem dJ9_getChars_2_1 : decode cJ9_getChars_2 1 = .ok (.istore 5, 2) := dk_54 5 (dk_at dksJ9_getChars_2_0 1 rfl rfl)
theorem dJ9_getChars_2_3 : decode cJ9_getChars_2 3 = .ok (.iload_n 0, 1) := dk_26 (dk_at dksJ9_getChars_2_0 3 rfl rfl)
theorem dJ9_getChars_2_4 : decode cJ9_getChars_2 4 = .ok (.ifCond .ge 7, 3) := dk_156 0 7 (dk_at dksJ9_getChars_2_0 4 rfl rfl)
theorem dJ9_getChars_2_7 : decode cJ9_getChars_2 7 = .ok (.iconst 1, 1) := dk_4 (dk_at dksJ9_getChars_2_0 7 rfl rfl)
theorem dJ9_getChars_2_8 : decode cJ9_getChars_2 8 = .ok (.goto 4, 3) := dk_167 0 4 (dk_at dksJ9_getChars_2_0 8 rfl rfl)
theorem dJ9_getChars_2_11 : decode cJ9_getChars_2 11 = .ok (.iconst 0, 1) := dk_3 (dk_at dksJ9_getChars_2_0 11 rfl rfl)
theorem dJ9_getChars_2_12 : decode cJ9_getChars_2 12 = .ok (.istore 6, 2) := dk_54 6 (dk_at dksJ9_getChars_2_0 12 rfl rfl)
theorem dJ9_getChars_2_14 : decode cJ9_getChars_2 14 = .ok (.iload 6, 2) := dk_21 6 (dk_at dksJ9_getChars_2_0 14 rfl rfl)
theorem dJ9_getChars_2_16 : decode cJ9_getChars_2 16 = .ok (.ifCond .ne 6, 3) := dk_154 0 6 (dk_at dksJ9_getChars_2_0 16 rfl rfl)
theorem dJ9_getChars_2_19 : decode cJ9_getChars_2 19 = .ok (.iload_n 0, 1) := dk_26 (dk_at dksJ9_getChars_2_0 19 rfl rfl)
theorem dJ9_getChars_2_20 : decode cJ9_getChars_2 20 = .ok (.ineg, 1) := dk_116 (dk_at dksJ9_getChars_2_0 20 rfl rfl)
theorem dJ9_getChars_2_21 : decode cJ9_getChars_2 21 = .ok (.istore_n 0, 1) := dk_59 (dk_at dksJ9_getChars_2_0 21 rfl rfl)
theorem dJ9_getChars_2_22 : decode cJ9_getChars_2 22 = .ok (.iload_n 0, 1) := dk_26 (dk_at dksJ9_getChars_2_0 22 rfl rfl)
theorem dJ9_getChars_2_23 : decode cJ9_getChars_2 23 = .ok (.bipush (-100), 2) := dk_16 156 (dk_at dksJ9_getChars_2_1 0 rfl rfl)
theorem dJ9_getChars_2_25 : decode cJ9_getChars_2 25 = .ok (.if_icmp .gt 51, 3) := dk_163 0 51 (dk_at dksJ9_getChars_2_1 2 rfl rfl)
theorem dJ9_getChars_2_28 : decode cJ9_getChars_2 28 = .ok (.iload_n 0, 1) := dk_26 (dk_at dksJ9_getChars_2_1 5 rfl rfl)
theorem dJ9_getChars_2_29 : decode cJ9_getChars_2 29 = .ok (.bipush 100, 2) := dk_16 100 (dk_at dksJ9_getChars_2_1 6 rfl rfl)
theorem dJ9_getChars_2_31 : decode cJ9_getChars_2 31 = .ok (.idiv, 1) := dk_108 (dk_at dksJ9_getChars_2_1 8 rfl rfl)
theorem dJ9_getChars_2_32 : decode cJ9_getChars_2 32 = .ok (.istore_n 3, 1) := dk_62 (dk_at dksJ9_getChars_2_1 9 rfl rfl)
theorem dJ9_getChars_2_33 : decode cJ9_getChars_2 33 = .ok (.iload_n 3, 1) := dk_29 (dk_at dksJ9_getChars_2_1 10 rfl rfl)
theorem dJ9_getChars_2_34 : decode cJ9_getChars_2 34 = .ok (.bipush 100, 2) := dk_16 100 (dk_at dksJ9_getChars_2_1 11 rfl rfl)
theorem dJ9_getChars_2_36 : decode cJ9_getChars_2 36 = .ok (.imul, 1) := dk_104 (dk_at dksJ9_getChars_2_1 13 rfl rfl)
theorem dJ9_getChars_2_37 : decode cJ9_getChars_2 37 = .ok (.iload_n 0, 1) := dk_26 (dk_at dksJ9_getChars_2_1 14 rfl rfl)
theorem dJ9_getChars_2_38 : decode cJ9_getChars_2 38 = .ok (.isub, 1) := dk_100 (dk_at dksJ9_getChars_2_1 15 rfl rfl)
theorem dJ9_getChars_2_39 : decode cJ9_getChars_2 39 = .ok (.istore 4, 2) := dk_54 4 (dk_at dksJ9_getChars_2_1 16 rfl rfl)
theorem dJ9_getChars_2_41 : decode cJ9_getChars_2 41 = .ok (.iload_n 3, 1) := dk_29 (dk_at dksJ9_getChars_2_1 18 rfl rfl)
theorem dJ9_getChars_2_42 : decode cJ9_getChars_2 42 = .ok (.istore_n 0, 1) := dk_59 (dk_at dksJ9_getChars_2_1 19 rfl rfl)
theorem dJ9_getChars_2_43 : decode cJ9_getChars_2 43 = .ok (.aload_n 2, 1) := dk_44 (dk_at dksJ9_getChars_2_1 20 rfl rfl)
theorem dJ9_getChars_2_44 : decode cJ9_getChars_2 44 = .ok (.iinc 5 (-1), 3) := dk_132 5 255 (dk_at dksJ9_getChars_2_1 21 rfl rfl)
theorem dJ9_getChars_2_47 : decode cJ9_getChars_2 47 = .ok (.iload 5, 2) := dk_21 5 (dk_at dksJ9_getChars_2_2 0 rfl rfl)
theorem dJ9_getChars_2_49 : decode cJ9_getChars_2 49 = .ok (.getstatic 403, 3) := dk_178 1 147 (dk_at dksJ9_getChars_2_2 2 rfl rfl)
theorem dJ9_getChars_2_52 : decode cJ9_getChars_2 52 = .ok (.iload 4, 2) := dk_21 4 (dk_at dksJ9_getChars_2_2 5 rfl rfl)
theorem dJ9_getChars_2_54 : decode cJ9_getChars_2 54 = .ok (.baload, 1) := dk_51 (dk_at dksJ9_getChars_2_2 7 rfl rfl)
theorem dJ9_getChars_2_55 : decode cJ9_getChars_2 55 = .ok (.invokestatic 111, 3) := dk_184 0 111 (dk_at dksJ9_getChars_2_2 8 rfl rfl)
theorem dJ9_getChars_2_58 : decode cJ9_getChars_2 58 = .ok (.aload_n 2, 1) := dk_44 (dk_at dksJ9_getChars_2_2 11 rfl rfl)
theorem dJ9_getChars_2_59 : decode cJ9_getChars_2 59 = .ok (.iinc 5 (-1), 3) := dk_132 5 255 (dk_at dksJ9_getChars_2_2 12 rfl rfl)
theorem dJ9_getChars_2_62 : decode cJ9_getChars_2 62 = .ok (.iload 5, 2) := dk_21 5 (dk_at dksJ9_getChars_2_2 15 rfl rfl)
theorem dJ9_getChars_2_64 : decode cJ9_getChars_2 64 = .ok (.getstatic 407, 3) := dk_178 1 151 (dk_at dksJ9_getChars_2_2 17 rfl rfl)
theorem dJ9_getChars_2_67 : decode cJ9_getChars_2 67 = .ok (.iload 4, 2) := dk_21 4 (dk_at dksJ9_getChars_2_2 20 rfl rfl)
theorem dJ9_getChars_2_69 : decode cJ9_getChars_2 69 = .ok (.baload, 1) := dk_51 (dk_at dksJ9_getChars_2_2 22 rfl rfl)
theorem dJ9_getChars_2_70 : decode cJ9_getChars_2 70 = .ok (.invokestatic 111, 3) := dk_184 0 111 (dk_at dksJ9_getChars_2_3 0 rfl rfl)
theorem dJ9_getChars_2_73 : decode cJ9_getChars_2 73 = .ok (.goto (-51), 3) := dk_167 255 205 (dk_at dksJ9_getChars_2_3 3 rfl rfl)
theorem dJ9_getChars_2_76 : decode cJ9_getChars_2 76 = .ok (.aload_n 2, 1) := dk_44 (dk_at dksJ9_getChars_2_3 6 rfl rfl)
theorem dJ9_getChars_2_77 : decode cJ9_getChars_2 77 = .ok (.iinc 5 (-1), 3) := dk_132 5 255 (dk_at dksJ9_getChars_2_3 7 rfl rfl)
theorem dJ9_getChars_2_80 : decode cJ9_getChars_2 80 = .ok (.iload 5, 2) := dk_21 5 (dk_at dksJ9_getChars_2_3 10 rfl rfl)
theorem dJ9_getChars_2_82 : decode cJ9_getChars_2 82 = .ok (.getstatic 403, 3) := dk_178 1 147 (dk_at dksJ9_getChars_2_3 12 rfl rfl)
theorem dJ9_getChars_2_85 : decode cJ9_getChars_2 85 = .ok (.iload_n 0, 1) := dk_26 (dk_at dksJ9_getChars_2_3 15 rfl rfl)
theorem dJ9_getChars_2_86 : decode cJ9_getChars_2 86 = .ok (.ineg, 1) := dk_116 (dk_at dksJ9_getChars_2_3 16 rfl rfl)
theorem dJ9_getChars_2_87 : decode cJ9_getChars_2 87 = .ok (.baload, 1) := dk_51 (dk_at dksJ9_getChars_2_3 17 rfl rfl)
theorem dJ9_getChars_2_88 : decode cJ9_getChars_2 88 = .ok (.invokestatic 111, 3) := dk_184 0 111 (dk_at dksJ9_getChars_2_3 18 rfl rfl)
theorem dJ9_getChars_2_91 : decode cJ9_getChars_2 91 = .ok (.iload_n 0, 1) := dk_26 (dk_at dksJ9_getChars_2_3 21 rfl rfl)
theorem dJ9_getChars_2_92 : decode cJ9_getChars_2 92 = .ok (.bipush (-9), 2) := dk_16 247 (dk_at dksJ9_getChars_2_3 22 rfl rfl)
theorem dJ9_getChars_2_94 : decode cJ9_getChars_2 94 = .ok (.if_icmp .ge 18, 3) := dk_162 0 18 (dk_at dksJ9_getChars_2_4 0 rfl rfl)
theorem dJ9_getChars_2_97 : decode cJ9_getChars_2 97 = .ok (.aload_n 2, 1) := dk_44 (dk_at dksJ9_getChars_2_4 3 rfl rfl)
theorem dJ9_getChars_2_98 : decode cJ9_getChars_2 98 = .ok (.iinc 5 (-1), 3) := dk_132 5 255 (dk_at dksJ9_getChars_2_4 4 rfl rfl)
theorem dJ9_getChars_2_101 : decode cJ9_getChars_2 101 = .ok (.iload 5, 2) := dk_21 5 (dk_at dksJ9_getChars_2_4 7 rfl rfl)
theorem dJ9_getChars_2_103 : decode cJ9_getChars_2 103 = .ok (.getstatic 407, 3) := dk_178 1 151 (dk_at dksJ9_getChars_2_4 9 rfl rfl)
theorem dJ9_getChars_2_106 : decode cJ9_getChars_2 106 = .ok (.iload_n 0, 1) := dk_26 (dk_at dksJ9_getChars_2_4 12 rfl rfl)
theorem dJ9_getChars_2_107 : decode cJ9_getChars_2 107 = .ok (.ineg, 1) := dk_116 (dk_at dksJ9_getChars_2_4 13 rfl rfl)
theorem dJ9_getChars_2_108 : decode cJ9_getChars_2 108 = .ok (.baload, 1) := dk_51 (dk_at dksJ9_getChars_2_4 14 rfl rfl)
theorem dJ9_getChars_2_109 : decode cJ9_getChars_2 109 = .ok (.invokestatic 111, 3) := dk_184 0 111 (dk_at dksJ9_getChars_2_4 15 rfl rfl)
theorem dJ9_getChars_2_112 : decode cJ9_getChars_2 112 = .ok (.iload 6, 2) := dk_21 6 (dk_at dksJ9_getChars_2_4 18 rfl rfl)
theorem dJ9_getChars_2_114 : decode cJ9_getChars_2 114 = .ok (.ifCond .eq 14, 3) := dk_153 0 14 (dk_at dksJ9_getChars_2_4 20 rfl rfl)
theorem dJ9_getChars_2_117 : decode cJ9_getChars_2 117 = .ok (.aload_n 2, 1) := dk_44 (dk_at dksJ9_getChars_2_4 23 rfl rfl)
theorem dJ9_getChars_2_118 : decode cJ9_getChars_2 118 = .ok (.iinc 5 (-1), 3) := dk_132 5 255 (dk_at dksJ9_getChars_2_5 0 rfl rfl)
theorem dJ9_getChars_2_121 : decode cJ9_getChars_2 121 = .ok (.iload 5, 2) := dk_21 5 (dk_at dksJ9_getChars_2_5 3 rfl rfl)
theorem dJ9_getChars_2_123 : decode cJ9_getChars_2 123 = .ok (.bipush 45, 2) := dk_16 45 (dk_at dksJ9_getChars_2_5 5 rfl rfl)
theorem dJ9_getChars_2_125 : decode cJ9_getChars_2 125 = .ok (.invokestatic 111, 3) := dk_184 0 111 (dk_at dksJ9_getChars_2_5 7 rfl rfl)
theorem dJ9_getChars_2_128 : decode cJ9_getChars_2 128 = .ok (.iload 5, 2) := dk_21 5 (dk_at dksJ9_getChars_2_5 10 rfl rfl)
theorem dJ9_getChars_2_130 : decode cJ9_getChars_2 130 = .ok (.ireturn, 1) := dk_172 (dk_at dksJ9_getChars_2_5 12 rfl rfl)
abbrev cJ9_compress : ByteArray := prog_34_method_17_code
def yJ9_compress : MethodName := ⟨RJ9, "compress", "([BII)[B"⟩
def dkwJ9_compress_2 : List UInt8 := [25, 5, 3, 45, 3, 28, 184, 0, 123, 28, 159, 0, 6, 25, 5, 176, 45, 176]
abbrev dktJ9_compress_2 : List UInt8 := dkwJ9_compress_2 ++ []
def dkwJ9_compress_1 : List UInt8 := [27, 28, 96, 184, 0, 11, 184, 0, 126, 58, 5, 25, 5, 21, 4, 184, 0, 71, 17, 0, 255, 163, 0, 16]
abbrev dktJ9_compress_1 : List UInt8 := dkwJ9_compress_1 ++ dktJ9_compress_2
def dkwJ9_compress_0 : List UInt8 := [28, 188, 8, 78, 42, 27, 45, 3, 28, 184, 0, 123, 54, 4, 21, 4, 28, 159, 0, 47, 42, 27, 4, 120]
abbrev dktJ9_compress_0 : List UInt8 := dkwJ9_compress_0 ++ dktJ9_compress_1
theorem dksJ9_compress_0 : cJ9_compress.data.toList.drop 0 = dktJ9_compress_0 := by decide +kernel
theorem dksJ9_compress_1 : cJ9_compress.data.toList.drop 24 = dktJ9_compress_1 := dk_seg dksJ9_compress_0 24 rfl rfl
theorem dksJ9_compress_2 : cJ9_compress.data.toList.drop 48 = dktJ9_compress_2 := dk_seg dksJ9_compress_1 24 rfl rfl
theorem dJ9_compress_0 : decode cJ9_compress 0 = .ok (.iload_n 2, 1) := dk_28 (dk_at dksJ9_compress_0 0 rfl rfl)
theorem dJ9_compress_1 : decode cJ9_compress 1 = .ok (.newarray .byte, 2) := dk_188_8 (dk_at dksJ9_compress_0 1 rfl rfl)
theorem dJ9_compress_3 : decode cJ9_compress 3 = .ok (.astore_n 3, 1) := dk_78 (dk_at dksJ9_compress_0 3 rfl rfl)
theorem dJ9_compress_4 : decode cJ9_compress 4 = .ok (.aload_n 0, 1) := dk_42 (dk_at dksJ9_compress_0 4 rfl rfl)
theorem dJ9_compress_5 : decode cJ9_compress 5 = .ok (.iload_n 1, 1) := dk_27 (dk_at dksJ9_compress_0 5 rfl rfl)
theorem dJ9_compress_6 : decode cJ9_compress 6 = .ok (.aload_n 3, 1) := dk_45 (dk_at dksJ9_compress_0 6 rfl rfl)
theorem dJ9_compress_7 : decode cJ9_compress 7 = .ok (.iconst 0, 1) := dk_3 (dk_at dksJ9_compress_0 7 rfl rfl)
theorem dJ9_compress_8 : decode cJ9_compress 8 = .ok (.iload_n 2, 1) := dk_28 (dk_at dksJ9_compress_0 8 rfl rfl)
theorem dJ9_compress_9 : decode cJ9_compress 9 = .ok (.invokestatic 123, 3) := dk_184 0 123 (dk_at dksJ9_compress_0 9 rfl rfl)
theorem dJ9_compress_12 : decode cJ9_compress 12 = .ok (.istore 4, 2) := dk_54 4 (dk_at dksJ9_compress_0 12 rfl rfl)
theorem dJ9_compress_14 : decode cJ9_compress 14 = .ok (.iload 4, 2) := dk_21 4 (dk_at dksJ9_compress_0 14 rfl rfl)
theorem dJ9_compress_16 : decode cJ9_compress 16 = .ok (.iload_n 2, 1) := dk_28 (dk_at dksJ9_compress_0 16 rfl rfl)
theorem dJ9_compress_17 : decode cJ9_compress 17 = .ok (.if_icmp .eq 47, 3) := dk_159 0 47 (dk_at dksJ9_compress_0 17 rfl rfl)
theorem dJ9_compress_20 : decode cJ9_compress 20 = .ok (.aload_n 0, 1) := dk_42 (dk_at dksJ9_compress_0 20 rfl rfl)
theorem dJ9_compress_21 : decode cJ9_compress 21 = .ok (.iload_n 1, 1) := dk_27 (dk_at dksJ9_compress_0 21 rfl rfl)
theorem dJ9_compress_22 : decode cJ9_compress 22 = .ok (.iconst 1, 1) := dk_4 (dk_at dksJ9_compress_0 22 rfl rfl)
theorem dJ9_compress_23 : decode cJ9_compress 23 = .ok (.ishl, 1) := dk_120 (dk_at dksJ9_compress_0 23 rfl rfl)
theorem dJ9_compress_24 : decode cJ9_compress 24 = .ok (.iload_n 1, 1) := dk_27 (dk_at dksJ9_compress_1 0 rfl rfl)
theorem dJ9_compress_25 : decode cJ9_compress 25 = .ok (.iload_n 2, 1) := dk_28 (dk_at dksJ9_compress_1 1 rfl rfl)
theorem dJ9_compress_26 : decode cJ9_compress 26 = .ok (.iadd, 1) := dk_96 (dk_at dksJ9_compress_1 2 rfl rfl)
theorem dJ9_compress_27 : decode cJ9_compress 27 = .ok (.invokestatic 11, 3) := dk_184 0 11 (dk_at dksJ9_compress_1 3 rfl rfl)
theorem dJ9_compress_30 : decode cJ9_compress 30 = .ok (.invokestatic 126, 3) := dk_184 0 126 (dk_at dksJ9_compress_1 6 rfl rfl)
theorem dJ9_compress_33 : decode cJ9_compress 33 = .ok (.astore 5, 2) := dk_58 5 (dk_at dksJ9_compress_1 9 rfl rfl)
theorem dJ9_compress_35 : decode cJ9_compress 35 = .ok (.aload 5, 2) := dk_25 5 (dk_at dksJ9_compress_1 11 rfl rfl)
theorem dJ9_compress_37 : decode cJ9_compress 37 = .ok (.iload 4, 2) := dk_21 4 (dk_at dksJ9_compress_1 13 rfl rfl)
theorem dJ9_compress_39 : decode cJ9_compress 39 = .ok (.invokestatic 71, 3) := dk_184 0 71 (dk_at dksJ9_compress_1 15 rfl rfl)
theorem dJ9_compress_42 : decode cJ9_compress 42 = .ok (.sipush 255, 3) := dk_17 0 255 (dk_at dksJ9_compress_1 18 rfl rfl)
theorem dJ9_compress_45 : decode cJ9_compress 45 = .ok (.if_icmp .gt 16, 3) := dk_163 0 16 (dk_at dksJ9_compress_1 21 rfl rfl)
theorem dJ9_compress_48 : decode cJ9_compress 48 = .ok (.aload 5, 2) := dk_25 5 (dk_at dksJ9_compress_2 0 rfl rfl)
theorem dJ9_compress_50 : decode cJ9_compress 50 = .ok (.iconst 0, 1) := dk_3 (dk_at dksJ9_compress_2 2 rfl rfl)
theorem dJ9_compress_51 : decode cJ9_compress 51 = .ok (.aload_n 3, 1) := dk_45 (dk_at dksJ9_compress_2 3 rfl rfl)
theorem dJ9_compress_52 : decode cJ9_compress 52 = .ok (.iconst 0, 1) := dk_3 (dk_at dksJ9_compress_2 4 rfl rfl)
theorem dJ9_compress_53 : decode cJ9_compress 53 = .ok (.iload_n 2, 1) := dk_28 (dk_at dksJ9_compress_2 5 rfl rfl)
theorem dJ9_compress_54 : decode cJ9_compress 54 = .ok (.invokestatic 123, 3) := dk_184 0 123 (dk_at dksJ9_compress_2 6 rfl rfl)
theorem dJ9_compress_57 : decode cJ9_compress 57 = .ok (.iload_n 2, 1) := dk_28 (dk_at dksJ9_compress_2 9 rfl rfl)
theorem dJ9_compress_58 : decode cJ9_compress 58 = .ok (.if_icmp .eq 6, 3) := dk_159 0 6 (dk_at dksJ9_compress_2 10 rfl rfl)
theorem dJ9_compress_61 : decode cJ9_compress 61 = .ok (.aload 5, 2) := dk_25 5 (dk_at dksJ9_compress_2 13 rfl rfl)
theorem dJ9_compress_63 : decode cJ9_compress 63 = .ok (.areturn, 1) := dk_176 (dk_at dksJ9_compress_2 15 rfl rfl)
theorem dJ9_compress_64 : decode cJ9_compress 64 = .ok (.aload_n 3, 1) := dk_45 (dk_at dksJ9_compress_2 16 rfl rfl)
theorem dJ9_compress_65 : decode cJ9_compress 65 = .ok (.areturn, 1) := dk_176 (dk_at dksJ9_compress_2 17 rfl rfl)
abbrev cJ9_compress_2 : ByteArray := prog_34_method_22_code
def yJ9_compress_2 : MethodName := ⟨RJ9, "compress", "([BI[BII)I"⟩
def dkwJ9_compress_2_2 : List UInt8 := [132, 5, 1, 167, 255, 216, 21, 4, 172]
abbrev dktJ9_compress_2_2 : List UInt8 := dkwJ9_compress_2_2 ++ []
def dkwJ9_compress_2_1 : List UInt8 := [21, 6, 17, 0, 255, 164, 0, 6, 21, 5, 172, 44, 29, 21, 6, 145, 84, 132, 1, 1, 132, 3, 1]
abbrev dktJ9_compress_2_1 : List UInt8 := dkwJ9_compress_2_1 ++ dktJ9_compress_2_2
def dkwJ9_compress_2_0 : List UInt8 := [27, 21, 4, 42, 184, 0, 173, 3, 54, 5, 21, 5, 21, 4, 162, 0, 39, 42, 27, 184, 0, 71, 54, 6]
abbrev dktJ9_compress_2_0 : List UInt8 := dkwJ9_compress_2_0 ++ dktJ9_compress_2_1
theorem dksJ9_compress_2_0 : cJ9_compress_2.data.toList.drop 0 = dktJ9_compress_2_0 := by decide +kernel
theorem dksJ9_compress_2_1 : cJ9_compress_2.data.toList.drop 24 = dktJ9_compress_2_1 := dk_seg dksJ9_compress_2_0 24 rfl rfl
theorem dksJ9_compress_2_2 : cJ9_compress_2.data.toList.drop 47 = dktJ9_compress_2_2 := dk_seg dksJ9_compress_2_1 23 rfl rfl
theorem dJ9_compress_2_0 : decode cJ9_compress_2 0 = .ok (.iload_n 1, 1) := dk_27 (dk_at dksJ9_compress_2_0 0 rfl rfl)
theorem dJ9_compress_2_1 : decode cJ9_compress_2 1 = .ok (.iload 4, 2) := dk_21 4 (dk_at dksJ9_compress_2_0 1 rfl rfl)
theorem dJ9_compress_2_3 : decode cJ9_compress_2 3 = .ok (.aload_n 0, 1) := dk_42 (dk_at dksJ9_compress_2_0 3 rfl rfl)
theorem dJ9_compress_2_4 : decode cJ9_compress_2 4 = .ok (.invokestatic 173, 3) := dk_184 0 173 (dk_at dksJ9_compress_2_0 4 rfl rfl)
theorem dJ9_compress_2_7 : decode cJ9_compress_2 7 = .ok (.iconst 0, 1) := dk_3 (dk_at dksJ9_compress_2_0 7 rfl rfl)
theorem dJ9_compress_2_8 : decode cJ9_compress_2 8 = .ok (.istore 5, 2) := dk_54 5 (dk_at dksJ9_compress_2_0 8 rfl rfl)
theorem dJ9_compress_2_10 : decode cJ9_compress_2 10 = .ok (.iload 5, 2) := dk_21 5 (dk_at dksJ9_compress_2_0 10 rfl rfl)
theorem dJ9_compress_2_12 : decode cJ9_compress_2 12 = .ok (.iload 4, 2) := dk_21 4 (dk_at dksJ9_compress_2_0 12 rfl rfl)
theorem dJ9_compress_2_14 : decode cJ9_compress_2 14 = .ok (.if_icmp .ge 39, 3) := dk_162 0 39 (dk_at dksJ9_compress_2_0 14 rfl rfl)
theorem dJ9_compress_2_17 : decode cJ9_compress_2 17 = .ok (.aload_n 0, 1) := dk_42 (dk_at dksJ9_compress_2_0 17 rfl rfl)
theorem dJ9_compress_2_18 : decode cJ9_compress_2 18 = .ok (.iload_n 1, 1) := dk_27 (dk_at dksJ9_compress_2_0 18 rfl rfl)
theorem dJ9_compress_2_19 : decode cJ9_compress_2 19 = .ok (.invokestatic 71, 3) := dk_184 0 71 (dk_at dksJ9_compress_2_0 19 rfl rfl)
theorem dJ9_compress_2_22 : decode cJ9_compress_2 22 = .ok (.istore 6, 2) := dk_54 6 (dk_at dksJ9_compress_2_0 22 rfl rfl)
theorem dJ9_compress_2_24 : decode cJ9_compress_2 24 = .ok (.iload 6, 2) := dk_21 6 (dk_at dksJ9_compress_2_1 0 rfl rfl)
theorem dJ9_compress_2_26 : decode cJ9_compress_2 26 = .ok (.sipush 255, 3) := dk_17 0 255 (dk_at dksJ9_compress_2_1 2 rfl rfl)
theorem dJ9_compress_2_29 : decode cJ9_compress_2 29 = .ok (.if_icmp .le 6, 3) := dk_164 0 6 (dk_at dksJ9_compress_2_1 5 rfl rfl)
theorem dJ9_compress_2_32 : decode cJ9_compress_2 32 = .ok (.iload 5, 2) := dk_21 5 (dk_at dksJ9_compress_2_1 8 rfl rfl)
theorem dJ9_compress_2_34 : decode cJ9_compress_2 34 = .ok (.ireturn, 1) := dk_172 (dk_at dksJ9_compress_2_1 10 rfl rfl)
theorem dJ9_compress_2_35 : decode cJ9_compress_2 35 = .ok (.aload_n 2, 1) := dk_44 (dk_at dksJ9_compress_2_1 11 rfl rfl)
theorem dJ9_compress_2_36 : decode cJ9_compress_2 36 = .ok (.iload_n 3, 1) := dk_29 (dk_at dksJ9_compress_2_1 12 rfl rfl)
theorem dJ9_compress_2_37 : decode cJ9_compress_2 37 = .ok (.iload 6, 2) := dk_21 6 (dk_at dksJ9_compress_2_1 13 rfl rfl)
theorem dJ9_compress_2_39 : decode cJ9_compress_2 39 = .ok (.i2b, 1) := dk_145 (dk_at dksJ9_compress_2_1 15 rfl rfl)
theorem dJ9_compress_2_40 : decode cJ9_compress_2 40 = .ok (.bastore, 1) := dk_84 (dk_at dksJ9_compress_2_1 16 rfl rfl)
theorem dJ9_compress_2_41 : decode cJ9_compress_2 41 = .ok (.iinc 1 1, 3) := dk_132 1 1 (dk_at dksJ9_compress_2_1 17 rfl rfl)
theorem dJ9_compress_2_44 : decode cJ9_compress_2 44 = .ok (.iinc 3 1, 3) := dk_132 3 1 (dk_at dksJ9_compress_2_1 20 rfl rfl)
theorem dJ9_compress_2_47 : decode cJ9_compress_2 47 = .ok (.iinc 5 1, 3) := dk_132 5 1 (dk_at dksJ9_compress_2_2 0 rfl rfl)
theorem dJ9_compress_2_50 : decode cJ9_compress_2 50 = .ok (.goto (-40), 3) := dk_167 255 216 (dk_at dksJ9_compress_2_2 3 rfl rfl)
theorem dJ9_compress_2_53 : decode cJ9_compress_2 53 = .ok (.iload 4, 2) := dk_21 4 (dk_at dksJ9_compress_2_2 6 rfl rfl)
theorem dJ9_compress_2_55 : decode cJ9_compress_2 55 = .ok (.ireturn, 1) := dk_172 (dk_at dksJ9_compress_2_2 8 rfl rfl)
abbrev cJ9_coderFromArrayLen : ByteArray := prog_34_method_15_code
def yJ9_coderFromArrayLen : MethodName := ⟨RJ9, "coderFromArrayLen", "([BI)B"⟩
def dkwJ9_coderFromArrayLen_0 : List UInt8 := [27, 42, 190, 100, 16, 31, 124, 145, 172]
abbrev dktJ9_coderFromArrayLen_0 : List UInt8 := dkwJ9_coderFromArrayLen_0 ++ []
theorem dksJ9_coderFromArrayLen_0 : cJ9_coderFromArrayLen.data.toList.drop 0 = dktJ9_coderFromArrayLen_0 := by decide +kernel
theorem dJ9_coderFromArrayLen_0 : decode cJ9_coderFromArrayLen 0 = .ok (.iload_n 1, 1) := dk_27 (dk_at dksJ9_coderFromArrayLen_0 0 rfl rfl)
theorem dJ9_coderFromArrayLen_1 : decode cJ9_coderFromArrayLen 1 = .ok (.aload_n 0, 1) := dk_42 (dk_at dksJ9_coderFromArrayLen_0 1 rfl rfl)
theorem dJ9_coderFromArrayLen_2 : decode cJ9_coderFromArrayLen 2 = .ok (.arraylength, 1) := dk_190 (dk_at dksJ9_coderFromArrayLen_0 2 rfl rfl)
theorem dJ9_coderFromArrayLen_3 : decode cJ9_coderFromArrayLen 3 = .ok (.isub, 1) := dk_100 (dk_at dksJ9_coderFromArrayLen_0 3 rfl rfl)
theorem dJ9_coderFromArrayLen_4 : decode cJ9_coderFromArrayLen 4 = .ok (.bipush 31, 2) := dk_16 31 (dk_at dksJ9_coderFromArrayLen_0 4 rfl rfl)
theorem dJ9_coderFromArrayLen_6 : decode cJ9_coderFromArrayLen 6 = .ok (.iushr, 1) := dk_124 (dk_at dksJ9_coderFromArrayLen_0 6 rfl rfl)
theorem dJ9_coderFromArrayLen_7 : decode cJ9_coderFromArrayLen 7 = .ok (.i2b, 1) := dk_145 (dk_at dksJ9_coderFromArrayLen_0 7 rfl rfl)
theorem dJ9_coderFromArrayLen_8 : decode cJ9_coderFromArrayLen 8 = .ok (.ireturn, 1) := dk_172 (dk_at dksJ9_coderFromArrayLen_0 8 rfl rfl)
abbrev cJ9_checkOffset : ByteArray := prog_34_method_92_code
def yJ9_checkOffset : MethodName := ⟨RJ9, "checkOffset", "(I[B)V"⟩
def dkwJ9_checkOffset_0 : List UInt8 := [26, 43, 184, 0, 48, 184, 1, 161, 177]
abbrev dktJ9_checkOffset_0 : List UInt8 := dkwJ9_checkOffset_0 ++ []
theorem dksJ9_checkOffset_0 : cJ9_checkOffset.data.toList.drop 0 = dktJ9_checkOffset_0 := by decide +kernel
theorem dJ9_checkOffset_0 : decode cJ9_checkOffset 0 = .ok (.iload_n 0, 1) := dk_26 (dk_at dksJ9_checkOffset_0 0 rfl rfl)
theorem dJ9_checkOffset_1 : decode cJ9_checkOffset 1 = .ok (.aload_n 1, 1) := dk_43 (dk_at dksJ9_checkOffset_0 1 rfl rfl)
theorem dJ9_checkOffset_2 : decode cJ9_checkOffset 2 = .ok (.invokestatic 48, 3) := dk_184 0 48 (dk_at dksJ9_checkOffset_0 2 rfl rfl)
theorem dJ9_checkOffset_5 : decode cJ9_checkOffset 5 = .ok (.invokestatic 417, 3) := dk_184 1 161 (dk_at dksJ9_checkOffset_0 5 rfl rfl)
theorem dJ9_checkOffset_8 : decode cJ9_checkOffset 8 = .ok (.return_, 1) := dk_177 (dk_at dksJ9_checkOffset_0 8 rfl rfl)
abbrev cJ9_putCharSB : ByteArray := prog_34_method_71_code
def yJ9_putCharSB : MethodName := ⟨RJ9, "putCharSB", "([BII)V"⟩
def dkwJ9_putCharSB_0 : List UInt8 := [27, 42, 184, 0, 67, 42, 27, 28, 184, 0, 111, 177]
abbrev dktJ9_putCharSB_0 : List UInt8 := dkwJ9_putCharSB_0 ++ []
theorem dksJ9_putCharSB_0 : cJ9_putCharSB.data.toList.drop 0 = dktJ9_putCharSB_0 := by decide +kernel
theorem dJ9_putCharSB_0 : decode cJ9_putCharSB 0 = .ok (.iload_n 1, 1) := dk_27 (dk_at dksJ9_putCharSB_0 0 rfl rfl)
theorem dJ9_putCharSB_1 : decode cJ9_putCharSB 1 = .ok (.aload_n 0, 1) := dk_42 (dk_at dksJ9_putCharSB_0 1 rfl rfl)
theorem dJ9_putCharSB_2 : decode cJ9_putCharSB 2 = .ok (.invokestatic 67, 3) := dk_184 0 67 (dk_at dksJ9_putCharSB_0 2 rfl rfl)
theorem dJ9_putCharSB_5 : decode cJ9_putCharSB 5 = .ok (.aload_n 0, 1) := dk_42 (dk_at dksJ9_putCharSB_0 5 rfl rfl)
theorem dJ9_putCharSB_6 : decode cJ9_putCharSB 6 = .ok (.iload_n 1, 1) := dk_27 (dk_at dksJ9_putCharSB_0 6 rfl rfl)
theorem dJ9_putCharSB_7 : decode cJ9_putCharSB 7 = .ok (.iload_n 2, 1) := dk_28 (dk_at dksJ9_putCharSB_0 7 rfl rfl)
theorem dJ9_putCharSB_8 : decode cJ9_putCharSB 8 = .ok (.invokestatic 111, 3) := dk_184 0 111 (dk_at dksJ9_putCharSB_0 8 rfl rfl)
theorem dJ9_putCharSB_11 : decode cJ9_putCharSB 11 = .ok (.return_, 1) := dk_177 (dk_at dksJ9_putCharSB_0 11 rfl rfl)
abbrev cJ9_checkIndex : ByteArray := prog_34_method_91_code
def yJ9_checkIndex : MethodName := ⟨RJ9, "checkIndex", "(I[B)V"⟩
def dkwJ9_checkIndex_0 : List UInt8 := [26, 43, 184, 0, 48, 184, 1, 158, 177]
abbrev dktJ9_checkIndex_0 : List UInt8 := dkwJ9_checkIndex_0 ++ []
theorem dksJ9_checkIndex_0 : cJ9_checkIndex.data.toList.drop 0 = dktJ9_checkIndex_0 := by decide +kernel
theorem dJ9_checkIndex_0 : decode cJ9_checkIndex 0 = .ok (.iload_n 0, 1) := dk_26 (dk_at dksJ9_checkIndex_0 0 rfl rfl)
theorem dJ9_checkIndex_1 : decode cJ9_checkIndex 1 = .ok (.aload_n 1, 1) := dk_43 (dk_at dksJ9_checkIndex_0 1 rfl rfl)
theorem dJ9_checkIndex_2 : decode cJ9_checkIndex 2 = .ok (.invokestatic 48, 3) := dk_184 0 48 (dk_at dksJ9_checkIndex_0 2 rfl rfl)
theorem dJ9_checkIndex_5 : decode cJ9_checkIndex 5 = .ok (.invokestatic 414, 3) := dk_184 1 158 (dk_at dksJ9_checkIndex_0 5 rfl rfl)
theorem dJ9_checkIndex_8 : decode cJ9_checkIndex 8 = .ok (.return_, 1) := dk_177 (dk_at dksJ9_checkIndex_0 8 rfl rfl)
abbrev cJ9_charAt : ByteArray := prog_34_method_83_code
def yJ9_charAt : MethodName := ⟨RJ9, "charAt", "([BI)C"⟩
def dkwJ9_charAt_0 : List UInt8 := [27, 42, 184, 0, 67, 42, 27, 184, 0, 71, 172]
abbrev dktJ9_charAt_0 : List UInt8 := dkwJ9_charAt_0 ++ []
theorem dksJ9_charAt_0 : cJ9_charAt.data.toList.drop 0 = dktJ9_charAt_0 := by decide +kernel
theorem dJ9_charAt_0 : decode cJ9_charAt 0 = .ok (.iload_n 1, 1) := dk_27 (dk_at dksJ9_charAt_0 0 rfl rfl)
theorem dJ9_charAt_1 : decode cJ9_charAt 1 = .ok (.aload_n 0, 1) := dk_42 (dk_at dksJ9_charAt_0 1 rfl rfl)
theorem dJ9_charAt_2 : decode cJ9_charAt 2 = .ok (.invokestatic 67, 3) := dk_184 0 67 (dk_at dksJ9_charAt_0 2 rfl rfl)
theorem dJ9_charAt_5 : decode cJ9_charAt 5 = .ok (.aload_n 0, 1) := dk_42 (dk_at dksJ9_charAt_0 5 rfl rfl)
theorem dJ9_charAt_6 : decode cJ9_charAt 6 = .ok (.iload_n 1, 1) := dk_27 (dk_at dksJ9_charAt_0 6 rfl rfl)
theorem dJ9_charAt_7 : decode cJ9_charAt 7 = .ok (.invokestatic 71, 3) := dk_184 0 71 (dk_at dksJ9_charAt_0 7 rfl rfl)
theorem dJ9_charAt_10 : decode cJ9_charAt 10 = .ok (.ireturn, 1) := dk_172 (dk_at dksJ9_charAt_0 10 rfl rfl)
theorem q92 : (Jvm.Cond.initialized "java/lang/StringUTF16") ∈ lw_all := lw_g (lw_at lw_m1 12 rfl) rfl
theorem q255 : (Jvm.Cond.static ({ cls := "java/lang/StringUTF16", name := "newBytesFor", desc := "(I)[B" } : Jvm.MethodName)) ∈ lw_all := lw_g (lw_at lw_m1 175 rfl) rfl
theorem q256 : (Jvm.Cond.code ({ cls := "java/lang/StringUTF16", name := "newBytesFor", desc := "(I)[B" } : Jvm.MethodName) prog_34_method_2_code (1 : Nat) (Option.some (Jvm.ClassFile.FieldType.array Jvm.ClassFile.FieldType.byte))) ∈ lw_all := lw_g (lw_at lw_m1 176 rfl) rfl
theorem q257 : (Jvm.Cond.methodLink "java/lang/StringUTF16" (11 : Nat) ({ cls := "java/lang/StringUTF16", name := "newBytesLength", desc := "(I)I" } : Jvm.MethodName)) ∈ lw_all := lw_g (lw_at lw_m1 177 rfl) rfl
theorem q258 : (Jvm.Cond.static ({ cls := "java/lang/StringUTF16", name := "newBytesLength", desc := "(I)I" } : Jvm.MethodName)) ∈ lw_all := lw_g (lw_at lw_m1 178 rfl) rfl
theorem q259 : (Jvm.Cond.code ({ cls := "java/lang/StringUTF16", name := "newBytesLength", desc := "(I)I" } : Jvm.MethodName) prog_34_method_3_code (1 : Nat) (Option.some Jvm.ClassFile.FieldType.int)) ∈ lw_all := lw_g (lw_at lw_m1 179 rfl) rfl
theorem q260 : (Jvm.Cond.constant "java/lang/StringUTF16" (20 : Nat) (1073741823 : Int32)) ∈ lw_all := lw_g (lw_at lw_m1 180 rfl) rfl
theorem q717 : (Jvm.Cond.static ({ cls := "java/lang/StringUTF16", name := "getChar", desc := "([BI)C" } : Jvm.MethodName)) ∈ lw_all := lw_g (lw_at lw_m3 157 rfl) rfl
theorem q718 : (Jvm.Cond.code ({ cls := "java/lang/StringUTF16", name := "getChar", desc := "([BI)C" } : Jvm.MethodName) prog_34_method_5_code (2 : Nat) (Option.some Jvm.ClassFile.FieldType.char)) ∈ lw_all := lw_g (lw_at lw_m3 158 rfl) rfl
theorem q719 : (Jvm.Cond.fieldLink "java/lang/StringUTF16" (44 : Nat) "java/lang/StringUTF16" "$assertionsDisabled" "Z") ∈ lw_all := lw_g (lw_at lw_m3 159 rfl) rfl
theorem q720 : (Jvm.Cond.laysStatic "java/lang/StringUTF16" "$assertionsDisabled" "Z") ∈ lw_tbl := lw_at lw_m3 160 rfl
theorem q721 : (Jvm.Cond.methodLink "java/lang/StringUTF16" (48 : Nat) ({ cls := "java/lang/StringUTF16", name := "length", desc := "([B)I" } : Jvm.MethodName)) ∈ lw_all := lw_g (lw_at lw_m3 161 rfl) rfl
theorem q722 : (Jvm.Cond.static ({ cls := "java/lang/StringUTF16", name := "length", desc := "([B)I" } : Jvm.MethodName)) ∈ lw_all := lw_g (lw_at lw_m3 162 rfl) rfl
theorem q723 : (Jvm.Cond.code ({ cls := "java/lang/StringUTF16", name := "length", desc := "([B)I" } : Jvm.MethodName) prog_34_method_6_code (1 : Nat) (Option.some Jvm.ClassFile.FieldType.int)) ∈ lw_all := lw_g (lw_at lw_m3 163 rfl) rfl
theorem q724 : (Jvm.Cond.fieldLink "java/lang/StringUTF16" (59 : Nat) "java/lang/StringUTF16" "HI_BYTE_SHIFT" "I") ∈ lw_all := lw_g (lw_at lw_m3 164 rfl) rfl
theorem q725 : (Jvm.Cond.laysStatic "java/lang/StringUTF16" "HI_BYTE_SHIFT" "I") ∈ lw_tbl := lw_at lw_m3 165 rfl
theorem q726 : (Jvm.Cond.fieldLink "java/lang/StringUTF16" (63 : Nat) "java/lang/StringUTF16" "LO_BYTE_SHIFT" "I") ∈ lw_all := lw_g (lw_at lw_m3 166 rfl) rfl
theorem q727 : (Jvm.Cond.laysStatic "java/lang/StringUTF16" "LO_BYTE_SHIFT" "I") ∈ lw_tbl := lw_at lw_m3 167 rfl
theorem q792 : (Jvm.Cond.static ({ cls := "java/lang/StringUTF16", name := "putCharsAt", desc := "([BICCCC)I" } : Jvm.MethodName)) ∈ lw_all := lw_g (lw_at lw_m3 232 rfl) rfl
theorem q793 : (Jvm.Cond.code ({ cls := "java/lang/StringUTF16", name := "putCharsAt", desc := "([BICCCC)I" } : Jvm.MethodName) prog_34_method_81_code (7 : Nat) (Option.some Jvm.ClassFile.FieldType.int)) ∈ lw_all := lw_g (lw_at lw_m3 233 rfl) rfl
theorem q794 : (Jvm.Cond.methodLink "java/lang/StringUTF16" (96 : Nat) ({ cls := "java/lang/StringUTF16", name := "checkBoundsBeginEnd", desc := "(II[B)V" } : Jvm.MethodName)) ∈ lw_all := lw_g (lw_at lw_m3 234 rfl) rfl
theorem q795 : (Jvm.Cond.static ({ cls := "java/lang/StringUTF16", name := "checkBoundsBeginEnd", desc := "(II[B)V" } : Jvm.MethodName)) ∈ lw_all := lw_g (lw_at lw_m3 235 rfl) rfl
theorem q796 : (Jvm.Cond.code ({ cls := "java/lang/StringUTF16", name := "checkBoundsBeginEnd", desc := "(II[B)V" } : Jvm.MethodName) prog_34_method_93_code (3 : Nat) (Option.none : Option Jvm.ClassFile.FieldType)) ∈ lw_all := lw_g (lw_at lw_m3 236 rfl) rfl
theorem q797 : (Jvm.Cond.methodLink "java/lang/StringUTF16" (241 : Nat) ({ cls := "java/lang/String", name := "checkBoundsBeginEnd", desc := "(III)V" } : Jvm.MethodName)) ∈ lw_all := lw_g (lw_at lw_m3 237 rfl) rfl
theorem q805 : (Jvm.Cond.methodLink "java/lang/StringUTF16" (111 : Nat) ({ cls := "java/lang/StringUTF16", name := "putChar", desc := "([BII)V" } : Jvm.MethodName)) ∈ lw_all := lw_g (lw_at lw_m4 5 rfl) rfl
theorem q806 : (Jvm.Cond.static ({ cls := "java/lang/StringUTF16", name := "putChar", desc := "([BII)V" } : Jvm.MethodName)) ∈ lw_all := lw_g (lw_at lw_m4 6 rfl) rfl
theorem q807 : (Jvm.Cond.code ({ cls := "java/lang/StringUTF16", name := "putChar", desc := "([BII)V" } : Jvm.MethodName) prog_34_method_4_code (3 : Nat) (Option.none : Option Jvm.ClassFile.FieldType)) ∈ lw_all := lw_g (lw_at lw_m4 7 rfl) rfl
theorem q833 : (Jvm.Cond.static ({ cls := "java/lang/StringUTF16", name := "inflate", desc := "([BI[BII)V" } : Jvm.MethodName)) ∈ lw_all := lw_g (lw_at lw_m4 33 rfl) rfl
theorem q834 : (Jvm.Cond.code ({ cls := "java/lang/StringUTF16", name := "inflate", desc := "([BI[BII)V" } : Jvm.MethodName) prog_34_method_86_code (6 : Nat) (Option.none : Option Jvm.ClassFile.FieldType)) ∈ lw_all := lw_g (lw_at lw_m4 34 rfl) rfl
theorem q835 : (Jvm.Cond.methodLink "java/lang/StringUTF16" (173 : Nat) ({ cls := "java/lang/StringUTF16", name := "checkBoundsOffCount", desc := "(II[B)V" } : Jvm.MethodName)) ∈ lw_all := lw_g (lw_at lw_m4 35 rfl) rfl
theorem q836 : (Jvm.Cond.static ({ cls := "java/lang/StringUTF16", name := "checkBoundsOffCount", desc := "(II[B)V" } : Jvm.MethodName)) ∈ lw_all := lw_g (lw_at lw_m4 36 rfl) rfl
theorem q837 : (Jvm.Cond.code ({ cls := "java/lang/StringUTF16", name := "checkBoundsOffCount", desc := "(II[B)V" } : Jvm.MethodName) prog_34_method_94_code (3 : Nat) (Option.none : Option Jvm.ClassFile.FieldType)) ∈ lw_all := lw_g (lw_at lw_m4 37 rfl) rfl
theorem q838 : (Jvm.Cond.methodLink "java/lang/StringUTF16" (419 : Nat) ({ cls := "java/lang/String", name := "checkBoundsOffCount", desc := "(III)I" } : Jvm.MethodName)) ∈ lw_all := lw_g (lw_at lw_m4 38 rfl) rfl
theorem q868 : (Jvm.Cond.static ({ cls := "java/lang/StringUTF16", name := "getChars", desc := "(III[B)I" } : Jvm.MethodName)) ∈ lw_all := lw_g (lw_at lw_m4 68 rfl) rfl
theorem q869 : (Jvm.Cond.code ({ cls := "java/lang/StringUTF16", name := "getChars", desc := "(III[B)I" } : Jvm.MethodName) prog_34_method_77_code (5 : Nat) (Option.some Jvm.ClassFile.FieldType.int)) ∈ lw_all := lw_g (lw_at lw_m4 69 rfl) rfl
theorem q870 : (Jvm.Cond.methodLink "java/lang/StringUTF16" (393 : Nat) ({ cls := "java/lang/StringUTF16", name := "getChars", desc := "(II[B)I" } : Jvm.MethodName)) ∈ lw_all := lw_g (lw_at lw_m4 70 rfl) rfl
theorem q871 : (Jvm.Cond.static ({ cls := "java/lang/StringUTF16", name := "getChars", desc := "(II[B)I" } : Jvm.MethodName)) ∈ lw_all := lw_g (lw_at lw_m4 71 rfl) rfl
theorem q872 : (Jvm.Cond.code ({ cls := "java/lang/StringUTF16", name := "getChars", desc := "(II[B)I" } : Jvm.MethodName) prog_34_method_89_code (7 : Nat) (Option.some Jvm.ClassFile.FieldType.int)) ∈ lw_all := lw_g (lw_at lw_m4 72 rfl) rfl
theorem q873 : (Jvm.Cond.fieldLink "java/lang/StringUTF16" (403 : Nat) "java/lang/Integer" "DigitOnes" "[B") ∈ lw_all := lw_g (lw_at lw_m4 73 rfl) rfl
theorem q874 : (Jvm.Cond.fieldLink "java/lang/StringUTF16" (407 : Nat) "java/lang/Integer" "DigitTens" "[B") ∈ lw_all := lw_g (lw_at lw_m4 74 rfl) rfl
theorem q933 : (Jvm.Cond.static ({ cls := "java/lang/StringUTF16", name := "compress", desc := "([BII)[B" } : Jvm.MethodName)) ∈ lw_all := lw_g (lw_at lw_m4 133 rfl) rfl
theorem q934 : (Jvm.Cond.code ({ cls := "java/lang/StringUTF16", name := "compress", desc := "([BII)[B" } : Jvm.MethodName) prog_34_method_17_code (6 : Nat) (Option.some (Jvm.ClassFile.FieldType.array Jvm.ClassFile.FieldType.byte))) ∈ lw_all := lw_g (lw_at lw_m4 134 rfl) rfl
theorem q935 : (Jvm.Cond.methodLink "java/lang/StringUTF16" (123 : Nat) ({ cls := "java/lang/StringUTF16", name := "compress", desc := "([BI[BII)I" } : Jvm.MethodName)) ∈ lw_all := lw_g (lw_at lw_m4 135 rfl) rfl
theorem q936 : (Jvm.Cond.static ({ cls := "java/lang/StringUTF16", name := "compress", desc := "([BI[BII)I" } : Jvm.MethodName)) ∈ lw_all := lw_g (lw_at lw_m4 136 rfl) rfl
theorem q937 : (Jvm.Cond.code ({ cls := "java/lang/StringUTF16", name := "compress", desc := "([BI[BII)I" } : Jvm.MethodName) prog_34_method_22_code (7 : Nat) (Option.some Jvm.ClassFile.FieldType.int)) ∈ lw_all := lw_g (lw_at lw_m4 137 rfl) rfl
theorem q938 : (Jvm.Cond.methodLink "java/lang/StringUTF16" (71 : Nat) ({ cls := "java/lang/StringUTF16", name := "getChar", desc := "([BI)C" } : Jvm.MethodName)) ∈ lw_all := lw_g (lw_at lw_m4 138 rfl) rfl
theorem q939 : (Jvm.Cond.methodLink "java/lang/StringUTF16" (126 : Nat) ({ cls := "java/util/Arrays", name := "copyOfRange", desc := "([BII)[B" } : Jvm.MethodName)) ∈ lw_all := lw_g (lw_at lw_m4 139 rfl) rfl
theorem q941 : (Jvm.Cond.static ({ cls := "java/lang/StringUTF16", name := "coderFromArrayLen", desc := "([BI)B" } : Jvm.MethodName)) ∈ lw_all := lw_g (lw_at lw_m4 141 rfl) rfl
theorem q942 : (Jvm.Cond.code ({ cls := "java/lang/StringUTF16", name := "coderFromArrayLen", desc := "([BI)B" } : Jvm.MethodName) prog_34_method_15_code (2 : Nat) (Option.some Jvm.ClassFile.FieldType.byte)) ∈ lw_all := lw_g (lw_at lw_m4 142 rfl) rfl
theorem q958 : (Jvm.Cond.static ({ cls := "java/lang/StringUTF16", name := "hashCode", desc := "([B)I" } : Jvm.MethodName)) ∈ lw_all := lw_g (lw_at lw_m4 158 rfl) rfl
theorem q959 : (Jvm.Cond.code ({ cls := "java/lang/StringUTF16", name := "hashCode", desc := "([B)I" } : Jvm.MethodName) prog_34_method_39_code (1 : Nat) (Option.some Jvm.ClassFile.FieldType.int)) ∈ lw_all := lw_g (lw_at lw_m4 159 rfl) rfl
theorem q960 : (Jvm.Cond.methodLink "java/lang/StringUTF16" (220 : Nat) ({ cls := "jdk/internal/util/ArraysSupport", name := "vectorizedHashCode", desc := "(Ljava/lang/Object;IIII)I" } : Jvm.MethodName)) ∈ lw_all := lw_g (lw_at lw_m4 160 rfl) rfl
theorem q1193 : (Jvm.Cond.static ({ cls := "java/lang/StringUTF16", name := "compareTo", desc := "([B[B)I" } : Jvm.MethodName)) ∈ lw_all := lw_g (lw_at lw_m5 153 rfl) rfl
theorem q1194 : (Jvm.Cond.code ({ cls := "java/lang/StringUTF16", name := "compareTo", desc := "([B[B)I" } : Jvm.MethodName) prog_34_method_29_code (4 : Nat) (Option.some Jvm.ClassFile.FieldType.int)) ∈ lw_all := lw_g (lw_at lw_m5 154 rfl) rfl
theorem q1195 : (Jvm.Cond.methodLink "java/lang/StringUTF16" (176 : Nat) ({ cls := "java/lang/StringUTF16", name := "compareValues", desc := "([B[BII)I" } : Jvm.MethodName)) ∈ lw_all := lw_g (lw_at lw_m5 155 rfl) rfl
theorem q1196 : (Jvm.Cond.static ({ cls := "java/lang/StringUTF16", name := "compareValues", desc := "([B[BII)I" } : Jvm.MethodName)) ∈ lw_all := lw_g (lw_at lw_m5 156 rfl) rfl
theorem q1197 : (Jvm.Cond.code ({ cls := "java/lang/StringUTF16", name := "compareValues", desc := "([B[BII)I" } : Jvm.MethodName) prog_34_method_31_code (8 : Nat) (Option.some Jvm.ClassFile.FieldType.int)) ∈ lw_all := lw_g (lw_at lw_m5 157 rfl) rfl
theorem q1198 : (Jvm.Cond.methodLink "java/lang/StringUTF16" (183 : Nat) ({ cls := "java/lang/Math", name := "min", desc := "(II)I" } : Jvm.MethodName)) ∈ lw_all := lw_g (lw_at lw_m5 158 rfl) rfl
theorem q1211 : (Jvm.Cond.static ({ cls := "java/lang/StringUTF16", name := "compareToLatin1", desc := "([B[B)I" } : Jvm.MethodName)) ∈ lw_all := lw_g (lw_at lw_m5 171 rfl) rfl
theorem q1212 : (Jvm.Cond.code ({ cls := "java/lang/StringUTF16", name := "compareToLatin1", desc := "([B[B)I" } : Jvm.MethodName) prog_34_method_32_code (2 : Nat) (Option.some Jvm.ClassFile.FieldType.int)) ∈ lw_all := lw_g (lw_at lw_m5 172 rfl) rfl
theorem q1213 : (Jvm.Cond.methodLink "java/lang/StringUTF16" (189 : Nat) ({ cls := "java/lang/StringLatin1", name := "compareToUTF16", desc := "([B[B)I" } : Jvm.MethodName)) ∈ lw_all := lw_g (lw_at lw_m5 173 rfl) rfl
theorem q1230 : (Jvm.Cond.static ({ cls := "java/lang/StringUTF16", name := "compareTo", desc := "([B[BII)I" } : Jvm.MethodName)) ∈ lw_all := lw_g (lw_at lw_m5 190 rfl) rfl
theorem q1231 : (Jvm.Cond.code ({ cls := "java/lang/StringUTF16", name := "compareTo", desc := "([B[BII)I" } : Jvm.MethodName) prog_34_method_30_code (4 : Nat) (Option.some Jvm.ClassFile.FieldType.int)) ∈ lw_all := lw_g (lw_at lw_m5 191 rfl) rfl
theorem q1232 : (Jvm.Cond.methodLink "java/lang/StringUTF16" (180 : Nat) ({ cls := "java/lang/StringUTF16", name := "checkOffset", desc := "(I[B)V" } : Jvm.MethodName)) ∈ lw_all := lw_g (lw_at lw_m5 192 rfl) rfl
theorem q1233 : (Jvm.Cond.static ({ cls := "java/lang/StringUTF16", name := "checkOffset", desc := "(I[B)V" } : Jvm.MethodName)) ∈ lw_all := lw_g (lw_at lw_m5 193 rfl) rfl
theorem q1234 : (Jvm.Cond.code ({ cls := "java/lang/StringUTF16", name := "checkOffset", desc := "(I[B)V" } : Jvm.MethodName) prog_34_method_92_code (2 : Nat) (Option.none : Option Jvm.ClassFile.FieldType)) ∈ lw_all := lw_g (lw_at lw_m5 194 rfl) rfl
theorem q1235 : (Jvm.Cond.methodLink "java/lang/StringUTF16" (417 : Nat) ({ cls := "java/lang/String", name := "checkOffset", desc := "(II)V" } : Jvm.MethodName)) ∈ lw_all := lw_g (lw_at lw_m5 195 rfl) rfl
theorem q1243 : (Jvm.Cond.static ({ cls := "java/lang/StringUTF16", name := "compareToLatin1", desc := "([B[BII)I" } : Jvm.MethodName)) ∈ lw_all := lw_g (lw_at lw_m5 203 rfl) rfl
theorem q1244 : (Jvm.Cond.code ({ cls := "java/lang/StringUTF16", name := "compareToLatin1", desc := "([B[BII)I" } : Jvm.MethodName) prog_34_method_33_code (4 : Nat) (Option.some Jvm.ClassFile.FieldType.int)) ∈ lw_all := lw_g (lw_at lw_m5 204 rfl) rfl
theorem q1245 : (Jvm.Cond.methodLink "java/lang/StringUTF16" (193 : Nat) ({ cls := "java/lang/StringLatin1", name := "compareToUTF16", desc := "([B[BII)I" } : Jvm.MethodName)) ∈ lw_all := lw_g (lw_at lw_m5 205 rfl) rfl
theorem q1847 : (Jvm.Cond.static ({ cls := "java/lang/StringUTF16", name := "putCharSB", desc := "([BII)V" } : Jvm.MethodName)) ∈ lw_all := lw_g (lw_at lw_m8 87 rfl) rfl
theorem q1848 : (Jvm.Cond.code ({ cls := "java/lang/StringUTF16", name := "putCharSB", desc := "([BII)V" } : Jvm.MethodName) prog_34_method_71_code (3 : Nat) (Option.none : Option Jvm.ClassFile.FieldType)) ∈ lw_all := lw_g (lw_at lw_m8 88 rfl) rfl
theorem q1849 : (Jvm.Cond.methodLink "java/lang/StringUTF16" (67 : Nat) ({ cls := "java/lang/StringUTF16", name := "checkIndex", desc := "(I[B)V" } : Jvm.MethodName)) ∈ lw_all := lw_g (lw_at lw_m8 89 rfl) rfl
theorem q1850 : (Jvm.Cond.static ({ cls := "java/lang/StringUTF16", name := "checkIndex", desc := "(I[B)V" } : Jvm.MethodName)) ∈ lw_all := lw_g (lw_at lw_m8 90 rfl) rfl
theorem q1851 : (Jvm.Cond.code ({ cls := "java/lang/StringUTF16", name := "checkIndex", desc := "(I[B)V" } : Jvm.MethodName) prog_34_method_91_code (2 : Nat) (Option.none : Option Jvm.ClassFile.FieldType)) ∈ lw_all := lw_g (lw_at lw_m8 91 rfl) rfl
theorem q1852 : (Jvm.Cond.methodLink "java/lang/StringUTF16" (414 : Nat) ({ cls := "java/lang/String", name := "checkIndex", desc := "(II)V" } : Jvm.MethodName)) ∈ lw_all := lw_g (lw_at lw_m8 92 rfl) rfl
theorem q2247 : (Jvm.Cond.static ({ cls := "java/lang/StringUTF16", name := "charAt", desc := "([BI)C" } : Jvm.MethodName)) ∈ lw_all := lw_g (lw_at lw_m10 7 rfl) rfl
theorem q2248 : (Jvm.Cond.code ({ cls := "java/lang/StringUTF16", name := "charAt", desc := "([BI)C" } : Jvm.MethodName) prog_34_method_83_code (2 : Nat) (Option.some Jvm.ClassFile.FieldType.char)) ∈ lw_all := lw_g (lw_at lw_m10 8 rfl) rfl

/-! java/util/ArrayList$Itr -/
set_option maxRecDepth 100000
def RJ10 : String := "java/util/ArrayList$Itr"
def TJ10 : u_T := fun k => match k with
  | 0 => ("java/util/ArrayList$Itr", "cursor", "I", false)
  | 1 => ("java/util/ArrayList$Itr", "lastRet", "I", false)
  | 2 => ("java/util/ArrayList$Itr", "expectedModCount", "I", false)
  | _ => ("java/util/ArrayList$Itr", "this$0", "Ljava/util/ArrayList;", true)
def tyJ10 : Nat → FieldType := fun k => match k with
  | 0 => .int
  | 1 => .int
  | 2 => .int
  | _ => .object "java/util/ArrayList"
abbrev wsJ100 : List Cond := u_ws RJ10 TJ10 4
theorem nmJ10 : ∀ a, a < 4 → ∀ b, b < 4 → a ≠ b → (TJ10 a).2.1 ≠ (TJ10 b).2.1 := by decide +kernel
theorem tyJ10_ok : ∀ k, k < 4 → parseFieldDescriptor (TJ10 k).2.2.1 = some (tyJ10 k) := by decide +kernel
abbrev cJ10_init : ByteArray := prog_46_method_1_code
def yJ10_init : MethodName := ⟨RJ10, "<init>", "(Ljava/util/ArrayList;)V"⟩
def dkwJ10_init_1 : List UInt8 := [181, 0, 22, 177]
abbrev dktJ10_init_1 : List UInt8 := dkwJ10_init_1 ++ []
def dkwJ10_init_0 : List UInt8 := [42, 43, 181, 0, 1, 42, 183, 0, 7, 42, 2, 181, 0, 13, 42, 42, 180, 0, 1, 180, 0, 17]
abbrev dktJ10_init_0 : List UInt8 := dkwJ10_init_0 ++ dktJ10_init_1
theorem dksJ10_init_0 : cJ10_init.data.toList.drop 0 = dktJ10_init_0 := by decide +kernel
theorem dksJ10_init_1 : cJ10_init.data.toList.drop 22 = dktJ10_init_1 := dk_seg dksJ10_init_0 22 rfl rfl
theorem dJ10_init_0 : decode cJ10_init 0 = .ok (.aload_n 0, 1) := dk_42 (dk_at dksJ10_init_0 0 rfl rfl)
theorem dJ10_init_1 : decode cJ10_init 1 = .ok (.aload_n 1, 1) := dk_43 (dk_at dksJ10_init_0 1 rfl rfl)
theorem dJ10_init_2 : decode cJ10_init 2 = .ok (.putfield 1, 3) := dk_181 0 1 (dk_at dksJ10_init_0 2 rfl rfl)
theorem dJ10_init_5 : decode cJ10_init 5 = .ok (.aload_n 0, 1) := dk_42 (dk_at dksJ10_init_0 5 rfl rfl)
theorem dJ10_init_6 : decode cJ10_init 6 = .ok (.invokespecial 7, 3) := dk_183 0 7 (dk_at dksJ10_init_0 6 rfl rfl)
theorem dJ10_init_9 : decode cJ10_init 9 = .ok (.aload_n 0, 1) := dk_42 (dk_at dksJ10_init_0 9 rfl rfl)
theorem dJ10_init_10 : decode cJ10_init 10 = .ok (.iconst (-1), 1) := dk_2 (dk_at dksJ10_init_0 10 rfl rfl)
theorem dJ10_init_11 : decode cJ10_init 11 = .ok (.putfield 13, 3) := dk_181 0 13 (dk_at dksJ10_init_0 11 rfl rfl)
theorem dJ10_init_14 : decode cJ10_init 14 = .ok (.aload_n 0, 1) := dk_42 (dk_at dksJ10_init_0 14 rfl rfl)
theorem dJ10_init_15 : decode cJ10_init 15 = .ok (.aload_n 0, 1) := dk_42 (dk_at dksJ10_init_0 15 rfl rfl)
theorem dJ10_init_16 : decode cJ10_init 16 = .ok (.getfield 1, 3) := dk_180 0 1 (dk_at dksJ10_init_0 16 rfl rfl)
theorem dJ10_init_19 : decode cJ10_init 19 = .ok (.getfield 17, 3) := dk_180 0 17 (dk_at dksJ10_init_0 19 rfl rfl)
theorem dJ10_init_22 : decode cJ10_init 22 = .ok (.putfield 22, 3) := dk_181 0 22 (dk_at dksJ10_init_1 0 rfl rfl)
theorem dJ10_init_25 : decode cJ10_init 25 = .ok (.return_, 1) := dk_177 (dk_at dksJ10_init_1 3 rfl rfl)
abbrev cJ10_hasNext : ByteArray := prog_46_method_2_code
def yJ10_hasNext : MethodName := ⟨RJ10, "hasNext", "()Z"⟩
def dkwJ10_hasNext_0 : List UInt8 := [42, 180, 0, 25, 42, 180, 0, 1, 180, 0, 28, 159, 0, 7, 4, 167, 0, 4, 3, 172]
abbrev dktJ10_hasNext_0 : List UInt8 := dkwJ10_hasNext_0 ++ []
theorem dksJ10_hasNext_0 : cJ10_hasNext.data.toList.drop 0 = dktJ10_hasNext_0 := by decide +kernel
theorem dJ10_hasNext_0 : decode cJ10_hasNext 0 = .ok (.aload_n 0, 1) := dk_42 (dk_at dksJ10_hasNext_0 0 rfl rfl)
theorem dJ10_hasNext_1 : decode cJ10_hasNext 1 = .ok (.getfield 25, 3) := dk_180 0 25 (dk_at dksJ10_hasNext_0 1 rfl rfl)
theorem dJ10_hasNext_4 : decode cJ10_hasNext 4 = .ok (.aload_n 0, 1) := dk_42 (dk_at dksJ10_hasNext_0 4 rfl rfl)
theorem dJ10_hasNext_5 : decode cJ10_hasNext 5 = .ok (.getfield 1, 3) := dk_180 0 1 (dk_at dksJ10_hasNext_0 5 rfl rfl)
theorem dJ10_hasNext_8 : decode cJ10_hasNext 8 = .ok (.getfield 28, 3) := dk_180 0 28 (dk_at dksJ10_hasNext_0 8 rfl rfl)
theorem dJ10_hasNext_11 : decode cJ10_hasNext 11 = .ok (.if_icmp .eq 7, 3) := dk_159 0 7 (dk_at dksJ10_hasNext_0 11 rfl rfl)
theorem dJ10_hasNext_14 : decode cJ10_hasNext 14 = .ok (.iconst 1, 1) := dk_4 (dk_at dksJ10_hasNext_0 14 rfl rfl)
theorem dJ10_hasNext_15 : decode cJ10_hasNext 15 = .ok (.goto 4, 3) := dk_167 0 4 (dk_at dksJ10_hasNext_0 15 rfl rfl)
theorem dJ10_hasNext_18 : decode cJ10_hasNext 18 = .ok (.iconst 0, 1) := dk_3 (dk_at dksJ10_hasNext_0 18 rfl rfl)
theorem dJ10_hasNext_19 : decode cJ10_hasNext 19 = .ok (.ireturn, 1) := dk_172 (dk_at dksJ10_hasNext_0 19 rfl rfl)
abbrev cJ10_next : ByteArray := prog_46_method_3_code
def yJ10_next : MethodName := ⟨RJ10, "next", "()Ljava/lang/Object;"⟩
def dkwJ10_next_2 : List UInt8 := [183, 0, 43, 191, 42, 27, 4, 96, 181, 0, 25, 44, 42, 27, 90, 181, 0, 13, 50, 176]
abbrev dktJ10_next_2 : List UInt8 := dkwJ10_next_2 ++ []
def dkwJ10_next_1 : List UInt8 := [183, 0, 36, 191, 42, 180, 0, 1, 180, 0, 37, 77, 27, 44, 190, 161, 0, 11, 187, 0, 41, 89]
abbrev dktJ10_next_1 : List UInt8 := dkwJ10_next_1 ++ dktJ10_next_2
def dkwJ10_next_0 : List UInt8 := [42, 182, 0, 31, 42, 180, 0, 25, 60, 27, 42, 180, 0, 1, 180, 0, 28, 161, 0, 11, 187, 0, 34, 89]
abbrev dktJ10_next_0 : List UInt8 := dkwJ10_next_0 ++ dktJ10_next_1
theorem dksJ10_next_0 : cJ10_next.data.toList.drop 0 = dktJ10_next_0 := by decide +kernel
theorem dksJ10_next_1 : cJ10_next.data.toList.drop 24 = dktJ10_next_1 := dk_seg dksJ10_next_0 24 rfl rfl
theorem dksJ10_next_2 : cJ10_next.data.toList.drop 46 = dktJ10_next_2 := dk_seg dksJ10_next_1 22 rfl rfl
theorem dJ10_next_0 : decode cJ10_next 0 = .ok (.aload_n 0, 1) := dk_42 (dk_at dksJ10_next_0 0 rfl rfl)
theorem dJ10_next_1 : decode cJ10_next 1 = .ok (.invokevirtual 31, 3) := dk_182 0 31 (dk_at dksJ10_next_0 1 rfl rfl)
theorem dJ10_next_4 : decode cJ10_next 4 = .ok (.aload_n 0, 1) := dk_42 (dk_at dksJ10_next_0 4 rfl rfl)
theorem dJ10_next_5 : decode cJ10_next 5 = .ok (.getfield 25, 3) := dk_180 0 25 (dk_at dksJ10_next_0 5 rfl rfl)
theorem dJ10_next_8 : decode cJ10_next 8 = .ok (.istore_n 1, 1) := dk_60 (dk_at dksJ10_next_0 8 rfl rfl)
theorem dJ10_next_9 : decode cJ10_next 9 = .ok (.iload_n 1, 1) := dk_27 (dk_at dksJ10_next_0 9 rfl rfl)
theorem dJ10_next_10 : decode cJ10_next 10 = .ok (.aload_n 0, 1) := dk_42 (dk_at dksJ10_next_0 10 rfl rfl)
theorem dJ10_next_11 : decode cJ10_next 11 = .ok (.getfield 1, 3) := dk_180 0 1 (dk_at dksJ10_next_0 11 rfl rfl)
theorem dJ10_next_14 : decode cJ10_next 14 = .ok (.getfield 28, 3) := dk_180 0 28 (dk_at dksJ10_next_0 14 rfl rfl)
theorem dJ10_next_17 : decode cJ10_next 17 = .ok (.if_icmp .lt 11, 3) := dk_161 0 11 (dk_at dksJ10_next_0 17 rfl rfl)
theorem dJ10_next_20 : decode cJ10_next 20 = .ok (.new 34, 3) := dk_187 0 34 (dk_at dksJ10_next_0 20 rfl rfl)
theorem dJ10_next_23 : decode cJ10_next 23 = .ok (.dup, 1) := dk_89 (dk_at dksJ10_next_0 23 rfl rfl)
theorem dJ10_next_24 : decode cJ10_next 24 = .ok (.invokespecial 36, 3) := dk_183 0 36 (dk_at dksJ10_next_1 0 rfl rfl)
theorem dJ10_next_27 : decode cJ10_next 27 = .ok (.athrow, 1) := dk_191 (dk_at dksJ10_next_1 3 rfl rfl)
theorem dJ10_next_28 : decode cJ10_next 28 = .ok (.aload_n 0, 1) := dk_42 (dk_at dksJ10_next_1 4 rfl rfl)
theorem dJ10_next_29 : decode cJ10_next 29 = .ok (.getfield 1, 3) := dk_180 0 1 (dk_at dksJ10_next_1 5 rfl rfl)
theorem dJ10_next_32 : decode cJ10_next 32 = .ok (.getfield 37, 3) := dk_180 0 37 (dk_at dksJ10_next_1 8 rfl rfl)
theorem dJ10_next_35 : decode cJ10_next 35 = .ok (.astore_n 2, 1) := dk_77 (dk_at dksJ10_next_1 11 rfl rfl)
theorem dJ10_next_36 : decode cJ10_next 36 = .ok (.iload_n 1, 1) := dk_27 (dk_at dksJ10_next_1 12 rfl rfl)
theorem dJ10_next_37 : decode cJ10_next 37 = .ok (.aload_n 2, 1) := dk_44 (dk_at dksJ10_next_1 13 rfl rfl)
theorem dJ10_next_38 : decode cJ10_next 38 = .ok (.arraylength, 1) := dk_190 (dk_at dksJ10_next_1 14 rfl rfl)
theorem dJ10_next_39 : decode cJ10_next 39 = .ok (.if_icmp .lt 11, 3) := dk_161 0 11 (dk_at dksJ10_next_1 15 rfl rfl)
theorem dJ10_next_42 : decode cJ10_next 42 = .ok (.new 41, 3) := dk_187 0 41 (dk_at dksJ10_next_1 18 rfl rfl)
theorem dJ10_next_45 : decode cJ10_next 45 = .ok (.dup, 1) := dk_89 (dk_at dksJ10_next_1 21 rfl rfl)
theorem dJ10_next_46 : decode cJ10_next 46 = .ok (.invokespecial 43, 3) := dk_183 0 43 (dk_at dksJ10_next_2 0 rfl rfl)
theorem dJ10_next_49 : decode cJ10_next 49 = .ok (.athrow, 1) := dk_191 (dk_at dksJ10_next_2 3 rfl rfl)
theorem dJ10_next_50 : decode cJ10_next 50 = .ok (.aload_n 0, 1) := dk_42 (dk_at dksJ10_next_2 4 rfl rfl)
theorem dJ10_next_51 : decode cJ10_next 51 = .ok (.iload_n 1, 1) := dk_27 (dk_at dksJ10_next_2 5 rfl rfl)
theorem dJ10_next_52 : decode cJ10_next 52 = .ok (.iconst 1, 1) := dk_4 (dk_at dksJ10_next_2 6 rfl rfl)
theorem dJ10_next_53 : decode cJ10_next 53 = .ok (.iadd, 1) := dk_96 (dk_at dksJ10_next_2 7 rfl rfl)
theorem dJ10_next_54 : decode cJ10_next 54 = .ok (.putfield 25, 3) := dk_181 0 25 (dk_at dksJ10_next_2 8 rfl rfl)
theorem dJ10_next_57 : decode cJ10_next 57 = .ok (.aload_n 2, 1) := dk_44 (dk_at dksJ10_next_2 11 rfl rfl)
theorem dJ10_next_58 : decode cJ10_next 58 = .ok (.aload_n 0, 1) := dk_42 (dk_at dksJ10_next_2 12 rfl rfl)
theorem dJ10_next_59 : decode cJ10_next 59 = .ok (.iload_n 1, 1) := dk_27 (dk_at dksJ10_next_2 13 rfl rfl)
theorem dJ10_next_60 : decode cJ10_next 60 = .ok (.dup_x1, 1) := dk_90 (dk_at dksJ10_next_2 14 rfl rfl)
theorem dJ10_next_61 : decode cJ10_next 61 = .ok (.putfield 13, 3) := dk_181 0 13 (dk_at dksJ10_next_2 15 rfl rfl)
theorem dJ10_next_64 : decode cJ10_next 64 = .ok (.aaload, 1) := dk_50 (dk_at dksJ10_next_2 18 rfl rfl)
theorem dJ10_next_65 : decode cJ10_next 65 = .ok (.areturn, 1) := dk_176 (dk_at dksJ10_next_2 19 rfl rfl)
abbrev cJ10_checkForComodification : ByteArray := prog_46_method_6_code
def yJ10_checkForComodification : MethodName := ⟨RJ10, "checkForComodification", "()V"⟩
def dkwJ10_checkForComodification_0 : List UInt8 := [42, 180, 0, 1, 180, 0, 17, 42, 180, 0, 22, 159, 0, 11, 187, 0, 41, 89, 183, 0, 43, 191, 177]
abbrev dktJ10_checkForComodification_0 : List UInt8 := dkwJ10_checkForComodification_0 ++ []
theorem dksJ10_checkForComodification_0 : cJ10_checkForComodification.data.toList.drop 0 = dktJ10_checkForComodification_0 := by decide +kernel
theorem dJ10_checkForComodification_0 : decode cJ10_checkForComodification 0 = .ok (.aload_n 0, 1) := dk_42 (dk_at dksJ10_checkForComodification_0 0 rfl rfl)
theorem dJ10_checkForComodification_1 : decode cJ10_checkForComodification 1 = .ok (.getfield 1, 3) := dk_180 0 1 (dk_at dksJ10_checkForComodification_0 1 rfl rfl)
theorem dJ10_checkForComodification_4 : decode cJ10_checkForComodification 4 = .ok (.getfield 17, 3) := dk_180 0 17 (dk_at dksJ10_checkForComodification_0 4 rfl rfl)
theorem dJ10_checkForComodification_7 : decode cJ10_checkForComodification 7 = .ok (.aload_n 0, 1) := dk_42 (dk_at dksJ10_checkForComodification_0 7 rfl rfl)
theorem dJ10_checkForComodification_8 : decode cJ10_checkForComodification 8 = .ok (.getfield 22, 3) := dk_180 0 22 (dk_at dksJ10_checkForComodification_0 8 rfl rfl)
theorem dJ10_checkForComodification_11 : decode cJ10_checkForComodification 11 = .ok (.if_icmp .eq 11, 3) := dk_159 0 11 (dk_at dksJ10_checkForComodification_0 11 rfl rfl)
theorem dJ10_checkForComodification_14 : decode cJ10_checkForComodification 14 = .ok (.new 41, 3) := dk_187 0 41 (dk_at dksJ10_checkForComodification_0 14 rfl rfl)
theorem dJ10_checkForComodification_17 : decode cJ10_checkForComodification 17 = .ok (.dup, 1) := dk_89 (dk_at dksJ10_checkForComodification_0 17 rfl rfl)
theorem dJ10_checkForComodification_18 : decode cJ10_checkForComodification 18 = .ok (.invokespecial 43, 3) := dk_183 0 43 (dk_at dksJ10_checkForComodification_0 18 rfl rfl)
theorem dJ10_checkForComodification_21 : decode cJ10_checkForComodification 21 = .ok (.athrow, 1) := dk_191 (dk_at dksJ10_checkForComodification_0 21 rfl rfl)
theorem dJ10_checkForComodification_22 : decode cJ10_checkForComodification 22 = .ok (.return_, 1) := dk_177 (dk_at dksJ10_checkForComodification_0 22 rfl rfl)
theorem q94 : (Jvm.Cond.initialized "java/util/ArrayList$Itr") ∈ lw_all := lw_g (lw_at lw_m1 14 rfl) rfl
theorem q189 : (Jvm.Cond.fieldLink "java/util/ArrayList$Itr" (37 : Nat) "java/util/ArrayList" "elementData" "[Ljava/lang/Object;") ∈ lw_all := lw_g (lw_at lw_m1 109 rfl) rfl
theorem q190 : (Jvm.Cond.fieldLinkNest "java/util/ArrayList$Itr" (28 : Nat) "java/util/ArrayList" "size" "I" "java/util/ArrayList") ∈ lw_tbl := lw_at lw_m1 110 rfl
theorem q193 : (Jvm.Cond.fieldLink "java/util/ArrayList$Itr" (17 : Nat) "java/util/ArrayList" "modCount" "I") ∈ lw_all := lw_g (lw_at lw_m1 113 rfl) rfl
theorem q319 : (Jvm.Cond.instantiable "java/util/ArrayList$Itr" (4 : Nat)) ∈ lw_all := lw_g (lw_at lw_m1 239 rfl) rfl
theorem q321 : (Jvm.Cond.instanceMethod ({ cls := "java/util/ArrayList$Itr", name := "<init>", desc := "(Ljava/util/ArrayList;)V" } : Jvm.MethodName)) ∈ lw_all := lw_g (lw_at lw_m2 1 rfl) rfl
theorem q322 : (Jvm.Cond.code ({ cls := "java/util/ArrayList$Itr", name := "<init>", desc := "(Ljava/util/ArrayList;)V" } : Jvm.MethodName) prog_46_method_1_code (2 : Nat) (Option.none : Option Jvm.ClassFile.FieldType)) ∈ lw_all := lw_g (lw_at lw_m2 2 rfl) rfl
theorem q323 : (Jvm.Cond.methodLink "java/util/ArrayList$Itr" (7 : Nat) ({ cls := "java/lang/Object", name := "<init>", desc := "()V" } : Jvm.MethodName)) ∈ lw_all := lw_g (lw_at lw_m2 3 rfl) rfl
theorem q324 : (Jvm.Cond.fieldLink "java/util/ArrayList$Itr" (25 : Nat) "java/util/ArrayList$Itr" "cursor" "I") ∈ lw_all := lw_g (lw_at lw_m2 4 rfl) rfl
theorem q325 : (Jvm.Cond.fieldLink "java/util/ArrayList$Itr" (13 : Nat) "java/util/ArrayList$Itr" "lastRet" "I") ∈ lw_all := lw_g (lw_at lw_m2 5 rfl) rfl
theorem q326 : (Jvm.Cond.fieldLink "java/util/ArrayList$Itr" (22 : Nat) "java/util/ArrayList$Itr" "expectedModCount" "I") ∈ lw_all := lw_g (lw_at lw_m2 6 rfl) rfl
theorem q327 : (Jvm.Cond.fieldLink "java/util/ArrayList$Itr" (1 : Nat) "java/util/ArrayList$Itr" "this$0" "Ljava/util/ArrayList;") ∈ lw_all := lw_g (lw_at lw_m2 7 rfl) rfl
theorem q328 : (Jvm.Cond.lays "java/util/ArrayList$Itr" "java/util/ArrayList$Itr" "cursor" "I") ∈ lw_all := lw_g (lw_at lw_m2 8 rfl) rfl
theorem q329 : (Jvm.Cond.soleField "java/util/ArrayList$Itr" "cursor") ∈ lw_all := lw_g (lw_at lw_m2 9 rfl) rfl
theorem q330 : (Jvm.Cond.lays "java/util/ArrayList$Itr" "java/util/ArrayList$Itr" "lastRet" "I") ∈ lw_all := lw_g (lw_at lw_m2 10 rfl) rfl
theorem q331 : (Jvm.Cond.soleField "java/util/ArrayList$Itr" "lastRet") ∈ lw_all := lw_g (lw_at lw_m2 11 rfl) rfl
theorem q332 : (Jvm.Cond.lays "java/util/ArrayList$Itr" "java/util/ArrayList$Itr" "expectedModCount" "I") ∈ lw_all := lw_g (lw_at lw_m2 12 rfl) rfl
theorem q333 : (Jvm.Cond.soleField "java/util/ArrayList$Itr" "expectedModCount") ∈ lw_all := lw_g (lw_at lw_m2 13 rfl) rfl
theorem q334 : (Jvm.Cond.laysFinal "java/util/ArrayList$Itr" "java/util/ArrayList$Itr" "this$0" "Ljava/util/ArrayList;") ∈ lw_all := lw_g (lw_at lw_m2 14 rfl) rfl
theorem q335 : (Jvm.Cond.soleField "java/util/ArrayList$Itr" "this$0") ∈ lw_all := lw_g (lw_at lw_m2 15 rfl) rfl
theorem q336 : (Jvm.Cond.superclass "java/util/ArrayList$Itr" "java/lang/Object") ∈ lw_all := lw_g (lw_at lw_m2 16 rfl) rfl
theorem q341 : (Jvm.Cond.castable "java/util/ArrayList$Itr" "java/util/Iterator") ∈ lw_tbl := lw_at lw_m2 21 rfl
theorem q342 : (Jvm.Cond.selects "java/util/ArrayList$Itr" ({ cls := "java/util/Iterator", name := "hasNext", desc := "()Z" } : Jvm.MethodName) ({ cls := "java/util/ArrayList$Itr", name := "hasNext", desc := "()Z" } : Jvm.MethodName)) ∈ lw_all := lw_g (lw_at lw_m2 22 rfl) rfl
theorem q343 : (Jvm.Cond.unhidden "java/util/ArrayList$Itr" "hasNext" "()Z") ∈ lw_tbl := lw_at lw_m2 23 rfl
theorem q344 : (Jvm.Cond.instanceMethod ({ cls := "java/util/ArrayList$Itr", name := "hasNext", desc := "()Z" } : Jvm.MethodName)) ∈ lw_all := lw_g (lw_at lw_m2 24 rfl) rfl
theorem q345 : (Jvm.Cond.publicMethod ({ cls := "java/util/ArrayList$Itr", name := "hasNext", desc := "()Z" } : Jvm.MethodName)) ∈ lw_tbl := lw_at lw_m2 25 rfl
theorem q346 : (Jvm.Cond.code ({ cls := "java/util/ArrayList$Itr", name := "hasNext", desc := "()Z" } : Jvm.MethodName) prog_46_method_2_code (1 : Nat) (Option.some Jvm.ClassFile.FieldType.boolean)) ∈ lw_all := lw_g (lw_at lw_m2 26 rfl) rfl
theorem q351 : (Jvm.Cond.selects "java/util/ArrayList$Itr" ({ cls := "java/util/Iterator", name := "next", desc := "()Ljava/lang/Object;" } : Jvm.MethodName) ({ cls := "java/util/ArrayList$Itr", name := "next", desc := "()Ljava/lang/Object;" } : Jvm.MethodName)) ∈ lw_all := lw_g (lw_at lw_m2 31 rfl) rfl
theorem q352 : (Jvm.Cond.unhidden "java/util/ArrayList$Itr" "next" "()Ljava/lang/Object;") ∈ lw_tbl := lw_at lw_m2 32 rfl
theorem q353 : (Jvm.Cond.instanceMethod ({ cls := "java/util/ArrayList$Itr", name := "next", desc := "()Ljava/lang/Object;" } : Jvm.MethodName)) ∈ lw_all := lw_g (lw_at lw_m2 33 rfl) rfl
theorem q354 : (Jvm.Cond.publicMethod ({ cls := "java/util/ArrayList$Itr", name := "next", desc := "()Ljava/lang/Object;" } : Jvm.MethodName)) ∈ lw_tbl := lw_at lw_m2 34 rfl
theorem q355 : (Jvm.Cond.code ({ cls := "java/util/ArrayList$Itr", name := "next", desc := "()Ljava/lang/Object;" } : Jvm.MethodName) prog_46_method_3_code (3 : Nat) (Option.some (Jvm.ClassFile.FieldType.object "java/lang/Object"))) ∈ lw_all := lw_g (lw_at lw_m2 35 rfl) rfl
theorem q356 : (Jvm.Cond.methodLink "java/util/ArrayList$Itr" (31 : Nat) ({ cls := "java/util/ArrayList$Itr", name := "checkForComodification", desc := "()V" } : Jvm.MethodName)) ∈ lw_all := lw_g (lw_at lw_m2 36 rfl) rfl
theorem q357 : (Jvm.Cond.instanceMethod ({ cls := "java/util/ArrayList$Itr", name := "checkForComodification", desc := "()V" } : Jvm.MethodName)) ∈ lw_all := lw_g (lw_at lw_m2 37 rfl) rfl
theorem q358 : (Jvm.Cond.selects "java/util/ArrayList$Itr" ({ cls := "java/util/ArrayList$Itr", name := "checkForComodification", desc := "()V" } : Jvm.MethodName) ({ cls := "java/util/ArrayList$Itr", name := "checkForComodification", desc := "()V" } : Jvm.MethodName)) ∈ lw_all := lw_g (lw_at lw_m2 38 rfl) rfl
theorem q359 : (Jvm.Cond.code ({ cls := "java/util/ArrayList$Itr", name := "checkForComodification", desc := "()V" } : Jvm.MethodName) prog_46_method_6_code (1 : Nat) (Option.none : Option Jvm.ClassFile.FieldType)) ∈ lw_all := lw_g (lw_at lw_m2 39 rfl) rfl
theorem q360 : (Jvm.Cond.classLink "java/util/ArrayList$Itr" (34 : Nat) "java/util/NoSuchElementException") ∈ lw_all := lw_g (lw_at lw_m2 40 rfl) rfl
theorem q406 : (Jvm.Cond.methodLink "java/util/ArrayList$Itr" (36 : Nat) ({ cls := "java/util/NoSuchElementException", name := "<init>", desc := "()V" } : Jvm.MethodName)) ∈ lw_all := lw_g (lw_at lw_m2 86 rfl) rfl
theorem q555 : (Jvm.Cond.selects "java/util/ArrayList$Itr" ({ cls := "java/lang/Object", name := "getClass", desc := "()Ljava/lang/Class;" } : Jvm.MethodName) ({ cls := "java/lang/Object", name := "getClass", desc := "()Ljava/lang/Class;" } : Jvm.MethodName)) ∈ lw_all := lw_g (lw_at lw_m2 235 rfl) rfl
theorem q3007 : (Jvm.Cond.castable "java/util/ArrayList$Itr" "java/lang/Object") ∈ lw_tbl := lw_at lw_m13 47 rfl
theorem in_J10 : ∀ w ∈ wsJ100, w ∈ lw_all := lw_in wsJ100 [328, 330, 332, 334] (by decide +kernel) (by decide +kernel)

/-! java/lang/Throwable -/
set_option maxRecDepth 100000
def RJ11 : String := "java/lang/Throwable"
def TJ11 : u_T := fun k => match k with
  | 0 => ("java/lang/Throwable", "cause", "Ljava/lang/Throwable;", false)
  | 1 => ("java/lang/Throwable", "stackTrace", "[Ljava/lang/StackTraceElement;", false)
  | 2 => ("java/lang/Throwable", "suppressedExceptions", "Ljava/util/List;", false)
  | 3 => ("java/lang/Throwable", "detailMessage", "Ljava/lang/String;", false)
  | _ => ("java/lang/Throwable", "backtrace", "Ljava/lang/Object;", false)
def tyJ11 : Nat → FieldType := fun k => match k with
  | 0 => .object "java/lang/Throwable"
  | 1 => .array (.object "java/lang/StackTraceElement")
  | 2 => .object "java/util/List"
  | 3 => .object "java/lang/String"
  | _ => .object "java/lang/Object"
abbrev wsJ110 : List Cond := u_ws RJ11 TJ11 5
theorem nmJ11 : ∀ a, a < 5 → ∀ b, b < 5 → a ≠ b → (TJ11 a).2.1 ≠ (TJ11 b).2.1 := by decide +kernel
theorem tyJ11_ok : ∀ k, k < 5 → parseFieldDescriptor (TJ11 k).2.2.1 = some (tyJ11 k) := by decide +kernel
abbrev cJ11_init : ByteArray := prog_37_method_1_code
def yJ11_init : MethodName := ⟨RJ11, "<init>", "()V"⟩
def dkwJ11_init_1 : List UInt8 := [182, 0, 27, 87, 177]
abbrev dktJ11_init_1 : List UInt8 := dkwJ11_init_1 ++ []
def dkwJ11_init_0 : List UInt8 := [42, 183, 0, 1, 42, 42, 181, 0, 7, 42, 178, 0, 13, 181, 0, 17, 42, 178, 0, 20, 181, 0, 24, 42]
abbrev dktJ11_init_0 : List UInt8 := dkwJ11_init_0 ++ dktJ11_init_1
theorem dksJ11_init_0 : cJ11_init.data.toList.drop 0 = dktJ11_init_0 := by decide +kernel
theorem dksJ11_init_1 : cJ11_init.data.toList.drop 24 = dktJ11_init_1 := dk_seg dksJ11_init_0 24 rfl rfl
theorem dJ11_init_0 : decode cJ11_init 0 = .ok (.aload_n 0, 1) := dk_42 (dk_at dksJ11_init_0 0 rfl rfl)
theorem dJ11_init_1 : decode cJ11_init 1 = .ok (.invokespecial 1, 3) := dk_183 0 1 (dk_at dksJ11_init_0 1 rfl rfl)
theorem dJ11_init_4 : decode cJ11_init 4 = .ok (.aload_n 0, 1) := dk_42 (dk_at dksJ11_init_0 4 rfl rfl)
theorem dJ11_init_5 : decode cJ11_init 5 = .ok (.aload_n 0, 1) := dk_42 (dk_at dksJ11_init_0 5 rfl rfl)
theorem dJ11_init_6 : decode cJ11_init 6 = .ok (.putfield 7, 3) := dk_181 0 7 (dk_at dksJ11_init_0 6 rfl rfl)
theorem dJ11_init_9 : decode cJ11_init 9 = .ok (.aload_n 0, 1) := dk_42 (dk_at dksJ11_init_0 9 rfl rfl)
theorem dJ11_init_10 : decode cJ11_init 10 = .ok (.getstatic 13, 3) := dk_178 0 13 (dk_at dksJ11_init_0 10 rfl rfl)
theorem dJ11_init_13 : decode cJ11_init 13 = .ok (.putfield 17, 3) := dk_181 0 17 (dk_at dksJ11_init_0 13 rfl rfl)
theorem dJ11_init_16 : decode cJ11_init 16 = .ok (.aload_n 0, 1) := dk_42 (dk_at dksJ11_init_0 16 rfl rfl)
theorem dJ11_init_17 : decode cJ11_init 17 = .ok (.getstatic 20, 3) := dk_178 0 20 (dk_at dksJ11_init_0 17 rfl rfl)
theorem dJ11_init_20 : decode cJ11_init 20 = .ok (.putfield 24, 3) := dk_181 0 24 (dk_at dksJ11_init_0 20 rfl rfl)
theorem dJ11_init_23 : decode cJ11_init 23 = .ok (.aload_n 0, 1) := dk_42 (dk_at dksJ11_init_0 23 rfl rfl)
theorem dJ11_init_24 : decode cJ11_init 24 = .ok (.invokevirtual 27, 3) := dk_182 0 27 (dk_at dksJ11_init_1 0 rfl rfl)
theorem dJ11_init_27 : decode cJ11_init 27 = .ok (.pop, 1) := dk_87 (dk_at dksJ11_init_1 3 rfl rfl)
theorem dJ11_init_28 : decode cJ11_init 28 = .ok (.return_, 1) := dk_177 (dk_at dksJ11_init_1 4 rfl rfl)
abbrev cJ11_init_2 : ByteArray := prog_37_method_2_code
def yJ11_init_2 : MethodName := ⟨RJ11, "<init>", "(Ljava/lang/String;)V"⟩
def dkwJ11_init_2_1 : List UInt8 := [182, 0, 27, 87, 42, 43, 181, 0, 31, 177]
abbrev dktJ11_init_2_1 : List UInt8 := dkwJ11_init_2_1 ++ []
def dkwJ11_init_2_0 : List UInt8 := [42, 183, 0, 1, 42, 42, 181, 0, 7, 42, 178, 0, 13, 181, 0, 17, 42, 178, 0, 20, 181, 0, 24, 42]
abbrev dktJ11_init_2_0 : List UInt8 := dkwJ11_init_2_0 ++ dktJ11_init_2_1
theorem dksJ11_init_2_0 : cJ11_init_2.data.toList.drop 0 = dktJ11_init_2_0 := by decide +kernel
theorem dksJ11_init_2_1 : cJ11_init_2.data.toList.drop 24 = dktJ11_init_2_1 := dk_seg dksJ11_init_2_0 24 rfl rfl
theorem dJ11_init_2_0 : decode cJ11_init_2 0 = .ok (.aload_n 0, 1) := dk_42 (dk_at dksJ11_init_2_0 0 rfl rfl)
theorem dJ11_init_2_1 : decode cJ11_init_2 1 = .ok (.invokespecial 1, 3) := dk_183 0 1 (dk_at dksJ11_init_2_0 1 rfl rfl)
theorem dJ11_init_2_4 : decode cJ11_init_2 4 = .ok (.aload_n 0, 1) := dk_42 (dk_at dksJ11_init_2_0 4 rfl rfl)
theorem dJ11_init_2_5 : decode cJ11_init_2 5 = .ok (.aload_n 0, 1) := dk_42 (dk_at dksJ11_init_2_0 5 rfl rfl)
theorem dJ11_init_2_6 : decode cJ11_init_2 6 = .ok (.putfield 7, 3) := dk_181 0 7 (dk_at dksJ11_init_2_0 6 rfl rfl)
theorem dJ11_init_2_9 : decode cJ11_init_2 9 = .ok (.aload_n 0, 1) := dk_42 (dk_at dksJ11_init_2_0 9 rfl rfl)
theorem dJ11_init_2_10 : decode cJ11_init_2 10 = .ok (.getstatic 13, 3) := dk_178 0 13 (dk_at dksJ11_init_2_0 10 rfl rfl)
theorem dJ11_init_2_13 : decode cJ11_init_2 13 = .ok (.putfield 17, 3) := dk_181 0 17 (dk_at dksJ11_init_2_0 13 rfl rfl)
theorem dJ11_init_2_16 : decode cJ11_init_2 16 = .ok (.aload_n 0, 1) := dk_42 (dk_at dksJ11_init_2_0 16 rfl rfl)
theorem dJ11_init_2_17 : decode cJ11_init_2 17 = .ok (.getstatic 20, 3) := dk_178 0 20 (dk_at dksJ11_init_2_0 17 rfl rfl)
theorem dJ11_init_2_20 : decode cJ11_init_2 20 = .ok (.putfield 24, 3) := dk_181 0 24 (dk_at dksJ11_init_2_0 20 rfl rfl)
theorem dJ11_init_2_23 : decode cJ11_init_2 23 = .ok (.aload_n 0, 1) := dk_42 (dk_at dksJ11_init_2_0 23 rfl rfl)
theorem dJ11_init_2_24 : decode cJ11_init_2 24 = .ok (.invokevirtual 27, 3) := dk_182 0 27 (dk_at dksJ11_init_2_1 0 rfl rfl)
theorem dJ11_init_2_27 : decode cJ11_init_2 27 = .ok (.pop, 1) := dk_87 (dk_at dksJ11_init_2_1 3 rfl rfl)
theorem dJ11_init_2_28 : decode cJ11_init_2 28 = .ok (.aload_n 0, 1) := dk_42 (dk_at dksJ11_init_2_1 4 rfl rfl)
theorem dJ11_init_2_29 : decode cJ11_init_2 29 = .ok (.aload_n 1, 1) := dk_43 (dk_at dksJ11_init_2_1 5 rfl rfl)
theorem dJ11_init_2_30 : decode cJ11_init_2 30 = .ok (.putfield 31, 3) := dk_181 0 31 (dk_at dksJ11_init_2_1 6 rfl rfl)
theorem dJ11_init_2_33 : decode cJ11_init_2 33 = .ok (.return_, 1) := dk_177 (dk_at dksJ11_init_2_1 9 rfl rfl)
abbrev cJ11_init_3 : ByteArray := prog_37_method_5_code
def yJ11_init_3 : MethodName := ⟨RJ11, "<init>", "(Ljava/lang/String;Ljava/lang/Throwable;ZZ)V"⟩
def dkwJ11_init_3_2 : List UInt8 := [44, 181, 0, 7, 29, 154, 0, 8, 42, 1, 181, 0, 24, 177]
abbrev dktJ11_init_3_2 : List UInt8 := dkwJ11_init_3_2 ++ []
def dkwJ11_init_3_1 : List UInt8 := [21, 4, 153, 0, 11, 42, 182, 0, 27, 87, 167, 0, 8, 42, 1, 181, 0, 17, 42, 43, 181, 0, 31, 42]
abbrev dktJ11_init_3_1 : List UInt8 := dkwJ11_init_3_1 ++ dktJ11_init_3_2
def dkwJ11_init_3_0 : List UInt8 := [42, 183, 0, 1, 42, 42, 181, 0, 7, 42, 178, 0, 13, 181, 0, 17, 42, 178, 0, 20, 181, 0, 24]
abbrev dktJ11_init_3_0 : List UInt8 := dkwJ11_init_3_0 ++ dktJ11_init_3_1
theorem dksJ11_init_3_0 : cJ11_init_3.data.toList.drop 0 = dktJ11_init_3_0 := by decide +kernel
theorem dksJ11_init_3_1 : cJ11_init_3.data.toList.drop 23 = dktJ11_init_3_1 := dk_seg dksJ11_init_3_0 23 rfl rfl
theorem dksJ11_init_3_2 : cJ11_init_3.data.toList.drop 47 = dktJ11_init_3_2 := dk_seg dksJ11_init_3_1 24 rfl rfl
theorem dJ11_init_3_0 : decode cJ11_init_3 0 = .ok (.aload_n 0, 1) := dk_42 (dk_at dksJ11_init_3_0 0 rfl rfl)
theorem dJ11_init_3_1 : decode cJ11_init_3 1 = .ok (.invokespecial 1, 3) := dk_183 0 1 (dk_at dksJ11_init_3_0 1 rfl rfl)
theorem dJ11_init_3_4 : decode cJ11_init_3 4 = .ok (.aload_n 0, 1) := dk_42 (dk_at dksJ11_init_3_0 4 rfl rfl)
theorem dJ11_init_3_5 : decode cJ11_init_3 5 = .ok (.aload_n 0, 1) := dk_42 (dk_at dksJ11_init_3_0 5 rfl rfl)
theorem dJ11_init_3_6 : decode cJ11_init_3 6 = .ok (.putfield 7, 3) := dk_181 0 7 (dk_at dksJ11_init_3_0 6 rfl rfl)
theorem dJ11_init_3_9 : decode cJ11_init_3 9 = .ok (.aload_n 0, 1) := dk_42 (dk_at dksJ11_init_3_0 9 rfl rfl)
theorem dJ11_init_3_10 : decode cJ11_init_3 10 = .ok (.getstatic 13, 3) := dk_178 0 13 (dk_at dksJ11_init_3_0 10 rfl rfl)
theorem dJ11_init_3_13 : decode cJ11_init_3 13 = .ok (.putfield 17, 3) := dk_181 0 17 (dk_at dksJ11_init_3_0 13 rfl rfl)
theorem dJ11_init_3_16 : decode cJ11_init_3 16 = .ok (.aload_n 0, 1) := dk_42 (dk_at dksJ11_init_3_0 16 rfl rfl)
theorem dJ11_init_3_17 : decode cJ11_init_3 17 = .ok (.getstatic 20, 3) := dk_178 0 20 (dk_at dksJ11_init_3_0 17 rfl rfl)
theorem dJ11_init_3_20 : decode cJ11_init_3 20 = .ok (.putfield 24, 3) := dk_181 0 24 (dk_at dksJ11_init_3_0 20 rfl rfl)
theorem dJ11_init_3_23 : decode cJ11_init_3 23 = .ok (.iload 4, 2) := dk_21 4 (dk_at dksJ11_init_3_1 0 rfl rfl)
theorem dJ11_init_3_25 : decode cJ11_init_3 25 = .ok (.ifCond .eq 11, 3) := dk_153 0 11 (dk_at dksJ11_init_3_1 2 rfl rfl)
theorem dJ11_init_3_28 : decode cJ11_init_3 28 = .ok (.aload_n 0, 1) := dk_42 (dk_at dksJ11_init_3_1 5 rfl rfl)
theorem dJ11_init_3_29 : decode cJ11_init_3 29 = .ok (.invokevirtual 27, 3) := dk_182 0 27 (dk_at dksJ11_init_3_1 6 rfl rfl)
theorem dJ11_init_3_32 : decode cJ11_init_3 32 = .ok (.pop, 1) := dk_87 (dk_at dksJ11_init_3_1 9 rfl rfl)
theorem dJ11_init_3_33 : decode cJ11_init_3 33 = .ok (.goto 8, 3) := dk_167 0 8 (dk_at dksJ11_init_3_1 10 rfl rfl)
theorem dJ11_init_3_36 : decode cJ11_init_3 36 = .ok (.aload_n 0, 1) := dk_42 (dk_at dksJ11_init_3_1 13 rfl rfl)
theorem dJ11_init_3_37 : decode cJ11_init_3 37 = .ok (.aconst_null, 1) := dk_1 (dk_at dksJ11_init_3_1 14 rfl rfl)
theorem dJ11_init_3_38 : decode cJ11_init_3 38 = .ok (.putfield 17, 3) := dk_181 0 17 (dk_at dksJ11_init_3_1 15 rfl rfl)
theorem dJ11_init_3_41 : decode cJ11_init_3 41 = .ok (.aload_n 0, 1) := dk_42 (dk_at dksJ11_init_3_1 18 rfl rfl)
theorem dJ11_init_3_42 : decode cJ11_init_3 42 = .ok (.aload_n 1, 1) := dk_43 (dk_at dksJ11_init_3_1 19 rfl rfl)
theorem dJ11_init_3_43 : decode cJ11_init_3 43 = .ok (.putfield 31, 3) := dk_181 0 31 (dk_at dksJ11_init_3_1 20 rfl rfl)
theorem dJ11_init_3_46 : decode cJ11_init_3 46 = .ok (.aload_n 0, 1) := dk_42 (dk_at dksJ11_init_3_1 23 rfl rfl)
theorem dJ11_init_3_47 : decode cJ11_init_3 47 = .ok (.aload_n 2, 1) := dk_44 (dk_at dksJ11_init_3_2 0 rfl rfl)
theorem dJ11_init_3_48 : decode cJ11_init_3 48 = .ok (.putfield 7, 3) := dk_181 0 7 (dk_at dksJ11_init_3_2 1 rfl rfl)
theorem dJ11_init_3_51 : decode cJ11_init_3 51 = .ok (.iload_n 3, 1) := dk_29 (dk_at dksJ11_init_3_2 4 rfl rfl)
theorem dJ11_init_3_52 : decode cJ11_init_3 52 = .ok (.ifCond .ne 8, 3) := dk_154 0 8 (dk_at dksJ11_init_3_2 5 rfl rfl)
theorem dJ11_init_3_55 : decode cJ11_init_3 55 = .ok (.aload_n 0, 1) := dk_42 (dk_at dksJ11_init_3_2 8 rfl rfl)
theorem dJ11_init_3_56 : decode cJ11_init_3 56 = .ok (.aconst_null, 1) := dk_1 (dk_at dksJ11_init_3_2 9 rfl rfl)
theorem dJ11_init_3_57 : decode cJ11_init_3 57 = .ok (.putfield 24, 3) := dk_181 0 24 (dk_at dksJ11_init_3_2 10 rfl rfl)
theorem dJ11_init_3_60 : decode cJ11_init_3 60 = .ok (.return_, 1) := dk_177 (dk_at dksJ11_init_3_2 13 rfl rfl)
theorem q95 : (Jvm.Cond.initialized "java/lang/Throwable") ∈ lw_all := lw_g (lw_at lw_m1 15 rfl) rfl
theorem q367 : (Jvm.Cond.declares ({ cls := "java/lang/Throwable", name := "<init>", desc := "()V" } : Jvm.MethodName)) ∈ lw_tbl := lw_at lw_m2 47 rfl
theorem q368 : (Jvm.Cond.declares ({ cls := "java/lang/Throwable", name := "<init>", desc := "(Ljava/lang/String;)V" } : Jvm.MethodName)) ∈ lw_tbl := lw_at lw_m2 48 rfl
theorem q372 : (Jvm.Cond.lays "java/lang/Throwable" "java/lang/Throwable" "cause" "Ljava/lang/Throwable;") ∈ lw_all := lw_g (lw_at lw_m2 52 rfl) rfl
theorem q374 : (Jvm.Cond.lays "java/lang/Throwable" "java/lang/Throwable" "stackTrace" "[Ljava/lang/StackTraceElement;") ∈ lw_all := lw_g (lw_at lw_m2 54 rfl) rfl
theorem q376 : (Jvm.Cond.lays "java/lang/Throwable" "java/lang/Throwable" "suppressedExceptions" "Ljava/util/List;") ∈ lw_all := lw_g (lw_at lw_m2 56 rfl) rfl
theorem q378 : (Jvm.Cond.lays "java/lang/Throwable" "java/lang/Throwable" "detailMessage" "Ljava/lang/String;") ∈ lw_all := lw_g (lw_at lw_m2 58 rfl) rfl
theorem q380 : (Jvm.Cond.lays "java/lang/Throwable" "java/lang/Throwable" "backtrace" "Ljava/lang/Object;") ∈ lw_all := lw_g (lw_at lw_m2 60 rfl) rfl
theorem q381 : (Jvm.Cond.fieldLink "java/lang/Throwable" (198 : Nat) "java/lang/Throwable" "backtrace" "Ljava/lang/Object;") ∈ lw_all := lw_g (lw_at lw_m2 61 rfl) rfl
theorem q382 : (Jvm.Cond.superclass "java/lang/Throwable" "java/lang/Object") ∈ lw_all := lw_g (lw_at lw_m2 62 rfl) rfl
theorem q383 : (Jvm.Cond.instanceMethod ({ cls := "java/lang/Throwable", name := "<init>", desc := "()V" } : Jvm.MethodName)) ∈ lw_all := lw_g (lw_at lw_m2 63 rfl) rfl
theorem q384 : (Jvm.Cond.code ({ cls := "java/lang/Throwable", name := "<init>", desc := "()V" } : Jvm.MethodName) prog_37_method_1_code (1 : Nat) (Option.none : Option Jvm.ClassFile.FieldType)) ∈ lw_all := lw_g (lw_at lw_m2 64 rfl) rfl
theorem q385 : (Jvm.Cond.methodLink "java/lang/Throwable" (1 : Nat) ({ cls := "java/lang/Object", name := "<init>", desc := "()V" } : Jvm.MethodName)) ∈ lw_all := lw_g (lw_at lw_m2 65 rfl) rfl
theorem q386 : (Jvm.Cond.fieldLink "java/lang/Throwable" (13 : Nat) "java/lang/Throwable" "UNASSIGNED_STACK" "[Ljava/lang/StackTraceElement;") ∈ lw_all := lw_g (lw_at lw_m2 66 rfl) rfl
theorem q387 : (Jvm.Cond.laysStatic "java/lang/Throwable" "UNASSIGNED_STACK" "[Ljava/lang/StackTraceElement;") ∈ lw_tbl := lw_at lw_m2 67 rfl
theorem q388 : (Jvm.Cond.fieldLink "java/lang/Throwable" (20 : Nat) "java/lang/Throwable" "SUPPRESSED_SENTINEL" "Ljava/util/List;") ∈ lw_all := lw_g (lw_at lw_m2 68 rfl) rfl
theorem q389 : (Jvm.Cond.laysStatic "java/lang/Throwable" "SUPPRESSED_SENTINEL" "Ljava/util/List;") ∈ lw_tbl := lw_at lw_m2 69 rfl
theorem q390 : (Jvm.Cond.methodLink "java/lang/Throwable" (27 : Nat) ({ cls := "java/lang/Throwable", name := "fillInStackTrace", desc := "()Ljava/lang/Throwable;" } : Jvm.MethodName)) ∈ lw_all := lw_g (lw_at lw_m2 70 rfl) rfl
theorem q391 : (Jvm.Cond.instanceMethod ({ cls := "java/lang/Throwable", name := "fillInStackTrace", desc := "()Ljava/lang/Throwable;" } : Jvm.MethodName)) ∈ lw_all := lw_g (lw_at lw_m2 71 rfl) rfl
theorem q392 : (Jvm.Cond.sameMethod "java/lang/Throwable" "java/lang/Throwable" "fillInStackTrace" "()Ljava/lang/Throwable;") ∈ lw_all := lw_g (lw_at lw_m2 72 rfl) rfl
theorem q400 : (Jvm.Cond.codeSync ({ cls := "java/lang/Throwable", name := "fillInStackTrace", desc := "()Ljava/lang/Throwable;" } : Jvm.MethodName) prog_37_method_18_code (1 : Nat) (Option.some (Jvm.ClassFile.FieldType.object "java/lang/Throwable"))) ∈ lw_all := lw_g (lw_at lw_m2 80 rfl) rfl
theorem q401 : (Jvm.Cond.methodLink "java/lang/Throwable" (202 : Nat) ({ cls := "java/lang/Throwable", name := "fillInStackTrace", desc := "(I)Ljava/lang/Throwable;" } : Jvm.MethodName)) ∈ lw_all := lw_g (lw_at lw_m2 81 rfl) rfl
theorem q402 : (Jvm.Cond.privateMethod ({ cls := "java/lang/Throwable", name := "fillInStackTrace", desc := "(I)Ljava/lang/Throwable;" } : Jvm.MethodName)) ∈ lw_tbl := lw_at lw_m2 82 rfl
theorem q403 : (Jvm.Cond.instanceMethod ({ cls := "java/lang/Throwable", name := "fillInStackTrace", desc := "(I)Ljava/lang/Throwable;" } : Jvm.MethodName)) ∈ lw_all := lw_g (lw_at lw_m2 83 rfl) rfl
theorem q404 : (Jvm.Cond.instantiable "java/lang/Throwable" (6 : Nat)) ∈ lw_all := lw_g (lw_at lw_m2 84 rfl) rfl
theorem q405 : (Jvm.Cond.native ({ cls := "java/lang/Throwable", name := "fillInStackTrace", desc := "(I)Ljava/lang/Throwable;" } : Jvm.MethodName)) ∈ lw_all := lw_g (lw_at lw_m2 85 rfl) rfl
theorem q416 : (Jvm.Cond.fieldLink "java/lang/Throwable" (198 : Nat) "java/lang/Throwable" "backtrace" "Ljava/lang/Object;") ∈ lw_all := lw_g (lw_at lw_m2 96 rfl) rfl
theorem q417 : (Jvm.Cond.fieldLink "java/lang/Throwable" (31 : Nat) "java/lang/Throwable" "detailMessage" "Ljava/lang/String;") ∈ lw_all := lw_g (lw_at lw_m2 97 rfl) rfl
theorem q418 : (Jvm.Cond.fieldLink "java/lang/Throwable" (7 : Nat) "java/lang/Throwable" "cause" "Ljava/lang/Throwable;") ∈ lw_all := lw_g (lw_at lw_m2 98 rfl) rfl
theorem q419 : (Jvm.Cond.fieldLink "java/lang/Throwable" (17 : Nat) "java/lang/Throwable" "stackTrace" "[Ljava/lang/StackTraceElement;") ∈ lw_all := lw_g (lw_at lw_m2 99 rfl) rfl
theorem q420 : (Jvm.Cond.fieldLink "java/lang/Throwable" (24 : Nat) "java/lang/Throwable" "suppressedExceptions" "Ljava/util/List;") ∈ lw_all := lw_g (lw_at lw_m2 100 rfl) rfl
theorem q421 : (Jvm.Cond.soleField "java/lang/Throwable" "backtrace") ∈ lw_all := lw_g (lw_at lw_m2 101 rfl) rfl
theorem q422 : (Jvm.Cond.soleField "java/lang/Throwable" "detailMessage") ∈ lw_all := lw_g (lw_at lw_m2 102 rfl) rfl
theorem q423 : (Jvm.Cond.soleField "java/lang/Throwable" "cause") ∈ lw_all := lw_g (lw_at lw_m2 103 rfl) rfl
theorem q424 : (Jvm.Cond.soleField "java/lang/Throwable" "stackTrace") ∈ lw_all := lw_g (lw_at lw_m2 104 rfl) rfl
theorem q426 : (Jvm.Cond.soleField "java/lang/Throwable" "depth") ∈ lw_all := lw_g (lw_at lw_m2 106 rfl) rfl
theorem q427 : (Jvm.Cond.soleField "java/lang/Throwable" "suppressedExceptions") ∈ lw_all := lw_g (lw_at lw_m2 107 rfl) rfl
theorem q928 : (Jvm.Cond.instanceMethod ({ cls := "java/lang/Throwable", name := "<init>", desc := "(Ljava/lang/String;)V" } : Jvm.MethodName)) ∈ lw_all := lw_g (lw_at lw_m4 128 rfl) rfl
theorem q929 : (Jvm.Cond.code ({ cls := "java/lang/Throwable", name := "<init>", desc := "(Ljava/lang/String;)V" } : Jvm.MethodName) prog_37_method_2_code (2 : Nat) (Option.none : Option Jvm.ClassFile.FieldType)) ∈ lw_all := lw_g (lw_at lw_m4 129 rfl) rfl
theorem q2362 : (Jvm.Cond.instanceMethod ({ cls := "java/lang/Throwable", name := "<init>", desc := "(Ljava/lang/String;Ljava/lang/Throwable;ZZ)V" } : Jvm.MethodName)) ∈ lw_all := lw_g (lw_at lw_m10 122 rfl) rfl
theorem q2363 : (Jvm.Cond.code ({ cls := "java/lang/Throwable", name := "<init>", desc := "(Ljava/lang/String;Ljava/lang/Throwable;ZZ)V" } : Jvm.MethodName) prog_37_method_5_code (5 : Nat) (Option.none : Option Jvm.ClassFile.FieldType)) ∈ lw_all := lw_g (lw_at lw_m10 123 rfl) rfl
theorem q2980 : (Jvm.Cond.sameMethod "java/lang/Throwable" "java/lang/Throwable" "fillInStackTrace" "(I)Ljava/lang/Throwable;") ∈ lw_all := lw_g (lw_at lw_m13 20 rfl) rfl
theorem q3025 : (Jvm.Cond.castable "java/lang/Throwable" "java/lang/Object") ∈ lw_tbl := lw_at lw_m13 65 rfl
theorem in_J11 : ∀ w ∈ wsJ110, w ∈ lw_all := lw_in wsJ110 [372, 374, 376, 378, 380] (by decide +kernel) (by decide +kernel)

/-! java/lang/Exception -/
set_option maxRecDepth 100000
def RJ12 : String := "java/lang/Exception"
abbrev cJ12_init : ByteArray := prog_20_method_1_code
def yJ12_init : MethodName := ⟨RJ12, "<init>", "()V"⟩
theorem dJ12_init_0 : decode cJ12_init 0 = .ok (.aload_n 0, 1) := by decide +kernel
theorem dJ12_init_1 : decode cJ12_init 1 = .ok (.invokespecial 1, 3) := by decide +kernel
theorem dJ12_init_4 : decode cJ12_init 4 = .ok (.return_, 1) := by decide +kernel
abbrev cJ12_init_2 : ByteArray := prog_20_method_2_code
def yJ12_init_2 : MethodName := ⟨RJ12, "<init>", "(Ljava/lang/String;)V"⟩
def dkwJ12_init_2_0 : List UInt8 := [42, 43, 183, 0, 7, 177]
abbrev dktJ12_init_2_0 : List UInt8 := dkwJ12_init_2_0 ++ []
theorem dksJ12_init_2_0 : cJ12_init_2.data.toList.drop 0 = dktJ12_init_2_0 := by decide +kernel
theorem dJ12_init_2_0 : decode cJ12_init_2 0 = .ok (.aload_n 0, 1) := dk_42 (dk_at dksJ12_init_2_0 0 rfl rfl)
theorem dJ12_init_2_1 : decode cJ12_init_2 1 = .ok (.aload_n 1, 1) := dk_43 (dk_at dksJ12_init_2_0 1 rfl rfl)
theorem dJ12_init_2_2 : decode cJ12_init_2 2 = .ok (.invokespecial 7, 3) := dk_183 0 7 (dk_at dksJ12_init_2_0 2 rfl rfl)
theorem dJ12_init_2_5 : decode cJ12_init_2 5 = .ok (.return_, 1) := dk_177 (dk_at dksJ12_init_2_0 5 rfl rfl)
abbrev cJ12_init_3 : ByteArray := prog_20_method_5_code
def yJ12_init_3 : MethodName := ⟨RJ12, "<init>", "(Ljava/lang/String;Ljava/lang/Throwable;ZZ)V"⟩
def dkwJ12_init_3_0 : List UInt8 := [42, 43, 44, 29, 21, 4, 183, 0, 16, 177]
abbrev dktJ12_init_3_0 : List UInt8 := dkwJ12_init_3_0 ++ []
theorem dksJ12_init_3_0 : cJ12_init_3.data.toList.drop 0 = dktJ12_init_3_0 := by decide +kernel
theorem dJ12_init_3_0 : decode cJ12_init_3 0 = .ok (.aload_n 0, 1) := dk_42 (dk_at dksJ12_init_3_0 0 rfl rfl)
theorem dJ12_init_3_1 : decode cJ12_init_3 1 = .ok (.aload_n 1, 1) := dk_43 (dk_at dksJ12_init_3_0 1 rfl rfl)
theorem dJ12_init_3_2 : decode cJ12_init_3 2 = .ok (.aload_n 2, 1) := dk_44 (dk_at dksJ12_init_3_0 2 rfl rfl)
theorem dJ12_init_3_3 : decode cJ12_init_3 3 = .ok (.iload_n 3, 1) := dk_29 (dk_at dksJ12_init_3_0 3 rfl rfl)
theorem dJ12_init_3_4 : decode cJ12_init_3 4 = .ok (.iload 4, 2) := dk_21 4 (dk_at dksJ12_init_3_0 4 rfl rfl)
theorem dJ12_init_3_6 : decode cJ12_init_3 6 = .ok (.invokespecial 16, 3) := dk_183 0 16 (dk_at dksJ12_init_3_0 6 rfl rfl)
theorem dJ12_init_3_9 : decode cJ12_init_3 9 = .ok (.return_, 1) := dk_177 (dk_at dksJ12_init_3_0 9 rfl rfl)
theorem q96 : (Jvm.Cond.initialized "java/lang/Exception") ∈ lw_all := lw_g (lw_at lw_m1 16 rfl) rfl
theorem q365 : (Jvm.Cond.declares ({ cls := "java/lang/Exception", name := "<init>", desc := "()V" } : Jvm.MethodName)) ∈ lw_tbl := lw_at lw_m2 45 rfl
theorem q366 : (Jvm.Cond.declares ({ cls := "java/lang/Exception", name := "<init>", desc := "(Ljava/lang/String;)V" } : Jvm.MethodName)) ∈ lw_tbl := lw_at lw_m2 46 rfl
theorem q413 : (Jvm.Cond.instanceMethod ({ cls := "java/lang/Exception", name := "<init>", desc := "()V" } : Jvm.MethodName)) ∈ lw_all := lw_g (lw_at lw_m2 93 rfl) rfl
theorem q414 : (Jvm.Cond.code ({ cls := "java/lang/Exception", name := "<init>", desc := "()V" } : Jvm.MethodName) prog_20_method_1_code (1 : Nat) (Option.none : Option Jvm.ClassFile.FieldType)) ∈ lw_all := lw_g (lw_at lw_m2 94 rfl) rfl
theorem q415 : (Jvm.Cond.methodLink "java/lang/Exception" (1 : Nat) ({ cls := "java/lang/Throwable", name := "<init>", desc := "()V" } : Jvm.MethodName)) ∈ lw_all := lw_g (lw_at lw_m2 95 rfl) rfl
theorem q925 : (Jvm.Cond.instanceMethod ({ cls := "java/lang/Exception", name := "<init>", desc := "(Ljava/lang/String;)V" } : Jvm.MethodName)) ∈ lw_all := lw_g (lw_at lw_m4 125 rfl) rfl
theorem q926 : (Jvm.Cond.code ({ cls := "java/lang/Exception", name := "<init>", desc := "(Ljava/lang/String;)V" } : Jvm.MethodName) prog_20_method_2_code (2 : Nat) (Option.none : Option Jvm.ClassFile.FieldType)) ∈ lw_all := lw_g (lw_at lw_m4 126 rfl) rfl
theorem q927 : (Jvm.Cond.methodLink "java/lang/Exception" (7 : Nat) ({ cls := "java/lang/Throwable", name := "<init>", desc := "(Ljava/lang/String;)V" } : Jvm.MethodName)) ∈ lw_all := lw_g (lw_at lw_m4 127 rfl) rfl
theorem q2359 : (Jvm.Cond.instanceMethod ({ cls := "java/lang/Exception", name := "<init>", desc := "(Ljava/lang/String;Ljava/lang/Throwable;ZZ)V" } : Jvm.MethodName)) ∈ lw_all := lw_g (lw_at lw_m10 119 rfl) rfl
theorem q2360 : (Jvm.Cond.code ({ cls := "java/lang/Exception", name := "<init>", desc := "(Ljava/lang/String;Ljava/lang/Throwable;ZZ)V" } : Jvm.MethodName) prog_20_method_5_code (5 : Nat) (Option.none : Option Jvm.ClassFile.FieldType)) ∈ lw_all := lw_g (lw_at lw_m10 120 rfl) rfl
theorem q2361 : (Jvm.Cond.methodLink "java/lang/Exception" (16 : Nat) ({ cls := "java/lang/Throwable", name := "<init>", desc := "(Ljava/lang/String;Ljava/lang/Throwable;ZZ)V" } : Jvm.MethodName)) ∈ lw_all := lw_g (lw_at lw_m10 121 rfl) rfl

/-! jdk/internal/util/ArraysSupport -/
set_option maxRecDepth 100000
def RJ15 : String := "jdk/internal/util/ArraysSupport"
abbrev cJ15_newLength : ByteArray := prog_66_method_27_code
def yJ15_newLength : MethodName := ⟨RJ15, "newLength", "(III)I"⟩
def dkwJ15_newLength_1 : List UInt8 := [184, 0, 201, 172]
abbrev dktJ15_newLength_1 : List UInt8 := dkwJ15_newLength_1 ++ []
def dkwJ15_newLength_0 : List UInt8 := [26, 27, 28, 184, 0, 194, 96, 62, 3, 29, 162, 0, 11, 29, 18, 200, 163, 0, 5, 29, 172, 26, 27]
abbrev dktJ15_newLength_0 : List UInt8 := dkwJ15_newLength_0 ++ dktJ15_newLength_1
theorem dksJ15_newLength_0 : cJ15_newLength.data.toList.drop 0 = dktJ15_newLength_0 := by decide +kernel
theorem dksJ15_newLength_1 : cJ15_newLength.data.toList.drop 23 = dktJ15_newLength_1 := dk_seg dksJ15_newLength_0 23 rfl rfl
theorem dJ15_newLength_0 : decode cJ15_newLength 0 = .ok (.iload_n 0, 1) := dk_26 (dk_at dksJ15_newLength_0 0 rfl rfl)
theorem dJ15_newLength_1 : decode cJ15_newLength 1 = .ok (.iload_n 1, 1) := dk_27 (dk_at dksJ15_newLength_0 1 rfl rfl)
theorem dJ15_newLength_2 : decode cJ15_newLength 2 = .ok (.iload_n 2, 1) := dk_28 (dk_at dksJ15_newLength_0 2 rfl rfl)
theorem dJ15_newLength_3 : decode cJ15_newLength 3 = .ok (.invokestatic 194, 3) := dk_184 0 194 (dk_at dksJ15_newLength_0 3 rfl rfl)
theorem dJ15_newLength_6 : decode cJ15_newLength 6 = .ok (.iadd, 1) := dk_96 (dk_at dksJ15_newLength_0 6 rfl rfl)
theorem dJ15_newLength_7 : decode cJ15_newLength 7 = .ok (.istore_n 3, 1) := dk_62 (dk_at dksJ15_newLength_0 7 rfl rfl)
theorem dJ15_newLength_8 : decode cJ15_newLength 8 = .ok (.iconst 0, 1) := dk_3 (dk_at dksJ15_newLength_0 8 rfl rfl)
theorem dJ15_newLength_9 : decode cJ15_newLength 9 = .ok (.iload_n 3, 1) := dk_29 (dk_at dksJ15_newLength_0 9 rfl rfl)
theorem dJ15_newLength_10 : decode cJ15_newLength 10 = .ok (.if_icmp .ge 11, 3) := dk_162 0 11 (dk_at dksJ15_newLength_0 10 rfl rfl)
theorem dJ15_newLength_13 : decode cJ15_newLength 13 = .ok (.iload_n 3, 1) := dk_29 (dk_at dksJ15_newLength_0 13 rfl rfl)
theorem dJ15_newLength_14 : decode cJ15_newLength 14 = .ok (.ldc 200, 2) := dk_18 200 (dk_at dksJ15_newLength_0 14 rfl rfl)
theorem dJ15_newLength_16 : decode cJ15_newLength 16 = .ok (.if_icmp .gt 5, 3) := dk_163 0 5 (dk_at dksJ15_newLength_0 16 rfl rfl)
theorem dJ15_newLength_19 : decode cJ15_newLength 19 = .ok (.iload_n 3, 1) := dk_29 (dk_at dksJ15_newLength_0 19 rfl rfl)
theorem dJ15_newLength_20 : decode cJ15_newLength 20 = .ok (.ireturn, 1) := dk_172 (dk_at dksJ15_newLength_0 20 rfl rfl)
theorem dJ15_newLength_21 : decode cJ15_newLength 21 = .ok (.iload_n 0, 1) := dk_26 (dk_at dksJ15_newLength_0 21 rfl rfl)
theorem dJ15_newLength_22 : decode cJ15_newLength 22 = .ok (.iload_n 1, 1) := dk_27 (dk_at dksJ15_newLength_0 22 rfl rfl)
theorem dJ15_newLength_23 : decode cJ15_newLength 23 = .ok (.invokestatic 201, 3) := dk_184 0 201 (dk_at dksJ15_newLength_1 0 rfl rfl)
theorem dJ15_newLength_26 : decode cJ15_newLength 26 = .ok (.ireturn, 1) := dk_172 (dk_at dksJ15_newLength_1 3 rfl rfl)
abbrev cJ15_hugeLength : ByteArray := prog_66_method_28_code
def yJ15_hugeLength : MethodName := ⟨RJ15, "hugeLength", "(II)I"⟩
def dkwJ15_hugeLength_2 : List UInt8 := [191, 28, 18, 200, 163, 0, 6, 18, 200, 172, 28, 172]
abbrev dktJ15_hugeLength_2 : List UInt8 := dkwJ15_hugeLength_2 ++ []
def dkwJ15_hugeLength_1 : List UInt8 := [26, 182, 0, 98, 18, 208, 182, 0, 94, 27, 182, 0, 98, 18, 210, 182, 0, 94, 182, 0, 101, 183, 0, 212]
abbrev dktJ15_hugeLength_1 : List UInt8 := dkwJ15_hugeLength_1 ++ dktJ15_hugeLength_2
def dkwJ15_hugeLength_0 : List UInt8 := [26, 27, 96, 61, 28, 156, 0, 44, 187, 0, 204, 89, 187, 0, 89, 89, 183, 0, 91, 18, 206, 182, 0, 94]
abbrev dktJ15_hugeLength_0 : List UInt8 := dkwJ15_hugeLength_0 ++ dktJ15_hugeLength_1
theorem dksJ15_hugeLength_0 : cJ15_hugeLength.data.toList.drop 0 = dktJ15_hugeLength_0 := by decide +kernel
theorem dksJ15_hugeLength_1 : cJ15_hugeLength.data.toList.drop 24 = dktJ15_hugeLength_1 := dk_seg dksJ15_hugeLength_0 24 rfl rfl
theorem dksJ15_hugeLength_2 : cJ15_hugeLength.data.toList.drop 48 = dktJ15_hugeLength_2 := dk_seg dksJ15_hugeLength_1 24 rfl rfl
theorem dJ15_hugeLength_0 : decode cJ15_hugeLength 0 = .ok (.iload_n 0, 1) := dk_26 (dk_at dksJ15_hugeLength_0 0 rfl rfl)
theorem dJ15_hugeLength_1 : decode cJ15_hugeLength 1 = .ok (.iload_n 1, 1) := dk_27 (dk_at dksJ15_hugeLength_0 1 rfl rfl)
theorem dJ15_hugeLength_2 : decode cJ15_hugeLength 2 = .ok (.iadd, 1) := dk_96 (dk_at dksJ15_hugeLength_0 2 rfl rfl)
theorem dJ15_hugeLength_3 : decode cJ15_hugeLength 3 = .ok (.istore_n 2, 1) := dk_61 (dk_at dksJ15_hugeLength_0 3 rfl rfl)
theorem dJ15_hugeLength_4 : decode cJ15_hugeLength 4 = .ok (.iload_n 2, 1) := dk_28 (dk_at dksJ15_hugeLength_0 4 rfl rfl)
theorem dJ15_hugeLength_5 : decode cJ15_hugeLength 5 = .ok (.ifCond .ge 44, 3) := dk_156 0 44 (dk_at dksJ15_hugeLength_0 5 rfl rfl)
theorem dJ15_hugeLength_8 : decode cJ15_hugeLength 8 = .ok (.new 204, 3) := dk_187 0 204 (dk_at dksJ15_hugeLength_0 8 rfl rfl)
theorem dJ15_hugeLength_11 : decode cJ15_hugeLength 11 = .ok (.dup, 1) := dk_89 (dk_at dksJ15_hugeLength_0 11 rfl rfl)
theorem dJ15_hugeLength_12 : decode cJ15_hugeLength 12 = .ok (.new 89, 3) := dk_187 0 89 (dk_at dksJ15_hugeLength_0 12 rfl rfl)
theorem dJ15_hugeLength_15 : decode cJ15_hugeLength 15 = .ok (.dup, 1) := dk_89 (dk_at dksJ15_hugeLength_0 15 rfl rfl)
theorem dJ15_hugeLength_16 : decode cJ15_hugeLength 16 = .ok (.invokespecial 91, 3) := dk_183 0 91 (dk_at dksJ15_hugeLength_0 16 rfl rfl)
theorem dJ15_hugeLength_19 : decode cJ15_hugeLength 19 = .ok (.ldc 206, 2) := dk_18 206 (dk_at dksJ15_hugeLength_0 19 rfl rfl)
theorem dJ15_hugeLength_21 : decode cJ15_hugeLength 21 = .ok (.invokevirtual 94, 3) := dk_182 0 94 (dk_at dksJ15_hugeLength_0 21 rfl rfl)
theorem dJ15_hugeLength_24 : decode cJ15_hugeLength 24 = .ok (.iload_n 0, 1) := dk_26 (dk_at dksJ15_hugeLength_1 0 rfl rfl)
theorem dJ15_hugeLength_25 : decode cJ15_hugeLength 25 = .ok (.invokevirtual 98, 3) := dk_182 0 98 (dk_at dksJ15_hugeLength_1 1 rfl rfl)
theorem dJ15_hugeLength_28 : decode cJ15_hugeLength 28 = .ok (.ldc 208, 2) := dk_18 208 (dk_at dksJ15_hugeLength_1 4 rfl rfl)
theorem dJ15_hugeLength_30 : decode cJ15_hugeLength 30 = .ok (.invokevirtual 94, 3) := dk_182 0 94 (dk_at dksJ15_hugeLength_1 6 rfl rfl)
theorem dJ15_hugeLength_33 : decode cJ15_hugeLength 33 = .ok (.iload_n 1, 1) := dk_27 (dk_at dksJ15_hugeLength_1 9 rfl rfl)
theorem dJ15_hugeLength_34 : decode cJ15_hugeLength 34 = .ok (.invokevirtual 98, 3) := dk_182 0 98 (dk_at dksJ15_hugeLength_1 10 rfl rfl)
theorem dJ15_hugeLength_37 : decode cJ15_hugeLength 37 = .ok (.ldc 210, 2) := dk_18 210 (dk_at dksJ15_hugeLength_1 13 rfl rfl)
theorem dJ15_hugeLength_39 : decode cJ15_hugeLength 39 = .ok (.invokevirtual 94, 3) := dk_182 0 94 (dk_at dksJ15_hugeLength_1 15 rfl rfl)
theorem dJ15_hugeLength_42 : decode cJ15_hugeLength 42 = .ok (.invokevirtual 101, 3) := dk_182 0 101 (dk_at dksJ15_hugeLength_1 18 rfl rfl)
theorem dJ15_hugeLength_45 : decode cJ15_hugeLength 45 = .ok (.invokespecial 212, 3) := dk_183 0 212 (dk_at dksJ15_hugeLength_1 21 rfl rfl)
theorem dJ15_hugeLength_48 : decode cJ15_hugeLength 48 = .ok (.athrow, 1) := dk_191 (dk_at dksJ15_hugeLength_2 0 rfl rfl)
theorem dJ15_hugeLength_49 : decode cJ15_hugeLength 49 = .ok (.iload_n 2, 1) := dk_28 (dk_at dksJ15_hugeLength_2 1 rfl rfl)
theorem dJ15_hugeLength_50 : decode cJ15_hugeLength 50 = .ok (.ldc 200, 2) := dk_18 200 (dk_at dksJ15_hugeLength_2 2 rfl rfl)
theorem dJ15_hugeLength_52 : decode cJ15_hugeLength 52 = .ok (.if_icmp .gt 6, 3) := dk_163 0 6 (dk_at dksJ15_hugeLength_2 4 rfl rfl)
theorem dJ15_hugeLength_55 : decode cJ15_hugeLength 55 = .ok (.ldc 200, 2) := dk_18 200 (dk_at dksJ15_hugeLength_2 7 rfl rfl)
theorem dJ15_hugeLength_57 : decode cJ15_hugeLength 57 = .ok (.ireturn, 1) := dk_172 (dk_at dksJ15_hugeLength_2 9 rfl rfl)
theorem dJ15_hugeLength_58 : decode cJ15_hugeLength 58 = .ok (.iload_n 2, 1) := dk_28 (dk_at dksJ15_hugeLength_2 10 rfl rfl)
theorem dJ15_hugeLength_59 : decode cJ15_hugeLength 59 = .ok (.ireturn, 1) := dk_172 (dk_at dksJ15_hugeLength_2 11 rfl rfl)
theorem q100 : (Jvm.Cond.initialized "jdk/internal/util/ArraysSupport") ∈ lw_all := lw_g (lw_at lw_m1 20 rfl) rfl
theorem q518 : (Jvm.Cond.static ({ cls := "jdk/internal/util/ArraysSupport", name := "newLength", desc := "(III)I" } : Jvm.MethodName)) ∈ lw_all := lw_g (lw_at lw_m2 198 rfl) rfl
theorem q519 : (Jvm.Cond.code ({ cls := "jdk/internal/util/ArraysSupport", name := "newLength", desc := "(III)I" } : Jvm.MethodName) prog_66_method_27_code (4 : Nat) (Option.some Jvm.ClassFile.FieldType.int)) ∈ lw_all := lw_g (lw_at lw_m2 199 rfl) rfl
theorem q520 : (Jvm.Cond.methodLink "jdk/internal/util/ArraysSupport" (194 : Nat) ({ cls := "java/lang/Math", name := "max", desc := "(II)I" } : Jvm.MethodName)) ∈ lw_all := lw_g (lw_at lw_m2 200 rfl) rfl
theorem q523 : (Jvm.Cond.constant "jdk/internal/util/ArraysSupport" (200 : Nat) (2147483639 : Int32)) ∈ lw_all := lw_g (lw_at lw_m2 203 rfl) rfl
theorem q524 : (Jvm.Cond.methodLink "jdk/internal/util/ArraysSupport" (201 : Nat) ({ cls := "jdk/internal/util/ArraysSupport", name := "hugeLength", desc := "(II)I" } : Jvm.MethodName)) ∈ lw_all := lw_g (lw_at lw_m2 204 rfl) rfl
theorem q525 : (Jvm.Cond.static ({ cls := "jdk/internal/util/ArraysSupport", name := "hugeLength", desc := "(II)I" } : Jvm.MethodName)) ∈ lw_all := lw_g (lw_at lw_m2 205 rfl) rfl
theorem q526 : (Jvm.Cond.code ({ cls := "jdk/internal/util/ArraysSupport", name := "hugeLength", desc := "(II)I" } : Jvm.MethodName) prog_66_method_28_code (3 : Nat) (Option.some Jvm.ClassFile.FieldType.int)) ∈ lw_all := lw_g (lw_at lw_m2 206 rfl) rfl
theorem q695 : (Jvm.Cond.static ({ cls := "jdk/internal/util/ArraysSupport", name := "vectorizedHashCode", desc := "(Ljava/lang/Object;IIII)I" } : Jvm.MethodName)) ∈ lw_all := lw_g (lw_at lw_m3 135 rfl) rfl
theorem q696 : (Jvm.Cond.code ({ cls := "jdk/internal/util/ArraysSupport", name := "vectorizedHashCode", desc := "(Ljava/lang/Object;IIII)I" } : Jvm.MethodName) prog_66_method_4_code (5 : Nat) (Option.some Jvm.ClassFile.FieldType.int)) ∈ lw_all := lw_g (lw_at lw_m3 136 rfl) rfl
theorem q697 : (Jvm.Cond.classLink "jdk/internal/util/ArraysSupport" (60 : Nat) "[B") ∈ lw_all := lw_g (lw_at lw_m3 137 rfl) rfl
theorem q698 : (Jvm.Cond.methodLink "jdk/internal/util/ArraysSupport" (62 : Nat) ({ cls := "jdk/internal/util/ArraysSupport", name := "signedHashCode", desc := "(I[BII)I" } : Jvm.MethodName)) ∈ lw_all := lw_g (lw_at lw_m3 138 rfl) rfl
theorem q699 : (Jvm.Cond.static ({ cls := "jdk/internal/util/ArraysSupport", name := "signedHashCode", desc := "(I[BII)I" } : Jvm.MethodName)) ∈ lw_all := lw_g (lw_at lw_m3 139 rfl) rfl
theorem q700 : (Jvm.Cond.code ({ cls := "jdk/internal/util/ArraysSupport", name := "signedHashCode", desc := "(I[BII)I" } : Jvm.MethodName) prog_66_method_5_code (6 : Nat) (Option.some Jvm.ClassFile.FieldType.int)) ∈ lw_all := lw_g (lw_at lw_m3 140 rfl) rfl
theorem q701 : (Jvm.Cond.methodLink "jdk/internal/util/ArraysSupport" (66 : Nat) ({ cls := "jdk/internal/util/ArraysSupport", name := "utf16hashCode", desc := "(I[BII)I" } : Jvm.MethodName)) ∈ lw_all := lw_g (lw_at lw_m3 141 rfl) rfl
theorem q702 : (Jvm.Cond.static ({ cls := "jdk/internal/util/ArraysSupport", name := "utf16hashCode", desc := "(I[BII)I" } : Jvm.MethodName)) ∈ lw_all := lw_g (lw_at lw_m3 142 rfl) rfl
theorem q703 : (Jvm.Cond.code ({ cls := "jdk/internal/util/ArraysSupport", name := "utf16hashCode", desc := "(I[BII)I" } : Jvm.MethodName) prog_66_method_10_code (6 : Nat) (Option.some Jvm.ClassFile.FieldType.int)) ∈ lw_all := lw_g (lw_at lw_m3 143 rfl) rfl
theorem q704 : (Jvm.Cond.fieldLink "jdk/internal/util/ArraysSupport" (106 : Nat) "jdk/internal/util/ArraysSupport" "JLA" "Ljdk/internal/access/JavaLangAccess;") ∈ lw_all := lw_g (lw_at lw_m3 144 rfl) rfl
theorem q705 : (Jvm.Cond.laysStatic "jdk/internal/util/ArraysSupport" "JLA" "Ljdk/internal/access/JavaLangAccess;") ∈ lw_tbl := lw_at lw_m3 145 rfl
theorem q706 : (Jvm.Cond.interfaceEntry "jdk/internal/util/ArraysSupport" (110 : Nat)) ∈ lw_tbl := lw_at lw_m3 146 rfl
theorem q707 : (Jvm.Cond.methodLink "jdk/internal/util/ArraysSupport" (110 : Nat) ({ cls := "jdk/internal/access/JavaLangAccess", name := "getUTF16Char", desc := "([BI)C" } : Jvm.MethodName)) ∈ lw_all := lw_g (lw_at lw_m3 147 rfl) rfl
theorem q728 : (Jvm.Cond.classLink "jdk/internal/util/ArraysSupport" (69 : Nat) "[C") ∈ lw_all := lw_g (lw_at lw_m3 168 rfl) rfl
theorem q729 : (Jvm.Cond.methodLink "jdk/internal/util/ArraysSupport" (71 : Nat) ({ cls := "jdk/internal/util/ArraysSupport", name := "hashCode", desc := "(I[CII)I" } : Jvm.MethodName)) ∈ lw_all := lw_g (lw_at lw_m3 169 rfl) rfl
theorem q730 : (Jvm.Cond.static ({ cls := "jdk/internal/util/ArraysSupport", name := "hashCode", desc := "(I[CII)I" } : Jvm.MethodName)) ∈ lw_all := lw_g (lw_at lw_m3 170 rfl) rfl
theorem q731 : (Jvm.Cond.code ({ cls := "jdk/internal/util/ArraysSupport", name := "hashCode", desc := "(I[CII)I" } : Jvm.MethodName) prog_66_method_7_code (6 : Nat) (Option.some Jvm.ClassFile.FieldType.int)) ∈ lw_all := lw_g (lw_at lw_m3 171 rfl) rfl
theorem q732 : (Jvm.Cond.methodLink "jdk/internal/util/ArraysSupport" (75 : Nat) ({ cls := "jdk/internal/util/ArraysSupport", name := "hashCode", desc := "(I[BII)I" } : Jvm.MethodName)) ∈ lw_all := lw_g (lw_at lw_m3 172 rfl) rfl
theorem q733 : (Jvm.Cond.static ({ cls := "jdk/internal/util/ArraysSupport", name := "hashCode", desc := "(I[BII)I" } : Jvm.MethodName)) ∈ lw_all := lw_g (lw_at lw_m3 173 rfl) rfl
theorem q734 : (Jvm.Cond.code ({ cls := "jdk/internal/util/ArraysSupport", name := "hashCode", desc := "(I[BII)I" } : Jvm.MethodName) prog_66_method_6_code (6 : Nat) (Option.some Jvm.ClassFile.FieldType.int)) ∈ lw_all := lw_g (lw_at lw_m3 174 rfl) rfl
theorem q735 : (Jvm.Cond.classLink "jdk/internal/util/ArraysSupport" (77 : Nat) "[S") ∈ lw_all := lw_g (lw_at lw_m3 175 rfl) rfl
theorem q736 : (Jvm.Cond.methodLink "jdk/internal/util/ArraysSupport" (79 : Nat) ({ cls := "jdk/internal/util/ArraysSupport", name := "hashCode", desc := "(I[SII)I" } : Jvm.MethodName)) ∈ lw_all := lw_g (lw_at lw_m3 176 rfl) rfl
theorem q737 : (Jvm.Cond.static ({ cls := "jdk/internal/util/ArraysSupport", name := "hashCode", desc := "(I[SII)I" } : Jvm.MethodName)) ∈ lw_all := lw_g (lw_at lw_m3 177 rfl) rfl
theorem q738 : (Jvm.Cond.code ({ cls := "jdk/internal/util/ArraysSupport", name := "hashCode", desc := "(I[SII)I" } : Jvm.MethodName) prog_66_method_8_code (6 : Nat) (Option.some Jvm.ClassFile.FieldType.int)) ∈ lw_all := lw_g (lw_at lw_m3 178 rfl) rfl
theorem q739 : (Jvm.Cond.classLink "jdk/internal/util/ArraysSupport" (82 : Nat) "[I") ∈ lw_all := lw_g (lw_at lw_m3 179 rfl) rfl
theorem q740 : (Jvm.Cond.methodLink "jdk/internal/util/ArraysSupport" (84 : Nat) ({ cls := "jdk/internal/util/ArraysSupport", name := "hashCode", desc := "(I[III)I" } : Jvm.MethodName)) ∈ lw_all := lw_g (lw_at lw_m3 180 rfl) rfl
theorem q741 : (Jvm.Cond.static ({ cls := "jdk/internal/util/ArraysSupport", name := "hashCode", desc := "(I[III)I" } : Jvm.MethodName)) ∈ lw_all := lw_g (lw_at lw_m3 181 rfl) rfl
theorem q742 : (Jvm.Cond.code ({ cls := "jdk/internal/util/ArraysSupport", name := "hashCode", desc := "(I[III)I" } : Jvm.MethodName) prog_66_method_9_code (6 : Nat) (Option.some Jvm.ClassFile.FieldType.int)) ∈ lw_all := lw_g (lw_at lw_m3 182 rfl) rfl
theorem q743 : (Jvm.Cond.classLink "jdk/internal/util/ArraysSupport" (87 : Nat) "java/lang/IllegalArgumentException") ∈ lw_all := lw_g (lw_at lw_m3 183 rfl) rfl
theorem q752 : (Jvm.Cond.classLink "jdk/internal/util/ArraysSupport" (89 : Nat) "java/lang/StringBuilder") ∈ lw_all := lw_g (lw_at lw_m3 192 rfl) rfl
theorem q753 : (Jvm.Cond.methodLink "jdk/internal/util/ArraysSupport" (91 : Nat) ({ cls := "java/lang/StringBuilder", name := "<init>", desc := "()V" } : Jvm.MethodName)) ∈ lw_all := lw_g (lw_at lw_m3 193 rfl) rfl
theorem q754 : (Jvm.Cond.stringRef "jdk/internal/util/ArraysSupport" (92 : Nat) "unrecognized basic type: ") ∈ lw_tbl := lw_at lw_m3 194 rfl
theorem q755 : (Jvm.Cond.methodLink "jdk/internal/util/ArraysSupport" (94 : Nat) ({ cls := "java/lang/StringBuilder", name := "append", desc := "(Ljava/lang/String;)Ljava/lang/StringBuilder;" } : Jvm.MethodName)) ∈ lw_all := lw_g (lw_at lw_m3 195 rfl) rfl
theorem q850 : (Jvm.Cond.methodLink "jdk/internal/util/ArraysSupport" (98 : Nat) ({ cls := "java/lang/StringBuilder", name := "append", desc := "(I)Ljava/lang/StringBuilder;" } : Jvm.MethodName)) ∈ lw_all := lw_g (lw_at lw_m4 50 rfl) rfl
theorem q875 : (Jvm.Cond.methodLink "jdk/internal/util/ArraysSupport" (101 : Nat) ({ cls := "java/lang/StringBuilder", name := "toString", desc := "()Ljava/lang/String;" } : Jvm.MethodName)) ∈ lw_all := lw_g (lw_at lw_m4 75 rfl) rfl
theorem q956 : (Jvm.Cond.methodLink "jdk/internal/util/ArraysSupport" (105 : Nat) ({ cls := "java/lang/IllegalArgumentException", name := "<init>", desc := "(Ljava/lang/String;)V" } : Jvm.MethodName)) ∈ lw_all := lw_g (lw_at lw_m4 156 rfl) rfl
theorem q1086 : (Jvm.Cond.static ({ cls := "jdk/internal/util/ArraysSupport", name := "mismatch", desc := "([B[BI)I" } : Jvm.MethodName)) ∈ lw_all := lw_g (lw_at lw_m5 46 rfl) rfl
theorem q1087 : (Jvm.Cond.code ({ cls := "jdk/internal/util/ArraysSupport", name := "mismatch", desc := "([B[BI)I" } : Jvm.MethodName) prog_66_method_13_code (4 : Nat) (Option.some Jvm.ClassFile.FieldType.int)) ∈ lw_all := lw_g (lw_at lw_m5 47 rfl) rfl
theorem q1088 : (Jvm.Cond.fieldLink "jdk/internal/util/ArraysSupport" (126 : Nat) "jdk/internal/misc/Unsafe" "ARRAY_BYTE_BASE_OFFSET" "I") ∈ lw_all := lw_g (lw_at lw_m5 48 rfl) rfl
theorem q1090 : (Jvm.Cond.fieldLink "jdk/internal/util/ArraysSupport" (129 : Nat) "jdk/internal/util/ArraysSupport" "LOG2_ARRAY_BYTE_INDEX_SCALE" "I") ∈ lw_all := lw_g (lw_at lw_m5 50 rfl) rfl
theorem q1091 : (Jvm.Cond.laysStatic "jdk/internal/util/ArraysSupport" "LOG2_ARRAY_BYTE_INDEX_SCALE" "I") ∈ lw_tbl := lw_at lw_m5 51 rfl
theorem q1092 : (Jvm.Cond.methodLink "jdk/internal/util/ArraysSupport" (122 : Nat) ({ cls := "jdk/internal/util/ArraysSupport", name := "vectorizedMismatch", desc := "(Ljava/lang/Object;JLjava/lang/Object;JII)I" } : Jvm.MethodName)) ∈ lw_all := lw_g (lw_at lw_m5 52 rfl) rfl
theorem q1093 : (Jvm.Cond.static ({ cls := "jdk/internal/util/ArraysSupport", name := "vectorizedMismatch", desc := "(Ljava/lang/Object;JLjava/lang/Object;JII)I" } : Jvm.MethodName)) ∈ lw_all := lw_g (lw_at lw_m5 53 rfl) rfl
theorem q1094 : (Jvm.Cond.code ({ cls := "jdk/internal/util/ArraysSupport", name := "vectorizedMismatch", desc := "(Ljava/lang/Object;JLjava/lang/Object;JII)I" } : Jvm.MethodName) prog_66_method_3_code (19 : Nat) (Option.some Jvm.ClassFile.FieldType.int)) ∈ lw_all := lw_g (lw_at lw_m5 54 rfl) rfl
theorem q1095 : (Jvm.Cond.fieldLink "jdk/internal/util/ArraysSupport" (20 : Nat) "jdk/internal/util/ArraysSupport" "LOG2_ARRAY_LONG_INDEX_SCALE" "I") ∈ lw_all := lw_g (lw_at lw_m5 55 rfl) rfl
theorem q1096 : (Jvm.Cond.laysStatic "jdk/internal/util/ArraysSupport" "LOG2_ARRAY_LONG_INDEX_SCALE" "I") ∈ lw_tbl := lw_at lw_m5 56 rfl
theorem q1097 : (Jvm.Cond.fieldLink "jdk/internal/util/ArraysSupport" (26 : Nat) "jdk/internal/util/ArraysSupport" "U" "Ljdk/internal/misc/Unsafe;") ∈ lw_all := lw_g (lw_at lw_m5 57 rfl) rfl
theorem q1098 : (Jvm.Cond.laysStatic "jdk/internal/util/ArraysSupport" "U" "Ljdk/internal/misc/Unsafe;") ∈ lw_tbl := lw_at lw_m5 58 rfl
theorem q1099 : (Jvm.Cond.methodLink "jdk/internal/util/ArraysSupport" (30 : Nat) ({ cls := "jdk/internal/misc/Unsafe", name := "getLongUnaligned", desc := "(Ljava/lang/Object;J)J" } : Jvm.MethodName)) ∈ lw_all := lw_g (lw_at lw_m5 59 rfl) rfl
theorem q1151 : (Jvm.Cond.fieldLink "jdk/internal/util/ArraysSupport" (36 : Nat) "jdk/internal/util/ArraysSupport" "BIG_ENDIAN" "Z") ∈ lw_all := lw_g (lw_at lw_m5 111 rfl) rfl
theorem q1152 : (Jvm.Cond.laysStatic "jdk/internal/util/ArraysSupport" "BIG_ENDIAN" "Z") ∈ lw_tbl := lw_at lw_m5 112 rfl
theorem q1153 : (Jvm.Cond.methodLink "jdk/internal/util/ArraysSupport" (40 : Nat) ({ cls := "java/lang/Long", name := "numberOfLeadingZeros", desc := "(J)I" } : Jvm.MethodName)) ∈ lw_all := lw_g (lw_at lw_m5 113 rfl) rfl
theorem q1160 : (Jvm.Cond.fieldLink "jdk/internal/util/ArraysSupport" (46 : Nat) "jdk/internal/util/ArraysSupport" "LOG2_BYTE_BIT_SIZE" "I") ∈ lw_all := lw_g (lw_at lw_m5 120 rfl) rfl
theorem q1161 : (Jvm.Cond.laysStatic "jdk/internal/util/ArraysSupport" "LOG2_BYTE_BIT_SIZE" "I") ∈ lw_tbl := lw_at lw_m5 121 rfl
theorem q1162 : (Jvm.Cond.methodLink "jdk/internal/util/ArraysSupport" (49 : Nat) ({ cls := "java/lang/Long", name := "numberOfTrailingZeros", desc := "(J)I" } : Jvm.MethodName)) ∈ lw_all := lw_g (lw_at lw_m5 122 rfl) rfl
theorem q1168 : (Jvm.Cond.fieldLink "jdk/internal/util/ArraysSupport" (51 : Nat) "jdk/internal/util/ArraysSupport" "LOG2_ARRAY_INT_INDEX_SCALE" "I") ∈ lw_all := lw_g (lw_at lw_m5 128 rfl) rfl
theorem q1169 : (Jvm.Cond.laysStatic "jdk/internal/util/ArraysSupport" "LOG2_ARRAY_INT_INDEX_SCALE" "I") ∈ lw_tbl := lw_at lw_m5 129 rfl
theorem q1170 : (Jvm.Cond.methodLink "jdk/internal/util/ArraysSupport" (54 : Nat) ({ cls := "jdk/internal/misc/Unsafe", name := "getIntUnaligned", desc := "(Ljava/lang/Object;J)I" } : Jvm.MethodName)) ∈ lw_all := lw_g (lw_at lw_m5 130 rfl) rfl
theorem q1187 : (Jvm.Cond.methodLink "jdk/internal/util/ArraysSupport" (58 : Nat) ({ cls := "java/lang/Integer", name := "numberOfLeadingZeros", desc := "(I)I" } : Jvm.MethodName)) ∈ lw_all := lw_g (lw_at lw_m5 147 rfl) rfl
theorem q1188 : (Jvm.Cond.methodLink "jdk/internal/util/ArraysSupport" (11 : Nat) ({ cls := "java/lang/Integer", name := "numberOfTrailingZeros", desc := "(I)I" } : Jvm.MethodName)) ∈ lw_all := lw_g (lw_at lw_m5 148 rfl) rfl

/-! java/lang/Math -/
set_option maxRecDepth 100000
def RJ16 : String := "java/lang/Math"
abbrev cJ16_max : ByteArray := prog_28_method_65_code
def yJ16_max : MethodName := ⟨RJ16, "max", "(II)I"⟩
def dkwJ16_max_0 : List UInt8 := [26, 27, 161, 0, 7, 26, 167, 0, 4, 27, 172]
abbrev dktJ16_max_0 : List UInt8 := dkwJ16_max_0 ++ []
theorem dksJ16_max_0 : cJ16_max.data.toList.drop 0 = dktJ16_max_0 := by decide +kernel
theorem dJ16_max_0 : decode cJ16_max 0 = .ok (.iload_n 0, 1) := dk_26 (dk_at dksJ16_max_0 0 rfl rfl)
theorem dJ16_max_1 : decode cJ16_max 1 = .ok (.iload_n 1, 1) := dk_27 (dk_at dksJ16_max_0 1 rfl rfl)
theorem dJ16_max_2 : decode cJ16_max 2 = .ok (.if_icmp .lt 7, 3) := dk_161 0 7 (dk_at dksJ16_max_0 2 rfl rfl)
theorem dJ16_max_5 : decode cJ16_max 5 = .ok (.iload_n 0, 1) := dk_26 (dk_at dksJ16_max_0 5 rfl rfl)
theorem dJ16_max_6 : decode cJ16_max 6 = .ok (.goto 4, 3) := dk_167 0 4 (dk_at dksJ16_max_0 6 rfl rfl)
theorem dJ16_max_9 : decode cJ16_max 9 = .ok (.iload_n 1, 1) := dk_27 (dk_at dksJ16_max_0 9 rfl rfl)
theorem dJ16_max_10 : decode cJ16_max 10 = .ok (.ireturn, 1) := dk_172 (dk_at dksJ16_max_0 10 rfl rfl)
abbrev cJ16_min : ByteArray := prog_28_method_69_code
def yJ16_min : MethodName := ⟨RJ16, "min", "(II)I"⟩
def dkwJ16_min_0 : List UInt8 := [26, 27, 163, 0, 7, 26, 167, 0, 4, 27, 172]
abbrev dktJ16_min_0 : List UInt8 := dkwJ16_min_0 ++ []
theorem dksJ16_min_0 : cJ16_min.data.toList.drop 0 = dktJ16_min_0 := by decide +kernel
theorem dJ16_min_0 : decode cJ16_min 0 = .ok (.iload_n 0, 1) := dk_26 (dk_at dksJ16_min_0 0 rfl rfl)
theorem dJ16_min_1 : decode cJ16_min 1 = .ok (.iload_n 1, 1) := dk_27 (dk_at dksJ16_min_0 1 rfl rfl)
theorem dJ16_min_2 : decode cJ16_min 2 = .ok (.if_icmp .gt 7, 3) := dk_163 0 7 (dk_at dksJ16_min_0 2 rfl rfl)
theorem dJ16_min_5 : decode cJ16_min 5 = .ok (.iload_n 0, 1) := dk_26 (dk_at dksJ16_min_0 5 rfl rfl)
theorem dJ16_min_6 : decode cJ16_min 6 = .ok (.goto 4, 3) := dk_167 0 4 (dk_at dksJ16_min_0 6 rfl rfl)
theorem dJ16_min_9 : decode cJ16_min 9 = .ok (.iload_n 1, 1) := dk_27 (dk_at dksJ16_min_0 9 rfl rfl)
theorem dJ16_min_10 : decode cJ16_min 10 = .ok (.ireturn, 1) := dk_172 (dk_at dksJ16_min_0 10 rfl rfl)
theorem q101 : (Jvm.Cond.initialized "java/lang/Math") ∈ lw_all := lw_g (lw_at lw_m1 21 rfl) rfl
theorem q521 : (Jvm.Cond.static ({ cls := "java/lang/Math", name := "max", desc := "(II)I" } : Jvm.MethodName)) ∈ lw_all := lw_g (lw_at lw_m2 201 rfl) rfl
theorem q522 : (Jvm.Cond.code ({ cls := "java/lang/Math", name := "max", desc := "(II)I" } : Jvm.MethodName) prog_28_method_65_code (2 : Nat) (Option.some Jvm.ClassFile.FieldType.int)) ∈ lw_all := lw_g (lw_at lw_m2 202 rfl) rfl
theorem q568 : (Jvm.Cond.static ({ cls := "java/lang/Math", name := "min", desc := "(II)I" } : Jvm.MethodName)) ∈ lw_all := lw_g (lw_at lw_m3 8 rfl) rfl
theorem q569 : (Jvm.Cond.code ({ cls := "java/lang/Math", name := "min", desc := "(II)I" } : Jvm.MethodName) prog_28_method_69_code (2 : Nat) (Option.some Jvm.ClassFile.FieldType.int)) ∈ lw_all := lw_g (lw_at lw_m3 9 rfl) rfl

/-! java/util/Arrays -/
set_option maxRecDepth 100000
def RJ17 : String := "java/util/Arrays"
abbrev cJ17_copyOf : ByteArray := prog_47_method_119_code
def yJ17_copyOf : MethodName := ⟨RJ17, "copyOf", "([Ljava/lang/Object;I)[Ljava/lang/Object;"⟩
def dkwJ17_copyOf_0 : List UInt8 := [42, 27, 42, 182, 0, 86, 184, 1, 44, 176]
abbrev dktJ17_copyOf_0 : List UInt8 := dkwJ17_copyOf_0 ++ []
theorem dksJ17_copyOf_0 : cJ17_copyOf.data.toList.drop 0 = dktJ17_copyOf_0 := by decide +kernel
theorem dJ17_copyOf_0 : decode cJ17_copyOf 0 = .ok (.aload_n 0, 1) := dk_42 (dk_at dksJ17_copyOf_0 0 rfl rfl)
theorem dJ17_copyOf_1 : decode cJ17_copyOf 1 = .ok (.iload_n 1, 1) := dk_27 (dk_at dksJ17_copyOf_0 1 rfl rfl)
theorem dJ17_copyOf_2 : decode cJ17_copyOf 2 = .ok (.aload_n 0, 1) := dk_42 (dk_at dksJ17_copyOf_0 2 rfl rfl)
theorem dJ17_copyOf_3 : decode cJ17_copyOf 3 = .ok (.invokevirtual 86, 3) := dk_182 0 86 (dk_at dksJ17_copyOf_0 3 rfl rfl)
theorem dJ17_copyOf_6 : decode cJ17_copyOf 6 = .ok (.invokestatic 300, 3) := dk_184 1 44 (dk_at dksJ17_copyOf_0 6 rfl rfl)
theorem dJ17_copyOf_9 : decode cJ17_copyOf 9 = .ok (.areturn, 1) := dk_176 (dk_at dksJ17_copyOf_0 9 rfl rfl)
abbrev cJ17_copyOf_2 : ByteArray := prog_47_method_120_code
def yJ17_copyOf_2 : MethodName := ⟨RJ17, "copyOf", "([Ljava/lang/Object;ILjava/lang/Class;)[Ljava/lang/Object;"⟩
def dkwJ17_copyOf_2_1 : List UInt8 := [78, 42, 3, 45, 3, 42, 190, 27, 184, 1, 48, 184, 0, 150, 45, 176]
abbrev dktJ17_copyOf_2_1 : List UInt8 := dkwJ17_copyOf_2_1 ++ []
def dkwJ17_copyOf_2_0 : List UInt8 := [44, 18, 110, 166, 0, 10, 27, 189, 0, 2, 167, 0, 14, 44, 182, 0, 90, 27, 184, 0, 95, 192, 0, 110]
abbrev dktJ17_copyOf_2_0 : List UInt8 := dkwJ17_copyOf_2_0 ++ dktJ17_copyOf_2_1
theorem dksJ17_copyOf_2_0 : cJ17_copyOf_2.data.toList.drop 0 = dktJ17_copyOf_2_0 := by decide +kernel
theorem dksJ17_copyOf_2_1 : cJ17_copyOf_2.data.toList.drop 24 = dktJ17_copyOf_2_1 := dk_seg dksJ17_copyOf_2_0 24 rfl rfl
theorem dJ17_copyOf_2_0 : decode cJ17_copyOf_2 0 = .ok (.aload_n 2, 1) := dk_44 (dk_at dksJ17_copyOf_2_0 0 rfl rfl)
theorem dJ17_copyOf_2_1 : decode cJ17_copyOf_2 1 = .ok (.ldc 110, 2) := dk_18 110 (dk_at dksJ17_copyOf_2_0 1 rfl rfl)
theorem dJ17_copyOf_2_3 : decode cJ17_copyOf_2 3 = .ok (.if_acmp .ne 10, 3) := dk_166 0 10 (dk_at dksJ17_copyOf_2_0 3 rfl rfl)
theorem dJ17_copyOf_2_6 : decode cJ17_copyOf_2 6 = .ok (.iload_n 1, 1) := dk_27 (dk_at dksJ17_copyOf_2_0 6 rfl rfl)
theorem dJ17_copyOf_2_7 : decode cJ17_copyOf_2 7 = .ok (.anewarray 2, 3) := dk_189 0 2 (dk_at dksJ17_copyOf_2_0 7 rfl rfl)
theorem dJ17_copyOf_2_10 : decode cJ17_copyOf_2 10 = .ok (.goto 14, 3) := dk_167 0 14 (dk_at dksJ17_copyOf_2_0 10 rfl rfl)
theorem dJ17_copyOf_2_13 : decode cJ17_copyOf_2 13 = .ok (.aload_n 2, 1) := dk_44 (dk_at dksJ17_copyOf_2_0 13 rfl rfl)
theorem dJ17_copyOf_2_14 : decode cJ17_copyOf_2 14 = .ok (.invokevirtual 90, 3) := dk_182 0 90 (dk_at dksJ17_copyOf_2_0 14 rfl rfl)
theorem dJ17_copyOf_2_17 : decode cJ17_copyOf_2 17 = .ok (.iload_n 1, 1) := dk_27 (dk_at dksJ17_copyOf_2_0 17 rfl rfl)
theorem dJ17_copyOf_2_18 : decode cJ17_copyOf_2 18 = .ok (.invokestatic 95, 3) := dk_184 0 95 (dk_at dksJ17_copyOf_2_0 18 rfl rfl)
theorem dJ17_copyOf_2_21 : decode cJ17_copyOf_2 21 = .ok (.checkcast 110, 3) := dk_192 0 110 (dk_at dksJ17_copyOf_2_0 21 rfl rfl)
theorem dJ17_copyOf_2_24 : decode cJ17_copyOf_2 24 = .ok (.astore_n 3, 1) := dk_78 (dk_at dksJ17_copyOf_2_1 0 rfl rfl)
theorem dJ17_copyOf_2_25 : decode cJ17_copyOf_2 25 = .ok (.aload_n 0, 1) := dk_42 (dk_at dksJ17_copyOf_2_1 1 rfl rfl)
theorem dJ17_copyOf_2_26 : decode cJ17_copyOf_2 26 = .ok (.iconst 0, 1) := dk_3 (dk_at dksJ17_copyOf_2_1 2 rfl rfl)
theorem dJ17_copyOf_2_27 : decode cJ17_copyOf_2 27 = .ok (.aload_n 3, 1) := dk_45 (dk_at dksJ17_copyOf_2_1 3 rfl rfl)
theorem dJ17_copyOf_2_28 : decode cJ17_copyOf_2 28 = .ok (.iconst 0, 1) := dk_3 (dk_at dksJ17_copyOf_2_1 4 rfl rfl)
theorem dJ17_copyOf_2_29 : decode cJ17_copyOf_2 29 = .ok (.aload_n 0, 1) := dk_42 (dk_at dksJ17_copyOf_2_1 5 rfl rfl)
theorem dJ17_copyOf_2_30 : decode cJ17_copyOf_2 30 = .ok (.arraylength, 1) := dk_190 (dk_at dksJ17_copyOf_2_1 6 rfl rfl)
theorem dJ17_copyOf_2_31 : decode cJ17_copyOf_2 31 = .ok (.iload_n 1, 1) := dk_27 (dk_at dksJ17_copyOf_2_1 7 rfl rfl)
theorem dJ17_copyOf_2_32 : decode cJ17_copyOf_2 32 = .ok (.invokestatic 304, 3) := dk_184 1 48 (dk_at dksJ17_copyOf_2_1 8 rfl rfl)
theorem dJ17_copyOf_2_35 : decode cJ17_copyOf_2 35 = .ok (.invokestatic 150, 3) := dk_184 0 150 (dk_at dksJ17_copyOf_2_1 11 rfl rfl)
theorem dJ17_copyOf_2_38 : decode cJ17_copyOf_2 38 = .ok (.aload_n 3, 1) := dk_45 (dk_at dksJ17_copyOf_2_1 14 rfl rfl)
theorem dJ17_copyOf_2_39 : decode cJ17_copyOf_2 39 = .ok (.areturn, 1) := dk_176 (dk_at dksJ17_copyOf_2_1 15 rfl rfl)
abbrev cJ17_copyOf_3 : ByteArray := prog_47_method_121_code
def yJ17_copyOf_3 : MethodName := ⟨RJ17, "copyOf", "([BI)[B"⟩
def dkwJ17_copyOf_3_1 : List UInt8 := [27, 184, 1, 48, 184, 0, 150, 44, 176]
abbrev dktJ17_copyOf_3_1 : List UInt8 := dkwJ17_copyOf_3_1 ++ []
def dkwJ17_copyOf_3_0 : List UInt8 := [27, 42, 190, 160, 0, 11, 42, 182, 1, 54, 192, 1, 55, 176, 27, 188, 8, 77, 42, 3, 44, 3, 42, 190]
abbrev dktJ17_copyOf_3_0 : List UInt8 := dkwJ17_copyOf_3_0 ++ dktJ17_copyOf_3_1
theorem dksJ17_copyOf_3_0 : cJ17_copyOf_3.data.toList.drop 0 = dktJ17_copyOf_3_0 := by decide +kernel
theorem dksJ17_copyOf_3_1 : cJ17_copyOf_3.data.toList.drop 24 = dktJ17_copyOf_3_1 := dk_seg dksJ17_copyOf_3_0 24 rfl rfl
theorem dJ17_copyOf_3_0 : decode cJ17_copyOf_3 0 = .ok (.iload_n 1, 1) := dk_27 (dk_at dksJ17_copyOf_3_0 0 rfl rfl)
theorem dJ17_copyOf_3_1 : decode cJ17_copyOf_3 1 = .ok (.aload_n 0, 1) := dk_42 (dk_at dksJ17_copyOf_3_0 1 rfl rfl)
theorem dJ17_copyOf_3_2 : decode cJ17_copyOf_3 2 = .ok (.arraylength, 1) := dk_190 (dk_at dksJ17_copyOf_3_0 2 rfl rfl)
theorem dJ17_copyOf_3_3 : decode cJ17_copyOf_3 3 = .ok (.if_icmp .ne 11, 3) := dk_160 0 11 (dk_at dksJ17_copyOf_3_0 3 rfl rfl)
theorem dJ17_copyOf_3_6 : decode cJ17_copyOf_3 6 = .ok (.aload_n 0, 1) := dk_42 (dk_at dksJ17_copyOf_3_0 6 rfl rfl)
theorem dJ17_copyOf_3_7 : decode cJ17_copyOf_3 7 = .ok (.invokevirtual 310, 3) := dk_182 1 54 (dk_at dksJ17_copyOf_3_0 7 rfl rfl)
theorem dJ17_copyOf_3_10 : decode cJ17_copyOf_3 10 = .ok (.checkcast 311, 3) := dk_192 1 55 (dk_at dksJ17_copyOf_3_0 10 rfl rfl)
theorem dJ17_copyOf_3_13 : decode cJ17_copyOf_3 13 = .ok (.areturn, 1) := dk_176 (dk_at dksJ17_copyOf_3_0 13 rfl rfl)
theorem dJ17_copyOf_3_14 : decode cJ17_copyOf_3 14 = .ok (.iload_n 1, 1) := dk_27 (dk_at dksJ17_copyOf_3_0 14 rfl rfl)
theorem dJ17_copyOf_3_15 : decode cJ17_copyOf_3 15 = .ok (.newarray .byte, 2) := dk_188_8 (dk_at dksJ17_copyOf_3_0 15 rfl rfl)
theorem dJ17_copyOf_3_17 : decode cJ17_copyOf_3 17 = .ok (.astore_n 2, 1) := dk_77 (dk_at dksJ17_copyOf_3_0 17 rfl rfl)
theorem dJ17_copyOf_3_18 : decode cJ17_copyOf_3 18 = .ok (.aload_n 0, 1) := dk_42 (dk_at dksJ17_copyOf_3_0 18 rfl rfl)
theorem dJ17_copyOf_3_19 : decode cJ17_copyOf_3 19 = .ok (.iconst 0, 1) := dk_3 (dk_at dksJ17_copyOf_3_0 19 rfl rfl)
theorem dJ17_copyOf_3_20 : decode cJ17_copyOf_3 20 = .ok (.aload_n 2, 1) := dk_44 (dk_at dksJ17_copyOf_3_0 20 rfl rfl)
theorem dJ17_copyOf_3_21 : decode cJ17_copyOf_3 21 = .ok (.iconst 0, 1) := dk_3 (dk_at dksJ17_copyOf_3_0 21 rfl rfl)
theorem dJ17_copyOf_3_22 : decode cJ17_copyOf_3 22 = .ok (.aload_n 0, 1) := dk_42 (dk_at dksJ17_copyOf_3_0 22 rfl rfl)
theorem dJ17_copyOf_3_23 : decode cJ17_copyOf_3 23 = .ok (.arraylength, 1) := dk_190 (dk_at dksJ17_copyOf_3_0 23 rfl rfl)
theorem dJ17_copyOf_3_24 : decode cJ17_copyOf_3 24 = .ok (.iload_n 1, 1) := dk_27 (dk_at dksJ17_copyOf_3_1 0 rfl rfl)
theorem dJ17_copyOf_3_25 : decode cJ17_copyOf_3 25 = .ok (.invokestatic 304, 3) := dk_184 1 48 (dk_at dksJ17_copyOf_3_1 1 rfl rfl)
theorem dJ17_copyOf_3_28 : decode cJ17_copyOf_3 28 = .ok (.invokestatic 150, 3) := dk_184 0 150 (dk_at dksJ17_copyOf_3_1 4 rfl rfl)
theorem dJ17_copyOf_3_31 : decode cJ17_copyOf_3 31 = .ok (.aload_n 2, 1) := dk_44 (dk_at dksJ17_copyOf_3_1 7 rfl rfl)
theorem dJ17_copyOf_3_32 : decode cJ17_copyOf_3 32 = .ok (.areturn, 1) := dk_176 (dk_at dksJ17_copyOf_3_1 8 rfl rfl)
abbrev cJ17_copyOfRange : ByteArray := prog_47_method_132_code
def yJ17_copyOfRange : MethodName := ⟨RJ17, "copyOfRange", "([BII)[B"⟩
def dkwJ17_copyOfRange_1 : List UInt8 := [176]
abbrev dktJ17_copyOfRange_1 : List UInt8 := dkwJ17_copyOfRange_1 ++ []
def dkwJ17_copyOfRange_0 : List UInt8 := [27, 154, 0, 9, 28, 42, 190, 159, 0, 10, 42, 27, 28, 184, 1, 83, 176, 42, 182, 1, 54, 192, 1, 55]
abbrev dktJ17_copyOfRange_0 : List UInt8 := dkwJ17_copyOfRange_0 ++ dktJ17_copyOfRange_1
theorem dksJ17_copyOfRange_0 : cJ17_copyOfRange.data.toList.drop 0 = dktJ17_copyOfRange_0 := by decide +kernel
theorem dksJ17_copyOfRange_1 : cJ17_copyOfRange.data.toList.drop 24 = dktJ17_copyOfRange_1 := dk_seg dksJ17_copyOfRange_0 24 rfl rfl
theorem dJ17_copyOfRange_0 : decode cJ17_copyOfRange 0 = .ok (.iload_n 1, 1) := dk_27 (dk_at dksJ17_copyOfRange_0 0 rfl rfl)
theorem dJ17_copyOfRange_1 : decode cJ17_copyOfRange 1 = .ok (.ifCond .ne 9, 3) := dk_154 0 9 (dk_at dksJ17_copyOfRange_0 1 rfl rfl)
theorem dJ17_copyOfRange_4 : decode cJ17_copyOfRange 4 = .ok (.iload_n 2, 1) := dk_28 (dk_at dksJ17_copyOfRange_0 4 rfl rfl)
theorem dJ17_copyOfRange_5 : decode cJ17_copyOfRange 5 = .ok (.aload_n 0, 1) := dk_42 (dk_at dksJ17_copyOfRange_0 5 rfl rfl)
theorem dJ17_copyOfRange_6 : decode cJ17_copyOfRange 6 = .ok (.arraylength, 1) := dk_190 (dk_at dksJ17_copyOfRange_0 6 rfl rfl)
theorem dJ17_copyOfRange_7 : decode cJ17_copyOfRange 7 = .ok (.if_icmp .eq 10, 3) := dk_159 0 10 (dk_at dksJ17_copyOfRange_0 7 rfl rfl)
theorem dJ17_copyOfRange_10 : decode cJ17_copyOfRange 10 = .ok (.aload_n 0, 1) := dk_42 (dk_at dksJ17_copyOfRange_0 10 rfl rfl)
theorem dJ17_copyOfRange_11 : decode cJ17_copyOfRange 11 = .ok (.iload_n 1, 1) := dk_27 (dk_at dksJ17_copyOfRange_0 11 rfl rfl)
theorem dJ17_copyOfRange_12 : decode cJ17_copyOfRange 12 = .ok (.iload_n 2, 1) := dk_28 (dk_at dksJ17_copyOfRange_0 12 rfl rfl)
theorem dJ17_copyOfRange_13 : decode cJ17_copyOfRange 13 = .ok (.invokestatic 339, 3) := dk_184 1 83 (dk_at dksJ17_copyOfRange_0 13 rfl rfl)
theorem dJ17_copyOfRange_16 : decode cJ17_copyOfRange 16 = .ok (.areturn, 1) := dk_176 (dk_at dksJ17_copyOfRange_0 16 rfl rfl)
theorem dJ17_copyOfRange_17 : decode cJ17_copyOfRange 17 = .ok (.aload_n 0, 1) := dk_42 (dk_at dksJ17_copyOfRange_0 17 rfl rfl)
theorem dJ17_copyOfRange_18 : decode cJ17_copyOfRange 18 = .ok (.invokevirtual 310, 3) := dk_182 1 54 (dk_at dksJ17_copyOfRange_0 18 rfl rfl)
theorem dJ17_copyOfRange_21 : decode cJ17_copyOfRange 21 = .ok (.checkcast 311, 3) := dk_192 1 55 (dk_at dksJ17_copyOfRange_0 21 rfl rfl)
theorem dJ17_copyOfRange_24 : decode cJ17_copyOfRange 24 = .ok (.areturn, 1) := dk_176 (dk_at dksJ17_copyOfRange_1 0 rfl rfl)
abbrev cJ17_copyOfRangeByte : ByteArray := prog_47_method_133_code
def yJ17_copyOfRangeByte : MethodName := ⟨RJ17, "copyOfRangeByte", "([BII)[B"⟩
def dkwJ17_copyOfRangeByte_1 : List UInt8 := [184, 1, 48, 184, 0, 150, 25, 4, 176]
abbrev dktJ17_copyOfRangeByte_1 : List UInt8 := dkwJ17_copyOfRangeByte_1 ++ []
def dkwJ17_copyOfRangeByte_0 : List UInt8 := [27, 28, 184, 1, 87, 28, 27, 100, 62, 29, 188, 8, 58, 4, 42, 27, 25, 4, 3, 42, 190, 27, 100, 29]
abbrev dktJ17_copyOfRangeByte_0 : List UInt8 := dkwJ17_copyOfRangeByte_0 ++ dktJ17_copyOfRangeByte_1
theorem dksJ17_copyOfRangeByte_0 : cJ17_copyOfRangeByte.data.toList.drop 0 = dktJ17_copyOfRangeByte_0 := by decide +kernel
theorem dksJ17_copyOfRangeByte_1 : cJ17_copyOfRangeByte.data.toList.drop 24 = dktJ17_copyOfRangeByte_1 := dk_seg dksJ17_copyOfRangeByte_0 24 rfl rfl
theorem dJ17_copyOfRangeByte_0 : decode cJ17_copyOfRangeByte 0 = .ok (.iload_n 1, 1) := dk_27 (dk_at dksJ17_copyOfRangeByte_0 0 rfl rfl)
theorem dJ17_copyOfRangeByte_1 : decode cJ17_copyOfRangeByte 1 = .ok (.iload_n 2, 1) := dk_28 (dk_at dksJ17_copyOfRangeByte_0 1 rfl rfl)
theorem dJ17_copyOfRangeByte_2 : decode cJ17_copyOfRangeByte 2 = .ok (.invokestatic 343, 3) := dk_184 1 87 (dk_at dksJ17_copyOfRangeByte_0 2 rfl rfl)
theorem dJ17_copyOfRangeByte_5 : decode cJ17_copyOfRangeByte 5 = .ok (.iload_n 2, 1) := dk_28 (dk_at dksJ17_copyOfRangeByte_0 5 rfl rfl)
theorem dJ17_copyOfRangeByte_6 : decode cJ17_copyOfRangeByte 6 = .ok (.iload_n 1, 1) := dk_27 (dk_at dksJ17_copyOfRangeByte_0 6 rfl rfl)
theorem dJ17_copyOfRangeByte_7 : decode cJ17_copyOfRangeByte 7 = .ok (.isub, 1) := dk_100 (dk_at dksJ17_copyOfRangeByte_0 7 rfl rfl)
theorem dJ17_copyOfRangeByte_8 : decode cJ17_copyOfRangeByte 8 = .ok (.istore_n 3, 1) := dk_62 (dk_at dksJ17_copyOfRangeByte_0 8 rfl rfl)
theorem dJ17_copyOfRangeByte_9 : decode cJ17_copyOfRangeByte 9 = .ok (.iload_n 3, 1) := dk_29 (dk_at dksJ17_copyOfRangeByte_0 9 rfl rfl)
theorem dJ17_copyOfRangeByte_10 : decode cJ17_copyOfRangeByte 10 = .ok (.newarray .byte, 2) := dk_188_8 (dk_at dksJ17_copyOfRangeByte_0 10 rfl rfl)
theorem dJ17_copyOfRangeByte_12 : decode cJ17_copyOfRangeByte 12 = .ok (.astore 4, 2) := dk_58 4 (dk_at dksJ17_copyOfRangeByte_0 12 rfl rfl)
theorem dJ17_copyOfRangeByte_14 : decode cJ17_copyOfRangeByte 14 = .ok (.aload_n 0, 1) := dk_42 (dk_at dksJ17_copyOfRangeByte_0 14 rfl rfl)
theorem dJ17_copyOfRangeByte_15 : decode cJ17_copyOfRangeByte 15 = .ok (.iload_n 1, 1) := dk_27 (dk_at dksJ17_copyOfRangeByte_0 15 rfl rfl)
theorem dJ17_copyOfRangeByte_16 : decode cJ17_copyOfRangeByte 16 = .ok (.aload 4, 2) := dk_25 4 (dk_at dksJ17_copyOfRangeByte_0 16 rfl rfl)
theorem dJ17_copyOfRangeByte_18 : decode cJ17_copyOfRangeByte 18 = .ok (.iconst 0, 1) := dk_3 (dk_at dksJ17_copyOfRangeByte_0 18 rfl rfl)
theorem dJ17_copyOfRangeByte_19 : decode cJ17_copyOfRangeByte 19 = .ok (.aload_n 0, 1) := dk_42 (dk_at dksJ17_copyOfRangeByte_0 19 rfl rfl)
theorem dJ17_copyOfRangeByte_20 : decode cJ17_copyOfRangeByte 20 = .ok (.arraylength, 1) := dk_190 (dk_at dksJ17_copyOfRangeByte_0 20 rfl rfl)
theorem dJ17_copyOfRangeByte_21 : decode cJ17_copyOfRangeByte 21 = .ok (.iload_n 1, 1) := dk_27 (dk_at dksJ17_copyOfRangeByte_0 21 rfl rfl)
theorem dJ17_copyOfRangeByte_22 : decode cJ17_copyOfRangeByte 22 = .ok (.isub, 1) := dk_100 (dk_at dksJ17_copyOfRangeByte_0 22 rfl rfl)
theorem dJ17_copyOfRangeByte_23 : decode cJ17_copyOfRangeByte 23 = .ok (.iload_n 3, 1) := dk_29 (dk_at dksJ17_copyOfRangeByte_0 23 rfl rfl)
theorem dJ17_copyOfRangeByte_24 : decode cJ17_copyOfRangeByte 24 = .ok (.invokestatic 304, 3) := dk_184 1 48 (dk_at dksJ17_copyOfRangeByte_1 0 rfl rfl)
theorem dJ17_copyOfRangeByte_27 : decode cJ17_copyOfRangeByte 27 = .ok (.invokestatic 150, 3) := dk_184 0 150 (dk_at dksJ17_copyOfRangeByte_1 3 rfl rfl)
theorem dJ17_copyOfRangeByte_30 : decode cJ17_copyOfRangeByte 30 = .ok (.aload 4, 2) := dk_25 4 (dk_at dksJ17_copyOfRangeByte_1 6 rfl rfl)
theorem dJ17_copyOfRangeByte_32 : decode cJ17_copyOfRangeByte 32 = .ok (.areturn, 1) := dk_176 (dk_at dksJ17_copyOfRangeByte_1 8 rfl rfl)
abbrev cJ17_checkLength : ByteArray := prog_47_method_131_code
def yJ17_checkLength : MethodName := ⟨RJ17, "checkLength", "(II)V"⟩
def dkwJ17_checkLength_1 : List UInt8 := [182, 0, 50, 27, 182, 0, 54, 182, 0, 61, 183, 0, 65, 191, 177]
abbrev dktJ17_checkLength_1 : List UInt8 := dkwJ17_checkLength_1 ++ []
def dkwJ17_checkLength_0 : List UInt8 := [27, 26, 162, 0, 35, 187, 0, 43, 89, 187, 0, 45, 89, 183, 0, 47, 26, 182, 0, 54, 19, 1, 81]
abbrev dktJ17_checkLength_0 : List UInt8 := dkwJ17_checkLength_0 ++ dktJ17_checkLength_1
theorem dksJ17_checkLength_0 : cJ17_checkLength.data.toList.drop 0 = dktJ17_checkLength_0 := by decide +kernel
theorem dksJ17_checkLength_1 : cJ17_checkLength.data.toList.drop 23 = dktJ17_checkLength_1 := dk_seg dksJ17_checkLength_0 23 rfl rfl
theorem dJ17_checkLength_0 : decode cJ17_checkLength 0 = .ok (.iload_n 1, 1) := dk_27 (dk_at dksJ17_checkLength_0 0 rfl rfl)
theorem dJ17_checkLength_1 : decode cJ17_checkLength 1 = .ok (.iload_n 0, 1) := dk_26 (dk_at dksJ17_checkLength_0 1 rfl rfl)
theorem dJ17_checkLength_2 : decode cJ17_checkLength 2 = .ok (.if_icmp .ge 35, 3) := dk_162 0 35 (dk_at dksJ17_checkLength_0 2 rfl rfl)
theorem dJ17_checkLength_5 : decode cJ17_checkLength 5 = .ok (.new 43, 3) := dk_187 0 43 (dk_at dksJ17_checkLength_0 5 rfl rfl)
theorem dJ17_checkLength_8 : decode cJ17_checkLength 8 = .ok (.dup, 1) := dk_89 (dk_at dksJ17_checkLength_0 8 rfl rfl)
theorem dJ17_checkLength_9 : decode cJ17_checkLength 9 = .ok (.new 45, 3) := dk_187 0 45 (dk_at dksJ17_checkLength_0 9 rfl rfl)
theorem dJ17_checkLength_12 : decode cJ17_checkLength 12 = .ok (.dup, 1) := dk_89 (dk_at dksJ17_checkLength_0 12 rfl rfl)
theorem dJ17_checkLength_13 : decode cJ17_checkLength 13 = .ok (.invokespecial 47, 3) := dk_183 0 47 (dk_at dksJ17_checkLength_0 13 rfl rfl)
theorem dJ17_checkLength_16 : decode cJ17_checkLength 16 = .ok (.iload_n 0, 1) := dk_26 (dk_at dksJ17_checkLength_0 16 rfl rfl)
theorem dJ17_checkLength_17 : decode cJ17_checkLength 17 = .ok (.invokevirtual 54, 3) := dk_182 0 54 (dk_at dksJ17_checkLength_0 17 rfl rfl)
theorem dJ17_checkLength_20 : decode cJ17_checkLength 20 = .ok (.ldc_w 337, 3) := dk_19 1 81 (dk_at dksJ17_checkLength_0 20 rfl rfl)
theorem dJ17_checkLength_23 : decode cJ17_checkLength 23 = .ok (.invokevirtual 50, 3) := dk_182 0 50 (dk_at dksJ17_checkLength_1 0 rfl rfl)
theorem dJ17_checkLength_26 : decode cJ17_checkLength 26 = .ok (.iload_n 1, 1) := dk_27 (dk_at dksJ17_checkLength_1 3 rfl rfl)
theorem dJ17_checkLength_27 : decode cJ17_checkLength 27 = .ok (.invokevirtual 54, 3) := dk_182 0 54 (dk_at dksJ17_checkLength_1 4 rfl rfl)
theorem dJ17_checkLength_30 : decode cJ17_checkLength 30 = .ok (.invokevirtual 61, 3) := dk_182 0 61 (dk_at dksJ17_checkLength_1 7 rfl rfl)
theorem dJ17_checkLength_33 : decode cJ17_checkLength 33 = .ok (.invokespecial 65, 3) := dk_183 0 65 (dk_at dksJ17_checkLength_1 10 rfl rfl)
theorem dJ17_checkLength_36 : decode cJ17_checkLength 36 = .ok (.athrow, 1) := dk_191 (dk_at dksJ17_checkLength_1 13 rfl rfl)
theorem dJ17_checkLength_37 : decode cJ17_checkLength 37 = .ok (.return_, 1) := dk_177 (dk_at dksJ17_checkLength_1 14 rfl rfl)
theorem q102 : (Jvm.Cond.initialized "java/util/Arrays") ∈ lw_all := lw_g (lw_at lw_m1 22 rfl) rfl
theorem q528 : (Jvm.Cond.static ({ cls := "java/util/Arrays", name := "copyOf", desc := "([Ljava/lang/Object;I)[Ljava/lang/Object;" } : Jvm.MethodName)) ∈ lw_all := lw_g (lw_at lw_m2 208 rfl) rfl
theorem q529 : (Jvm.Cond.code ({ cls := "java/util/Arrays", name := "copyOf", desc := "([Ljava/lang/Object;I)[Ljava/lang/Object;" } : Jvm.MethodName) prog_47_method_119_code (2 : Nat) (Option.some (Jvm.ClassFile.FieldType.array (Jvm.ClassFile.FieldType.object "java/lang/Object")))) ∈ lw_all := lw_g (lw_at lw_m2 209 rfl) rfl
theorem q530 : (Jvm.Cond.methodLink "java/util/Arrays" (86 : Nat) ({ cls := "java/lang/Object", name := "getClass", desc := "()Ljava/lang/Class;" } : Jvm.MethodName)) ∈ lw_all := lw_g (lw_at lw_m2 210 rfl) rfl
theorem q562 : (Jvm.Cond.methodLink "java/util/Arrays" (300 : Nat) ({ cls := "java/util/Arrays", name := "copyOf", desc := "([Ljava/lang/Object;ILjava/lang/Class;)[Ljava/lang/Object;" } : Jvm.MethodName)) ∈ lw_all := lw_g (lw_at lw_m3 2 rfl) rfl
theorem q563 : (Jvm.Cond.static ({ cls := "java/util/Arrays", name := "copyOf", desc := "([Ljava/lang/Object;ILjava/lang/Class;)[Ljava/lang/Object;" } : Jvm.MethodName)) ∈ lw_all := lw_g (lw_at lw_m3 3 rfl) rfl
theorem q564 : (Jvm.Cond.code ({ cls := "java/util/Arrays", name := "copyOf", desc := "([Ljava/lang/Object;ILjava/lang/Class;)[Ljava/lang/Object;" } : Jvm.MethodName) prog_47_method_120_code (4 : Nat) (Option.some (Jvm.ClassFile.FieldType.array (Jvm.ClassFile.FieldType.object "java/lang/Object")))) ∈ lw_all := lw_g (lw_at lw_m3 4 rfl) rfl
theorem q565 : (Jvm.Cond.classLink "java/util/Arrays" (110 : Nat) "[Ljava/lang/Object;") ∈ lw_all := lw_g (lw_at lw_m3 5 rfl) rfl
theorem q566 : (Jvm.Cond.classLink "java/util/Arrays" (2 : Nat) "java/lang/Object") ∈ lw_all := lw_g (lw_at lw_m3 6 rfl) rfl
theorem q567 : (Jvm.Cond.methodLink "java/util/Arrays" (304 : Nat) ({ cls := "java/lang/Math", name := "min", desc := "(II)I" } : Jvm.MethodName)) ∈ lw_all := lw_g (lw_at lw_m3 7 rfl) rfl
theorem q570 : (Jvm.Cond.methodLink "java/util/Arrays" (150 : Nat) ({ cls := "java/lang/System", name := "arraycopy", desc := "(Ljava/lang/Object;ILjava/lang/Object;II)V" } : Jvm.MethodName)) ∈ lw_all := lw_g (lw_at lw_m3 10 rfl) rfl
theorem q777 : (Jvm.Cond.static ({ cls := "java/util/Arrays", name := "copyOf", desc := "([BI)[B" } : Jvm.MethodName)) ∈ lw_all := lw_g (lw_at lw_m3 217 rfl) rfl
theorem q778 : (Jvm.Cond.code ({ cls := "java/util/Arrays", name := "copyOf", desc := "([BI)[B" } : Jvm.MethodName) prog_47_method_121_code (3 : Nat) (Option.some (Jvm.ClassFile.FieldType.array Jvm.ClassFile.FieldType.byte))) ∈ lw_all := lw_g (lw_at lw_m3 218 rfl) rfl
theorem q779 : (Jvm.Cond.methodLink "java/util/Arrays" (310 : Nat) ({ cls := "[B", name := "clone", desc := "()Ljava/lang/Object;" } : Jvm.MethodName)) ∈ lw_all := lw_g (lw_at lw_m3 219 rfl) rfl
theorem q785 : (Jvm.Cond.classLink "java/util/Arrays" (311 : Nat) "[B") ∈ lw_all := lw_g (lw_at lw_m3 225 rfl) rfl
theorem q903 : (Jvm.Cond.static ({ cls := "java/util/Arrays", name := "copyOfRange", desc := "([BII)[B" } : Jvm.MethodName)) ∈ lw_all := lw_g (lw_at lw_m4 103 rfl) rfl
theorem q904 : (Jvm.Cond.code ({ cls := "java/util/Arrays", name := "copyOfRange", desc := "([BII)[B" } : Jvm.MethodName) prog_47_method_132_code (3 : Nat) (Option.some (Jvm.ClassFile.FieldType.array Jvm.ClassFile.FieldType.byte))) ∈ lw_all := lw_g (lw_at lw_m4 104 rfl) rfl
theorem q905 : (Jvm.Cond.methodLink "java/util/Arrays" (339 : Nat) ({ cls := "java/util/Arrays", name := "copyOfRangeByte", desc := "([BII)[B" } : Jvm.MethodName)) ∈ lw_all := lw_g (lw_at lw_m4 105 rfl) rfl
theorem q906 : (Jvm.Cond.static ({ cls := "java/util/Arrays", name := "copyOfRangeByte", desc := "([BII)[B" } : Jvm.MethodName)) ∈ lw_all := lw_g (lw_at lw_m4 106 rfl) rfl
theorem q907 : (Jvm.Cond.code ({ cls := "java/util/Arrays", name := "copyOfRangeByte", desc := "([BII)[B" } : Jvm.MethodName) prog_47_method_133_code (5 : Nat) (Option.some (Jvm.ClassFile.FieldType.array Jvm.ClassFile.FieldType.byte))) ∈ lw_all := lw_g (lw_at lw_m4 107 rfl) rfl
theorem q908 : (Jvm.Cond.methodLink "java/util/Arrays" (343 : Nat) ({ cls := "java/util/Arrays", name := "checkLength", desc := "(II)V" } : Jvm.MethodName)) ∈ lw_all := lw_g (lw_at lw_m4 108 rfl) rfl
theorem q909 : (Jvm.Cond.static ({ cls := "java/util/Arrays", name := "checkLength", desc := "(II)V" } : Jvm.MethodName)) ∈ lw_all := lw_g (lw_at lw_m4 109 rfl) rfl
theorem q910 : (Jvm.Cond.code ({ cls := "java/util/Arrays", name := "checkLength", desc := "(II)V" } : Jvm.MethodName) prog_47_method_131_code (2 : Nat) (Option.none : Option Jvm.ClassFile.FieldType)) ∈ lw_all := lw_g (lw_at lw_m4 110 rfl) rfl
theorem q911 : (Jvm.Cond.classLink "java/util/Arrays" (43 : Nat) "java/lang/IllegalArgumentException") ∈ lw_all := lw_g (lw_at lw_m4 111 rfl) rfl
theorem q912 : (Jvm.Cond.classLink "java/util/Arrays" (45 : Nat) "java/lang/StringBuilder") ∈ lw_all := lw_g (lw_at lw_m4 112 rfl) rfl
theorem q913 : (Jvm.Cond.methodLink "java/util/Arrays" (47 : Nat) ({ cls := "java/lang/StringBuilder", name := "<init>", desc := "()V" } : Jvm.MethodName)) ∈ lw_all := lw_g (lw_at lw_m4 113 rfl) rfl
theorem q914 : (Jvm.Cond.methodLink "java/util/Arrays" (54 : Nat) ({ cls := "java/lang/StringBuilder", name := "append", desc := "(I)Ljava/lang/StringBuilder;" } : Jvm.MethodName)) ∈ lw_all := lw_g (lw_at lw_m4 114 rfl) rfl
theorem q915 : (Jvm.Cond.stringRef "java/util/Arrays" (337 : Nat) " > ") ∈ lw_tbl := lw_at lw_m4 115 rfl
theorem q916 : (Jvm.Cond.methodLink "java/util/Arrays" (50 : Nat) ({ cls := "java/lang/StringBuilder", name := "append", desc := "(Ljava/lang/String;)Ljava/lang/StringBuilder;" } : Jvm.MethodName)) ∈ lw_all := lw_g (lw_at lw_m4 116 rfl) rfl
theorem q917 : (Jvm.Cond.methodLink "java/util/Arrays" (61 : Nat) ({ cls := "java/lang/StringBuilder", name := "toString", desc := "()Ljava/lang/String;" } : Jvm.MethodName)) ∈ lw_all := lw_g (lw_at lw_m4 117 rfl) rfl
theorem q918 : (Jvm.Cond.methodLink "java/util/Arrays" (65 : Nat) ({ cls := "java/lang/IllegalArgumentException", name := "<init>", desc := "(Ljava/lang/String;)V" } : Jvm.MethodName)) ∈ lw_all := lw_g (lw_at lw_m4 118 rfl) rfl

/-! java/lang/Number -/
set_option maxRecDepth 100000
def RJ18 : String := "java/lang/Number"
abbrev cJ18_init : ByteArray := prog_29_method_1_code
def yJ18_init : MethodName := ⟨RJ18, "<init>", "()V"⟩
theorem dJ18_init_0 : decode cJ18_init 0 = .ok (.aload_n 0, 1) := by decide +kernel
theorem dJ18_init_1 : decode cJ18_init 1 = .ok (.invokespecial 1, 3) := by decide +kernel
theorem dJ18_init_4 : decode cJ18_init 4 = .ok (.return_, 1) := by decide +kernel
theorem q105 : (Jvm.Cond.initialized "java/lang/Number") ∈ lw_all := lw_g (lw_at lw_m1 25 rfl) rfl
theorem q637 : (Jvm.Cond.instanceMethod ({ cls := "java/lang/Number", name := "<init>", desc := "()V" } : Jvm.MethodName)) ∈ lw_all := lw_g (lw_at lw_m3 77 rfl) rfl
theorem q638 : (Jvm.Cond.code ({ cls := "java/lang/Number", name := "<init>", desc := "()V" } : Jvm.MethodName) prog_29_method_1_code (1 : Nat) (Option.none : Option Jvm.ClassFile.FieldType)) ∈ lw_all := lw_g (lw_at lw_m3 78 rfl) rfl
theorem q639 : (Jvm.Cond.methodLink "java/lang/Number" (1 : Nat) ({ cls := "java/lang/Object", name := "<init>", desc := "()V" } : Jvm.MethodName)) ∈ lw_all := lw_g (lw_at lw_m3 79 rfl) rfl

/-! java/lang/Integer -/
set_option maxRecDepth 100000
def RJ19 : String := "java/lang/Integer"
def TJ19 : u_T := fun k => match k with
  | _ => ("java/lang/Integer", "value", "I", true)
def tyJ19 : Nat → FieldType := fun k => match k with
  | _ => .int
abbrev wsJ190 : List Cond := u_ws RJ19 TJ19 1
theorem nmJ19 : ∀ a, a < 1 → ∀ b, b < 1 → a ≠ b → (TJ19 a).2.1 ≠ (TJ19 b).2.1 := by decide +kernel
theorem tyJ19_ok : ∀ k, k < 1 → parseFieldDescriptor (TJ19 k).2.2.1 = some (tyJ19 k) := by decide +kernel
abbrev cJ19_valueOf : ByteArray := prog_24_method_22_code
def yJ19_valueOf : MethodName := ⟨RJ19, "valueOf", "(I)Ljava/lang/Integer;"⟩
def dkwJ19_valueOf_1 : List UInt8 := [187, 0, 1, 89, 26, 183, 0, 199, 176]
abbrev dktJ19_valueOf_1 : List UInt8 := dkwJ19_valueOf_1 ++ []
def dkwJ19_valueOf_0 : List UInt8 := [26, 16, 128, 161, 0, 20, 26, 178, 0, 191, 163, 0, 13, 178, 0, 195, 26, 17, 0, 128, 96, 50, 176]
abbrev dktJ19_valueOf_0 : List UInt8 := dkwJ19_valueOf_0 ++ dktJ19_valueOf_1
theorem dksJ19_valueOf_0 : cJ19_valueOf.data.toList.drop 0 = dktJ19_valueOf_0 := by decide +kernel
theorem dksJ19_valueOf_1 : cJ19_valueOf.data.toList.drop 23 = dktJ19_valueOf_1 := dk_seg dksJ19_valueOf_0 23 rfl rfl
theorem dJ19_valueOf_0 : decode cJ19_valueOf 0 = .ok (.iload_n 0, 1) := dk_26 (dk_at dksJ19_valueOf_0 0 rfl rfl)
theorem dJ19_valueOf_1 : decode cJ19_valueOf 1 = .ok (.bipush (-128), 2) := dk_16 128 (dk_at dksJ19_valueOf_0 1 rfl rfl)
theorem dJ19_valueOf_3 : decode cJ19_valueOf 3 = .ok (.if_icmp .lt 20, 3) := dk_161 0 20 (dk_at dksJ19_valueOf_0 3 rfl rfl)
theorem dJ19_valueOf_6 : decode cJ19_valueOf 6 = .ok (.iload_n 0, 1) := dk_26 (dk_at dksJ19_valueOf_0 6 rfl rfl)
theorem dJ19_valueOf_7 : decode cJ19_valueOf 7 = .ok (.getstatic 191, 3) := dk_178 0 191 (dk_at dksJ19_valueOf_0 7 rfl rfl)
theorem dJ19_valueOf_10 : decode cJ19_valueOf 10 = .ok (.if_icmp .gt 13, 3) := dk_163 0 13 (dk_at dksJ19_valueOf_0 10 rfl rfl)
theorem dJ19_valueOf_13 : decode cJ19_valueOf 13 = .ok (.getstatic 195, 3) := dk_178 0 195 (dk_at dksJ19_valueOf_0 13 rfl rfl)
theorem dJ19_valueOf_16 : decode cJ19_valueOf 16 = .ok (.iload_n 0, 1) := dk_26 (dk_at dksJ19_valueOf_0 16 rfl rfl)
theorem dJ19_valueOf_17 : decode cJ19_valueOf 17 = .ok (.sipush 128, 3) := dk_17 0 128 (dk_at dksJ19_valueOf_0 17 rfl rfl)
theorem dJ19_valueOf_20 : decode cJ19_valueOf 20 = .ok (.iadd, 1) := dk_96 (dk_at dksJ19_valueOf_0 20 rfl rfl)
theorem dJ19_valueOf_21 : decode cJ19_valueOf 21 = .ok (.aaload, 1) := dk_50 (dk_at dksJ19_valueOf_0 21 rfl rfl)
theorem dJ19_valueOf_22 : decode cJ19_valueOf 22 = .ok (.areturn, 1) := dk_176 (dk_at dksJ19_valueOf_0 22 rfl rfl)
theorem dJ19_valueOf_23 : decode cJ19_valueOf 23 = .ok (.new 1, 3) := dk_187 0 1 (dk_at dksJ19_valueOf_1 0 rfl rfl)
theorem dJ19_valueOf_26 : decode cJ19_valueOf 26 = .ok (.dup, 1) := dk_89 (dk_at dksJ19_valueOf_1 3 rfl rfl)
theorem dJ19_valueOf_27 : decode cJ19_valueOf 27 = .ok (.iload_n 0, 1) := dk_26 (dk_at dksJ19_valueOf_1 4 rfl rfl)
theorem dJ19_valueOf_28 : decode cJ19_valueOf 28 = .ok (.invokespecial 199, 3) := dk_183 0 199 (dk_at dksJ19_valueOf_1 5 rfl rfl)
theorem dJ19_valueOf_31 : decode cJ19_valueOf 31 = .ok (.areturn, 1) := dk_176 (dk_at dksJ19_valueOf_1 8 rfl rfl)
abbrev cJ19_init : ByteArray := prog_24_method_23_code
def yJ19_init : MethodName := ⟨RJ19, "<init>", "(I)V"⟩
def dkwJ19_init_0 : List UInt8 := [42, 183, 0, 202, 42, 27, 181, 0, 205, 177]
abbrev dktJ19_init_0 : List UInt8 := dkwJ19_init_0 ++ []
theorem dksJ19_init_0 : cJ19_init.data.toList.drop 0 = dktJ19_init_0 := by decide +kernel
theorem dJ19_init_0 : decode cJ19_init 0 = .ok (.aload_n 0, 1) := dk_42 (dk_at dksJ19_init_0 0 rfl rfl)
theorem dJ19_init_1 : decode cJ19_init 1 = .ok (.invokespecial 202, 3) := dk_183 0 202 (dk_at dksJ19_init_0 1 rfl rfl)
theorem dJ19_init_4 : decode cJ19_init 4 = .ok (.aload_n 0, 1) := dk_42 (dk_at dksJ19_init_0 4 rfl rfl)
theorem dJ19_init_5 : decode cJ19_init 5 = .ok (.iload_n 1, 1) := dk_27 (dk_at dksJ19_init_0 5 rfl rfl)
theorem dJ19_init_6 : decode cJ19_init 6 = .ok (.putfield 205, 3) := dk_181 0 205 (dk_at dksJ19_init_0 6 rfl rfl)
theorem dJ19_init_9 : decode cJ19_init 9 = .ok (.return_, 1) := dk_177 (dk_at dksJ19_init_0 9 rfl rfl)
abbrev cJ19_hashCode : ByteArray := prog_24_method_32_code
def yJ19_hashCode : MethodName := ⟨RJ19, "hashCode", "()I"⟩
def dkwJ19_hashCode_0 : List UInt8 := [42, 180, 0, 205, 184, 0, 208, 172]
abbrev dktJ19_hashCode_0 : List UInt8 := dkwJ19_hashCode_0 ++ []
theorem dksJ19_hashCode_0 : cJ19_hashCode.data.toList.drop 0 = dktJ19_hashCode_0 := by decide +kernel
theorem dJ19_hashCode_0 : decode cJ19_hashCode 0 = .ok (.aload_n 0, 1) := dk_42 (dk_at dksJ19_hashCode_0 0 rfl rfl)
theorem dJ19_hashCode_1 : decode cJ19_hashCode 1 = .ok (.getfield 205, 3) := dk_180 0 205 (dk_at dksJ19_hashCode_0 1 rfl rfl)
theorem dJ19_hashCode_4 : decode cJ19_hashCode 4 = .ok (.invokestatic 208, 3) := dk_184 0 208 (dk_at dksJ19_hashCode_0 4 rfl rfl)
theorem dJ19_hashCode_7 : decode cJ19_hashCode 7 = .ok (.ireturn, 1) := dk_172 (dk_at dksJ19_hashCode_0 7 rfl rfl)
abbrev cJ19_hashCode_2 : ByteArray := prog_24_method_33_code
def yJ19_hashCode_2 : MethodName := ⟨RJ19, "hashCode", "(I)I"⟩
theorem dJ19_hashCode_2_0 : decode cJ19_hashCode_2 0 = .ok (.iload_n 0, 1) := by decide +kernel
theorem dJ19_hashCode_2_1 : decode cJ19_hashCode_2 1 = .ok (.ireturn, 1) := by decide +kernel
abbrev cJ19_stringSize : ByteArray := prog_24_method_13_code
def yJ19_stringSize : MethodName := ⟨RJ19, "stringSize", "(I)I"⟩
def dkwJ19_stringSize_1 : List UInt8 := [164, 0, 7, 29, 27, 96, 172, 16, 10, 28, 104, 61, 132, 3, 1, 167, 255, 233, 16, 10, 27, 96, 172]
abbrev dktJ19_stringSize_1 : List UInt8 := dkwJ19_stringSize_1 ++ []
def dkwJ19_stringSize_0 : List UInt8 := [4, 60, 26, 155, 0, 8, 3, 60, 26, 116, 59, 16, 246, 61, 4, 62, 29, 16, 10, 162, 0, 23, 26, 28]
abbrev dktJ19_stringSize_0 : List UInt8 := dkwJ19_stringSize_0 ++ dktJ19_stringSize_1
theorem dksJ19_stringSize_0 : cJ19_stringSize.data.toList.drop 0 = dktJ19_stringSize_0 := by decide +kernel
theorem dksJ19_stringSize_1 : cJ19_stringSize.data.toList.drop 24 = dktJ19_stringSize_1 := dk_seg dksJ19_stringSize_0 24 rfl rfl
theorem dJ19_stringSize_0 : decode cJ19_stringSize 0 = .ok (.iconst 1, 1) := dk_4 (dk_at dksJ19_stringSize_0 0 rfl rfl)
theorem dJ19_stringSize_1 : decode cJ19_stringSize 1 = .ok (.istore_n 1, 1) := dk_60 (dk_at dksJ19_stringSize_0 1 rfl rfl)
theorem dJ19_stringSize_2 : decode cJ19_stringSize 2 = .ok (.iload_n 0, 1) := dk_26 (dk_at dksJ19_stringSize_0 2 rfl rfl)
theorem dJ19_stringSize_3 : decode cJ19_stringSize 3 = .ok (.ifCond .lt 8, 3) := dk_155 0 8 (dk_at dksJ19_stringSize_0 3 rfl rfl)
theorem dJ19_stringSize_6 : decode cJ19_stringSize 6 = .ok (.iconst 0, 1) := dk_3 (dk_at dksJ19_stringSize_0 6 rfl rfl)
theorem dJ19_stringSize_7 : decode cJ19_stringSize 7 = .ok (.istore_n 1, 1) := dk_60 (dk_at dksJ19_stringSize_0 7 rfl rfl)
theorem dJ19_stringSize_8 : decode cJ19_stringSize 8 = .ok (.iload_n 0, 1) := dk_26 (dk_at dksJ19_stringSize_0 8 rfl rfl)
theorem dJ19_stringSize_9 : decode cJ19_stringSize 9 = .ok (.ineg, 1) := dk_116 (dk_at dksJ19_stringSize_0 9 rfl rfl)
theorem dJ19_stringSize_10 : decode cJ19_stringSize 10 = .ok (.istore_n 0, 1) := dk_59 (dk_at dksJ19_stringSize_0 10 rfl rfl)
theorem dJ19_stringSize_11 : decode cJ19_stringSize 11 = .ok (.bipush (-10), 2) := dk_16 246 (dk_at dksJ19_stringSize_0 11 rfl rfl)
theorem dJ19_stringSize_13 : decode cJ19_stringSize 13 = .ok (.istore_n 2, 1) := dk_61 (dk_at dksJ19_stringSize_0 13 rfl rfl)
theorem dJ19_stringSize_14 : decode cJ19_stringSize 14 = .ok (.iconst 1, 1) := dk_4 (dk_at dksJ19_stringSize_0 14 rfl rfl)
theorem dJ19_stringSize_15 : decode cJ19_stringSize 15 = .ok (.istore_n 3, 1) := dk_62 (dk_at dksJ19_stringSize_0 15 rfl rfl)
theorem dJ19_stringSize_16 : decode cJ19_stringSize 16 = .ok (.iload_n 3, 1) := dk_29 (dk_at dksJ19_stringSize_0 16 rfl rfl)
theorem dJ19_stringSize_17 : decode cJ19_stringSize 17 = .ok (.bipush 10, 2) := dk_16 10 (dk_at dksJ19_stringSize_0 17 rfl rfl)
theorem dJ19_stringSize_19 : decode cJ19_stringSize 19 = .ok (.if_icmp .ge 23, 3) := dk_162 0 23 (dk_at dksJ19_stringSize_0 19 rfl rfl)
theorem dJ19_stringSize_22 : decode cJ19_stringSize 22 = .ok (.iload_n 0, 1) := dk_26 (dk_at dksJ19_stringSize_0 22 rfl rfl)
theorem dJ19_stringSize_23 : decode cJ19_stringSize 23 = .ok (.iload_n 2, 1) := dk_28 (dk_at dksJ19_stringSize_0 23 rfl rfl)
theorem dJ19_stringSize_24 : decode cJ19_stringSize 24 = .ok (.if_icmp .le 7, 3) := dk_164 0 7 (dk_at dksJ19_stringSize_1 0 rfl rfl)
theorem dJ19_stringSize_27 : decode cJ19_stringSize 27 = .ok (.iload_n 3, 1) := dk_29 (dk_at dksJ19_stringSize_1 3 rfl rfl)
theorem dJ19_stringSize_28 : decode cJ19_stringSize 28 = .ok (.iload_n 1, 1) := dk_27 (dk_at dksJ19_stringSize_1 4 rfl rfl)
theorem dJ19_stringSize_29 : decode cJ19_stringSize 29 = .ok (.iadd, 1) := dk_96 (dk_at dksJ19_stringSize_1 5 rfl rfl)
theorem dJ19_stringSize_30 : decode cJ19_stringSize 30 = .ok (.ireturn, 1) := dk_172 (dk_at dksJ19_stringSize_1 6 rfl rfl)
theorem dJ19_stringSize_31 : decode cJ19_stringSize 31 = .ok (.bipush 10, 2) := dk_16 10 (dk_at dksJ19_stringSize_1 7 rfl rfl)
theorem dJ19_stringSize_33 : decode cJ19_stringSize 33 = .ok (.iload_n 2, 1) := dk_28 (dk_at dksJ19_stringSize_1 9 rfl rfl)
theorem dJ19_stringSize_34 : decode cJ19_stringSize 34 = .ok (.imul, 1) := dk_104 (dk_at dksJ19_stringSize_1 10 rfl rfl)
theorem dJ19_stringSize_35 : decode cJ19_stringSize 35 = .ok (.istore_n 2, 1) := dk_61 (dk_at dksJ19_stringSize_1 11 rfl rfl)
theorem dJ19_stringSize_36 : decode cJ19_stringSize 36 = .ok (.iinc 3 1, 3) := dk_132 3 1 (dk_at dksJ19_stringSize_1 12 rfl rfl)
theorem dJ19_stringSize_39 : decode cJ19_stringSize 39 = .ok (.goto (-23), 3) := dk_167 255 233 (dk_at dksJ19_stringSize_1 15 rfl rfl)
theorem dJ19_stringSize_42 : decode cJ19_stringSize 42 = .ok (.bipush 10, 2) := dk_16 10 (dk_at dksJ19_stringSize_1 18 rfl rfl)
theorem dJ19_stringSize_44 : decode cJ19_stringSize 44 = .ok (.iload_n 1, 1) := dk_27 (dk_at dksJ19_stringSize_1 20 rfl rfl)
theorem dJ19_stringSize_45 : decode cJ19_stringSize 45 = .ok (.iadd, 1) := dk_96 (dk_at dksJ19_stringSize_1 21 rfl rfl)
theorem dJ19_stringSize_46 : decode cJ19_stringSize 46 = .ok (.ireturn, 1) := dk_172 (dk_at dksJ19_stringSize_1 22 rfl rfl)
abbrev cJ19_getChars : ByteArray := prog_24_method_12_code
def yJ19_getChars : MethodName := ⟨RJ19, "getChars", "(II[B)I"⟩
def dkwJ19_getChars_5 : List UInt8 := [16, 45, 84, 21, 5, 172]
abbrev dktJ19_getChars_5 : List UInt8 := dkwJ19_getChars_5 ++ []
def dkwJ19_getChars_4 : List UInt8 := [132, 5, 255, 21, 5, 178, 0, 87, 26, 116, 51, 84, 21, 6, 153, 0, 12, 44, 132, 5, 255, 21, 5]
abbrev dktJ19_getChars_4 : List UInt8 := dkwJ19_getChars_4 ++ dktJ19_getChars_5
def dkwJ19_getChars_3 : List UInt8 := [167, 255, 209, 44, 132, 5, 255, 21, 5, 178, 0, 83, 26, 116, 51, 84, 26, 16, 247, 162, 0, 16, 44]
abbrev dktJ19_getChars_3 : List UInt8 := dkwJ19_getChars_3 ++ dktJ19_getChars_4
def dkwJ19_getChars_2 : List UInt8 := [21, 5, 178, 0, 83, 21, 4, 51, 84, 44, 132, 5, 255, 21, 5, 178, 0, 87, 21, 4, 51, 84]
abbrev dktJ19_getChars_2 : List UInt8 := dkwJ19_getChars_2 ++ dktJ19_getChars_3
def dkwJ19_getChars_1 : List UInt8 := [16, 156, 163, 0, 47, 26, 16, 100, 108, 62, 29, 16, 100, 104, 26, 100, 54, 4, 29, 59, 44, 132, 5, 255]
abbrev dktJ19_getChars_1 : List UInt8 := dkwJ19_getChars_1 ++ dktJ19_getChars_2
def dkwJ19_getChars_0 : List UInt8 := [27, 54, 5, 26, 156, 0, 7, 4, 167, 0, 4, 3, 54, 6, 21, 6, 154, 0, 6, 26, 116, 59, 26]
abbrev dktJ19_getChars_0 : List UInt8 := dkwJ19_getChars_0 ++ dktJ19_getChars_1
theorem dksJ19_getChars_0 : cJ19_getChars.data.toList.drop 0 = dktJ19_getChars_0 := by decide +kernel
theorem dksJ19_getChars_1 : cJ19_getChars.data.toList.drop 23 = dktJ19_getChars_1 := dk_seg dksJ19_getChars_0 23 rfl rfl
theorem dksJ19_getChars_2 : cJ19_getChars.data.toList.drop 47 = dktJ19_getChars_2 := dk_seg dksJ19_getChars_1 24 rfl rfl
theorem dksJ19_getChars_3 : cJ19_getChars.data.toList.drop 69 = dktJ19_getChars_3 := dk_seg dksJ19_getChars_2 22 rfl rfl
theorem dksJ19_getChars_4 : cJ19_getChars.data.toList.drop 92 = dktJ19_getChars_4 := dk_seg dksJ19_getChars_3 23 rfl rfl
theorem dksJ19_getChars_5 : cJ19_getChars.data.toList.drop 115 = dktJ19_getChars_5 := dk_seg dksJ19_getChars_4 23 rfl rfl
theorem dJ19_getChars_0 : decode cJ19_getChars 0 = .ok (.iload_n 1, 1) := dk_27 (dk_at dksJ19_getChars_0 0 rfl rfl)
theorem dJ19_getChars_1 : decode cJ19_getChars 1 = .ok (.istore 5, 2) := dk_54 5 (dk_at dksJ19_getChars_0 1 rfl rfl)
theorem dJ19_getChars_3 : decode cJ19_getChars 3 = .ok (.iload_n 0, 1) := dk_26 (dk_at dksJ19_getChars_0 3 rfl rfl)
theorem dJ19_getChars_4 : decode cJ19_getChars 4 = .ok (.ifCond .ge 7, 3) := dk_156 0 7 (dk_at dksJ19_getChars_0 4 rfl rfl)
theorem dJ19_getChars_7 : decode cJ19_getChars 7 = .ok (.iconst 1, 1) := dk_4 (dk_at dksJ19_getChars_0 7 rfl rfl)
theorem dJ19_getChars_8 : decode cJ19_getChars 8 = .ok (.goto 4, 3) := dk_167 0 4 (dk_at dksJ19_getChars_0 8 rfl rfl)
theorem dJ19_getChars_11 : decode cJ19_getChars 11 = .ok (.iconst 0, 1) := dk_3 (dk_at dksJ19_getChars_0 11 rfl rfl)
theorem dJ19_getChars_12 : decode cJ19_getChars 12 = .ok (.istore 6, 2) := dk_54 6 (dk_at dksJ19_getChars_0 12 rfl rfl)
theorem dJ19_getChars_14 : decode cJ19_getChars 14 = .ok (.iload 6, 2) := dk_21 6 (dk_at dksJ19_getChars_0 14 rfl rfl)
theorem dJ19_getChars_16 : decode cJ19_getChars 16 = .ok (.ifCond .ne 6, 3) := dk_154 0 6 (dk_at dksJ19_getChars_0 16 rfl rfl)
theorem dJ19_getChars_19 : decode cJ19_getChars 19 = .ok (.iload_n 0, 1) := dk_26 (dk_at dksJ19_getChars_0 19 rfl rfl)
theorem dJ19_getChars_20 : decode cJ19_getChars 20 = .ok (.ineg, 1) := dk_116 (dk_at dksJ19_getChars_0 20 rfl rfl)
theorem dJ19_getChars_21 : decode cJ19_getChars 21 = .ok (.istore_n 0, 1) := dk_59 (dk_at dksJ19_getChars_0 21 rfl rfl)
theorem dJ19_getChars_22 : decode cJ19_getChars 22 = .ok (.iload_n 0, 1) := dk_26 (dk_at dksJ19_getChars_0 22 rfl rfl)
theorem dJ19_getChars_23 : decode cJ19_getChars 23 = .ok (.bipush (-100), 2) := dk_16 156 (dk_at dksJ19_getChars_1 0 rfl rfl)
theorem dJ19_getChars_25 : decode cJ19_getChars 25 = .ok (.if_icmp .gt 47, 3) := dk_163 0 47 (dk_at dksJ19_getChars_1 2 rfl rfl)
theorem dJ19_getChars_28 : decode cJ19_getChars 28 = .ok (.iload_n 0, 1) := dk_26 (dk_at dksJ19_getChars_1 5 rfl rfl)
theorem dJ19_getChars_29 : decode cJ19_getChars 29 = .ok (.bipush 100, 2) := dk_16 100 (dk_at dksJ19_getChars_1 6 rfl rfl)
theorem dJ19_getChars_31 : decode cJ19_getChars 31 = .ok (.idiv, 1) := dk_108 (dk_at dksJ19_getChars_1 8 rfl rfl)
theorem dJ19_getChars_32 : decode cJ19_getChars 32 = .ok (.istore_n 3, 1) := dk_62 (dk_at dksJ19_getChars_1 9 rfl rfl)
theorem dJ19_getChars_33 : decode cJ19_getChars 33 = .ok (.iload_n 3, 1) := dk_29 (dk_at dksJ19_getChars_1 10 rfl rfl)
theorem dJ19_getChars_34 : decode cJ19_getChars 34 = .ok (.bipush 100, 2) := dk_16 100 (dk_at dksJ19_getChars_1 11 rfl rfl)
theorem dJ19_getChars_36 : decode cJ19_getChars 36 = .ok (.imul, 1) := dk_104 (dk_at dksJ19_getChars_1 13 rfl rfl)
theorem dJ19_getChars_37 : decode cJ19_getChars 37 = .ok (.iload_n 0, 1) := dk_26 (dk_at dksJ19_getChars_1 14 rfl rfl)
theorem dJ19_getChars_38 : decode cJ19_getChars 38 = .ok (.isub, 1) := dk_100 (dk_at dksJ19_getChars_1 15 rfl rfl)
theorem dJ19_getChars_39 : decode cJ19_getChars 39 = .ok (.istore 4, 2) := dk_54 4 (dk_at dksJ19_getChars_1 16 rfl rfl)
theorem dJ19_getChars_41 : decode cJ19_getChars 41 = .ok (.iload_n 3, 1) := dk_29 (dk_at dksJ19_getChars_1 18 rfl rfl)
theorem dJ19_getChars_42 : decode cJ19_getChars 42 = .ok (.istore_n 0, 1) := dk_59 (dk_at dksJ19_getChars_1 19 rfl rfl)
theorem dJ19_getChars_43 : decode cJ19_getChars 43 = .ok (.aload_n 2, 1) := dk_44 (dk_at dksJ19_getChars_1 20 rfl rfl)
theorem dJ19_getChars_44 : decode cJ19_getChars 44 = .ok (.iinc 5 (-1), 3) := dk_132 5 255 (dk_at dksJ19_getChars_1 21 rfl rfl)
theorem dJ19_getChars_47 : decode cJ19_getChars 47 = .ok (.iload 5, 2) := dk_21 5 (dk_at dksJ19_getChars_2 0 rfl rfl)
theorem dJ19_getChars_49 : decode cJ19_getChars 49 = .ok (.getstatic 83, 3) := dk_178 0 83 (dk_at dksJ19_getChars_2 2 rfl rfl)
theorem dJ19_getChars_52 : decode cJ19_getChars 52 = .ok (.iload 4, 2) := dk_21 4 (dk_at dksJ19_getChars_2 5 rfl rfl)
theorem dJ19_getChars_54 : decode cJ19_getChars 54 = .ok (.baload, 1) := dk_51 (dk_at dksJ19_getChars_2 7 rfl rfl)
theorem dJ19_getChars_55 : decode cJ19_getChars 55 = .ok (.bastore, 1) := dk_84 (dk_at dksJ19_getChars_2 8 rfl rfl)
theorem dJ19_getChars_56 : decode cJ19_getChars 56 = .ok (.aload_n 2, 1) := dk_44 (dk_at dksJ19_getChars_2 9 rfl rfl)
theorem dJ19_getChars_57 : decode cJ19_getChars 57 = .ok (.iinc 5 (-1), 3) := dk_132 5 255 (dk_at dksJ19_getChars_2 10 rfl rfl)
theorem dJ19_getChars_60 : decode cJ19_getChars 60 = .ok (.iload 5, 2) := dk_21 5 (dk_at dksJ19_getChars_2 13 rfl rfl)
theorem dJ19_getChars_62 : decode cJ19_getChars 62 = .ok (.getstatic 87, 3) := dk_178 0 87 (dk_at dksJ19_getChars_2 15 rfl rfl)
theorem dJ19_getChars_65 : decode cJ19_getChars 65 = .ok (.iload 4, 2) := dk_21 4 (dk_at dksJ19_getChars_2 18 rfl rfl)
theorem dJ19_getChars_67 : decode cJ19_getChars 67 = .ok (.baload, 1) := dk_51 (dk_at dksJ19_getChars_2 20 rfl rfl)
theorem dJ19_getChars_68 : decode cJ19_getChars 68 = .ok (.bastore, 1) := dk_84 (dk_at dksJ19_getChars_2 21 rfl rfl)
theorem dJ19_getChars_69 : decode cJ19_getChars 69 = .ok (.goto (-47), 3) := dk_167 255 209 (dk_at dksJ19_getChars_3 0 rfl rfl)
theorem dJ19_getChars_72 : decode cJ19_getChars 72 = .ok (.aload_n 2, 1) := dk_44 (dk_at dksJ19_getChars_3 3 rfl rfl)
theorem dJ19_getChars_73 : decode cJ19_getChars 73 = .ok (.iinc 5 (-1), 3) := dk_132 5 255 (dk_at dksJ19_getChars_3 4 rfl rfl)
theorem dJ19_getChars_76 : decode cJ19_getChars 76 = .ok (.iload 5, 2) := dk_21 5 (dk_at dksJ19_getChars_3 7 rfl rfl)
theorem dJ19_getChars_78 : decode cJ19_getChars 78 = .ok (.getstatic 83, 3) := dk_178 0 83 (dk_at dksJ19_getChars_3 9 rfl rfl)
theorem dJ19_getChars_81 : decode cJ19_getChars 81 = .ok (.iload_n 0, 1) := dk_26 (dk_at dksJ19_getChars_3 12 rfl rfl)
theorem dJ19_getChars_82 : decode cJ19_getChars 82 = .ok (.ineg, 1) := dk_116 (dk_at dksJ19_getChars_3 13 rfl rfl)
theorem dJ19_getChars_83 : decode cJ19_getChars 83 = .ok (.baload, 1) := dk_51 (dk_at dksJ19_getChars_3 14 rfl rfl)
theorem dJ19_getChars_84 : decode cJ19_getChars 84 = .ok (.bastore, 1) := dk_84 (dk_at dksJ19_getChars_3 15 rfl rfl)
theorem dJ19_getChars_85 : decode cJ19_getChars 85 = .ok (.iload_n 0, 1) := dk_26 (dk_at dksJ19_getChars_3 16 rfl rfl)
theorem dJ19_getChars_86 : decode cJ19_getChars 86 = .ok (.bipush (-9), 2) := dk_16 247 (dk_at dksJ19_getChars_3 17 rfl rfl)
theorem dJ19_getChars_88 : decode cJ19_getChars 88 = .ok (.if_icmp .ge 16, 3) := dk_162 0 16 (dk_at dksJ19_getChars_3 19 rfl rfl)
theorem dJ19_getChars_91 : decode cJ19_getChars 91 = .ok (.aload_n 2, 1) := dk_44 (dk_at dksJ19_getChars_3 22 rfl rfl)
theorem dJ19_getChars_92 : decode cJ19_getChars 92 = .ok (.iinc 5 (-1), 3) := dk_132 5 255 (dk_at dksJ19_getChars_4 0 rfl rfl)
theorem dJ19_getChars_95 : decode cJ19_getChars 95 = .ok (.iload 5, 2) := dk_21 5 (dk_at dksJ19_getChars_4 3 rfl rfl)
theorem dJ19_getChars_97 : decode cJ19_getChars 97 = .ok (.getstatic 87, 3) := dk_178 0 87 (dk_at dksJ19_getChars_4 5 rfl rfl)
theorem dJ19_getChars_100 : decode cJ19_getChars 100 = .ok (.iload_n 0, 1) := dk_26 (dk_at dksJ19_getChars_4 8 rfl rfl)
theorem dJ19_getChars_101 : decode cJ19_getChars 101 = .ok (.ineg, 1) := dk_116 (dk_at dksJ19_getChars_4 9 rfl rfl)
theorem dJ19_getChars_102 : decode cJ19_getChars 102 = .ok (.baload, 1) := dk_51 (dk_at dksJ19_getChars_4 10 rfl rfl)
theorem dJ19_getChars_103 : decode cJ19_getChars 103 = .ok (.bastore, 1) := dk_84 (dk_at dksJ19_getChars_4 11 rfl rfl)
theorem dJ19_getChars_104 : decode cJ19_getChars 104 = .ok (.iload 6, 2) := dk_21 6 (dk_at dksJ19_getChars_4 12 rfl rfl)
theorem dJ19_getChars_106 : decode cJ19_getChars 106 = .ok (.ifCond .eq 12, 3) := dk_153 0 12 (dk_at dksJ19_getChars_4 14 rfl rfl)
theorem dJ19_getChars_109 : decode cJ19_getChars 109 = .ok (.aload_n 2, 1) := dk_44 (dk_at dksJ19_getChars_4 17 rfl rfl)
theorem dJ19_getChars_110 : decode cJ19_getChars 110 = .ok (.iinc 5 (-1), 3) := dk_132 5 255 (dk_at dksJ19_getChars_4 18 rfl rfl)
theorem dJ19_getChars_113 : decode cJ19_getChars 113 = .ok (.iload 5, 2) := dk_21 5 (dk_at dksJ19_getChars_4 21 rfl rfl)
theorem dJ19_getChars_115 : decode cJ19_getChars 115 = .ok (.bipush 45, 2) := dk_16 45 (dk_at dksJ19_getChars_5 0 rfl rfl)
theorem dJ19_getChars_117 : decode cJ19_getChars 117 = .ok (.bastore, 1) := dk_84 (dk_at dksJ19_getChars_5 2 rfl rfl)
theorem dJ19_getChars_118 : decode cJ19_getChars 118 = .ok (.iload 5, 2) := dk_21 5 (dk_at dksJ19_getChars_5 3 rfl rfl)
theorem dJ19_getChars_120 : decode cJ19_getChars 120 = .ok (.ireturn, 1) := dk_172 (dk_at dksJ19_getChars_5 5 rfl rfl)
abbrev cJ19_equals : ByteArray := prog_24_method_34_code
def yJ19_equals : MethodName := ⟨RJ19, "equals", "(Ljava/lang/Object;)Z"⟩
def dkwJ19_equals_1 : List UInt8 := [167, 0, 4, 3, 172, 3, 172]
abbrev dktJ19_equals_1 : List UInt8 := dkwJ19_equals_1 ++ []
def dkwJ19_equals_0 : List UInt8 := [43, 193, 0, 1, 153, 0, 23, 42, 180, 0, 205, 43, 192, 0, 1, 182, 0, 211, 160, 0, 7, 4]
abbrev dktJ19_equals_0 : List UInt8 := dkwJ19_equals_0 ++ dktJ19_equals_1
theorem dksJ19_equals_0 : cJ19_equals.data.toList.drop 0 = dktJ19_equals_0 := by decide +kernel
theorem dksJ19_equals_1 : cJ19_equals.data.toList.drop 22 = dktJ19_equals_1 := dk_seg dksJ19_equals_0 22 rfl rfl
theorem dJ19_equals_0 : decode cJ19_equals 0 = .ok (.aload_n 1, 1) := dk_43 (dk_at dksJ19_equals_0 0 rfl rfl)
theorem dJ19_equals_1 : decode cJ19_equals 1 = .ok (.instanceof 1, 3) := dk_193 0 1 (dk_at dksJ19_equals_0 1 rfl rfl)
theorem dJ19_equals_4 : decode cJ19_equals 4 = .ok (.ifCond .eq 23, 3) := dk_153 0 23 (dk_at dksJ19_equals_0 4 rfl rfl)
theorem dJ19_equals_7 : decode cJ19_equals 7 = .ok (.aload_n 0, 1) := dk_42 (dk_at dksJ19_equals_0 7 rfl rfl)
theorem dJ19_equals_8 : decode cJ19_equals 8 = .ok (.getfield 205, 3) := dk_180 0 205 (dk_at dksJ19_equals_0 8 rfl rfl)
theorem dJ19_equals_11 : decode cJ19_equals 11 = .ok (.aload_n 1, 1) := dk_43 (dk_at dksJ19_equals_0 11 rfl rfl)
theorem dJ19_equals_12 : decode cJ19_equals 12 = .ok (.checkcast 1, 3) := dk_192 0 1 (dk_at dksJ19_equals_0 12 rfl rfl)
theorem dJ19_equals_15 : decode cJ19_equals 15 = .ok (.invokevirtual 211, 3) := dk_182 0 211 (dk_at dksJ19_equals_0 15 rfl rfl)
theorem dJ19_equals_18 : decode cJ19_equals 18 = .ok (.if_icmp .ne 7, 3) := dk_160 0 7 (dk_at dksJ19_equals_0 18 rfl rfl)
theorem dJ19_equals_21 : decode cJ19_equals 21 = .ok (.iconst 1, 1) := dk_4 (dk_at dksJ19_equals_0 21 rfl rfl)
theorem dJ19_equals_22 : decode cJ19_equals 22 = .ok (.goto 4, 3) := dk_167 0 4 (dk_at dksJ19_equals_1 0 rfl rfl)
theorem dJ19_equals_25 : decode cJ19_equals 25 = .ok (.iconst 0, 1) := dk_3 (dk_at dksJ19_equals_1 3 rfl rfl)
theorem dJ19_equals_26 : decode cJ19_equals 26 = .ok (.ireturn, 1) := dk_172 (dk_at dksJ19_equals_1 4 rfl rfl)
theorem dJ19_equals_27 : decode cJ19_equals 27 = .ok (.iconst 0, 1) := dk_3 (dk_at dksJ19_equals_1 5 rfl rfl)
theorem dJ19_equals_28 : decode cJ19_equals 28 = .ok (.ireturn, 1) := dk_172 (dk_at dksJ19_equals_1 6 rfl rfl)
abbrev cJ19_intValue : ByteArray := prog_24_method_27_code
def yJ19_intValue : MethodName := ⟨RJ19, "intValue", "()I"⟩
theorem dJ19_intValue_0 : decode cJ19_intValue 0 = .ok (.aload_n 0, 1) := by decide +kernel
theorem dJ19_intValue_1 : decode cJ19_intValue 1 = .ok (.getfield 205, 3) := by decide +kernel
theorem dJ19_intValue_4 : decode cJ19_intValue 4 = .ok (.ireturn, 1) := by decide +kernel
abbrev cJ19_bitCount : ByteArray := prog_24_method_49_code
def yJ19_bitCount : MethodName := ⟨RJ19, "bitCount", "(I)I"⟩
def dkwJ19_bitCount_2 : List UInt8 := [26, 16, 63, 126, 172]
abbrev dktJ19_bitCount_2 : List UInt8 := dkwJ19_bitCount_2 ++ []
def dkwJ19_bitCount_1 : List UInt8 := [26, 26, 7, 124, 96, 19, 1, 11, 126, 59, 26, 26, 16, 8, 124, 96, 59, 26, 26, 16, 16, 124, 96, 59]
abbrev dktJ19_bitCount_1 : List UInt8 := dkwJ19_bitCount_1 ++ dktJ19_bitCount_2
def dkwJ19_bitCount_0 : List UInt8 := [26, 26, 4, 124, 19, 1, 9, 126, 100, 59, 26, 19, 1, 10, 126, 26, 5, 124, 19, 1, 10, 126, 96, 59]
abbrev dktJ19_bitCount_0 : List UInt8 := dkwJ19_bitCount_0 ++ dktJ19_bitCount_1
theorem dksJ19_bitCount_0 : cJ19_bitCount.data.toList.drop 0 = dktJ19_bitCount_0 := by decide +kernel
theorem dksJ19_bitCount_1 : cJ19_bitCount.data.toList.drop 24 = dktJ19_bitCount_1 := dk_seg dksJ19_bitCount_0 24 rfl rfl
theorem dksJ19_bitCount_2 : cJ19_bitCount.data.toList.drop 48 = dktJ19_bitCount_2 := dk_seg dksJ19_bitCount_1 24 rfl rfl
theorem dJ19_bitCount_0 : decode cJ19_bitCount 0 = .ok (.iload_n 0, 1) := dk_26 (dk_at dksJ19_bitCount_0 0 rfl rfl)
theorem dJ19_bitCount_1 : decode cJ19_bitCount 1 = .ok (.iload_n 0, 1) := dk_26 (dk_at dksJ19_bitCount_0 1 rfl rfl)
theorem dJ19_bitCount_2 : decode cJ19_bitCount 2 = .ok (.iconst 1, 1) := dk_4 (dk_at dksJ19_bitCount_0 2 rfl rfl)
theorem dJ19_bitCount_3 : decode cJ19_bitCount 3 = .ok (.iushr, 1) := dk_124 (dk_at dksJ19_bitCount_0 3 rfl rfl)
theorem dJ19_bitCount_4 : decode cJ19_bitCount 4 = .ok (.ldc_w 265, 3) := dk_19 1 9 (dk_at dksJ19_bitCount_0 4 rfl rfl)
theorem dJ19_bitCount_7 : decode cJ19_bitCount 7 = .ok (.iand, 1) := dk_126 (dk_at dksJ19_bitCount_0 7 rfl rfl)
theorem dJ19_bitCount_8 : decode cJ19_bitCount 8 = .ok (.isub, 1) := dk_100 (dk_at dksJ19_bitCount_0 8 rfl rfl)
theorem dJ19_bitCount_9 : decode cJ19_bitCount 9 = .ok (.istore_n 0, 1) := dk_59 (dk_at dksJ19_bitCount_0 9 rfl rfl)
theorem dJ19_bitCount_10 : decode cJ19_bitCount 10 = .ok (.iload_n 0, 1) := dk_26 (dk_at dksJ19_bitCount_0 10 rfl rfl)
theorem dJ19_bitCount_11 : decode cJ19_bitCount 11 = .ok (.ldc_w 266, 3) := dk_19 1 10 (dk_at dksJ19_bitCount_0 11 rfl rfl)
theorem dJ19_bitCount_14 : decode cJ19_bitCount 14 = .ok (.iand, 1) := dk_126 (dk_at dksJ19_bitCount_0 14 rfl rfl)
theorem dJ19_bitCount_15 : decode cJ19_bitCount 15 = .ok (.iload_n 0, 1) := dk_26 (dk_at dksJ19_bitCount_0 15 rfl rfl)
theorem dJ19_bitCount_16 : decode cJ19_bitCount 16 = .ok (.iconst 2, 1) := dk_5 (dk_at dksJ19_bitCount_0 16 rfl rfl)
theorem dJ19_bitCount_17 : decode cJ19_bitCount 17 = .ok (.iushr, 1) := dk_124 (dk_at dksJ19_bitCount_0 17 rfl rfl)
theorem dJ19_bitCount_18 : decode cJ19_bitCount 18 = .ok (.ldc_w 266, 3) := dk_19 1 10 (dk_at dksJ19_bitCount_0 18 rfl rfl)
theorem dJ19_bitCount_21 : decode cJ19_bitCount 21 = .ok (.iand, 1) := dk_126 (dk_at dksJ19_bitCount_0 21 rfl rfl)
theorem dJ19_bitCount_22 : decode cJ19_bitCount 22 = .ok (.iadd, 1) := dk_96 (dk_at dksJ19_bitCount_0 22 rfl rfl)
theorem dJ19_bitCount_23 : decode cJ19_bitCount 23 = .ok (.istore_n 0, 1) := dk_59 (dk_at dksJ19_bitCount_0 23 rfl rfl)
theorem dJ19_bitCount_24 : decode cJ19_bitCount 24 = .ok (.iload_n 0, 1) := dk_26 (dk_at dksJ19_bitCount_1 0 rfl rfl)
theorem dJ19_bitCount_25 : decode cJ19_bitCount 25 = .ok (.iload_n 0, 1) := dk_26 (dk_at dksJ19_bitCount_1 1 rfl rfl)
theorem dJ19_bitCount_26 : decode cJ19_bitCount 26 = .ok (.iconst 4, 1) := dk_7 (dk_at dksJ19_bitCount_1 2 rfl rfl)
theorem dJ19_bitCount_27 : decode cJ19_bitCount 27 = .ok (.iushr, 1) := dk_124 (dk_at dksJ19_bitCount_1 3 rfl rfl)
theorem dJ19_bitCount_28 : decode cJ19_bitCount 28 = .ok (.iadd, 1) := dk_96 (dk_at dksJ19_bitCount_1 4 rfl rfl)
theorem dJ19_bitCount_29 : decode cJ19_bitCount 29 = .ok (.ldc_w 267, 3) := dk_19 1 11 (dk_at dksJ19_bitCount_1 5 rfl rfl)
theorem dJ19_bitCount_32 : decode cJ19_bitCount 32 = .ok (.iand, 1) := dk_126 (dk_at dksJ19_bitCount_1 8 rfl rfl)
theorem dJ19_bitCount_33 : decode cJ19_bitCount 33 = .ok (.istore_n 0, 1) := dk_59 (dk_at dksJ19_bitCount_1 9 rfl rfl)
theorem dJ19_bitCount_34 : decode cJ19_bitCount 34 = .ok (.iload_n 0, 1) := dk_26 (dk_at dksJ19_bitCount_1 10 rfl rfl)
theorem dJ19_bitCount_35 : decode cJ19_bitCount 35 = .ok (.iload_n 0, 1) := dk_26 (dk_at dksJ19_bitCount_1 11 rfl rfl)
theorem dJ19_bitCount_36 : decode cJ19_bitCount 36 = .ok (.bipush 8, 2) := dk_16 8 (dk_at dksJ19_bitCount_1 12 rfl rfl)
theorem dJ19_bitCount_38 : decode cJ19_bitCount 38 = .ok (.iushr, 1) := dk_124 (dk_at dksJ19_bitCount_1 14 rfl rfl)
theorem dJ19_bitCount_39 : decode cJ19_bitCount 39 = .ok (.iadd, 1) := dk_96 (dk_at dksJ19_bitCount_1 15 rfl rfl)
theorem dJ19_bitCount_40 : decode cJ19_bitCount 40 = .ok (.istore_n 0, 1) := dk_59 (dk_at dksJ19_bitCount_1 16 rfl rfl)
theorem dJ19_bitCount_41 : decode cJ19_bitCount 41 = .ok (.iload_n 0, 1) := dk_26 (dk_at dksJ19_bitCount_1 17 rfl rfl)
theorem dJ19_bitCount_42 : decode cJ19_bitCount 42 = .ok (.iload_n 0, 1) := dk_26 (dk_at dksJ19_bitCount_1 18 rfl rfl)
theorem dJ19_bitCount_43 : decode cJ19_bitCount 43 = .ok (.bipush 16, 2) := dk_16 16 (dk_at dksJ19_bitCount_1 19 rfl rfl)
theorem dJ19_bitCount_45 : decode cJ19_bitCount 45 = .ok (.iushr, 1) := dk_124 (dk_at dksJ19_bitCount_1 21 rfl rfl)
theorem dJ19_bitCount_46 : decode cJ19_bitCount 46 = .ok (.iadd, 1) := dk_96 (dk_at dksJ19_bitCount_1 22 rfl rfl)
theorem dJ19_bitCount_47 : decode cJ19_bitCount 47 = .ok (.istore_n 0, 1) := dk_59 (dk_at dksJ19_bitCount_1 23 rfl rfl)
theorem dJ19_bitCount_48 : decode cJ19_bitCount 48 = .ok (.iload_n 0, 1) := dk_26 (dk_at dksJ19_bitCount_2 0 rfl rfl)
theorem dJ19_bitCount_49 : decode cJ19_bitCount 49 = .ok (.bipush 63, 2) := dk_16 63 (dk_at dksJ19_bitCount_2 1 rfl rfl)
theorem dJ19_bitCount_51 : decode cJ19_bitCount 51 = .ok (.iand, 1) := dk_126 (dk_at dksJ19_bitCount_2 3 rfl rfl)
theorem dJ19_bitCount_52 : decode cJ19_bitCount 52 = .ok (.ireturn, 1) := dk_172 (dk_at dksJ19_bitCount_2 4 rfl rfl)
theorem q106 : (Jvm.Cond.initialized "java/lang/Integer") ∈ lw_all := lw_g (lw_at lw_m1 26 rfl) rfl
theorem q548 : (Jvm.Cond.selects "java/lang/Integer" ({ cls := "java/lang/Object", name := "getClass", desc := "()Ljava/lang/Class;" } : Jvm.MethodName) ({ cls := "java/lang/Object", name := "getClass", desc := "()Ljava/lang/Class;" } : Jvm.MethodName)) ∈ lw_all := lw_g (lw_at lw_m2 228 rfl) rfl
theorem q625 : (Jvm.Cond.static ({ cls := "java/lang/Integer", name := "valueOf", desc := "(I)Ljava/lang/Integer;" } : Jvm.MethodName)) ∈ lw_all := lw_g (lw_at lw_m3 65 rfl) rfl
theorem q626 : (Jvm.Cond.code ({ cls := "java/lang/Integer", name := "valueOf", desc := "(I)Ljava/lang/Integer;" } : Jvm.MethodName) prog_24_method_22_code (1 : Nat) (Option.some (Jvm.ClassFile.FieldType.object "java/lang/Integer"))) ∈ lw_all := lw_g (lw_at lw_m3 66 rfl) rfl
theorem q627 : (Jvm.Cond.fieldLink "java/lang/Integer" (191 : Nat) "java/lang/Integer$IntegerCache" "high" "I") ∈ lw_all := lw_g (lw_at lw_m3 67 rfl) rfl
theorem q629 : (Jvm.Cond.fieldLink "java/lang/Integer" (195 : Nat) "java/lang/Integer$IntegerCache" "cache" "[Ljava/lang/Integer;") ∈ lw_all := lw_g (lw_at lw_m3 69 rfl) rfl
theorem q631 : (Jvm.Cond.classLink "java/lang/Integer" (1 : Nat) "java/lang/Integer") ∈ lw_all := lw_g (lw_at lw_m3 71 rfl) rfl
theorem q632 : (Jvm.Cond.instantiable "java/lang/Integer" (1 : Nat)) ∈ lw_all := lw_g (lw_at lw_m3 72 rfl) rfl
theorem q633 : (Jvm.Cond.methodLink "java/lang/Integer" (199 : Nat) ({ cls := "java/lang/Integer", name := "<init>", desc := "(I)V" } : Jvm.MethodName)) ∈ lw_all := lw_g (lw_at lw_m3 73 rfl) rfl
theorem q634 : (Jvm.Cond.instanceMethod ({ cls := "java/lang/Integer", name := "<init>", desc := "(I)V" } : Jvm.MethodName)) ∈ lw_all := lw_g (lw_at lw_m3 74 rfl) rfl
theorem q635 : (Jvm.Cond.code ({ cls := "java/lang/Integer", name := "<init>", desc := "(I)V" } : Jvm.MethodName) prog_24_method_23_code (2 : Nat) (Option.none : Option Jvm.ClassFile.FieldType)) ∈ lw_all := lw_g (lw_at lw_m3 75 rfl) rfl
theorem q636 : (Jvm.Cond.methodLink "java/lang/Integer" (202 : Nat) ({ cls := "java/lang/Number", name := "<init>", desc := "()V" } : Jvm.MethodName)) ∈ lw_all := lw_g (lw_at lw_m3 76 rfl) rfl
theorem q640 : (Jvm.Cond.fieldLink "java/lang/Integer" (205 : Nat) "java/lang/Integer" "value" "I") ∈ lw_all := lw_g (lw_at lw_m3 80 rfl) rfl
theorem q641 : (Jvm.Cond.laysFinal "java/lang/Integer" "java/lang/Integer" "value" "I") ∈ lw_all := lw_g (lw_at lw_m3 81 rfl) rfl
theorem q642 : (Jvm.Cond.soleField "java/lang/Integer" "value") ∈ lw_all := lw_g (lw_at lw_m3 82 rfl) rfl
theorem q643 : (Jvm.Cond.superclass "java/lang/Integer" "java/lang/Number") ∈ lw_all := lw_g (lw_at lw_m3 83 rfl) rfl
theorem q677 : (Jvm.Cond.selects "java/lang/Integer" ({ cls := "java/lang/Object", name := "hashCode", desc := "()I" } : Jvm.MethodName) ({ cls := "java/lang/Integer", name := "hashCode", desc := "()I" } : Jvm.MethodName)) ∈ lw_all := lw_g (lw_at lw_m3 117 rfl) rfl
theorem q678 : (Jvm.Cond.instanceMethod ({ cls := "java/lang/Integer", name := "hashCode", desc := "()I" } : Jvm.MethodName)) ∈ lw_all := lw_g (lw_at lw_m3 118 rfl) rfl
theorem q679 : (Jvm.Cond.code ({ cls := "java/lang/Integer", name := "hashCode", desc := "()I" } : Jvm.MethodName) prog_24_method_32_code (1 : Nat) (Option.some Jvm.ClassFile.FieldType.int)) ∈ lw_all := lw_g (lw_at lw_m3 119 rfl) rfl
theorem q680 : (Jvm.Cond.methodLink "java/lang/Integer" (208 : Nat) ({ cls := "java/lang/Integer", name := "hashCode", desc := "(I)I" } : Jvm.MethodName)) ∈ lw_all := lw_g (lw_at lw_m3 120 rfl) rfl
theorem q681 : (Jvm.Cond.static ({ cls := "java/lang/Integer", name := "hashCode", desc := "(I)I" } : Jvm.MethodName)) ∈ lw_all := lw_g (lw_at lw_m3 121 rfl) rfl
theorem q682 : (Jvm.Cond.code ({ cls := "java/lang/Integer", name := "hashCode", desc := "(I)I" } : Jvm.MethodName) prog_24_method_33_code (1 : Nat) (Option.some Jvm.ClassFile.FieldType.int)) ∈ lw_all := lw_g (lw_at lw_m3 122 rfl) rfl
theorem q858 : (Jvm.Cond.static ({ cls := "java/lang/Integer", name := "stringSize", desc := "(I)I" } : Jvm.MethodName)) ∈ lw_all := lw_g (lw_at lw_m4 58 rfl) rfl
theorem q859 : (Jvm.Cond.code ({ cls := "java/lang/Integer", name := "stringSize", desc := "(I)I" } : Jvm.MethodName) prog_24_method_13_code (4 : Nat) (Option.some Jvm.ClassFile.FieldType.int)) ∈ lw_all := lw_g (lw_at lw_m4 59 rfl) rfl
theorem q861 : (Jvm.Cond.static ({ cls := "java/lang/Integer", name := "getChars", desc := "(II[B)I" } : Jvm.MethodName)) ∈ lw_all := lw_g (lw_at lw_m4 61 rfl) rfl
theorem q862 : (Jvm.Cond.code ({ cls := "java/lang/Integer", name := "getChars", desc := "(II[B)I" } : Jvm.MethodName) prog_24_method_12_code (7 : Nat) (Option.some Jvm.ClassFile.FieldType.int)) ∈ lw_all := lw_g (lw_at lw_m4 62 rfl) rfl
theorem q863 : (Jvm.Cond.fieldLink "java/lang/Integer" (83 : Nat) "java/lang/Integer" "DigitOnes" "[B") ∈ lw_all := lw_g (lw_at lw_m4 63 rfl) rfl
theorem q864 : (Jvm.Cond.laysStatic "java/lang/Integer" "DigitOnes" "[B") ∈ lw_tbl := lw_at lw_m4 64 rfl
theorem q865 : (Jvm.Cond.fieldLink "java/lang/Integer" (87 : Nat) "java/lang/Integer" "DigitTens" "[B") ∈ lw_all := lw_g (lw_at lw_m4 65 rfl) rfl
theorem q866 : (Jvm.Cond.laysStatic "java/lang/Integer" "DigitTens" "[B") ∈ lw_tbl := lw_at lw_m4 66 rfl
theorem q1054 : (Jvm.Cond.castable "java/lang/Integer" "java/lang/Comparable") ∈ lw_tbl := lw_at lw_m5 14 rfl
theorem q1055 : (Jvm.Cond.selects "java/lang/Integer" ({ cls := "java/lang/Comparable", name := "compareTo", desc := "(Ljava/lang/Object;)I" } : Jvm.MethodName) ({ cls := "java/lang/Integer", name := "compareTo", desc := "(Ljava/lang/Object;)I" } : Jvm.MethodName)) ∈ lw_all := lw_g (lw_at lw_m5 15 rfl) rfl
theorem q1056 : (Jvm.Cond.unhidden "java/lang/Integer" "compareTo" "(Ljava/lang/Object;)I") ∈ lw_tbl := lw_at lw_m5 16 rfl
theorem q1057 : (Jvm.Cond.instanceMethod ({ cls := "java/lang/Integer", name := "compareTo", desc := "(Ljava/lang/Object;)I" } : Jvm.MethodName)) ∈ lw_all := lw_g (lw_at lw_m5 17 rfl) rfl
theorem q1058 : (Jvm.Cond.publicMethod ({ cls := "java/lang/Integer", name := "compareTo", desc := "(Ljava/lang/Object;)I" } : Jvm.MethodName)) ∈ lw_tbl := lw_at lw_m5 18 rfl
theorem q1059 : (Jvm.Cond.code ({ cls := "java/lang/Integer", name := "compareTo", desc := "(Ljava/lang/Object;)I" } : Jvm.MethodName) prog_24_method_63_code (2 : Nat) (Option.some Jvm.ClassFile.FieldType.int)) ∈ lw_all := lw_g (lw_at lw_m5 19 rfl) rfl
theorem q1060 : (Jvm.Cond.methodLink "java/lang/Integer" (284 : Nat) ({ cls := "java/lang/Integer", name := "compareTo", desc := "(Ljava/lang/Integer;)I" } : Jvm.MethodName)) ∈ lw_all := lw_g (lw_at lw_m5 20 rfl) rfl
theorem q1061 : (Jvm.Cond.instanceMethod ({ cls := "java/lang/Integer", name := "compareTo", desc := "(Ljava/lang/Integer;)I" } : Jvm.MethodName)) ∈ lw_all := lw_g (lw_at lw_m5 21 rfl) rfl
theorem q1062 : (Jvm.Cond.selects "java/lang/Integer" ({ cls := "java/lang/Integer", name := "compareTo", desc := "(Ljava/lang/Integer;)I" } : Jvm.MethodName) ({ cls := "java/lang/Integer", name := "compareTo", desc := "(Ljava/lang/Integer;)I" } : Jvm.MethodName)) ∈ lw_all := lw_g (lw_at lw_m5 22 rfl) rfl
theorem q1063 : (Jvm.Cond.code ({ cls := "java/lang/Integer", name := "compareTo", desc := "(Ljava/lang/Integer;)I" } : Jvm.MethodName) prog_24_method_39_code (2 : Nat) (Option.some Jvm.ClassFile.FieldType.int)) ∈ lw_all := lw_g (lw_at lw_m5 23 rfl) rfl
theorem q1064 : (Jvm.Cond.methodLink "java/lang/Integer" (259 : Nat) ({ cls := "java/lang/Integer", name := "compare", desc := "(II)I" } : Jvm.MethodName)) ∈ lw_all := lw_g (lw_at lw_m5 24 rfl) rfl
theorem q1065 : (Jvm.Cond.static ({ cls := "java/lang/Integer", name := "compare", desc := "(II)I" } : Jvm.MethodName)) ∈ lw_all := lw_g (lw_at lw_m5 25 rfl) rfl
theorem q1066 : (Jvm.Cond.code ({ cls := "java/lang/Integer", name := "compare", desc := "(II)I" } : Jvm.MethodName) prog_24_method_40_code (2 : Nat) (Option.some Jvm.ClassFile.FieldType.int)) ∈ lw_all := lw_g (lw_at lw_m5 26 rfl) rfl
theorem q1157 : (Jvm.Cond.static ({ cls := "java/lang/Integer", name := "numberOfLeadingZeros", desc := "(I)I" } : Jvm.MethodName)) ∈ lw_all := lw_g (lw_at lw_m5 117 rfl) rfl
theorem q1158 : (Jvm.Cond.code ({ cls := "java/lang/Integer", name := "numberOfLeadingZeros", desc := "(I)I" } : Jvm.MethodName) prog_24_method_47_code (2 : Nat) (Option.some Jvm.ClassFile.FieldType.int)) ∈ lw_all := lw_g (lw_at lw_m5 118 rfl) rfl
theorem q1159 : (Jvm.Cond.constant "java/lang/Integer" (264 : Nat) (65536 : Int32)) ∈ lw_all := lw_g (lw_at lw_m5 119 rfl) rfl
theorem q1166 : (Jvm.Cond.static ({ cls := "java/lang/Integer", name := "numberOfTrailingZeros", desc := "(I)I" } : Jvm.MethodName)) ∈ lw_all := lw_g (lw_at lw_m5 126 rfl) rfl
theorem q1167 : (Jvm.Cond.code ({ cls := "java/lang/Integer", name := "numberOfTrailingZeros", desc := "(I)I" } : Jvm.MethodName) prog_24_method_48_code (2 : Nat) (Option.some Jvm.ClassFile.FieldType.int)) ∈ lw_all := lw_g (lw_at lw_m5 127 rfl) rfl
theorem q1292 : (Jvm.Cond.selects "java/lang/Integer" ({ cls := "java/lang/Object", name := "equals", desc := "(Ljava/lang/Object;)Z" } : Jvm.MethodName) ({ cls := "java/lang/Integer", name := "equals", desc := "(Ljava/lang/Object;)Z" } : Jvm.MethodName)) ∈ lw_all := lw_g (lw_at lw_m6 12 rfl) rfl
theorem q1293 : (Jvm.Cond.instanceMethod ({ cls := "java/lang/Integer", name := "equals", desc := "(Ljava/lang/Object;)Z" } : Jvm.MethodName)) ∈ lw_all := lw_g (lw_at lw_m6 13 rfl) rfl
theorem q1294 : (Jvm.Cond.code ({ cls := "java/lang/Integer", name := "equals", desc := "(Ljava/lang/Object;)Z" } : Jvm.MethodName) prog_24_method_34_code (2 : Nat) (Option.some Jvm.ClassFile.FieldType.boolean)) ∈ lw_all := lw_g (lw_at lw_m6 14 rfl) rfl
theorem q1295 : (Jvm.Cond.methodLink "java/lang/Integer" (211 : Nat) ({ cls := "java/lang/Integer", name := "intValue", desc := "()I" } : Jvm.MethodName)) ∈ lw_all := lw_g (lw_at lw_m6 15 rfl) rfl
theorem q1296 : (Jvm.Cond.instanceMethod ({ cls := "java/lang/Integer", name := "intValue", desc := "()I" } : Jvm.MethodName)) ∈ lw_all := lw_g (lw_at lw_m6 16 rfl) rfl
theorem q1297 : (Jvm.Cond.selects "java/lang/Integer" ({ cls := "java/lang/Integer", name := "intValue", desc := "()I" } : Jvm.MethodName) ({ cls := "java/lang/Integer", name := "intValue", desc := "()I" } : Jvm.MethodName)) ∈ lw_all := lw_g (lw_at lw_m6 17 rfl) rfl
theorem q1298 : (Jvm.Cond.code ({ cls := "java/lang/Integer", name := "intValue", desc := "()I" } : Jvm.MethodName) prog_24_method_27_code (1 : Nat) (Option.some Jvm.ClassFile.FieldType.int)) ∈ lw_all := lw_g (lw_at lw_m6 18 rfl) rfl
theorem q1787 : (Jvm.Cond.static ({ cls := "java/lang/Integer", name := "bitCount", desc := "(I)I" } : Jvm.MethodName)) ∈ lw_all := lw_g (lw_at lw_m8 27 rfl) rfl
theorem q1788 : (Jvm.Cond.code ({ cls := "java/lang/Integer", name := "bitCount", desc := "(I)I" } : Jvm.MethodName) prog_24_method_49_code (1 : Nat) (Option.some Jvm.ClassFile.FieldType.int)) ∈ lw_all := lw_g (lw_at lw_m8 28 rfl) rfl
theorem q1789 : (Jvm.Cond.constant "java/lang/Integer" (265 : Nat) (1431655765 : Int32)) ∈ lw_all := lw_g (lw_at lw_m8 29 rfl) rfl
theorem q1790 : (Jvm.Cond.constant "java/lang/Integer" (266 : Nat) (858993459 : Int32)) ∈ lw_all := lw_g (lw_at lw_m8 30 rfl) rfl
theorem q1791 : (Jvm.Cond.constant "java/lang/Integer" (267 : Nat) (252645135 : Int32)) ∈ lw_all := lw_g (lw_at lw_m8 31 rfl) rfl
theorem q3010 : (Jvm.Cond.castable "java/lang/Integer" "java/lang/Object") ∈ lw_tbl := lw_at lw_m13 50 rfl
theorem in_J19 : ∀ w ∈ wsJ190, w ∈ lw_all := lw_in wsJ190 [641] (by decide +kernel) (by decide +kernel)

/-! java/lang/Boolean -/
set_option maxRecDepth 100000
def RJ20 : String := "java/lang/Boolean"
abbrev cJ20_valueOf : ByteArray := prog_16_method_5_code
def yJ20_valueOf : MethodName := ⟨RJ20, "valueOf", "(Z)Ljava/lang/Boolean;"⟩
def dkwJ20_valueOf_0 : List UInt8 := [26, 153, 0, 9, 178, 0, 27, 167, 0, 6, 178, 0, 31, 176]
abbrev dktJ20_valueOf_0 : List UInt8 := dkwJ20_valueOf_0 ++ []
theorem dksJ20_valueOf_0 : cJ20_valueOf.data.toList.drop 0 = dktJ20_valueOf_0 := by decide +kernel
theorem dJ20_valueOf_0 : decode cJ20_valueOf 0 = .ok (.iload_n 0, 1) := dk_26 (dk_at dksJ20_valueOf_0 0 rfl rfl)
theorem dJ20_valueOf_1 : decode cJ20_valueOf 1 = .ok (.ifCond .eq 9, 3) := dk_153 0 9 (dk_at dksJ20_valueOf_0 1 rfl rfl)
theorem dJ20_valueOf_4 : decode cJ20_valueOf 4 = .ok (.getstatic 27, 3) := dk_178 0 27 (dk_at dksJ20_valueOf_0 4 rfl rfl)
theorem dJ20_valueOf_7 : decode cJ20_valueOf 7 = .ok (.goto 6, 3) := dk_167 0 6 (dk_at dksJ20_valueOf_0 7 rfl rfl)
theorem dJ20_valueOf_10 : decode cJ20_valueOf 10 = .ok (.getstatic 31, 3) := dk_178 0 31 (dk_at dksJ20_valueOf_0 10 rfl rfl)
theorem dJ20_valueOf_13 : decode cJ20_valueOf 13 = .ok (.areturn, 1) := dk_176 (dk_at dksJ20_valueOf_0 13 rfl rfl)
theorem q108 : (Jvm.Cond.initialized "java/lang/Boolean") ∈ lw_all := lw_g (lw_at lw_m1 28 rfl) rfl
theorem q544 : (Jvm.Cond.selects "java/lang/Boolean" ({ cls := "java/lang/Object", name := "getClass", desc := "()Ljava/lang/Class;" } : Jvm.MethodName) ({ cls := "java/lang/Object", name := "getClass", desc := "()Ljava/lang/Class;" } : Jvm.MethodName)) ∈ lw_all := lw_g (lw_at lw_m2 224 rfl) rfl
theorem q668 : (Jvm.Cond.selects "java/lang/Boolean" ({ cls := "java/lang/Object", name := "hashCode", desc := "()I" } : Jvm.MethodName) ({ cls := "java/lang/Boolean", name := "hashCode", desc := "()I" } : Jvm.MethodName)) ∈ lw_all := lw_g (lw_at lw_m3 108 rfl) rfl
theorem q669 : (Jvm.Cond.instanceMethod ({ cls := "java/lang/Boolean", name := "hashCode", desc := "()I" } : Jvm.MethodName)) ∈ lw_all := lw_g (lw_at lw_m3 109 rfl) rfl
theorem q670 : (Jvm.Cond.code ({ cls := "java/lang/Boolean", name := "hashCode", desc := "()I" } : Jvm.MethodName) prog_16_method_9_code (1 : Nat) (Option.some Jvm.ClassFile.FieldType.int)) ∈ lw_all := lw_g (lw_at lw_m3 110 rfl) rfl
theorem q671 : (Jvm.Cond.methodLink "java/lang/Boolean" (38 : Nat) ({ cls := "java/lang/Boolean", name := "hashCode", desc := "(Z)I" } : Jvm.MethodName)) ∈ lw_all := lw_g (lw_at lw_m3 111 rfl) rfl
theorem q672 : (Jvm.Cond.static ({ cls := "java/lang/Boolean", name := "hashCode", desc := "(Z)I" } : Jvm.MethodName)) ∈ lw_all := lw_g (lw_at lw_m3 112 rfl) rfl
theorem q673 : (Jvm.Cond.code ({ cls := "java/lang/Boolean", name := "hashCode", desc := "(Z)I" } : Jvm.MethodName) prog_16_method_10_code (1 : Nat) (Option.some Jvm.ClassFile.FieldType.int)) ∈ lw_all := lw_g (lw_at lw_m3 113 rfl) rfl
theorem q1040 : (Jvm.Cond.castable "java/lang/Boolean" "java/lang/Comparable") ∈ lw_tbl := lw_at lw_m5 0 rfl
theorem q1041 : (Jvm.Cond.selects "java/lang/Boolean" ({ cls := "java/lang/Comparable", name := "compareTo", desc := "(Ljava/lang/Object;)I" } : Jvm.MethodName) ({ cls := "java/lang/Boolean", name := "compareTo", desc := "(Ljava/lang/Object;)I" } : Jvm.MethodName)) ∈ lw_all := lw_g (lw_at lw_m5 1 rfl) rfl
theorem q1042 : (Jvm.Cond.unhidden "java/lang/Boolean" "compareTo" "(Ljava/lang/Object;)I") ∈ lw_tbl := lw_at lw_m5 2 rfl
theorem q1043 : (Jvm.Cond.instanceMethod ({ cls := "java/lang/Boolean", name := "compareTo", desc := "(Ljava/lang/Object;)I" } : Jvm.MethodName)) ∈ lw_all := lw_g (lw_at lw_m5 3 rfl) rfl
theorem q1044 : (Jvm.Cond.publicMethod ({ cls := "java/lang/Boolean", name := "compareTo", desc := "(Ljava/lang/Object;)I" } : Jvm.MethodName)) ∈ lw_tbl := lw_at lw_m5 4 rfl
theorem q1045 : (Jvm.Cond.code ({ cls := "java/lang/Boolean", name := "compareTo", desc := "(Ljava/lang/Object;)I" } : Jvm.MethodName) prog_16_method_19_code (2 : Nat) (Option.some Jvm.ClassFile.FieldType.int)) ∈ lw_all := lw_g (lw_at lw_m5 5 rfl) rfl
theorem q1046 : (Jvm.Cond.classLink "java/lang/Boolean" (8 : Nat) "java/lang/Boolean") ∈ lw_all := lw_g (lw_at lw_m5 6 rfl) rfl
theorem q1047 : (Jvm.Cond.methodLink "java/lang/Boolean" (73 : Nat) ({ cls := "java/lang/Boolean", name := "compareTo", desc := "(Ljava/lang/Boolean;)I" } : Jvm.MethodName)) ∈ lw_all := lw_g (lw_at lw_m5 7 rfl) rfl
theorem q1048 : (Jvm.Cond.instanceMethod ({ cls := "java/lang/Boolean", name := "compareTo", desc := "(Ljava/lang/Boolean;)I" } : Jvm.MethodName)) ∈ lw_all := lw_g (lw_at lw_m5 8 rfl) rfl
theorem q1049 : (Jvm.Cond.selects "java/lang/Boolean" ({ cls := "java/lang/Boolean", name := "compareTo", desc := "(Ljava/lang/Boolean;)I" } : Jvm.MethodName) ({ cls := "java/lang/Boolean", name := "compareTo", desc := "(Ljava/lang/Boolean;)I" } : Jvm.MethodName)) ∈ lw_all := lw_g (lw_at lw_m5 9 rfl) rfl
theorem q1050 : (Jvm.Cond.code ({ cls := "java/lang/Boolean", name := "compareTo", desc := "(Ljava/lang/Boolean;)I" } : Jvm.MethodName) prog_16_method_13_code (2 : Nat) (Option.some Jvm.ClassFile.FieldType.int)) ∈ lw_all := lw_g (lw_at lw_m5 10 rfl) rfl
theorem q1051 : (Jvm.Cond.methodLink "java/lang/Boolean" (56 : Nat) ({ cls := "java/lang/Boolean", name := "compare", desc := "(ZZ)I" } : Jvm.MethodName)) ∈ lw_all := lw_g (lw_at lw_m5 11 rfl) rfl
theorem q1052 : (Jvm.Cond.static ({ cls := "java/lang/Boolean", name := "compare", desc := "(ZZ)I" } : Jvm.MethodName)) ∈ lw_all := lw_g (lw_at lw_m5 12 rfl) rfl
theorem q1053 : (Jvm.Cond.code ({ cls := "java/lang/Boolean", name := "compare", desc := "(ZZ)I" } : Jvm.MethodName) prog_16_method_14_code (2 : Nat) (Option.some Jvm.ClassFile.FieldType.int)) ∈ lw_all := lw_g (lw_at lw_m5 13 rfl) rfl
theorem q1282 : (Jvm.Cond.selects "java/lang/Boolean" ({ cls := "java/lang/Object", name := "equals", desc := "(Ljava/lang/Object;)Z" } : Jvm.MethodName) ({ cls := "java/lang/Boolean", name := "equals", desc := "(Ljava/lang/Object;)Z" } : Jvm.MethodName)) ∈ lw_all := lw_g (lw_at lw_m6 2 rfl) rfl
theorem q1283 : (Jvm.Cond.instanceMethod ({ cls := "java/lang/Boolean", name := "equals", desc := "(Ljava/lang/Object;)Z" } : Jvm.MethodName)) ∈ lw_all := lw_g (lw_at lw_m6 3 rfl) rfl
theorem q1284 : (Jvm.Cond.code ({ cls := "java/lang/Boolean", name := "equals", desc := "(Ljava/lang/Object;)Z" } : Jvm.MethodName) prog_16_method_11_code (2 : Nat) (Option.some Jvm.ClassFile.FieldType.boolean)) ∈ lw_all := lw_g (lw_at lw_m6 4 rfl) rfl
theorem q1285 : (Jvm.Cond.methodLink "java/lang/Boolean" (42 : Nat) ({ cls := "java/lang/Boolean", name := "booleanValue", desc := "()Z" } : Jvm.MethodName)) ∈ lw_all := lw_g (lw_at lw_m6 5 rfl) rfl
theorem q1286 : (Jvm.Cond.instanceMethod ({ cls := "java/lang/Boolean", name := "booleanValue", desc := "()Z" } : Jvm.MethodName)) ∈ lw_all := lw_g (lw_at lw_m6 6 rfl) rfl
theorem q1287 : (Jvm.Cond.selects "java/lang/Boolean" ({ cls := "java/lang/Boolean", name := "booleanValue", desc := "()Z" } : Jvm.MethodName) ({ cls := "java/lang/Boolean", name := "booleanValue", desc := "()Z" } : Jvm.MethodName)) ∈ lw_all := lw_g (lw_at lw_m6 7 rfl) rfl
theorem q1288 : (Jvm.Cond.code ({ cls := "java/lang/Boolean", name := "booleanValue", desc := "()Z" } : Jvm.MethodName) prog_16_method_4_code (1 : Nat) (Option.some Jvm.ClassFile.FieldType.boolean)) ∈ lw_all := lw_g (lw_at lw_m6 8 rfl) rfl
theorem q1433 : (Jvm.Cond.static ({ cls := "java/lang/Boolean", name := "valueOf", desc := "(Z)Ljava/lang/Boolean;" } : Jvm.MethodName)) ∈ lw_all := lw_g (lw_at lw_m6 153 rfl) rfl
theorem q1434 : (Jvm.Cond.code ({ cls := "java/lang/Boolean", name := "valueOf", desc := "(Z)Ljava/lang/Boolean;" } : Jvm.MethodName) prog_16_method_5_code (1 : Nat) (Option.some (Jvm.ClassFile.FieldType.object "java/lang/Boolean"))) ∈ lw_all := lw_g (lw_at lw_m6 154 rfl) rfl
theorem q1435 : (Jvm.Cond.fieldLink "java/lang/Boolean" (27 : Nat) "java/lang/Boolean" "TRUE" "Ljava/lang/Boolean;") ∈ lw_all := lw_g (lw_at lw_m6 155 rfl) rfl
theorem q1436 : (Jvm.Cond.laysStatic "java/lang/Boolean" "TRUE" "Ljava/lang/Boolean;") ∈ lw_tbl := lw_at lw_m6 156 rfl
theorem q1437 : (Jvm.Cond.fieldLink "java/lang/Boolean" (31 : Nat) "java/lang/Boolean" "FALSE" "Ljava/lang/Boolean;") ∈ lw_all := lw_g (lw_at lw_m6 157 rfl) rfl
theorem q1438 : (Jvm.Cond.laysStatic "java/lang/Boolean" "FALSE" "Ljava/lang/Boolean;") ∈ lw_tbl := lw_at lw_m6 158 rfl
theorem q3016 : (Jvm.Cond.castable "java/lang/Boolean" "java/lang/Object") ∈ lw_tbl := lw_at lw_m13 56 rfl
theorem q3041 : (Jvm.Cond.fieldLink "java/lang/Boolean" (7 : Nat) "java/lang/Boolean" "value" "Z") ∈ lw_all := lw_g (lw_at lw_m13 81 rfl) rfl

/-! java/lang/StringLatin1 -/
set_option maxRecDepth 100000
def RJ21 : String := "java/lang/StringLatin1"
abbrev cJ21_hashCode : ByteArray := prog_33_method_21_code
def yJ21_hashCode : MethodName := ⟨RJ21, "hashCode", "([B)I"⟩
def dkwJ21_hashCode_2 : List UInt8 := [3, 167, 0, 22, 42, 3, 51, 17, 0, 255, 126, 167, 0, 12, 42, 3, 42, 190, 3, 7, 184, 0, 84, 172]
abbrev dktJ21_hashCode_2 : List UInt8 := dkwJ21_hashCode_2 ++ []
def dkwJ21_hashCode_1 : List UInt8 := [171, 0, 0, 0, 0, 40, 0, 0, 0, 2, 0, 0, 0, 0, 0, 0, 0, 26, 0, 0, 0, 1, 0, 0, 0, 30]
abbrev dktJ21_hashCode_1 : List UInt8 := dkwJ21_hashCode_1 ++ dktJ21_hashCode_2
def dkwJ21_hashCode_0 : List UInt8 := [42, 190]
abbrev dktJ21_hashCode_0 : List UInt8 := dkwJ21_hashCode_0 ++ dktJ21_hashCode_1
theorem dksJ21_hashCode_0 : cJ21_hashCode.data.toList.drop 0 = dktJ21_hashCode_0 := by decide +kernel
theorem dksJ21_hashCode_1 : cJ21_hashCode.data.toList.drop 2 = dktJ21_hashCode_1 := dk_seg dksJ21_hashCode_0 2 rfl rfl
theorem dksJ21_hashCode_2 : cJ21_hashCode.data.toList.drop 28 = dktJ21_hashCode_2 := dk_seg dksJ21_hashCode_1 26 rfl rfl
theorem dJ21_hashCode_0 : decode cJ21_hashCode 0 = .ok (.aload_n 0, 1) := dk_42 (dk_at dksJ21_hashCode_0 0 rfl rfl)
theorem dJ21_hashCode_1 : decode cJ21_hashCode 1 = .ok (.arraylength, 1) := dk_190 (dk_at dksJ21_hashCode_0 1 rfl rfl)
theorem dJ21_hashCode_2 : decode cJ21_hashCode 2 = .ok (.lookupswitch 40 #[(0, 26), (1, 30)], 26) := by decide +kernel
theorem dJ21_hashCode_28 : decode cJ21_hashCode 28 = .ok (.iconst 0, 1) := dk_3 (dk_at dksJ21_hashCode_2 0 rfl rfl)
theorem dJ21_hashCode_29 : decode cJ21_hashCode 29 = .ok (.goto 22, 3) := dk_167 0 22 (dk_at dksJ21_hashCode_2 1 rfl rfl)
theorem dJ21_hashCode_32 : decode cJ21_hashCode 32 = .ok (.aload_n 0, 1) := dk_42 (dk_at dksJ21_hashCode_2 4 rfl rfl)
theorem dJ21_hashCode_33 : decode cJ21_hashCode 33 = .ok (.iconst 0, 1) := dk_3 (dk_at dksJ21_hashCode_2 5 rfl rfl)
theorem dJ21_hashCode_34 : decode cJ21_hashCode 34 = .ok (.baload, 1) := dk_51 (dk_at dksJ21_hashCode_2 6 rfl rfl)
theorem dJ21_hashCode_35 : decode cJ21_hashCode 35 = .ok (.sipush 255, 3) := dk_17 0 255 (dk_at dksJ21_hashCode_2 7 rfl rfl)
theorem dJ21_hashCode_38 : decode cJ21_hashCode 38 = .ok (.iand, 1) := dk_126 (dk_at dksJ21_hashCode_2 10 rfl rfl)
theorem dJ21_hashCode_39 : decode cJ21_hashCode 39 = .ok (.goto 12, 3) := dk_167 0 12 (dk_at dksJ21_hashCode_2 11 rfl rfl)
theorem dJ21_hashCode_42 : decode cJ21_hashCode 42 = .ok (.aload_n 0, 1) := dk_42 (dk_at dksJ21_hashCode_2 14 rfl rfl)
theorem dJ21_hashCode_43 : decode cJ21_hashCode 43 = .ok (.iconst 0, 1) := dk_3 (dk_at dksJ21_hashCode_2 15 rfl rfl)
theorem dJ21_hashCode_44 : decode cJ21_hashCode 44 = .ok (.aload_n 0, 1) := dk_42 (dk_at dksJ21_hashCode_2 16 rfl rfl)
theorem dJ21_hashCode_45 : decode cJ21_hashCode 45 = .ok (.arraylength, 1) := dk_190 (dk_at dksJ21_hashCode_2 17 rfl rfl)
theorem dJ21_hashCode_46 : decode cJ21_hashCode 46 = .ok (.iconst 0, 1) := dk_3 (dk_at dksJ21_hashCode_2 18 rfl rfl)
theorem dJ21_hashCode_47 : decode cJ21_hashCode 47 = .ok (.iconst 4, 1) := dk_7 (dk_at dksJ21_hashCode_2 19 rfl rfl)
theorem dJ21_hashCode_48 : decode cJ21_hashCode 48 = .ok (.invokestatic 84, 3) := dk_184 0 84 (dk_at dksJ21_hashCode_2 20 rfl rfl)
theorem dJ21_hashCode_51 : decode cJ21_hashCode 51 = .ok (.ireturn, 1) := dk_172 (dk_at dksJ21_hashCode_2 23 rfl rfl)
abbrev cJ21_inflate : ByteArray := prog_33_method_50_code
def yJ21_inflate : MethodName := ⟨RJ21, "inflate", "([BI[BII)V"⟩
def dkwJ21_inflate_0 : List UInt8 := [42, 27, 44, 29, 21, 4, 184, 0, 240, 177]
abbrev dktJ21_inflate_0 : List UInt8 := dkwJ21_inflate_0 ++ []
theorem dksJ21_inflate_0 : cJ21_inflate.data.toList.drop 0 = dktJ21_inflate_0 := by decide +kernel
theorem dJ21_inflate_0 : decode cJ21_inflate 0 = .ok (.aload_n 0, 1) := dk_42 (dk_at dksJ21_inflate_0 0 rfl rfl)
theorem dJ21_inflate_1 : decode cJ21_inflate 1 = .ok (.iload_n 1, 1) := dk_27 (dk_at dksJ21_inflate_0 1 rfl rfl)
theorem dJ21_inflate_2 : decode cJ21_inflate 2 = .ok (.aload_n 2, 1) := dk_44 (dk_at dksJ21_inflate_0 2 rfl rfl)
theorem dJ21_inflate_3 : decode cJ21_inflate 3 = .ok (.iload_n 3, 1) := dk_29 (dk_at dksJ21_inflate_0 3 rfl rfl)
theorem dJ21_inflate_4 : decode cJ21_inflate 4 = .ok (.iload 4, 2) := dk_21 4 (dk_at dksJ21_inflate_0 4 rfl rfl)
theorem dJ21_inflate_6 : decode cJ21_inflate 6 = .ok (.invokestatic 240, 3) := dk_184 0 240 (dk_at dksJ21_inflate_0 6 rfl rfl)
theorem dJ21_inflate_9 : decode cJ21_inflate 9 = .ok (.return_, 1) := dk_177 (dk_at dksJ21_inflate_0 9 rfl rfl)
abbrev cJ21_getChar : ByteArray := prog_33_method_44_code
def yJ21_getChar : MethodName := ⟨RJ21, "getChar", "([BI)C"⟩
def dkwJ21_getChar_0 : List UInt8 := [42, 27, 51, 17, 0, 255, 126, 146, 172]
abbrev dktJ21_getChar_0 : List UInt8 := dkwJ21_getChar_0 ++ []
theorem dksJ21_getChar_0 : cJ21_getChar.data.toList.drop 0 = dktJ21_getChar_0 := by decide +kernel
theorem dJ21_getChar_0 : decode cJ21_getChar 0 = .ok (.aload_n 0, 1) := dk_42 (dk_at dksJ21_getChar_0 0 rfl rfl)
theorem dJ21_getChar_1 : decode cJ21_getChar 1 = .ok (.iload_n 1, 1) := dk_27 (dk_at dksJ21_getChar_0 1 rfl rfl)
theorem dJ21_getChar_2 : decode cJ21_getChar 2 = .ok (.baload, 1) := dk_51 (dk_at dksJ21_getChar_0 2 rfl rfl)
theorem dJ21_getChar_3 : decode cJ21_getChar 3 = .ok (.sipush 255, 3) := dk_17 0 255 (dk_at dksJ21_getChar_0 3 rfl rfl)
theorem dJ21_getChar_6 : decode cJ21_getChar 6 = .ok (.iand, 1) := dk_126 (dk_at dksJ21_getChar_0 6 rfl rfl)
theorem dJ21_getChar_7 : decode cJ21_getChar 7 = .ok (.i2c, 1) := dk_146 (dk_at dksJ21_getChar_0 7 rfl rfl)
theorem dJ21_getChar_8 : decode cJ21_getChar 8 = .ok (.ireturn, 1) := dk_172 (dk_at dksJ21_getChar_0 8 rfl rfl)
abbrev cJ21_length : ByteArray := prog_33_method_5_code
def yJ21_length : MethodName := ⟨RJ21, "length", "([B)I"⟩
theorem dJ21_length_0 : decode cJ21_length 0 = .ok (.aload_n 0, 1) := by decide +kernel
theorem dJ21_length_1 : decode cJ21_length 1 = .ok (.arraylength, 1) := by decide +kernel
theorem dJ21_length_2 : decode cJ21_length 2 = .ok (.ireturn, 1) := by decide +kernel
abbrev cJ21_equals : ByteArray := prog_33_method_13_code
def yJ21_equals : MethodName := ⟨RJ21, "equals", "([B[B)Z"⟩
def dkwJ21_equals_1 : List UInt8 := [3, 172, 132, 2, 1, 167, 255, 236, 4, 172, 3, 172]
abbrev dktJ21_equals_1 : List UInt8 := dkwJ21_equals_1 ++ []
def dkwJ21_equals_0 : List UInt8 := [42, 190, 43, 190, 160, 0, 30, 3, 61, 28, 42, 190, 162, 0, 20, 42, 28, 51, 43, 28, 51, 159, 0, 5]
abbrev dktJ21_equals_0 : List UInt8 := dkwJ21_equals_0 ++ dktJ21_equals_1
theorem dksJ21_equals_0 : cJ21_equals.data.toList.drop 0 = dktJ21_equals_0 := by decide +kernel
theorem dksJ21_equals_1 : cJ21_equals.data.toList.drop 24 = dktJ21_equals_1 := dk_seg dksJ21_equals_0 24 rfl rfl
theorem dJ21_equals_0 : decode cJ21_equals 0 = .ok (.aload_n 0, 1) := dk_42 (dk_at dksJ21_equals_0 0 rfl rfl)
theorem dJ21_equals_1 : decode cJ21_equals 1 = .ok (.arraylength, 1) := dk_190 (dk_at dksJ21_equals_0 1 rfl rfl)
theorem dJ21_equals_2 : decode cJ21_equals 2 = .ok (.aload_n 1, 1) := dk_43 (dk_at dksJ21_equals_0 2 rfl rfl)
theorem dJ21_equals_3 : decode cJ21_equals 3 = .ok (.arraylength, 1) := dk_190 (dk_at dksJ21_equals_0 3 rfl rfl)
theorem dJ21_equals_4 : decode cJ21_equals 4 = .ok (.if_icmp .ne 30, 3) := dk_160 0 30 (dk_at dksJ21_equals_0 4 rfl rfl)
theorem dJ21_equals_7 : decode cJ21_equals 7 = .ok (.iconst 0, 1) := dk_3 (dk_at dksJ21_equals_0 7 rfl rfl)
theorem dJ21_equals_8 : decode cJ21_equals 8 = .ok (.istore_n 2, 1) := dk_61 (dk_at dksJ21_equals_0 8 rfl rfl)
theorem dJ21_equals_9 : decode cJ21_equals 9 = .ok (.iload_n 2, 1) := dk_28 (dk_at dksJ21_equals_0 9 rfl rfl)
theorem dJ21_equals_10 : decode cJ21_equals 10 = .ok (.aload_n 0, 1) := dk_42 (dk_at dksJ21_equals_0 10 rfl rfl)
theorem dJ21_equals_11 : decode cJ21_equals 11 = .ok (.arraylength, 1) := dk_190 (dk_at dksJ21_equals_0 11 rfl rfl)
theorem dJ21_equals_12 : decode cJ21_equals 12 = .ok (.if_icmp .ge 20, 3) := dk_162 0 20 (dk_at dksJ21_equals_0 12 rfl rfl)
theorem dJ21_equals_15 : decode cJ21_equals 15 = .ok (.aload_n 0, 1) := dk_42 (dk_at dksJ21_equals_0 15 rfl rfl)
theorem dJ21_equals_16 : decode cJ21_equals 16 = .ok (.iload_n 2, 1) := dk_28 (dk_at dksJ21_equals_0 16 rfl rfl)
theorem dJ21_equals_17 : decode cJ21_equals 17 = .ok (.baload, 1) := dk_51 (dk_at dksJ21_equals_0 17 rfl rfl)
theorem dJ21_equals_18 : decode cJ21_equals 18 = .ok (.aload_n 1, 1) := dk_43 (dk_at dksJ21_equals_0 18 rfl rfl)
theorem dJ21_equals_19 : decode cJ21_equals 19 = .ok (.iload_n 2, 1) := dk_28 (dk_at dksJ21_equals_0 19 rfl rfl)
theorem dJ21_equals_20 : decode cJ21_equals 20 = .ok (.baload, 1) := dk_51 (dk_at dksJ21_equals_0 20 rfl rfl)
theorem dJ21_equals_21 : decode cJ21_equals 21 = .ok (.if_icmp .eq 5, 3) := dk_159 0 5 (dk_at dksJ21_equals_0 21 rfl rfl)
theorem dJ21_equals_24 : decode cJ21_equals 24 = .ok (.iconst 0, 1) := dk_3 (dk_at dksJ21_equals_1 0 rfl rfl)
theorem dJ21_equals_25 : decode cJ21_equals 25 = .ok (.ireturn, 1) := dk_172 (dk_at dksJ21_equals_1 1 rfl rfl)
theorem dJ21_equals_26 : decode cJ21_equals 26 = .ok (.iinc 2 1, 3) := dk_132 2 1 (dk_at dksJ21_equals_1 2 rfl rfl)
theorem dJ21_equals_29 : decode cJ21_equals 29 = .ok (.goto (-20), 3) := dk_167 255 236 (dk_at dksJ21_equals_1 5 rfl rfl)
theorem dJ21_equals_32 : decode cJ21_equals 32 = .ok (.iconst 1, 1) := dk_4 (dk_at dksJ21_equals_1 8 rfl rfl)
theorem dJ21_equals_33 : decode cJ21_equals 33 = .ok (.ireturn, 1) := dk_172 (dk_at dksJ21_equals_1 9 rfl rfl)
theorem dJ21_equals_34 : decode cJ21_equals 34 = .ok (.iconst 0, 1) := dk_3 (dk_at dksJ21_equals_1 10 rfl rfl)
theorem dJ21_equals_35 : decode cJ21_equals 35 = .ok (.ireturn, 1) := dk_172 (dk_at dksJ21_equals_1 11 rfl rfl)
abbrev cJ21_canEncode : ByteArray := prog_33_method_3_code
def yJ21_canEncode : MethodName := ⟨RJ21, "canEncode", "(C)Z"⟩
def dkwJ21_canEncode_0 : List UInt8 := [26, 17, 0, 255, 163, 0, 7, 4, 167, 0, 4, 3, 172]
abbrev dktJ21_canEncode_0 : List UInt8 := dkwJ21_canEncode_0 ++ []
theorem dksJ21_canEncode_0 : cJ21_canEncode.data.toList.drop 0 = dktJ21_canEncode_0 := by decide +kernel
theorem dJ21_canEncode_0 : decode cJ21_canEncode 0 = .ok (.iload_n 0, 1) := dk_26 (dk_at dksJ21_canEncode_0 0 rfl rfl)
theorem dJ21_canEncode_1 : decode cJ21_canEncode 1 = .ok (.sipush 255, 3) := dk_17 0 255 (dk_at dksJ21_canEncode_0 1 rfl rfl)
theorem dJ21_canEncode_4 : decode cJ21_canEncode 4 = .ok (.if_icmp .gt 7, 3) := dk_163 0 7 (dk_at dksJ21_canEncode_0 4 rfl rfl)
theorem dJ21_canEncode_7 : decode cJ21_canEncode 7 = .ok (.iconst 1, 1) := dk_4 (dk_at dksJ21_canEncode_0 7 rfl rfl)
theorem dJ21_canEncode_8 : decode cJ21_canEncode 8 = .ok (.goto 4, 3) := dk_167 0 4 (dk_at dksJ21_canEncode_0 8 rfl rfl)
theorem dJ21_canEncode_11 : decode cJ21_canEncode 11 = .ok (.iconst 0, 1) := dk_3 (dk_at dksJ21_canEncode_0 11 rfl rfl)
theorem dJ21_canEncode_12 : decode cJ21_canEncode 12 = .ok (.ireturn, 1) := dk_172 (dk_at dksJ21_canEncode_0 12 rfl rfl)
abbrev cJ21_charAt : ByteArray := prog_33_method_2_code
def yJ21_charAt : MethodName := ⟨RJ21, "charAt", "([BI)C"⟩
def dkwJ21_charAt_0 : List UInt8 := [27, 42, 190, 184, 0, 9, 42, 27, 51, 17, 0, 255, 126, 146, 172]
abbrev dktJ21_charAt_0 : List UInt8 := dkwJ21_charAt_0 ++ []
theorem dksJ21_charAt_0 : cJ21_charAt.data.toList.drop 0 = dktJ21_charAt_0 := by decide +kernel
theorem dJ21_charAt_0 : decode cJ21_charAt 0 = .ok (.iload_n 1, 1) := dk_27 (dk_at dksJ21_charAt_0 0 rfl rfl)
theorem dJ21_charAt_1 : decode cJ21_charAt 1 = .ok (.aload_n 0, 1) := dk_42 (dk_at dksJ21_charAt_0 1 rfl rfl)
theorem dJ21_charAt_2 : decode cJ21_charAt 2 = .ok (.arraylength, 1) := dk_190 (dk_at dksJ21_charAt_0 2 rfl rfl)
theorem dJ21_charAt_3 : decode cJ21_charAt 3 = .ok (.invokestatic 9, 3) := dk_184 0 9 (dk_at dksJ21_charAt_0 3 rfl rfl)
theorem dJ21_charAt_6 : decode cJ21_charAt 6 = .ok (.aload_n 0, 1) := dk_42 (dk_at dksJ21_charAt_0 6 rfl rfl)
theorem dJ21_charAt_7 : decode cJ21_charAt 7 = .ok (.iload_n 1, 1) := dk_27 (dk_at dksJ21_charAt_0 7 rfl rfl)
theorem dJ21_charAt_8 : decode cJ21_charAt 8 = .ok (.baload, 1) := dk_51 (dk_at dksJ21_charAt_0 8 rfl rfl)
theorem dJ21_charAt_9 : decode cJ21_charAt 9 = .ok (.sipush 255, 3) := dk_17 0 255 (dk_at dksJ21_charAt_0 9 rfl rfl)
theorem dJ21_charAt_12 : decode cJ21_charAt 12 = .ok (.iand, 1) := dk_126 (dk_at dksJ21_charAt_0 12 rfl rfl)
theorem dJ21_charAt_13 : decode cJ21_charAt 13 = .ok (.i2c, 1) := dk_146 (dk_at dksJ21_charAt_0 13 rfl rfl)
theorem dJ21_charAt_14 : decode cJ21_charAt 14 = .ok (.ireturn, 1) := dk_172 (dk_at dksJ21_charAt_0 14 rfl rfl)
theorem q109 : (Jvm.Cond.initialized "java/lang/StringLatin1") ∈ lw_all := lw_g (lw_at lw_m1 29 rfl) rfl
theorem q692 : (Jvm.Cond.static ({ cls := "java/lang/StringLatin1", name := "hashCode", desc := "([B)I" } : Jvm.MethodName)) ∈ lw_all := lw_g (lw_at lw_m3 132 rfl) rfl
theorem q693 : (Jvm.Cond.code ({ cls := "java/lang/StringLatin1", name := "hashCode", desc := "([B)I" } : Jvm.MethodName) prog_33_method_21_code (1 : Nat) (Option.some Jvm.ClassFile.FieldType.int)) ∈ lw_all := lw_g (lw_at lw_m3 133 rfl) rfl
theorem q694 : (Jvm.Cond.methodLink "java/lang/StringLatin1" (84 : Nat) ({ cls := "jdk/internal/util/ArraysSupport", name := "vectorizedHashCode", desc := "(Ljava/lang/Object;IIII)I" } : Jvm.MethodName)) ∈ lw_all := lw_g (lw_at lw_m3 134 rfl) rfl
theorem q830 : (Jvm.Cond.static ({ cls := "java/lang/StringLatin1", name := "inflate", desc := "([BI[BII)V" } : Jvm.MethodName)) ∈ lw_all := lw_g (lw_at lw_m4 30 rfl) rfl
theorem q831 : (Jvm.Cond.code ({ cls := "java/lang/StringLatin1", name := "inflate", desc := "([BI[BII)V" } : Jvm.MethodName) prog_33_method_50_code (5 : Nat) (Option.none : Option Jvm.ClassFile.FieldType)) ∈ lw_all := lw_g (lw_at lw_m4 31 rfl) rfl
theorem q832 : (Jvm.Cond.methodLink "java/lang/StringLatin1" (240 : Nat) ({ cls := "java/lang/StringUTF16", name := "inflate", desc := "([BI[BII)V" } : Jvm.MethodName)) ∈ lw_all := lw_g (lw_at lw_m4 32 rfl) rfl
theorem q1079 : (Jvm.Cond.static ({ cls := "java/lang/StringLatin1", name := "compareTo", desc := "([B[B)I" } : Jvm.MethodName)) ∈ lw_all := lw_g (lw_at lw_m5 39 rfl) rfl
theorem q1080 : (Jvm.Cond.code ({ cls := "java/lang/StringLatin1", name := "compareTo", desc := "([B[B)I" } : Jvm.MethodName) prog_33_method_14_code (4 : Nat) (Option.some Jvm.ClassFile.FieldType.int)) ∈ lw_all := lw_g (lw_at lw_m5 40 rfl) rfl
theorem q1081 : (Jvm.Cond.methodLink "java/lang/StringLatin1" (34 : Nat) ({ cls := "java/lang/StringLatin1", name := "compareTo", desc := "([B[BII)I" } : Jvm.MethodName)) ∈ lw_all := lw_g (lw_at lw_m5 41 rfl) rfl
theorem q1082 : (Jvm.Cond.static ({ cls := "java/lang/StringLatin1", name := "compareTo", desc := "([B[BII)I" } : Jvm.MethodName)) ∈ lw_all := lw_g (lw_at lw_m5 42 rfl) rfl
theorem q1083 : (Jvm.Cond.code ({ cls := "java/lang/StringLatin1", name := "compareTo", desc := "([B[BII)I" } : Jvm.MethodName) prog_33_method_15_code (6 : Nat) (Option.some Jvm.ClassFile.FieldType.int)) ∈ lw_all := lw_g (lw_at lw_m5 43 rfl) rfl
theorem q1084 : (Jvm.Cond.methodLink "java/lang/StringLatin1" (38 : Nat) ({ cls := "java/lang/Math", name := "min", desc := "(II)I" } : Jvm.MethodName)) ∈ lw_all := lw_g (lw_at lw_m5 44 rfl) rfl
theorem q1085 : (Jvm.Cond.methodLink "java/lang/StringLatin1" (44 : Nat) ({ cls := "jdk/internal/util/ArraysSupport", name := "mismatch", desc := "([B[BI)I" } : Jvm.MethodName)) ∈ lw_all := lw_g (lw_at lw_m5 45 rfl) rfl
theorem q1189 : (Jvm.Cond.methodLink "java/lang/StringLatin1" (50 : Nat) ({ cls := "java/lang/StringLatin1", name := "getChar", desc := "([BI)C" } : Jvm.MethodName)) ∈ lw_all := lw_g (lw_at lw_m5 149 rfl) rfl
theorem q1190 : (Jvm.Cond.static ({ cls := "java/lang/StringLatin1", name := "getChar", desc := "([BI)C" } : Jvm.MethodName)) ∈ lw_all := lw_g (lw_at lw_m5 150 rfl) rfl
theorem q1191 : (Jvm.Cond.code ({ cls := "java/lang/StringLatin1", name := "getChar", desc := "([BI)C" } : Jvm.MethodName) prog_33_method_44_code (2 : Nat) (Option.some Jvm.ClassFile.FieldType.char)) ∈ lw_all := lw_g (lw_at lw_m5 151 rfl) rfl
theorem q1200 : (Jvm.Cond.static ({ cls := "java/lang/StringLatin1", name := "compareToUTF16", desc := "([B[B)I" } : Jvm.MethodName)) ∈ lw_all := lw_g (lw_at lw_m5 160 rfl) rfl
theorem q1201 : (Jvm.Cond.code ({ cls := "java/lang/StringLatin1", name := "compareToUTF16", desc := "([B[B)I" } : Jvm.MethodName) prog_33_method_16_code (4 : Nat) (Option.some Jvm.ClassFile.FieldType.int)) ∈ lw_all := lw_g (lw_at lw_m5 161 rfl) rfl
theorem q1202 : (Jvm.Cond.methodLink "java/lang/StringLatin1" (54 : Nat) ({ cls := "java/lang/StringLatin1", name := "length", desc := "([B)I" } : Jvm.MethodName)) ∈ lw_all := lw_g (lw_at lw_m5 162 rfl) rfl
theorem q1203 : (Jvm.Cond.static ({ cls := "java/lang/StringLatin1", name := "length", desc := "([B)I" } : Jvm.MethodName)) ∈ lw_all := lw_g (lw_at lw_m5 163 rfl) rfl
theorem q1204 : (Jvm.Cond.code ({ cls := "java/lang/StringLatin1", name := "length", desc := "([B)I" } : Jvm.MethodName) prog_33_method_5_code (1 : Nat) (Option.some Jvm.ClassFile.FieldType.int)) ∈ lw_all := lw_g (lw_at lw_m5 164 rfl) rfl
theorem q1205 : (Jvm.Cond.methodLink "java/lang/StringLatin1" (58 : Nat) ({ cls := "java/lang/StringUTF16", name := "length", desc := "([B)I" } : Jvm.MethodName)) ∈ lw_all := lw_g (lw_at lw_m5 165 rfl) rfl
theorem q1206 : (Jvm.Cond.methodLink "java/lang/StringLatin1" (59 : Nat) ({ cls := "java/lang/StringLatin1", name := "compareToUTF16Values", desc := "([B[BII)I" } : Jvm.MethodName)) ∈ lw_all := lw_g (lw_at lw_m5 166 rfl) rfl
theorem q1207 : (Jvm.Cond.static ({ cls := "java/lang/StringLatin1", name := "compareToUTF16Values", desc := "([B[BII)I" } : Jvm.MethodName)) ∈ lw_all := lw_g (lw_at lw_m5 167 rfl) rfl
theorem q1208 : (Jvm.Cond.code ({ cls := "java/lang/StringLatin1", name := "compareToUTF16Values", desc := "([B[BII)I" } : Jvm.MethodName) prog_33_method_18_code (8 : Nat) (Option.some Jvm.ClassFile.FieldType.int)) ∈ lw_all := lw_g (lw_at lw_m5 168 rfl) rfl
theorem q1209 : (Jvm.Cond.methodLink "java/lang/StringLatin1" (65 : Nat) ({ cls := "java/lang/StringUTF16", name := "getChar", desc := "([BI)C" } : Jvm.MethodName)) ∈ lw_all := lw_g (lw_at lw_m5 169 rfl) rfl
theorem q1239 : (Jvm.Cond.static ({ cls := "java/lang/StringLatin1", name := "compareToUTF16", desc := "([B[BII)I" } : Jvm.MethodName)) ∈ lw_all := lw_g (lw_at lw_m5 199 rfl) rfl
theorem q1240 : (Jvm.Cond.code ({ cls := "java/lang/StringLatin1", name := "compareToUTF16", desc := "([B[BII)I" } : Jvm.MethodName) prog_33_method_17_code (4 : Nat) (Option.some Jvm.ClassFile.FieldType.int)) ∈ lw_all := lw_g (lw_at lw_m5 200 rfl) rfl
theorem q1241 : (Jvm.Cond.methodLink "java/lang/StringLatin1" (62 : Nat) ({ cls := "java/lang/String", name := "checkOffset", desc := "(II)V" } : Jvm.MethodName)) ∈ lw_all := lw_g (lw_at lw_m5 201 rfl) rfl
theorem q1303 : (Jvm.Cond.static ({ cls := "java/lang/StringLatin1", name := "equals", desc := "([B[B)Z" } : Jvm.MethodName)) ∈ lw_all := lw_g (lw_at lw_m6 23 rfl) rfl
theorem q1304 : (Jvm.Cond.code ({ cls := "java/lang/StringLatin1", name := "equals", desc := "([B[B)Z" } : Jvm.MethodName) prog_33_method_13_code (3 : Nat) (Option.some Jvm.ClassFile.FieldType.boolean)) ∈ lw_all := lw_g (lw_at lw_m6 24 rfl) rfl
theorem q1844 : (Jvm.Cond.static ({ cls := "java/lang/StringLatin1", name := "canEncode", desc := "(C)Z" } : Jvm.MethodName)) ∈ lw_all := lw_g (lw_at lw_m8 84 rfl) rfl
theorem q1845 : (Jvm.Cond.code ({ cls := "java/lang/StringLatin1", name := "canEncode", desc := "(C)Z" } : Jvm.MethodName) prog_33_method_3_code (1 : Nat) (Option.some Jvm.ClassFile.FieldType.boolean)) ∈ lw_all := lw_g (lw_at lw_m8 85 rfl) rfl
theorem q2243 : (Jvm.Cond.static ({ cls := "java/lang/StringLatin1", name := "charAt", desc := "([BI)C" } : Jvm.MethodName)) ∈ lw_all := lw_g (lw_at lw_m10 3 rfl) rfl
theorem q2244 : (Jvm.Cond.code ({ cls := "java/lang/StringLatin1", name := "charAt", desc := "([BI)C" } : Jvm.MethodName) prog_33_method_2_code (2 : Nat) (Option.some Jvm.ClassFile.FieldType.char)) ∈ lw_all := lw_g (lw_at lw_m10 4 rfl) rfl
theorem q2245 : (Jvm.Cond.methodLink "java/lang/StringLatin1" (9 : Nat) ({ cls := "java/lang/String", name := "checkIndex", desc := "(II)V" } : Jvm.MethodName)) ∈ lw_all := lw_g (lw_at lw_m10 5 rfl) rfl

/-! jdk/internal/util/Preconditions -/
set_option maxRecDepth 100000
def RJ23 : String := "jdk/internal/util/Preconditions"
abbrev cJ23_checkFromToIndex : ByteArray := prog_67_method_12_code
def yJ23_checkFromToIndex : MethodName := ⟨RJ23, "checkFromToIndex", "(IIILjava/util/function/BiFunction;)I"⟩
def dkwJ23_checkFromToIndex_0 : List UInt8 := [26, 155, 0, 13, 26, 27, 163, 0, 8, 27, 28, 164, 0, 11, 45, 26, 27, 28, 184, 0, 99, 191, 26, 172]
abbrev dktJ23_checkFromToIndex_0 : List UInt8 := dkwJ23_checkFromToIndex_0 ++ []
theorem dksJ23_checkFromToIndex_0 : cJ23_checkFromToIndex.data.toList.drop 0 = dktJ23_checkFromToIndex_0 := by decide +kernel
theorem dJ23_checkFromToIndex_0 : decode cJ23_checkFromToIndex 0 = .ok (.iload_n 0, 1) := dk_26 (dk_at dksJ23_checkFromToIndex_0 0 rfl rfl)
theorem dJ23_checkFromToIndex_1 : decode cJ23_checkFromToIndex 1 = .ok (.ifCond .lt 13, 3) := dk_155 0 13 (dk_at dksJ23_checkFromToIndex_0 1 rfl rfl)
theorem dJ23_checkFromToIndex_4 : decode cJ23_checkFromToIndex 4 = .ok (.iload_n 0, 1) := dk_26 (dk_at dksJ23_checkFromToIndex_0 4 rfl rfl)
theorem dJ23_checkFromToIndex_5 : decode cJ23_checkFromToIndex 5 = .ok (.iload_n 1, 1) := dk_27 (dk_at dksJ23_checkFromToIndex_0 5 rfl rfl)
theorem dJ23_checkFromToIndex_6 : decode cJ23_checkFromToIndex 6 = .ok (.if_icmp .gt 8, 3) := dk_163 0 8 (dk_at dksJ23_checkFromToIndex_0 6 rfl rfl)
theorem dJ23_checkFromToIndex_9 : decode cJ23_checkFromToIndex 9 = .ok (.iload_n 1, 1) := dk_27 (dk_at dksJ23_checkFromToIndex_0 9 rfl rfl)
theorem dJ23_checkFromToIndex_10 : decode cJ23_checkFromToIndex 10 = .ok (.iload_n 2, 1) := dk_28 (dk_at dksJ23_checkFromToIndex_0 10 rfl rfl)
theorem dJ23_checkFromToIndex_11 : decode cJ23_checkFromToIndex 11 = .ok (.if_icmp .le 11, 3) := dk_164 0 11 (dk_at dksJ23_checkFromToIndex_0 11 rfl rfl)
theorem dJ23_checkFromToIndex_14 : decode cJ23_checkFromToIndex 14 = .ok (.aload_n 3, 1) := dk_45 (dk_at dksJ23_checkFromToIndex_0 14 rfl rfl)
theorem dJ23_checkFromToIndex_15 : decode cJ23_checkFromToIndex 15 = .ok (.iload_n 0, 1) := dk_26 (dk_at dksJ23_checkFromToIndex_0 15 rfl rfl)
theorem dJ23_checkFromToIndex_16 : decode cJ23_checkFromToIndex 16 = .ok (.iload_n 1, 1) := dk_27 (dk_at dksJ23_checkFromToIndex_0 16 rfl rfl)
theorem dJ23_checkFromToIndex_17 : decode cJ23_checkFromToIndex 17 = .ok (.iload_n 2, 1) := dk_28 (dk_at dksJ23_checkFromToIndex_0 17 rfl rfl)
theorem dJ23_checkFromToIndex_18 : decode cJ23_checkFromToIndex 18 = .ok (.invokestatic 99, 3) := dk_184 0 99 (dk_at dksJ23_checkFromToIndex_0 18 rfl rfl)
theorem dJ23_checkFromToIndex_21 : decode cJ23_checkFromToIndex 21 = .ok (.athrow, 1) := dk_191 (dk_at dksJ23_checkFromToIndex_0 21 rfl rfl)
theorem dJ23_checkFromToIndex_22 : decode cJ23_checkFromToIndex 22 = .ok (.iload_n 0, 1) := dk_26 (dk_at dksJ23_checkFromToIndex_0 22 rfl rfl)
theorem dJ23_checkFromToIndex_23 : decode cJ23_checkFromToIndex 23 = .ok (.ireturn, 1) := dk_172 (dk_at dksJ23_checkFromToIndex_0 23 rfl rfl)
abbrev cJ23_checkFromIndexSize : ByteArray := prog_67_method_13_code
def yJ23_checkFromIndexSize : MethodName := ⟨RJ23, "checkFromIndexSize", "(IIILjava/util/function/BiFunction;)I"⟩
def dkwJ23_checkFromIndexSize_1 : List UInt8 := [172]
abbrev dktJ23_checkFromIndexSize_1 : List UInt8 := dkwJ23_checkFromIndexSize_1 ++ []
def dkwJ23_checkFromIndexSize_0 : List UInt8 := [28, 26, 128, 27, 128, 155, 0, 10, 27, 28, 26, 100, 164, 0, 11, 45, 26, 27, 28, 184, 0, 103, 191, 26]
abbrev dktJ23_checkFromIndexSize_0 : List UInt8 := dkwJ23_checkFromIndexSize_0 ++ dktJ23_checkFromIndexSize_1
theorem dksJ23_checkFromIndexSize_0 : cJ23_checkFromIndexSize.data.toList.drop 0 = dktJ23_checkFromIndexSize_0 := by decide +kernel
theorem dksJ23_checkFromIndexSize_1 : cJ23_checkFromIndexSize.data.toList.drop 24 = dktJ23_checkFromIndexSize_1 := dk_seg dksJ23_checkFromIndexSize_0 24 rfl rfl
theorem dJ23_checkFromIndexSize_0 : decode cJ23_checkFromIndexSize 0 = .ok (.iload_n 2, 1) := dk_28 (dk_at dksJ23_checkFromIndexSize_0 0 rfl rfl)
theorem dJ23_checkFromIndexSize_1 : decode cJ23_checkFromIndexSize 1 = .ok (.iload_n 0, 1) := dk_26 (dk_at dksJ23_checkFromIndexSize_0 1 rfl rfl)
theorem dJ23_checkFromIndexSize_2 : decode cJ23_checkFromIndexSize 2 = .ok (.ior, 1) := dk_128 (dk_at dksJ23_checkFromIndexSize_0 2 rfl rfl)
theorem dJ23_checkFromIndexSize_3 : decode cJ23_checkFromIndexSize 3 = .ok (.iload_n 1, 1) := dk_27 (dk_at dksJ23_checkFromIndexSize_0 3 rfl rfl)
theorem dJ23_checkFromIndexSize_4 : decode cJ23_checkFromIndexSize 4 = .ok (.ior, 1) := dk_128 (dk_at dksJ23_checkFromIndexSize_0 4 rfl rfl)
theorem dJ23_checkFromIndexSize_5 : decode cJ23_checkFromIndexSize 5 = .ok (.ifCond .lt 10, 3) := dk_155 0 10 (dk_at dksJ23_checkFromIndexSize_0 5 rfl rfl)
theorem dJ23_checkFromIndexSize_8 : decode cJ23_checkFromIndexSize 8 = .ok (.iload_n 1, 1) := dk_27 (dk_at dksJ23_checkFromIndexSize_0 8 rfl rfl)
theorem dJ23_checkFromIndexSize_9 : decode cJ23_checkFromIndexSize 9 = .ok (.iload_n 2, 1) := dk_28 (dk_at dksJ23_checkFromIndexSize_0 9 rfl rfl)
theorem dJ23_checkFromIndexSize_10 : decode cJ23_checkFromIndexSize 10 = .ok (.iload_n 0, 1) := dk_26 (dk_at dksJ23_checkFromIndexSize_0 10 rfl rfl)
theorem dJ23_checkFromIndexSize_11 : decode cJ23_checkFromIndexSize 11 = .ok (.isub, 1) := dk_100 (dk_at dksJ23_checkFromIndexSize_0 11 rfl rfl)
theorem dJ23_checkFromIndexSize_12 : decode cJ23_checkFromIndexSize 12 = .ok (.if_icmp .le 11, 3) := dk_164 0 11 (dk_at dksJ23_checkFromIndexSize_0 12 rfl rfl)
theorem dJ23_checkFromIndexSize_15 : decode cJ23_checkFromIndexSize 15 = .ok (.aload_n 3, 1) := dk_45 (dk_at dksJ23_checkFromIndexSize_0 15 rfl rfl)
theorem dJ23_checkFromIndexSize_16 : decode cJ23_checkFromIndexSize 16 = .ok (.iload_n 0, 1) := dk_26 (dk_at dksJ23_checkFromIndexSize_0 16 rfl rfl)
theorem dJ23_checkFromIndexSize_17 : decode cJ23_checkFromIndexSize 17 = .ok (.iload_n 1, 1) := dk_27 (dk_at dksJ23_checkFromIndexSize_0 17 rfl rfl)
theorem dJ23_checkFromIndexSize_18 : decode cJ23_checkFromIndexSize 18 = .ok (.iload_n 2, 1) := dk_28 (dk_at dksJ23_checkFromIndexSize_0 18 rfl rfl)
theorem dJ23_checkFromIndexSize_19 : decode cJ23_checkFromIndexSize 19 = .ok (.invokestatic 103, 3) := dk_184 0 103 (dk_at dksJ23_checkFromIndexSize_0 19 rfl rfl)
theorem dJ23_checkFromIndexSize_22 : decode cJ23_checkFromIndexSize 22 = .ok (.athrow, 1) := dk_191 (dk_at dksJ23_checkFromIndexSize_0 22 rfl rfl)
theorem dJ23_checkFromIndexSize_23 : decode cJ23_checkFromIndexSize 23 = .ok (.iload_n 0, 1) := dk_26 (dk_at dksJ23_checkFromIndexSize_0 23 rfl rfl)
theorem dJ23_checkFromIndexSize_24 : decode cJ23_checkFromIndexSize 24 = .ok (.ireturn, 1) := dk_172 (dk_at dksJ23_checkFromIndexSize_1 0 rfl rfl)
abbrev cJ23_checkIndex : ByteArray := prog_67_method_11_code
def yJ23_checkIndex : MethodName := ⟨RJ23, "checkIndex", "(IILjava/util/function/BiFunction;)I"⟩
def dkwJ23_checkIndex_0 : List UInt8 := [26, 155, 0, 8, 26, 27, 161, 0, 10, 44, 26, 27, 184, 0, 95, 191, 26, 172]
abbrev dktJ23_checkIndex_0 : List UInt8 := dkwJ23_checkIndex_0 ++ []
theorem dksJ23_checkIndex_0 : cJ23_checkIndex.data.toList.drop 0 = dktJ23_checkIndex_0 := by decide +kernel
theorem dJ23_checkIndex_0 : decode cJ23_checkIndex 0 = .ok (.iload_n 0, 1) := dk_26 (dk_at dksJ23_checkIndex_0 0 rfl rfl)
theorem dJ23_checkIndex_1 : decode cJ23_checkIndex 1 = .ok (.ifCond .lt 8, 3) := dk_155 0 8 (dk_at dksJ23_checkIndex_0 1 rfl rfl)
theorem dJ23_checkIndex_4 : decode cJ23_checkIndex 4 = .ok (.iload_n 0, 1) := dk_26 (dk_at dksJ23_checkIndex_0 4 rfl rfl)
theorem dJ23_checkIndex_5 : decode cJ23_checkIndex 5 = .ok (.iload_n 1, 1) := dk_27 (dk_at dksJ23_checkIndex_0 5 rfl rfl)
theorem dJ23_checkIndex_6 : decode cJ23_checkIndex 6 = .ok (.if_icmp .lt 10, 3) := dk_161 0 10 (dk_at dksJ23_checkIndex_0 6 rfl rfl)
theorem dJ23_checkIndex_9 : decode cJ23_checkIndex 9 = .ok (.aload_n 2, 1) := dk_44 (dk_at dksJ23_checkIndex_0 9 rfl rfl)
theorem dJ23_checkIndex_10 : decode cJ23_checkIndex 10 = .ok (.iload_n 0, 1) := dk_26 (dk_at dksJ23_checkIndex_0 10 rfl rfl)
theorem dJ23_checkIndex_11 : decode cJ23_checkIndex 11 = .ok (.iload_n 1, 1) := dk_27 (dk_at dksJ23_checkIndex_0 11 rfl rfl)
theorem dJ23_checkIndex_12 : decode cJ23_checkIndex 12 = .ok (.invokestatic 95, 3) := dk_184 0 95 (dk_at dksJ23_checkIndex_0 12 rfl rfl)
theorem dJ23_checkIndex_15 : decode cJ23_checkIndex 15 = .ok (.athrow, 1) := dk_191 (dk_at dksJ23_checkIndex_0 15 rfl rfl)
theorem dJ23_checkIndex_16 : decode cJ23_checkIndex 16 = .ok (.iload_n 0, 1) := dk_26 (dk_at dksJ23_checkIndex_0 16 rfl rfl)
theorem dJ23_checkIndex_17 : decode cJ23_checkIndex 17 = .ok (.ireturn, 1) := dk_172 (dk_at dksJ23_checkIndex_0 17 rfl rfl)
theorem q111 : (Jvm.Cond.initialized "jdk/internal/util/Preconditions") ∈ lw_all := lw_g (lw_at lw_m1 31 rfl) rfl
theorem q801 : (Jvm.Cond.laysStatic "jdk/internal/util/Preconditions" "SIOOBE_FORMATTER" "Ljava/util/function/BiFunction;") ∈ lw_tbl := lw_at lw_m4 1 rfl
theorem q803 : (Jvm.Cond.static ({ cls := "jdk/internal/util/Preconditions", name := "checkFromToIndex", desc := "(IIILjava/util/function/BiFunction;)I" } : Jvm.MethodName)) ∈ lw_all := lw_g (lw_at lw_m4 3 rfl) rfl
theorem q804 : (Jvm.Cond.code ({ cls := "jdk/internal/util/Preconditions", name := "checkFromToIndex", desc := "(IIILjava/util/function/BiFunction;)I" } : Jvm.MethodName) prog_67_method_12_code (4 : Nat) (Option.some Jvm.ClassFile.FieldType.int)) ∈ lw_all := lw_g (lw_at lw_m4 4 rfl) rfl
theorem q842 : (Jvm.Cond.static ({ cls := "jdk/internal/util/Preconditions", name := "checkFromIndexSize", desc := "(IIILjava/util/function/BiFunction;)I" } : Jvm.MethodName)) ∈ lw_all := lw_g (lw_at lw_m4 42 rfl) rfl
theorem q843 : (Jvm.Cond.code ({ cls := "jdk/internal/util/Preconditions", name := "checkFromIndexSize", desc := "(IIILjava/util/function/BiFunction;)I" } : Jvm.MethodName) prog_67_method_13_code (4 : Nat) (Option.some Jvm.ClassFile.FieldType.int)) ∈ lw_all := lw_g (lw_at lw_m4 43 rfl) rfl
theorem q1389 : (Jvm.Cond.static ({ cls := "jdk/internal/util/Preconditions", name := "checkIndex", desc := "(IILjava/util/function/BiFunction;)I" } : Jvm.MethodName)) ∈ lw_all := lw_g (lw_at lw_m6 109 rfl) rfl
theorem q1390 : (Jvm.Cond.code ({ cls := "jdk/internal/util/Preconditions", name := "checkIndex", desc := "(IILjava/util/function/BiFunction;)I" } : Jvm.MethodName) prog_67_method_11_code (3 : Nat) (Option.some Jvm.ClassFile.FieldType.int)) ∈ lw_all := lw_g (lw_at lw_m6 110 rfl) rfl

/-! java/util/HashMap$Node -/
set_option maxRecDepth 100000
def RJ24 : String := "java/util/HashMap$Node"
def TJ24 : u_T := fun k => match k with
  | 0 => ("java/util/HashMap$Node", "hash", "I", true)
  | 1 => ("java/util/HashMap$Node", "key", "Ljava/lang/Object;", true)
  | 2 => ("java/util/HashMap$Node", "value", "Ljava/lang/Object;", false)
  | _ => ("java/util/HashMap$Node", "next", "Ljava/util/HashMap$Node;", false)
def tyJ24 : Nat → FieldType := fun k => match k with
  | 0 => .int
  | 1 => .object "java/lang/Object"
  | 2 => .object "java/lang/Object"
  | _ => .object "java/util/HashMap$Node"
abbrev wsJ240 : List Cond := u_ws RJ24 TJ24 4
theorem nmJ24 : ∀ a, a < 4 → ∀ b, b < 4 → a ≠ b → (TJ24 a).2.1 ≠ (TJ24 b).2.1 := by decide +kernel
theorem tyJ24_ok : ∀ k, k < 4 → parseFieldDescriptor (TJ24 k).2.2.1 = some (tyJ24 k) := by decide +kernel
abbrev cJ24_init : ByteArray := prog_51_method_1_code
def yJ24_init : MethodName := ⟨RJ24, "<init>", "(ILjava/lang/Object;Ljava/lang/Object;Ljava/util/HashMap$Node;)V"⟩
def dkwJ24_init_1 : List UInt8 := [181, 0, 20, 177]
abbrev dktJ24_init_1 : List UInt8 := dkwJ24_init_1 ++ []
def dkwJ24_init_0 : List UInt8 := [42, 183, 0, 1, 42, 27, 181, 0, 7, 42, 44, 181, 0, 13, 42, 45, 181, 0, 17, 42, 25, 4]
abbrev dktJ24_init_0 : List UInt8 := dkwJ24_init_0 ++ dktJ24_init_1
theorem dksJ24_init_0 : cJ24_init.data.toList.drop 0 = dktJ24_init_0 := by decide +kernel
theorem dksJ24_init_1 : cJ24_init.data.toList.drop 22 = dktJ24_init_1 := dk_seg dksJ24_init_0 22 rfl rfl
theorem dJ24_init_0 : decode cJ24_init 0 = .ok (.aload_n 0, 1) := dk_42 (dk_at dksJ24_init_0 0 rfl rfl)
theorem dJ24_init_1 : decode cJ24_init 1 = .ok (.invokespecial 1, 3) := dk_183 0 1 (dk_at dksJ24_init_0 1 rfl rfl)
theorem dJ24_init_4 : decode cJ24_init 4 = .ok (.aload_n 0, 1) := dk_42 (dk_at dksJ24_init_0 4 rfl rfl)
theorem dJ24_init_5 : decode cJ24_init 5 = .ok (.iload_n 1, 1) := dk_27 (dk_at dksJ24_init_0 5 rfl rfl)
theorem dJ24_init_6 : decode cJ24_init 6 = .ok (.putfield 7, 3) := dk_181 0 7 (dk_at dksJ24_init_0 6 rfl rfl)
theorem dJ24_init_9 : decode cJ24_init 9 = .ok (.aload_n 0, 1) := dk_42 (dk_at dksJ24_init_0 9 rfl rfl)
theorem dJ24_init_10 : decode cJ24_init 10 = .ok (.aload_n 2, 1) := dk_44 (dk_at dksJ24_init_0 10 rfl rfl)
theorem dJ24_init_11 : decode cJ24_init 11 = .ok (.putfield 13, 3) := dk_181 0 13 (dk_at dksJ24_init_0 11 rfl rfl)
theorem dJ24_init_14 : decode cJ24_init 14 = .ok (.aload_n 0, 1) := dk_42 (dk_at dksJ24_init_0 14 rfl rfl)
theorem dJ24_init_15 : decode cJ24_init 15 = .ok (.aload_n 3, 1) := dk_45 (dk_at dksJ24_init_0 15 rfl rfl)
theorem dJ24_init_16 : decode cJ24_init 16 = .ok (.putfield 17, 3) := dk_181 0 17 (dk_at dksJ24_init_0 16 rfl rfl)
theorem dJ24_init_19 : decode cJ24_init 19 = .ok (.aload_n 0, 1) := dk_42 (dk_at dksJ24_init_0 19 rfl rfl)
theorem dJ24_init_20 : decode cJ24_init 20 = .ok (.aload 4, 2) := dk_25 4 (dk_at dksJ24_init_0 20 rfl rfl)
theorem dJ24_init_22 : decode cJ24_init 22 = .ok (.putfield 20, 3) := dk_181 0 20 (dk_at dksJ24_init_1 0 rfl rfl)
theorem dJ24_init_25 : decode cJ24_init 25 = .ok (.return_, 1) := dk_177 (dk_at dksJ24_init_1 3 rfl rfl)
theorem q112 : (Jvm.Cond.initialized "java/util/HashMap$Node") ∈ lw_all := lw_g (lw_at lw_m1 32 rfl) rfl
theorem q557 : (Jvm.Cond.selects "java/util/HashMap$Node" ({ cls := "java/lang/Object", name := "getClass", desc := "()Ljava/lang/Class;" } : Jvm.MethodName) ({ cls := "java/lang/Object", name := "getClass", desc := "()Ljava/lang/Class;" } : Jvm.MethodName)) ∈ lw_all := lw_g (lw_at lw_m2 237 rfl) rfl
theorem q993 : (Jvm.Cond.instantiable "java/util/HashMap$Node" (4 : Nat)) ∈ lw_all := lw_g (lw_at lw_m4 193 rfl) rfl
theorem q995 : (Jvm.Cond.instanceMethod ({ cls := "java/util/HashMap$Node", name := "<init>", desc := "(ILjava/lang/Object;Ljava/lang/Object;Ljava/util/HashMap$Node;)V" } : Jvm.MethodName)) ∈ lw_all := lw_g (lw_at lw_m4 195 rfl) rfl
theorem q996 : (Jvm.Cond.code ({ cls := "java/util/HashMap$Node", name := "<init>", desc := "(ILjava/lang/Object;Ljava/lang/Object;Ljava/util/HashMap$Node;)V" } : Jvm.MethodName) prog_51_method_1_code (5 : Nat) (Option.none : Option Jvm.ClassFile.FieldType)) ∈ lw_all := lw_g (lw_at lw_m4 196 rfl) rfl
theorem q997 : (Jvm.Cond.methodLink "java/util/HashMap$Node" (1 : Nat) ({ cls := "java/lang/Object", name := "<init>", desc := "()V" } : Jvm.MethodName)) ∈ lw_all := lw_g (lw_at lw_m4 197 rfl) rfl
theorem q998 : (Jvm.Cond.fieldLink "java/util/HashMap$Node" (7 : Nat) "java/util/HashMap$Node" "hash" "I") ∈ lw_all := lw_g (lw_at lw_m4 198 rfl) rfl
theorem q1002 : (Jvm.Cond.fieldLink "java/util/HashMap$Node" (13 : Nat) "java/util/HashMap$Node" "key" "Ljava/lang/Object;") ∈ lw_all := lw_g (lw_at lw_m4 202 rfl) rfl
theorem q1006 : (Jvm.Cond.fieldLink "java/util/HashMap$Node" (17 : Nat) "java/util/HashMap$Node" "value" "Ljava/lang/Object;") ∈ lw_all := lw_g (lw_at lw_m4 206 rfl) rfl
theorem q1008 : (Jvm.Cond.fieldLink "java/util/HashMap$Node" (20 : Nat) "java/util/HashMap$Node" "next" "Ljava/util/HashMap$Node;") ∈ lw_all := lw_g (lw_at lw_m4 208 rfl) rfl
theorem q1014 : (Jvm.Cond.laysFinal "java/util/HashMap$Node" "java/util/HashMap$Node" "hash" "I") ∈ lw_all := lw_g (lw_at lw_m4 214 rfl) rfl
theorem q1015 : (Jvm.Cond.soleField "java/util/HashMap$Node" "hash") ∈ lw_all := lw_g (lw_at lw_m4 215 rfl) rfl
theorem q1016 : (Jvm.Cond.laysFinal "java/util/HashMap$Node" "java/util/HashMap$Node" "key" "Ljava/lang/Object;") ∈ lw_all := lw_g (lw_at lw_m4 216 rfl) rfl
theorem q1017 : (Jvm.Cond.soleField "java/util/HashMap$Node" "key") ∈ lw_all := lw_g (lw_at lw_m4 217 rfl) rfl
theorem q1018 : (Jvm.Cond.lays "java/util/HashMap$Node" "java/util/HashMap$Node" "value" "Ljava/lang/Object;") ∈ lw_all := lw_g (lw_at lw_m4 218 rfl) rfl
theorem q1019 : (Jvm.Cond.soleField "java/util/HashMap$Node" "value") ∈ lw_all := lw_g (lw_at lw_m4 219 rfl) rfl
theorem q1020 : (Jvm.Cond.lays "java/util/HashMap$Node" "java/util/HashMap$Node" "next" "Ljava/util/HashMap$Node;") ∈ lw_all := lw_g (lw_at lw_m4 220 rfl) rfl
theorem q1021 : (Jvm.Cond.soleField "java/util/HashMap$Node" "next") ∈ lw_all := lw_g (lw_at lw_m4 221 rfl) rfl
theorem q1022 : (Jvm.Cond.superclass "java/util/HashMap$Node" "java/lang/Object") ∈ lw_all := lw_g (lw_at lw_m4 222 rfl) rfl
theorem q2997 : (Jvm.Cond.castable "java/util/HashMap$Node" "java/lang/Object") ∈ lw_tbl := lw_at lw_m13 37 rfl
theorem in_J24 : ∀ w ∈ wsJ240, w ∈ lw_all := lw_in wsJ240 [1014, 1016, 1018, 1020] (by decide +kernel) (by decide +kernel)

/-! java/util/Objects -/
set_option maxRecDepth 100000
def RJ29 : String := "java/util/Objects"
abbrev cJ29_checkIndex : ByteArray := prog_59_method_17_code
def yJ29_checkIndex : MethodName := ⟨RJ29, "checkIndex", "(II)I"⟩
def dkwJ29_checkIndex_0 : List UInt8 := [26, 27, 1, 184, 0, 105, 172]
abbrev dktJ29_checkIndex_0 : List UInt8 := dkwJ29_checkIndex_0 ++ []
theorem dksJ29_checkIndex_0 : cJ29_checkIndex.data.toList.drop 0 = dktJ29_checkIndex_0 := by decide +kernel
theorem dJ29_checkIndex_0 : decode cJ29_checkIndex 0 = .ok (.iload_n 0, 1) := dk_26 (dk_at dksJ29_checkIndex_0 0 rfl rfl)
theorem dJ29_checkIndex_1 : decode cJ29_checkIndex 1 = .ok (.iload_n 1, 1) := dk_27 (dk_at dksJ29_checkIndex_0 1 rfl rfl)
theorem dJ29_checkIndex_2 : decode cJ29_checkIndex 2 = .ok (.aconst_null, 1) := dk_1 (dk_at dksJ29_checkIndex_0 2 rfl rfl)
theorem dJ29_checkIndex_3 : decode cJ29_checkIndex 3 = .ok (.invokestatic 105, 3) := dk_184 0 105 (dk_at dksJ29_checkIndex_0 3 rfl rfl)
theorem dJ29_checkIndex_6 : decode cJ29_checkIndex 6 = .ok (.ireturn, 1) := dk_172 (dk_at dksJ29_checkIndex_0 6 rfl rfl)
theorem q118 : (Jvm.Cond.initialized "java/util/Objects") ∈ lw_all := lw_g (lw_at lw_m1 38 rfl) rfl
theorem q1386 : (Jvm.Cond.static ({ cls := "java/util/Objects", name := "checkIndex", desc := "(II)I" } : Jvm.MethodName)) ∈ lw_all := lw_g (lw_at lw_m6 106 rfl) rfl
theorem q1387 : (Jvm.Cond.code ({ cls := "java/util/Objects", name := "checkIndex", desc := "(II)I" } : Jvm.MethodName) prog_59_method_17_code (2 : Nat) (Option.some Jvm.ClassFile.FieldType.int)) ∈ lw_all := lw_g (lw_at lw_m6 107 rfl) rfl
theorem q1388 : (Jvm.Cond.methodLink "java/util/Objects" (105 : Nat) ({ cls := "jdk/internal/util/Preconditions", name := "checkIndex", desc := "(IILjava/util/function/BiFunction;)I" } : Jvm.MethodName)) ∈ lw_all := lw_g (lw_at lw_m6 108 rfl) rfl

/-! java/lang/Object -/
set_option maxRecDepth 100000
def RJ35 : String := "java/lang/Object"
abbrev cJ35_init : ByteArray := object_method_1_code
def yJ35_init : MethodName := ⟨RJ35, "<init>", "()V"⟩
theorem dJ35_init_0 : decode cJ35_init 0 = .ok (.return_, 1) := by decide +kernel
abbrev cJ35_equals : ByteArray := object_method_4_code
def yJ35_equals : MethodName := ⟨RJ35, "equals", "(Ljava/lang/Object;)Z"⟩
def dkwJ35_equals_0 : List UInt8 := [42, 43, 166, 0, 7, 4, 167, 0, 4, 3, 172]
abbrev dktJ35_equals_0 : List UInt8 := dkwJ35_equals_0 ++ []
theorem dksJ35_equals_0 : cJ35_equals.data.toList.drop 0 = dktJ35_equals_0 := by decide +kernel
theorem dJ35_equals_0 : decode cJ35_equals 0 = .ok (.aload_n 0, 1) := dk_42 (dk_at dksJ35_equals_0 0 rfl rfl)
theorem dJ35_equals_1 : decode cJ35_equals 1 = .ok (.aload_n 1, 1) := dk_43 (dk_at dksJ35_equals_0 1 rfl rfl)
theorem dJ35_equals_2 : decode cJ35_equals 2 = .ok (.if_acmp .ne 7, 3) := dk_166 0 7 (dk_at dksJ35_equals_0 2 rfl rfl)
theorem dJ35_equals_5 : decode cJ35_equals 5 = .ok (.iconst 1, 1) := dk_4 (dk_at dksJ35_equals_0 5 rfl rfl)
theorem dJ35_equals_6 : decode cJ35_equals 6 = .ok (.goto 4, 3) := dk_167 0 4 (dk_at dksJ35_equals_0 6 rfl rfl)
theorem dJ35_equals_9 : decode cJ35_equals 9 = .ok (.iconst 0, 1) := dk_3 (dk_at dksJ35_equals_0 9 rfl rfl)
theorem dJ35_equals_10 : decode cJ35_equals 10 = .ok (.ireturn, 1) := dk_172 (dk_at dksJ35_equals_0 10 rfl rfl)
theorem q134 : (Jvm.Cond.instanceMethod ({ cls := "java/lang/Object", name := "<init>", desc := "()V" } : Jvm.MethodName)) ∈ lw_all := lw_g (lw_at lw_m1 54 rfl) rfl
theorem q135 : (Jvm.Cond.code ({ cls := "java/lang/Object", name := "<init>", desc := "()V" } : Jvm.MethodName) object_method_1_code (1 : Nat) (Option.none : Option Jvm.ClassFile.FieldType)) ∈ lw_all := lw_g (lw_at lw_m1 55 rfl) rfl
theorem q531 : (Jvm.Cond.instanceMethod ({ cls := "java/lang/Object", name := "getClass", desc := "()Ljava/lang/Class;" } : Jvm.MethodName)) ∈ lw_all := lw_g (lw_at lw_m2 211 rfl) rfl
theorem q532 : (Jvm.Cond.sameMethod "java/lang/Object" "java/lang/Object" "getClass" "()Ljava/lang/Class;") ∈ lw_all := lw_g (lw_at lw_m2 212 rfl) rfl
theorem q561 : (Jvm.Cond.native ({ cls := "java/lang/Object", name := "getClass", desc := "()Ljava/lang/Class;" } : Jvm.MethodName)) ∈ lw_all := lw_g (lw_at lw_m3 1 rfl) rfl
theorem q651 : (Jvm.Cond.declares ({ cls := "java/lang/Object", name := "hashCode", desc := "()I" } : Jvm.MethodName)) ∈ lw_tbl := lw_at lw_m3 91 rfl
theorem q653 : (Jvm.Cond.instanceMethod ({ cls := "java/lang/Object", name := "hashCode", desc := "()I" } : Jvm.MethodName)) ∈ lw_all := lw_g (lw_at lw_m3 93 rfl) rfl
theorem q654 : (Jvm.Cond.sameMethod "java/lang/Object" "java/lang/Object" "hashCode" "()I") ∈ lw_all := lw_g (lw_at lw_m3 94 rfl) rfl
theorem q781 : (Jvm.Cond.native ({ cls := "java/lang/Object", name := "clone", desc := "()Ljava/lang/Object;" } : Jvm.MethodName)) ∈ lw_all := lw_g (lw_at lw_m3 221 rfl) rfl
theorem q782 : (Jvm.Cond.instanceMethod ({ cls := "java/lang/Object", name := "clone", desc := "()Ljava/lang/Object;" } : Jvm.MethodName)) ∈ lw_all := lw_g (lw_at lw_m3 222 rfl) rfl
theorem q965 : (Jvm.Cond.native ({ cls := "java/lang/Object", name := "hashCode", desc := "()I" } : Jvm.MethodName)) ∈ lw_all := lw_g (lw_at lw_m4 165 rfl) rfl
theorem q1264 : (Jvm.Cond.declares ({ cls := "java/lang/Object", name := "equals", desc := "(Ljava/lang/Object;)Z" } : Jvm.MethodName)) ∈ lw_tbl := lw_at lw_m5 224 rfl
theorem q1266 : (Jvm.Cond.instanceMethod ({ cls := "java/lang/Object", name := "equals", desc := "(Ljava/lang/Object;)Z" } : Jvm.MethodName)) ∈ lw_all := lw_g (lw_at lw_m5 226 rfl) rfl
theorem q1267 : (Jvm.Cond.sameMethod "java/lang/Object" "java/lang/Object" "equals" "(Ljava/lang/Object;)Z") ∈ lw_all := lw_g (lw_at lw_m5 227 rfl) rfl
theorem q1309 : (Jvm.Cond.code ({ cls := "java/lang/Object", name := "equals", desc := "(Ljava/lang/Object;)Z" } : Jvm.MethodName) object_method_4_code (2 : Nat) (Option.some Jvm.ClassFile.FieldType.boolean)) ∈ lw_all := lw_g (lw_at lw_m6 29 rfl) rfl
theorem q2995 : (Jvm.Cond.initialized "java/lang/Object") ∈ lw_all := lw_g (lw_at lw_m13 35 rfl) rfl
theorem q3029 : (Jvm.Cond.declares ({ cls := "java/lang/Object", name := "getClass", desc := "()Ljava/lang/Class;" } : Jvm.MethodName)) ∈ lw_tbl := lw_at lw_m13 69 rfl

theorem q780 : (Jvm.Cond.sameMethod "[B" "java/lang/Object" "clone" "()Ljava/lang/Object;") ∈ lw_all := lw_g (lw_at lw_m3 220 rfl) rfl
set_option maxRecDepth 100000
theorem q783 : (Jvm.Cond.selects "[B" ({ cls := "[B", name := "clone", desc := "()Ljava/lang/Object;" } : Jvm.MethodName) ({ cls := "java/lang/Object", name := "clone", desc := "()Ljava/lang/Object;" } : Jvm.MethodName)) ∈ lw_all := lw_g (lw_at lw_m3 223 rfl) rfl
theorem q784 : (Jvm.Cond.castable "[B" "java/lang/Cloneable") ∈ lw_tbl := lw_at lw_m3 224 rfl
theorem q3031 : (Jvm.Cond.castable "[B" "java/lang/Object") ∈ lw_tbl := lw_at lw_m13 71 rfl

theorem q3037 : (Jvm.Cond.castable "[C" "java/lang/Object") ∈ lw_tbl := lw_at lw_m13 77 rfl
set_option maxRecDepth 100000

theorem q3039 : (Jvm.Cond.castable "[D" "java/lang/Object") ∈ lw_tbl := lw_at lw_m13 79 rfl
set_option maxRecDepth 100000

theorem q3032 : (Jvm.Cond.castable "[I" "java/lang/Object") ∈ lw_tbl := lw_at lw_m13 72 rfl
set_option maxRecDepth 100000

theorem q3038 : (Jvm.Cond.castable "[J" "java/lang/Object") ∈ lw_tbl := lw_at lw_m13 78 rfl
set_option maxRecDepth 100000

theorem q3034 : (Jvm.Cond.castable "[LCloudInterviews$Applicant;" "java/lang/Object") ∈ lw_tbl := lw_at lw_m13 74 rfl
set_option maxRecDepth 100000

theorem q3027 : (Jvm.Cond.sameMethod "[Ljava/lang/Object;" "java/lang/Object" "getClass" "()Ljava/lang/Class;") ∈ lw_all := lw_g (lw_at lw_m13 67 rfl) rfl
set_option maxRecDepth 100000
theorem q3028 : (Jvm.Cond.selects "[Ljava/lang/Object;" ({ cls := "java/lang/Object", name := "getClass", desc := "()Ljava/lang/Class;" } : Jvm.MethodName) ({ cls := "java/lang/Object", name := "getClass", desc := "()Ljava/lang/Class;" } : Jvm.MethodName)) ∈ lw_all := lw_g (lw_at lw_m13 68 rfl) rfl
theorem q3030 : (Jvm.Cond.castable "[Ljava/lang/Object;" "java/lang/Object") ∈ lw_tbl := lw_at lw_m13 70 rfl

theorem q3036 : (Jvm.Cond.castable "[Ljava/lang/String;" "java/lang/Object") ∈ lw_tbl := lw_at lw_m13 76 rfl
set_option maxRecDepth 100000

theorem q3033 : (Jvm.Cond.castable "[Ljava/util/HashMap$Node;" "java/lang/Object") ∈ lw_tbl := lw_at lw_m13 73 rfl
set_option maxRecDepth 100000

theorem q3035 : (Jvm.Cond.castable "[Z" "java/lang/Object") ∈ lw_tbl := lw_at lw_m13 75 rfl
set_option maxRecDepth 100000

theorem q2316 : (Jvm.Cond.interfaceMethod "java/lang/CharSequence" "java/lang/CharSequence" "length" "()I") ∈ lw_tbl := lw_at lw_m10 76 rfl
set_option maxRecDepth 100000
theorem q2317 : (Jvm.Cond.declares ({ cls := "java/lang/CharSequence", name := "length", desc := "()I" } : Jvm.MethodName)) ∈ lw_tbl := lw_at lw_m10 77 rfl
theorem q2328 : (Jvm.Cond.interfaceMethod "java/lang/CharSequence" "java/lang/CharSequence" "charAt" "(I)C") ∈ lw_tbl := lw_at lw_m10 88 rfl
theorem q2329 : (Jvm.Cond.declares ({ cls := "java/lang/CharSequence", name := "charAt", desc := "(I)C" } : Jvm.MethodName)) ∈ lw_tbl := lw_at lw_m10 89 rfl

theorem q1038 : (Jvm.Cond.interfaceMethod "java/lang/Comparable" "java/lang/Comparable" "compareTo" "(Ljava/lang/Object;)I") ∈ lw_tbl := lw_at lw_m4 238 rfl
set_option maxRecDepth 100000
theorem q1039 : (Jvm.Cond.declares ({ cls := "java/lang/Comparable", name := "compareTo", desc := "(Ljava/lang/Object;)I" } : Jvm.MethodName)) ∈ lw_tbl := lw_at lw_m4 239 rfl

theorem q107 : (Jvm.Cond.initialized "java/lang/Integer$IntegerCache") ∈ lw_all := lw_g (lw_at lw_m1 27 rfl) rfl
set_option maxRecDepth 100000
theorem q628 : (Jvm.Cond.laysStatic "java/lang/Integer$IntegerCache" "high" "I") ∈ lw_tbl := lw_at lw_m3 68 rfl
theorem q630 : (Jvm.Cond.laysStatic "java/lang/Integer$IntegerCache" "cache" "[Ljava/lang/Integer;") ∈ lw_tbl := lw_at lw_m3 70 rfl

theorem q103 : (Jvm.Cond.initialized "java/lang/System") ∈ lw_all := lw_g (lw_at lw_m1 23 rfl) rfl
set_option maxRecDepth 100000
theorem q571 : (Jvm.Cond.static ({ cls := "java/lang/System", name := "arraycopy", desc := "(Ljava/lang/Object;ILjava/lang/Object;II)V" } : Jvm.MethodName)) ∈ lw_all := lw_g (lw_at lw_m3 11 rfl) rfl
theorem q572 : (Jvm.Cond.native ({ cls := "java/lang/System", name := "arraycopy", desc := "(Ljava/lang/Object;ILjava/lang/Object;II)V" } : Jvm.MethodName)) ∈ lw_all := lw_g (lw_at lw_m3 12 rfl) rfl

theorem q339 : (Jvm.Cond.interfaceMethod "java/util/Iterator" "java/util/Iterator" "hasNext" "()Z") ∈ lw_tbl := lw_at lw_m2 19 rfl
set_option maxRecDepth 100000
theorem q340 : (Jvm.Cond.declares ({ cls := "java/util/Iterator", name := "hasNext", desc := "()Z" } : Jvm.MethodName)) ∈ lw_tbl := lw_at lw_m2 20 rfl
theorem q349 : (Jvm.Cond.interfaceMethod "java/util/Iterator" "java/util/Iterator" "next" "()Ljava/lang/Object;") ∈ lw_tbl := lw_at lw_m2 29 rfl
theorem q350 : (Jvm.Cond.declares ({ cls := "java/util/Iterator", name := "next", desc := "()Ljava/lang/Object;" } : Jvm.MethodName)) ∈ lw_tbl := lw_at lw_m2 30 rfl

theorem q708 : (Jvm.Cond.interfaceMethod "jdk/internal/access/JavaLangAccess" "jdk/internal/access/JavaLangAccess" "getUTF16Char" "([BI)C") ∈ lw_tbl := lw_at lw_m3 148 rfl
set_option maxRecDepth 100000
theorem q709 : (Jvm.Cond.declares ({ cls := "jdk/internal/access/JavaLangAccess", name := "getUTF16Char", desc := "([BI)C" } : Jvm.MethodName)) ∈ lw_tbl := lw_at lw_m3 149 rfl

theorem q114 : (Jvm.Cond.initialized "jdk/internal/misc/UnsafeConstants") ∈ lw_all := lw_g (lw_at lw_m1 34 rfl) rfl
set_option maxRecDepth 100000
theorem q1125 : (Jvm.Cond.laysStatic "jdk/internal/misc/UnsafeConstants" "BIG_ENDIAN" "Z") ∈ lw_tbl := lw_at lw_m5 85 rfl

theorem q232 : (Jvm.Cond.arrayOver (Jvm.ClassFile.FieldType.object "java/lang/Object")) ∈ lw_tbl := lw_at lw_m1 152 rfl
set_option maxRecDepth 100000
theorem q274 : (Jvm.Cond.arrayClass Jvm.ClassFile.FieldType.byte) ∈ lw_all := lw_g (lw_at lw_m1 194 rfl) rfl
theorem q500 : (Jvm.Cond.arrayClass Jvm.ClassFile.FieldType.int) ∈ lw_all := lw_g (lw_at lw_m2 180 rfl) rfl
theorem q978 : (Jvm.Cond.arrayOver (Jvm.ClassFile.FieldType.object "java/util/HashMap$Node")) ∈ lw_tbl := lw_at lw_m4 178 rfl
theorem q1672 : (Jvm.Cond.arrayOver (Jvm.ClassFile.FieldType.object "CloudInterviews$Applicant")) ∈ lw_tbl := lw_at lw_m7 152 rfl
theorem q1773 : (Jvm.Cond.arrayClass Jvm.ClassFile.FieldType.boolean) ∈ lw_all := lw_g (lw_at lw_m8 13 rfl) rfl
theorem q2295 : (Jvm.Cond.arrayOver (Jvm.ClassFile.FieldType.object "java/lang/String")) ∈ lw_tbl := lw_at lw_m10 55 rfl
theorem q2512 : (Jvm.Cond.arrayClass Jvm.ClassFile.FieldType.char) ∈ lw_all := lw_g (lw_at lw_m11 32 rfl) rfl
theorem q2978 : (Jvm.Cond.arrayClass Jvm.ClassFile.FieldType.long) ∈ lw_all := lw_g (lw_at lw_m13 18 rfl) rfl
theorem q2979 : (Jvm.Cond.arrayClass Jvm.ClassFile.FieldType.double) ∈ lw_all := lw_g (lw_at lw_m13 19 rfl) rfl
theorem q3040 : (Jvm.Cond.arrayClass Jvm.ClassFile.FieldType.short) ∈ lw_all := lw_g (lw_at lw_m13 80 rfl) rfl

