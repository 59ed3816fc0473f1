/-! LarderLocks -/
set_option maxRecDepth 100000
def RX0 : String := "LarderLocks"
def TX0 : u_T := fun k => match k with
  | 0 => ("LarderLocks", "fits", "[LLarderLocks$Fit;", true)
  | 1 => ("LarderLocks", "larder", "LLarderLocks$Larder;", false)
  | 2 => ("LarderLocks", "saved", "LLarderLocks$Larder;", false)
  | 3 => ("LarderLocks", "past", "Ljava/util/ArrayDeque;", true)
  | 4 => ("LarderLocks", "reason", "I", false)
  | 5 => ("LarderLocks", "detail", "I", false)
  | 6 => ("LarderLocks", "text", "Ljava/lang/StringBuilder;", true)
  | _ => ("LarderLocks", "line", "Ljava/lang/String;", false)
def tyX0 : Nat → FieldType := fun k => match k with
  | 0 => .array (.object "LarderLocks$Fit")
  | 1 => .object "LarderLocks$Larder"
  | 2 => .object "LarderLocks$Larder"
  | 3 => .object "java/util/ArrayDeque"
  | 4 => .int
  | 5 => .int
  | 6 => .object "java/lang/StringBuilder"
  | _ => .object "java/lang/String"
abbrev wsX00 : List Cond := u_ws RX0 TX0 8
theorem nmX0 : ∀ a, a < 8 → ∀ b, b < 8 → a ≠ b → (TX0 a).2.1 ≠ (TX0 b).2.1 := by decide +kernel
theorem tyX0_ok : ∀ k, k < 8 → parseFieldDescriptor (TX0 k).2.2.1 = some (tyX0 k) := by decide +kernel
abbrev cX0_init : ByteArray := prog_1_method_1_code
def yX0_init : MethodName := ⟨RX0, "<init>", "()V"⟩
def dkwX0_init_3 : List UInt8 := [132, 1, 1, 167, 255, 234, 177]
abbrev dktX0_init_3 : List UInt8 := dkwX0_init_3 ++ []
def dkwX0_init_2 : List UInt8 := [181, 0, 38, 3, 60, 27, 6, 162, 0, 23, 27, 61, 42, 180, 0, 11, 27, 28, 186, 0, 42, 0, 0, 83]
abbrev dktX0_init_2 : List UInt8 := dkwX0_init_2 ++ dktX0_init_3
def dkwX0_init_1 : List UInt8 := [187, 0, 22, 89, 183, 0, 24, 181, 0, 25, 42, 187, 0, 29, 89, 183, 0, 31, 181, 0, 32, 42, 18, 36]
abbrev dktX0_init_1 : List UInt8 := dkwX0_init_1 ++ dktX0_init_2
def dkwX0_init_0 : List UInt8 := [42, 183, 0, 1, 42, 6, 189, 0, 9, 181, 0, 11, 42, 187, 0, 15, 89, 183, 0, 17, 181, 0, 18, 42]
abbrev dktX0_init_0 : List UInt8 := dkwX0_init_0 ++ dktX0_init_1
theorem dksX0_init_0 : cX0_init.data.toList.drop 0 = dktX0_init_0 := by decide +kernel
theorem dksX0_init_1 : cX0_init.data.toList.drop 24 = dktX0_init_1 := dk_seg dksX0_init_0 24 rfl rfl
theorem dksX0_init_2 : cX0_init.data.toList.drop 48 = dktX0_init_2 := dk_seg dksX0_init_1 24 rfl rfl
theorem dksX0_init_3 : cX0_init.data.toList.drop 72 = dktX0_init_3 := dk_seg dksX0_init_2 24 rfl rfl
theorem dX0_init_0 : decode cX0_init 0 = .ok (.aload_n 0, 1) := dk_42 (dk_at dksX0_init_0 0 rfl rfl)
theorem dX0_init_1 : decode cX0_init 1 = .ok (.invokespecial 1, 3) := dk_183 0 1 (dk_at dksX0_init_0 1 rfl rfl)
theorem dX0_init_4 : decode cX0_init 4 = .ok (.aload_n 0, 1) := dk_42 (dk_at dksX0_init_0 4 rfl rfl)
theorem dX0_init_5 : decode cX0_init 5 = .ok (.iconst 3, 1) := dk_6 (dk_at dksX0_init_0 5 rfl rfl)
theorem dX0_init_6 : decode cX0_init 6 = .ok (.anewarray 9, 3) := dk_189 0 9 (dk_at dksX0_init_0 6 rfl rfl)
theorem dX0_init_9 : decode cX0_init 9 = .ok (.putfield 11, 3) := dk_181 0 11 (dk_at dksX0_init_0 9 rfl rfl)
theorem dX0_init_12 : decode cX0_init 12 = .ok (.aload_n 0, 1) := dk_42 (dk_at dksX0_init_0 12 rfl rfl)
theorem dX0_init_13 : decode cX0_init 13 = .ok (.new 15, 3) := dk_187 0 15 (dk_at dksX0_init_0 13 rfl rfl)
theorem dX0_init_16 : decode cX0_init 16 = .ok (.dup, 1) := dk_89 (dk_at dksX0_init_0 16 rfl rfl)
theorem dX0_init_17 : decode cX0_init 17 = .ok (.invokespecial 17, 3) := dk_183 0 17 (dk_at dksX0_init_0 17 rfl rfl)
theorem dX0_init_20 : decode cX0_init 20 = .ok (.putfield 18, 3) := dk_181 0 18 (dk_at dksX0_init_0 20 rfl rfl)
theorem dX0_init_23 : decode cX0_init 23 = .ok (.aload_n 0, 1) := dk_42 (dk_at dksX0_init_0 23 rfl rfl)
theorem dX0_init_24 : decode cX0_init 24 = .ok (.new 22, 3) := dk_187 0 22 (dk_at dksX0_init_1 0 rfl rfl)
theorem dX0_init_27 : decode cX0_init 27 = .ok (.dup, 1) := dk_89 (dk_at dksX0_init_1 3 rfl rfl)
theorem dX0_init_28 : decode cX0_init 28 = .ok (.invokespecial 24, 3) := dk_183 0 24 (dk_at dksX0_init_1 4 rfl rfl)
theorem dX0_init_31 : decode cX0_init 31 = .ok (.putfield 25, 3) := dk_181 0 25 (dk_at dksX0_init_1 7 rfl rfl)
theorem dX0_init_34 : decode cX0_init 34 = .ok (.aload_n 0, 1) := dk_42 (dk_at dksX0_init_1 10 rfl rfl)
theorem dX0_init_35 : decode cX0_init 35 = .ok (.new 29, 3) := dk_187 0 29 (dk_at dksX0_init_1 11 rfl rfl)
theorem dX0_init_38 : decode cX0_init 38 = .ok (.dup, 1) := dk_89 (dk_at dksX0_init_1 14 rfl rfl)
theorem dX0_init_39 : decode cX0_init 39 = .ok (.invokespecial 31, 3) := dk_183 0 31 (dk_at dksX0_init_1 15 rfl rfl)
theorem dX0_init_42 : decode cX0_init 42 = .ok (.putfield 32, 3) := dk_181 0 32 (dk_at dksX0_init_1 18 rfl rfl)
theorem dX0_init_45 : decode cX0_init 45 = .ok (.aload_n 0, 1) := dk_42 (dk_at dksX0_init_1 21 rfl rfl)
theorem dX0_init_46 : decode cX0_init 46 = .ok (.ldc 36, 2) := dk_18 36 (dk_at dksX0_init_1 22 rfl rfl)
theorem dX0_init_48 : decode cX0_init 48 = .ok (.putfield 38, 3) := dk_181 0 38 (dk_at dksX0_init_2 0 rfl rfl)
theorem dX0_init_51 : decode cX0_init 51 = .ok (.iconst 0, 1) := dk_3 (dk_at dksX0_init_2 3 rfl rfl)
theorem dX0_init_52 : decode cX0_init 52 = .ok (.istore_n 1, 1) := dk_60 (dk_at dksX0_init_2 4 rfl rfl)
theorem dX0_init_53 : decode cX0_init 53 = .ok (.iload_n 1, 1) := dk_27 (dk_at dksX0_init_2 5 rfl rfl)
theorem dX0_init_54 : decode cX0_init 54 = .ok (.iconst 3, 1) := dk_6 (dk_at dksX0_init_2 6 rfl rfl)
theorem dX0_init_55 : decode cX0_init 55 = .ok (.if_icmp .ge 23, 3) := dk_162 0 23 (dk_at dksX0_init_2 7 rfl rfl)
theorem dX0_init_58 : decode cX0_init 58 = .ok (.iload_n 1, 1) := dk_27 (dk_at dksX0_init_2 10 rfl rfl)
theorem dX0_init_59 : decode cX0_init 59 = .ok (.istore_n 2, 1) := dk_61 (dk_at dksX0_init_2 11 rfl rfl)
theorem dX0_init_60 : decode cX0_init 60 = .ok (.aload_n 0, 1) := dk_42 (dk_at dksX0_init_2 12 rfl rfl)
theorem dX0_init_61 : decode cX0_init 61 = .ok (.getfield 11, 3) := dk_180 0 11 (dk_at dksX0_init_2 13 rfl rfl)
theorem dX0_init_64 : decode cX0_init 64 = .ok (.iload_n 1, 1) := dk_27 (dk_at dksX0_init_2 16 rfl rfl)
theorem dX0_init_65 : decode cX0_init 65 = .ok (.iload_n 2, 1) := dk_28 (dk_at dksX0_init_2 17 rfl rfl)
theorem dX0_init_66 : decode cX0_init 66 = .ok (.invokedynamic 42, 5) := by decide +kernel
theorem dX0_init_71 : decode cX0_init 71 = .ok (.aastore, 1) := dk_83 (dk_at dksX0_init_2 23 rfl rfl)
theorem dX0_init_72 : decode cX0_init 72 = .ok (.iinc 1 1, 3) := dk_132 1 1 (dk_at dksX0_init_3 0 rfl rfl)
theorem dX0_init_75 : decode cX0_init 75 = .ok (.goto (-22), 3) := dk_167 255 234 (dk_at dksX0_init_3 3 rfl rfl)
theorem dX0_init_78 : decode cX0_init 78 = .ok (.return_, 1) := dk_177 (dk_at dksX0_init_3 6 rfl rfl)
abbrev cX0_lambda_new_0 : ByteArray := prog_1_method_41_code
def yX0_lambda_new_0 : MethodName := ⟨RX0, "lambda$new$0", "(II)Z"⟩
def dkwX0_lambda_new_0_0 : List UInt8 := [27, 153, 0, 13, 26, 4, 160, 0, 12, 27, 4, 160, 0, 7, 4, 167, 0, 4, 3, 172]
abbrev dktX0_lambda_new_0_0 : List UInt8 := dkwX0_lambda_new_0_0 ++ []
theorem dksX0_lambda_new_0_0 : cX0_lambda_new_0.data.toList.drop 0 = dktX0_lambda_new_0_0 := by decide +kernel
theorem dX0_lambda_new_0_0 : decode cX0_lambda_new_0 0 = .ok (.iload_n 1, 1) := dk_27 (dk_at dksX0_lambda_new_0_0 0 rfl rfl)
theorem dX0_lambda_new_0_1 : decode cX0_lambda_new_0 1 = .ok (.ifCond .eq 13, 3) := dk_153 0 13 (dk_at dksX0_lambda_new_0_0 1 rfl rfl)
theorem dX0_lambda_new_0_4 : decode cX0_lambda_new_0 4 = .ok (.iload_n 0, 1) := dk_26 (dk_at dksX0_lambda_new_0_0 4 rfl rfl)
theorem dX0_lambda_new_0_5 : decode cX0_lambda_new_0 5 = .ok (.iconst 1, 1) := dk_4 (dk_at dksX0_lambda_new_0_0 5 rfl rfl)
theorem dX0_lambda_new_0_6 : decode cX0_lambda_new_0 6 = .ok (.if_icmp .ne 12, 3) := dk_160 0 12 (dk_at dksX0_lambda_new_0_0 6 rfl rfl)
theorem dX0_lambda_new_0_9 : decode cX0_lambda_new_0 9 = .ok (.iload_n 1, 1) := dk_27 (dk_at dksX0_lambda_new_0_0 9 rfl rfl)
theorem dX0_lambda_new_0_10 : decode cX0_lambda_new_0 10 = .ok (.iconst 1, 1) := dk_4 (dk_at dksX0_lambda_new_0_0 10 rfl rfl)
theorem dX0_lambda_new_0_11 : decode cX0_lambda_new_0 11 = .ok (.if_icmp .ne 7, 3) := dk_160 0 7 (dk_at dksX0_lambda_new_0_0 11 rfl rfl)
theorem dX0_lambda_new_0_14 : decode cX0_lambda_new_0 14 = .ok (.iconst 1, 1) := dk_4 (dk_at dksX0_lambda_new_0_0 14 rfl rfl)
theorem dX0_lambda_new_0_15 : decode cX0_lambda_new_0 15 = .ok (.goto 4, 3) := dk_167 0 4 (dk_at dksX0_lambda_new_0_0 15 rfl rfl)
theorem dX0_lambda_new_0_18 : decode cX0_lambda_new_0 18 = .ok (.iconst 0, 1) := dk_3 (dk_at dksX0_lambda_new_0_0 18 rfl rfl)
theorem dX0_lambda_new_0_19 : decode cX0_lambda_new_0 19 = .ok (.ireturn, 1) := dk_172 (dk_at dksX0_lambda_new_0_0 19 rfl rfl)
abbrev cX0_maid : ByteArray := prog_1_method_10_code
def yX0_maid : MethodName := ⟨RX0, "maid", "()I"⟩
def dkwX0_maid_1 : List UInt8 := [182, 0, 97, 172]
abbrev dktX0_maid_1 : List UInt8 := dkwX0_maid_1 ++ []
def dkwX0_maid_0 : List UInt8 := [42, 180, 0, 18, 182, 0, 86, 76, 42, 43, 42, 180, 0, 18, 182, 0, 90, 182, 0, 93, 172, 77, 42, 44]
abbrev dktX0_maid_0 : List UInt8 := dkwX0_maid_0 ++ dktX0_maid_1
theorem dksX0_maid_0 : cX0_maid.data.toList.drop 0 = dktX0_maid_0 := by decide +kernel
theorem dksX0_maid_1 : cX0_maid.data.toList.drop 24 = dktX0_maid_1 := dk_seg dksX0_maid_0 24 rfl rfl
theorem dX0_maid_0 : decode cX0_maid 0 = .ok (.aload_n 0, 1) := dk_42 (dk_at dksX0_maid_0 0 rfl rfl)
theorem dX0_maid_1 : decode cX0_maid 1 = .ok (.getfield 18, 3) := dk_180 0 18 (dk_at dksX0_maid_0 1 rfl rfl)
theorem dX0_maid_4 : decode cX0_maid 4 = .ok (.invokevirtual 86, 3) := dk_182 0 86 (dk_at dksX0_maid_0 4 rfl rfl)
theorem dX0_maid_7 : decode cX0_maid 7 = .ok (.astore_n 1, 1) := dk_76 (dk_at dksX0_maid_0 7 rfl rfl)
theorem dX0_maid_8 : decode cX0_maid 8 = .ok (.aload_n 0, 1) := dk_42 (dk_at dksX0_maid_0 8 rfl rfl)
theorem dX0_maid_9 : decode cX0_maid 9 = .ok (.aload_n 1, 1) := dk_43 (dk_at dksX0_maid_0 9 rfl rfl)
theorem dX0_maid_10 : decode cX0_maid 10 = .ok (.aload_n 0, 1) := dk_42 (dk_at dksX0_maid_0 10 rfl rfl)
theorem dX0_maid_11 : decode cX0_maid 11 = .ok (.getfield 18, 3) := dk_180 0 18 (dk_at dksX0_maid_0 11 rfl rfl)
theorem dX0_maid_14 : decode cX0_maid 14 = .ok (.invokevirtual 90, 3) := dk_182 0 90 (dk_at dksX0_maid_0 14 rfl rfl)
theorem dX0_maid_17 : decode cX0_maid 17 = .ok (.invokevirtual 93, 3) := dk_182 0 93 (dk_at dksX0_maid_0 17 rfl rfl)
theorem dX0_maid_20 : decode cX0_maid 20 = .ok (.ireturn, 1) := dk_172 (dk_at dksX0_maid_0 20 rfl rfl)
theorem dX0_maid_21 : decode cX0_maid 21 = .ok (.astore_n 2, 1) := dk_77 (dk_at dksX0_maid_0 21 rfl rfl)
theorem dX0_maid_22 : decode cX0_maid 22 = .ok (.aload_n 0, 1) := dk_42 (dk_at dksX0_maid_0 22 rfl rfl)
theorem dX0_maid_23 : decode cX0_maid 23 = .ok (.aload_n 2, 1) := dk_44 (dk_at dksX0_maid_0 23 rfl rfl)
theorem dX0_maid_24 : decode cX0_maid 24 = .ok (.invokevirtual 97, 3) := dk_182 0 97 (dk_at dksX0_maid_1 0 rfl rfl)
theorem dX0_maid_27 : decode cX0_maid 27 = .ok (.ireturn, 1) := dk_172 (dk_at dksX0_maid_1 3 rfl rfl)
abbrev cX0_refuse : ByteArray := prog_1_method_6_code
def yX0_refuse : MethodName := ⟨RX0, "refuse", "(ZII)V"⟩
def dkwX0_refuse_0 : List UInt8 := [26, 153, 0, 13, 187, 0, 50, 89, 27, 28, 183, 0, 52, 191, 177]
abbrev dktX0_refuse_0 : List UInt8 := dkwX0_refuse_0 ++ []
theorem dksX0_refuse_0 : cX0_refuse.data.toList.drop 0 = dktX0_refuse_0 := by decide +kernel
theorem dX0_refuse_0 : decode cX0_refuse 0 = .ok (.iload_n 0, 1) := dk_26 (dk_at dksX0_refuse_0 0 rfl rfl)
theorem dX0_refuse_1 : decode cX0_refuse 1 = .ok (.ifCond .eq 13, 3) := dk_153 0 13 (dk_at dksX0_refuse_0 1 rfl rfl)
theorem dX0_refuse_4 : decode cX0_refuse 4 = .ok (.new 50, 3) := dk_187 0 50 (dk_at dksX0_refuse_0 4 rfl rfl)
theorem dX0_refuse_7 : decode cX0_refuse 7 = .ok (.dup, 1) := dk_89 (dk_at dksX0_refuse_0 7 rfl rfl)
theorem dX0_refuse_8 : decode cX0_refuse 8 = .ok (.iload_n 1, 1) := dk_27 (dk_at dksX0_refuse_0 8 rfl rfl)
theorem dX0_refuse_9 : decode cX0_refuse 9 = .ok (.iload_n 2, 1) := dk_28 (dk_at dksX0_refuse_0 9 rfl rfl)
theorem dX0_refuse_10 : decode cX0_refuse 10 = .ok (.invokespecial 52, 3) := dk_183 0 52 (dk_at dksX0_refuse_0 10 rfl rfl)
theorem dX0_refuse_13 : decode cX0_refuse 13 = .ok (.athrow, 1) := dk_191 (dk_at dksX0_refuse_0 13 rfl rfl)
theorem dX0_refuse_14 : decode cX0_refuse 14 = .ok (.return_, 1) := dk_177 (dk_at dksX0_refuse_0 14 rfl rfl)
abbrev cX0_changed : ByteArray := prog_1_method_8_code
def yX0_changed : MethodName := ⟨RX0, "changed", "(LLarderLocks$Larder;I)I"⟩
def dkwX0_changed_1 : List UInt8 := [164, 0, 11, 42, 180, 0, 25, 182, 0, 75, 87, 28, 172]
abbrev dktX0_changed_1 : List UInt8 := dkwX0_changed_1 ++ []
def dkwX0_changed_0 : List UInt8 := [42, 180, 0, 18, 182, 0, 64, 42, 180, 0, 25, 43, 182, 0, 67, 42, 180, 0, 25, 182, 0, 71, 16, 8]
abbrev dktX0_changed_0 : List UInt8 := dkwX0_changed_0 ++ dktX0_changed_1
theorem dksX0_changed_0 : cX0_changed.data.toList.drop 0 = dktX0_changed_0 := by decide +kernel
theorem dksX0_changed_1 : cX0_changed.data.toList.drop 24 = dktX0_changed_1 := dk_seg dksX0_changed_0 24 rfl rfl
theorem dX0_changed_0 : decode cX0_changed 0 = .ok (.aload_n 0, 1) := dk_42 (dk_at dksX0_changed_0 0 rfl rfl)
theorem dX0_changed_1 : decode cX0_changed 1 = .ok (.getfield 18, 3) := dk_180 0 18 (dk_at dksX0_changed_0 1 rfl rfl)
theorem dX0_changed_4 : decode cX0_changed 4 = .ok (.invokevirtual 64, 3) := dk_182 0 64 (dk_at dksX0_changed_0 4 rfl rfl)
theorem dX0_changed_7 : decode cX0_changed 7 = .ok (.aload_n 0, 1) := dk_42 (dk_at dksX0_changed_0 7 rfl rfl)
theorem dX0_changed_8 : decode cX0_changed 8 = .ok (.getfield 25, 3) := dk_180 0 25 (dk_at dksX0_changed_0 8 rfl rfl)
theorem dX0_changed_11 : decode cX0_changed 11 = .ok (.aload_n 1, 1) := dk_43 (dk_at dksX0_changed_0 11 rfl rfl)
theorem dX0_changed_12 : decode cX0_changed 12 = .ok (.invokevirtual 67, 3) := dk_182 0 67 (dk_at dksX0_changed_0 12 rfl rfl)
theorem dX0_changed_15 : decode cX0_changed 15 = .ok (.aload_n 0, 1) := dk_42 (dk_at dksX0_changed_0 15 rfl rfl)
theorem dX0_changed_16 : decode cX0_changed 16 = .ok (.getfield 25, 3) := dk_180 0 25 (dk_at dksX0_changed_0 16 rfl rfl)
theorem dX0_changed_19 : decode cX0_changed 19 = .ok (.invokevirtual 71, 3) := dk_182 0 71 (dk_at dksX0_changed_0 19 rfl rfl)
theorem dX0_changed_22 : decode cX0_changed 22 = .ok (.bipush 8, 2) := dk_16 8 (dk_at dksX0_changed_0 22 rfl rfl)
theorem dX0_changed_24 : decode cX0_changed 24 = .ok (.if_icmp .le 11, 3) := dk_164 0 11 (dk_at dksX0_changed_1 0 rfl rfl)
theorem dX0_changed_27 : decode cX0_changed 27 = .ok (.aload_n 0, 1) := dk_42 (dk_at dksX0_changed_1 3 rfl rfl)
theorem dX0_changed_28 : decode cX0_changed 28 = .ok (.getfield 25, 3) := dk_180 0 25 (dk_at dksX0_changed_1 4 rfl rfl)
theorem dX0_changed_31 : decode cX0_changed 31 = .ok (.invokevirtual 75, 3) := dk_182 0 75 (dk_at dksX0_changed_1 7 rfl rfl)
theorem dX0_changed_34 : decode cX0_changed 34 = .ok (.pop, 1) := dk_87 (dk_at dksX0_changed_1 10 rfl rfl)
theorem dX0_changed_35 : decode cX0_changed 35 = .ok (.iload_n 2, 1) := dk_28 (dk_at dksX0_changed_1 11 rfl rfl)
theorem dX0_changed_36 : decode cX0_changed 36 = .ok (.ireturn, 1) := dk_172 (dk_at dksX0_changed_1 12 rfl rfl)
abbrev cX0_refused : ByteArray := prog_1_method_7_code
def yX0_refused : MethodName := ⟨RX0, "refused", "(LLarderLocks$Refused;)I"⟩
def dkwX0_refused_0 : List UInt8 := [42, 43, 180, 0, 55, 181, 0, 59, 42, 43, 180, 0, 60, 181, 0, 63, 16, 242, 172]
abbrev dktX0_refused_0 : List UInt8 := dkwX0_refused_0 ++ []
theorem dksX0_refused_0 : cX0_refused.data.toList.drop 0 = dktX0_refused_0 := by decide +kernel
theorem dX0_refused_0 : decode cX0_refused 0 = .ok (.aload_n 0, 1) := dk_42 (dk_at dksX0_refused_0 0 rfl rfl)
theorem dX0_refused_1 : decode cX0_refused 1 = .ok (.aload_n 1, 1) := dk_43 (dk_at dksX0_refused_0 1 rfl rfl)
theorem dX0_refused_2 : decode cX0_refused 2 = .ok (.getfield 55, 3) := dk_180 0 55 (dk_at dksX0_refused_0 2 rfl rfl)
theorem dX0_refused_5 : decode cX0_refused 5 = .ok (.putfield 59, 3) := dk_181 0 59 (dk_at dksX0_refused_0 5 rfl rfl)
theorem dX0_refused_8 : decode cX0_refused 8 = .ok (.aload_n 0, 1) := dk_42 (dk_at dksX0_refused_0 8 rfl rfl)
theorem dX0_refused_9 : decode cX0_refused 9 = .ok (.aload_n 1, 1) := dk_43 (dk_at dksX0_refused_0 9 rfl rfl)
theorem dX0_refused_10 : decode cX0_refused 10 = .ok (.getfield 60, 3) := dk_180 0 60 (dk_at dksX0_refused_0 10 rfl rfl)
theorem dX0_refused_13 : decode cX0_refused 13 = .ok (.putfield 63, 3) := dk_181 0 63 (dk_at dksX0_refused_0 13 rfl rfl)
theorem dX0_refused_16 : decode cX0_refused 16 = .ok (.bipush (-14), 2) := dk_16 242 (dk_at dksX0_refused_0 16 rfl rfl)
theorem dX0_refused_18 : decode cX0_refused 18 = .ok (.ireturn, 1) := dk_172 (dk_at dksX0_refused_0 18 rfl rfl)
abbrev cX0_want : ByteArray := prog_1_method_11_code
def yX0_want : MethodName := ⟨RX0, "want", "(IIZ)I"⟩
def dkwX0_want_2 : List UInt8 := [182, 0, 97, 172]
abbrev dktX0_want_2 : List UInt8 := dkwX0_want_2 ++ []
def dkwX0_want_1 : List UInt8 := [42, 180, 0, 18, 27, 28, 29, 42, 180, 0, 11, 182, 0, 105, 182, 0, 93, 172, 58, 5, 42, 25, 5]
abbrev dktX0_want_1 : List UInt8 := dkwX0_want_1 ++ dktX0_want_2
def dkwX0_want_0 : List UInt8 := [42, 27, 28, 182, 0, 101, 154, 0, 6, 16, 245, 172, 42, 180, 0, 18, 182, 0, 86, 58, 4, 42, 25, 4]
abbrev dktX0_want_0 : List UInt8 := dkwX0_want_0 ++ dktX0_want_1
theorem dksX0_want_0 : cX0_want.data.toList.drop 0 = dktX0_want_0 := by decide +kernel
theorem dksX0_want_1 : cX0_want.data.toList.drop 24 = dktX0_want_1 := dk_seg dksX0_want_0 24 rfl rfl
theorem dksX0_want_2 : cX0_want.data.toList.drop 47 = dktX0_want_2 := dk_seg dksX0_want_1 23 rfl rfl
theorem dX0_want_0 : decode cX0_want 0 = .ok (.aload_n 0, 1) := dk_42 (dk_at dksX0_want_0 0 rfl rfl)
theorem dX0_want_1 : decode cX0_want 1 = .ok (.iload_n 1, 1) := dk_27 (dk_at dksX0_want_0 1 rfl rfl)
theorem dX0_want_2 : decode cX0_want 2 = .ok (.iload_n 2, 1) := dk_28 (dk_at dksX0_want_0 2 rfl rfl)
theorem dX0_want_3 : decode cX0_want 3 = .ok (.invokevirtual 101, 3) := dk_182 0 101 (dk_at dksX0_want_0 3 rfl rfl)
theorem dX0_want_6 : decode cX0_want 6 = .ok (.ifCond .ne 6, 3) := dk_154 0 6 (dk_at dksX0_want_0 6 rfl rfl)
theorem dX0_want_9 : decode cX0_want 9 = .ok (.bipush (-11), 2) := dk_16 245 (dk_at dksX0_want_0 9 rfl rfl)
theorem dX0_want_11 : decode cX0_want 11 = .ok (.ireturn, 1) := dk_172 (dk_at dksX0_want_0 11 rfl rfl)
theorem dX0_want_12 : decode cX0_want 12 = .ok (.aload_n 0, 1) := dk_42 (dk_at dksX0_want_0 12 rfl rfl)
theorem dX0_want_13 : decode cX0_want 13 = .ok (.getfield 18, 3) := dk_180 0 18 (dk_at dksX0_want_0 13 rfl rfl)
theorem dX0_want_16 : decode cX0_want 16 = .ok (.invokevirtual 86, 3) := dk_182 0 86 (dk_at dksX0_want_0 16 rfl rfl)
theorem dX0_want_19 : decode cX0_want 19 = .ok (.astore 4, 2) := dk_58 4 (dk_at dksX0_want_0 19 rfl rfl)
theorem dX0_want_21 : decode cX0_want 21 = .ok (.aload_n 0, 1) := dk_42 (dk_at dksX0_want_0 21 rfl rfl)
theorem dX0_want_22 : decode cX0_want 22 = .ok (.aload 4, 2) := dk_25 4 (dk_at dksX0_want_0 22 rfl rfl)
theorem dX0_want_24 : decode cX0_want 24 = .ok (.aload_n 0, 1) := dk_42 (dk_at dksX0_want_1 0 rfl rfl)
theorem dX0_want_25 : decode cX0_want 25 = .ok (.getfield 18, 3) := dk_180 0 18 (dk_at dksX0_want_1 1 rfl rfl)
theorem dX0_want_28 : decode cX0_want 28 = .ok (.iload_n 1, 1) := dk_27 (dk_at dksX0_want_1 4 rfl rfl)
theorem dX0_want_29 : decode cX0_want 29 = .ok (.iload_n 2, 1) := dk_28 (dk_at dksX0_want_1 5 rfl rfl)
theorem dX0_want_30 : decode cX0_want 30 = .ok (.iload_n 3, 1) := dk_29 (dk_at dksX0_want_1 6 rfl rfl)
theorem dX0_want_31 : decode cX0_want 31 = .ok (.aload_n 0, 1) := dk_42 (dk_at dksX0_want_1 7 rfl rfl)
theorem dX0_want_32 : decode cX0_want 32 = .ok (.getfield 11, 3) := dk_180 0 11 (dk_at dksX0_want_1 8 rfl rfl)
theorem dX0_want_35 : decode cX0_want 35 = .ok (.invokevirtual 105, 3) := dk_182 0 105 (dk_at dksX0_want_1 11 rfl rfl)
theorem dX0_want_38 : decode cX0_want 38 = .ok (.invokevirtual 93, 3) := dk_182 0 93 (dk_at dksX0_want_1 14 rfl rfl)
theorem dX0_want_41 : decode cX0_want 41 = .ok (.ireturn, 1) := dk_172 (dk_at dksX0_want_1 17 rfl rfl)
theorem dX0_want_42 : decode cX0_want 42 = .ok (.astore 5, 2) := dk_58 5 (dk_at dksX0_want_1 18 rfl rfl)
theorem dX0_want_44 : decode cX0_want 44 = .ok (.aload_n 0, 1) := dk_42 (dk_at dksX0_want_1 20 rfl rfl)
theorem dX0_want_45 : decode cX0_want 45 = .ok (.aload 5, 2) := dk_25 5 (dk_at dksX0_want_1 21 rfl rfl)
theorem dX0_want_47 : decode cX0_want 47 = .ok (.invokevirtual 97, 3) := dk_182 0 97 (dk_at dksX0_want_2 0 rfl rfl)
theorem dX0_want_50 : decode cX0_want 50 = .ok (.ireturn, 1) := dk_172 (dk_at dksX0_want_2 3 rfl rfl)
abbrev cX0_areThere : ByteArray := prog_1_method_9_code
def yX0_areThere : MethodName := ⟨RX0, "areThere", "(II)Z"⟩
def dkwX0_areThere_0 : List UInt8 := [42, 180, 0, 18, 27, 182, 0, 79, 153, 0, 14, 28, 184, 0, 83, 153, 0, 7, 4, 167, 0, 4, 3, 172]
abbrev dktX0_areThere_0 : List UInt8 := dkwX0_areThere_0 ++ []
theorem dksX0_areThere_0 : cX0_areThere.data.toList.drop 0 = dktX0_areThere_0 := by decide +kernel
theorem dX0_areThere_0 : decode cX0_areThere 0 = .ok (.aload_n 0, 1) := dk_42 (dk_at dksX0_areThere_0 0 rfl rfl)
theorem dX0_areThere_1 : decode cX0_areThere 1 = .ok (.getfield 18, 3) := dk_180 0 18 (dk_at dksX0_areThere_0 1 rfl rfl)
theorem dX0_areThere_4 : decode cX0_areThere 4 = .ok (.iload_n 1, 1) := dk_27 (dk_at dksX0_areThere_0 4 rfl rfl)
theorem dX0_areThere_5 : decode cX0_areThere 5 = .ok (.invokevirtual 79, 3) := dk_182 0 79 (dk_at dksX0_areThere_0 5 rfl rfl)
theorem dX0_areThere_8 : decode cX0_areThere 8 = .ok (.ifCond .eq 14, 3) := dk_153 0 14 (dk_at dksX0_areThere_0 8 rfl rfl)
theorem dX0_areThere_11 : decode cX0_areThere 11 = .ok (.iload_n 2, 1) := dk_28 (dk_at dksX0_areThere_0 11 rfl rfl)
theorem dX0_areThere_12 : decode cX0_areThere 12 = .ok (.invokestatic 83, 3) := dk_184 0 83 (dk_at dksX0_areThere_0 12 rfl rfl)
theorem dX0_areThere_15 : decode cX0_areThere 15 = .ok (.ifCond .eq 7, 3) := dk_153 0 7 (dk_at dksX0_areThere_0 15 rfl rfl)
theorem dX0_areThere_18 : decode cX0_areThere 18 = .ok (.iconst 1, 1) := dk_4 (dk_at dksX0_areThere_0 18 rfl rfl)
theorem dX0_areThere_19 : decode cX0_areThere 19 = .ok (.goto 4, 3) := dk_167 0 4 (dk_at dksX0_areThere_0 19 rfl rfl)
theorem dX0_areThere_22 : decode cX0_areThere 22 = .ok (.iconst 0, 1) := dk_3 (dk_at dksX0_areThere_0 22 rfl rfl)
theorem dX0_areThere_23 : decode cX0_areThere 23 = .ok (.ireturn, 1) := dk_172 (dk_at dksX0_areThere_0 23 rfl rfl)
abbrev cX0_isIn : ByteArray := prog_1_method_2_code
def yX0_isIn : MethodName := ⟨RX0, "isIn", "(III)Z"⟩
def dkwX0_isIn_0 : List UInt8 := [26, 27, 161, 0, 12, 26, 28, 163, 0, 7, 4, 167, 0, 4, 3, 172]
abbrev dktX0_isIn_0 : List UInt8 := dkwX0_isIn_0 ++ []
theorem dksX0_isIn_0 : cX0_isIn.data.toList.drop 0 = dktX0_isIn_0 := by decide +kernel
theorem dX0_isIn_0 : decode cX0_isIn 0 = .ok (.iload_n 0, 1) := dk_26 (dk_at dksX0_isIn_0 0 rfl rfl)
theorem dX0_isIn_1 : decode cX0_isIn 1 = .ok (.iload_n 1, 1) := dk_27 (dk_at dksX0_isIn_0 1 rfl rfl)
theorem dX0_isIn_2 : decode cX0_isIn 2 = .ok (.if_icmp .lt 12, 3) := dk_161 0 12 (dk_at dksX0_isIn_0 2 rfl rfl)
theorem dX0_isIn_5 : decode cX0_isIn 5 = .ok (.iload_n 0, 1) := dk_26 (dk_at dksX0_isIn_0 5 rfl rfl)
theorem dX0_isIn_6 : decode cX0_isIn 6 = .ok (.iload_n 2, 1) := dk_28 (dk_at dksX0_isIn_0 6 rfl rfl)
theorem dX0_isIn_7 : decode cX0_isIn 7 = .ok (.if_icmp .gt 7, 3) := dk_163 0 7 (dk_at dksX0_isIn_0 7 rfl rfl)
theorem dX0_isIn_10 : decode cX0_isIn 10 = .ok (.iconst 1, 1) := dk_4 (dk_at dksX0_isIn_0 10 rfl rfl)
theorem dX0_isIn_11 : decode cX0_isIn 11 = .ok (.goto 4, 3) := dk_167 0 4 (dk_at dksX0_isIn_0 11 rfl rfl)
theorem dX0_isIn_14 : decode cX0_isIn 14 = .ok (.iconst 0, 1) := dk_3 (dk_at dksX0_isIn_0 14 rfl rfl)
theorem dX0_isIn_15 : decode cX0_isIn 15 = .ok (.ireturn, 1) := dk_172 (dk_at dksX0_isIn_0 15 rfl rfl)
abbrev cX0_has : ByteArray := prog_1_method_4_code
def yX0_has : MethodName := ⟨RX0, "has", "(II)Z"⟩
def dkwX0_has_0 : List UInt8 := [26, 27, 122, 4, 126, 4, 160, 0, 7, 4, 167, 0, 4, 3, 172]
abbrev dktX0_has_0 : List UInt8 := dkwX0_has_0 ++ []
theorem dksX0_has_0 : cX0_has.data.toList.drop 0 = dktX0_has_0 := by decide +kernel
theorem dX0_has_0 : decode cX0_has 0 = .ok (.iload_n 0, 1) := dk_26 (dk_at dksX0_has_0 0 rfl rfl)
theorem dX0_has_1 : decode cX0_has 1 = .ok (.iload_n 1, 1) := dk_27 (dk_at dksX0_has_0 1 rfl rfl)
theorem dX0_has_2 : decode cX0_has 2 = .ok (.ishr, 1) := dk_122 (dk_at dksX0_has_0 2 rfl rfl)
theorem dX0_has_3 : decode cX0_has 3 = .ok (.iconst 1, 1) := dk_4 (dk_at dksX0_has_0 3 rfl rfl)
theorem dX0_has_4 : decode cX0_has 4 = .ok (.iand, 1) := dk_126 (dk_at dksX0_has_0 4 rfl rfl)
theorem dX0_has_5 : decode cX0_has 5 = .ok (.iconst 1, 1) := dk_4 (dk_at dksX0_has_0 5 rfl rfl)
theorem dX0_has_6 : decode cX0_has 6 = .ok (.if_icmp .ne 7, 3) := dk_160 0 7 (dk_at dksX0_has_0 6 rfl rfl)
theorem dX0_has_9 : decode cX0_has 9 = .ok (.iconst 1, 1) := dk_4 (dk_at dksX0_has_0 9 rfl rfl)
theorem dX0_has_10 : decode cX0_has 10 = .ok (.goto 4, 3) := dk_167 0 4 (dk_at dksX0_has_0 10 rfl rfl)
theorem dX0_has_13 : decode cX0_has 13 = .ok (.iconst 0, 1) := dk_3 (dk_at dksX0_has_0 13 rfl rfl)
theorem dX0_has_14 : decode cX0_has 14 = .ok (.ireturn, 1) := dk_172 (dk_at dksX0_has_0 14 rfl rfl)
abbrev cX0_isShelf : ByteArray := prog_1_method_3_code
def yX0_isShelf : MethodName := ⟨RX0, "isShelf", "(I)Z"⟩
def dkwX0_isShelf_0 : List UInt8 := [26, 3, 16, 7, 184, 0, 46, 172]
abbrev dktX0_isShelf_0 : List UInt8 := dkwX0_isShelf_0 ++ []
theorem dksX0_isShelf_0 : cX0_isShelf.data.toList.drop 0 = dktX0_isShelf_0 := by decide +kernel
theorem dX0_isShelf_0 : decode cX0_isShelf 0 = .ok (.iload_n 0, 1) := dk_26 (dk_at dksX0_isShelf_0 0 rfl rfl)
theorem dX0_isShelf_1 : decode cX0_isShelf 1 = .ok (.iconst 0, 1) := dk_3 (dk_at dksX0_isShelf_0 1 rfl rfl)
theorem dX0_isShelf_2 : decode cX0_isShelf 2 = .ok (.bipush 7, 2) := dk_16 7 (dk_at dksX0_isShelf_0 2 rfl rfl)
theorem dX0_isShelf_4 : decode cX0_isShelf 4 = .ok (.invokestatic 46, 3) := dk_184 0 46 (dk_at dksX0_isShelf_0 4 rfl rfl)
theorem dX0_isShelf_7 : decode cX0_isShelf 7 = .ok (.ireturn, 1) := dk_172 (dk_at dksX0_isShelf_0 7 rfl rfl)
abbrev cX0_free : ByteArray := prog_1_method_12_code
def yX0_free : MethodName := ⟨RX0, "free", "(II)I"⟩
def dkwX0_free_2 : List UInt8 := [172]
abbrev dktX0_free_2 : List UInt8 := dkwX0_free_2 ++ []
def dkwX0_free_1 : List UInt8 := [180, 0, 18, 27, 28, 42, 180, 0, 11, 182, 0, 109, 182, 0, 93, 172, 58, 4, 42, 25, 4, 182, 0, 97]
abbrev dktX0_free_1 : List UInt8 := dkwX0_free_1 ++ dktX0_free_2
def dkwX0_free_0 : List UInt8 := [42, 27, 28, 182, 0, 101, 154, 0, 6, 16, 245, 172, 42, 180, 0, 18, 182, 0, 86, 78, 42, 45, 42]
abbrev dktX0_free_0 : List UInt8 := dkwX0_free_0 ++ dktX0_free_1
theorem dksX0_free_0 : cX0_free.data.toList.drop 0 = dktX0_free_0 := by decide +kernel
theorem dksX0_free_1 : cX0_free.data.toList.drop 23 = dktX0_free_1 := dk_seg dksX0_free_0 23 rfl rfl
theorem dksX0_free_2 : cX0_free.data.toList.drop 47 = dktX0_free_2 := dk_seg dksX0_free_1 24 rfl rfl
theorem dX0_free_0 : decode cX0_free 0 = .ok (.aload_n 0, 1) := dk_42 (dk_at dksX0_free_0 0 rfl rfl)
theorem dX0_free_1 : decode cX0_free 1 = .ok (.iload_n 1, 1) := dk_27 (dk_at dksX0_free_0 1 rfl rfl)
theorem dX0_free_2 : decode cX0_free 2 = .ok (.iload_n 2, 1) := dk_28 (dk_at dksX0_free_0 2 rfl rfl)
theorem dX0_free_3 : decode cX0_free 3 = .ok (.invokevirtual 101, 3) := dk_182 0 101 (dk_at dksX0_free_0 3 rfl rfl)
theorem dX0_free_6 : decode cX0_free 6 = .ok (.ifCond .ne 6, 3) := dk_154 0 6 (dk_at dksX0_free_0 6 rfl rfl)
theorem dX0_free_9 : decode cX0_free 9 = .ok (.bipush (-11), 2) := dk_16 245 (dk_at dksX0_free_0 9 rfl rfl)
theorem dX0_free_11 : decode cX0_free 11 = .ok (.ireturn, 1) := dk_172 (dk_at dksX0_free_0 11 rfl rfl)
theorem dX0_free_12 : decode cX0_free 12 = .ok (.aload_n 0, 1) := dk_42 (dk_at dksX0_free_0 12 rfl rfl)
theorem dX0_free_13 : decode cX0_free 13 = .ok (.getfield 18, 3) := dk_180 0 18 (dk_at dksX0_free_0 13 rfl rfl)
theorem dX0_free_16 : decode cX0_free 16 = .ok (.invokevirtual 86, 3) := dk_182 0 86 (dk_at dksX0_free_0 16 rfl rfl)
theorem dX0_free_19 : decode cX0_free 19 = .ok (.astore_n 3, 1) := dk_78 (dk_at dksX0_free_0 19 rfl rfl)
theorem dX0_free_20 : decode cX0_free 20 = .ok (.aload_n 0, 1) := dk_42 (dk_at dksX0_free_0 20 rfl rfl)
theorem dX0_free_21 : decode cX0_free 21 = .ok (.aload_n 3, 1) := dk_45 (dk_at dksX0_free_0 21 rfl rfl)
theorem dX0_free_22 : decode cX0_free 22 = .ok (.aload_n 0, 1) := dk_42 (dk_at dksX0_free_0 22 rfl rfl)
theorem dX0_free_23 : decode cX0_free 23 = .ok (.getfield 18, 3) := dk_180 0 18 (dk_at dksX0_free_1 0 rfl rfl)
theorem dX0_free_26 : decode cX0_free 26 = .ok (.iload_n 1, 1) := dk_27 (dk_at dksX0_free_1 3 rfl rfl)
theorem dX0_free_27 : decode cX0_free 27 = .ok (.iload_n 2, 1) := dk_28 (dk_at dksX0_free_1 4 rfl rfl)
theorem dX0_free_28 : decode cX0_free 28 = .ok (.aload_n 0, 1) := dk_42 (dk_at dksX0_free_1 5 rfl rfl)
theorem dX0_free_29 : decode cX0_free 29 = .ok (.getfield 11, 3) := dk_180 0 11 (dk_at dksX0_free_1 6 rfl rfl)
theorem dX0_free_32 : decode cX0_free 32 = .ok (.invokevirtual 109, 3) := dk_182 0 109 (dk_at dksX0_free_1 9 rfl rfl)
theorem dX0_free_35 : decode cX0_free 35 = .ok (.invokevirtual 93, 3) := dk_182 0 93 (dk_at dksX0_free_1 12 rfl rfl)
theorem dX0_free_38 : decode cX0_free 38 = .ok (.ireturn, 1) := dk_172 (dk_at dksX0_free_1 15 rfl rfl)
theorem dX0_free_39 : decode cX0_free 39 = .ok (.astore 4, 2) := dk_58 4 (dk_at dksX0_free_1 16 rfl rfl)
theorem dX0_free_41 : decode cX0_free 41 = .ok (.aload_n 0, 1) := dk_42 (dk_at dksX0_free_1 18 rfl rfl)
theorem dX0_free_42 : decode cX0_free 42 = .ok (.aload 4, 2) := dk_25 4 (dk_at dksX0_free_1 19 rfl rfl)
theorem dX0_free_44 : decode cX0_free 44 = .ok (.invokevirtual 97, 3) := dk_182 0 97 (dk_at dksX0_free_1 21 rfl rfl)
theorem dX0_free_47 : decode cX0_free 47 = .ok (.ireturn, 1) := dk_172 (dk_at dksX0_free_2 0 rfl rfl)
abbrev cX0_end : ByteArray := prog_1_method_13_code
def yX0_end : MethodName := ⟨RX0, "end", "(I)I"⟩
def dkwX0_end_1 : List UInt8 := [42, 180, 0, 18, 27, 42, 180, 0, 11, 182, 0, 113, 182, 0, 93, 172]
abbrev dktX0_end_1 : List UInt8 := dkwX0_end_1 ++ []
def dkwX0_end_0 : List UInt8 := [42, 180, 0, 18, 27, 182, 0, 79, 154, 0, 6, 16, 245, 172, 42, 180, 0, 18, 182, 0, 86, 77, 42, 44]
abbrev dktX0_end_0 : List UInt8 := dkwX0_end_0 ++ dktX0_end_1
theorem dksX0_end_0 : cX0_end.data.toList.drop 0 = dktX0_end_0 := by decide +kernel
theorem dksX0_end_1 : cX0_end.data.toList.drop 24 = dktX0_end_1 := dk_seg dksX0_end_0 24 rfl rfl
theorem dX0_end_0 : decode cX0_end 0 = .ok (.aload_n 0, 1) := dk_42 (dk_at dksX0_end_0 0 rfl rfl)
theorem dX0_end_1 : decode cX0_end 1 = .ok (.getfield 18, 3) := dk_180 0 18 (dk_at dksX0_end_0 1 rfl rfl)
theorem dX0_end_4 : decode cX0_end 4 = .ok (.iload_n 1, 1) := dk_27 (dk_at dksX0_end_0 4 rfl rfl)
theorem dX0_end_5 : decode cX0_end 5 = .ok (.invokevirtual 79, 3) := dk_182 0 79 (dk_at dksX0_end_0 5 rfl rfl)
theorem dX0_end_8 : decode cX0_end 8 = .ok (.ifCond .ne 6, 3) := dk_154 0 6 (dk_at dksX0_end_0 8 rfl rfl)
theorem dX0_end_11 : decode cX0_end 11 = .ok (.bipush (-11), 2) := dk_16 245 (dk_at dksX0_end_0 11 rfl rfl)
theorem dX0_end_13 : decode cX0_end 13 = .ok (.ireturn, 1) := dk_172 (dk_at dksX0_end_0 13 rfl rfl)
theorem dX0_end_14 : decode cX0_end 14 = .ok (.aload_n 0, 1) := dk_42 (dk_at dksX0_end_0 14 rfl rfl)
theorem dX0_end_15 : decode cX0_end 15 = .ok (.getfield 18, 3) := dk_180 0 18 (dk_at dksX0_end_0 15 rfl rfl)
theorem dX0_end_18 : decode cX0_end 18 = .ok (.invokevirtual 86, 3) := dk_182 0 86 (dk_at dksX0_end_0 18 rfl rfl)
theorem dX0_end_21 : decode cX0_end 21 = .ok (.astore_n 2, 1) := dk_77 (dk_at dksX0_end_0 21 rfl rfl)
theorem dX0_end_22 : decode cX0_end 22 = .ok (.aload_n 0, 1) := dk_42 (dk_at dksX0_end_0 22 rfl rfl)
theorem dX0_end_23 : decode cX0_end 23 = .ok (.aload_n 2, 1) := dk_44 (dk_at dksX0_end_0 23 rfl rfl)
theorem dX0_end_24 : decode cX0_end 24 = .ok (.aload_n 0, 1) := dk_42 (dk_at dksX0_end_1 0 rfl rfl)
theorem dX0_end_25 : decode cX0_end 25 = .ok (.getfield 18, 3) := dk_180 0 18 (dk_at dksX0_end_1 1 rfl rfl)
theorem dX0_end_28 : decode cX0_end 28 = .ok (.iload_n 1, 1) := dk_27 (dk_at dksX0_end_1 4 rfl rfl)
theorem dX0_end_29 : decode cX0_end 29 = .ok (.aload_n 0, 1) := dk_42 (dk_at dksX0_end_1 5 rfl rfl)
theorem dX0_end_30 : decode cX0_end 30 = .ok (.getfield 11, 3) := dk_180 0 11 (dk_at dksX0_end_1 6 rfl rfl)
theorem dX0_end_33 : decode cX0_end 33 = .ok (.invokevirtual 113, 3) := dk_182 0 113 (dk_at dksX0_end_1 9 rfl rfl)
theorem dX0_end_36 : decode cX0_end 36 = .ok (.invokevirtual 93, 3) := dk_182 0 93 (dk_at dksX0_end_1 12 rfl rfl)
theorem dX0_end_39 : decode cX0_end 39 = .ok (.ireturn, 1) := dk_172 (dk_at dksX0_end_1 15 rfl rfl)
abbrev cX0_holds : ByteArray := prog_1_method_14_code
def yX0_holds : MethodName := ⟨RX0, "holds", "(II)I"⟩
def dkwX0_holds_1 : List UInt8 := [16, 245, 172]
abbrev dktX0_holds_1 : List UInt8 := dkwX0_holds_1 ++ []
def dkwX0_holds_0 : List UInt8 := [42, 27, 28, 182, 0, 101, 153, 0, 17, 42, 180, 0, 18, 180, 0, 117, 27, 50, 28, 53, 167, 0, 5]
abbrev dktX0_holds_0 : List UInt8 := dkwX0_holds_0 ++ dktX0_holds_1
theorem dksX0_holds_0 : cX0_holds.data.toList.drop 0 = dktX0_holds_0 := by decide +kernel
theorem dksX0_holds_1 : cX0_holds.data.toList.drop 23 = dktX0_holds_1 := dk_seg dksX0_holds_0 23 rfl rfl
theorem dX0_holds_0 : decode cX0_holds 0 = .ok (.aload_n 0, 1) := dk_42 (dk_at dksX0_holds_0 0 rfl rfl)
theorem dX0_holds_1 : decode cX0_holds 1 = .ok (.iload_n 1, 1) := dk_27 (dk_at dksX0_holds_0 1 rfl rfl)
theorem dX0_holds_2 : decode cX0_holds 2 = .ok (.iload_n 2, 1) := dk_28 (dk_at dksX0_holds_0 2 rfl rfl)
theorem dX0_holds_3 : decode cX0_holds 3 = .ok (.invokevirtual 101, 3) := dk_182 0 101 (dk_at dksX0_holds_0 3 rfl rfl)
theorem dX0_holds_6 : decode cX0_holds 6 = .ok (.ifCond .eq 17, 3) := dk_153 0 17 (dk_at dksX0_holds_0 6 rfl rfl)
theorem dX0_holds_9 : decode cX0_holds 9 = .ok (.aload_n 0, 1) := dk_42 (dk_at dksX0_holds_0 9 rfl rfl)
theorem dX0_holds_10 : decode cX0_holds 10 = .ok (.getfield 18, 3) := dk_180 0 18 (dk_at dksX0_holds_0 10 rfl rfl)
theorem dX0_holds_13 : decode cX0_holds 13 = .ok (.getfield 117, 3) := dk_180 0 117 (dk_at dksX0_holds_0 13 rfl rfl)
theorem dX0_holds_16 : decode cX0_holds 16 = .ok (.iload_n 1, 1) := dk_27 (dk_at dksX0_holds_0 16 rfl rfl)
theorem dX0_holds_17 : decode cX0_holds 17 = .ok (.aaload, 1) := dk_50 (dk_at dksX0_holds_0 17 rfl rfl)
theorem dX0_holds_18 : decode cX0_holds 18 = .ok (.iload_n 2, 1) := dk_28 (dk_at dksX0_holds_0 18 rfl rfl)
theorem dX0_holds_19 : decode cX0_holds 19 = .ok (.saload, 1) := dk_53 (dk_at dksX0_holds_0 19 rfl rfl)
theorem dX0_holds_20 : decode cX0_holds 20 = .ok (.goto 5, 3) := dk_167 0 5 (dk_at dksX0_holds_0 20 rfl rfl)
theorem dX0_holds_23 : decode cX0_holds 23 = .ok (.bipush (-11), 2) := dk_16 245 (dk_at dksX0_holds_1 0 rfl rfl)
theorem dX0_holds_25 : decode cX0_holds 25 = .ok (.ireturn, 1) := dk_172 (dk_at dksX0_holds_1 2 rfl rfl)
abbrev cX0_maidOf : ByteArray := prog_1_method_15_code
def yX0_maidOf : MethodName := ⟨RX0, "maidOf", "(II)I"⟩
def dkwX0_maidOf_1 : List UInt8 := [16, 245, 172]
abbrev dktX0_maidOf_1 : List UInt8 := dkwX0_maidOf_1 ++ []
def dkwX0_maidOf_0 : List UInt8 := [42, 180, 0, 18, 27, 182, 0, 79, 153, 0, 15, 42, 180, 0, 18, 27, 28, 182, 0, 121, 167, 0, 5]
abbrev dktX0_maidOf_0 : List UInt8 := dkwX0_maidOf_0 ++ dktX0_maidOf_1
theorem dksX0_maidOf_0 : cX0_maidOf.data.toList.drop 0 = dktX0_maidOf_0 := by decide +kernel
theorem dksX0_maidOf_1 : cX0_maidOf.data.toList.drop 23 = dktX0_maidOf_1 := dk_seg dksX0_maidOf_0 23 rfl rfl
theorem dX0_maidOf_0 : decode cX0_maidOf 0 = .ok (.aload_n 0, 1) := dk_42 (dk_at dksX0_maidOf_0 0 rfl rfl)
theorem dX0_maidOf_1 : decode cX0_maidOf 1 = .ok (.getfield 18, 3) := dk_180 0 18 (dk_at dksX0_maidOf_0 1 rfl rfl)
theorem dX0_maidOf_4 : decode cX0_maidOf 4 = .ok (.iload_n 1, 1) := dk_27 (dk_at dksX0_maidOf_0 4 rfl rfl)
theorem dX0_maidOf_5 : decode cX0_maidOf 5 = .ok (.invokevirtual 79, 3) := dk_182 0 79 (dk_at dksX0_maidOf_0 5 rfl rfl)
theorem dX0_maidOf_8 : decode cX0_maidOf 8 = .ok (.ifCond .eq 15, 3) := dk_153 0 15 (dk_at dksX0_maidOf_0 8 rfl rfl)
theorem dX0_maidOf_11 : decode cX0_maidOf 11 = .ok (.aload_n 0, 1) := dk_42 (dk_at dksX0_maidOf_0 11 rfl rfl)
theorem dX0_maidOf_12 : decode cX0_maidOf 12 = .ok (.getfield 18, 3) := dk_180 0 18 (dk_at dksX0_maidOf_0 12 rfl rfl)
theorem dX0_maidOf_15 : decode cX0_maidOf 15 = .ok (.iload_n 1, 1) := dk_27 (dk_at dksX0_maidOf_0 15 rfl rfl)
theorem dX0_maidOf_16 : decode cX0_maidOf 16 = .ok (.iload_n 2, 1) := dk_28 (dk_at dksX0_maidOf_0 16 rfl rfl)
theorem dX0_maidOf_17 : decode cX0_maidOf 17 = .ok (.invokevirtual 121, 3) := dk_182 0 121 (dk_at dksX0_maidOf_0 17 rfl rfl)
theorem dX0_maidOf_20 : decode cX0_maidOf 20 = .ok (.goto 5, 3) := dk_167 0 5 (dk_at dksX0_maidOf_0 20 rfl rfl)
theorem dX0_maidOf_23 : decode cX0_maidOf 23 = .ok (.bipush (-11), 2) := dk_16 245 (dk_at dksX0_maidOf_1 0 rfl rfl)
theorem dX0_maidOf_25 : decode cX0_maidOf 25 = .ok (.ireturn, 1) := dk_172 (dk_at dksX0_maidOf_1 2 rfl rfl)
abbrev cX0_heldBy : ByteArray := prog_1_method_16_code
def yX0_heldBy : MethodName := ⟨RX0, "heldBy", "(II)I"⟩
def dkwX0_heldBy_1 : List UInt8 := [16, 245, 172]
abbrev dktX0_heldBy_1 : List UInt8 := dkwX0_heldBy_1 ++ []
def dkwX0_heldBy_0 : List UInt8 := [42, 180, 0, 18, 27, 182, 0, 79, 153, 0, 15, 42, 180, 0, 18, 27, 28, 182, 0, 125, 167, 0, 5]
abbrev dktX0_heldBy_0 : List UInt8 := dkwX0_heldBy_0 ++ dktX0_heldBy_1
theorem dksX0_heldBy_0 : cX0_heldBy.data.toList.drop 0 = dktX0_heldBy_0 := by decide +kernel
theorem dksX0_heldBy_1 : cX0_heldBy.data.toList.drop 23 = dktX0_heldBy_1 := dk_seg dksX0_heldBy_0 23 rfl rfl
theorem dX0_heldBy_0 : decode cX0_heldBy 0 = .ok (.aload_n 0, 1) := dk_42 (dk_at dksX0_heldBy_0 0 rfl rfl)
theorem dX0_heldBy_1 : decode cX0_heldBy 1 = .ok (.getfield 18, 3) := dk_180 0 18 (dk_at dksX0_heldBy_0 1 rfl rfl)
theorem dX0_heldBy_4 : decode cX0_heldBy 4 = .ok (.iload_n 1, 1) := dk_27 (dk_at dksX0_heldBy_0 4 rfl rfl)
theorem dX0_heldBy_5 : decode cX0_heldBy 5 = .ok (.invokevirtual 79, 3) := dk_182 0 79 (dk_at dksX0_heldBy_0 5 rfl rfl)
theorem dX0_heldBy_8 : decode cX0_heldBy 8 = .ok (.ifCond .eq 15, 3) := dk_153 0 15 (dk_at dksX0_heldBy_0 8 rfl rfl)
theorem dX0_heldBy_11 : decode cX0_heldBy 11 = .ok (.aload_n 0, 1) := dk_42 (dk_at dksX0_heldBy_0 11 rfl rfl)
theorem dX0_heldBy_12 : decode cX0_heldBy 12 = .ok (.getfield 18, 3) := dk_180 0 18 (dk_at dksX0_heldBy_0 12 rfl rfl)
theorem dX0_heldBy_15 : decode cX0_heldBy 15 = .ok (.iload_n 1, 1) := dk_27 (dk_at dksX0_heldBy_0 15 rfl rfl)
theorem dX0_heldBy_16 : decode cX0_heldBy 16 = .ok (.iload_n 2, 1) := dk_28 (dk_at dksX0_heldBy_0 16 rfl rfl)
theorem dX0_heldBy_17 : decode cX0_heldBy 17 = .ok (.invokevirtual 125, 3) := dk_182 0 125 (dk_at dksX0_heldBy_0 17 rfl rfl)
theorem dX0_heldBy_20 : decode cX0_heldBy 20 = .ok (.goto 5, 3) := dk_167 0 5 (dk_at dksX0_heldBy_0 20 rfl rfl)
theorem dX0_heldBy_23 : decode cX0_heldBy 23 = .ok (.bipush (-11), 2) := dk_16 245 (dk_at dksX0_heldBy_1 0 rfl rfl)
theorem dX0_heldBy_25 : decode cX0_heldBy 25 = .ok (.ireturn, 1) := dk_172 (dk_at dksX0_heldBy_1 2 rfl rfl)
abbrev cX0_shelfOf : ByteArray := prog_1_method_17_code
def yX0_shelfOf : MethodName := ⟨RX0, "shelfOf", "(II)I"⟩
def dkwX0_shelfOf_0 : List UInt8 := [27, 184, 0, 83, 153, 0, 15, 42, 180, 0, 18, 27, 28, 182, 0, 128, 167, 0, 5, 16, 245, 172]
abbrev dktX0_shelfOf_0 : List UInt8 := dkwX0_shelfOf_0 ++ []
theorem dksX0_shelfOf_0 : cX0_shelfOf.data.toList.drop 0 = dktX0_shelfOf_0 := by decide +kernel
theorem dX0_shelfOf_0 : decode cX0_shelfOf 0 = .ok (.iload_n 1, 1) := dk_27 (dk_at dksX0_shelfOf_0 0 rfl rfl)
theorem dX0_shelfOf_1 : decode cX0_shelfOf 1 = .ok (.invokestatic 83, 3) := dk_184 0 83 (dk_at dksX0_shelfOf_0 1 rfl rfl)
theorem dX0_shelfOf_4 : decode cX0_shelfOf 4 = .ok (.ifCond .eq 15, 3) := dk_153 0 15 (dk_at dksX0_shelfOf_0 4 rfl rfl)
theorem dX0_shelfOf_7 : decode cX0_shelfOf 7 = .ok (.aload_n 0, 1) := dk_42 (dk_at dksX0_shelfOf_0 7 rfl rfl)
theorem dX0_shelfOf_8 : decode cX0_shelfOf 8 = .ok (.getfield 18, 3) := dk_180 0 18 (dk_at dksX0_shelfOf_0 8 rfl rfl)
theorem dX0_shelfOf_11 : decode cX0_shelfOf 11 = .ok (.iload_n 1, 1) := dk_27 (dk_at dksX0_shelfOf_0 11 rfl rfl)
theorem dX0_shelfOf_12 : decode cX0_shelfOf 12 = .ok (.iload_n 2, 1) := dk_28 (dk_at dksX0_shelfOf_0 12 rfl rfl)
theorem dX0_shelfOf_13 : decode cX0_shelfOf 13 = .ok (.invokevirtual 128, 3) := dk_182 0 128 (dk_at dksX0_shelfOf_0 13 rfl rfl)
theorem dX0_shelfOf_16 : decode cX0_shelfOf 16 = .ok (.goto 5, 3) := dk_167 0 5 (dk_at dksX0_shelfOf_0 16 rfl rfl)
theorem dX0_shelfOf_19 : decode cX0_shelfOf 19 = .ok (.bipush (-11), 2) := dk_16 245 (dk_at dksX0_shelfOf_0 19 rfl rfl)
theorem dX0_shelfOf_21 : decode cX0_shelfOf 21 = .ok (.ireturn, 1) := dk_172 (dk_at dksX0_shelfOf_0 21 rfl rfl)
abbrev cX0_holder : ByteArray := prog_1_method_18_code
def yX0_holder : MethodName := ⟨RX0, "holder", "(II)I"⟩
def dkwX0_holder_0 : List UInt8 := [27, 184, 0, 83, 153, 0, 15, 42, 180, 0, 18, 27, 28, 182, 0, 131, 167, 0, 5, 16, 245, 172]
abbrev dktX0_holder_0 : List UInt8 := dkwX0_holder_0 ++ []
theorem dksX0_holder_0 : cX0_holder.data.toList.drop 0 = dktX0_holder_0 := by decide +kernel
theorem dX0_holder_0 : decode cX0_holder 0 = .ok (.iload_n 1, 1) := dk_27 (dk_at dksX0_holder_0 0 rfl rfl)
theorem dX0_holder_1 : decode cX0_holder 1 = .ok (.invokestatic 83, 3) := dk_184 0 83 (dk_at dksX0_holder_0 1 rfl rfl)
theorem dX0_holder_4 : decode cX0_holder 4 = .ok (.ifCond .eq 15, 3) := dk_153 0 15 (dk_at dksX0_holder_0 4 rfl rfl)
theorem dX0_holder_7 : decode cX0_holder 7 = .ok (.aload_n 0, 1) := dk_42 (dk_at dksX0_holder_0 7 rfl rfl)
theorem dX0_holder_8 : decode cX0_holder 8 = .ok (.getfield 18, 3) := dk_180 0 18 (dk_at dksX0_holder_0 8 rfl rfl)
theorem dX0_holder_11 : decode cX0_holder 11 = .ok (.iload_n 1, 1) := dk_27 (dk_at dksX0_holder_0 11 rfl rfl)
theorem dX0_holder_12 : decode cX0_holder 12 = .ok (.iload_n 2, 1) := dk_28 (dk_at dksX0_holder_0 12 rfl rfl)
theorem dX0_holder_13 : decode cX0_holder 13 = .ok (.invokevirtual 131, 3) := dk_182 0 131 (dk_at dksX0_holder_0 13 rfl rfl)
theorem dX0_holder_16 : decode cX0_holder 16 = .ok (.goto 5, 3) := dk_167 0 5 (dk_at dksX0_holder_0 16 rfl rfl)
theorem dX0_holder_19 : decode cX0_holder 19 = .ok (.bipush (-11), 2) := dk_16 245 (dk_at dksX0_holder_0 19 rfl rfl)
theorem dX0_holder_21 : decode cX0_holder 21 = .ok (.ireturn, 1) := dk_172 (dk_at dksX0_holder_0 21 rfl rfl)
abbrev cX0_waiter : ByteArray := prog_1_method_19_code
def yX0_waiter : MethodName := ⟨RX0, "waiter", "(II)I"⟩
def dkwX0_waiter_2 : List UInt8 := [192, 0, 144, 28, 182, 0, 147, 192, 0, 148, 180, 0, 150, 167, 0, 5, 16, 245, 172]
abbrev dktX0_waiter_2 : List UInt8 := dkwX0_waiter_2 ++ []
def dkwX0_waiter_1 : List UInt8 := [182, 0, 146, 4, 100, 184, 0, 46, 153, 0, 30, 42, 180, 0, 18, 180, 0, 134, 27, 182, 0, 138]
abbrev dktX0_waiter_1 : List UInt8 := dkwX0_waiter_1 ++ dktX0_waiter_2
def dkwX0_waiter_0 : List UInt8 := [27, 184, 0, 83, 153, 0, 57, 28, 3, 42, 180, 0, 18, 180, 0, 134, 27, 182, 0, 138, 192, 0, 144]
abbrev dktX0_waiter_0 : List UInt8 := dkwX0_waiter_0 ++ dktX0_waiter_1
theorem dksX0_waiter_0 : cX0_waiter.data.toList.drop 0 = dktX0_waiter_0 := by decide +kernel
theorem dksX0_waiter_1 : cX0_waiter.data.toList.drop 23 = dktX0_waiter_1 := dk_seg dksX0_waiter_0 23 rfl rfl
theorem dksX0_waiter_2 : cX0_waiter.data.toList.drop 45 = dktX0_waiter_2 := dk_seg dksX0_waiter_1 22 rfl rfl
theorem dX0_waiter_0 : decode cX0_waiter 0 = .ok (.iload_n 1, 1) := dk_27 (dk_at dksX0_waiter_0 0 rfl rfl)
theorem dX0_waiter_1 : decode cX0_waiter 1 = .ok (.invokestatic 83, 3) := dk_184 0 83 (dk_at dksX0_waiter_0 1 rfl rfl)
theorem dX0_waiter_4 : decode cX0_waiter 4 = .ok (.ifCond .eq 57, 3) := dk_153 0 57 (dk_at dksX0_waiter_0 4 rfl rfl)
theorem dX0_waiter_7 : decode cX0_waiter 7 = .ok (.iload_n 2, 1) := dk_28 (dk_at dksX0_waiter_0 7 rfl rfl)
theorem dX0_waiter_8 : decode cX0_waiter 8 = .ok (.iconst 0, 1) := dk_3 (dk_at dksX0_waiter_0 8 rfl rfl)
theorem dX0_waiter_9 : decode cX0_waiter 9 = .ok (.aload_n 0, 1) := dk_42 (dk_at dksX0_waiter_0 9 rfl rfl)
theorem dX0_waiter_10 : decode cX0_waiter 10 = .ok (.getfield 18, 3) := dk_180 0 18 (dk_at dksX0_waiter_0 10 rfl rfl)
theorem dX0_waiter_13 : decode cX0_waiter 13 = .ok (.getfield 134, 3) := dk_180 0 134 (dk_at dksX0_waiter_0 13 rfl rfl)
theorem dX0_waiter_16 : decode cX0_waiter 16 = .ok (.iload_n 1, 1) := dk_27 (dk_at dksX0_waiter_0 16 rfl rfl)
theorem dX0_waiter_17 : decode cX0_waiter 17 = .ok (.invokevirtual 138, 3) := dk_182 0 138 (dk_at dksX0_waiter_0 17 rfl rfl)
theorem dX0_waiter_20 : decode cX0_waiter 20 = .ok (.checkcast 144, 3) := dk_192 0 144 (dk_at dksX0_waiter_0 20 rfl rfl)
theorem dX0_waiter_23 : decode cX0_waiter 23 = .ok (.invokevirtual 146, 3) := dk_182 0 146 (dk_at dksX0_waiter_1 0 rfl rfl)
theorem dX0_waiter_26 : decode cX0_waiter 26 = .ok (.iconst 1, 1) := dk_4 (dk_at dksX0_waiter_1 3 rfl rfl)
theorem dX0_waiter_27 : decode cX0_waiter 27 = .ok (.isub, 1) := dk_100 (dk_at dksX0_waiter_1 4 rfl rfl)
theorem dX0_waiter_28 : decode cX0_waiter 28 = .ok (.invokestatic 46, 3) := dk_184 0 46 (dk_at dksX0_waiter_1 5 rfl rfl)
theorem dX0_waiter_31 : decode cX0_waiter 31 = .ok (.ifCond .eq 30, 3) := dk_153 0 30 (dk_at dksX0_waiter_1 8 rfl rfl)
theorem dX0_waiter_34 : decode cX0_waiter 34 = .ok (.aload_n 0, 1) := dk_42 (dk_at dksX0_waiter_1 11 rfl rfl)
theorem dX0_waiter_35 : decode cX0_waiter 35 = .ok (.getfield 18, 3) := dk_180 0 18 (dk_at dksX0_waiter_1 12 rfl rfl)
theorem dX0_waiter_38 : decode cX0_waiter 38 = .ok (.getfield 134, 3) := dk_180 0 134 (dk_at dksX0_waiter_1 15 rfl rfl)
theorem dX0_waiter_41 : decode cX0_waiter 41 = .ok (.iload_n 1, 1) := dk_27 (dk_at dksX0_waiter_1 18 rfl rfl)
theorem dX0_waiter_42 : decode cX0_waiter 42 = .ok (.invokevirtual 138, 3) := dk_182 0 138 (dk_at dksX0_waiter_1 19 rfl rfl)
theorem dX0_waiter_45 : decode cX0_waiter 45 = .ok (.checkcast 144, 3) := dk_192 0 144 (dk_at dksX0_waiter_2 0 rfl rfl)
theorem dX0_waiter_48 : decode cX0_waiter 48 = .ok (.iload_n 2, 1) := dk_28 (dk_at dksX0_waiter_2 3 rfl rfl)
theorem dX0_waiter_49 : decode cX0_waiter 49 = .ok (.invokevirtual 147, 3) := dk_182 0 147 (dk_at dksX0_waiter_2 4 rfl rfl)
theorem dX0_waiter_52 : decode cX0_waiter 52 = .ok (.checkcast 148, 3) := dk_192 0 148 (dk_at dksX0_waiter_2 7 rfl rfl)
theorem dX0_waiter_55 : decode cX0_waiter 55 = .ok (.getfield 150, 3) := dk_180 0 150 (dk_at dksX0_waiter_2 10 rfl rfl)
theorem dX0_waiter_58 : decode cX0_waiter 58 = .ok (.goto 5, 3) := dk_167 0 5 (dk_at dksX0_waiter_2 13 rfl rfl)
theorem dX0_waiter_61 : decode cX0_waiter 61 = .ok (.bipush (-11), 2) := dk_16 245 (dk_at dksX0_waiter_2 16 rfl rfl)
theorem dX0_waiter_63 : decode cX0_waiter 63 = .ok (.ireturn, 1) := dk_172 (dk_at dksX0_waiter_2 18 rfl rfl)
abbrev cX0_wouldRing : ByteArray := prog_1_method_21_code
def yX0_wouldRing : MethodName := ⟨RX0, "wouldRing", "(IIZ)I"⟩
def dkwX0_wouldRing_0 : List UInt8 := [42, 27, 28, 29, 3, 182, 0, 163, 172]
abbrev dktX0_wouldRing_0 : List UInt8 := dkwX0_wouldRing_0 ++ []
theorem dksX0_wouldRing_0 : cX0_wouldRing.data.toList.drop 0 = dktX0_wouldRing_0 := by decide +kernel
theorem dX0_wouldRing_0 : decode cX0_wouldRing 0 = .ok (.aload_n 0, 1) := dk_42 (dk_at dksX0_wouldRing_0 0 rfl rfl)
theorem dX0_wouldRing_1 : decode cX0_wouldRing 1 = .ok (.iload_n 1, 1) := dk_27 (dk_at dksX0_wouldRing_0 1 rfl rfl)
theorem dX0_wouldRing_2 : decode cX0_wouldRing 2 = .ok (.iload_n 2, 1) := dk_28 (dk_at dksX0_wouldRing_0 2 rfl rfl)
theorem dX0_wouldRing_3 : decode cX0_wouldRing 3 = .ok (.iload_n 3, 1) := dk_29 (dk_at dksX0_wouldRing_0 3 rfl rfl)
theorem dX0_wouldRing_4 : decode cX0_wouldRing 4 = .ok (.iconst 0, 1) := dk_3 (dk_at dksX0_wouldRing_0 4 rfl rfl)
theorem dX0_wouldRing_5 : decode cX0_wouldRing 5 = .ok (.invokevirtual 163, 3) := dk_182 0 163 (dk_at dksX0_wouldRing_0 5 rfl rfl)
theorem dX0_wouldRing_8 : decode cX0_wouldRing 8 = .ok (.ireturn, 1) := dk_172 (dk_at dksX0_wouldRing_0 8 rfl rfl)
abbrev cX0_rings : ByteArray := prog_1_method_20_code
def yX0_rings : MethodName := ⟨RX0, "rings", "(IIZZ)I"⟩
def dkwX0_rings_2 : List UInt8 := [27, 182, 0, 160, 153, 0, 7, 4, 167, 0, 4, 3, 172, 58, 5, 3, 172]
abbrev dktX0_rings_2 : List UInt8 := dkwX0_rings_2 ++ []
def dkwX0_rings_1 : List UInt8 := [182, 0, 153, 58, 5, 21, 4, 153, 0, 15, 25, 5, 27, 182, 0, 157, 153, 0, 19, 167, 0, 12, 25, 5]
abbrev dktX0_rings_1 : List UInt8 := dkwX0_rings_1 ++ dktX0_rings_2
def dkwX0_rings_0 : List UInt8 := [42, 27, 28, 182, 0, 101, 154, 0, 6, 16, 245, 172, 42, 180, 0, 18, 27, 28, 29, 42, 180, 0, 11]
abbrev dktX0_rings_0 : List UInt8 := dkwX0_rings_0 ++ dktX0_rings_1
theorem dksX0_rings_0 : cX0_rings.data.toList.drop 0 = dktX0_rings_0 := by decide +kernel
theorem dksX0_rings_1 : cX0_rings.data.toList.drop 23 = dktX0_rings_1 := dk_seg dksX0_rings_0 23 rfl rfl
theorem dksX0_rings_2 : cX0_rings.data.toList.drop 47 = dktX0_rings_2 := dk_seg dksX0_rings_1 24 rfl rfl
theorem dX0_rings_0 : decode cX0_rings 0 = .ok (.aload_n 0, 1) := dk_42 (dk_at dksX0_rings_0 0 rfl rfl)
theorem dX0_rings_1 : decode cX0_rings 1 = .ok (.iload_n 1, 1) := dk_27 (dk_at dksX0_rings_0 1 rfl rfl)
theorem dX0_rings_2 : decode cX0_rings 2 = .ok (.iload_n 2, 1) := dk_28 (dk_at dksX0_rings_0 2 rfl rfl)
theorem dX0_rings_3 : decode cX0_rings 3 = .ok (.invokevirtual 101, 3) := dk_182 0 101 (dk_at dksX0_rings_0 3 rfl rfl)
theorem dX0_rings_6 : decode cX0_rings 6 = .ok (.ifCond .ne 6, 3) := dk_154 0 6 (dk_at dksX0_rings_0 6 rfl rfl)
theorem dX0_rings_9 : decode cX0_rings 9 = .ok (.bipush (-11), 2) := dk_16 245 (dk_at dksX0_rings_0 9 rfl rfl)
theorem dX0_rings_11 : decode cX0_rings 11 = .ok (.ireturn, 1) := dk_172 (dk_at dksX0_rings_0 11 rfl rfl)
theorem dX0_rings_12 : decode cX0_rings 12 = .ok (.aload_n 0, 1) := dk_42 (dk_at dksX0_rings_0 12 rfl rfl)
theorem dX0_rings_13 : decode cX0_rings 13 = .ok (.getfield 18, 3) := dk_180 0 18 (dk_at dksX0_rings_0 13 rfl rfl)
theorem dX0_rings_16 : decode cX0_rings 16 = .ok (.iload_n 1, 1) := dk_27 (dk_at dksX0_rings_0 16 rfl rfl)
theorem dX0_rings_17 : decode cX0_rings 17 = .ok (.iload_n 2, 1) := dk_28 (dk_at dksX0_rings_0 17 rfl rfl)
theorem dX0_rings_18 : decode cX0_rings 18 = .ok (.iload_n 3, 1) := dk_29 (dk_at dksX0_rings_0 18 rfl rfl)
theorem dX0_rings_19 : decode cX0_rings 19 = .ok (.aload_n 0, 1) := dk_42 (dk_at dksX0_rings_0 19 rfl rfl)
theorem dX0_rings_20 : decode cX0_rings 20 = .ok (.getfield 11, 3) := dk_180 0 11 (dk_at dksX0_rings_0 20 rfl rfl)
theorem dX0_rings_23 : decode cX0_rings 23 = .ok (.invokevirtual 153, 3) := dk_182 0 153 (dk_at dksX0_rings_1 0 rfl rfl)
theorem dX0_rings_26 : decode cX0_rings 26 = .ok (.astore 5, 2) := dk_58 5 (dk_at dksX0_rings_1 3 rfl rfl)
theorem dX0_rings_28 : decode cX0_rings 28 = .ok (.iload 4, 2) := dk_21 4 (dk_at dksX0_rings_1 5 rfl rfl)
theorem dX0_rings_30 : decode cX0_rings 30 = .ok (.ifCond .eq 15, 3) := dk_153 0 15 (dk_at dksX0_rings_1 7 rfl rfl)
theorem dX0_rings_33 : decode cX0_rings 33 = .ok (.aload 5, 2) := dk_25 5 (dk_at dksX0_rings_1 10 rfl rfl)
theorem dX0_rings_35 : decode cX0_rings 35 = .ok (.iload_n 1, 1) := dk_27 (dk_at dksX0_rings_1 12 rfl rfl)
theorem dX0_rings_36 : decode cX0_rings 36 = .ok (.invokevirtual 157, 3) := dk_182 0 157 (dk_at dksX0_rings_1 13 rfl rfl)
theorem dX0_rings_39 : decode cX0_rings 39 = .ok (.ifCond .eq 19, 3) := dk_153 0 19 (dk_at dksX0_rings_1 16 rfl rfl)
theorem dX0_rings_42 : decode cX0_rings 42 = .ok (.goto 12, 3) := dk_167 0 12 (dk_at dksX0_rings_1 19 rfl rfl)
theorem dX0_rings_45 : decode cX0_rings 45 = .ok (.aload 5, 2) := dk_25 5 (dk_at dksX0_rings_1 22 rfl rfl)
theorem dX0_rings_47 : decode cX0_rings 47 = .ok (.iload_n 1, 1) := dk_27 (dk_at dksX0_rings_2 0 rfl rfl)
theorem dX0_rings_48 : decode cX0_rings 48 = .ok (.invokevirtual 160, 3) := dk_182 0 160 (dk_at dksX0_rings_2 1 rfl rfl)
theorem dX0_rings_51 : decode cX0_rings 51 = .ok (.ifCond .eq 7, 3) := dk_153 0 7 (dk_at dksX0_rings_2 4 rfl rfl)
theorem dX0_rings_54 : decode cX0_rings 54 = .ok (.iconst 1, 1) := dk_4 (dk_at dksX0_rings_2 7 rfl rfl)
theorem dX0_rings_55 : decode cX0_rings 55 = .ok (.goto 4, 3) := dk_167 0 4 (dk_at dksX0_rings_2 8 rfl rfl)
theorem dX0_rings_58 : decode cX0_rings 58 = .ok (.iconst 0, 1) := dk_3 (dk_at dksX0_rings_2 11 rfl rfl)
theorem dX0_rings_59 : decode cX0_rings 59 = .ok (.ireturn, 1) := dk_172 (dk_at dksX0_rings_2 12 rfl rfl)
theorem dX0_rings_60 : decode cX0_rings 60 = .ok (.astore 5, 2) := dk_58 5 (dk_at dksX0_rings_2 13 rfl rfl)
theorem dX0_rings_62 : decode cX0_rings 62 = .ok (.iconst 0, 1) := dk_3 (dk_at dksX0_rings_2 15 rfl rfl)
theorem dX0_rings_63 : decode cX0_rings 63 = .ok (.ireturn, 1) := dk_172 (dk_at dksX0_rings_2 16 rfl rfl)
abbrev cX0_wouldRingAgain : ByteArray := prog_1_method_22_code
def yX0_wouldRingAgain : MethodName := ⟨RX0, "wouldRingAgain", "(IIZ)I"⟩
def dkwX0_wouldRingAgain_0 : List UInt8 := [42, 27, 28, 29, 4, 182, 0, 163, 172]
abbrev dktX0_wouldRingAgain_0 : List UInt8 := dkwX0_wouldRingAgain_0 ++ []
theorem dksX0_wouldRingAgain_0 : cX0_wouldRingAgain.data.toList.drop 0 = dktX0_wouldRingAgain_0 := by decide +kernel
theorem dX0_wouldRingAgain_0 : decode cX0_wouldRingAgain 0 = .ok (.aload_n 0, 1) := dk_42 (dk_at dksX0_wouldRingAgain_0 0 rfl rfl)
theorem dX0_wouldRingAgain_1 : decode cX0_wouldRingAgain 1 = .ok (.iload_n 1, 1) := dk_27 (dk_at dksX0_wouldRingAgain_0 1 rfl rfl)
theorem dX0_wouldRingAgain_2 : decode cX0_wouldRingAgain 2 = .ok (.iload_n 2, 1) := dk_28 (dk_at dksX0_wouldRingAgain_0 2 rfl rfl)
theorem dX0_wouldRingAgain_3 : decode cX0_wouldRingAgain 3 = .ok (.iload_n 3, 1) := dk_29 (dk_at dksX0_wouldRingAgain_0 3 rfl rfl)
theorem dX0_wouldRingAgain_4 : decode cX0_wouldRingAgain 4 = .ok (.iconst 1, 1) := dk_4 (dk_at dksX0_wouldRingAgain_0 4 rfl rfl)
theorem dX0_wouldRingAgain_5 : decode cX0_wouldRingAgain 5 = .ok (.invokevirtual 163, 3) := dk_182 0 163 (dk_at dksX0_wouldRingAgain_0 5 rfl rfl)
theorem dX0_wouldRingAgain_8 : decode cX0_wouldRingAgain 8 = .ok (.ireturn, 1) := dk_172 (dk_at dksX0_wouldRingAgain_0 8 rfl rfl)
abbrev cX0_would : ByteArray := prog_1_method_23_code
def yX0_would : MethodName := ⟨RX0, "would", "(IIZ)I"⟩
def dkwX0_would_1 : List UInt8 := [180, 0, 11, 182, 0, 105, 172, 58, 4, 16, 242, 172]
abbrev dktX0_would_1 : List UInt8 := dkwX0_would_1 ++ []
def dkwX0_would_0 : List UInt8 := [42, 27, 28, 182, 0, 101, 154, 0, 6, 16, 245, 172, 42, 180, 0, 18, 182, 0, 86, 27, 28, 29, 42]
abbrev dktX0_would_0 : List UInt8 := dkwX0_would_0 ++ dktX0_would_1
theorem dksX0_would_0 : cX0_would.data.toList.drop 0 = dktX0_would_0 := by decide +kernel
theorem dksX0_would_1 : cX0_would.data.toList.drop 23 = dktX0_would_1 := dk_seg dksX0_would_0 23 rfl rfl
theorem dX0_would_0 : decode cX0_would 0 = .ok (.aload_n 0, 1) := dk_42 (dk_at dksX0_would_0 0 rfl rfl)
theorem dX0_would_1 : decode cX0_would 1 = .ok (.iload_n 1, 1) := dk_27 (dk_at dksX0_would_0 1 rfl rfl)
theorem dX0_would_2 : decode cX0_would 2 = .ok (.iload_n 2, 1) := dk_28 (dk_at dksX0_would_0 2 rfl rfl)
theorem dX0_would_3 : decode cX0_would 3 = .ok (.invokevirtual 101, 3) := dk_182 0 101 (dk_at dksX0_would_0 3 rfl rfl)
theorem dX0_would_6 : decode cX0_would 6 = .ok (.ifCond .ne 6, 3) := dk_154 0 6 (dk_at dksX0_would_0 6 rfl rfl)
theorem dX0_would_9 : decode cX0_would 9 = .ok (.bipush (-11), 2) := dk_16 245 (dk_at dksX0_would_0 9 rfl rfl)
theorem dX0_would_11 : decode cX0_would 11 = .ok (.ireturn, 1) := dk_172 (dk_at dksX0_would_0 11 rfl rfl)
theorem dX0_would_12 : decode cX0_would 12 = .ok (.aload_n 0, 1) := dk_42 (dk_at dksX0_would_0 12 rfl rfl)
theorem dX0_would_13 : decode cX0_would 13 = .ok (.getfield 18, 3) := dk_180 0 18 (dk_at dksX0_would_0 13 rfl rfl)
theorem dX0_would_16 : decode cX0_would 16 = .ok (.invokevirtual 86, 3) := dk_182 0 86 (dk_at dksX0_would_0 16 rfl rfl)
theorem dX0_would_19 : decode cX0_would 19 = .ok (.iload_n 1, 1) := dk_27 (dk_at dksX0_would_0 19 rfl rfl)
theorem dX0_would_20 : decode cX0_would 20 = .ok (.iload_n 2, 1) := dk_28 (dk_at dksX0_would_0 20 rfl rfl)
theorem dX0_would_21 : decode cX0_would 21 = .ok (.iload_n 3, 1) := dk_29 (dk_at dksX0_would_0 21 rfl rfl)
theorem dX0_would_22 : decode cX0_would 22 = .ok (.aload_n 0, 1) := dk_42 (dk_at dksX0_would_0 22 rfl rfl)
theorem dX0_would_23 : decode cX0_would 23 = .ok (.getfield 11, 3) := dk_180 0 11 (dk_at dksX0_would_1 0 rfl rfl)
theorem dX0_would_26 : decode cX0_would 26 = .ok (.invokevirtual 105, 3) := dk_182 0 105 (dk_at dksX0_would_1 3 rfl rfl)
theorem dX0_would_29 : decode cX0_would 29 = .ok (.ireturn, 1) := dk_172 (dk_at dksX0_would_1 6 rfl rfl)
theorem dX0_would_30 : decode cX0_would 30 = .ok (.astore 4, 2) := dk_58 4 (dk_at dksX0_would_1 7 rfl rfl)
theorem dX0_would_32 : decode cX0_would 32 = .ok (.bipush (-14), 2) := dk_16 242 (dk_at dksX0_would_1 9 rfl rfl)
theorem dX0_would_34 : decode cX0_would 34 = .ok (.ireturn, 1) := dk_172 (dk_at dksX0_would_1 11 rfl rfl)
abbrev cX0_chain : ByteArray := prog_1_method_24_code
def yX0_chain : MethodName := ⟨RX0, "chain", "(I)I"⟩
def dkwX0_chain_1 : List UInt8 := [172]
abbrev dktX0_chain_1 : List UInt8 := dkwX0_chain_1 ++ []
def dkwX0_chain_0 : List UInt8 := [42, 180, 0, 18, 27, 182, 0, 79, 153, 0, 14, 42, 180, 0, 18, 27, 182, 0, 167, 167, 0, 5, 16, 245]
abbrev dktX0_chain_0 : List UInt8 := dkwX0_chain_0 ++ dktX0_chain_1
theorem dksX0_chain_0 : cX0_chain.data.toList.drop 0 = dktX0_chain_0 := by decide +kernel
theorem dksX0_chain_1 : cX0_chain.data.toList.drop 24 = dktX0_chain_1 := dk_seg dksX0_chain_0 24 rfl rfl
theorem dX0_chain_0 : decode cX0_chain 0 = .ok (.aload_n 0, 1) := dk_42 (dk_at dksX0_chain_0 0 rfl rfl)
theorem dX0_chain_1 : decode cX0_chain 1 = .ok (.getfield 18, 3) := dk_180 0 18 (dk_at dksX0_chain_0 1 rfl rfl)
theorem dX0_chain_4 : decode cX0_chain 4 = .ok (.iload_n 1, 1) := dk_27 (dk_at dksX0_chain_0 4 rfl rfl)
theorem dX0_chain_5 : decode cX0_chain 5 = .ok (.invokevirtual 79, 3) := dk_182 0 79 (dk_at dksX0_chain_0 5 rfl rfl)
theorem dX0_chain_8 : decode cX0_chain 8 = .ok (.ifCond .eq 14, 3) := dk_153 0 14 (dk_at dksX0_chain_0 8 rfl rfl)
theorem dX0_chain_11 : decode cX0_chain 11 = .ok (.aload_n 0, 1) := dk_42 (dk_at dksX0_chain_0 11 rfl rfl)
theorem dX0_chain_12 : decode cX0_chain 12 = .ok (.getfield 18, 3) := dk_180 0 18 (dk_at dksX0_chain_0 12 rfl rfl)
theorem dX0_chain_15 : decode cX0_chain 15 = .ok (.iload_n 1, 1) := dk_27 (dk_at dksX0_chain_0 15 rfl rfl)
theorem dX0_chain_16 : decode cX0_chain 16 = .ok (.invokevirtual 167, 3) := dk_182 0 167 (dk_at dksX0_chain_0 16 rfl rfl)
theorem dX0_chain_19 : decode cX0_chain 19 = .ok (.goto 5, 3) := dk_167 0 5 (dk_at dksX0_chain_0 19 rfl rfl)
theorem dX0_chain_22 : decode cX0_chain 22 = .ok (.bipush (-11), 2) := dk_16 245 (dk_at dksX0_chain_0 22 rfl rfl)
theorem dX0_chain_24 : decode cX0_chain 24 = .ok (.ireturn, 1) := dk_172 (dk_at dksX0_chain_1 0 rfl rfl)
abbrev cX0_waitedFor : ByteArray := prog_1_method_25_code
def yX0_waitedFor : MethodName := ⟨RX0, "waitedFor", "(I)I"⟩
def dkwX0_waitedFor_1 : List UInt8 := [172]
abbrev dktX0_waitedFor_1 : List UInt8 := dkwX0_waitedFor_1 ++ []
def dkwX0_waitedFor_0 : List UInt8 := [42, 180, 0, 18, 27, 182, 0, 79, 153, 0, 14, 42, 180, 0, 18, 27, 182, 0, 171, 167, 0, 5, 16, 245]
abbrev dktX0_waitedFor_0 : List UInt8 := dkwX0_waitedFor_0 ++ dktX0_waitedFor_1
theorem dksX0_waitedFor_0 : cX0_waitedFor.data.toList.drop 0 = dktX0_waitedFor_0 := by decide +kernel
theorem dksX0_waitedFor_1 : cX0_waitedFor.data.toList.drop 24 = dktX0_waitedFor_1 := dk_seg dksX0_waitedFor_0 24 rfl rfl
theorem dX0_waitedFor_0 : decode cX0_waitedFor 0 = .ok (.aload_n 0, 1) := dk_42 (dk_at dksX0_waitedFor_0 0 rfl rfl)
theorem dX0_waitedFor_1 : decode cX0_waitedFor 1 = .ok (.getfield 18, 3) := dk_180 0 18 (dk_at dksX0_waitedFor_0 1 rfl rfl)
theorem dX0_waitedFor_4 : decode cX0_waitedFor 4 = .ok (.iload_n 1, 1) := dk_27 (dk_at dksX0_waitedFor_0 4 rfl rfl)
theorem dX0_waitedFor_5 : decode cX0_waitedFor 5 = .ok (.invokevirtual 79, 3) := dk_182 0 79 (dk_at dksX0_waitedFor_0 5 rfl rfl)
theorem dX0_waitedFor_8 : decode cX0_waitedFor 8 = .ok (.ifCond .eq 14, 3) := dk_153 0 14 (dk_at dksX0_waitedFor_0 8 rfl rfl)
theorem dX0_waitedFor_11 : decode cX0_waitedFor 11 = .ok (.aload_n 0, 1) := dk_42 (dk_at dksX0_waitedFor_0 11 rfl rfl)
theorem dX0_waitedFor_12 : decode cX0_waitedFor 12 = .ok (.getfield 18, 3) := dk_180 0 18 (dk_at dksX0_waitedFor_0 12 rfl rfl)
theorem dX0_waitedFor_15 : decode cX0_waitedFor 15 = .ok (.iload_n 1, 1) := dk_27 (dk_at dksX0_waitedFor_0 15 rfl rfl)
theorem dX0_waitedFor_16 : decode cX0_waitedFor 16 = .ok (.invokevirtual 171, 3) := dk_182 0 171 (dk_at dksX0_waitedFor_0 16 rfl rfl)
theorem dX0_waitedFor_19 : decode cX0_waitedFor 19 = .ok (.goto 5, 3) := dk_167 0 5 (dk_at dksX0_waitedFor_0 19 rfl rfl)
theorem dX0_waitedFor_22 : decode cX0_waitedFor 22 = .ok (.bipush (-11), 2) := dk_16 245 (dk_at dksX0_waitedFor_0 22 rfl rfl)
theorem dX0_waitedFor_24 : decode cX0_waitedFor 24 = .ok (.ireturn, 1) := dk_172 (dk_at dksX0_waitedFor_1 0 rfl rfl)
abbrev cX0_needed : ByteArray := prog_1_method_26_code
def yX0_needed : MethodName := ⟨RX0, "needed", "(I)I"⟩
def dkwX0_needed_0 : List UInt8 := [42, 180, 0, 18, 27, 182, 0, 174, 172]
abbrev dktX0_needed_0 : List UInt8 := dkwX0_needed_0 ++ []
theorem dksX0_needed_0 : cX0_needed.data.toList.drop 0 = dktX0_needed_0 := by decide +kernel
theorem dX0_needed_0 : decode cX0_needed 0 = .ok (.aload_n 0, 1) := dk_42 (dk_at dksX0_needed_0 0 rfl rfl)
theorem dX0_needed_1 : decode cX0_needed 1 = .ok (.getfield 18, 3) := dk_180 0 18 (dk_at dksX0_needed_0 1 rfl rfl)
theorem dX0_needed_4 : decode cX0_needed 4 = .ok (.iload_n 1, 1) := dk_27 (dk_at dksX0_needed_0 4 rfl rfl)
theorem dX0_needed_5 : decode cX0_needed 5 = .ok (.invokevirtual 174, 3) := dk_182 0 174 (dk_at dksX0_needed_0 5 rfl rfl)
theorem dX0_needed_8 : decode cX0_needed 8 = .ok (.ireturn, 1) := dk_172 (dk_at dksX0_needed_0 8 rfl rfl)
abbrev cX0_ranked : ByteArray := prog_1_method_27_code
def yX0_ranked : MethodName := ⟨RX0, "ranked", "(I)I"⟩
def dkwX0_ranked_0 : List UInt8 := [42, 180, 0, 18, 27, 182, 0, 177, 172]
abbrev dktX0_ranked_0 : List UInt8 := dkwX0_ranked_0 ++ []
theorem dksX0_ranked_0 : cX0_ranked.data.toList.drop 0 = dktX0_ranked_0 := by decide +kernel
theorem dX0_ranked_0 : decode cX0_ranked 0 = .ok (.aload_n 0, 1) := dk_42 (dk_at dksX0_ranked_0 0 rfl rfl)
theorem dX0_ranked_1 : decode cX0_ranked 1 = .ok (.getfield 18, 3) := dk_180 0 18 (dk_at dksX0_ranked_0 1 rfl rfl)
theorem dX0_ranked_4 : decode cX0_ranked 4 = .ok (.iload_n 1, 1) := dk_27 (dk_at dksX0_ranked_0 4 rfl rfl)
theorem dX0_ranked_5 : decode cX0_ranked 5 = .ok (.invokevirtual 177, 3) := dk_182 0 177 (dk_at dksX0_ranked_0 5 rfl rfl)
theorem dX0_ranked_8 : decode cX0_ranked 8 = .ok (.ireturn, 1) := dk_172 (dk_at dksX0_ranked_0 8 rfl rfl)
abbrev cX0_append : ByteArray := prog_1_method_28_code
def yX0_append : MethodName := ⟨RX0, "append", "(I)I"⟩
def dkwX0_append_1 : List UInt8 := [160, 0, 6, 16, 243, 172, 42, 180, 0, 32, 27, 146, 182, 0, 183, 87, 42, 180, 0, 32, 182, 0, 180, 172]
abbrev dktX0_append_1 : List UInt8 := dkwX0_append_1 ++ []
def dkwX0_append_0 : List UInt8 := [27, 16, 32, 16, 126, 184, 0, 46, 154, 0, 6, 16, 244, 172, 42, 180, 0, 32, 182, 0, 180, 16, 60]
abbrev dktX0_append_0 : List UInt8 := dkwX0_append_0 ++ dktX0_append_1
theorem dksX0_append_0 : cX0_append.data.toList.drop 0 = dktX0_append_0 := by decide +kernel
theorem dksX0_append_1 : cX0_append.data.toList.drop 23 = dktX0_append_1 := dk_seg dksX0_append_0 23 rfl rfl
theorem dX0_append_0 : decode cX0_append 0 = .ok (.iload_n 1, 1) := dk_27 (dk_at dksX0_append_0 0 rfl rfl)
theorem dX0_append_1 : decode cX0_append 1 = .ok (.bipush 32, 2) := dk_16 32 (dk_at dksX0_append_0 1 rfl rfl)
theorem dX0_append_3 : decode cX0_append 3 = .ok (.bipush 126, 2) := dk_16 126 (dk_at dksX0_append_0 3 rfl rfl)
theorem dX0_append_5 : decode cX0_append 5 = .ok (.invokestatic 46, 3) := dk_184 0 46 (dk_at dksX0_append_0 5 rfl rfl)
theorem dX0_append_8 : decode cX0_append 8 = .ok (.ifCond .ne 6, 3) := dk_154 0 6 (dk_at dksX0_append_0 8 rfl rfl)
theorem dX0_append_11 : decode cX0_append 11 = .ok (.bipush (-12), 2) := dk_16 244 (dk_at dksX0_append_0 11 rfl rfl)
theorem dX0_append_13 : decode cX0_append 13 = .ok (.ireturn, 1) := dk_172 (dk_at dksX0_append_0 13 rfl rfl)
theorem dX0_append_14 : decode cX0_append 14 = .ok (.aload_n 0, 1) := dk_42 (dk_at dksX0_append_0 14 rfl rfl)
theorem dX0_append_15 : decode cX0_append 15 = .ok (.getfield 32, 3) := dk_180 0 32 (dk_at dksX0_append_0 15 rfl rfl)
theorem dX0_append_18 : decode cX0_append 18 = .ok (.invokevirtual 180, 3) := dk_182 0 180 (dk_at dksX0_append_0 18 rfl rfl)
theorem dX0_append_21 : decode cX0_append 21 = .ok (.bipush 60, 2) := dk_16 60 (dk_at dksX0_append_0 21 rfl rfl)
theorem dX0_append_23 : decode cX0_append 23 = .ok (.if_icmp .ne 6, 3) := dk_160 0 6 (dk_at dksX0_append_1 0 rfl rfl)
theorem dX0_append_26 : decode cX0_append 26 = .ok (.bipush (-13), 2) := dk_16 243 (dk_at dksX0_append_1 3 rfl rfl)
theorem dX0_append_28 : decode cX0_append 28 = .ok (.ireturn, 1) := dk_172 (dk_at dksX0_append_1 5 rfl rfl)
theorem dX0_append_29 : decode cX0_append 29 = .ok (.aload_n 0, 1) := dk_42 (dk_at dksX0_append_1 6 rfl rfl)
theorem dX0_append_30 : decode cX0_append 30 = .ok (.getfield 32, 3) := dk_180 0 32 (dk_at dksX0_append_1 7 rfl rfl)
theorem dX0_append_33 : decode cX0_append 33 = .ok (.iload_n 1, 1) := dk_27 (dk_at dksX0_append_1 10 rfl rfl)
theorem dX0_append_34 : decode cX0_append 34 = .ok (.i2c, 1) := dk_146 (dk_at dksX0_append_1 11 rfl rfl)
theorem dX0_append_35 : decode cX0_append 35 = .ok (.invokevirtual 183, 3) := dk_182 0 183 (dk_at dksX0_append_1 12 rfl rfl)
theorem dX0_append_38 : decode cX0_append 38 = .ok (.pop, 1) := dk_87 (dk_at dksX0_append_1 15 rfl rfl)
theorem dX0_append_39 : decode cX0_append 39 = .ok (.aload_n 0, 1) := dk_42 (dk_at dksX0_append_1 16 rfl rfl)
theorem dX0_append_40 : decode cX0_append 40 = .ok (.getfield 32, 3) := dk_180 0 32 (dk_at dksX0_append_1 17 rfl rfl)
theorem dX0_append_43 : decode cX0_append 43 = .ok (.invokevirtual 180, 3) := dk_182 0 180 (dk_at dksX0_append_1 20 rfl rfl)
theorem dX0_append_46 : decode cX0_append 46 = .ok (.ireturn, 1) := dk_172 (dk_at dksX0_append_1 23 rfl rfl)
abbrev cX0_run : ByteArray := prog_1_method_29_code
def yX0_run : MethodName := ⟨RX0, "run", "()I"⟩
def dkwX0_run_5 : List UInt8 := [44, 182, 0, 97, 62, 43, 182, 0, 211, 29, 172, 58, 7, 43, 182, 0, 211, 25, 7, 191]
abbrev dktX0_run_5 : List UInt8 := dkwX0_run_5 ++ []
def dkwX0_run_4 : List UInt8 := [182, 0, 211, 21, 6, 172, 77, 17, 252, 24, 44, 180, 0, 216, 100, 62, 43, 182, 0, 211, 29, 172, 77, 42]
abbrev dktX0_run_4 : List UInt8 := dkwX0_run_4 ++ dktX0_run_5
def dkwX0_run_3 : List UInt8 := [42, 180, 0, 18, 58, 5, 42, 45, 181, 0, 18, 42, 25, 5, 21, 4, 182, 0, 93, 54, 6, 43]
abbrev dktX0_run_3 : List UInt8 := dkwX0_run_3 ++ dktX0_run_4
def dkwX0_run_2 : List UInt8 := [154, 0, 7, 4, 167, 0, 4, 3, 8, 21, 4, 184, 0, 207, 45, 182, 0, 64, 132, 4, 1, 167, 255, 213]
abbrev dktX0_run_2 : List UInt8 := dkwX0_run_2 ++ dktX0_run_3
def dkwX0_run_1 : List UInt8 := [54, 4, 44, 182, 0, 196, 154, 0, 42, 44, 182, 0, 200, 192, 0, 201, 45, 42, 180, 0, 11, 182, 0, 203]
abbrev dktX0_run_1 : List UInt8 := dkwX0_run_1 ++ dktX0_run_2
def dkwX0_run_0 : List UInt8 := [187, 0, 187, 89, 42, 183, 0, 189, 76, 43, 182, 0, 192, 77, 42, 180, 0, 18, 182, 0, 86, 78, 3]
abbrev dktX0_run_0 : List UInt8 := dkwX0_run_0 ++ dktX0_run_1
theorem dksX0_run_0 : cX0_run.data.toList.drop 0 = dktX0_run_0 := by decide +kernel
theorem dksX0_run_1 : cX0_run.data.toList.drop 23 = dktX0_run_1 := dk_seg dksX0_run_0 23 rfl rfl
theorem dksX0_run_2 : cX0_run.data.toList.drop 47 = dktX0_run_2 := dk_seg dksX0_run_1 24 rfl rfl
theorem dksX0_run_3 : cX0_run.data.toList.drop 71 = dktX0_run_3 := dk_seg dksX0_run_2 24 rfl rfl
theorem dksX0_run_4 : cX0_run.data.toList.drop 93 = dktX0_run_4 := dk_seg dksX0_run_3 22 rfl rfl
theorem dksX0_run_5 : cX0_run.data.toList.drop 117 = dktX0_run_5 := dk_seg dksX0_run_4 24 rfl rfl
theorem dX0_run_0 : decode cX0_run 0 = .ok (.new 187, 3) := dk_187 0 187 (dk_at dksX0_run_0 0 rfl rfl)
theorem dX0_run_3 : decode cX0_run 3 = .ok (.dup, 1) := dk_89 (dk_at dksX0_run_0 3 rfl rfl)
theorem dX0_run_4 : decode cX0_run 4 = .ok (.aload_n 0, 1) := dk_42 (dk_at dksX0_run_0 4 rfl rfl)
theorem dX0_run_5 : decode cX0_run 5 = .ok (.invokespecial 189, 3) := dk_183 0 189 (dk_at dksX0_run_0 5 rfl rfl)
theorem dX0_run_8 : decode cX0_run 8 = .ok (.astore_n 1, 1) := dk_76 (dk_at dksX0_run_0 8 rfl rfl)
theorem dX0_run_9 : decode cX0_run 9 = .ok (.aload_n 1, 1) := dk_43 (dk_at dksX0_run_0 9 rfl rfl)
theorem dX0_run_10 : decode cX0_run 10 = .ok (.invokevirtual 192, 3) := dk_182 0 192 (dk_at dksX0_run_0 10 rfl rfl)
theorem dX0_run_13 : decode cX0_run 13 = .ok (.astore_n 2, 1) := dk_77 (dk_at dksX0_run_0 13 rfl rfl)
theorem dX0_run_14 : decode cX0_run 14 = .ok (.aload_n 0, 1) := dk_42 (dk_at dksX0_run_0 14 rfl rfl)
theorem dX0_run_15 : decode cX0_run 15 = .ok (.getfield 18, 3) := dk_180 0 18 (dk_at dksX0_run_0 15 rfl rfl)
theorem dX0_run_18 : decode cX0_run 18 = .ok (.invokevirtual 86, 3) := dk_182 0 86 (dk_at dksX0_run_0 18 rfl rfl)
theorem dX0_run_21 : decode cX0_run 21 = .ok (.astore_n 3, 1) := dk_78 (dk_at dksX0_run_0 21 rfl rfl)
theorem dX0_run_22 : decode cX0_run 22 = .ok (.iconst 0, 1) := dk_3 (dk_at dksX0_run_0 22 rfl rfl)
theorem dX0_run_23 : decode cX0_run 23 = .ok (.istore 4, 2) := dk_54 4 (dk_at dksX0_run_1 0 rfl rfl)
theorem dX0_run_25 : decode cX0_run 25 = .ok (.aload_n 2, 1) := dk_44 (dk_at dksX0_run_1 2 rfl rfl)
theorem dX0_run_26 : decode cX0_run 26 = .ok (.invokevirtual 196, 3) := dk_182 0 196 (dk_at dksX0_run_1 3 rfl rfl)
theorem dX0_run_29 : decode cX0_run 29 = .ok (.ifCond .ne 42, 3) := dk_154 0 42 (dk_at dksX0_run_1 6 rfl rfl)
theorem dX0_run_32 : decode cX0_run 32 = .ok (.aload_n 2, 1) := dk_44 (dk_at dksX0_run_1 9 rfl rfl)
theorem dX0_run_33 : decode cX0_run 33 = .ok (.invokevirtual 200, 3) := dk_182 0 200 (dk_at dksX0_run_1 10 rfl rfl)
theorem dX0_run_36 : decode cX0_run 36 = .ok (.checkcast 201, 3) := dk_192 0 201 (dk_at dksX0_run_1 13 rfl rfl)
theorem dX0_run_39 : decode cX0_run 39 = .ok (.aload_n 3, 1) := dk_45 (dk_at dksX0_run_1 16 rfl rfl)
theorem dX0_run_40 : decode cX0_run 40 = .ok (.aload_n 0, 1) := dk_42 (dk_at dksX0_run_1 17 rfl rfl)
theorem dX0_run_41 : decode cX0_run 41 = .ok (.getfield 11, 3) := dk_180 0 11 (dk_at dksX0_run_1 18 rfl rfl)
theorem dX0_run_44 : decode cX0_run 44 = .ok (.invokevirtual 203, 3) := dk_182 0 203 (dk_at dksX0_run_1 21 rfl rfl)
theorem dX0_run_47 : decode cX0_run 47 = .ok (.ifCond .ne 7, 3) := dk_154 0 7 (dk_at dksX0_run_2 0 rfl rfl)
theorem dX0_run_50 : decode cX0_run 50 = .ok (.iconst 1, 1) := dk_4 (dk_at dksX0_run_2 3 rfl rfl)
theorem dX0_run_51 : decode cX0_run 51 = .ok (.goto 4, 3) := dk_167 0 4 (dk_at dksX0_run_2 4 rfl rfl)
theorem dX0_run_54 : decode cX0_run 54 = .ok (.iconst 0, 1) := dk_3 (dk_at dksX0_run_2 7 rfl rfl)
theorem dX0_run_55 : decode cX0_run 55 = .ok (.iconst 5, 1) := dk_8 (dk_at dksX0_run_2 8 rfl rfl)
theorem dX0_run_56 : decode cX0_run 56 = .ok (.iload 4, 2) := dk_21 4 (dk_at dksX0_run_2 9 rfl rfl)
theorem dX0_run_58 : decode cX0_run 58 = .ok (.invokestatic 207, 3) := dk_184 0 207 (dk_at dksX0_run_2 11 rfl rfl)
theorem dX0_run_61 : decode cX0_run 61 = .ok (.aload_n 3, 1) := dk_45 (dk_at dksX0_run_2 14 rfl rfl)
theorem dX0_run_62 : decode cX0_run 62 = .ok (.invokevirtual 64, 3) := dk_182 0 64 (dk_at dksX0_run_2 15 rfl rfl)
theorem dX0_run_65 : decode cX0_run 65 = .ok (.iinc 4 1, 3) := dk_132 4 1 (dk_at dksX0_run_2 18 rfl rfl)
theorem dX0_run_68 : decode cX0_run 68 = .ok (.goto (-43), 3) := dk_167 255 213 (dk_at dksX0_run_2 21 rfl rfl)
theorem dX0_run_71 : decode cX0_run 71 = .ok (.aload_n 0, 1) := dk_42 (dk_at dksX0_run_3 0 rfl rfl)
theorem dX0_run_72 : decode cX0_run 72 = .ok (.getfield 18, 3) := dk_180 0 18 (dk_at dksX0_run_3 1 rfl rfl)
theorem dX0_run_75 : decode cX0_run 75 = .ok (.astore 5, 2) := dk_58 5 (dk_at dksX0_run_3 4 rfl rfl)
theorem dX0_run_77 : decode cX0_run 77 = .ok (.aload_n 0, 1) := dk_42 (dk_at dksX0_run_3 6 rfl rfl)
theorem dX0_run_78 : decode cX0_run 78 = .ok (.aload_n 3, 1) := dk_45 (dk_at dksX0_run_3 7 rfl rfl)
theorem dX0_run_79 : decode cX0_run 79 = .ok (.putfield 18, 3) := dk_181 0 18 (dk_at dksX0_run_3 8 rfl rfl)
theorem dX0_run_82 : decode cX0_run 82 = .ok (.aload_n 0, 1) := dk_42 (dk_at dksX0_run_3 11 rfl rfl)
theorem dX0_run_83 : decode cX0_run 83 = .ok (.aload 5, 2) := dk_25 5 (dk_at dksX0_run_3 12 rfl rfl)
theorem dX0_run_85 : decode cX0_run 85 = .ok (.iload 4, 2) := dk_21 4 (dk_at dksX0_run_3 14 rfl rfl)
theorem dX0_run_87 : decode cX0_run 87 = .ok (.invokevirtual 93, 3) := dk_182 0 93 (dk_at dksX0_run_3 16 rfl rfl)
theorem dX0_run_90 : decode cX0_run 90 = .ok (.istore 6, 2) := dk_54 6 (dk_at dksX0_run_3 19 rfl rfl)
theorem dX0_run_92 : decode cX0_run 92 = .ok (.aload_n 1, 1) := dk_43 (dk_at dksX0_run_3 21 rfl rfl)
theorem dX0_run_93 : decode cX0_run 93 = .ok (.invokevirtual 211, 3) := dk_182 0 211 (dk_at dksX0_run_4 0 rfl rfl)
theorem dX0_run_96 : decode cX0_run 96 = .ok (.iload 6, 2) := dk_21 6 (dk_at dksX0_run_4 3 rfl rfl)
theorem dX0_run_98 : decode cX0_run 98 = .ok (.ireturn, 1) := dk_172 (dk_at dksX0_run_4 5 rfl rfl)
theorem dX0_run_99 : decode cX0_run 99 = .ok (.astore_n 2, 1) := dk_77 (dk_at dksX0_run_4 6 rfl rfl)
theorem dX0_run_100 : decode cX0_run 100 = .ok (.sipush (-1000), 3) := dk_17 252 24 (dk_at dksX0_run_4 7 rfl rfl)
theorem dX0_run_103 : decode cX0_run 103 = .ok (.aload_n 2, 1) := dk_44 (dk_at dksX0_run_4 10 rfl rfl)
theorem dX0_run_104 : decode cX0_run 104 = .ok (.getfield 216, 3) := dk_180 0 216 (dk_at dksX0_run_4 11 rfl rfl)
theorem dX0_run_107 : decode cX0_run 107 = .ok (.isub, 1) := dk_100 (dk_at dksX0_run_4 14 rfl rfl)
theorem dX0_run_108 : decode cX0_run 108 = .ok (.istore_n 3, 1) := dk_62 (dk_at dksX0_run_4 15 rfl rfl)
theorem dX0_run_109 : decode cX0_run 109 = .ok (.aload_n 1, 1) := dk_43 (dk_at dksX0_run_4 16 rfl rfl)
theorem dX0_run_110 : decode cX0_run 110 = .ok (.invokevirtual 211, 3) := dk_182 0 211 (dk_at dksX0_run_4 17 rfl rfl)
theorem dX0_run_113 : decode cX0_run 113 = .ok (.iload_n 3, 1) := dk_29 (dk_at dksX0_run_4 20 rfl rfl)
theorem dX0_run_114 : decode cX0_run 114 = .ok (.ireturn, 1) := dk_172 (dk_at dksX0_run_4 21 rfl rfl)
theorem dX0_run_115 : decode cX0_run 115 = .ok (.astore_n 2, 1) := dk_77 (dk_at dksX0_run_4 22 rfl rfl)
theorem dX0_run_116 : decode cX0_run 116 = .ok (.aload_n 0, 1) := dk_42 (dk_at dksX0_run_4 23 rfl rfl)
theorem dX0_run_117 : decode cX0_run 117 = .ok (.aload_n 2, 1) := dk_44 (dk_at dksX0_run_5 0 rfl rfl)
theorem dX0_run_118 : decode cX0_run 118 = .ok (.invokevirtual 97, 3) := dk_182 0 97 (dk_at dksX0_run_5 1 rfl rfl)
theorem dX0_run_121 : decode cX0_run 121 = .ok (.istore_n 3, 1) := dk_62 (dk_at dksX0_run_5 4 rfl rfl)
theorem dX0_run_122 : decode cX0_run 122 = .ok (.aload_n 1, 1) := dk_43 (dk_at dksX0_run_5 5 rfl rfl)
theorem dX0_run_123 : decode cX0_run 123 = .ok (.invokevirtual 211, 3) := dk_182 0 211 (dk_at dksX0_run_5 6 rfl rfl)
theorem dX0_run_126 : decode cX0_run 126 = .ok (.iload_n 3, 1) := dk_29 (dk_at dksX0_run_5 9 rfl rfl)
theorem dX0_run_127 : decode cX0_run 127 = .ok (.ireturn, 1) := dk_172 (dk_at dksX0_run_5 10 rfl rfl)
theorem dX0_run_128 : decode cX0_run 128 = .ok (.astore 7, 2) := dk_58 7 (dk_at dksX0_run_5 11 rfl rfl)
theorem dX0_run_130 : decode cX0_run 130 = .ok (.aload_n 1, 1) := dk_43 (dk_at dksX0_run_5 13 rfl rfl)
theorem dX0_run_131 : decode cX0_run 131 = .ok (.invokevirtual 211, 3) := dk_182 0 211 (dk_at dksX0_run_5 14 rfl rfl)
theorem dX0_run_134 : decode cX0_run 134 = .ok (.aload 7, 2) := dk_25 7 (dk_at dksX0_run_5 17 rfl rfl)
theorem dX0_run_136 : decode cX0_run 136 = .ok (.athrow, 1) := dk_191 (dk_at dksX0_run_5 19 rfl rfl)
abbrev cX0_tell : ByteArray := prog_1_method_30_code
def yX0_tell : MethodName := ⟨RX0, "tell", "(I)I"⟩
def dkwX0_tell_1 : List UInt8 := [180, 0, 38, 182, 0, 222, 172]
abbrev dktX0_tell_1 : List UInt8 := dkwX0_tell_1 ++ []
def dkwX0_tell_0 : List UInt8 := [27, 184, 0, 83, 154, 0, 6, 16, 245, 172, 42, 42, 180, 0, 18, 27, 182, 0, 219, 181, 0, 38, 42]
abbrev dktX0_tell_0 : List UInt8 := dkwX0_tell_0 ++ dktX0_tell_1
theorem dksX0_tell_0 : cX0_tell.data.toList.drop 0 = dktX0_tell_0 := by decide +kernel
theorem dksX0_tell_1 : cX0_tell.data.toList.drop 23 = dktX0_tell_1 := dk_seg dksX0_tell_0 23 rfl rfl
theorem dX0_tell_0 : decode cX0_tell 0 = .ok (.iload_n 1, 1) := dk_27 (dk_at dksX0_tell_0 0 rfl rfl)
theorem dX0_tell_1 : decode cX0_tell 1 = .ok (.invokestatic 83, 3) := dk_184 0 83 (dk_at dksX0_tell_0 1 rfl rfl)
theorem dX0_tell_4 : decode cX0_tell 4 = .ok (.ifCond .ne 6, 3) := dk_154 0 6 (dk_at dksX0_tell_0 4 rfl rfl)
theorem dX0_tell_7 : decode cX0_tell 7 = .ok (.bipush (-11), 2) := dk_16 245 (dk_at dksX0_tell_0 7 rfl rfl)
theorem dX0_tell_9 : decode cX0_tell 9 = .ok (.ireturn, 1) := dk_172 (dk_at dksX0_tell_0 9 rfl rfl)
theorem dX0_tell_10 : decode cX0_tell 10 = .ok (.aload_n 0, 1) := dk_42 (dk_at dksX0_tell_0 10 rfl rfl)
theorem dX0_tell_11 : decode cX0_tell 11 = .ok (.aload_n 0, 1) := dk_42 (dk_at dksX0_tell_0 11 rfl rfl)
theorem dX0_tell_12 : decode cX0_tell 12 = .ok (.getfield 18, 3) := dk_180 0 18 (dk_at dksX0_tell_0 12 rfl rfl)
theorem dX0_tell_15 : decode cX0_tell 15 = .ok (.iload_n 1, 1) := dk_27 (dk_at dksX0_tell_0 15 rfl rfl)
theorem dX0_tell_16 : decode cX0_tell 16 = .ok (.invokevirtual 219, 3) := dk_182 0 219 (dk_at dksX0_tell_0 16 rfl rfl)
theorem dX0_tell_19 : decode cX0_tell 19 = .ok (.putfield 38, 3) := dk_181 0 38 (dk_at dksX0_tell_0 19 rfl rfl)
theorem dX0_tell_22 : decode cX0_tell 22 = .ok (.aload_n 0, 1) := dk_42 (dk_at dksX0_tell_0 22 rfl rfl)
theorem dX0_tell_23 : decode cX0_tell 23 = .ok (.getfield 38, 3) := dk_180 0 38 (dk_at dksX0_tell_1 0 rfl rfl)
theorem dX0_tell_26 : decode cX0_tell 26 = .ok (.invokevirtual 222, 3) := dk_182 0 222 (dk_at dksX0_tell_1 3 rfl rfl)
theorem dX0_tell_29 : decode cX0_tell 29 = .ok (.ireturn, 1) := dk_172 (dk_at dksX0_tell_1 6 rfl rfl)
abbrev cX0_signOf : ByteArray := prog_1_method_5_code
def yX0_signOf : MethodName := ⟨RX0, "signOf", "(I)C"⟩
def dkwX0_signOf_0 : List UInt8 := [26, 5, 160, 0, 8, 16, 120, 167, 0, 5, 16, 115, 172]
abbrev dktX0_signOf_0 : List UInt8 := dkwX0_signOf_0 ++ []
theorem dksX0_signOf_0 : cX0_signOf.data.toList.drop 0 = dktX0_signOf_0 := by decide +kernel
theorem dX0_signOf_0 : decode cX0_signOf 0 = .ok (.iload_n 0, 1) := dk_26 (dk_at dksX0_signOf_0 0 rfl rfl)
theorem dX0_signOf_1 : decode cX0_signOf 1 = .ok (.iconst 2, 1) := dk_5 (dk_at dksX0_signOf_0 1 rfl rfl)
theorem dX0_signOf_2 : decode cX0_signOf 2 = .ok (.if_icmp .ne 8, 3) := dk_160 0 8 (dk_at dksX0_signOf_0 2 rfl rfl)
theorem dX0_signOf_5 : decode cX0_signOf 5 = .ok (.bipush 120, 2) := dk_16 120 (dk_at dksX0_signOf_0 5 rfl rfl)
theorem dX0_signOf_7 : decode cX0_signOf 7 = .ok (.goto 5, 3) := dk_167 0 5 (dk_at dksX0_signOf_0 7 rfl rfl)
theorem dX0_signOf_10 : decode cX0_signOf 10 = .ok (.bipush 115, 2) := dk_16 115 (dk_at dksX0_signOf_0 10 rfl rfl)
theorem dX0_signOf_12 : decode cX0_signOf 12 = .ok (.ireturn, 1) := dk_172 (dk_at dksX0_signOf_0 12 rfl rfl)
abbrev cX0_tellMaid : ByteArray := prog_1_method_31_code
def yX0_tellMaid : MethodName := ⟨RX0, "tellMaid", "(I)I"⟩
def dkwX0_tellMaid_1 : List UInt8 := [181, 0, 38, 42, 180, 0, 38, 182, 0, 222, 172]
abbrev dktX0_tellMaid_1 : List UInt8 := dkwX0_tellMaid_1 ++ []
def dkwX0_tellMaid_0 : List UInt8 := [42, 180, 0, 18, 27, 182, 0, 79, 154, 0, 6, 16, 245, 172, 42, 42, 180, 0, 18, 27, 182, 0, 225]
abbrev dktX0_tellMaid_0 : List UInt8 := dkwX0_tellMaid_0 ++ dktX0_tellMaid_1
theorem dksX0_tellMaid_0 : cX0_tellMaid.data.toList.drop 0 = dktX0_tellMaid_0 := by decide +kernel
theorem dksX0_tellMaid_1 : cX0_tellMaid.data.toList.drop 23 = dktX0_tellMaid_1 := dk_seg dksX0_tellMaid_0 23 rfl rfl
theorem dX0_tellMaid_0 : decode cX0_tellMaid 0 = .ok (.aload_n 0, 1) := dk_42 (dk_at dksX0_tellMaid_0 0 rfl rfl)
theorem dX0_tellMaid_1 : decode cX0_tellMaid 1 = .ok (.getfield 18, 3) := dk_180 0 18 (dk_at dksX0_tellMaid_0 1 rfl rfl)
theorem dX0_tellMaid_4 : decode cX0_tellMaid 4 = .ok (.iload_n 1, 1) := dk_27 (dk_at dksX0_tellMaid_0 4 rfl rfl)
theorem dX0_tellMaid_5 : decode cX0_tellMaid 5 = .ok (.invokevirtual 79, 3) := dk_182 0 79 (dk_at dksX0_tellMaid_0 5 rfl rfl)
theorem dX0_tellMaid_8 : decode cX0_tellMaid 8 = .ok (.ifCond .ne 6, 3) := dk_154 0 6 (dk_at dksX0_tellMaid_0 8 rfl rfl)
theorem dX0_tellMaid_11 : decode cX0_tellMaid 11 = .ok (.bipush (-11), 2) := dk_16 245 (dk_at dksX0_tellMaid_0 11 rfl rfl)
theorem dX0_tellMaid_13 : decode cX0_tellMaid 13 = .ok (.ireturn, 1) := dk_172 (dk_at dksX0_tellMaid_0 13 rfl rfl)
theorem dX0_tellMaid_14 : decode cX0_tellMaid 14 = .ok (.aload_n 0, 1) := dk_42 (dk_at dksX0_tellMaid_0 14 rfl rfl)
theorem dX0_tellMaid_15 : decode cX0_tellMaid 15 = .ok (.aload_n 0, 1) := dk_42 (dk_at dksX0_tellMaid_0 15 rfl rfl)
theorem dX0_tellMaid_16 : decode cX0_tellMaid 16 = .ok (.getfield 18, 3) := dk_180 0 18 (dk_at dksX0_tellMaid_0 16 rfl rfl)
theorem dX0_tellMaid_19 : decode cX0_tellMaid 19 = .ok (.iload_n 1, 1) := dk_27 (dk_at dksX0_tellMaid_0 19 rfl rfl)
theorem dX0_tellMaid_20 : decode cX0_tellMaid 20 = .ok (.invokevirtual 225, 3) := dk_182 0 225 (dk_at dksX0_tellMaid_0 20 rfl rfl)
theorem dX0_tellMaid_23 : decode cX0_tellMaid 23 = .ok (.putfield 38, 3) := dk_181 0 38 (dk_at dksX0_tellMaid_1 0 rfl rfl)
theorem dX0_tellMaid_26 : decode cX0_tellMaid 26 = .ok (.aload_n 0, 1) := dk_42 (dk_at dksX0_tellMaid_1 3 rfl rfl)
theorem dX0_tellMaid_27 : decode cX0_tellMaid 27 = .ok (.getfield 38, 3) := dk_180 0 38 (dk_at dksX0_tellMaid_1 4 rfl rfl)
theorem dX0_tellMaid_30 : decode cX0_tellMaid 30 = .ok (.invokevirtual 222, 3) := dk_182 0 222 (dk_at dksX0_tellMaid_1 7 rfl rfl)
theorem dX0_tellMaid_33 : decode cX0_tellMaid 33 = .ok (.ireturn, 1) := dk_172 (dk_at dksX0_tellMaid_1 10 rfl rfl)
abbrev cX0_character : ByteArray := prog_1_method_32_code
def yX0_character : MethodName := ⟨RX0, "character", "(I)I"⟩
def dkwX0_character_1 : List UInt8 := [182, 0, 228, 167, 0, 5, 16, 245, 172]
abbrev dktX0_character_1 : List UInt8 := dkwX0_character_1 ++ []
def dkwX0_character_0 : List UInt8 := [27, 3, 42, 180, 0, 38, 182, 0, 222, 4, 100, 184, 0, 46, 153, 0, 14, 42, 180, 0, 38, 27]
abbrev dktX0_character_0 : List UInt8 := dkwX0_character_0 ++ dktX0_character_1
theorem dksX0_character_0 : cX0_character.data.toList.drop 0 = dktX0_character_0 := by decide +kernel
theorem dksX0_character_1 : cX0_character.data.toList.drop 22 = dktX0_character_1 := dk_seg dksX0_character_0 22 rfl rfl
theorem dX0_character_0 : decode cX0_character 0 = .ok (.iload_n 1, 1) := dk_27 (dk_at dksX0_character_0 0 rfl rfl)
theorem dX0_character_1 : decode cX0_character 1 = .ok (.iconst 0, 1) := dk_3 (dk_at dksX0_character_0 1 rfl rfl)
theorem dX0_character_2 : decode cX0_character 2 = .ok (.aload_n 0, 1) := dk_42 (dk_at dksX0_character_0 2 rfl rfl)
theorem dX0_character_3 : decode cX0_character 3 = .ok (.getfield 38, 3) := dk_180 0 38 (dk_at dksX0_character_0 3 rfl rfl)
theorem dX0_character_6 : decode cX0_character 6 = .ok (.invokevirtual 222, 3) := dk_182 0 222 (dk_at dksX0_character_0 6 rfl rfl)
theorem dX0_character_9 : decode cX0_character 9 = .ok (.iconst 1, 1) := dk_4 (dk_at dksX0_character_0 9 rfl rfl)
theorem dX0_character_10 : decode cX0_character 10 = .ok (.isub, 1) := dk_100 (dk_at dksX0_character_0 10 rfl rfl)
theorem dX0_character_11 : decode cX0_character 11 = .ok (.invokestatic 46, 3) := dk_184 0 46 (dk_at dksX0_character_0 11 rfl rfl)
theorem dX0_character_14 : decode cX0_character 14 = .ok (.ifCond .eq 14, 3) := dk_153 0 14 (dk_at dksX0_character_0 14 rfl rfl)
theorem dX0_character_17 : decode cX0_character 17 = .ok (.aload_n 0, 1) := dk_42 (dk_at dksX0_character_0 17 rfl rfl)
theorem dX0_character_18 : decode cX0_character 18 = .ok (.getfield 38, 3) := dk_180 0 38 (dk_at dksX0_character_0 18 rfl rfl)
theorem dX0_character_21 : decode cX0_character 21 = .ok (.iload_n 1, 1) := dk_27 (dk_at dksX0_character_0 21 rfl rfl)
theorem dX0_character_22 : decode cX0_character 22 = .ok (.invokevirtual 228, 3) := dk_182 0 228 (dk_at dksX0_character_1 0 rfl rfl)
theorem dX0_character_25 : decode cX0_character 25 = .ok (.goto 5, 3) := dk_167 0 5 (dk_at dksX0_character_1 3 rfl rfl)
theorem dX0_character_28 : decode cX0_character 28 = .ok (.bipush (-11), 2) := dk_16 245 (dk_at dksX0_character_1 6 rfl rfl)
theorem dX0_character_30 : decode cX0_character 30 = .ok (.ireturn, 1) := dk_172 (dk_at dksX0_character_1 8 rfl rfl)
abbrev cX0_reason : ByteArray := prog_1_method_33_code
def yX0_reason : MethodName := ⟨RX0, "reason", "(Z)I"⟩
def dkwX0_reason_1 : List UInt8 := [180, 0, 59, 172]
abbrev dktX0_reason_1 : List UInt8 := dkwX0_reason_1 ++ []
def dkwX0_reason_0 : List UInt8 := [42, 180, 0, 59, 154, 0, 8, 16, 241, 167, 0, 18, 27, 153, 0, 10, 42, 180, 0, 63, 167, 0, 7, 42]
abbrev dktX0_reason_0 : List UInt8 := dkwX0_reason_0 ++ dktX0_reason_1
theorem dksX0_reason_0 : cX0_reason.data.toList.drop 0 = dktX0_reason_0 := by decide +kernel
theorem dksX0_reason_1 : cX0_reason.data.toList.drop 24 = dktX0_reason_1 := dk_seg dksX0_reason_0 24 rfl rfl
theorem dX0_reason_0 : decode cX0_reason 0 = .ok (.aload_n 0, 1) := dk_42 (dk_at dksX0_reason_0 0 rfl rfl)
theorem dX0_reason_1 : decode cX0_reason 1 = .ok (.getfield 59, 3) := dk_180 0 59 (dk_at dksX0_reason_0 1 rfl rfl)
theorem dX0_reason_4 : decode cX0_reason 4 = .ok (.ifCond .ne 8, 3) := dk_154 0 8 (dk_at dksX0_reason_0 4 rfl rfl)
theorem dX0_reason_7 : decode cX0_reason 7 = .ok (.bipush (-15), 2) := dk_16 241 (dk_at dksX0_reason_0 7 rfl rfl)
theorem dX0_reason_9 : decode cX0_reason 9 = .ok (.goto 18, 3) := dk_167 0 18 (dk_at dksX0_reason_0 9 rfl rfl)
theorem dX0_reason_12 : decode cX0_reason 12 = .ok (.iload_n 1, 1) := dk_27 (dk_at dksX0_reason_0 12 rfl rfl)
theorem dX0_reason_13 : decode cX0_reason 13 = .ok (.ifCond .eq 10, 3) := dk_153 0 10 (dk_at dksX0_reason_0 13 rfl rfl)
theorem dX0_reason_16 : decode cX0_reason 16 = .ok (.aload_n 0, 1) := dk_42 (dk_at dksX0_reason_0 16 rfl rfl)
theorem dX0_reason_17 : decode cX0_reason 17 = .ok (.getfield 63, 3) := dk_180 0 63 (dk_at dksX0_reason_0 17 rfl rfl)
theorem dX0_reason_20 : decode cX0_reason 20 = .ok (.goto 7, 3) := dk_167 0 7 (dk_at dksX0_reason_0 20 rfl rfl)
theorem dX0_reason_23 : decode cX0_reason 23 = .ok (.aload_n 0, 1) := dk_42 (dk_at dksX0_reason_0 23 rfl rfl)
theorem dX0_reason_24 : decode cX0_reason 24 = .ok (.getfield 59, 3) := dk_180 0 59 (dk_at dksX0_reason_1 0 rfl rfl)
theorem dX0_reason_27 : decode cX0_reason 27 = .ok (.ireturn, 1) := dk_172 (dk_at dksX0_reason_1 3 rfl rfl)
abbrev cX0_account : ByteArray := prog_1_method_34_code
def yX0_account : MethodName := ⟨RX0, "account", "(I)I"⟩
def dkwX0_account_7 : List UInt8 := [167, 0, 15, 42, 180, 0, 25, 182, 0, 71, 167, 0, 5, 16, 244, 172]
abbrev dktX0_account_7 : List UInt8 := dkwX0_account_7 ++ []
def dkwX0_account_6 : List UInt8 := [180, 1, 2, 167, 0, 35, 42, 180, 0, 18, 182, 1, 5, 167, 0, 25, 42, 180, 0, 32, 182, 0, 180]
abbrev dktX0_account_6 : List UInt8 := dkwX0_account_6 ++ dktX0_account_7
def dkwX0_account_5 : List UInt8 := [184, 0, 248, 167, 0, 58, 42, 180, 0, 18, 180, 0, 255, 184, 0, 248, 167, 0, 45, 42, 180, 0, 18]
abbrev dktX0_account_5 : List UInt8 := dkwX0_account_5 ++ dktX0_account_6
def dkwX0_account_4 : List UInt8 := [167, 0, 84, 42, 180, 0, 18, 180, 0, 244, 184, 0, 248, 167, 0, 71, 42, 180, 0, 18, 180, 0, 252]
abbrev dktX0_account_4 : List UInt8 := dkwX0_account_4 ++ dktX0_account_5
def dkwX0_account_3 : List UInt8 := [182, 0, 238, 167, 0, 104, 42, 180, 0, 18, 27, 7, 160, 0, 7, 4, 167, 0, 4, 3, 182, 0, 240]
abbrev dktX0_account_3 : List UInt8 := dkwX0_account_3 ++ dktX0_account_4
def dkwX0_account_2 : List UInt8 := [42, 180, 0, 18, 182, 0, 232, 167, 0, 124, 42, 180, 0, 18, 180, 0, 235, 167, 0, 114, 42, 180, 0, 18]
abbrev dktX0_account_2 : List UInt8 := dkwX0_account_2 ++ dktX0_account_3
def dkwX0_account_1 : List UInt8 := [170, 0, 0, 0, 0, 0, 192, 0, 0, 0, 0, 0, 0, 0, 11, 0, 0, 0, 63, 0, 0, 0, 73, 0, 0, 0, 83, 0, 0, 0, 93, 0, 0, 0, 93, 0, 0, 0, 113, 0, 0, 0, 126, 0, 0, 0, 139, 0, 0, 0, 152, 0, 0, 0, 162, 0, 0, 0, 172, 0, 0, 0, 182]
abbrev dktX0_account_1 : List UInt8 := dkwX0_account_1 ++ dktX0_account_2
def dkwX0_account_0 : List UInt8 := [27]
abbrev dktX0_account_0 : List UInt8 := dkwX0_account_0 ++ dktX0_account_1
theorem dksX0_account_0 : cX0_account.data.toList.drop 0 = dktX0_account_0 := by decide +kernel
theorem dksX0_account_1 : cX0_account.data.toList.drop 1 = dktX0_account_1 := dk_seg dksX0_account_0 1 rfl rfl
theorem dksX0_account_2 : cX0_account.data.toList.drop 64 = dktX0_account_2 := dk_seg dksX0_account_1 63 rfl rfl
theorem dksX0_account_3 : cX0_account.data.toList.drop 88 = dktX0_account_3 := dk_seg dksX0_account_2 24 rfl rfl
theorem dksX0_account_4 : cX0_account.data.toList.drop 111 = dktX0_account_4 := dk_seg dksX0_account_3 23 rfl rfl
theorem dksX0_account_5 : cX0_account.data.toList.drop 134 = dktX0_account_5 := dk_seg dksX0_account_4 23 rfl rfl
theorem dksX0_account_6 : cX0_account.data.toList.drop 157 = dktX0_account_6 := dk_seg dksX0_account_5 23 rfl rfl
theorem dksX0_account_7 : cX0_account.data.toList.drop 180 = dktX0_account_7 := dk_seg dksX0_account_6 23 rfl rfl
theorem dX0_account_0 : decode cX0_account 0 = .ok (.iload_n 1, 1) := dk_27 (dk_at dksX0_account_0 0 rfl rfl)
theorem dX0_account_1 : decode cX0_account 1 = .ok (.tableswitch 192 0 11 #[63, 73, 83, 93, 93, 113, 126, 139, 152, 162, 172, 182], 63) := by decide +kernel
theorem dX0_account_64 : decode cX0_account 64 = .ok (.aload_n 0, 1) := dk_42 (dk_at dksX0_account_2 0 rfl rfl)
theorem dX0_account_65 : decode cX0_account 65 = .ok (.getfield 18, 3) := dk_180 0 18 (dk_at dksX0_account_2 1 rfl rfl)
theorem dX0_account_68 : decode cX0_account 68 = .ok (.invokevirtual 232, 3) := dk_182 0 232 (dk_at dksX0_account_2 4 rfl rfl)
theorem dX0_account_71 : decode cX0_account 71 = .ok (.goto 124, 3) := dk_167 0 124 (dk_at dksX0_account_2 7 rfl rfl)
theorem dX0_account_74 : decode cX0_account 74 = .ok (.aload_n 0, 1) := dk_42 (dk_at dksX0_account_2 10 rfl rfl)
theorem dX0_account_75 : decode cX0_account 75 = .ok (.getfield 18, 3) := dk_180 0 18 (dk_at dksX0_account_2 11 rfl rfl)
theorem dX0_account_78 : decode cX0_account 78 = .ok (.getfield 235, 3) := dk_180 0 235 (dk_at dksX0_account_2 14 rfl rfl)
theorem dX0_account_81 : decode cX0_account 81 = .ok (.goto 114, 3) := dk_167 0 114 (dk_at dksX0_account_2 17 rfl rfl)
theorem dX0_account_84 : decode cX0_account 84 = .ok (.aload_n 0, 1) := dk_42 (dk_at dksX0_account_2 20 rfl rfl)
theorem dX0_account_85 : decode cX0_account 85 = .ok (.getfield 18, 3) := dk_180 0 18 (dk_at dksX0_account_2 21 rfl rfl)
theorem dX0_account_88 : decode cX0_account 88 = .ok (.invokevirtual 238, 3) := dk_182 0 238 (dk_at dksX0_account_3 0 rfl rfl)
theorem dX0_account_91 : decode cX0_account 91 = .ok (.goto 104, 3) := dk_167 0 104 (dk_at dksX0_account_3 3 rfl rfl)
theorem dX0_account_94 : decode cX0_account 94 = .ok (.aload_n 0, 1) := dk_42 (dk_at dksX0_account_3 6 rfl rfl)
theorem dX0_account_95 : decode cX0_account 95 = .ok (.getfield 18, 3) := dk_180 0 18 (dk_at dksX0_account_3 7 rfl rfl)
theorem dX0_account_98 : decode cX0_account 98 = .ok (.iload_n 1, 1) := dk_27 (dk_at dksX0_account_3 10 rfl rfl)
theorem dX0_account_99 : decode cX0_account 99 = .ok (.iconst 4, 1) := dk_7 (dk_at dksX0_account_3 11 rfl rfl)
theorem dX0_account_100 : decode cX0_account 100 = .ok (.if_icmp .ne 7, 3) := dk_160 0 7 (dk_at dksX0_account_3 12 rfl rfl)
theorem dX0_account_103 : decode cX0_account 103 = .ok (.iconst 1, 1) := dk_4 (dk_at dksX0_account_3 15 rfl rfl)
theorem dX0_account_104 : decode cX0_account 104 = .ok (.goto 4, 3) := dk_167 0 4 (dk_at dksX0_account_3 16 rfl rfl)
theorem dX0_account_107 : decode cX0_account 107 = .ok (.iconst 0, 1) := dk_3 (dk_at dksX0_account_3 19 rfl rfl)
theorem dX0_account_108 : decode cX0_account 108 = .ok (.invokevirtual 240, 3) := dk_182 0 240 (dk_at dksX0_account_3 20 rfl rfl)
theorem dX0_account_111 : decode cX0_account 111 = .ok (.goto 84, 3) := dk_167 0 84 (dk_at dksX0_account_4 0 rfl rfl)
theorem dX0_account_114 : decode cX0_account 114 = .ok (.aload_n 0, 1) := dk_42 (dk_at dksX0_account_4 3 rfl rfl)
theorem dX0_account_115 : decode cX0_account 115 = .ok (.getfield 18, 3) := dk_180 0 18 (dk_at dksX0_account_4 4 rfl rfl)
theorem dX0_account_118 : decode cX0_account 118 = .ok (.getfield 244, 3) := dk_180 0 244 (dk_at dksX0_account_4 7 rfl rfl)
theorem dX0_account_121 : decode cX0_account 121 = .ok (.invokestatic 248, 3) := dk_184 0 248 (dk_at dksX0_account_4 10 rfl rfl)
theorem dX0_account_124 : decode cX0_account 124 = .ok (.goto 71, 3) := dk_167 0 71 (dk_at dksX0_account_4 13 rfl rfl)
theorem dX0_account_127 : decode cX0_account 127 = .ok (.aload_n 0, 1) := dk_42 (dk_at dksX0_account_4 16 rfl rfl)
theorem dX0_account_128 : decode cX0_account 128 = .ok (.getfield 18, 3) := dk_180 0 18 (dk_at dksX0_account_4 17 rfl rfl)
theorem dX0_account_131 : decode cX0_account 131 = .ok (.getfield 252, 3) := dk_180 0 252 (dk_at dksX0_account_4 20 rfl rfl)
theorem dX0_account_134 : decode cX0_account 134 = .ok (.invokestatic 248, 3) := dk_184 0 248 (dk_at dksX0_account_5 0 rfl rfl)
theorem dX0_account_137 : decode cX0_account 137 = .ok (.goto 58, 3) := dk_167 0 58 (dk_at dksX0_account_5 3 rfl rfl)
theorem dX0_account_140 : decode cX0_account 140 = .ok (.aload_n 0, 1) := dk_42 (dk_at dksX0_account_5 6 rfl rfl)
theorem dX0_account_141 : decode cX0_account 141 = .ok (.getfield 18, 3) := dk_180 0 18 (dk_at dksX0_account_5 7 rfl rfl)
theorem dX0_account_144 : decode cX0_account 144 = .ok (.getfield 255, 3) := dk_180 0 255 (dk_at dksX0_account_5 10 rfl rfl)
theorem dX0_account_147 : decode cX0_account 147 = .ok (.invokestatic 248, 3) := dk_184 0 248 (dk_at dksX0_account_5 13 rfl rfl)
theorem dX0_account_150 : decode cX0_account 150 = .ok (.goto 45, 3) := dk_167 0 45 (dk_at dksX0_account_5 16 rfl rfl)
theorem dX0_account_153 : decode cX0_account 153 = .ok (.aload_n 0, 1) := dk_42 (dk_at dksX0_account_5 19 rfl rfl)
theorem dX0_account_154 : decode cX0_account 154 = .ok (.getfield 18, 3) := dk_180 0 18 (dk_at dksX0_account_5 20 rfl rfl)
theorem dX0_account_157 : decode cX0_account 157 = .ok (.getfield 258, 3) := dk_180 1 2 (dk_at dksX0_account_6 0 rfl rfl)
theorem dX0_account_160 : decode cX0_account 160 = .ok (.goto 35, 3) := dk_167 0 35 (dk_at dksX0_account_6 3 rfl rfl)
theorem dX0_account_163 : decode cX0_account 163 = .ok (.aload_n 0, 1) := dk_42 (dk_at dksX0_account_6 6 rfl rfl)
theorem dX0_account_164 : decode cX0_account 164 = .ok (.getfield 18, 3) := dk_180 0 18 (dk_at dksX0_account_6 7 rfl rfl)
theorem dX0_account_167 : decode cX0_account 167 = .ok (.invokevirtual 261, 3) := dk_182 1 5 (dk_at dksX0_account_6 10 rfl rfl)
theorem dX0_account_170 : decode cX0_account 170 = .ok (.goto 25, 3) := dk_167 0 25 (dk_at dksX0_account_6 13 rfl rfl)
theorem dX0_account_173 : decode cX0_account 173 = .ok (.aload_n 0, 1) := dk_42 (dk_at dksX0_account_6 16 rfl rfl)
theorem dX0_account_174 : decode cX0_account 174 = .ok (.getfield 32, 3) := dk_180 0 32 (dk_at dksX0_account_6 17 rfl rfl)
theorem dX0_account_177 : decode cX0_account 177 = .ok (.invokevirtual 180, 3) := dk_182 0 180 (dk_at dksX0_account_6 20 rfl rfl)
theorem dX0_account_180 : decode cX0_account 180 = .ok (.goto 15, 3) := dk_167 0 15 (dk_at dksX0_account_7 0 rfl rfl)
theorem dX0_account_183 : decode cX0_account 183 = .ok (.aload_n 0, 1) := dk_42 (dk_at dksX0_account_7 3 rfl rfl)
theorem dX0_account_184 : decode cX0_account 184 = .ok (.getfield 25, 3) := dk_180 0 25 (dk_at dksX0_account_7 4 rfl rfl)
theorem dX0_account_187 : decode cX0_account 187 = .ok (.invokevirtual 71, 3) := dk_182 0 71 (dk_at dksX0_account_7 7 rfl rfl)
theorem dX0_account_190 : decode cX0_account 190 = .ok (.goto 5, 3) := dk_167 0 5 (dk_at dksX0_account_7 10 rfl rfl)
theorem dX0_account_193 : decode cX0_account 193 = .ok (.bipush (-12), 2) := dk_16 244 (dk_at dksX0_account_7 13 rfl rfl)
theorem dX0_account_195 : decode cX0_account 195 = .ok (.ireturn, 1) := dk_172 (dk_at dksX0_account_7 15 rfl rfl)
abbrev cX0_isBalanced : ByteArray := prog_1_method_35_code
def yX0_isBalanced : MethodName := ⟨RX0, "isBalanced", "()I"⟩
def dkwX0_isBalanced_0 : List UInt8 := [42, 180, 0, 18, 42, 180, 0, 11, 182, 1, 8, 153, 0, 7, 4, 167, 0, 4, 3, 172]
abbrev dktX0_isBalanced_0 : List UInt8 := dkwX0_isBalanced_0 ++ []
theorem dksX0_isBalanced_0 : cX0_isBalanced.data.toList.drop 0 = dktX0_isBalanced_0 := by decide +kernel
theorem dX0_isBalanced_0 : decode cX0_isBalanced 0 = .ok (.aload_n 0, 1) := dk_42 (dk_at dksX0_isBalanced_0 0 rfl rfl)
theorem dX0_isBalanced_1 : decode cX0_isBalanced 1 = .ok (.getfield 18, 3) := dk_180 0 18 (dk_at dksX0_isBalanced_0 1 rfl rfl)
theorem dX0_isBalanced_4 : decode cX0_isBalanced 4 = .ok (.aload_n 0, 1) := dk_42 (dk_at dksX0_isBalanced_0 4 rfl rfl)
theorem dX0_isBalanced_5 : decode cX0_isBalanced 5 = .ok (.getfield 11, 3) := dk_180 0 11 (dk_at dksX0_isBalanced_0 5 rfl rfl)
theorem dX0_isBalanced_8 : decode cX0_isBalanced 8 = .ok (.invokevirtual 264, 3) := dk_182 1 8 (dk_at dksX0_isBalanced_0 8 rfl rfl)
theorem dX0_isBalanced_11 : decode cX0_isBalanced 11 = .ok (.ifCond .eq 7, 3) := dk_153 0 7 (dk_at dksX0_isBalanced_0 11 rfl rfl)
theorem dX0_isBalanced_14 : decode cX0_isBalanced 14 = .ok (.iconst 1, 1) := dk_4 (dk_at dksX0_isBalanced_0 14 rfl rfl)
theorem dX0_isBalanced_15 : decode cX0_isBalanced 15 = .ok (.goto 4, 3) := dk_167 0 4 (dk_at dksX0_isBalanced_0 15 rfl rfl)
theorem dX0_isBalanced_18 : decode cX0_isBalanced 18 = .ok (.iconst 0, 1) := dk_3 (dk_at dksX0_isBalanced_0 18 rfl rfl)
theorem dX0_isBalanced_19 : decode cX0_isBalanced 19 = .ok (.ireturn, 1) := dk_172 (dk_at dksX0_isBalanced_0 19 rfl rfl)
abbrev cX0_meanHeld : ByteArray := prog_1_method_36_code
def yX0_meanHeld : MethodName := ⟨RX0, "meanHeld", "()D"⟩
def dkwX0_meanHeld_1 : List UInt8 := [135, 27, 135, 111, 175]
abbrev dktX0_meanHeld_1 : List UInt8 := dkwX0_meanHeld_1 ++ []
def dkwX0_meanHeld_0 : List UInt8 := [42, 180, 0, 18, 182, 0, 232, 60, 27, 154, 0, 7, 14, 167, 0, 15, 42, 180, 0, 18, 3, 182, 0, 240]
abbrev dktX0_meanHeld_0 : List UInt8 := dkwX0_meanHeld_0 ++ dktX0_meanHeld_1
theorem dksX0_meanHeld_0 : cX0_meanHeld.data.toList.drop 0 = dktX0_meanHeld_0 := by decide +kernel
theorem dksX0_meanHeld_1 : cX0_meanHeld.data.toList.drop 24 = dktX0_meanHeld_1 := dk_seg dksX0_meanHeld_0 24 rfl rfl
theorem dX0_meanHeld_0 : decode cX0_meanHeld 0 = .ok (.aload_n 0, 1) := dk_42 (dk_at dksX0_meanHeld_0 0 rfl rfl)
theorem dX0_meanHeld_1 : decode cX0_meanHeld 1 = .ok (.getfield 18, 3) := dk_180 0 18 (dk_at dksX0_meanHeld_0 1 rfl rfl)
theorem dX0_meanHeld_4 : decode cX0_meanHeld 4 = .ok (.invokevirtual 232, 3) := dk_182 0 232 (dk_at dksX0_meanHeld_0 4 rfl rfl)
theorem dX0_meanHeld_7 : decode cX0_meanHeld 7 = .ok (.istore_n 1, 1) := dk_60 (dk_at dksX0_meanHeld_0 7 rfl rfl)
theorem dX0_meanHeld_8 : decode cX0_meanHeld 8 = .ok (.iload_n 1, 1) := dk_27 (dk_at dksX0_meanHeld_0 8 rfl rfl)
theorem dX0_meanHeld_9 : decode cX0_meanHeld 9 = .ok (.ifCond .ne 7, 3) := dk_154 0 7 (dk_at dksX0_meanHeld_0 9 rfl rfl)
theorem dX0_meanHeld_12 : decode cX0_meanHeld 12 = .ok (.dconst 0, 1) := dk_14 (dk_at dksX0_meanHeld_0 12 rfl rfl)
theorem dX0_meanHeld_13 : decode cX0_meanHeld 13 = .ok (.goto 15, 3) := dk_167 0 15 (dk_at dksX0_meanHeld_0 13 rfl rfl)
theorem dX0_meanHeld_16 : decode cX0_meanHeld 16 = .ok (.aload_n 0, 1) := dk_42 (dk_at dksX0_meanHeld_0 16 rfl rfl)
theorem dX0_meanHeld_17 : decode cX0_meanHeld 17 = .ok (.getfield 18, 3) := dk_180 0 18 (dk_at dksX0_meanHeld_0 17 rfl rfl)
theorem dX0_meanHeld_20 : decode cX0_meanHeld 20 = .ok (.iconst 0, 1) := dk_3 (dk_at dksX0_meanHeld_0 20 rfl rfl)
theorem dX0_meanHeld_21 : decode cX0_meanHeld 21 = .ok (.invokevirtual 240, 3) := dk_182 0 240 (dk_at dksX0_meanHeld_0 21 rfl rfl)
theorem dX0_meanHeld_24 : decode cX0_meanHeld 24 = .ok (.i2d, 1) := dk_135 (dk_at dksX0_meanHeld_1 0 rfl rfl)
theorem dX0_meanHeld_25 : decode cX0_meanHeld 25 = .ok (.iload_n 1, 1) := dk_27 (dk_at dksX0_meanHeld_1 1 rfl rfl)
theorem dX0_meanHeld_26 : decode cX0_meanHeld 26 = .ok (.i2d, 1) := dk_135 (dk_at dksX0_meanHeld_1 2 rfl rfl)
theorem dX0_meanHeld_27 : decode cX0_meanHeld 27 = .ok (.ddiv, 1) := dk_111 (dk_at dksX0_meanHeld_1 3 rfl rfl)
theorem dX0_meanHeld_28 : decode cX0_meanHeld 28 = .ok (.dreturn, 1) := dk_175 (dk_at dksX0_meanHeld_1 4 rfl rfl)
abbrev cX0_waitingShare : ByteArray := prog_1_method_37_code
def yX0_waitingShare : MethodName := ⟨RX0, "waitingShare", "()F"⟩
def dkwX0_waitingShare_1 : List UInt8 := [27, 134, 110, 174]
abbrev dktX0_waitingShare_1 : List UInt8 := dkwX0_waitingShare_1 ++ []
def dkwX0_waitingShare_0 : List UInt8 := [42, 180, 0, 18, 182, 0, 232, 60, 27, 154, 0, 7, 11, 167, 0, 14, 42, 180, 0, 18, 182, 0, 238, 134]
abbrev dktX0_waitingShare_0 : List UInt8 := dkwX0_waitingShare_0 ++ dktX0_waitingShare_1
theorem dksX0_waitingShare_0 : cX0_waitingShare.data.toList.drop 0 = dktX0_waitingShare_0 := by decide +kernel
theorem dksX0_waitingShare_1 : cX0_waitingShare.data.toList.drop 24 = dktX0_waitingShare_1 := dk_seg dksX0_waitingShare_0 24 rfl rfl
theorem dX0_waitingShare_0 : decode cX0_waitingShare 0 = .ok (.aload_n 0, 1) := dk_42 (dk_at dksX0_waitingShare_0 0 rfl rfl)
theorem dX0_waitingShare_1 : decode cX0_waitingShare 1 = .ok (.getfield 18, 3) := dk_180 0 18 (dk_at dksX0_waitingShare_0 1 rfl rfl)
theorem dX0_waitingShare_4 : decode cX0_waitingShare 4 = .ok (.invokevirtual 232, 3) := dk_182 0 232 (dk_at dksX0_waitingShare_0 4 rfl rfl)
theorem dX0_waitingShare_7 : decode cX0_waitingShare 7 = .ok (.istore_n 1, 1) := dk_60 (dk_at dksX0_waitingShare_0 7 rfl rfl)
theorem dX0_waitingShare_8 : decode cX0_waitingShare 8 = .ok (.iload_n 1, 1) := dk_27 (dk_at dksX0_waitingShare_0 8 rfl rfl)
theorem dX0_waitingShare_9 : decode cX0_waitingShare 9 = .ok (.ifCond .ne 7, 3) := dk_154 0 7 (dk_at dksX0_waitingShare_0 9 rfl rfl)
theorem dX0_waitingShare_12 : decode cX0_waitingShare 12 = .ok (.fconst 0, 1) := dk_11 (dk_at dksX0_waitingShare_0 12 rfl rfl)
theorem dX0_waitingShare_13 : decode cX0_waitingShare 13 = .ok (.goto 14, 3) := dk_167 0 14 (dk_at dksX0_waitingShare_0 13 rfl rfl)
theorem dX0_waitingShare_16 : decode cX0_waitingShare 16 = .ok (.aload_n 0, 1) := dk_42 (dk_at dksX0_waitingShare_0 16 rfl rfl)
theorem dX0_waitingShare_17 : decode cX0_waitingShare 17 = .ok (.getfield 18, 3) := dk_180 0 18 (dk_at dksX0_waitingShare_0 17 rfl rfl)
theorem dX0_waitingShare_20 : decode cX0_waitingShare 20 = .ok (.invokevirtual 238, 3) := dk_182 0 238 (dk_at dksX0_waitingShare_0 20 rfl rfl)
theorem dX0_waitingShare_23 : decode cX0_waitingShare 23 = .ok (.i2f, 1) := dk_134 (dk_at dksX0_waitingShare_0 23 rfl rfl)
theorem dX0_waitingShare_24 : decode cX0_waitingShare 24 = .ok (.iload_n 1, 1) := dk_27 (dk_at dksX0_waitingShare_1 0 rfl rfl)
theorem dX0_waitingShare_25 : decode cX0_waitingShare 25 = .ok (.i2f, 1) := dk_134 (dk_at dksX0_waitingShare_1 1 rfl rfl)
theorem dX0_waitingShare_26 : decode cX0_waitingShare 26 = .ok (.fdiv, 1) := dk_110 (dk_at dksX0_waitingShare_1 2 rfl rfl)
theorem dX0_waitingShare_27 : decode cX0_waitingShare 27 = .ok (.freturn, 1) := dk_174 (dk_at dksX0_waitingShare_1 3 rfl rfl)
abbrev cX0_undo : ByteArray := prog_1_method_38_code
def yX0_undo : MethodName := ⟨RX0, "undo", "()I"⟩
def dkwX0_undo_1 : List UInt8 := [181, 0, 18, 42, 180, 0, 25, 182, 0, 71, 172]
abbrev dktX0_undo_1 : List UInt8 := dkwX0_undo_1 ++ []
def dkwX0_undo_0 : List UInt8 := [42, 180, 0, 25, 182, 1, 12, 153, 0, 6, 16, 241, 172, 42, 42, 180, 0, 25, 182, 1, 13, 192, 0, 15]
abbrev dktX0_undo_0 : List UInt8 := dkwX0_undo_0 ++ dktX0_undo_1
theorem dksX0_undo_0 : cX0_undo.data.toList.drop 0 = dktX0_undo_0 := by decide +kernel
theorem dksX0_undo_1 : cX0_undo.data.toList.drop 24 = dktX0_undo_1 := dk_seg dksX0_undo_0 24 rfl rfl
theorem dX0_undo_0 : decode cX0_undo 0 = .ok (.aload_n 0, 1) := dk_42 (dk_at dksX0_undo_0 0 rfl rfl)
theorem dX0_undo_1 : decode cX0_undo 1 = .ok (.getfield 25, 3) := dk_180 0 25 (dk_at dksX0_undo_0 1 rfl rfl)
theorem dX0_undo_4 : decode cX0_undo 4 = .ok (.invokevirtual 268, 3) := dk_182 1 12 (dk_at dksX0_undo_0 4 rfl rfl)
theorem dX0_undo_7 : decode cX0_undo 7 = .ok (.ifCond .eq 6, 3) := dk_153 0 6 (dk_at dksX0_undo_0 7 rfl rfl)
theorem dX0_undo_10 : decode cX0_undo 10 = .ok (.bipush (-15), 2) := dk_16 241 (dk_at dksX0_undo_0 10 rfl rfl)
theorem dX0_undo_12 : decode cX0_undo 12 = .ok (.ireturn, 1) := dk_172 (dk_at dksX0_undo_0 12 rfl rfl)
theorem dX0_undo_13 : decode cX0_undo 13 = .ok (.aload_n 0, 1) := dk_42 (dk_at dksX0_undo_0 13 rfl rfl)
theorem dX0_undo_14 : decode cX0_undo 14 = .ok (.aload_n 0, 1) := dk_42 (dk_at dksX0_undo_0 14 rfl rfl)
theorem dX0_undo_15 : decode cX0_undo 15 = .ok (.getfield 25, 3) := dk_180 0 25 (dk_at dksX0_undo_0 15 rfl rfl)
theorem dX0_undo_18 : decode cX0_undo 18 = .ok (.invokevirtual 269, 3) := dk_182 1 13 (dk_at dksX0_undo_0 18 rfl rfl)
theorem dX0_undo_21 : decode cX0_undo 21 = .ok (.checkcast 15, 3) := dk_192 0 15 (dk_at dksX0_undo_0 21 rfl rfl)
theorem dX0_undo_24 : decode cX0_undo 24 = .ok (.putfield 18, 3) := dk_181 0 18 (dk_at dksX0_undo_1 0 rfl rfl)
theorem dX0_undo_27 : decode cX0_undo 27 = .ok (.aload_n 0, 1) := dk_42 (dk_at dksX0_undo_1 3 rfl rfl)
theorem dX0_undo_28 : decode cX0_undo 28 = .ok (.getfield 25, 3) := dk_180 0 25 (dk_at dksX0_undo_1 4 rfl rfl)
theorem dX0_undo_31 : decode cX0_undo 31 = .ok (.invokevirtual 71, 3) := dk_182 0 71 (dk_at dksX0_undo_1 7 rfl rfl)
theorem dX0_undo_34 : decode cX0_undo 34 = .ok (.ireturn, 1) := dk_172 (dk_at dksX0_undo_1 10 rfl rfl)
abbrev cX0_save : ByteArray := prog_1_method_39_code
def yX0_save : MethodName := ⟨RX0, "save", "()I"⟩
def dkwX0_save_0 : List UInt8 := [42, 42, 180, 0, 18, 182, 0, 86, 181, 1, 16, 42, 180, 1, 16, 182, 0, 232, 172]
abbrev dktX0_save_0 : List UInt8 := dkwX0_save_0 ++ []
theorem dksX0_save_0 : cX0_save.data.toList.drop 0 = dktX0_save_0 := by decide +kernel
theorem dX0_save_0 : decode cX0_save 0 = .ok (.aload_n 0, 1) := dk_42 (dk_at dksX0_save_0 0 rfl rfl)
theorem dX0_save_1 : decode cX0_save 1 = .ok (.aload_n 0, 1) := dk_42 (dk_at dksX0_save_0 1 rfl rfl)
theorem dX0_save_2 : decode cX0_save 2 = .ok (.getfield 18, 3) := dk_180 0 18 (dk_at dksX0_save_0 2 rfl rfl)
theorem dX0_save_5 : decode cX0_save 5 = .ok (.invokevirtual 86, 3) := dk_182 0 86 (dk_at dksX0_save_0 5 rfl rfl)
theorem dX0_save_8 : decode cX0_save 8 = .ok (.putfield 272, 3) := dk_181 1 16 (dk_at dksX0_save_0 8 rfl rfl)
theorem dX0_save_11 : decode cX0_save 11 = .ok (.aload_n 0, 1) := dk_42 (dk_at dksX0_save_0 11 rfl rfl)
theorem dX0_save_12 : decode cX0_save 12 = .ok (.getfield 272, 3) := dk_180 1 16 (dk_at dksX0_save_0 12 rfl rfl)
theorem dX0_save_15 : decode cX0_save 15 = .ok (.invokevirtual 232, 3) := dk_182 0 232 (dk_at dksX0_save_0 15 rfl rfl)
theorem dX0_save_18 : decode cX0_save 18 = .ok (.ireturn, 1) := dk_172 (dk_at dksX0_save_0 18 rfl rfl)
abbrev cX0_restore : ByteArray := prog_1_method_40_code
def yX0_restore : MethodName := ⟨RX0, "restore", "()I"⟩
def dkwX0_restore_1 : List UInt8 := [180, 0, 25, 182, 1, 19, 42, 180, 0, 18, 182, 0, 232, 172]
abbrev dktX0_restore_1 : List UInt8 := dkwX0_restore_1 ++ []
def dkwX0_restore_0 : List UInt8 := [42, 180, 1, 16, 199, 0, 6, 16, 241, 172, 42, 42, 180, 1, 16, 182, 0, 86, 181, 0, 18, 42]
abbrev dktX0_restore_0 : List UInt8 := dkwX0_restore_0 ++ dktX0_restore_1
theorem dksX0_restore_0 : cX0_restore.data.toList.drop 0 = dktX0_restore_0 := by decide +kernel
theorem dksX0_restore_1 : cX0_restore.data.toList.drop 22 = dktX0_restore_1 := dk_seg dksX0_restore_0 22 rfl rfl
theorem dX0_restore_0 : decode cX0_restore 0 = .ok (.aload_n 0, 1) := dk_42 (dk_at dksX0_restore_0 0 rfl rfl)
theorem dX0_restore_1 : decode cX0_restore 1 = .ok (.getfield 272, 3) := dk_180 1 16 (dk_at dksX0_restore_0 1 rfl rfl)
theorem dX0_restore_4 : decode cX0_restore 4 = .ok (.ifnonnull 6, 3) := dk_199 0 6 (dk_at dksX0_restore_0 4 rfl rfl)
theorem dX0_restore_7 : decode cX0_restore 7 = .ok (.bipush (-15), 2) := dk_16 241 (dk_at dksX0_restore_0 7 rfl rfl)
theorem dX0_restore_9 : decode cX0_restore 9 = .ok (.ireturn, 1) := dk_172 (dk_at dksX0_restore_0 9 rfl rfl)
theorem dX0_restore_10 : decode cX0_restore 10 = .ok (.aload_n 0, 1) := dk_42 (dk_at dksX0_restore_0 10 rfl rfl)
theorem dX0_restore_11 : decode cX0_restore 11 = .ok (.aload_n 0, 1) := dk_42 (dk_at dksX0_restore_0 11 rfl rfl)
theorem dX0_restore_12 : decode cX0_restore 12 = .ok (.getfield 272, 3) := dk_180 1 16 (dk_at dksX0_restore_0 12 rfl rfl)
theorem dX0_restore_15 : decode cX0_restore 15 = .ok (.invokevirtual 86, 3) := dk_182 0 86 (dk_at dksX0_restore_0 15 rfl rfl)
theorem dX0_restore_18 : decode cX0_restore 18 = .ok (.putfield 18, 3) := dk_181 0 18 (dk_at dksX0_restore_0 18 rfl rfl)
theorem dX0_restore_21 : decode cX0_restore 21 = .ok (.aload_n 0, 1) := dk_42 (dk_at dksX0_restore_0 21 rfl rfl)
theorem dX0_restore_22 : decode cX0_restore 22 = .ok (.getfield 25, 3) := dk_180 0 25 (dk_at dksX0_restore_1 0 rfl rfl)
theorem dX0_restore_25 : decode cX0_restore 25 = .ok (.invokevirtual 275, 3) := dk_182 1 19 (dk_at dksX0_restore_1 3 rfl rfl)
theorem dX0_restore_28 : decode cX0_restore 28 = .ok (.aload_n 0, 1) := dk_42 (dk_at dksX0_restore_1 6 rfl rfl)
theorem dX0_restore_29 : decode cX0_restore 29 = .ok (.getfield 18, 3) := dk_180 0 18 (dk_at dksX0_restore_1 7 rfl rfl)
theorem dX0_restore_32 : decode cX0_restore 32 = .ok (.invokevirtual 232, 3) := dk_182 0 232 (dk_at dksX0_restore_1 10 rfl rfl)
theorem dX0_restore_35 : decode cX0_restore 35 = .ok (.ireturn, 1) := dk_172 (dk_at dksX0_restore_1 13 rfl rfl)
theorem q85 : (Jvm.Cond.initialized "LarderLocks") ∈ lw_all := lw_g (lw_at lw_m1 1 rfl) rfl
theorem q130 : (Jvm.Cond.instantiable "LarderLocks" (8 : Nat)) ∈ lw_all := lw_g (lw_at lw_m1 46 rfl) rfl
theorem q132 : (Jvm.Cond.instanceMethod ({ cls := "LarderLocks", name := "<init>", desc := "()V" } : Jvm.MethodName)) ∈ lw_all := lw_g (lw_at lw_m1 48 rfl) rfl
theorem q133 : (Jvm.Cond.code ({ cls := "LarderLocks", name := "<init>", desc := "()V" } : Jvm.MethodName) prog_1_method_1_code (3 : Nat) (Option.none : Option Jvm.ClassFile.FieldType)) ∈ lw_all := lw_g (lw_at lw_m1 49 rfl) rfl
theorem q134 : (Jvm.Cond.methodLink "LarderLocks" (1 : Nat) ({ cls := "java/lang/Object", name := "<init>", desc := "()V" } : Jvm.MethodName)) ∈ lw_all := lw_g (lw_at lw_m1 50 rfl) rfl
theorem q137 : (Jvm.Cond.classLink "LarderLocks" (9 : Nat) "LarderLocks$Fit") ∈ lw_all := lw_g (lw_at lw_m1 53 rfl) rfl
theorem q139 : (Jvm.Cond.classLink "LarderLocks" (15 : Nat) "LarderLocks$Larder") ∈ lw_all := lw_g (lw_at lw_m1 55 rfl) rfl
theorem q141 : (Jvm.Cond.methodLink "LarderLocks" (17 : Nat) ({ cls := "LarderLocks$Larder", name := "<init>", desc := "()V" } : Jvm.MethodName)) ∈ lw_all := lw_g (lw_at lw_m1 57 rfl) rfl
theorem q239 : (Jvm.Cond.selects "LarderLocks" ({ cls := "java/lang/Object", name := "getClass", desc := "()Ljava/lang/Class;" } : Jvm.MethodName) ({ cls := "java/lang/Object", name := "getClass", desc := "()Ljava/lang/Class;" } : Jvm.MethodName)) ∈ lw_all := lw_g (lw_at lw_m1 155 rfl) rfl
theorem q278 : (Jvm.Cond.fieldLinkNest "LarderLocks" (117 : Nat) "LarderLocks$Larder" "how" "[[S" "LarderLocks") ∈ lw_tbl := lw_at lw_m1 194 rfl
theorem q280 : (Jvm.Cond.fieldLinkNest "LarderLocks" (134 : Nat) "LarderLocks$Larder" "rows" "Ljava/util/ArrayList;" "LarderLocks") ∈ lw_tbl := lw_at lw_m1 196 rfl
theorem q282 : (Jvm.Cond.fieldLinkNest "LarderLocks" (255 : Nat) "LarderLocks$Larder" "letGo" "[I" "LarderLocks") ∈ lw_tbl := lw_at lw_m1 198 rfl
theorem q284 : (Jvm.Cond.fieldLinkNest "LarderLocks" (252 : Nat) "LarderLocks$Larder" "waited" "[I" "LarderLocks") ∈ lw_tbl := lw_at lw_m1 200 rfl
theorem q287 : (Jvm.Cond.fieldLinkNest "LarderLocks" (244 : Nat) "LarderLocks$Larder" "given" "[I" "LarderLocks") ∈ lw_tbl := lw_at lw_m1 203 rfl
theorem q291 : (Jvm.Cond.fieldLinkNest "LarderLocks" (235 : Nat) "LarderLocks$Larder" "came" "I" "LarderLocks") ∈ lw_tbl := lw_at lw_m1 207 rfl
theorem q293 : (Jvm.Cond.fieldLinkNest "LarderLocks" (258 : Nat) "LarderLocks$Larder" "ended" "I" "LarderLocks") ∈ lw_tbl := lw_at lw_m1 209 rfl
theorem q315 : (Jvm.Cond.classLink "LarderLocks" (22 : Nat) "java/util/ArrayDeque") ∈ lw_all := lw_g (lw_at lw_m1 231 rfl) rfl
theorem q317 : (Jvm.Cond.methodLink "LarderLocks" (24 : Nat) ({ cls := "java/util/ArrayDeque", name := "<init>", desc := "()V" } : Jvm.MethodName)) ∈ lw_all := lw_g (lw_at lw_m1 233 rfl) rfl
theorem q334 : (Jvm.Cond.classLink "LarderLocks" (29 : Nat) "java/lang/StringBuilder") ∈ lw_all := lw_g (lw_at lw_m2 10 rfl) rfl
theorem q336 : (Jvm.Cond.methodLink "LarderLocks" (31 : Nat) ({ cls := "java/lang/StringBuilder", name := "<init>", desc := "()V" } : Jvm.MethodName)) ∈ lw_all := lw_g (lw_at lw_m2 12 rfl) rfl
theorem q367 : (Jvm.Cond.stringRef "LarderLocks" (36 : Nat) "") ∈ lw_tbl := lw_at lw_m2 43 rfl
theorem q368 : (Jvm.Cond.static ({ cls := "LarderLocks", name := "lambda$new$0", desc := "(II)Z" } : Jvm.MethodName)) ∈ lw_all := lw_g (lw_at lw_m2 44 rfl) rfl
theorem q369 : (Jvm.Cond.code ({ cls := "LarderLocks", name := "lambda$new$0", desc := "(II)Z" } : Jvm.MethodName) prog_1_method_41_code (2 : Nat) (Option.some Jvm.ClassFile.FieldType.boolean)) ∈ lw_all := lw_g (lw_at lw_m2 45 rfl) rfl
theorem q370 : (Jvm.Cond.fieldLink "LarderLocks" (11 : Nat) "LarderLocks" "fits" "[LLarderLocks$Fit;") ∈ lw_all := lw_g (lw_at lw_m2 46 rfl) rfl
theorem q371 : (Jvm.Cond.fieldLink "LarderLocks" (18 : Nat) "LarderLocks" "larder" "LLarderLocks$Larder;") ∈ lw_all := lw_g (lw_at lw_m2 47 rfl) rfl
theorem q372 : (Jvm.Cond.fieldLink "LarderLocks" (272 : Nat) "LarderLocks" "saved" "LLarderLocks$Larder;") ∈ lw_all := lw_g (lw_at lw_m2 48 rfl) rfl
theorem q373 : (Jvm.Cond.fieldLink "LarderLocks" (25 : Nat) "LarderLocks" "past" "Ljava/util/ArrayDeque;") ∈ lw_all := lw_g (lw_at lw_m2 49 rfl) rfl
theorem q374 : (Jvm.Cond.fieldLink "LarderLocks" (59 : Nat) "LarderLocks" "reason" "I") ∈ lw_all := lw_g (lw_at lw_m2 50 rfl) rfl
theorem q375 : (Jvm.Cond.fieldLink "LarderLocks" (63 : Nat) "LarderLocks" "detail" "I") ∈ lw_all := lw_g (lw_at lw_m2 51 rfl) rfl
theorem q376 : (Jvm.Cond.fieldLink "LarderLocks" (32 : Nat) "LarderLocks" "text" "Ljava/lang/StringBuilder;") ∈ lw_all := lw_g (lw_at lw_m2 52 rfl) rfl
theorem q378 : (Jvm.Cond.fieldLink "LarderLocks" (38 : Nat) "LarderLocks" "line" "Ljava/lang/String;") ∈ lw_all := lw_g (lw_at lw_m2 54 rfl) rfl
theorem q379 : (Jvm.Cond.laysFinal "LarderLocks" "LarderLocks" "fits" "[LLarderLocks$Fit;") ∈ lw_all := lw_g (lw_at lw_m2 55 rfl) rfl
theorem q380 : (Jvm.Cond.soleField "LarderLocks" "fits") ∈ lw_all := lw_g (lw_at lw_m2 56 rfl) rfl
theorem q381 : (Jvm.Cond.lays "LarderLocks" "LarderLocks" "larder" "LLarderLocks$Larder;") ∈ lw_all := lw_g (lw_at lw_m2 57 rfl) rfl
theorem q382 : (Jvm.Cond.soleField "LarderLocks" "larder") ∈ lw_all := lw_g (lw_at lw_m2 58 rfl) rfl
theorem q383 : (Jvm.Cond.lays "LarderLocks" "LarderLocks" "saved" "LLarderLocks$Larder;") ∈ lw_all := lw_g (lw_at lw_m2 59 rfl) rfl
theorem q384 : (Jvm.Cond.soleField "LarderLocks" "saved") ∈ lw_all := lw_g (lw_at lw_m2 60 rfl) rfl
theorem q385 : (Jvm.Cond.laysFinal "LarderLocks" "LarderLocks" "past" "Ljava/util/ArrayDeque;") ∈ lw_all := lw_g (lw_at lw_m2 61 rfl) rfl
theorem q386 : (Jvm.Cond.soleField "LarderLocks" "past") ∈ lw_all := lw_g (lw_at lw_m2 62 rfl) rfl
theorem q387 : (Jvm.Cond.lays "LarderLocks" "LarderLocks" "reason" "I") ∈ lw_all := lw_g (lw_at lw_m2 63 rfl) rfl
theorem q388 : (Jvm.Cond.soleField "LarderLocks" "reason") ∈ lw_all := lw_g (lw_at lw_m2 64 rfl) rfl
theorem q389 : (Jvm.Cond.lays "LarderLocks" "LarderLocks" "detail" "I") ∈ lw_all := lw_g (lw_at lw_m2 65 rfl) rfl
theorem q390 : (Jvm.Cond.soleField "LarderLocks" "detail") ∈ lw_all := lw_g (lw_at lw_m2 66 rfl) rfl
theorem q391 : (Jvm.Cond.laysFinal "LarderLocks" "LarderLocks" "text" "Ljava/lang/StringBuilder;") ∈ lw_all := lw_g (lw_at lw_m2 67 rfl) rfl
theorem q392 : (Jvm.Cond.soleField "LarderLocks" "text") ∈ lw_all := lw_g (lw_at lw_m2 68 rfl) rfl
theorem q393 : (Jvm.Cond.lays "LarderLocks" "LarderLocks" "line" "Ljava/lang/String;") ∈ lw_all := lw_g (lw_at lw_m2 69 rfl) rfl
theorem q394 : (Jvm.Cond.soleField "LarderLocks" "line") ∈ lw_all := lw_g (lw_at lw_m2 70 rfl) rfl
theorem q395 : (Jvm.Cond.superclass "LarderLocks" "java/lang/Object") ∈ lw_all := lw_g (lw_at lw_m2 71 rfl) rfl
theorem q397 : (Jvm.Cond.instanceMethod ({ cls := "LarderLocks", name := "maid", desc := "()I" } : Jvm.MethodName)) ∈ lw_all := lw_g (lw_at lw_m2 73 rfl) rfl
theorem q398 : (Jvm.Cond.selects "LarderLocks" ({ cls := "LarderLocks", name := "maid", desc := "()I" } : Jvm.MethodName) ({ cls := "LarderLocks", name := "maid", desc := "()I" } : Jvm.MethodName)) ∈ lw_all := lw_g (lw_at lw_m2 74 rfl) rfl
theorem q399 : (Jvm.Cond.codeWith ({ cls := "LarderLocks", name := "maid", desc := "()I" } : Jvm.MethodName) prog_1_method_10_code (3 : Nat) (Option.some Jvm.ClassFile.FieldType.int) [((8 : Nat), (20 : Nat), (21 : Nat), (50 : Nat))]) ∈ lw_all := lw_g (lw_at lw_m2 75 rfl) rfl
theorem q400 : (Jvm.Cond.classLink "LarderLocks" (50 : Nat) "LarderLocks$Refused") ∈ lw_all := lw_g (lw_at lw_m2 76 rfl) rfl
theorem q401 : (Jvm.Cond.methodLink "LarderLocks" (86 : Nat) ({ cls := "LarderLocks$Larder", name := "copy", desc := "()LLarderLocks$Larder;" } : Jvm.MethodName)) ∈ lw_all := lw_g (lw_at lw_m2 77 rfl) rfl
theorem q945 : (Jvm.Cond.methodLink "LarderLocks" (90 : Nat) ({ cls := "LarderLocks$Larder", name := "comes", desc := "()I" } : Jvm.MethodName)) ∈ lw_all := lw_g (lw_at lw_m4 141 rfl) rfl
theorem q960 : (Jvm.Cond.static ({ cls := "LarderLocks", name := "refuse", desc := "(ZII)V" } : Jvm.MethodName)) ∈ lw_all := lw_g (lw_at lw_m4 156 rfl) rfl
theorem q961 : (Jvm.Cond.code ({ cls := "LarderLocks", name := "refuse", desc := "(ZII)V" } : Jvm.MethodName) prog_1_method_6_code (3 : Nat) (Option.none : Option Jvm.ClassFile.FieldType)) ∈ lw_all := lw_g (lw_at lw_m4 157 rfl) rfl
theorem q970 : (Jvm.Cond.methodLink "LarderLocks" (52 : Nat) ({ cls := "LarderLocks$Refused", name := "<init>", desc := "(II)V" } : Jvm.MethodName)) ∈ lw_all := lw_g (lw_at lw_m4 166 rfl) rfl
theorem q980 : (Jvm.Cond.fieldLinkNest "LarderLocks" (55 : Nat) "LarderLocks$Refused" "reason" "I" "LarderLocks") ∈ lw_tbl := lw_at lw_m4 176 rfl
theorem q982 : (Jvm.Cond.fieldLinkNest "LarderLocks" (60 : Nat) "LarderLocks$Refused" "detail" "I" "LarderLocks") ∈ lw_tbl := lw_at lw_m4 178 rfl
theorem q989 : (Jvm.Cond.methodLink "LarderLocks" (93 : Nat) ({ cls := "LarderLocks", name := "changed", desc := "(LLarderLocks$Larder;I)I" } : Jvm.MethodName)) ∈ lw_all := lw_g (lw_at lw_m4 185 rfl) rfl
theorem q990 : (Jvm.Cond.privateMethod ({ cls := "LarderLocks", name := "changed", desc := "(LLarderLocks$Larder;I)I" } : Jvm.MethodName)) ∈ lw_tbl := lw_at lw_m4 186 rfl
theorem q991 : (Jvm.Cond.instanceMethod ({ cls := "LarderLocks", name := "changed", desc := "(LLarderLocks$Larder;I)I" } : Jvm.MethodName)) ∈ lw_all := lw_g (lw_at lw_m4 187 rfl) rfl
theorem q992 : (Jvm.Cond.code ({ cls := "LarderLocks", name := "changed", desc := "(LLarderLocks$Larder;I)I" } : Jvm.MethodName) prog_1_method_8_code (3 : Nat) (Option.some Jvm.ClassFile.FieldType.int)) ∈ lw_all := lw_g (lw_at lw_m4 188 rfl) rfl
theorem q993 : (Jvm.Cond.methodLink "LarderLocks" (64 : Nat) ({ cls := "LarderLocks$Larder", name := "notes", desc := "()V" } : Jvm.MethodName)) ∈ lw_all := lw_g (lw_at lw_m4 189 rfl) rfl
theorem q999 : (Jvm.Cond.methodLink "LarderLocks" (67 : Nat) ({ cls := "java/util/ArrayDeque", name := "addLast", desc := "(Ljava/lang/Object;)V" } : Jvm.MethodName)) ∈ lw_all := lw_g (lw_at lw_m4 195 rfl) rfl
theorem q1016 : (Jvm.Cond.methodLink "LarderLocks" (71 : Nat) ({ cls := "java/util/ArrayDeque", name := "size", desc := "()I" } : Jvm.MethodName)) ∈ lw_all := lw_g (lw_at lw_m4 212 rfl) rfl
theorem q1023 : (Jvm.Cond.methodLink "LarderLocks" (75 : Nat) ({ cls := "java/util/ArrayDeque", name := "removeFirst", desc := "()Ljava/lang/Object;" } : Jvm.MethodName)) ∈ lw_all := lw_g (lw_at lw_m4 219 rfl) rfl
theorem q1034 : (Jvm.Cond.methodLink "LarderLocks" (97 : Nat) ({ cls := "LarderLocks", name := "refused", desc := "(LLarderLocks$Refused;)I" } : Jvm.MethodName)) ∈ lw_all := lw_g (lw_at lw_m4 230 rfl) rfl
theorem q1035 : (Jvm.Cond.privateMethod ({ cls := "LarderLocks", name := "refused", desc := "(LLarderLocks$Refused;)I" } : Jvm.MethodName)) ∈ lw_tbl := lw_at lw_m4 231 rfl
theorem q1036 : (Jvm.Cond.instanceMethod ({ cls := "LarderLocks", name := "refused", desc := "(LLarderLocks$Refused;)I" } : Jvm.MethodName)) ∈ lw_all := lw_g (lw_at lw_m4 232 rfl) rfl
theorem q1037 : (Jvm.Cond.code ({ cls := "LarderLocks", name := "refused", desc := "(LLarderLocks$Refused;)I" } : Jvm.MethodName) prog_1_method_7_code (2 : Nat) (Option.some Jvm.ClassFile.FieldType.int)) ∈ lw_all := lw_g (lw_at lw_m4 233 rfl) rfl
theorem q1039 : (Jvm.Cond.instanceMethod ({ cls := "LarderLocks", name := "want", desc := "(IIZ)I" } : Jvm.MethodName)) ∈ lw_all := lw_g (lw_at lw_m4 235 rfl) rfl
theorem q1040 : (Jvm.Cond.selects "LarderLocks" ({ cls := "LarderLocks", name := "want", desc := "(IIZ)I" } : Jvm.MethodName) ({ cls := "LarderLocks", name := "want", desc := "(IIZ)I" } : Jvm.MethodName)) ∈ lw_all := lw_g (lw_at lw_m4 236 rfl) rfl
theorem q1041 : (Jvm.Cond.codeWith ({ cls := "LarderLocks", name := "want", desc := "(IIZ)I" } : Jvm.MethodName) prog_1_method_11_code (6 : Nat) (Option.some Jvm.ClassFile.FieldType.int) [((21 : Nat), (41 : Nat), (42 : Nat), (50 : Nat))]) ∈ lw_all := lw_g (lw_at lw_m4 237 rfl) rfl
theorem q1042 : (Jvm.Cond.methodLink "LarderLocks" (101 : Nat) ({ cls := "LarderLocks", name := "areThere", desc := "(II)Z" } : Jvm.MethodName)) ∈ lw_all := lw_g (lw_at lw_m4 238 rfl) rfl
theorem q1043 : (Jvm.Cond.privateMethod ({ cls := "LarderLocks", name := "areThere", desc := "(II)Z" } : Jvm.MethodName)) ∈ lw_tbl := lw_at lw_m4 239 rfl
theorem q1044 : (Jvm.Cond.instanceMethod ({ cls := "LarderLocks", name := "areThere", desc := "(II)Z" } : Jvm.MethodName)) ∈ lw_all := lw_g (lw_at lw_m5 0 rfl) rfl
theorem q1045 : (Jvm.Cond.code ({ cls := "LarderLocks", name := "areThere", desc := "(II)Z" } : Jvm.MethodName) prog_1_method_9_code (3 : Nat) (Option.some Jvm.ClassFile.FieldType.boolean)) ∈ lw_all := lw_g (lw_at lw_m5 1 rfl) rfl
theorem q1046 : (Jvm.Cond.methodLink "LarderLocks" (79 : Nat) ({ cls := "LarderLocks$Larder", name := "isThere", desc := "(I)Z" } : Jvm.MethodName)) ∈ lw_all := lw_g (lw_at lw_m5 2 rfl) rfl
theorem q1051 : (Jvm.Cond.static ({ cls := "LarderLocks", name := "isIn", desc := "(III)Z" } : Jvm.MethodName)) ∈ lw_all := lw_g (lw_at lw_m5 7 rfl) rfl
theorem q1052 : (Jvm.Cond.code ({ cls := "LarderLocks", name := "isIn", desc := "(III)Z" } : Jvm.MethodName) prog_1_method_2_code (3 : Nat) (Option.some Jvm.ClassFile.FieldType.boolean)) ∈ lw_all := lw_g (lw_at lw_m5 8 rfl) rfl
theorem q1054 : (Jvm.Cond.static ({ cls := "LarderLocks", name := "has", desc := "(II)Z" } : Jvm.MethodName)) ∈ lw_all := lw_g (lw_at lw_m5 10 rfl) rfl
theorem q1055 : (Jvm.Cond.code ({ cls := "LarderLocks", name := "has", desc := "(II)Z" } : Jvm.MethodName) prog_1_method_4_code (2 : Nat) (Option.some Jvm.ClassFile.FieldType.boolean)) ∈ lw_all := lw_g (lw_at lw_m5 11 rfl) rfl
theorem q1056 : (Jvm.Cond.methodLink "LarderLocks" (83 : Nat) ({ cls := "LarderLocks", name := "isShelf", desc := "(I)Z" } : Jvm.MethodName)) ∈ lw_all := lw_g (lw_at lw_m5 12 rfl) rfl
theorem q1057 : (Jvm.Cond.static ({ cls := "LarderLocks", name := "isShelf", desc := "(I)Z" } : Jvm.MethodName)) ∈ lw_all := lw_g (lw_at lw_m5 13 rfl) rfl
theorem q1058 : (Jvm.Cond.code ({ cls := "LarderLocks", name := "isShelf", desc := "(I)Z" } : Jvm.MethodName) prog_1_method_3_code (1 : Nat) (Option.some Jvm.ClassFile.FieldType.boolean)) ∈ lw_all := lw_g (lw_at lw_m5 14 rfl) rfl
theorem q1059 : (Jvm.Cond.methodLink "LarderLocks" (46 : Nat) ({ cls := "LarderLocks", name := "isIn", desc := "(III)Z" } : Jvm.MethodName)) ∈ lw_all := lw_g (lw_at lw_m5 15 rfl) rfl
theorem q1060 : (Jvm.Cond.methodLink "LarderLocks" (105 : Nat) ({ cls := "LarderLocks$Larder", name := "wants", desc := "(IIZ[LLarderLocks$Fit;)I" } : Jvm.MethodName)) ∈ lw_all := lw_g (lw_at lw_m5 16 rfl) rfl
theorem q1079 : (Jvm.Cond.fieldLinkNest "LarderLocks" (150 : Nat) "LarderLocks$Wish" "maid" "I" "LarderLocks") ∈ lw_tbl := lw_at lw_m5 35 rfl
theorem q1357 : (Jvm.Cond.instanceMethod ({ cls := "LarderLocks", name := "free", desc := "(II)I" } : Jvm.MethodName)) ∈ lw_all := lw_g (lw_at lw_m6 73 rfl) rfl
theorem q1358 : (Jvm.Cond.selects "LarderLocks" ({ cls := "LarderLocks", name := "free", desc := "(II)I" } : Jvm.MethodName) ({ cls := "LarderLocks", name := "free", desc := "(II)I" } : Jvm.MethodName)) ∈ lw_all := lw_g (lw_at lw_m6 74 rfl) rfl
theorem q1359 : (Jvm.Cond.codeWith ({ cls := "LarderLocks", name := "free", desc := "(II)I" } : Jvm.MethodName) prog_1_method_12_code (5 : Nat) (Option.some Jvm.ClassFile.FieldType.int) [((20 : Nat), (38 : Nat), (39 : Nat), (50 : Nat))]) ∈ lw_all := lw_g (lw_at lw_m6 75 rfl) rfl
theorem q1360 : (Jvm.Cond.methodLink "LarderLocks" (109 : Nat) ({ cls := "LarderLocks$Larder", name := "frees", desc := "(II[LLarderLocks$Fit;)I" } : Jvm.MethodName)) ∈ lw_all := lw_g (lw_at lw_m6 76 rfl) rfl
theorem q1365 : (Jvm.Cond.instanceMethod ({ cls := "LarderLocks", name := "end", desc := "(I)I" } : Jvm.MethodName)) ∈ lw_all := lw_g (lw_at lw_m6 81 rfl) rfl
theorem q1366 : (Jvm.Cond.selects "LarderLocks" ({ cls := "LarderLocks", name := "end", desc := "(I)I" } : Jvm.MethodName) ({ cls := "LarderLocks", name := "end", desc := "(I)I" } : Jvm.MethodName)) ∈ lw_all := lw_g (lw_at lw_m6 82 rfl) rfl
theorem q1367 : (Jvm.Cond.code ({ cls := "LarderLocks", name := "end", desc := "(I)I" } : Jvm.MethodName) prog_1_method_13_code (3 : Nat) (Option.some Jvm.ClassFile.FieldType.int)) ∈ lw_all := lw_g (lw_at lw_m6 83 rfl) rfl
theorem q1368 : (Jvm.Cond.methodLink "LarderLocks" (113 : Nat) ({ cls := "LarderLocks$Larder", name := "ends", desc := "(I[LLarderLocks$Fit;)I" } : Jvm.MethodName)) ∈ lw_all := lw_g (lw_at lw_m6 84 rfl) rfl
theorem q1373 : (Jvm.Cond.instanceMethod ({ cls := "LarderLocks", name := "holds", desc := "(II)I" } : Jvm.MethodName)) ∈ lw_all := lw_g (lw_at lw_m6 89 rfl) rfl
theorem q1374 : (Jvm.Cond.selects "LarderLocks" ({ cls := "LarderLocks", name := "holds", desc := "(II)I" } : Jvm.MethodName) ({ cls := "LarderLocks", name := "holds", desc := "(II)I" } : Jvm.MethodName)) ∈ lw_all := lw_g (lw_at lw_m6 90 rfl) rfl
theorem q1375 : (Jvm.Cond.code ({ cls := "LarderLocks", name := "holds", desc := "(II)I" } : Jvm.MethodName) prog_1_method_14_code (3 : Nat) (Option.some Jvm.ClassFile.FieldType.int)) ∈ lw_all := lw_g (lw_at lw_m6 91 rfl) rfl
theorem q1377 : (Jvm.Cond.instanceMethod ({ cls := "LarderLocks", name := "maidOf", desc := "(II)I" } : Jvm.MethodName)) ∈ lw_all := lw_g (lw_at lw_m6 93 rfl) rfl
theorem q1378 : (Jvm.Cond.selects "LarderLocks" ({ cls := "LarderLocks", name := "maidOf", desc := "(II)I" } : Jvm.MethodName) ({ cls := "LarderLocks", name := "maidOf", desc := "(II)I" } : Jvm.MethodName)) ∈ lw_all := lw_g (lw_at lw_m6 94 rfl) rfl
theorem q1379 : (Jvm.Cond.code ({ cls := "LarderLocks", name := "maidOf", desc := "(II)I" } : Jvm.MethodName) prog_1_method_15_code (3 : Nat) (Option.some Jvm.ClassFile.FieldType.int)) ∈ lw_all := lw_g (lw_at lw_m6 95 rfl) rfl
theorem q1380 : (Jvm.Cond.methodLink "LarderLocks" (121 : Nat) ({ cls := "LarderLocks$Larder", name := "ofMaid", desc := "(II)I" } : Jvm.MethodName)) ∈ lw_all := lw_g (lw_at lw_m6 96 rfl) rfl
theorem q1394 : (Jvm.Cond.instanceMethod ({ cls := "LarderLocks", name := "heldBy", desc := "(II)I" } : Jvm.MethodName)) ∈ lw_all := lw_g (lw_at lw_m6 110 rfl) rfl
theorem q1395 : (Jvm.Cond.selects "LarderLocks" ({ cls := "LarderLocks", name := "heldBy", desc := "(II)I" } : Jvm.MethodName) ({ cls := "LarderLocks", name := "heldBy", desc := "(II)I" } : Jvm.MethodName)) ∈ lw_all := lw_g (lw_at lw_m6 111 rfl) rfl
theorem q1396 : (Jvm.Cond.code ({ cls := "LarderLocks", name := "heldBy", desc := "(II)I" } : Jvm.MethodName) prog_1_method_16_code (3 : Nat) (Option.some Jvm.ClassFile.FieldType.int)) ∈ lw_all := lw_g (lw_at lw_m6 112 rfl) rfl
theorem q1397 : (Jvm.Cond.methodLink "LarderLocks" (125 : Nat) ({ cls := "LarderLocks$Larder", name := "heldBy", desc := "(II)I" } : Jvm.MethodName)) ∈ lw_all := lw_g (lw_at lw_m6 113 rfl) rfl
theorem q1402 : (Jvm.Cond.instanceMethod ({ cls := "LarderLocks", name := "shelfOf", desc := "(II)I" } : Jvm.MethodName)) ∈ lw_all := lw_g (lw_at lw_m6 118 rfl) rfl
theorem q1403 : (Jvm.Cond.selects "LarderLocks" ({ cls := "LarderLocks", name := "shelfOf", desc := "(II)I" } : Jvm.MethodName) ({ cls := "LarderLocks", name := "shelfOf", desc := "(II)I" } : Jvm.MethodName)) ∈ lw_all := lw_g (lw_at lw_m6 119 rfl) rfl
theorem q1404 : (Jvm.Cond.code ({ cls := "LarderLocks", name := "shelfOf", desc := "(II)I" } : Jvm.MethodName) prog_1_method_17_code (3 : Nat) (Option.some Jvm.ClassFile.FieldType.int)) ∈ lw_all := lw_g (lw_at lw_m6 120 rfl) rfl
theorem q1405 : (Jvm.Cond.methodLink "LarderLocks" (128 : Nat) ({ cls := "LarderLocks$Larder", name := "ofShelf", desc := "(II)I" } : Jvm.MethodName)) ∈ lw_all := lw_g (lw_at lw_m6 121 rfl) rfl
theorem q1418 : (Jvm.Cond.instanceMethod ({ cls := "LarderLocks", name := "holder", desc := "(II)I" } : Jvm.MethodName)) ∈ lw_all := lw_g (lw_at lw_m6 134 rfl) rfl
theorem q1419 : (Jvm.Cond.selects "LarderLocks" ({ cls := "LarderLocks", name := "holder", desc := "(II)I" } : Jvm.MethodName) ({ cls := "LarderLocks", name := "holder", desc := "(II)I" } : Jvm.MethodName)) ∈ lw_all := lw_g (lw_at lw_m6 135 rfl) rfl
theorem q1420 : (Jvm.Cond.code ({ cls := "LarderLocks", name := "holder", desc := "(II)I" } : Jvm.MethodName) prog_1_method_18_code (3 : Nat) (Option.some Jvm.ClassFile.FieldType.int)) ∈ lw_all := lw_g (lw_at lw_m6 136 rfl) rfl
theorem q1421 : (Jvm.Cond.methodLink "LarderLocks" (131 : Nat) ({ cls := "LarderLocks$Larder", name := "holder", desc := "(II)I" } : Jvm.MethodName)) ∈ lw_all := lw_g (lw_at lw_m6 137 rfl) rfl
theorem q1426 : (Jvm.Cond.instanceMethod ({ cls := "LarderLocks", name := "waiter", desc := "(II)I" } : Jvm.MethodName)) ∈ lw_all := lw_g (lw_at lw_m6 142 rfl) rfl
theorem q1427 : (Jvm.Cond.selects "LarderLocks" ({ cls := "LarderLocks", name := "waiter", desc := "(II)I" } : Jvm.MethodName) ({ cls := "LarderLocks", name := "waiter", desc := "(II)I" } : Jvm.MethodName)) ∈ lw_all := lw_g (lw_at lw_m6 143 rfl) rfl
theorem q1428 : (Jvm.Cond.code ({ cls := "LarderLocks", name := "waiter", desc := "(II)I" } : Jvm.MethodName) prog_1_method_19_code (3 : Nat) (Option.some Jvm.ClassFile.FieldType.int)) ∈ lw_all := lw_g (lw_at lw_m6 144 rfl) rfl
theorem q1429 : (Jvm.Cond.methodLink "LarderLocks" (138 : Nat) ({ cls := "java/util/ArrayList", name := "get", desc := "(I)Ljava/lang/Object;" } : Jvm.MethodName)) ∈ lw_all := lw_g (lw_at lw_m6 145 rfl) rfl
theorem q1430 : (Jvm.Cond.classLink "LarderLocks" (144 : Nat) "java/util/LinkedList") ∈ lw_all := lw_g (lw_at lw_m6 146 rfl) rfl
theorem q1431 : (Jvm.Cond.methodLink "LarderLocks" (146 : Nat) ({ cls := "java/util/LinkedList", name := "size", desc := "()I" } : Jvm.MethodName)) ∈ lw_all := lw_g (lw_at lw_m6 147 rfl) rfl
theorem q1432 : (Jvm.Cond.methodLink "LarderLocks" (147 : Nat) ({ cls := "java/util/LinkedList", name := "get", desc := "(I)Ljava/lang/Object;" } : Jvm.MethodName)) ∈ lw_all := lw_g (lw_at lw_m6 148 rfl) rfl
theorem q1433 : (Jvm.Cond.classLink "LarderLocks" (148 : Nat) "LarderLocks$Wish") ∈ lw_all := lw_g (lw_at lw_m6 149 rfl) rfl
theorem q1435 : (Jvm.Cond.instanceMethod ({ cls := "LarderLocks", name := "wouldRing", desc := "(IIZ)I" } : Jvm.MethodName)) ∈ lw_all := lw_g (lw_at lw_m6 151 rfl) rfl
theorem q1436 : (Jvm.Cond.selects "LarderLocks" ({ cls := "LarderLocks", name := "wouldRing", desc := "(IIZ)I" } : Jvm.MethodName) ({ cls := "LarderLocks", name := "wouldRing", desc := "(IIZ)I" } : Jvm.MethodName)) ∈ lw_all := lw_g (lw_at lw_m6 152 rfl) rfl
theorem q1437 : (Jvm.Cond.code ({ cls := "LarderLocks", name := "wouldRing", desc := "(IIZ)I" } : Jvm.MethodName) prog_1_method_21_code (4 : Nat) (Option.some Jvm.ClassFile.FieldType.int)) ∈ lw_all := lw_g (lw_at lw_m6 153 rfl) rfl
theorem q1438 : (Jvm.Cond.methodLink "LarderLocks" (163 : Nat) ({ cls := "LarderLocks", name := "rings", desc := "(IIZZ)I" } : Jvm.MethodName)) ∈ lw_all := lw_g (lw_at lw_m6 154 rfl) rfl
theorem q1439 : (Jvm.Cond.privateMethod ({ cls := "LarderLocks", name := "rings", desc := "(IIZZ)I" } : Jvm.MethodName)) ∈ lw_tbl := lw_at lw_m6 155 rfl
theorem q1440 : (Jvm.Cond.instanceMethod ({ cls := "LarderLocks", name := "rings", desc := "(IIZZ)I" } : Jvm.MethodName)) ∈ lw_all := lw_g (lw_at lw_m6 156 rfl) rfl
theorem q1441 : (Jvm.Cond.codeWith ({ cls := "LarderLocks", name := "rings", desc := "(IIZZ)I" } : Jvm.MethodName) prog_1_method_20_code (6 : Nat) (Option.some Jvm.ClassFile.FieldType.int) [((12 : Nat), (59 : Nat), (60 : Nat), (50 : Nat))]) ∈ lw_all := lw_g (lw_at lw_m6 157 rfl) rfl
theorem q1442 : (Jvm.Cond.methodLink "LarderLocks" (153 : Nat) ({ cls := "LarderLocks$Larder", name := "waiting", desc := "(IIZ[LLarderLocks$Fit;)LLarderLocks$Larder;" } : Jvm.MethodName)) ∈ lw_all := lw_g (lw_at lw_m6 158 rfl) rfl
theorem q1447 : (Jvm.Cond.methodLink "LarderLocks" (157 : Nat) ({ cls := "LarderLocks$Larder", name := "isInRingAgain", desc := "(I)Z" } : Jvm.MethodName)) ∈ lw_all := lw_g (lw_at lw_m6 163 rfl) rfl
theorem q1451 : (Jvm.Cond.methodLink "LarderLocks" (160 : Nat) ({ cls := "LarderLocks$Larder", name := "isInRing", desc := "(I)Z" } : Jvm.MethodName)) ∈ lw_all := lw_g (lw_at lw_m6 167 rfl) rfl
theorem q1456 : (Jvm.Cond.instanceMethod ({ cls := "LarderLocks", name := "wouldRingAgain", desc := "(IIZ)I" } : Jvm.MethodName)) ∈ lw_all := lw_g (lw_at lw_m6 172 rfl) rfl
theorem q1457 : (Jvm.Cond.selects "LarderLocks" ({ cls := "LarderLocks", name := "wouldRingAgain", desc := "(IIZ)I" } : Jvm.MethodName) ({ cls := "LarderLocks", name := "wouldRingAgain", desc := "(IIZ)I" } : Jvm.MethodName)) ∈ lw_all := lw_g (lw_at lw_m6 173 rfl) rfl
theorem q1458 : (Jvm.Cond.code ({ cls := "LarderLocks", name := "wouldRingAgain", desc := "(IIZ)I" } : Jvm.MethodName) prog_1_method_22_code (4 : Nat) (Option.some Jvm.ClassFile.FieldType.int)) ∈ lw_all := lw_g (lw_at lw_m6 174 rfl) rfl
theorem q1460 : (Jvm.Cond.instanceMethod ({ cls := "LarderLocks", name := "would", desc := "(IIZ)I" } : Jvm.MethodName)) ∈ lw_all := lw_g (lw_at lw_m6 176 rfl) rfl
theorem q1461 : (Jvm.Cond.selects "LarderLocks" ({ cls := "LarderLocks", name := "would", desc := "(IIZ)I" } : Jvm.MethodName) ({ cls := "LarderLocks", name := "would", desc := "(IIZ)I" } : Jvm.MethodName)) ∈ lw_all := lw_g (lw_at lw_m6 177 rfl) rfl
theorem q1462 : (Jvm.Cond.codeWith ({ cls := "LarderLocks", name := "would", desc := "(IIZ)I" } : Jvm.MethodName) prog_1_method_23_code (5 : Nat) (Option.some Jvm.ClassFile.FieldType.int) [((12 : Nat), (29 : Nat), (30 : Nat), (50 : Nat))]) ∈ lw_all := lw_g (lw_at lw_m6 178 rfl) rfl
theorem q1464 : (Jvm.Cond.instanceMethod ({ cls := "LarderLocks", name := "chain", desc := "(I)I" } : Jvm.MethodName)) ∈ lw_all := lw_g (lw_at lw_m6 180 rfl) rfl
theorem q1465 : (Jvm.Cond.selects "LarderLocks" ({ cls := "LarderLocks", name := "chain", desc := "(I)I" } : Jvm.MethodName) ({ cls := "LarderLocks", name := "chain", desc := "(I)I" } : Jvm.MethodName)) ∈ lw_all := lw_g (lw_at lw_m6 181 rfl) rfl
theorem q1466 : (Jvm.Cond.code ({ cls := "LarderLocks", name := "chain", desc := "(I)I" } : Jvm.MethodName) prog_1_method_24_code (2 : Nat) (Option.some Jvm.ClassFile.FieldType.int)) ∈ lw_all := lw_g (lw_at lw_m6 182 rfl) rfl
theorem q1467 : (Jvm.Cond.methodLink "LarderLocks" (167 : Nat) ({ cls := "LarderLocks$Larder", name := "chain", desc := "(I)I" } : Jvm.MethodName)) ∈ lw_all := lw_g (lw_at lw_m6 183 rfl) rfl
theorem q1473 : (Jvm.Cond.instanceMethod ({ cls := "LarderLocks", name := "waitedFor", desc := "(I)I" } : Jvm.MethodName)) ∈ lw_all := lw_g (lw_at lw_m6 189 rfl) rfl
theorem q1474 : (Jvm.Cond.selects "LarderLocks" ({ cls := "LarderLocks", name := "waitedFor", desc := "(I)I" } : Jvm.MethodName) ({ cls := "LarderLocks", name := "waitedFor", desc := "(I)I" } : Jvm.MethodName)) ∈ lw_all := lw_g (lw_at lw_m6 190 rfl) rfl
theorem q1475 : (Jvm.Cond.code ({ cls := "LarderLocks", name := "waitedFor", desc := "(I)I" } : Jvm.MethodName) prog_1_method_25_code (2 : Nat) (Option.some Jvm.ClassFile.FieldType.int)) ∈ lw_all := lw_g (lw_at lw_m6 191 rfl) rfl
theorem q1476 : (Jvm.Cond.methodLink "LarderLocks" (171 : Nat) ({ cls := "LarderLocks$Larder", name := "waitedFor", desc := "(I)I" } : Jvm.MethodName)) ∈ lw_all := lw_g (lw_at lw_m6 192 rfl) rfl
theorem q1481 : (Jvm.Cond.instanceMethod ({ cls := "LarderLocks", name := "needed", desc := "(I)I" } : Jvm.MethodName)) ∈ lw_all := lw_g (lw_at lw_m6 197 rfl) rfl
theorem q1482 : (Jvm.Cond.selects "LarderLocks" ({ cls := "LarderLocks", name := "needed", desc := "(I)I" } : Jvm.MethodName) ({ cls := "LarderLocks", name := "needed", desc := "(I)I" } : Jvm.MethodName)) ∈ lw_all := lw_g (lw_at lw_m6 198 rfl) rfl
theorem q1483 : (Jvm.Cond.code ({ cls := "LarderLocks", name := "needed", desc := "(I)I" } : Jvm.MethodName) prog_1_method_26_code (2 : Nat) (Option.some Jvm.ClassFile.FieldType.int)) ∈ lw_all := lw_g (lw_at lw_m6 199 rfl) rfl
theorem q1484 : (Jvm.Cond.methodLink "LarderLocks" (174 : Nat) ({ cls := "LarderLocks$Larder", name := "needed", desc := "(I)I" } : Jvm.MethodName)) ∈ lw_all := lw_g (lw_at lw_m6 200 rfl) rfl
theorem q1493 : (Jvm.Cond.instanceMethod ({ cls := "LarderLocks", name := "ranked", desc := "(I)I" } : Jvm.MethodName)) ∈ lw_all := lw_g (lw_at lw_m6 209 rfl) rfl
theorem q1494 : (Jvm.Cond.selects "LarderLocks" ({ cls := "LarderLocks", name := "ranked", desc := "(I)I" } : Jvm.MethodName) ({ cls := "LarderLocks", name := "ranked", desc := "(I)I" } : Jvm.MethodName)) ∈ lw_all := lw_g (lw_at lw_m6 210 rfl) rfl
theorem q1495 : (Jvm.Cond.code ({ cls := "LarderLocks", name := "ranked", desc := "(I)I" } : Jvm.MethodName) prog_1_method_27_code (2 : Nat) (Option.some Jvm.ClassFile.FieldType.int)) ∈ lw_all := lw_g (lw_at lw_m6 211 rfl) rfl
theorem q1496 : (Jvm.Cond.methodLink "LarderLocks" (177 : Nat) ({ cls := "LarderLocks$Larder", name := "ranked", desc := "(I)I" } : Jvm.MethodName)) ∈ lw_all := lw_g (lw_at lw_m6 212 rfl) rfl
theorem q1505 : (Jvm.Cond.instanceMethod ({ cls := "LarderLocks", name := "append", desc := "(I)I" } : Jvm.MethodName)) ∈ lw_all := lw_g (lw_at lw_m6 221 rfl) rfl
theorem q1506 : (Jvm.Cond.selects "LarderLocks" ({ cls := "LarderLocks", name := "append", desc := "(I)I" } : Jvm.MethodName) ({ cls := "LarderLocks", name := "append", desc := "(I)I" } : Jvm.MethodName)) ∈ lw_all := lw_g (lw_at lw_m6 222 rfl) rfl
theorem q1507 : (Jvm.Cond.code ({ cls := "LarderLocks", name := "append", desc := "(I)I" } : Jvm.MethodName) prog_1_method_28_code (2 : Nat) (Option.some Jvm.ClassFile.FieldType.int)) ∈ lw_all := lw_g (lw_at lw_m6 223 rfl) rfl
theorem q1508 : (Jvm.Cond.methodLink "LarderLocks" (180 : Nat) ({ cls := "java/lang/StringBuilder", name := "length", desc := "()I" } : Jvm.MethodName)) ∈ lw_all := lw_g (lw_at lw_m6 224 rfl) rfl
theorem q1509 : (Jvm.Cond.methodLink "LarderLocks" (183 : Nat) ({ cls := "java/lang/StringBuilder", name := "append", desc := "(C)Ljava/lang/StringBuilder;" } : Jvm.MethodName)) ∈ lw_all := lw_g (lw_at lw_m6 225 rfl) rfl
theorem q1530 : (Jvm.Cond.instanceMethod ({ cls := "LarderLocks", name := "run", desc := "()I" } : Jvm.MethodName)) ∈ lw_all := lw_g (lw_at lw_m7 6 rfl) rfl
theorem q1531 : (Jvm.Cond.selects "LarderLocks" ({ cls := "LarderLocks", name := "run", desc := "()I" } : Jvm.MethodName) ({ cls := "LarderLocks", name := "run", desc := "()I" } : Jvm.MethodName)) ∈ lw_all := lw_g (lw_at lw_m7 7 rfl) rfl
theorem q1532 : (Jvm.Cond.codeWith ({ cls := "LarderLocks", name := "run", desc := "()I" } : Jvm.MethodName) prog_1_method_29_code (8 : Nat) (Option.some Jvm.ClassFile.FieldType.int) [((9 : Nat), (92 : Nat), (99 : Nat), (214 : Nat)), ((9 : Nat), (92 : Nat), (115 : Nat), (50 : Nat)), ((9 : Nat), (92 : Nat), (128 : Nat), (0 : Nat)), ((99 : Nat), (109 : Nat), (128 : Nat), (0 : Nat)), ((115 : Nat), (122 : Nat), (128 : Nat), (0 : Nat)), ((128 : Nat), (130 : Nat), (128 : Nat), (0 : Nat))]) ∈ lw_all := lw_g (lw_at lw_m7 8 rfl) rfl
theorem q1533 : (Jvm.Cond.classLink "LarderLocks" (214 : Nat) "LarderLocks$Wrong") ∈ lw_all := lw_g (lw_at lw_m7 9 rfl) rfl
theorem q1534 : (Jvm.Cond.classLink "LarderLocks" (187 : Nat) "LarderLocks$Reader") ∈ lw_all := lw_g (lw_at lw_m7 10 rfl) rfl
theorem q1536 : (Jvm.Cond.methodLinkNest "LarderLocks" (189 : Nat) ({ cls := "LarderLocks$Reader", name := "<init>", desc := "(LLarderLocks;)V" } : Jvm.MethodName) "LarderLocks") ∈ lw_tbl := lw_at lw_m7 12 rfl
theorem q1547 : (Jvm.Cond.methodLink "LarderLocks" (192 : Nat) ({ cls := "LarderLocks$Reader", name := "commands", desc := "()Ljava/util/LinkedList;" } : Jvm.MethodName)) ∈ lw_all := lw_g (lw_at lw_m7 23 rfl) rfl
theorem q1615 : (Jvm.Cond.fieldLinkNest "LarderLocks" (216 : Nat) "LarderLocks$Wrong" "at" "I" "LarderLocks") ∈ lw_tbl := lw_at lw_m7 91 rfl
theorem q1692 : (Jvm.Cond.methodLink "LarderLocks" (196 : Nat) ({ cls := "java/util/LinkedList", name := "isEmpty", desc := "()Z" } : Jvm.MethodName)) ∈ lw_all := lw_g (lw_at lw_m7 168 rfl) rfl
theorem q1693 : (Jvm.Cond.methodLink "LarderLocks" (200 : Nat) ({ cls := "java/util/LinkedList", name := "removeFirst", desc := "()Ljava/lang/Object;" } : Jvm.MethodName)) ∈ lw_all := lw_g (lw_at lw_m7 169 rfl) rfl
theorem q1694 : (Jvm.Cond.classLink "LarderLocks" (201 : Nat) "LarderLocks$Command") ∈ lw_all := lw_g (lw_at lw_m7 170 rfl) rfl
theorem q1695 : (Jvm.Cond.methodLink "LarderLocks" (203 : Nat) ({ cls := "LarderLocks$Command", name := "isCarriedOut", desc := "(LLarderLocks$Larder;[LLarderLocks$Fit;)Z" } : Jvm.MethodName)) ∈ lw_all := lw_g (lw_at lw_m7 171 rfl) rfl
theorem q1710 : (Jvm.Cond.methodLink "LarderLocks" (207 : Nat) ({ cls := "LarderLocks", name := "refuse", desc := "(ZII)V" } : Jvm.MethodName)) ∈ lw_all := lw_g (lw_at lw_m7 186 rfl) rfl
theorem q1711 : (Jvm.Cond.methodLink "LarderLocks" (211 : Nat) ({ cls := "LarderLocks$Reader", name := "empties", desc := "()V" } : Jvm.MethodName)) ∈ lw_all := lw_g (lw_at lw_m7 187 rfl) rfl
theorem q1736 : (Jvm.Cond.instanceMethod ({ cls := "LarderLocks", name := "tell", desc := "(I)I" } : Jvm.MethodName)) ∈ lw_all := lw_g (lw_at lw_m7 212 rfl) rfl
theorem q1737 : (Jvm.Cond.selects "LarderLocks" ({ cls := "LarderLocks", name := "tell", desc := "(I)I" } : Jvm.MethodName) ({ cls := "LarderLocks", name := "tell", desc := "(I)I" } : Jvm.MethodName)) ∈ lw_all := lw_g (lw_at lw_m7 213 rfl) rfl
theorem q1738 : (Jvm.Cond.code ({ cls := "LarderLocks", name := "tell", desc := "(I)I" } : Jvm.MethodName) prog_1_method_30_code (2 : Nat) (Option.some Jvm.ClassFile.FieldType.int)) ∈ lw_all := lw_g (lw_at lw_m7 214 rfl) rfl
theorem q1739 : (Jvm.Cond.methodLink "LarderLocks" (219 : Nat) ({ cls := "LarderLocks$Larder", name := "text", desc := "(I)Ljava/lang/String;" } : Jvm.MethodName)) ∈ lw_all := lw_g (lw_at lw_m7 215 rfl) rfl
theorem q1775 : (Jvm.Cond.static ({ cls := "LarderLocks", name := "signOf", desc := "(I)C" } : Jvm.MethodName)) ∈ lw_all := lw_g (lw_at lw_m8 11 rfl) rfl
theorem q1776 : (Jvm.Cond.code ({ cls := "LarderLocks", name := "signOf", desc := "(I)C" } : Jvm.MethodName) prog_1_method_5_code (1 : Nat) (Option.some Jvm.ClassFile.FieldType.char)) ∈ lw_all := lw_g (lw_at lw_m8 12 rfl) rfl
theorem q1779 : (Jvm.Cond.methodLink "LarderLocks" (222 : Nat) ({ cls := "java/lang/String", name := "length", desc := "()I" } : Jvm.MethodName)) ∈ lw_all := lw_g (lw_at lw_m8 15 rfl) rfl
theorem q1781 : (Jvm.Cond.instanceMethod ({ cls := "LarderLocks", name := "tellMaid", desc := "(I)I" } : Jvm.MethodName)) ∈ lw_all := lw_g (lw_at lw_m8 17 rfl) rfl
theorem q1782 : (Jvm.Cond.selects "LarderLocks" ({ cls := "LarderLocks", name := "tellMaid", desc := "(I)I" } : Jvm.MethodName) ({ cls := "LarderLocks", name := "tellMaid", desc := "(I)I" } : Jvm.MethodName)) ∈ lw_all := lw_g (lw_at lw_m8 18 rfl) rfl
theorem q1783 : (Jvm.Cond.code ({ cls := "LarderLocks", name := "tellMaid", desc := "(I)I" } : Jvm.MethodName) prog_1_method_31_code (2 : Nat) (Option.some Jvm.ClassFile.FieldType.int)) ∈ lw_all := lw_g (lw_at lw_m8 19 rfl) rfl
theorem q1784 : (Jvm.Cond.methodLink "LarderLocks" (225 : Nat) ({ cls := "LarderLocks$Larder", name := "maidText", desc := "(I)Ljava/lang/String;" } : Jvm.MethodName)) ∈ lw_all := lw_g (lw_at lw_m8 20 rfl) rfl
theorem q1790 : (Jvm.Cond.instanceMethod ({ cls := "LarderLocks", name := "character", desc := "(I)I" } : Jvm.MethodName)) ∈ lw_all := lw_g (lw_at lw_m8 26 rfl) rfl
theorem q1791 : (Jvm.Cond.selects "LarderLocks" ({ cls := "LarderLocks", name := "character", desc := "(I)I" } : Jvm.MethodName) ({ cls := "LarderLocks", name := "character", desc := "(I)I" } : Jvm.MethodName)) ∈ lw_all := lw_g (lw_at lw_m8 27 rfl) rfl
theorem q1792 : (Jvm.Cond.code ({ cls := "LarderLocks", name := "character", desc := "(I)I" } : Jvm.MethodName) prog_1_method_32_code (2 : Nat) (Option.some Jvm.ClassFile.FieldType.int)) ∈ lw_all := lw_g (lw_at lw_m8 28 rfl) rfl
theorem q1793 : (Jvm.Cond.methodLink "LarderLocks" (228 : Nat) ({ cls := "java/lang/String", name := "charAt", desc := "(I)C" } : Jvm.MethodName)) ∈ lw_all := lw_g (lw_at lw_m8 29 rfl) rfl
theorem q1795 : (Jvm.Cond.instanceMethod ({ cls := "LarderLocks", name := "reason", desc := "(Z)I" } : Jvm.MethodName)) ∈ lw_all := lw_g (lw_at lw_m8 31 rfl) rfl
theorem q1796 : (Jvm.Cond.selects "LarderLocks" ({ cls := "LarderLocks", name := "reason", desc := "(Z)I" } : Jvm.MethodName) ({ cls := "LarderLocks", name := "reason", desc := "(Z)I" } : Jvm.MethodName)) ∈ lw_all := lw_g (lw_at lw_m8 32 rfl) rfl
theorem q1797 : (Jvm.Cond.code ({ cls := "LarderLocks", name := "reason", desc := "(Z)I" } : Jvm.MethodName) prog_1_method_33_code (2 : Nat) (Option.some Jvm.ClassFile.FieldType.int)) ∈ lw_all := lw_g (lw_at lw_m8 33 rfl) rfl
theorem q1799 : (Jvm.Cond.instanceMethod ({ cls := "LarderLocks", name := "account", desc := "(I)I" } : Jvm.MethodName)) ∈ lw_all := lw_g (lw_at lw_m8 35 rfl) rfl
theorem q1800 : (Jvm.Cond.selects "LarderLocks" ({ cls := "LarderLocks", name := "account", desc := "(I)I" } : Jvm.MethodName) ({ cls := "LarderLocks", name := "account", desc := "(I)I" } : Jvm.MethodName)) ∈ lw_all := lw_g (lw_at lw_m8 36 rfl) rfl
theorem q1801 : (Jvm.Cond.code ({ cls := "LarderLocks", name := "account", desc := "(I)I" } : Jvm.MethodName) prog_1_method_34_code (2 : Nat) (Option.some Jvm.ClassFile.FieldType.int)) ∈ lw_all := lw_g (lw_at lw_m8 37 rfl) rfl
theorem q1802 : (Jvm.Cond.methodLink "LarderLocks" (232 : Nat) ({ cls := "LarderLocks$Larder", name := "many", desc := "()I" } : Jvm.MethodName)) ∈ lw_all := lw_g (lw_at lw_m8 38 rfl) rfl
theorem q1803 : (Jvm.Cond.methodLink "LarderLocks" (238 : Nat) ({ cls := "LarderLocks$Larder", name := "waiting", desc := "()I" } : Jvm.MethodName)) ∈ lw_all := lw_g (lw_at lw_m8 39 rfl) rfl
theorem q1808 : (Jvm.Cond.methodLink "LarderLocks" (240 : Nat) ({ cls := "LarderLocks$Larder", name := "locks", desc := "(Z)I" } : Jvm.MethodName)) ∈ lw_all := lw_g (lw_at lw_m8 44 rfl) rfl
theorem q1812 : (Jvm.Cond.methodLink "LarderLocks" (248 : Nat) ({ cls := "LarderLocks$Larder", name := "sum", desc := "([I)I" } : Jvm.MethodName)) ∈ lw_all := lw_g (lw_at lw_m8 48 rfl) rfl
theorem q1815 : (Jvm.Cond.methodLink "LarderLocks" (261 : Nat) ({ cls := "LarderLocks$Larder", name := "unheld", desc := "()I" } : Jvm.MethodName)) ∈ lw_all := lw_g (lw_at lw_m8 51 rfl) rfl
theorem q1820 : (Jvm.Cond.instanceMethod ({ cls := "LarderLocks", name := "isBalanced", desc := "()I" } : Jvm.MethodName)) ∈ lw_all := lw_g (lw_at lw_m8 56 rfl) rfl
theorem q1821 : (Jvm.Cond.selects "LarderLocks" ({ cls := "LarderLocks", name := "isBalanced", desc := "()I" } : Jvm.MethodName) ({ cls := "LarderLocks", name := "isBalanced", desc := "()I" } : Jvm.MethodName)) ∈ lw_all := lw_g (lw_at lw_m8 57 rfl) rfl
theorem q1822 : (Jvm.Cond.code ({ cls := "LarderLocks", name := "isBalanced", desc := "()I" } : Jvm.MethodName) prog_1_method_35_code (1 : Nat) (Option.some Jvm.ClassFile.FieldType.int)) ∈ lw_all := lw_g (lw_at lw_m8 58 rfl) rfl
theorem q1823 : (Jvm.Cond.methodLink "LarderLocks" (264 : Nat) ({ cls := "LarderLocks$Larder", name := "isBalanced", desc := "([LLarderLocks$Fit;)Z" } : Jvm.MethodName)) ∈ lw_all := lw_g (lw_at lw_m8 59 rfl) rfl
theorem q1832 : (Jvm.Cond.instanceMethod ({ cls := "LarderLocks", name := "meanHeld", desc := "()D" } : Jvm.MethodName)) ∈ lw_all := lw_g (lw_at lw_m8 68 rfl) rfl
theorem q1833 : (Jvm.Cond.selects "LarderLocks" ({ cls := "LarderLocks", name := "meanHeld", desc := "()D" } : Jvm.MethodName) ({ cls := "LarderLocks", name := "meanHeld", desc := "()D" } : Jvm.MethodName)) ∈ lw_all := lw_g (lw_at lw_m8 69 rfl) rfl
theorem q1834 : (Jvm.Cond.code ({ cls := "LarderLocks", name := "meanHeld", desc := "()D" } : Jvm.MethodName) prog_1_method_36_code (2 : Nat) (Option.some Jvm.ClassFile.FieldType.double)) ∈ lw_all := lw_g (lw_at lw_m8 70 rfl) rfl
theorem q1836 : (Jvm.Cond.instanceMethod ({ cls := "LarderLocks", name := "waitingShare", desc := "()F" } : Jvm.MethodName)) ∈ lw_all := lw_g (lw_at lw_m8 72 rfl) rfl
theorem q1837 : (Jvm.Cond.selects "LarderLocks" ({ cls := "LarderLocks", name := "waitingShare", desc := "()F" } : Jvm.MethodName) ({ cls := "LarderLocks", name := "waitingShare", desc := "()F" } : Jvm.MethodName)) ∈ lw_all := lw_g (lw_at lw_m8 73 rfl) rfl
theorem q1838 : (Jvm.Cond.code ({ cls := "LarderLocks", name := "waitingShare", desc := "()F" } : Jvm.MethodName) prog_1_method_37_code (2 : Nat) (Option.some Jvm.ClassFile.FieldType.float)) ∈ lw_all := lw_g (lw_at lw_m8 74 rfl) rfl
theorem q1840 : (Jvm.Cond.instanceMethod ({ cls := "LarderLocks", name := "undo", desc := "()I" } : Jvm.MethodName)) ∈ lw_all := lw_g (lw_at lw_m8 76 rfl) rfl
theorem q1841 : (Jvm.Cond.selects "LarderLocks" ({ cls := "LarderLocks", name := "undo", desc := "()I" } : Jvm.MethodName) ({ cls := "LarderLocks", name := "undo", desc := "()I" } : Jvm.MethodName)) ∈ lw_all := lw_g (lw_at lw_m8 77 rfl) rfl
theorem q1842 : (Jvm.Cond.code ({ cls := "LarderLocks", name := "undo", desc := "()I" } : Jvm.MethodName) prog_1_method_38_code (1 : Nat) (Option.some Jvm.ClassFile.FieldType.int)) ∈ lw_all := lw_g (lw_at lw_m8 78 rfl) rfl
theorem q1843 : (Jvm.Cond.methodLink "LarderLocks" (268 : Nat) ({ cls := "java/util/ArrayDeque", name := "isEmpty", desc := "()Z" } : Jvm.MethodName)) ∈ lw_all := lw_g (lw_at lw_m8 79 rfl) rfl
theorem q1847 : (Jvm.Cond.methodLink "LarderLocks" (269 : Nat) ({ cls := "java/util/ArrayDeque", name := "removeLast", desc := "()Ljava/lang/Object;" } : Jvm.MethodName)) ∈ lw_all := lw_g (lw_at lw_m8 83 rfl) rfl
theorem q1856 : (Jvm.Cond.instanceMethod ({ cls := "LarderLocks", name := "save", desc := "()I" } : Jvm.MethodName)) ∈ lw_all := lw_g (lw_at lw_m8 92 rfl) rfl
theorem q1857 : (Jvm.Cond.selects "LarderLocks" ({ cls := "LarderLocks", name := "save", desc := "()I" } : Jvm.MethodName) ({ cls := "LarderLocks", name := "save", desc := "()I" } : Jvm.MethodName)) ∈ lw_all := lw_g (lw_at lw_m8 93 rfl) rfl
theorem q1858 : (Jvm.Cond.code ({ cls := "LarderLocks", name := "save", desc := "()I" } : Jvm.MethodName) prog_1_method_39_code (1 : Nat) (Option.some Jvm.ClassFile.FieldType.int)) ∈ lw_all := lw_g (lw_at lw_m8 94 rfl) rfl
theorem q1860 : (Jvm.Cond.instanceMethod ({ cls := "LarderLocks", name := "restore", desc := "()I" } : Jvm.MethodName)) ∈ lw_all := lw_g (lw_at lw_m8 96 rfl) rfl
theorem q1861 : (Jvm.Cond.selects "LarderLocks" ({ cls := "LarderLocks", name := "restore", desc := "()I" } : Jvm.MethodName) ({ cls := "LarderLocks", name := "restore", desc := "()I" } : Jvm.MethodName)) ∈ lw_all := lw_g (lw_at lw_m8 97 rfl) rfl
theorem q1862 : (Jvm.Cond.code ({ cls := "LarderLocks", name := "restore", desc := "()I" } : Jvm.MethodName) prog_1_method_40_code (1 : Nat) (Option.some Jvm.ClassFile.FieldType.int)) ∈ lw_all := lw_g (lw_at lw_m8 98 rfl) rfl
theorem q1863 : (Jvm.Cond.methodLink "LarderLocks" (275 : Nat) ({ cls := "java/util/ArrayDeque", name := "clear", desc := "()V" } : Jvm.MethodName)) ∈ lw_all := lw_g (lw_at lw_m8 99 rfl) rfl
theorem q2273 : (Jvm.Cond.castable "LarderLocks" "java/lang/Object") ∈ lw_tbl := lw_at lw_m10 29 rfl
theorem in_X0 : ∀ w ∈ wsX00, w ∈ lw_all := lw_in wsX00 [379, 381, 383, 385, 387, 389, 391, 393] (by decide +kernel) (by decide +kernel)

/-! LarderLocks$Larder -/
set_option maxRecDepth 100000
def RX1 : String := "LarderLocks$Larder"
def TX1 : u_T := fun k => match k with
  | 0 => ("LarderLocks$Larder", "how", "[[S", true)
  | 1 => ("LarderLocks$Larder", "rows", "Ljava/util/ArrayList;", true)
  | 2 => ("LarderLocks$Larder", "letGo", "[I", true)
  | 3 => ("LarderLocks$Larder", "waited", "[I", true)
  | 4 => ("LarderLocks$Larder", "got", "[I", true)
  | 5 => ("LarderLocks$Larder", "given", "[I", true)
  | 6 => ("LarderLocks$Larder", "longest", "[I", true)
  | 7 => ("LarderLocks$Larder", "there", "I", false)
  | 8 => ("LarderLocks$Larder", "came", "I", false)
  | _ => ("LarderLocks$Larder", "ended", "I", false)
def tyX1 : Nat → FieldType := fun k => match k with
  | 0 => .array (.array .short)
  | 1 => .object "java/util/ArrayList"
  | 2 => .array .int
  | 3 => .array .int
  | 4 => .array .int
  | 5 => .array .int
  | 6 => .array .int
  | 7 => .int
  | 8 => .int
  | _ => .int
abbrev wsX10 : List Cond := u_ws RX1 TX1 10
theorem nmX1 : ∀ a, a < 10 → ∀ b, b < 10 → a ≠ b → (TX1 a).2.1 ≠ (TX1 b).2.1 := by decide +kernel
theorem tyX1_ok : ∀ k, k < 10 → parseFieldDescriptor (TX1 k).2.2.1 = some (tyX1 k) := by decide +kernel
abbrev cX1_init : ByteArray := prog_5_method_1_code
def yX1_init : MethodName := ⟨RX1, "<init>", "()V"⟩
def dkwX1_init_4 : List UInt8 := [132, 1, 1, 167, 255, 232, 177]
abbrev dktX1_init_4 : List UInt8 := dkwX1_init_4 ++ []
def dkwX1_init_3 : List UInt8 := [60, 27, 16, 8, 162, 0, 24, 42, 180, 0, 21, 187, 0, 41, 89, 183, 0, 43, 182, 0, 44, 87]
abbrev dktX1_init_3 : List UInt8 := dkwX1_init_3 ++ dktX1_init_4
def dkwX1_init_2 : List UInt8 := [16, 24, 188, 10, 181, 0, 32, 42, 16, 8, 188, 10, 181, 0, 35, 42, 16, 8, 188, 10, 181, 0, 38, 3]
abbrev dktX1_init_2 : List UInt8 := dkwX1_init_2 ++ dktX1_init_3
def dkwX1_init_1 : List UInt8 := [183, 0, 18, 181, 0, 21, 42, 16, 24, 188, 10, 181, 0, 25, 42, 16, 24, 188, 10, 181, 0, 29, 42]
abbrev dktX1_init_1 : List UInt8 := dkwX1_init_1 ++ dktX1_init_2
def dkwX1_init_0 : List UInt8 := [42, 183, 0, 3, 42, 16, 24, 16, 8, 197, 0, 9, 2, 181, 0, 11, 42, 187, 0, 16, 89, 16, 8]
abbrev dktX1_init_0 : List UInt8 := dkwX1_init_0 ++ dktX1_init_1
theorem dksX1_init_0 : cX1_init.data.toList.drop 0 = dktX1_init_0 := by decide +kernel
theorem dksX1_init_1 : cX1_init.data.toList.drop 23 = dktX1_init_1 := dk_seg dksX1_init_0 23 rfl rfl
theorem dksX1_init_2 : cX1_init.data.toList.drop 46 = dktX1_init_2 := dk_seg dksX1_init_1 23 rfl rfl
theorem dksX1_init_3 : cX1_init.data.toList.drop 70 = dktX1_init_3 := dk_seg dksX1_init_2 24 rfl rfl
theorem dksX1_init_4 : cX1_init.data.toList.drop 92 = dktX1_init_4 := dk_seg dksX1_init_3 22 rfl rfl
theorem dX1_init_0 : decode cX1_init 0 = .ok (.aload_n 0, 1) := dk_42 (dk_at dksX1_init_0 0 rfl rfl)
theorem dX1_init_1 : decode cX1_init 1 = .ok (.invokespecial 3, 3) := dk_183 0 3 (dk_at dksX1_init_0 1 rfl rfl)
theorem dX1_init_4 : decode cX1_init 4 = .ok (.aload_n 0, 1) := dk_42 (dk_at dksX1_init_0 4 rfl rfl)
theorem dX1_init_5 : decode cX1_init 5 = .ok (.bipush 24, 2) := dk_16 24 (dk_at dksX1_init_0 5 rfl rfl)
theorem dX1_init_7 : decode cX1_init 7 = .ok (.bipush 8, 2) := dk_16 8 (dk_at dksX1_init_0 7 rfl rfl)
theorem dX1_init_9 : decode cX1_init 9 = .ok (.multianewarray 9 2, 4) := by decide +kernel
theorem dX1_init_13 : decode cX1_init 13 = .ok (.putfield 11, 3) := dk_181 0 11 (dk_at dksX1_init_0 13 rfl rfl)
theorem dX1_init_16 : decode cX1_init 16 = .ok (.aload_n 0, 1) := dk_42 (dk_at dksX1_init_0 16 rfl rfl)
theorem dX1_init_17 : decode cX1_init 17 = .ok (.new 16, 3) := dk_187 0 16 (dk_at dksX1_init_0 17 rfl rfl)
theorem dX1_init_20 : decode cX1_init 20 = .ok (.dup, 1) := dk_89 (dk_at dksX1_init_0 20 rfl rfl)
theorem dX1_init_21 : decode cX1_init 21 = .ok (.bipush 8, 2) := dk_16 8 (dk_at dksX1_init_0 21 rfl rfl)
theorem dX1_init_23 : decode cX1_init 23 = .ok (.invokespecial 18, 3) := dk_183 0 18 (dk_at dksX1_init_1 0 rfl rfl)
theorem dX1_init_26 : decode cX1_init 26 = .ok (.putfield 21, 3) := dk_181 0 21 (dk_at dksX1_init_1 3 rfl rfl)
theorem dX1_init_29 : decode cX1_init 29 = .ok (.aload_n 0, 1) := dk_42 (dk_at dksX1_init_1 6 rfl rfl)
theorem dX1_init_30 : decode cX1_init 30 = .ok (.bipush 24, 2) := dk_16 24 (dk_at dksX1_init_1 7 rfl rfl)
theorem dX1_init_32 : decode cX1_init 32 = .ok (.newarray .int, 2) := dk_188_10 (dk_at dksX1_init_1 9 rfl rfl)
theorem dX1_init_34 : decode cX1_init 34 = .ok (.putfield 25, 3) := dk_181 0 25 (dk_at dksX1_init_1 11 rfl rfl)
theorem dX1_init_37 : decode cX1_init 37 = .ok (.aload_n 0, 1) := dk_42 (dk_at dksX1_init_1 14 rfl rfl)
theorem dX1_init_38 : decode cX1_init 38 = .ok (.bipush 24, 2) := dk_16 24 (dk_at dksX1_init_1 15 rfl rfl)
theorem dX1_init_40 : decode cX1_init 40 = .ok (.newarray .int, 2) := dk_188_10 (dk_at dksX1_init_1 17 rfl rfl)
theorem dX1_init_42 : decode cX1_init 42 = .ok (.putfield 29, 3) := dk_181 0 29 (dk_at dksX1_init_1 19 rfl rfl)
theorem dX1_init_45 : decode cX1_init 45 = .ok (.aload_n 0, 1) := dk_42 (dk_at dksX1_init_1 22 rfl rfl)
theorem dX1_init_46 : decode cX1_init 46 = .ok (.bipush 24, 2) := dk_16 24 (dk_at dksX1_init_2 0 rfl rfl)
theorem dX1_init_48 : decode cX1_init 48 = .ok (.newarray .int, 2) := dk_188_10 (dk_at dksX1_init_2 2 rfl rfl)
theorem dX1_init_50 : decode cX1_init 50 = .ok (.putfield 32, 3) := dk_181 0 32 (dk_at dksX1_init_2 4 rfl rfl)
theorem dX1_init_53 : decode cX1_init 53 = .ok (.aload_n 0, 1) := dk_42 (dk_at dksX1_init_2 7 rfl rfl)
theorem dX1_init_54 : decode cX1_init 54 = .ok (.bipush 8, 2) := dk_16 8 (dk_at dksX1_init_2 8 rfl rfl)
theorem dX1_init_56 : decode cX1_init 56 = .ok (.newarray .int, 2) := dk_188_10 (dk_at dksX1_init_2 10 rfl rfl)
theorem dX1_init_58 : decode cX1_init 58 = .ok (.putfield 35, 3) := dk_181 0 35 (dk_at dksX1_init_2 12 rfl rfl)
theorem dX1_init_61 : decode cX1_init 61 = .ok (.aload_n 0, 1) := dk_42 (dk_at dksX1_init_2 15 rfl rfl)
theorem dX1_init_62 : decode cX1_init 62 = .ok (.bipush 8, 2) := dk_16 8 (dk_at dksX1_init_2 16 rfl rfl)
theorem dX1_init_64 : decode cX1_init 64 = .ok (.newarray .int, 2) := dk_188_10 (dk_at dksX1_init_2 18 rfl rfl)
theorem dX1_init_66 : decode cX1_init 66 = .ok (.putfield 38, 3) := dk_181 0 38 (dk_at dksX1_init_2 20 rfl rfl)
theorem dX1_init_69 : decode cX1_init 69 = .ok (.iconst 0, 1) := dk_3 (dk_at dksX1_init_2 23 rfl rfl)
theorem dX1_init_70 : decode cX1_init 70 = .ok (.istore_n 1, 1) := dk_60 (dk_at dksX1_init_3 0 rfl rfl)
theorem dX1_init_71 : decode cX1_init 71 = .ok (.iload_n 1, 1) := dk_27 (dk_at dksX1_init_3 1 rfl rfl)
theorem dX1_init_72 : decode cX1_init 72 = .ok (.bipush 8, 2) := dk_16 8 (dk_at dksX1_init_3 2 rfl rfl)
theorem dX1_init_74 : decode cX1_init 74 = .ok (.if_icmp .ge 24, 3) := dk_162 0 24 (dk_at dksX1_init_3 4 rfl rfl)
theorem dX1_init_77 : decode cX1_init 77 = .ok (.aload_n 0, 1) := dk_42 (dk_at dksX1_init_3 7 rfl rfl)
theorem dX1_init_78 : decode cX1_init 78 = .ok (.getfield 21, 3) := dk_180 0 21 (dk_at dksX1_init_3 8 rfl rfl)
theorem dX1_init_81 : decode cX1_init 81 = .ok (.new 41, 3) := dk_187 0 41 (dk_at dksX1_init_3 11 rfl rfl)
theorem dX1_init_84 : decode cX1_init 84 = .ok (.dup, 1) := dk_89 (dk_at dksX1_init_3 14 rfl rfl)
theorem dX1_init_85 : decode cX1_init 85 = .ok (.invokespecial 43, 3) := dk_183 0 43 (dk_at dksX1_init_3 15 rfl rfl)
theorem dX1_init_88 : decode cX1_init 88 = .ok (.invokevirtual 44, 3) := dk_182 0 44 (dk_at dksX1_init_3 18 rfl rfl)
theorem dX1_init_91 : decode cX1_init 91 = .ok (.pop, 1) := dk_87 (dk_at dksX1_init_3 21 rfl rfl)
theorem dX1_init_92 : decode cX1_init 92 = .ok (.iinc 1 1, 3) := dk_132 1 1 (dk_at dksX1_init_4 0 rfl rfl)
theorem dX1_init_95 : decode cX1_init 95 = .ok (.goto (-24), 3) := dk_167 255 232 (dk_at dksX1_init_4 3 rfl rfl)
theorem dX1_init_98 : decode cX1_init 98 = .ok (.return_, 1) := dk_177 (dk_at dksX1_init_4 6 rfl rfl)
abbrev cX1_copy : ByteArray := prog_5_method_2_code
def yX1_copy : MethodName := ⟨RX1, "copy", "()LLarderLocks$Larder;"⟩
def dkwX1_copy_8 : List UInt8 := [181, 0, 73, 43, 42, 180, 0, 77, 181, 0, 77, 43, 42, 180, 0, 80, 181, 0, 80, 43, 176]
abbrev dktX1_copy_8 : List UInt8 := dkwX1_copy_8 ++ []
def dkwX1_copy_7 : List UInt8 := [180, 0, 38, 28, 42, 180, 0, 38, 28, 46, 79, 132, 2, 1, 167, 255, 169, 43, 42, 180, 0, 73]
abbrev dktX1_copy_7 : List UInt8 := dkwX1_copy_7 ++ dktX1_copy_8
def dkwX1_copy_6 : List UInt8 := [192, 0, 41, 25, 4, 182, 0, 69, 167, 255, 220, 43, 180, 0, 35, 28, 42, 180, 0, 35, 28, 46, 79, 43]
abbrev dktX1_copy_6 : List UInt8 := dkwX1_copy_6 ++ dktX1_copy_7
def dkwX1_copy_5 : List UInt8 := [153, 0, 33, 45, 185, 0, 63, 1, 0, 192, 0, 67, 58, 4, 43, 180, 0, 21, 28, 182, 0, 49]
abbrev dktX1_copy_5 : List UInt8 := dkwX1_copy_5 ++ dktX1_copy_6
def dkwX1_copy_4 : List UInt8 := [162, 0, 87, 42, 180, 0, 21, 28, 182, 0, 49, 192, 0, 41, 182, 0, 53, 78, 45, 185, 0, 57, 1, 0]
abbrev dktX1_copy_4 : List UInt8 := dkwX1_copy_4 ++ dktX1_copy_5
def dkwX1_copy_3 : List UInt8 := [180, 0, 32, 28, 42, 180, 0, 32, 28, 46, 79, 132, 2, 1, 167, 255, 181, 3, 61, 28, 16, 8]
abbrev dktX1_copy_3 : List UInt8 := dkwX1_copy_3 ++ dktX1_copy_4
def dkwX1_copy_2 : List UInt8 := [180, 0, 25, 28, 42, 180, 0, 25, 28, 46, 79, 43, 180, 0, 29, 28, 42, 180, 0, 29, 28, 46, 79, 43]
abbrev dktX1_copy_2 : List UInt8 := dkwX1_copy_2 ++ dktX1_copy_3
def dkwX1_copy_1 : List UInt8 := [43, 180, 0, 11, 28, 50, 29, 42, 180, 0, 11, 28, 50, 29, 53, 86, 132, 3, 1, 167, 255, 231, 43]
abbrev dktX1_copy_1 : List UInt8 := dkwX1_copy_1 ++ dktX1_copy_2
def dkwX1_copy_0 : List UInt8 := [187, 0, 12, 89, 183, 0, 48, 76, 3, 61, 28, 16, 24, 162, 0, 75, 3, 62, 29, 16, 8, 162, 0, 25]
abbrev dktX1_copy_0 : List UInt8 := dkwX1_copy_0 ++ dktX1_copy_1
theorem dksX1_copy_0 : cX1_copy.data.toList.drop 0 = dktX1_copy_0 := by decide +kernel
theorem dksX1_copy_1 : cX1_copy.data.toList.drop 24 = dktX1_copy_1 := dk_seg dksX1_copy_0 24 rfl rfl
theorem dksX1_copy_2 : cX1_copy.data.toList.drop 47 = dktX1_copy_2 := dk_seg dksX1_copy_1 23 rfl rfl
theorem dksX1_copy_3 : cX1_copy.data.toList.drop 71 = dktX1_copy_3 := dk_seg dksX1_copy_2 24 rfl rfl
theorem dksX1_copy_4 : cX1_copy.data.toList.drop 93 = dktX1_copy_4 := dk_seg dksX1_copy_3 22 rfl rfl
theorem dksX1_copy_5 : cX1_copy.data.toList.drop 117 = dktX1_copy_5 := dk_seg dksX1_copy_4 24 rfl rfl
theorem dksX1_copy_6 : cX1_copy.data.toList.drop 139 = dktX1_copy_6 := dk_seg dksX1_copy_5 22 rfl rfl
theorem dksX1_copy_7 : cX1_copy.data.toList.drop 163 = dktX1_copy_7 := dk_seg dksX1_copy_6 24 rfl rfl
theorem dksX1_copy_8 : cX1_copy.data.toList.drop 185 = dktX1_copy_8 := dk_seg dksX1_copy_7 22 rfl rfl
theorem dX1_copy_0 : decode cX1_copy 0 = .ok (.new 12, 3) := dk_187 0 12 (dk_at dksX1_copy_0 0 rfl rfl)
theorem dX1_copy_3 : decode cX1_copy 3 = .ok (.dup, 1) := dk_89 (dk_at dksX1_copy_0 3 rfl rfl)
theorem dX1_copy_4 : decode cX1_copy 4 = .ok (.invokespecial 48, 3) := dk_183 0 48 (dk_at dksX1_copy_0 4 rfl rfl)
theorem dX1_copy_7 : decode cX1_copy 7 = .ok (.astore_n 1, 1) := dk_76 (dk_at dksX1_copy_0 7 rfl rfl)
theorem dX1_copy_8 : decode cX1_copy 8 = .ok (.iconst 0, 1) := dk_3 (dk_at dksX1_copy_0 8 rfl rfl)
theorem dX1_copy_9 : decode cX1_copy 9 = .ok (.istore_n 2, 1) := dk_61 (dk_at dksX1_copy_0 9 rfl rfl)
theorem dX1_copy_10 : decode cX1_copy 10 = .ok (.iload_n 2, 1) := dk_28 (dk_at dksX1_copy_0 10 rfl rfl)
theorem dX1_copy_11 : decode cX1_copy 11 = .ok (.bipush 24, 2) := dk_16 24 (dk_at dksX1_copy_0 11 rfl rfl)
theorem dX1_copy_13 : decode cX1_copy 13 = .ok (.if_icmp .ge 75, 3) := dk_162 0 75 (dk_at dksX1_copy_0 13 rfl rfl)
theorem dX1_copy_16 : decode cX1_copy 16 = .ok (.iconst 0, 1) := dk_3 (dk_at dksX1_copy_0 16 rfl rfl)
theorem dX1_copy_17 : decode cX1_copy 17 = .ok (.istore_n 3, 1) := dk_62 (dk_at dksX1_copy_0 17 rfl rfl)
theorem dX1_copy_18 : decode cX1_copy 18 = .ok (.iload_n 3, 1) := dk_29 (dk_at dksX1_copy_0 18 rfl rfl)
theorem dX1_copy_19 : decode cX1_copy 19 = .ok (.bipush 8, 2) := dk_16 8 (dk_at dksX1_copy_0 19 rfl rfl)
theorem dX1_copy_21 : decode cX1_copy 21 = .ok (.if_icmp .ge 25, 3) := dk_162 0 25 (dk_at dksX1_copy_0 21 rfl rfl)
theorem dX1_copy_24 : decode cX1_copy 24 = .ok (.aload_n 1, 1) := dk_43 (dk_at dksX1_copy_1 0 rfl rfl)
theorem dX1_copy_25 : decode cX1_copy 25 = .ok (.getfield 11, 3) := dk_180 0 11 (dk_at dksX1_copy_1 1 rfl rfl)
theorem dX1_copy_28 : decode cX1_copy 28 = .ok (.iload_n 2, 1) := dk_28 (dk_at dksX1_copy_1 4 rfl rfl)
theorem dX1_copy_29 : decode cX1_copy 29 = .ok (.aaload, 1) := dk_50 (dk_at dksX1_copy_1 5 rfl rfl)
theorem dX1_copy_30 : decode cX1_copy 30 = .ok (.iload_n 3, 1) := dk_29 (dk_at dksX1_copy_1 6 rfl rfl)
theorem dX1_copy_31 : decode cX1_copy 31 = .ok (.aload_n 0, 1) := dk_42 (dk_at dksX1_copy_1 7 rfl rfl)
theorem dX1_copy_32 : decode cX1_copy 32 = .ok (.getfield 11, 3) := dk_180 0 11 (dk_at dksX1_copy_1 8 rfl rfl)
theorem dX1_copy_35 : decode cX1_copy 35 = .ok (.iload_n 2, 1) := dk_28 (dk_at dksX1_copy_1 11 rfl rfl)
theorem dX1_copy_36 : decode cX1_copy 36 = .ok (.aaload, 1) := dk_50 (dk_at dksX1_copy_1 12 rfl rfl)
theorem dX1_copy_37 : decode cX1_copy 37 = .ok (.iload_n 3, 1) := dk_29 (dk_at dksX1_copy_1 13 rfl rfl)
theorem dX1_copy_38 : decode cX1_copy 38 = .ok (.saload, 1) := dk_53 (dk_at dksX1_copy_1 14 rfl rfl)
theorem dX1_copy_39 : decode cX1_copy 39 = .ok (.sastore, 1) := dk_86 (dk_at dksX1_copy_1 15 rfl rfl)
theorem dX1_copy_40 : decode cX1_copy 40 = .ok (.iinc 3 1, 3) := dk_132 3 1 (dk_at dksX1_copy_1 16 rfl rfl)
theorem dX1_copy_43 : decode cX1_copy 43 = .ok (.goto (-25), 3) := dk_167 255 231 (dk_at dksX1_copy_1 19 rfl rfl)
theorem dX1_copy_46 : decode cX1_copy 46 = .ok (.aload_n 1, 1) := dk_43 (dk_at dksX1_copy_1 22 rfl rfl)
theorem dX1_copy_47 : decode cX1_copy 47 = .ok (.getfield 25, 3) := dk_180 0 25 (dk_at dksX1_copy_2 0 rfl rfl)
theorem dX1_copy_50 : decode cX1_copy 50 = .ok (.iload_n 2, 1) := dk_28 (dk_at dksX1_copy_2 3 rfl rfl)
theorem dX1_copy_51 : decode cX1_copy 51 = .ok (.aload_n 0, 1) := dk_42 (dk_at dksX1_copy_2 4 rfl rfl)
theorem dX1_copy_52 : decode cX1_copy 52 = .ok (.getfield 25, 3) := dk_180 0 25 (dk_at dksX1_copy_2 5 rfl rfl)
theorem dX1_copy_55 : decode cX1_copy 55 = .ok (.iload_n 2, 1) := dk_28 (dk_at dksX1_copy_2 8 rfl rfl)
theorem dX1_copy_56 : decode cX1_copy 56 = .ok (.iaload, 1) := dk_46 (dk_at dksX1_copy_2 9 rfl rfl)
theorem dX1_copy_57 : decode cX1_copy 57 = .ok (.iastore, 1) := dk_79 (dk_at dksX1_copy_2 10 rfl rfl)
theorem dX1_copy_58 : decode cX1_copy 58 = .ok (.aload_n 1, 1) := dk_43 (dk_at dksX1_copy_2 11 rfl rfl)
theorem dX1_copy_59 : decode cX1_copy 59 = .ok (.getfield 29, 3) := dk_180 0 29 (dk_at dksX1_copy_2 12 rfl rfl)
theorem dX1_copy_62 : decode cX1_copy 62 = .ok (.iload_n 2, 1) := dk_28 (dk_at dksX1_copy_2 15 rfl rfl)
theorem dX1_copy_63 : decode cX1_copy 63 = .ok (.aload_n 0, 1) := dk_42 (dk_at dksX1_copy_2 16 rfl rfl)
theorem dX1_copy_64 : decode cX1_copy 64 = .ok (.getfield 29, 3) := dk_180 0 29 (dk_at dksX1_copy_2 17 rfl rfl)
theorem dX1_copy_67 : decode cX1_copy 67 = .ok (.iload_n 2, 1) := dk_28 (dk_at dksX1_copy_2 20 rfl rfl)
theorem dX1_copy_68 : decode cX1_copy 68 = .ok (.iaload, 1) := dk_46 (dk_at dksX1_copy_2 21 rfl rfl)
theorem dX1_copy_69 : decode cX1_copy 69 = .ok (.iastore, 1) := dk_79 (dk_at dksX1_copy_2 22 rfl rfl)
theorem dX1_copy_70 : decode cX1_copy 70 = .ok (.aload_n 1, 1) := dk_43 (dk_at dksX1_copy_2 23 rfl rfl)
theorem dX1_copy_71 : decode cX1_copy 71 = .ok (.getfield 32, 3) := dk_180 0 32 (dk_at dksX1_copy_3 0 rfl rfl)
theorem dX1_copy_74 : decode cX1_copy 74 = .ok (.iload_n 2, 1) := dk_28 (dk_at dksX1_copy_3 3 rfl rfl)
theorem dX1_copy_75 : decode cX1_copy 75 = .ok (.aload_n 0, 1) := dk_42 (dk_at dksX1_copy_3 4 rfl rfl)
theorem dX1_copy_76 : decode cX1_copy 76 = .ok (.getfield 32, 3) := dk_180 0 32 (dk_at dksX1_copy_3 5 rfl rfl)
theorem dX1_copy_79 : decode cX1_copy 79 = .ok (.iload_n 2, 1) := dk_28 (dk_at dksX1_copy_3 8 rfl rfl)
theorem dX1_copy_80 : decode cX1_copy 80 = .ok (.iaload, 1) := dk_46 (dk_at dksX1_copy_3 9 rfl rfl)
theorem dX1_copy_81 : decode cX1_copy 81 = .ok (.iastore, 1) := dk_79 (dk_at dksX1_copy_3 10 rfl rfl)
theorem dX1_copy_82 : decode cX1_copy 82 = .ok (.iinc 2 1, 3) := dk_132 2 1 (dk_at dksX1_copy_3 11 rfl rfl)
theorem dX1_copy_85 : decode cX1_copy 85 = .ok (.goto (-75), 3) := dk_167 255 181 (dk_at dksX1_copy_3 14 rfl rfl)
theorem dX1_copy_88 : decode cX1_copy 88 = .ok (.iconst 0, 1) := dk_3 (dk_at dksX1_copy_3 17 rfl rfl)
theorem dX1_copy_89 : decode cX1_copy 89 = .ok (.istore_n 2, 1) := dk_61 (dk_at dksX1_copy_3 18 rfl rfl)
theorem dX1_copy_90 : decode cX1_copy 90 = .ok (.iload_n 2, 1) := dk_28 (dk_at dksX1_copy_3 19 rfl rfl)
theorem dX1_copy_91 : decode cX1_copy 91 = .ok (.bipush 8, 2) := dk_16 8 (dk_at dksX1_copy_3 20 rfl rfl)
theorem dX1_copy_93 : decode cX1_copy 93 = .ok (.if_icmp .ge 87, 3) := dk_162 0 87 (dk_at dksX1_copy_4 0 rfl rfl)
theorem dX1_copy_96 : decode cX1_copy 96 = .ok (.aload_n 0, 1) := dk_42 (dk_at dksX1_copy_4 3 rfl rfl)
theorem dX1_copy_97 : decode cX1_copy 97 = .ok (.getfield 21, 3) := dk_180 0 21 (dk_at dksX1_copy_4 4 rfl rfl)
theorem dX1_copy_100 : decode cX1_copy 100 = .ok (.iload_n 2, 1) := dk_28 (dk_at dksX1_copy_4 7 rfl rfl)
theorem dX1_copy_101 : decode cX1_copy 101 = .ok (.invokevirtual 49, 3) := dk_182 0 49 (dk_at dksX1_copy_4 8 rfl rfl)
theorem dX1_copy_104 : decode cX1_copy 104 = .ok (.checkcast 41, 3) := dk_192 0 41 (dk_at dksX1_copy_4 11 rfl rfl)
theorem dX1_copy_107 : decode cX1_copy 107 = .ok (.invokevirtual 53, 3) := dk_182 0 53 (dk_at dksX1_copy_4 14 rfl rfl)
theorem dX1_copy_110 : decode cX1_copy 110 = .ok (.astore_n 3, 1) := dk_78 (dk_at dksX1_copy_4 17 rfl rfl)
theorem dX1_copy_111 : decode cX1_copy 111 = .ok (.aload_n 3, 1) := dk_45 (dk_at dksX1_copy_4 18 rfl rfl)
theorem dX1_copy_112 : decode cX1_copy 112 = .ok (.invokeinterface 57 1, 5) := by decide +kernel
theorem dX1_copy_117 : decode cX1_copy 117 = .ok (.ifCond .eq 33, 3) := dk_153 0 33 (dk_at dksX1_copy_5 0 rfl rfl)
theorem dX1_copy_120 : decode cX1_copy 120 = .ok (.aload_n 3, 1) := dk_45 (dk_at dksX1_copy_5 3 rfl rfl)
theorem dX1_copy_121 : decode cX1_copy 121 = .ok (.invokeinterface 63 1, 5) := by decide +kernel
theorem dX1_copy_126 : decode cX1_copy 126 = .ok (.checkcast 67, 3) := dk_192 0 67 (dk_at dksX1_copy_5 9 rfl rfl)
theorem dX1_copy_129 : decode cX1_copy 129 = .ok (.astore 4, 2) := dk_58 4 (dk_at dksX1_copy_5 12 rfl rfl)
theorem dX1_copy_131 : decode cX1_copy 131 = .ok (.aload_n 1, 1) := dk_43 (dk_at dksX1_copy_5 14 rfl rfl)
theorem dX1_copy_132 : decode cX1_copy 132 = .ok (.getfield 21, 3) := dk_180 0 21 (dk_at dksX1_copy_5 15 rfl rfl)
theorem dX1_copy_135 : decode cX1_copy 135 = .ok (.iload_n 2, 1) := dk_28 (dk_at dksX1_copy_5 18 rfl rfl)
theorem dX1_copy_136 : decode cX1_copy 136 = .ok (.invokevirtual 49, 3) := dk_182 0 49 (dk_at dksX1_copy_5 19 rfl rfl)
theorem dX1_copy_139 : decode cX1_copy 139 = .ok (.checkcast 41, 3) := dk_192 0 41 (dk_at dksX1_copy_6 0 rfl rfl)
theorem dX1_copy_142 : decode cX1_copy 142 = .ok (.aload 4, 2) := dk_25 4 (dk_at dksX1_copy_6 3 rfl rfl)
theorem dX1_copy_144 : decode cX1_copy 144 = .ok (.invokevirtual 69, 3) := dk_182 0 69 (dk_at dksX1_copy_6 5 rfl rfl)
theorem dX1_copy_147 : decode cX1_copy 147 = .ok (.goto (-36), 3) := dk_167 255 220 (dk_at dksX1_copy_6 8 rfl rfl)
theorem dX1_copy_150 : decode cX1_copy 150 = .ok (.aload_n 1, 1) := dk_43 (dk_at dksX1_copy_6 11 rfl rfl)
theorem dX1_copy_151 : decode cX1_copy 151 = .ok (.getfield 35, 3) := dk_180 0 35 (dk_at dksX1_copy_6 12 rfl rfl)
theorem dX1_copy_154 : decode cX1_copy 154 = .ok (.iload_n 2, 1) := dk_28 (dk_at dksX1_copy_6 15 rfl rfl)
theorem dX1_copy_155 : decode cX1_copy 155 = .ok (.aload_n 0, 1) := dk_42 (dk_at dksX1_copy_6 16 rfl rfl)
theorem dX1_copy_156 : decode cX1_copy 156 = .ok (.getfield 35, 3) := dk_180 0 35 (dk_at dksX1_copy_6 17 rfl rfl)
theorem dX1_copy_159 : decode cX1_copy 159 = .ok (.iload_n 2, 1) := dk_28 (dk_at dksX1_copy_6 20 rfl rfl)
theorem dX1_copy_160 : decode cX1_copy 160 = .ok (.iaload, 1) := dk_46 (dk_at dksX1_copy_6 21 rfl rfl)
theorem dX1_copy_161 : decode cX1_copy 161 = .ok (.iastore, 1) := dk_79 (dk_at dksX1_copy_6 22 rfl rfl)
theorem dX1_copy_162 : decode cX1_copy 162 = .ok (.aload_n 1, 1) := dk_43 (dk_at dksX1_copy_6 23 rfl rfl)
theorem dX1_copy_163 : decode cX1_copy 163 = .ok (.getfield 38, 3) := dk_180 0 38 (dk_at dksX1_copy_7 0 rfl rfl)
theorem dX1_copy_166 : decode cX1_copy 166 = .ok (.iload_n 2, 1) := dk_28 (dk_at dksX1_copy_7 3 rfl rfl)
theorem dX1_copy_167 : decode cX1_copy 167 = .ok (.aload_n 0, 1) := dk_42 (dk_at dksX1_copy_7 4 rfl rfl)
theorem dX1_copy_168 : decode cX1_copy 168 = .ok (.getfield 38, 3) := dk_180 0 38 (dk_at dksX1_copy_7 5 rfl rfl)
theorem dX1_copy_171 : decode cX1_copy 171 = .ok (.iload_n 2, 1) := dk_28 (dk_at dksX1_copy_7 8 rfl rfl)
theorem dX1_copy_172 : decode cX1_copy 172 = .ok (.iaload, 1) := dk_46 (dk_at dksX1_copy_7 9 rfl rfl)
theorem dX1_copy_173 : decode cX1_copy 173 = .ok (.iastore, 1) := dk_79 (dk_at dksX1_copy_7 10 rfl rfl)
theorem dX1_copy_174 : decode cX1_copy 174 = .ok (.iinc 2 1, 3) := dk_132 2 1 (dk_at dksX1_copy_7 11 rfl rfl)
theorem dX1_copy_177 : decode cX1_copy 177 = .ok (.goto (-87), 3) := dk_167 255 169 (dk_at dksX1_copy_7 14 rfl rfl)
theorem dX1_copy_180 : decode cX1_copy 180 = .ok (.aload_n 1, 1) := dk_43 (dk_at dksX1_copy_7 17 rfl rfl)
theorem dX1_copy_181 : decode cX1_copy 181 = .ok (.aload_n 0, 1) := dk_42 (dk_at dksX1_copy_7 18 rfl rfl)
theorem dX1_copy_182 : decode cX1_copy 182 = .ok (.getfield 73, 3) := dk_180 0 73 (dk_at dksX1_copy_7 19 rfl rfl)
theorem dX1_copy_185 : decode cX1_copy 185 = .ok (.putfield 73, 3) := dk_181 0 73 (dk_at dksX1_copy_8 0 rfl rfl)
theorem dX1_copy_188 : decode cX1_copy 188 = .ok (.aload_n 1, 1) := dk_43 (dk_at dksX1_copy_8 3 rfl rfl)
theorem dX1_copy_189 : decode cX1_copy 189 = .ok (.aload_n 0, 1) := dk_42 (dk_at dksX1_copy_8 4 rfl rfl)
theorem dX1_copy_190 : decode cX1_copy 190 = .ok (.getfield 77, 3) := dk_180 0 77 (dk_at dksX1_copy_8 5 rfl rfl)
theorem dX1_copy_193 : decode cX1_copy 193 = .ok (.putfield 77, 3) := dk_181 0 77 (dk_at dksX1_copy_8 8 rfl rfl)
theorem dX1_copy_196 : decode cX1_copy 196 = .ok (.aload_n 1, 1) := dk_43 (dk_at dksX1_copy_8 11 rfl rfl)
theorem dX1_copy_197 : decode cX1_copy 197 = .ok (.aload_n 0, 1) := dk_42 (dk_at dksX1_copy_8 12 rfl rfl)
theorem dX1_copy_198 : decode cX1_copy 198 = .ok (.getfield 80, 3) := dk_180 0 80 (dk_at dksX1_copy_8 13 rfl rfl)
theorem dX1_copy_201 : decode cX1_copy 201 = .ok (.putfield 80, 3) := dk_181 0 80 (dk_at dksX1_copy_8 16 rfl rfl)
theorem dX1_copy_204 : decode cX1_copy 204 = .ok (.aload_n 1, 1) := dk_43 (dk_at dksX1_copy_8 19 rfl rfl)
theorem dX1_copy_205 : decode cX1_copy 205 = .ok (.areturn, 1) := dk_176 (dk_at dksX1_copy_8 20 rfl rfl)
abbrev cX1_comes : ByteArray := prog_5_method_14_code
def yX1_comes : MethodName := ⟨RX1, "comes", "()I"⟩
def dkwX1_comes_3 : List UInt8 := [4, 100, 172]
abbrev dktX1_comes_3 : List UInt8 := dkwX1_comes_3 ++ []
def dkwX1_comes_2 : List UInt8 := [4, 42, 180, 0, 77, 120, 128, 181, 0, 73, 42, 89, 180, 0, 77, 4, 96, 181, 0, 77, 42, 180, 0, 77]
abbrev dktX1_comes_2 : List UInt8 := dkwX1_comes_2 ++ dktX1_comes_3
def dkwX1_comes_1 : List UInt8 := [42, 180, 0, 77, 16, 24, 160, 0, 8, 16, 24, 167, 0, 5, 16, 8, 184, 0, 160, 42, 89, 180, 0, 73]
abbrev dktX1_comes_1 : List UInt8 := dkwX1_comes_1 ++ dktX1_comes_2
def dkwX1_comes_0 : List UInt8 := [42, 182, 0, 157, 16, 8, 159, 0, 12, 42, 180, 0, 77, 16, 24, 160, 0, 7, 4, 167, 0, 4, 3, 4]
abbrev dktX1_comes_0 : List UInt8 := dkwX1_comes_0 ++ dktX1_comes_1
theorem dksX1_comes_0 : cX1_comes.data.toList.drop 0 = dktX1_comes_0 := by decide +kernel
theorem dksX1_comes_1 : cX1_comes.data.toList.drop 24 = dktX1_comes_1 := dk_seg dksX1_comes_0 24 rfl rfl
theorem dksX1_comes_2 : cX1_comes.data.toList.drop 48 = dktX1_comes_2 := dk_seg dksX1_comes_1 24 rfl rfl
theorem dksX1_comes_3 : cX1_comes.data.toList.drop 72 = dktX1_comes_3 := dk_seg dksX1_comes_2 24 rfl rfl
theorem dX1_comes_0 : decode cX1_comes 0 = .ok (.aload_n 0, 1) := dk_42 (dk_at dksX1_comes_0 0 rfl rfl)
theorem dX1_comes_1 : decode cX1_comes 1 = .ok (.invokevirtual 157, 3) := dk_182 0 157 (dk_at dksX1_comes_0 1 rfl rfl)
theorem dX1_comes_4 : decode cX1_comes 4 = .ok (.bipush 8, 2) := dk_16 8 (dk_at dksX1_comes_0 4 rfl rfl)
theorem dX1_comes_6 : decode cX1_comes 6 = .ok (.if_icmp .eq 12, 3) := dk_159 0 12 (dk_at dksX1_comes_0 6 rfl rfl)
theorem dX1_comes_9 : decode cX1_comes 9 = .ok (.aload_n 0, 1) := dk_42 (dk_at dksX1_comes_0 9 rfl rfl)
theorem dX1_comes_10 : decode cX1_comes 10 = .ok (.getfield 77, 3) := dk_180 0 77 (dk_at dksX1_comes_0 10 rfl rfl)
theorem dX1_comes_13 : decode cX1_comes 13 = .ok (.bipush 24, 2) := dk_16 24 (dk_at dksX1_comes_0 13 rfl rfl)
theorem dX1_comes_15 : decode cX1_comes 15 = .ok (.if_icmp .ne 7, 3) := dk_160 0 7 (dk_at dksX1_comes_0 15 rfl rfl)
theorem dX1_comes_18 : decode cX1_comes 18 = .ok (.iconst 1, 1) := dk_4 (dk_at dksX1_comes_0 18 rfl rfl)
theorem dX1_comes_19 : decode cX1_comes 19 = .ok (.goto 4, 3) := dk_167 0 4 (dk_at dksX1_comes_0 19 rfl rfl)
theorem dX1_comes_22 : decode cX1_comes 22 = .ok (.iconst 0, 1) := dk_3 (dk_at dksX1_comes_0 22 rfl rfl)
theorem dX1_comes_23 : decode cX1_comes 23 = .ok (.iconst 1, 1) := dk_4 (dk_at dksX1_comes_0 23 rfl rfl)
theorem dX1_comes_24 : decode cX1_comes 24 = .ok (.aload_n 0, 1) := dk_42 (dk_at dksX1_comes_1 0 rfl rfl)
theorem dX1_comes_25 : decode cX1_comes 25 = .ok (.getfield 77, 3) := dk_180 0 77 (dk_at dksX1_comes_1 1 rfl rfl)
theorem dX1_comes_28 : decode cX1_comes 28 = .ok (.bipush 24, 2) := dk_16 24 (dk_at dksX1_comes_1 4 rfl rfl)
theorem dX1_comes_30 : decode cX1_comes 30 = .ok (.if_icmp .ne 8, 3) := dk_160 0 8 (dk_at dksX1_comes_1 6 rfl rfl)
theorem dX1_comes_33 : decode cX1_comes 33 = .ok (.bipush 24, 2) := dk_16 24 (dk_at dksX1_comes_1 9 rfl rfl)
theorem dX1_comes_35 : decode cX1_comes 35 = .ok (.goto 5, 3) := dk_167 0 5 (dk_at dksX1_comes_1 11 rfl rfl)
theorem dX1_comes_38 : decode cX1_comes 38 = .ok (.bipush 8, 2) := dk_16 8 (dk_at dksX1_comes_1 14 rfl rfl)
theorem dX1_comes_40 : decode cX1_comes 40 = .ok (.invokestatic 160, 3) := dk_184 0 160 (dk_at dksX1_comes_1 16 rfl rfl)
theorem dX1_comes_43 : decode cX1_comes 43 = .ok (.aload_n 0, 1) := dk_42 (dk_at dksX1_comes_1 19 rfl rfl)
theorem dX1_comes_44 : decode cX1_comes 44 = .ok (.dup, 1) := dk_89 (dk_at dksX1_comes_1 20 rfl rfl)
theorem dX1_comes_45 : decode cX1_comes 45 = .ok (.getfield 73, 3) := dk_180 0 73 (dk_at dksX1_comes_1 21 rfl rfl)
theorem dX1_comes_48 : decode cX1_comes 48 = .ok (.iconst 1, 1) := dk_4 (dk_at dksX1_comes_2 0 rfl rfl)
theorem dX1_comes_49 : decode cX1_comes 49 = .ok (.aload_n 0, 1) := dk_42 (dk_at dksX1_comes_2 1 rfl rfl)
theorem dX1_comes_50 : decode cX1_comes 50 = .ok (.getfield 77, 3) := dk_180 0 77 (dk_at dksX1_comes_2 2 rfl rfl)
theorem dX1_comes_53 : decode cX1_comes 53 = .ok (.ishl, 1) := dk_120 (dk_at dksX1_comes_2 5 rfl rfl)
theorem dX1_comes_54 : decode cX1_comes 54 = .ok (.ior, 1) := dk_128 (dk_at dksX1_comes_2 6 rfl rfl)
theorem dX1_comes_55 : decode cX1_comes 55 = .ok (.putfield 73, 3) := dk_181 0 73 (dk_at dksX1_comes_2 7 rfl rfl)
theorem dX1_comes_58 : decode cX1_comes 58 = .ok (.aload_n 0, 1) := dk_42 (dk_at dksX1_comes_2 10 rfl rfl)
theorem dX1_comes_59 : decode cX1_comes 59 = .ok (.dup, 1) := dk_89 (dk_at dksX1_comes_2 11 rfl rfl)
theorem dX1_comes_60 : decode cX1_comes 60 = .ok (.getfield 77, 3) := dk_180 0 77 (dk_at dksX1_comes_2 12 rfl rfl)
theorem dX1_comes_63 : decode cX1_comes 63 = .ok (.iconst 1, 1) := dk_4 (dk_at dksX1_comes_2 15 rfl rfl)
theorem dX1_comes_64 : decode cX1_comes 64 = .ok (.iadd, 1) := dk_96 (dk_at dksX1_comes_2 16 rfl rfl)
theorem dX1_comes_65 : decode cX1_comes 65 = .ok (.putfield 77, 3) := dk_181 0 77 (dk_at dksX1_comes_2 17 rfl rfl)
theorem dX1_comes_68 : decode cX1_comes 68 = .ok (.aload_n 0, 1) := dk_42 (dk_at dksX1_comes_2 20 rfl rfl)
theorem dX1_comes_69 : decode cX1_comes 69 = .ok (.getfield 77, 3) := dk_180 0 77 (dk_at dksX1_comes_2 21 rfl rfl)
theorem dX1_comes_72 : decode cX1_comes 72 = .ok (.iconst 1, 1) := dk_4 (dk_at dksX1_comes_3 0 rfl rfl)
theorem dX1_comes_73 : decode cX1_comes 73 = .ok (.isub, 1) := dk_100 (dk_at dksX1_comes_3 1 rfl rfl)
theorem dX1_comes_74 : decode cX1_comes 74 = .ok (.ireturn, 1) := dk_172 (dk_at dksX1_comes_3 2 rfl rfl)
abbrev cX1_many : ByteArray := prog_5_method_4_code
def yX1_many : MethodName := ⟨RX1, "many", "()I"⟩
def dkwX1_many_0 : List UInt8 := [42, 180, 0, 73, 184, 0, 91, 172]
abbrev dktX1_many_0 : List UInt8 := dkwX1_many_0 ++ []
theorem dksX1_many_0 : cX1_many.data.toList.drop 0 = dktX1_many_0 := by decide +kernel
theorem dX1_many_0 : decode cX1_many 0 = .ok (.aload_n 0, 1) := dk_42 (dk_at dksX1_many_0 0 rfl rfl)
theorem dX1_many_1 : decode cX1_many 1 = .ok (.getfield 73, 3) := dk_180 0 73 (dk_at dksX1_many_0 1 rfl rfl)
theorem dX1_many_4 : decode cX1_many 4 = .ok (.invokestatic 91, 3) := dk_184 0 91 (dk_at dksX1_many_0 4 rfl rfl)
theorem dX1_many_7 : decode cX1_many 7 = .ok (.ireturn, 1) := dk_172 (dk_at dksX1_many_0 7 rfl rfl)
abbrev cX1_notes : ByteArray := prog_5_method_36_code
def yX1_notes : MethodName := ⟨RX1, "notes", "()V"⟩
def dkwX1_notes_1 : List UInt8 := [182, 0, 49, 192, 0, 41, 182, 0, 146, 184, 0, 102, 79, 132, 1, 1, 167, 255, 218, 177]
abbrev dktX1_notes_1 : List UInt8 := dkwX1_notes_1 ++ []
def dkwX1_notes_0 : List UInt8 := [3, 60, 27, 16, 8, 162, 0, 38, 42, 180, 0, 38, 27, 42, 180, 0, 38, 27, 46, 42, 180, 0, 21, 27]
abbrev dktX1_notes_0 : List UInt8 := dkwX1_notes_0 ++ dktX1_notes_1
theorem dksX1_notes_0 : cX1_notes.data.toList.drop 0 = dktX1_notes_0 := by decide +kernel
theorem dksX1_notes_1 : cX1_notes.data.toList.drop 24 = dktX1_notes_1 := dk_seg dksX1_notes_0 24 rfl rfl
theorem dX1_notes_0 : decode cX1_notes 0 = .ok (.iconst 0, 1) := dk_3 (dk_at dksX1_notes_0 0 rfl rfl)
theorem dX1_notes_1 : decode cX1_notes 1 = .ok (.istore_n 1, 1) := dk_60 (dk_at dksX1_notes_0 1 rfl rfl)
theorem dX1_notes_2 : decode cX1_notes 2 = .ok (.iload_n 1, 1) := dk_27 (dk_at dksX1_notes_0 2 rfl rfl)
theorem dX1_notes_3 : decode cX1_notes 3 = .ok (.bipush 8, 2) := dk_16 8 (dk_at dksX1_notes_0 3 rfl rfl)
theorem dX1_notes_5 : decode cX1_notes 5 = .ok (.if_icmp .ge 38, 3) := dk_162 0 38 (dk_at dksX1_notes_0 5 rfl rfl)
theorem dX1_notes_8 : decode cX1_notes 8 = .ok (.aload_n 0, 1) := dk_42 (dk_at dksX1_notes_0 8 rfl rfl)
theorem dX1_notes_9 : decode cX1_notes 9 = .ok (.getfield 38, 3) := dk_180 0 38 (dk_at dksX1_notes_0 9 rfl rfl)
theorem dX1_notes_12 : decode cX1_notes 12 = .ok (.iload_n 1, 1) := dk_27 (dk_at dksX1_notes_0 12 rfl rfl)
theorem dX1_notes_13 : decode cX1_notes 13 = .ok (.aload_n 0, 1) := dk_42 (dk_at dksX1_notes_0 13 rfl rfl)
theorem dX1_notes_14 : decode cX1_notes 14 = .ok (.getfield 38, 3) := dk_180 0 38 (dk_at dksX1_notes_0 14 rfl rfl)
theorem dX1_notes_17 : decode cX1_notes 17 = .ok (.iload_n 1, 1) := dk_27 (dk_at dksX1_notes_0 17 rfl rfl)
theorem dX1_notes_18 : decode cX1_notes 18 = .ok (.iaload, 1) := dk_46 (dk_at dksX1_notes_0 18 rfl rfl)
theorem dX1_notes_19 : decode cX1_notes 19 = .ok (.aload_n 0, 1) := dk_42 (dk_at dksX1_notes_0 19 rfl rfl)
theorem dX1_notes_20 : decode cX1_notes 20 = .ok (.getfield 21, 3) := dk_180 0 21 (dk_at dksX1_notes_0 20 rfl rfl)
theorem dX1_notes_23 : decode cX1_notes 23 = .ok (.iload_n 1, 1) := dk_27 (dk_at dksX1_notes_0 23 rfl rfl)
theorem dX1_notes_24 : decode cX1_notes 24 = .ok (.invokevirtual 49, 3) := dk_182 0 49 (dk_at dksX1_notes_1 0 rfl rfl)
theorem dX1_notes_27 : decode cX1_notes 27 = .ok (.checkcast 41, 3) := dk_192 0 41 (dk_at dksX1_notes_1 3 rfl rfl)
theorem dX1_notes_30 : decode cX1_notes 30 = .ok (.invokevirtual 146, 3) := dk_182 0 146 (dk_at dksX1_notes_1 6 rfl rfl)
theorem dX1_notes_33 : decode cX1_notes 33 = .ok (.invokestatic 102, 3) := dk_184 0 102 (dk_at dksX1_notes_1 9 rfl rfl)
theorem dX1_notes_36 : decode cX1_notes 36 = .ok (.iastore, 1) := dk_79 (dk_at dksX1_notes_1 12 rfl rfl)
theorem dX1_notes_37 : decode cX1_notes 37 = .ok (.iinc 1 1, 3) := dk_132 1 1 (dk_at dksX1_notes_1 13 rfl rfl)
theorem dX1_notes_40 : decode cX1_notes 40 = .ok (.goto (-38), 3) := dk_167 255 218 (dk_at dksX1_notes_1 16 rfl rfl)
theorem dX1_notes_43 : decode cX1_notes 43 = .ok (.return_, 1) := dk_177 (dk_at dksX1_notes_1 19 rfl rfl)
abbrev cX1_isThere : ByteArray := prog_5_method_3_code
def yX1_isThere : MethodName := ⟨RX1, "isThere", "(I)Z"⟩
def dkwX1_isThere_1 : List UInt8 := [153, 0, 7, 4, 167, 0, 4, 3, 172]
abbrev dktX1_isThere_1 : List UInt8 := dkwX1_isThere_1 ++ []
def dkwX1_isThere_0 : List UInt8 := [27, 3, 42, 180, 0, 77, 4, 100, 184, 0, 83, 153, 0, 18, 42, 180, 0, 73, 27, 184, 0, 87]
abbrev dktX1_isThere_0 : List UInt8 := dkwX1_isThere_0 ++ dktX1_isThere_1
theorem dksX1_isThere_0 : cX1_isThere.data.toList.drop 0 = dktX1_isThere_0 := by decide +kernel
theorem dksX1_isThere_1 : cX1_isThere.data.toList.drop 22 = dktX1_isThere_1 := dk_seg dksX1_isThere_0 22 rfl rfl
theorem dX1_isThere_0 : decode cX1_isThere 0 = .ok (.iload_n 1, 1) := dk_27 (dk_at dksX1_isThere_0 0 rfl rfl)
theorem dX1_isThere_1 : decode cX1_isThere 1 = .ok (.iconst 0, 1) := dk_3 (dk_at dksX1_isThere_0 1 rfl rfl)
theorem dX1_isThere_2 : decode cX1_isThere 2 = .ok (.aload_n 0, 1) := dk_42 (dk_at dksX1_isThere_0 2 rfl rfl)
theorem dX1_isThere_3 : decode cX1_isThere 3 = .ok (.getfield 77, 3) := dk_180 0 77 (dk_at dksX1_isThere_0 3 rfl rfl)
theorem dX1_isThere_6 : decode cX1_isThere 6 = .ok (.iconst 1, 1) := dk_4 (dk_at dksX1_isThere_0 6 rfl rfl)
theorem dX1_isThere_7 : decode cX1_isThere 7 = .ok (.isub, 1) := dk_100 (dk_at dksX1_isThere_0 7 rfl rfl)
theorem dX1_isThere_8 : decode cX1_isThere 8 = .ok (.invokestatic 83, 3) := dk_184 0 83 (dk_at dksX1_isThere_0 8 rfl rfl)
theorem dX1_isThere_11 : decode cX1_isThere 11 = .ok (.ifCond .eq 18, 3) := dk_153 0 18 (dk_at dksX1_isThere_0 11 rfl rfl)
theorem dX1_isThere_14 : decode cX1_isThere 14 = .ok (.aload_n 0, 1) := dk_42 (dk_at dksX1_isThere_0 14 rfl rfl)
theorem dX1_isThere_15 : decode cX1_isThere 15 = .ok (.getfield 73, 3) := dk_180 0 73 (dk_at dksX1_isThere_0 15 rfl rfl)
theorem dX1_isThere_18 : decode cX1_isThere 18 = .ok (.iload_n 1, 1) := dk_27 (dk_at dksX1_isThere_0 18 rfl rfl)
theorem dX1_isThere_19 : decode cX1_isThere 19 = .ok (.invokestatic 87, 3) := dk_184 0 87 (dk_at dksX1_isThere_0 19 rfl rfl)
theorem dX1_isThere_22 : decode cX1_isThere 22 = .ok (.ifCond .eq 7, 3) := dk_153 0 7 (dk_at dksX1_isThere_1 0 rfl rfl)
theorem dX1_isThere_25 : decode cX1_isThere 25 = .ok (.iconst 1, 1) := dk_4 (dk_at dksX1_isThere_1 3 rfl rfl)
theorem dX1_isThere_26 : decode cX1_isThere 26 = .ok (.goto 4, 3) := dk_167 0 4 (dk_at dksX1_isThere_1 4 rfl rfl)
theorem dX1_isThere_29 : decode cX1_isThere 29 = .ok (.iconst 0, 1) := dk_3 (dk_at dksX1_isThere_1 7 rfl rfl)
theorem dX1_isThere_30 : decode cX1_isThere 30 = .ok (.ireturn, 1) := dk_172 (dk_at dksX1_isThere_1 8 rfl rfl)
abbrev cX1_wants : ByteArray := prog_5_method_16_code
def yX1_wants : MethodName := ⟨RX1, "wants", "(IIZ[LLarderLocks$Fit;)I"⟩
def dkwX1_wants_7 : List UInt8 := [160, 0, 7, 5, 167, 0, 4, 4, 172]
abbrev dktX1_wants_7 : List UInt8 := dkwX1_wants_7 ++ []
def dkwX1_wants_6 : List UInt8 := [182, 0, 174, 54, 8, 167, 255, 196, 21, 7, 153, 0, 7, 3, 167, 0, 18, 42, 27, 182, 0, 140, 16, 241]
abbrev dktX1_wants_6 : List UInt8 := dkwX1_wants_6 ++ dktX1_wants_7
def dkwX1_wants_5 : List UInt8 := [79, 42, 21, 8, 25, 4, 182, 0, 177, 54, 9, 21, 9, 156, 0, 8, 16, 245, 167, 0, 7, 42]
abbrev dktX1_wants_5 : List UInt8 := dkwX1_wants_5 ++ dktX1_wants_6
def dkwX1_wants_4 : List UInt8 := [21, 8, 27, 160, 0, 7, 4, 167, 0, 4, 3, 128, 54, 7, 42, 180, 0, 25, 21, 8, 92, 46, 4, 96]
abbrev dktX1_wants_4 : List UInt8 := dkwX1_wants_4 ++ dktX1_wants_5
def dkwX1_wants_3 : List UInt8 := [25, 5, 182, 0, 171, 3, 54, 7, 42, 182, 0, 174, 54, 8, 21, 8, 16, 245, 159, 0, 59, 21, 7]
abbrev dktX1_wants_3 : List UInt8 := dkwX1_wants_3 ++ dktX1_wants_4
def dkwX1_wants_2 : List UInt8 := [42, 28, 25, 5, 25, 4, 182, 0, 129, 153, 0, 12, 42, 28, 25, 5, 182, 0, 136, 5, 172, 42, 28]
abbrev dktX1_wants_2 : List UInt8 := dkwX1_wants_2 ++ dktX1_wants_3
def dkwX1_wants_1 : List UInt8 := [182, 0, 49, 192, 0, 41, 182, 0, 123, 153, 0, 7, 4, 167, 0, 4, 3, 54, 6, 21, 6, 153, 0, 24]
abbrev dktX1_wants_1 : List UInt8 := dkwX1_wants_1 ++ dktX1_wants_2
def dkwX1_wants_0 : List UInt8 := [42, 27, 28, 29, 182, 0, 167, 58, 5, 25, 5, 180, 0, 150, 154, 0, 20, 42, 180, 0, 21, 28]
abbrev dktX1_wants_0 : List UInt8 := dkwX1_wants_0 ++ dktX1_wants_1
theorem dksX1_wants_0 : cX1_wants.data.toList.drop 0 = dktX1_wants_0 := by decide +kernel
theorem dksX1_wants_1 : cX1_wants.data.toList.drop 22 = dktX1_wants_1 := dk_seg dksX1_wants_0 22 rfl rfl
theorem dksX1_wants_2 : cX1_wants.data.toList.drop 46 = dktX1_wants_2 := dk_seg dksX1_wants_1 24 rfl rfl
theorem dksX1_wants_3 : cX1_wants.data.toList.drop 69 = dktX1_wants_3 := dk_seg dksX1_wants_2 23 rfl rfl
theorem dksX1_wants_4 : cX1_wants.data.toList.drop 92 = dktX1_wants_4 := dk_seg dksX1_wants_3 23 rfl rfl
theorem dksX1_wants_5 : cX1_wants.data.toList.drop 116 = dktX1_wants_5 := dk_seg dksX1_wants_4 24 rfl rfl
theorem dksX1_wants_6 : cX1_wants.data.toList.drop 138 = dktX1_wants_6 := dk_seg dksX1_wants_5 22 rfl rfl
theorem dksX1_wants_7 : cX1_wants.data.toList.drop 162 = dktX1_wants_7 := dk_seg dksX1_wants_6 24 rfl rfl
theorem dX1_wants_0 : decode cX1_wants 0 = .ok (.aload_n 0, 1) := dk_42 (dk_at dksX1_wants_0 0 rfl rfl)
theorem dX1_wants_1 : decode cX1_wants 1 = .ok (.iload_n 1, 1) := dk_27 (dk_at dksX1_wants_0 1 rfl rfl)
theorem dX1_wants_2 : decode cX1_wants 2 = .ok (.iload_n 2, 1) := dk_28 (dk_at dksX1_wants_0 2 rfl rfl)
theorem dX1_wants_3 : decode cX1_wants 3 = .ok (.iload_n 3, 1) := dk_29 (dk_at dksX1_wants_0 3 rfl rfl)
theorem dX1_wants_4 : decode cX1_wants 4 = .ok (.invokevirtual 167, 3) := dk_182 0 167 (dk_at dksX1_wants_0 4 rfl rfl)
theorem dX1_wants_7 : decode cX1_wants 7 = .ok (.astore 5, 2) := dk_58 5 (dk_at dksX1_wants_0 7 rfl rfl)
theorem dX1_wants_9 : decode cX1_wants 9 = .ok (.aload 5, 2) := dk_25 5 (dk_at dksX1_wants_0 9 rfl rfl)
theorem dX1_wants_11 : decode cX1_wants 11 = .ok (.getfield 150, 3) := dk_180 0 150 (dk_at dksX1_wants_0 11 rfl rfl)
theorem dX1_wants_14 : decode cX1_wants 14 = .ok (.ifCond .ne 20, 3) := dk_154 0 20 (dk_at dksX1_wants_0 14 rfl rfl)
theorem dX1_wants_17 : decode cX1_wants 17 = .ok (.aload_n 0, 1) := dk_42 (dk_at dksX1_wants_0 17 rfl rfl)
theorem dX1_wants_18 : decode cX1_wants 18 = .ok (.getfield 21, 3) := dk_180 0 21 (dk_at dksX1_wants_0 18 rfl rfl)
theorem dX1_wants_21 : decode cX1_wants 21 = .ok (.iload_n 2, 1) := dk_28 (dk_at dksX1_wants_0 21 rfl rfl)
theorem dX1_wants_22 : decode cX1_wants 22 = .ok (.invokevirtual 49, 3) := dk_182 0 49 (dk_at dksX1_wants_1 0 rfl rfl)
theorem dX1_wants_25 : decode cX1_wants 25 = .ok (.checkcast 41, 3) := dk_192 0 41 (dk_at dksX1_wants_1 3 rfl rfl)
theorem dX1_wants_28 : decode cX1_wants 28 = .ok (.invokevirtual 123, 3) := dk_182 0 123 (dk_at dksX1_wants_1 6 rfl rfl)
theorem dX1_wants_31 : decode cX1_wants 31 = .ok (.ifCond .eq 7, 3) := dk_153 0 7 (dk_at dksX1_wants_1 9 rfl rfl)
theorem dX1_wants_34 : decode cX1_wants 34 = .ok (.iconst 1, 1) := dk_4 (dk_at dksX1_wants_1 12 rfl rfl)
theorem dX1_wants_35 : decode cX1_wants 35 = .ok (.goto 4, 3) := dk_167 0 4 (dk_at dksX1_wants_1 13 rfl rfl)
theorem dX1_wants_38 : decode cX1_wants 38 = .ok (.iconst 0, 1) := dk_3 (dk_at dksX1_wants_1 16 rfl rfl)
theorem dX1_wants_39 : decode cX1_wants 39 = .ok (.istore 6, 2) := dk_54 6 (dk_at dksX1_wants_1 17 rfl rfl)
theorem dX1_wants_41 : decode cX1_wants 41 = .ok (.iload 6, 2) := dk_21 6 (dk_at dksX1_wants_1 19 rfl rfl)
theorem dX1_wants_43 : decode cX1_wants 43 = .ok (.ifCond .eq 24, 3) := dk_153 0 24 (dk_at dksX1_wants_1 21 rfl rfl)
theorem dX1_wants_46 : decode cX1_wants 46 = .ok (.aload_n 0, 1) := dk_42 (dk_at dksX1_wants_2 0 rfl rfl)
theorem dX1_wants_47 : decode cX1_wants 47 = .ok (.iload_n 2, 1) := dk_28 (dk_at dksX1_wants_2 1 rfl rfl)
theorem dX1_wants_48 : decode cX1_wants 48 = .ok (.aload 5, 2) := dk_25 5 (dk_at dksX1_wants_2 2 rfl rfl)
theorem dX1_wants_50 : decode cX1_wants 50 = .ok (.aload 4, 2) := dk_25 4 (dk_at dksX1_wants_2 4 rfl rfl)
theorem dX1_wants_52 : decode cX1_wants 52 = .ok (.invokevirtual 129, 3) := dk_182 0 129 (dk_at dksX1_wants_2 6 rfl rfl)
theorem dX1_wants_55 : decode cX1_wants 55 = .ok (.ifCond .eq 12, 3) := dk_153 0 12 (dk_at dksX1_wants_2 9 rfl rfl)
theorem dX1_wants_58 : decode cX1_wants 58 = .ok (.aload_n 0, 1) := dk_42 (dk_at dksX1_wants_2 12 rfl rfl)
theorem dX1_wants_59 : decode cX1_wants 59 = .ok (.iload_n 2, 1) := dk_28 (dk_at dksX1_wants_2 13 rfl rfl)
theorem dX1_wants_60 : decode cX1_wants 60 = .ok (.aload 5, 2) := dk_25 5 (dk_at dksX1_wants_2 14 rfl rfl)
theorem dX1_wants_62 : decode cX1_wants 62 = .ok (.invokevirtual 136, 3) := dk_182 0 136 (dk_at dksX1_wants_2 16 rfl rfl)
theorem dX1_wants_65 : decode cX1_wants 65 = .ok (.iconst 2, 1) := dk_5 (dk_at dksX1_wants_2 19 rfl rfl)
theorem dX1_wants_66 : decode cX1_wants 66 = .ok (.ireturn, 1) := dk_172 (dk_at dksX1_wants_2 20 rfl rfl)
theorem dX1_wants_67 : decode cX1_wants 67 = .ok (.aload_n 0, 1) := dk_42 (dk_at dksX1_wants_2 21 rfl rfl)
theorem dX1_wants_68 : decode cX1_wants 68 = .ok (.iload_n 2, 1) := dk_28 (dk_at dksX1_wants_2 22 rfl rfl)
theorem dX1_wants_69 : decode cX1_wants 69 = .ok (.aload 5, 2) := dk_25 5 (dk_at dksX1_wants_3 0 rfl rfl)
theorem dX1_wants_71 : decode cX1_wants 71 = .ok (.invokevirtual 171, 3) := dk_182 0 171 (dk_at dksX1_wants_3 2 rfl rfl)
theorem dX1_wants_74 : decode cX1_wants 74 = .ok (.iconst 0, 1) := dk_3 (dk_at dksX1_wants_3 5 rfl rfl)
theorem dX1_wants_75 : decode cX1_wants 75 = .ok (.istore 7, 2) := dk_54 7 (dk_at dksX1_wants_3 6 rfl rfl)
theorem dX1_wants_77 : decode cX1_wants 77 = .ok (.aload_n 0, 1) := dk_42 (dk_at dksX1_wants_3 8 rfl rfl)
theorem dX1_wants_78 : decode cX1_wants 78 = .ok (.invokevirtual 174, 3) := dk_182 0 174 (dk_at dksX1_wants_3 9 rfl rfl)
theorem dX1_wants_81 : decode cX1_wants 81 = .ok (.istore 8, 2) := dk_54 8 (dk_at dksX1_wants_3 12 rfl rfl)
theorem dX1_wants_83 : decode cX1_wants 83 = .ok (.iload 8, 2) := dk_21 8 (dk_at dksX1_wants_3 14 rfl rfl)
theorem dX1_wants_85 : decode cX1_wants 85 = .ok (.bipush (-11), 2) := dk_16 245 (dk_at dksX1_wants_3 16 rfl rfl)
theorem dX1_wants_87 : decode cX1_wants 87 = .ok (.if_icmp .eq 59, 3) := dk_159 0 59 (dk_at dksX1_wants_3 18 rfl rfl)
theorem dX1_wants_90 : decode cX1_wants 90 = .ok (.iload 7, 2) := dk_21 7 (dk_at dksX1_wants_3 21 rfl rfl)
theorem dX1_wants_92 : decode cX1_wants 92 = .ok (.iload 8, 2) := dk_21 8 (dk_at dksX1_wants_4 0 rfl rfl)
theorem dX1_wants_94 : decode cX1_wants 94 = .ok (.iload_n 1, 1) := dk_27 (dk_at dksX1_wants_4 2 rfl rfl)
theorem dX1_wants_95 : decode cX1_wants 95 = .ok (.if_icmp .ne 7, 3) := dk_160 0 7 (dk_at dksX1_wants_4 3 rfl rfl)
theorem dX1_wants_98 : decode cX1_wants 98 = .ok (.iconst 1, 1) := dk_4 (dk_at dksX1_wants_4 6 rfl rfl)
theorem dX1_wants_99 : decode cX1_wants 99 = .ok (.goto 4, 3) := dk_167 0 4 (dk_at dksX1_wants_4 7 rfl rfl)
theorem dX1_wants_102 : decode cX1_wants 102 = .ok (.iconst 0, 1) := dk_3 (dk_at dksX1_wants_4 10 rfl rfl)
theorem dX1_wants_103 : decode cX1_wants 103 = .ok (.ior, 1) := dk_128 (dk_at dksX1_wants_4 11 rfl rfl)
theorem dX1_wants_104 : decode cX1_wants 104 = .ok (.istore 7, 2) := dk_54 7 (dk_at dksX1_wants_4 12 rfl rfl)
theorem dX1_wants_106 : decode cX1_wants 106 = .ok (.aload_n 0, 1) := dk_42 (dk_at dksX1_wants_4 14 rfl rfl)
theorem dX1_wants_107 : decode cX1_wants 107 = .ok (.getfield 25, 3) := dk_180 0 25 (dk_at dksX1_wants_4 15 rfl rfl)
theorem dX1_wants_110 : decode cX1_wants 110 = .ok (.iload 8, 2) := dk_21 8 (dk_at dksX1_wants_4 18 rfl rfl)
theorem dX1_wants_112 : decode cX1_wants 112 = .ok (.dup2, 1) := dk_92 (dk_at dksX1_wants_4 20 rfl rfl)
theorem dX1_wants_113 : decode cX1_wants 113 = .ok (.iaload, 1) := dk_46 (dk_at dksX1_wants_4 21 rfl rfl)
theorem dX1_wants_114 : decode cX1_wants 114 = .ok (.iconst 1, 1) := dk_4 (dk_at dksX1_wants_4 22 rfl rfl)
theorem dX1_wants_115 : decode cX1_wants 115 = .ok (.iadd, 1) := dk_96 (dk_at dksX1_wants_4 23 rfl rfl)
theorem dX1_wants_116 : decode cX1_wants 116 = .ok (.iastore, 1) := dk_79 (dk_at dksX1_wants_5 0 rfl rfl)
theorem dX1_wants_117 : decode cX1_wants 117 = .ok (.aload_n 0, 1) := dk_42 (dk_at dksX1_wants_5 1 rfl rfl)
theorem dX1_wants_118 : decode cX1_wants 118 = .ok (.iload 8, 2) := dk_21 8 (dk_at dksX1_wants_5 2 rfl rfl)
theorem dX1_wants_120 : decode cX1_wants 120 = .ok (.aload 4, 2) := dk_25 4 (dk_at dksX1_wants_5 4 rfl rfl)
theorem dX1_wants_122 : decode cX1_wants 122 = .ok (.invokevirtual 177, 3) := dk_182 0 177 (dk_at dksX1_wants_5 6 rfl rfl)
theorem dX1_wants_125 : decode cX1_wants 125 = .ok (.istore 9, 2) := dk_54 9 (dk_at dksX1_wants_5 9 rfl rfl)
theorem dX1_wants_127 : decode cX1_wants 127 = .ok (.iload 9, 2) := dk_21 9 (dk_at dksX1_wants_5 11 rfl rfl)
theorem dX1_wants_129 : decode cX1_wants 129 = .ok (.ifCond .ge 8, 3) := dk_156 0 8 (dk_at dksX1_wants_5 13 rfl rfl)
theorem dX1_wants_132 : decode cX1_wants 132 = .ok (.bipush (-11), 2) := dk_16 245 (dk_at dksX1_wants_5 16 rfl rfl)
theorem dX1_wants_134 : decode cX1_wants 134 = .ok (.goto 7, 3) := dk_167 0 7 (dk_at dksX1_wants_5 18 rfl rfl)
theorem dX1_wants_137 : decode cX1_wants 137 = .ok (.aload_n 0, 1) := dk_42 (dk_at dksX1_wants_5 21 rfl rfl)
theorem dX1_wants_138 : decode cX1_wants 138 = .ok (.invokevirtual 174, 3) := dk_182 0 174 (dk_at dksX1_wants_6 0 rfl rfl)
theorem dX1_wants_141 : decode cX1_wants 141 = .ok (.istore 8, 2) := dk_54 8 (dk_at dksX1_wants_6 3 rfl rfl)
theorem dX1_wants_143 : decode cX1_wants 143 = .ok (.goto (-60), 3) := dk_167 255 196 (dk_at dksX1_wants_6 5 rfl rfl)
theorem dX1_wants_146 : decode cX1_wants 146 = .ok (.iload 7, 2) := dk_21 7 (dk_at dksX1_wants_6 8 rfl rfl)
theorem dX1_wants_148 : decode cX1_wants 148 = .ok (.ifCond .eq 7, 3) := dk_153 0 7 (dk_at dksX1_wants_6 10 rfl rfl)
theorem dX1_wants_151 : decode cX1_wants 151 = .ok (.iconst 0, 1) := dk_3 (dk_at dksX1_wants_6 13 rfl rfl)
theorem dX1_wants_152 : decode cX1_wants 152 = .ok (.goto 18, 3) := dk_167 0 18 (dk_at dksX1_wants_6 14 rfl rfl)
theorem dX1_wants_155 : decode cX1_wants 155 = .ok (.aload_n 0, 1) := dk_42 (dk_at dksX1_wants_6 17 rfl rfl)
theorem dX1_wants_156 : decode cX1_wants 156 = .ok (.iload_n 1, 1) := dk_27 (dk_at dksX1_wants_6 18 rfl rfl)
theorem dX1_wants_157 : decode cX1_wants 157 = .ok (.invokevirtual 140, 3) := dk_182 0 140 (dk_at dksX1_wants_6 19 rfl rfl)
theorem dX1_wants_160 : decode cX1_wants 160 = .ok (.bipush (-15), 2) := dk_16 241 (dk_at dksX1_wants_6 22 rfl rfl)
theorem dX1_wants_162 : decode cX1_wants 162 = .ok (.if_icmp .ne 7, 3) := dk_160 0 7 (dk_at dksX1_wants_7 0 rfl rfl)
theorem dX1_wants_165 : decode cX1_wants 165 = .ok (.iconst 2, 1) := dk_5 (dk_at dksX1_wants_7 3 rfl rfl)
theorem dX1_wants_166 : decode cX1_wants 166 = .ok (.goto 4, 3) := dk_167 0 4 (dk_at dksX1_wants_7 4 rfl rfl)
theorem dX1_wants_169 : decode cX1_wants 169 = .ok (.iconst 1, 1) := dk_4 (dk_at dksX1_wants_7 7 rfl rfl)
theorem dX1_wants_170 : decode cX1_wants 170 = .ok (.ireturn, 1) := dk_172 (dk_at dksX1_wants_7 8 rfl rfl)
abbrev cX1_wish : ByteArray := prog_5_method_15_code
def yX1_wish : MethodName := ⟨RX1, "wish", "(IIZ)LLarderLocks$Wish;"⟩
def dkwX1_wish_3 : List UInt8 := [153, 0, 7, 5, 167, 0, 4, 4, 21, 5, 4, 160, 0, 7, 4, 167, 0, 4, 3, 183, 0, 164, 176]
abbrev dktX1_wish_3 : List UInt8 := dkwX1_wish_3 ++ []
def dkwX1_wish_2 : List UInt8 := [160, 0, 11, 29, 154, 0, 7, 4, 167, 0, 4, 3, 6, 21, 5, 184, 0, 160, 187, 0, 67, 89, 27, 29]
abbrev dktX1_wish_2 : List UInt8 := dkwX1_wish_2 ++ dktX1_wish_3
def dkwX1_wish_1 : List UInt8 := [184, 0, 160, 42, 180, 0, 11, 27, 50, 28, 53, 54, 5, 21, 5, 5, 159, 0, 13, 21, 5, 4]
abbrev dktX1_wish_1 : List UInt8 := dkwX1_wish_1 ++ dktX1_wish_2
def dkwX1_wish_0 : List UInt8 := [42, 27, 182, 0, 140, 54, 4, 21, 4, 16, 241, 159, 0, 7, 4, 167, 0, 4, 3, 5, 21, 4]
abbrev dktX1_wish_0 : List UInt8 := dkwX1_wish_0 ++ dktX1_wish_1
theorem dksX1_wish_0 : cX1_wish.data.toList.drop 0 = dktX1_wish_0 := by decide +kernel
theorem dksX1_wish_1 : cX1_wish.data.toList.drop 22 = dktX1_wish_1 := dk_seg dksX1_wish_0 22 rfl rfl
theorem dksX1_wish_2 : cX1_wish.data.toList.drop 44 = dktX1_wish_2 := dk_seg dksX1_wish_1 22 rfl rfl
theorem dksX1_wish_3 : cX1_wish.data.toList.drop 68 = dktX1_wish_3 := dk_seg dksX1_wish_2 24 rfl rfl
theorem dX1_wish_0 : decode cX1_wish 0 = .ok (.aload_n 0, 1) := dk_42 (dk_at dksX1_wish_0 0 rfl rfl)
theorem dX1_wish_1 : decode cX1_wish 1 = .ok (.iload_n 1, 1) := dk_27 (dk_at dksX1_wish_0 1 rfl rfl)
theorem dX1_wish_2 : decode cX1_wish 2 = .ok (.invokevirtual 140, 3) := dk_182 0 140 (dk_at dksX1_wish_0 2 rfl rfl)
theorem dX1_wish_5 : decode cX1_wish 5 = .ok (.istore 4, 2) := dk_54 4 (dk_at dksX1_wish_0 5 rfl rfl)
theorem dX1_wish_7 : decode cX1_wish 7 = .ok (.iload 4, 2) := dk_21 4 (dk_at dksX1_wish_0 7 rfl rfl)
theorem dX1_wish_9 : decode cX1_wish 9 = .ok (.bipush (-15), 2) := dk_16 241 (dk_at dksX1_wish_0 9 rfl rfl)
theorem dX1_wish_11 : decode cX1_wish 11 = .ok (.if_icmp .eq 7, 3) := dk_159 0 7 (dk_at dksX1_wish_0 11 rfl rfl)
theorem dX1_wish_14 : decode cX1_wish 14 = .ok (.iconst 1, 1) := dk_4 (dk_at dksX1_wish_0 14 rfl rfl)
theorem dX1_wish_15 : decode cX1_wish 15 = .ok (.goto 4, 3) := dk_167 0 4 (dk_at dksX1_wish_0 15 rfl rfl)
theorem dX1_wish_18 : decode cX1_wish 18 = .ok (.iconst 0, 1) := dk_3 (dk_at dksX1_wish_0 18 rfl rfl)
theorem dX1_wish_19 : decode cX1_wish 19 = .ok (.iconst 2, 1) := dk_5 (dk_at dksX1_wish_0 19 rfl rfl)
theorem dX1_wish_20 : decode cX1_wish 20 = .ok (.iload 4, 2) := dk_21 4 (dk_at dksX1_wish_0 20 rfl rfl)
theorem dX1_wish_22 : decode cX1_wish 22 = .ok (.invokestatic 160, 3) := dk_184 0 160 (dk_at dksX1_wish_1 0 rfl rfl)
theorem dX1_wish_25 : decode cX1_wish 25 = .ok (.aload_n 0, 1) := dk_42 (dk_at dksX1_wish_1 3 rfl rfl)
theorem dX1_wish_26 : decode cX1_wish 26 = .ok (.getfield 11, 3) := dk_180 0 11 (dk_at dksX1_wish_1 4 rfl rfl)
theorem dX1_wish_29 : decode cX1_wish 29 = .ok (.iload_n 1, 1) := dk_27 (dk_at dksX1_wish_1 7 rfl rfl)
theorem dX1_wish_30 : decode cX1_wish 30 = .ok (.aaload, 1) := dk_50 (dk_at dksX1_wish_1 8 rfl rfl)
theorem dX1_wish_31 : decode cX1_wish 31 = .ok (.iload_n 2, 1) := dk_28 (dk_at dksX1_wish_1 9 rfl rfl)
theorem dX1_wish_32 : decode cX1_wish 32 = .ok (.saload, 1) := dk_53 (dk_at dksX1_wish_1 10 rfl rfl)
theorem dX1_wish_33 : decode cX1_wish 33 = .ok (.istore 5, 2) := dk_54 5 (dk_at dksX1_wish_1 11 rfl rfl)
theorem dX1_wish_35 : decode cX1_wish 35 = .ok (.iload 5, 2) := dk_21 5 (dk_at dksX1_wish_1 13 rfl rfl)
theorem dX1_wish_37 : decode cX1_wish 37 = .ok (.iconst 2, 1) := dk_5 (dk_at dksX1_wish_1 15 rfl rfl)
theorem dX1_wish_38 : decode cX1_wish 38 = .ok (.if_icmp .eq 13, 3) := dk_159 0 13 (dk_at dksX1_wish_1 16 rfl rfl)
theorem dX1_wish_41 : decode cX1_wish 41 = .ok (.iload 5, 2) := dk_21 5 (dk_at dksX1_wish_1 19 rfl rfl)
theorem dX1_wish_43 : decode cX1_wish 43 = .ok (.iconst 1, 1) := dk_4 (dk_at dksX1_wish_1 21 rfl rfl)
theorem dX1_wish_44 : decode cX1_wish 44 = .ok (.if_icmp .ne 11, 3) := dk_160 0 11 (dk_at dksX1_wish_2 0 rfl rfl)
theorem dX1_wish_47 : decode cX1_wish 47 = .ok (.iload_n 3, 1) := dk_29 (dk_at dksX1_wish_2 3 rfl rfl)
theorem dX1_wish_48 : decode cX1_wish 48 = .ok (.ifCond .ne 7, 3) := dk_154 0 7 (dk_at dksX1_wish_2 4 rfl rfl)
theorem dX1_wish_51 : decode cX1_wish 51 = .ok (.iconst 1, 1) := dk_4 (dk_at dksX1_wish_2 7 rfl rfl)
theorem dX1_wish_52 : decode cX1_wish 52 = .ok (.goto 4, 3) := dk_167 0 4 (dk_at dksX1_wish_2 8 rfl rfl)
theorem dX1_wish_55 : decode cX1_wish 55 = .ok (.iconst 0, 1) := dk_3 (dk_at dksX1_wish_2 11 rfl rfl)
theorem dX1_wish_56 : decode cX1_wish 56 = .ok (.iconst 3, 1) := dk_6 (dk_at dksX1_wish_2 12 rfl rfl)
theorem dX1_wish_57 : decode cX1_wish 57 = .ok (.iload 5, 2) := dk_21 5 (dk_at dksX1_wish_2 13 rfl rfl)
theorem dX1_wish_59 : decode cX1_wish 59 = .ok (.invokestatic 160, 3) := dk_184 0 160 (dk_at dksX1_wish_2 15 rfl rfl)
theorem dX1_wish_62 : decode cX1_wish 62 = .ok (.new 67, 3) := dk_187 0 67 (dk_at dksX1_wish_2 18 rfl rfl)
theorem dX1_wish_65 : decode cX1_wish 65 = .ok (.dup, 1) := dk_89 (dk_at dksX1_wish_2 21 rfl rfl)
theorem dX1_wish_66 : decode cX1_wish 66 = .ok (.iload_n 1, 1) := dk_27 (dk_at dksX1_wish_2 22 rfl rfl)
theorem dX1_wish_67 : decode cX1_wish 67 = .ok (.iload_n 3, 1) := dk_29 (dk_at dksX1_wish_2 23 rfl rfl)
theorem dX1_wish_68 : decode cX1_wish 68 = .ok (.ifCond .eq 7, 3) := dk_153 0 7 (dk_at dksX1_wish_3 0 rfl rfl)
theorem dX1_wish_71 : decode cX1_wish 71 = .ok (.iconst 2, 1) := dk_5 (dk_at dksX1_wish_3 3 rfl rfl)
theorem dX1_wish_72 : decode cX1_wish 72 = .ok (.goto 4, 3) := dk_167 0 4 (dk_at dksX1_wish_3 4 rfl rfl)
theorem dX1_wish_75 : decode cX1_wish 75 = .ok (.iconst 1, 1) := dk_4 (dk_at dksX1_wish_3 7 rfl rfl)
theorem dX1_wish_76 : decode cX1_wish 76 = .ok (.iload 5, 2) := dk_21 5 (dk_at dksX1_wish_3 8 rfl rfl)
theorem dX1_wish_78 : decode cX1_wish 78 = .ok (.iconst 1, 1) := dk_4 (dk_at dksX1_wish_3 10 rfl rfl)
theorem dX1_wish_79 : decode cX1_wish 79 = .ok (.if_icmp .ne 7, 3) := dk_160 0 7 (dk_at dksX1_wish_3 11 rfl rfl)
theorem dX1_wish_82 : decode cX1_wish 82 = .ok (.iconst 1, 1) := dk_4 (dk_at dksX1_wish_3 14 rfl rfl)
theorem dX1_wish_83 : decode cX1_wish 83 = .ok (.goto 4, 3) := dk_167 0 4 (dk_at dksX1_wish_3 15 rfl rfl)
theorem dX1_wish_86 : decode cX1_wish 86 = .ok (.iconst 0, 1) := dk_3 (dk_at dksX1_wish_3 18 rfl rfl)
theorem dX1_wish_87 : decode cX1_wish 87 = .ok (.invokespecial 164, 3) := dk_183 0 164 (dk_at dksX1_wish_3 19 rfl rfl)
theorem dX1_wish_90 : decode cX1_wish 90 = .ok (.areturn, 1) := dk_176 (dk_at dksX1_wish_3 22 rfl rfl)
abbrev cX1_waitsFor : ByteArray := prog_5_method_10_code
def yX1_waitsFor : MethodName := ⟨RX1, "waitsFor", "(I)I"⟩
def dkwX1_waitsFor_3 : List UInt8 := [132, 3, 1, 167, 255, 192, 28, 172]
abbrev dktX1_waitsFor_3 : List UInt8 := dkwX1_waitsFor_3 ++ []
def dkwX1_waitsFor_2 : List UInt8 := [192, 0, 67, 58, 5, 25, 5, 180, 0, 111, 27, 160, 0, 8, 29, 61, 167, 0, 12, 167, 255, 220]
abbrev dktX1_waitsFor_2 : List UInt8 := dkwX1_waitsFor_2 ++ dktX1_waitsFor_3
def dkwX1_waitsFor_1 : List UInt8 := [182, 0, 53, 58, 4, 25, 4, 185, 0, 57, 1, 0, 153, 0, 32, 25, 4, 185, 0, 63, 1, 0]
abbrev dktX1_waitsFor_1 : List UInt8 := dkwX1_waitsFor_1 ++ dktX1_waitsFor_2
def dkwX1_waitsFor_0 : List UInt8 := [16, 241, 61, 3, 62, 29, 16, 8, 162, 0, 64, 42, 180, 0, 21, 29, 182, 0, 49, 192, 0, 41]
abbrev dktX1_waitsFor_0 : List UInt8 := dkwX1_waitsFor_0 ++ dktX1_waitsFor_1
theorem dksX1_waitsFor_0 : cX1_waitsFor.data.toList.drop 0 = dktX1_waitsFor_0 := by decide +kernel
theorem dksX1_waitsFor_1 : cX1_waitsFor.data.toList.drop 22 = dktX1_waitsFor_1 := dk_seg dksX1_waitsFor_0 22 rfl rfl
theorem dksX1_waitsFor_2 : cX1_waitsFor.data.toList.drop 44 = dktX1_waitsFor_2 := dk_seg dksX1_waitsFor_1 22 rfl rfl
theorem dksX1_waitsFor_3 : cX1_waitsFor.data.toList.drop 66 = dktX1_waitsFor_3 := dk_seg dksX1_waitsFor_2 22 rfl rfl
theorem dX1_waitsFor_0 : decode cX1_waitsFor 0 = .ok (.bipush (-15), 2) := dk_16 241 (dk_at dksX1_waitsFor_0 0 rfl rfl)
theorem dX1_waitsFor_2 : decode cX1_waitsFor 2 = .ok (.istore_n 2, 1) := dk_61 (dk_at dksX1_waitsFor_0 2 rfl rfl)
theorem dX1_waitsFor_3 : decode cX1_waitsFor 3 = .ok (.iconst 0, 1) := dk_3 (dk_at dksX1_waitsFor_0 3 rfl rfl)
theorem dX1_waitsFor_4 : decode cX1_waitsFor 4 = .ok (.istore_n 3, 1) := dk_62 (dk_at dksX1_waitsFor_0 4 rfl rfl)
theorem dX1_waitsFor_5 : decode cX1_waitsFor 5 = .ok (.iload_n 3, 1) := dk_29 (dk_at dksX1_waitsFor_0 5 rfl rfl)
theorem dX1_waitsFor_6 : decode cX1_waitsFor 6 = .ok (.bipush 8, 2) := dk_16 8 (dk_at dksX1_waitsFor_0 6 rfl rfl)
theorem dX1_waitsFor_8 : decode cX1_waitsFor 8 = .ok (.if_icmp .ge 64, 3) := dk_162 0 64 (dk_at dksX1_waitsFor_0 8 rfl rfl)
theorem dX1_waitsFor_11 : decode cX1_waitsFor 11 = .ok (.aload_n 0, 1) := dk_42 (dk_at dksX1_waitsFor_0 11 rfl rfl)
theorem dX1_waitsFor_12 : decode cX1_waitsFor 12 = .ok (.getfield 21, 3) := dk_180 0 21 (dk_at dksX1_waitsFor_0 12 rfl rfl)
theorem dX1_waitsFor_15 : decode cX1_waitsFor 15 = .ok (.iload_n 3, 1) := dk_29 (dk_at dksX1_waitsFor_0 15 rfl rfl)
theorem dX1_waitsFor_16 : decode cX1_waitsFor 16 = .ok (.invokevirtual 49, 3) := dk_182 0 49 (dk_at dksX1_waitsFor_0 16 rfl rfl)
theorem dX1_waitsFor_19 : decode cX1_waitsFor 19 = .ok (.checkcast 41, 3) := dk_192 0 41 (dk_at dksX1_waitsFor_0 19 rfl rfl)
theorem dX1_waitsFor_22 : decode cX1_waitsFor 22 = .ok (.invokevirtual 53, 3) := dk_182 0 53 (dk_at dksX1_waitsFor_1 0 rfl rfl)
theorem dX1_waitsFor_25 : decode cX1_waitsFor 25 = .ok (.astore 4, 2) := dk_58 4 (dk_at dksX1_waitsFor_1 3 rfl rfl)
theorem dX1_waitsFor_27 : decode cX1_waitsFor 27 = .ok (.aload 4, 2) := dk_25 4 (dk_at dksX1_waitsFor_1 5 rfl rfl)
theorem dX1_waitsFor_29 : decode cX1_waitsFor 29 = .ok (.invokeinterface 57 1, 5) := by decide +kernel
theorem dX1_waitsFor_34 : decode cX1_waitsFor 34 = .ok (.ifCond .eq 32, 3) := dk_153 0 32 (dk_at dksX1_waitsFor_1 12 rfl rfl)
theorem dX1_waitsFor_37 : decode cX1_waitsFor 37 = .ok (.aload 4, 2) := dk_25 4 (dk_at dksX1_waitsFor_1 15 rfl rfl)
theorem dX1_waitsFor_39 : decode cX1_waitsFor 39 = .ok (.invokeinterface 63 1, 5) := by decide +kernel
theorem dX1_waitsFor_44 : decode cX1_waitsFor 44 = .ok (.checkcast 67, 3) := dk_192 0 67 (dk_at dksX1_waitsFor_2 0 rfl rfl)
theorem dX1_waitsFor_47 : decode cX1_waitsFor 47 = .ok (.astore 5, 2) := dk_58 5 (dk_at dksX1_waitsFor_2 3 rfl rfl)
theorem dX1_waitsFor_49 : decode cX1_waitsFor 49 = .ok (.aload 5, 2) := dk_25 5 (dk_at dksX1_waitsFor_2 5 rfl rfl)
theorem dX1_waitsFor_51 : decode cX1_waitsFor 51 = .ok (.getfield 111, 3) := dk_180 0 111 (dk_at dksX1_waitsFor_2 7 rfl rfl)
theorem dX1_waitsFor_54 : decode cX1_waitsFor 54 = .ok (.iload_n 1, 1) := dk_27 (dk_at dksX1_waitsFor_2 10 rfl rfl)
theorem dX1_waitsFor_55 : decode cX1_waitsFor 55 = .ok (.if_icmp .ne 8, 3) := dk_160 0 8 (dk_at dksX1_waitsFor_2 11 rfl rfl)
theorem dX1_waitsFor_58 : decode cX1_waitsFor 58 = .ok (.iload_n 3, 1) := dk_29 (dk_at dksX1_waitsFor_2 14 rfl rfl)
theorem dX1_waitsFor_59 : decode cX1_waitsFor 59 = .ok (.istore_n 2, 1) := dk_61 (dk_at dksX1_waitsFor_2 15 rfl rfl)
theorem dX1_waitsFor_60 : decode cX1_waitsFor 60 = .ok (.goto 12, 3) := dk_167 0 12 (dk_at dksX1_waitsFor_2 16 rfl rfl)
theorem dX1_waitsFor_63 : decode cX1_waitsFor 63 = .ok (.goto (-36), 3) := dk_167 255 220 (dk_at dksX1_waitsFor_2 19 rfl rfl)
theorem dX1_waitsFor_66 : decode cX1_waitsFor 66 = .ok (.iinc 3 1, 3) := dk_132 3 1 (dk_at dksX1_waitsFor_3 0 rfl rfl)
theorem dX1_waitsFor_69 : decode cX1_waitsFor 69 = .ok (.goto (-64), 3) := dk_167 255 192 (dk_at dksX1_waitsFor_3 3 rfl rfl)
theorem dX1_waitsFor_72 : decode cX1_waitsFor 72 = .ok (.iload_n 2, 1) := dk_28 (dk_at dksX1_waitsFor_3 6 rfl rfl)
theorem dX1_waitsFor_73 : decode cX1_waitsFor 73 = .ok (.ireturn, 1) := dk_172 (dk_at dksX1_waitsFor_3 7 rfl rfl)
abbrev cX1_canHave : ByteArray := prog_5_method_7_code
def yX1_canHave : MethodName := ⟨RX1, "canHave", "(ILLarderLocks$Wish;[LLarderLocks$Fit;)Z"⟩
def dkwX1_canHave_0 : List UInt8 := [45, 44, 180, 0, 108, 50, 42, 27, 44, 180, 0, 111, 182, 0, 114, 185, 0, 117, 2, 0, 172]
abbrev dktX1_canHave_0 : List UInt8 := dkwX1_canHave_0 ++ []
theorem dksX1_canHave_0 : cX1_canHave.data.toList.drop 0 = dktX1_canHave_0 := by decide +kernel
theorem dX1_canHave_0 : decode cX1_canHave 0 = .ok (.aload_n 3, 1) := dk_45 (dk_at dksX1_canHave_0 0 rfl rfl)
theorem dX1_canHave_1 : decode cX1_canHave 1 = .ok (.aload_n 2, 1) := dk_44 (dk_at dksX1_canHave_0 1 rfl rfl)
theorem dX1_canHave_2 : decode cX1_canHave 2 = .ok (.getfield 108, 3) := dk_180 0 108 (dk_at dksX1_canHave_0 2 rfl rfl)
theorem dX1_canHave_5 : decode cX1_canHave 5 = .ok (.aaload, 1) := dk_50 (dk_at dksX1_canHave_0 5 rfl rfl)
theorem dX1_canHave_6 : decode cX1_canHave 6 = .ok (.aload_n 0, 1) := dk_42 (dk_at dksX1_canHave_0 6 rfl rfl)
theorem dX1_canHave_7 : decode cX1_canHave 7 = .ok (.iload_n 1, 1) := dk_27 (dk_at dksX1_canHave_0 7 rfl rfl)
theorem dX1_canHave_8 : decode cX1_canHave 8 = .ok (.aload_n 2, 1) := dk_44 (dk_at dksX1_canHave_0 8 rfl rfl)
theorem dX1_canHave_9 : decode cX1_canHave 9 = .ok (.getfield 111, 3) := dk_180 0 111 (dk_at dksX1_canHave_0 9 rfl rfl)
theorem dX1_canHave_12 : decode cX1_canHave 12 = .ok (.invokevirtual 114, 3) := dk_182 0 114 (dk_at dksX1_canHave_0 12 rfl rfl)
theorem dX1_canHave_15 : decode cX1_canHave 15 = .ok (.invokeinterface 117 2, 5) := by decide +kernel
theorem dX1_canHave_20 : decode cX1_canHave 20 = .ok (.ireturn, 1) := dk_172 (dk_at dksX1_canHave_0 20 rfl rfl)
abbrev cX1_others : ByteArray := prog_5_method_6_code
def yX1_others : MethodName := ⟨RX1, "others", "(II)I"⟩
def dkwX1_others_1 : List UInt8 := [29, 42, 180, 0, 11, 21, 4, 50, 27, 53, 184, 0, 102, 62, 132, 4, 1, 167, 255, 220, 29, 172]
abbrev dktX1_others_1 : List UInt8 := dkwX1_others_1 ++ []
def dkwX1_others_0 : List UInt8 := [3, 62, 3, 54, 4, 21, 4, 42, 180, 0, 77, 162, 0, 33, 21, 4, 28, 160, 0, 7, 29, 167, 0, 16]
abbrev dktX1_others_0 : List UInt8 := dkwX1_others_0 ++ dktX1_others_1
theorem dksX1_others_0 : cX1_others.data.toList.drop 0 = dktX1_others_0 := by decide +kernel
theorem dksX1_others_1 : cX1_others.data.toList.drop 24 = dktX1_others_1 := dk_seg dksX1_others_0 24 rfl rfl
theorem dX1_others_0 : decode cX1_others 0 = .ok (.iconst 0, 1) := dk_3 (dk_at dksX1_others_0 0 rfl rfl)
theorem dX1_others_1 : decode cX1_others 1 = .ok (.istore_n 3, 1) := dk_62 (dk_at dksX1_others_0 1 rfl rfl)
theorem dX1_others_2 : decode cX1_others 2 = .ok (.iconst 0, 1) := dk_3 (dk_at dksX1_others_0 2 rfl rfl)
theorem dX1_others_3 : decode cX1_others 3 = .ok (.istore 4, 2) := dk_54 4 (dk_at dksX1_others_0 3 rfl rfl)
theorem dX1_others_5 : decode cX1_others 5 = .ok (.iload 4, 2) := dk_21 4 (dk_at dksX1_others_0 5 rfl rfl)
theorem dX1_others_7 : decode cX1_others 7 = .ok (.aload_n 0, 1) := dk_42 (dk_at dksX1_others_0 7 rfl rfl)
theorem dX1_others_8 : decode cX1_others 8 = .ok (.getfield 77, 3) := dk_180 0 77 (dk_at dksX1_others_0 8 rfl rfl)
theorem dX1_others_11 : decode cX1_others 11 = .ok (.if_icmp .ge 33, 3) := dk_162 0 33 (dk_at dksX1_others_0 11 rfl rfl)
theorem dX1_others_14 : decode cX1_others 14 = .ok (.iload 4, 2) := dk_21 4 (dk_at dksX1_others_0 14 rfl rfl)
theorem dX1_others_16 : decode cX1_others 16 = .ok (.iload_n 2, 1) := dk_28 (dk_at dksX1_others_0 16 rfl rfl)
theorem dX1_others_17 : decode cX1_others 17 = .ok (.if_icmp .ne 7, 3) := dk_160 0 7 (dk_at dksX1_others_0 17 rfl rfl)
theorem dX1_others_20 : decode cX1_others 20 = .ok (.iload_n 3, 1) := dk_29 (dk_at dksX1_others_0 20 rfl rfl)
theorem dX1_others_21 : decode cX1_others 21 = .ok (.goto 16, 3) := dk_167 0 16 (dk_at dksX1_others_0 21 rfl rfl)
theorem dX1_others_24 : decode cX1_others 24 = .ok (.iload_n 3, 1) := dk_29 (dk_at dksX1_others_1 0 rfl rfl)
theorem dX1_others_25 : decode cX1_others 25 = .ok (.aload_n 0, 1) := dk_42 (dk_at dksX1_others_1 1 rfl rfl)
theorem dX1_others_26 : decode cX1_others 26 = .ok (.getfield 11, 3) := dk_180 0 11 (dk_at dksX1_others_1 2 rfl rfl)
theorem dX1_others_29 : decode cX1_others 29 = .ok (.iload 4, 2) := dk_21 4 (dk_at dksX1_others_1 5 rfl rfl)
theorem dX1_others_31 : decode cX1_others 31 = .ok (.aaload, 1) := dk_50 (dk_at dksX1_others_1 7 rfl rfl)
theorem dX1_others_32 : decode cX1_others 32 = .ok (.iload_n 1, 1) := dk_27 (dk_at dksX1_others_1 8 rfl rfl)
theorem dX1_others_33 : decode cX1_others 33 = .ok (.saload, 1) := dk_53 (dk_at dksX1_others_1 9 rfl rfl)
theorem dX1_others_34 : decode cX1_others 34 = .ok (.invokestatic 102, 3) := dk_184 0 102 (dk_at dksX1_others_1 10 rfl rfl)
theorem dX1_others_37 : decode cX1_others 37 = .ok (.istore_n 3, 1) := dk_62 (dk_at dksX1_others_1 13 rfl rfl)
theorem dX1_others_38 : decode cX1_others 38 = .ok (.iinc 4 1, 3) := dk_132 4 1 (dk_at dksX1_others_1 14 rfl rfl)
theorem dX1_others_41 : decode cX1_others 41 = .ok (.goto (-36), 3) := dk_167 255 220 (dk_at dksX1_others_1 17 rfl rfl)
theorem dX1_others_44 : decode cX1_others 44 = .ok (.iload_n 3, 1) := dk_29 (dk_at dksX1_others_1 20 rfl rfl)
theorem dX1_others_45 : decode cX1_others 45 = .ok (.ireturn, 1) := dk_172 (dk_at dksX1_others_1 21 rfl rfl)
abbrev cX1_gives : ByteArray := prog_5_method_8_code
def yX1_gives : MethodName := ⟨RX1, "gives", "(ILLarderLocks$Wish;)V"⟩
def dkwX1_gives_1 : List UInt8 := [92, 46, 4, 96, 79, 42, 180, 0, 35, 27, 92, 46, 4, 96, 79, 177]
abbrev dktX1_gives_1 : List UInt8 := dkwX1_gives_1 ++ []
def dkwX1_gives_0 : List UInt8 := [42, 180, 0, 11, 44, 180, 0, 111, 50, 27, 44, 180, 0, 108, 147, 86, 42, 180, 0, 32, 44, 180, 0, 111]
abbrev dktX1_gives_0 : List UInt8 := dkwX1_gives_0 ++ dktX1_gives_1
theorem dksX1_gives_0 : cX1_gives.data.toList.drop 0 = dktX1_gives_0 := by decide +kernel
theorem dksX1_gives_1 : cX1_gives.data.toList.drop 24 = dktX1_gives_1 := dk_seg dksX1_gives_0 24 rfl rfl
theorem dX1_gives_0 : decode cX1_gives 0 = .ok (.aload_n 0, 1) := dk_42 (dk_at dksX1_gives_0 0 rfl rfl)
theorem dX1_gives_1 : decode cX1_gives 1 = .ok (.getfield 11, 3) := dk_180 0 11 (dk_at dksX1_gives_0 1 rfl rfl)
theorem dX1_gives_4 : decode cX1_gives 4 = .ok (.aload_n 2, 1) := dk_44 (dk_at dksX1_gives_0 4 rfl rfl)
theorem dX1_gives_5 : decode cX1_gives 5 = .ok (.getfield 111, 3) := dk_180 0 111 (dk_at dksX1_gives_0 5 rfl rfl)
theorem dX1_gives_8 : decode cX1_gives 8 = .ok (.aaload, 1) := dk_50 (dk_at dksX1_gives_0 8 rfl rfl)
theorem dX1_gives_9 : decode cX1_gives 9 = .ok (.iload_n 1, 1) := dk_27 (dk_at dksX1_gives_0 9 rfl rfl)
theorem dX1_gives_10 : decode cX1_gives 10 = .ok (.aload_n 2, 1) := dk_44 (dk_at dksX1_gives_0 10 rfl rfl)
theorem dX1_gives_11 : decode cX1_gives 11 = .ok (.getfield 108, 3) := dk_180 0 108 (dk_at dksX1_gives_0 11 rfl rfl)
theorem dX1_gives_14 : decode cX1_gives 14 = .ok (.i2s, 1) := dk_147 (dk_at dksX1_gives_0 14 rfl rfl)
theorem dX1_gives_15 : decode cX1_gives 15 = .ok (.sastore, 1) := dk_86 (dk_at dksX1_gives_0 15 rfl rfl)
theorem dX1_gives_16 : decode cX1_gives 16 = .ok (.aload_n 0, 1) := dk_42 (dk_at dksX1_gives_0 16 rfl rfl)
theorem dX1_gives_17 : decode cX1_gives 17 = .ok (.getfield 32, 3) := dk_180 0 32 (dk_at dksX1_gives_0 17 rfl rfl)
theorem dX1_gives_20 : decode cX1_gives 20 = .ok (.aload_n 2, 1) := dk_44 (dk_at dksX1_gives_0 20 rfl rfl)
theorem dX1_gives_21 : decode cX1_gives 21 = .ok (.getfield 111, 3) := dk_180 0 111 (dk_at dksX1_gives_0 21 rfl rfl)
theorem dX1_gives_24 : decode cX1_gives 24 = .ok (.dup2, 1) := dk_92 (dk_at dksX1_gives_1 0 rfl rfl)
theorem dX1_gives_25 : decode cX1_gives 25 = .ok (.iaload, 1) := dk_46 (dk_at dksX1_gives_1 1 rfl rfl)
theorem dX1_gives_26 : decode cX1_gives 26 = .ok (.iconst 1, 1) := dk_4 (dk_at dksX1_gives_1 2 rfl rfl)
theorem dX1_gives_27 : decode cX1_gives 27 = .ok (.iadd, 1) := dk_96 (dk_at dksX1_gives_1 3 rfl rfl)
theorem dX1_gives_28 : decode cX1_gives 28 = .ok (.iastore, 1) := dk_79 (dk_at dksX1_gives_1 4 rfl rfl)
theorem dX1_gives_29 : decode cX1_gives 29 = .ok (.aload_n 0, 1) := dk_42 (dk_at dksX1_gives_1 5 rfl rfl)
theorem dX1_gives_30 : decode cX1_gives 30 = .ok (.getfield 35, 3) := dk_180 0 35 (dk_at dksX1_gives_1 6 rfl rfl)
theorem dX1_gives_33 : decode cX1_gives 33 = .ok (.iload_n 1, 1) := dk_27 (dk_at dksX1_gives_1 9 rfl rfl)
theorem dX1_gives_34 : decode cX1_gives 34 = .ok (.dup2, 1) := dk_92 (dk_at dksX1_gives_1 10 rfl rfl)
theorem dX1_gives_35 : decode cX1_gives 35 = .ok (.iaload, 1) := dk_46 (dk_at dksX1_gives_1 11 rfl rfl)
theorem dX1_gives_36 : decode cX1_gives 36 = .ok (.iconst 1, 1) := dk_4 (dk_at dksX1_gives_1 12 rfl rfl)
theorem dX1_gives_37 : decode cX1_gives 37 = .ok (.iadd, 1) := dk_96 (dk_at dksX1_gives_1 13 rfl rfl)
theorem dX1_gives_38 : decode cX1_gives 38 = .ok (.iastore, 1) := dk_79 (dk_at dksX1_gives_1 14 rfl rfl)
theorem dX1_gives_39 : decode cX1_gives 39 = .ok (.return_, 1) := dk_177 (dk_at dksX1_gives_1 15 rfl rfl)
abbrev cX1_waits : ByteArray := prog_5_method_13_code
def yX1_waits : MethodName := ⟨RX1, "waits", "(ILLarderLocks$Wish;)V"⟩
def dkwX1_waits_4 : List UInt8 := [4, 96, 79, 177]
abbrev dktX1_waits_4 : List UInt8 := dkwX1_waits_4 ++ []
def dkwX1_waits_3 : List UInt8 := [3, 96, 54, 4, 167, 255, 216, 45, 21, 4, 44, 182, 0, 154, 42, 180, 0, 29, 44, 180, 0, 111, 92, 46]
abbrev dktX1_waits_3 : List UInt8 := dkwX1_waits_3 ++ dktX1_waits_4
def dkwX1_waits_2 : List UInt8 := [185, 0, 63, 1, 0, 192, 0, 67, 58, 6, 21, 4, 25, 6, 180, 0, 150, 153, 0, 7, 4, 167, 0, 4]
abbrev dktX1_waits_2 : List UInt8 := dkwX1_waits_2 ++ dktX1_waits_3
def dkwX1_waits_1 : List UInt8 := [153, 0, 55, 3, 54, 4, 45, 182, 0, 53, 58, 5, 25, 5, 185, 0, 57, 1, 0, 153, 0, 36, 25, 5]
abbrev dktX1_waits_1 : List UInt8 := dkwX1_waits_1 ++ dktX1_waits_2
def dkwX1_waits_0 : List UInt8 := [42, 180, 0, 21, 27, 182, 0, 49, 192, 0, 41, 78, 45, 182, 0, 146, 54, 4, 44, 180, 0, 150]
abbrev dktX1_waits_0 : List UInt8 := dkwX1_waits_0 ++ dktX1_waits_1
theorem dksX1_waits_0 : cX1_waits.data.toList.drop 0 = dktX1_waits_0 := by decide +kernel
theorem dksX1_waits_1 : cX1_waits.data.toList.drop 22 = dktX1_waits_1 := dk_seg dksX1_waits_0 22 rfl rfl
theorem dksX1_waits_2 : cX1_waits.data.toList.drop 46 = dktX1_waits_2 := dk_seg dksX1_waits_1 24 rfl rfl
theorem dksX1_waits_3 : cX1_waits.data.toList.drop 70 = dktX1_waits_3 := dk_seg dksX1_waits_2 24 rfl rfl
theorem dksX1_waits_4 : cX1_waits.data.toList.drop 94 = dktX1_waits_4 := dk_seg dksX1_waits_3 24 rfl rfl
theorem dX1_waits_0 : decode cX1_waits 0 = .ok (.aload_n 0, 1) := dk_42 (dk_at dksX1_waits_0 0 rfl rfl)
theorem dX1_waits_1 : decode cX1_waits 1 = .ok (.getfield 21, 3) := dk_180 0 21 (dk_at dksX1_waits_0 1 rfl rfl)
theorem dX1_waits_4 : decode cX1_waits 4 = .ok (.iload_n 1, 1) := dk_27 (dk_at dksX1_waits_0 4 rfl rfl)
theorem dX1_waits_5 : decode cX1_waits 5 = .ok (.invokevirtual 49, 3) := dk_182 0 49 (dk_at dksX1_waits_0 5 rfl rfl)
theorem dX1_waits_8 : decode cX1_waits 8 = .ok (.checkcast 41, 3) := dk_192 0 41 (dk_at dksX1_waits_0 8 rfl rfl)
theorem dX1_waits_11 : decode cX1_waits 11 = .ok (.astore_n 3, 1) := dk_78 (dk_at dksX1_waits_0 11 rfl rfl)
theorem dX1_waits_12 : decode cX1_waits 12 = .ok (.aload_n 3, 1) := dk_45 (dk_at dksX1_waits_0 12 rfl rfl)
theorem dX1_waits_13 : decode cX1_waits 13 = .ok (.invokevirtual 146, 3) := dk_182 0 146 (dk_at dksX1_waits_0 13 rfl rfl)
theorem dX1_waits_16 : decode cX1_waits 16 = .ok (.istore 4, 2) := dk_54 4 (dk_at dksX1_waits_0 16 rfl rfl)
theorem dX1_waits_18 : decode cX1_waits 18 = .ok (.aload_n 2, 1) := dk_44 (dk_at dksX1_waits_0 18 rfl rfl)
theorem dX1_waits_19 : decode cX1_waits 19 = .ok (.getfield 150, 3) := dk_180 0 150 (dk_at dksX1_waits_0 19 rfl rfl)
theorem dX1_waits_22 : decode cX1_waits 22 = .ok (.ifCond .eq 55, 3) := dk_153 0 55 (dk_at dksX1_waits_1 0 rfl rfl)
theorem dX1_waits_25 : decode cX1_waits 25 = .ok (.iconst 0, 1) := dk_3 (dk_at dksX1_waits_1 3 rfl rfl)
theorem dX1_waits_26 : decode cX1_waits 26 = .ok (.istore 4, 2) := dk_54 4 (dk_at dksX1_waits_1 4 rfl rfl)
theorem dX1_waits_28 : decode cX1_waits 28 = .ok (.aload_n 3, 1) := dk_45 (dk_at dksX1_waits_1 6 rfl rfl)
theorem dX1_waits_29 : decode cX1_waits 29 = .ok (.invokevirtual 53, 3) := dk_182 0 53 (dk_at dksX1_waits_1 7 rfl rfl)
theorem dX1_waits_32 : decode cX1_waits 32 = .ok (.astore 5, 2) := dk_58 5 (dk_at dksX1_waits_1 10 rfl rfl)
theorem dX1_waits_34 : decode cX1_waits 34 = .ok (.aload 5, 2) := dk_25 5 (dk_at dksX1_waits_1 12 rfl rfl)
theorem dX1_waits_36 : decode cX1_waits 36 = .ok (.invokeinterface 57 1, 5) := by decide +kernel
theorem dX1_waits_41 : decode cX1_waits 41 = .ok (.ifCond .eq 36, 3) := dk_153 0 36 (dk_at dksX1_waits_1 19 rfl rfl)
theorem dX1_waits_44 : decode cX1_waits 44 = .ok (.aload 5, 2) := dk_25 5 (dk_at dksX1_waits_1 22 rfl rfl)
theorem dX1_waits_46 : decode cX1_waits 46 = .ok (.invokeinterface 63 1, 5) := by decide +kernel
theorem dX1_waits_51 : decode cX1_waits 51 = .ok (.checkcast 67, 3) := dk_192 0 67 (dk_at dksX1_waits_2 5 rfl rfl)
theorem dX1_waits_54 : decode cX1_waits 54 = .ok (.astore 6, 2) := dk_58 6 (dk_at dksX1_waits_2 8 rfl rfl)
theorem dX1_waits_56 : decode cX1_waits 56 = .ok (.iload 4, 2) := dk_21 4 (dk_at dksX1_waits_2 10 rfl rfl)
theorem dX1_waits_58 : decode cX1_waits 58 = .ok (.aload 6, 2) := dk_25 6 (dk_at dksX1_waits_2 12 rfl rfl)
theorem dX1_waits_60 : decode cX1_waits 60 = .ok (.getfield 150, 3) := dk_180 0 150 (dk_at dksX1_waits_2 14 rfl rfl)
theorem dX1_waits_63 : decode cX1_waits 63 = .ok (.ifCond .eq 7, 3) := dk_153 0 7 (dk_at dksX1_waits_2 17 rfl rfl)
theorem dX1_waits_66 : decode cX1_waits 66 = .ok (.iconst 1, 1) := dk_4 (dk_at dksX1_waits_2 20 rfl rfl)
theorem dX1_waits_67 : decode cX1_waits 67 = .ok (.goto 4, 3) := dk_167 0 4 (dk_at dksX1_waits_2 21 rfl rfl)
theorem dX1_waits_70 : decode cX1_waits 70 = .ok (.iconst 0, 1) := dk_3 (dk_at dksX1_waits_3 0 rfl rfl)
theorem dX1_waits_71 : decode cX1_waits 71 = .ok (.iadd, 1) := dk_96 (dk_at dksX1_waits_3 1 rfl rfl)
theorem dX1_waits_72 : decode cX1_waits 72 = .ok (.istore 4, 2) := dk_54 4 (dk_at dksX1_waits_3 2 rfl rfl)
theorem dX1_waits_74 : decode cX1_waits 74 = .ok (.goto (-40), 3) := dk_167 255 216 (dk_at dksX1_waits_3 4 rfl rfl)
theorem dX1_waits_77 : decode cX1_waits 77 = .ok (.aload_n 3, 1) := dk_45 (dk_at dksX1_waits_3 7 rfl rfl)
theorem dX1_waits_78 : decode cX1_waits 78 = .ok (.iload 4, 2) := dk_21 4 (dk_at dksX1_waits_3 8 rfl rfl)
theorem dX1_waits_80 : decode cX1_waits 80 = .ok (.aload_n 2, 1) := dk_44 (dk_at dksX1_waits_3 10 rfl rfl)
theorem dX1_waits_81 : decode cX1_waits 81 = .ok (.invokevirtual 154, 3) := dk_182 0 154 (dk_at dksX1_waits_3 11 rfl rfl)
theorem dX1_waits_84 : decode cX1_waits 84 = .ok (.aload_n 0, 1) := dk_42 (dk_at dksX1_waits_3 14 rfl rfl)
theorem dX1_waits_85 : decode cX1_waits 85 = .ok (.getfield 29, 3) := dk_180 0 29 (dk_at dksX1_waits_3 15 rfl rfl)
theorem dX1_waits_88 : decode cX1_waits 88 = .ok (.aload_n 2, 1) := dk_44 (dk_at dksX1_waits_3 18 rfl rfl)
theorem dX1_waits_89 : decode cX1_waits 89 = .ok (.getfield 111, 3) := dk_180 0 111 (dk_at dksX1_waits_3 19 rfl rfl)
theorem dX1_waits_92 : decode cX1_waits 92 = .ok (.dup2, 1) := dk_92 (dk_at dksX1_waits_3 22 rfl rfl)
theorem dX1_waits_93 : decode cX1_waits 93 = .ok (.iaload, 1) := dk_46 (dk_at dksX1_waits_3 23 rfl rfl)
theorem dX1_waits_94 : decode cX1_waits 94 = .ok (.iconst 1, 1) := dk_4 (dk_at dksX1_waits_4 0 rfl rfl)
theorem dX1_waits_95 : decode cX1_waits 95 = .ok (.iadd, 1) := dk_96 (dk_at dksX1_waits_4 1 rfl rfl)
theorem dX1_waits_96 : decode cX1_waits 96 = .ok (.iastore, 1) := dk_79 (dk_at dksX1_waits_4 2 rfl rfl)
theorem dX1_waits_97 : decode cX1_waits 97 = .ok (.return_, 1) := dk_177 (dk_at dksX1_waits_4 3 rfl rfl)
abbrev cX1_youngestInRing : ByteArray := prog_5_method_22_code
def yX1_youngestInRing : MethodName := ⟨RX1, "youngestInRing", "()I"⟩
def dkwX1_youngestInRing_2 : List UInt8 := [29, 167, 0, 4, 27, 60, 167, 255, 216, 27, 172]
abbrev dktX1_youngestInRing_2 : List UInt8 := dkwX1_youngestInRing_2 ++ []
def dkwX1_youngestInRing_1 : List UInt8 := [185, 0, 63, 1, 0, 192, 0, 92, 182, 0, 201, 62, 42, 29, 182, 0, 204, 29, 184, 0, 87, 153, 0, 7]
abbrev dktX1_youngestInRing_1 : List UInt8 := dkwX1_youngestInRing_1 ++ dktX1_youngestInRing_2
def dkwX1_youngestInRing_0 : List UInt8 := [16, 245, 60, 42, 182, 0, 194, 185, 0, 198, 1, 0, 77, 44, 185, 0, 57, 1, 0, 153, 0, 37, 44]
abbrev dktX1_youngestInRing_0 : List UInt8 := dkwX1_youngestInRing_0 ++ dktX1_youngestInRing_1
theorem dksX1_youngestInRing_0 : cX1_youngestInRing.data.toList.drop 0 = dktX1_youngestInRing_0 := by decide +kernel
theorem dksX1_youngestInRing_1 : cX1_youngestInRing.data.toList.drop 23 = dktX1_youngestInRing_1 := dk_seg dksX1_youngestInRing_0 23 rfl rfl
theorem dksX1_youngestInRing_2 : cX1_youngestInRing.data.toList.drop 47 = dktX1_youngestInRing_2 := dk_seg dksX1_youngestInRing_1 24 rfl rfl
theorem dX1_youngestInRing_0 : decode cX1_youngestInRing 0 = .ok (.bipush (-11), 2) := dk_16 245 (dk_at dksX1_youngestInRing_0 0 rfl rfl)
theorem dX1_youngestInRing_2 : decode cX1_youngestInRing 2 = .ok (.istore_n 1, 1) := dk_60 (dk_at dksX1_youngestInRing_0 2 rfl rfl)
theorem dX1_youngestInRing_3 : decode cX1_youngestInRing 3 = .ok (.aload_n 0, 1) := dk_42 (dk_at dksX1_youngestInRing_0 3 rfl rfl)
theorem dX1_youngestInRing_4 : decode cX1_youngestInRing 4 = .ok (.invokevirtual 194, 3) := dk_182 0 194 (dk_at dksX1_youngestInRing_0 4 rfl rfl)
theorem dX1_youngestInRing_7 : decode cX1_youngestInRing 7 = .ok (.invokeinterface 198 1, 5) := by decide +kernel
theorem dX1_youngestInRing_12 : decode cX1_youngestInRing 12 = .ok (.astore_n 2, 1) := dk_77 (dk_at dksX1_youngestInRing_0 12 rfl rfl)
theorem dX1_youngestInRing_13 : decode cX1_youngestInRing 13 = .ok (.aload_n 2, 1) := dk_44 (dk_at dksX1_youngestInRing_0 13 rfl rfl)
theorem dX1_youngestInRing_14 : decode cX1_youngestInRing 14 = .ok (.invokeinterface 57 1, 5) := by decide +kernel
theorem dX1_youngestInRing_19 : decode cX1_youngestInRing 19 = .ok (.ifCond .eq 37, 3) := dk_153 0 37 (dk_at dksX1_youngestInRing_0 19 rfl rfl)
theorem dX1_youngestInRing_22 : decode cX1_youngestInRing 22 = .ok (.aload_n 2, 1) := dk_44 (dk_at dksX1_youngestInRing_0 22 rfl rfl)
theorem dX1_youngestInRing_23 : decode cX1_youngestInRing 23 = .ok (.invokeinterface 63 1, 5) := by decide +kernel
theorem dX1_youngestInRing_28 : decode cX1_youngestInRing 28 = .ok (.checkcast 92, 3) := dk_192 0 92 (dk_at dksX1_youngestInRing_1 5 rfl rfl)
theorem dX1_youngestInRing_31 : decode cX1_youngestInRing 31 = .ok (.invokevirtual 201, 3) := dk_182 0 201 (dk_at dksX1_youngestInRing_1 8 rfl rfl)
theorem dX1_youngestInRing_34 : decode cX1_youngestInRing 34 = .ok (.istore_n 3, 1) := dk_62 (dk_at dksX1_youngestInRing_1 11 rfl rfl)
theorem dX1_youngestInRing_35 : decode cX1_youngestInRing 35 = .ok (.aload_n 0, 1) := dk_42 (dk_at dksX1_youngestInRing_1 12 rfl rfl)
theorem dX1_youngestInRing_36 : decode cX1_youngestInRing 36 = .ok (.iload_n 3, 1) := dk_29 (dk_at dksX1_youngestInRing_1 13 rfl rfl)
theorem dX1_youngestInRing_37 : decode cX1_youngestInRing 37 = .ok (.invokevirtual 204, 3) := dk_182 0 204 (dk_at dksX1_youngestInRing_1 14 rfl rfl)
theorem dX1_youngestInRing_40 : decode cX1_youngestInRing 40 = .ok (.iload_n 3, 1) := dk_29 (dk_at dksX1_youngestInRing_1 17 rfl rfl)
theorem dX1_youngestInRing_41 : decode cX1_youngestInRing 41 = .ok (.invokestatic 87, 3) := dk_184 0 87 (dk_at dksX1_youngestInRing_1 18 rfl rfl)
theorem dX1_youngestInRing_44 : decode cX1_youngestInRing 44 = .ok (.ifCond .eq 7, 3) := dk_153 0 7 (dk_at dksX1_youngestInRing_1 21 rfl rfl)
theorem dX1_youngestInRing_47 : decode cX1_youngestInRing 47 = .ok (.iload_n 3, 1) := dk_29 (dk_at dksX1_youngestInRing_2 0 rfl rfl)
theorem dX1_youngestInRing_48 : decode cX1_youngestInRing 48 = .ok (.goto 4, 3) := dk_167 0 4 (dk_at dksX1_youngestInRing_2 1 rfl rfl)
theorem dX1_youngestInRing_51 : decode cX1_youngestInRing 51 = .ok (.iload_n 1, 1) := dk_27 (dk_at dksX1_youngestInRing_2 4 rfl rfl)
theorem dX1_youngestInRing_52 : decode cX1_youngestInRing 52 = .ok (.istore_n 1, 1) := dk_60 (dk_at dksX1_youngestInRing_2 5 rfl rfl)
theorem dX1_youngestInRing_53 : decode cX1_youngestInRing 53 = .ok (.goto (-40), 3) := dk_167 255 216 (dk_at dksX1_youngestInRing_2 6 rfl rfl)
theorem dX1_youngestInRing_56 : decode cX1_youngestInRing 56 = .ok (.iload_n 1, 1) := dk_27 (dk_at dksX1_youngestInRing_2 9 rfl rfl)
theorem dX1_youngestInRing_57 : decode cX1_youngestInRing 57 = .ok (.ireturn, 1) := dk_172 (dk_at dksX1_youngestInRing_2 10 rfl rfl)
abbrev cX1_maids : ByteArray := prog_5_method_5_code
def yX1_maids : MethodName := ⟨RX1, "maids", "()Ljava/lang/Iterable;"⟩
def dkwX1_maids_0 : List UInt8 := [42, 180, 0, 73, 60, 187, 0, 97, 89, 42, 27, 183, 0, 99, 176]
abbrev dktX1_maids_0 : List UInt8 := dkwX1_maids_0 ++ []
theorem dksX1_maids_0 : cX1_maids.data.toList.drop 0 = dktX1_maids_0 := by decide +kernel
theorem dX1_maids_0 : decode cX1_maids 0 = .ok (.aload_n 0, 1) := dk_42 (dk_at dksX1_maids_0 0 rfl rfl)
theorem dX1_maids_1 : decode cX1_maids 1 = .ok (.getfield 73, 3) := dk_180 0 73 (dk_at dksX1_maids_0 1 rfl rfl)
theorem dX1_maids_4 : decode cX1_maids 4 = .ok (.istore_n 1, 1) := dk_60 (dk_at dksX1_maids_0 4 rfl rfl)
theorem dX1_maids_5 : decode cX1_maids 5 = .ok (.new 97, 3) := dk_187 0 97 (dk_at dksX1_maids_0 5 rfl rfl)
theorem dX1_maids_8 : decode cX1_maids 8 = .ok (.dup, 1) := dk_89 (dk_at dksX1_maids_0 8 rfl rfl)
theorem dX1_maids_9 : decode cX1_maids 9 = .ok (.aload_n 0, 1) := dk_42 (dk_at dksX1_maids_0 9 rfl rfl)
theorem dX1_maids_10 : decode cX1_maids 10 = .ok (.iload_n 1, 1) := dk_27 (dk_at dksX1_maids_0 10 rfl rfl)
theorem dX1_maids_11 : decode cX1_maids 11 = .ok (.invokespecial 99, 3) := dk_183 0 99 (dk_at dksX1_maids_0 11 rfl rfl)
theorem dX1_maids_14 : decode cX1_maids 14 = .ok (.areturn, 1) := dk_176 (dk_at dksX1_maids_0 14 rfl rfl)
abbrev cX1_reach : ByteArray := prog_5_method_21_code
def yX1_reach : MethodName := ⟨RX1, "reach", "(I)I"⟩
def dkwX1_reach_2 : List UInt8 := [61, 132, 4, 1, 167, 255, 222, 167, 255, 209, 28, 172]
abbrev dktX1_reach_2 : List UInt8 := dkwX1_reach_2 ++ []
def dkwX1_reach_1 : List UInt8 := [162, 0, 31, 28, 28, 21, 4, 184, 0, 87, 153, 0, 12, 42, 21, 4, 182, 0, 191, 167, 0, 4, 3, 128]
abbrev dktX1_reach_1 : List UInt8 := dkwX1_reach_1 ++ dktX1_reach_2
def dkwX1_reach_0 : List UInt8 := [42, 27, 182, 0, 191, 61, 3, 62, 29, 28, 159, 0, 48, 28, 62, 3, 54, 4, 21, 4, 42, 180, 0, 77]
abbrev dktX1_reach_0 : List UInt8 := dkwX1_reach_0 ++ dktX1_reach_1
theorem dksX1_reach_0 : cX1_reach.data.toList.drop 0 = dktX1_reach_0 := by decide +kernel
theorem dksX1_reach_1 : cX1_reach.data.toList.drop 24 = dktX1_reach_1 := dk_seg dksX1_reach_0 24 rfl rfl
theorem dksX1_reach_2 : cX1_reach.data.toList.drop 48 = dktX1_reach_2 := dk_seg dksX1_reach_1 24 rfl rfl
theorem dX1_reach_0 : decode cX1_reach 0 = .ok (.aload_n 0, 1) := dk_42 (dk_at dksX1_reach_0 0 rfl rfl)
theorem dX1_reach_1 : decode cX1_reach 1 = .ok (.iload_n 1, 1) := dk_27 (dk_at dksX1_reach_0 1 rfl rfl)
theorem dX1_reach_2 : decode cX1_reach 2 = .ok (.invokevirtual 191, 3) := dk_182 0 191 (dk_at dksX1_reach_0 2 rfl rfl)
theorem dX1_reach_5 : decode cX1_reach 5 = .ok (.istore_n 2, 1) := dk_61 (dk_at dksX1_reach_0 5 rfl rfl)
theorem dX1_reach_6 : decode cX1_reach 6 = .ok (.iconst 0, 1) := dk_3 (dk_at dksX1_reach_0 6 rfl rfl)
theorem dX1_reach_7 : decode cX1_reach 7 = .ok (.istore_n 3, 1) := dk_62 (dk_at dksX1_reach_0 7 rfl rfl)
theorem dX1_reach_8 : decode cX1_reach 8 = .ok (.iload_n 3, 1) := dk_29 (dk_at dksX1_reach_0 8 rfl rfl)
theorem dX1_reach_9 : decode cX1_reach 9 = .ok (.iload_n 2, 1) := dk_28 (dk_at dksX1_reach_0 9 rfl rfl)
theorem dX1_reach_10 : decode cX1_reach 10 = .ok (.if_icmp .eq 48, 3) := dk_159 0 48 (dk_at dksX1_reach_0 10 rfl rfl)
theorem dX1_reach_13 : decode cX1_reach 13 = .ok (.iload_n 2, 1) := dk_28 (dk_at dksX1_reach_0 13 rfl rfl)
theorem dX1_reach_14 : decode cX1_reach 14 = .ok (.istore_n 3, 1) := dk_62 (dk_at dksX1_reach_0 14 rfl rfl)
theorem dX1_reach_15 : decode cX1_reach 15 = .ok (.iconst 0, 1) := dk_3 (dk_at dksX1_reach_0 15 rfl rfl)
theorem dX1_reach_16 : decode cX1_reach 16 = .ok (.istore 4, 2) := dk_54 4 (dk_at dksX1_reach_0 16 rfl rfl)
theorem dX1_reach_18 : decode cX1_reach 18 = .ok (.iload 4, 2) := dk_21 4 (dk_at dksX1_reach_0 18 rfl rfl)
theorem dX1_reach_20 : decode cX1_reach 20 = .ok (.aload_n 0, 1) := dk_42 (dk_at dksX1_reach_0 20 rfl rfl)
theorem dX1_reach_21 : decode cX1_reach 21 = .ok (.getfield 77, 3) := dk_180 0 77 (dk_at dksX1_reach_0 21 rfl rfl)
theorem dX1_reach_24 : decode cX1_reach 24 = .ok (.if_icmp .ge 31, 3) := dk_162 0 31 (dk_at dksX1_reach_1 0 rfl rfl)
theorem dX1_reach_27 : decode cX1_reach 27 = .ok (.iload_n 2, 1) := dk_28 (dk_at dksX1_reach_1 3 rfl rfl)
theorem dX1_reach_28 : decode cX1_reach 28 = .ok (.iload_n 2, 1) := dk_28 (dk_at dksX1_reach_1 4 rfl rfl)
theorem dX1_reach_29 : decode cX1_reach 29 = .ok (.iload 4, 2) := dk_21 4 (dk_at dksX1_reach_1 5 rfl rfl)
theorem dX1_reach_31 : decode cX1_reach 31 = .ok (.invokestatic 87, 3) := dk_184 0 87 (dk_at dksX1_reach_1 7 rfl rfl)
theorem dX1_reach_34 : decode cX1_reach 34 = .ok (.ifCond .eq 12, 3) := dk_153 0 12 (dk_at dksX1_reach_1 10 rfl rfl)
theorem dX1_reach_37 : decode cX1_reach 37 = .ok (.aload_n 0, 1) := dk_42 (dk_at dksX1_reach_1 13 rfl rfl)
theorem dX1_reach_38 : decode cX1_reach 38 = .ok (.iload 4, 2) := dk_21 4 (dk_at dksX1_reach_1 14 rfl rfl)
theorem dX1_reach_40 : decode cX1_reach 40 = .ok (.invokevirtual 191, 3) := dk_182 0 191 (dk_at dksX1_reach_1 16 rfl rfl)
theorem dX1_reach_43 : decode cX1_reach 43 = .ok (.goto 4, 3) := dk_167 0 4 (dk_at dksX1_reach_1 19 rfl rfl)
theorem dX1_reach_46 : decode cX1_reach 46 = .ok (.iconst 0, 1) := dk_3 (dk_at dksX1_reach_1 22 rfl rfl)
theorem dX1_reach_47 : decode cX1_reach 47 = .ok (.ior, 1) := dk_128 (dk_at dksX1_reach_1 23 rfl rfl)
theorem dX1_reach_48 : decode cX1_reach 48 = .ok (.istore_n 2, 1) := dk_61 (dk_at dksX1_reach_2 0 rfl rfl)
theorem dX1_reach_49 : decode cX1_reach 49 = .ok (.iinc 4 1, 3) := dk_132 4 1 (dk_at dksX1_reach_2 1 rfl rfl)
theorem dX1_reach_52 : decode cX1_reach 52 = .ok (.goto (-34), 3) := dk_167 255 222 (dk_at dksX1_reach_2 4 rfl rfl)
theorem dX1_reach_55 : decode cX1_reach 55 = .ok (.goto (-47), 3) := dk_167 255 209 (dk_at dksX1_reach_2 7 rfl rfl)
theorem dX1_reach_58 : decode cX1_reach 58 = .ok (.iload_n 2, 1) := dk_28 (dk_at dksX1_reach_2 10 rfl rfl)
theorem dX1_reach_59 : decode cX1_reach 59 = .ok (.ireturn, 1) := dk_172 (dk_at dksX1_reach_2 11 rfl rfl)
abbrev cX1_waitsForWhom : ByteArray := prog_5_method_20_code
def yX1_waitsForWhom : MethodName := ⟨RX1, "waitsForWhom", "(I)I"⟩
def dkwX1_waitsForWhom_7 : List UInt8 := [167, 255, 210, 21, 4, 172]
abbrev dktX1_waitsForWhom_7 : List UInt8 := dkwX1_waitsForWhom_7 ++ []
def dkwX1_waitsForWhom_6 : List UInt8 := [25, 6, 180, 0, 111, 27, 160, 0, 6, 167, 0, 18, 21, 4, 4, 25, 6, 180, 0, 111, 120, 128, 54, 4]
abbrev dktX1_waitsForWhom_6 : List UInt8 := dkwX1_waitsForWhom_6 ++ dktX1_waitsForWhom_7
def dkwX1_waitsForWhom_5 : List UInt8 := [58, 5, 25, 5, 185, 0, 57, 1, 0, 153, 0, 42, 25, 5, 185, 0, 63, 1, 0, 192, 0, 67, 58, 6]
abbrev dktX1_waitsForWhom_5 : List UInt8 := dkwX1_waitsForWhom_5 ++ dktX1_waitsForWhom_6
def dkwX1_waitsForWhom_4 : List UInt8 := [128, 54, 4, 132, 5, 1, 167, 255, 180, 42, 180, 0, 21, 29, 182, 0, 49, 192, 0, 41, 182, 0, 53]
abbrev dktX1_waitsForWhom_4 : List UInt8 := dkwX1_waitsForWhom_4 ++ dktX1_waitsForWhom_5
def dkwX1_waitsForWhom_3 : List UInt8 := [180, 0, 11, 21, 5, 50, 29, 53, 153, 0, 15, 21, 6, 154, 0, 10, 4, 21, 5, 120, 167, 0, 4, 3]
abbrev dktX1_waitsForWhom_3 : List UInt8 := dkwX1_waitsForWhom_3 ++ dktX1_waitsForWhom_4
def dkwX1_waitsForWhom_2 : List UInt8 := [29, 53, 4, 160, 0, 7, 4, 167, 0, 4, 3, 54, 6, 21, 4, 21, 5, 27, 159, 0, 27, 42]
abbrev dktX1_waitsForWhom_2 : List UInt8 := dkwX1_waitsForWhom_2 ++ dktX1_waitsForWhom_3
def dkwX1_waitsForWhom_1 : List UInt8 := [21, 5, 42, 180, 0, 77, 162, 0, 73, 44, 180, 0, 108, 4, 160, 0, 20, 42, 180, 0, 11, 21, 5, 50]
abbrev dktX1_waitsForWhom_1 : List UInt8 := dkwX1_waitsForWhom_1 ++ dktX1_waitsForWhom_2
def dkwX1_waitsForWhom_0 : List UInt8 := [42, 27, 182, 0, 187, 77, 44, 199, 0, 5, 3, 172, 42, 27, 182, 0, 140, 62, 3, 54, 4, 3, 54, 5]
abbrev dktX1_waitsForWhom_0 : List UInt8 := dkwX1_waitsForWhom_0 ++ dktX1_waitsForWhom_1
theorem dksX1_waitsForWhom_0 : cX1_waitsForWhom.data.toList.drop 0 = dktX1_waitsForWhom_0 := by decide +kernel
theorem dksX1_waitsForWhom_1 : cX1_waitsForWhom.data.toList.drop 24 = dktX1_waitsForWhom_1 := dk_seg dksX1_waitsForWhom_0 24 rfl rfl
theorem dksX1_waitsForWhom_2 : cX1_waitsForWhom.data.toList.drop 48 = dktX1_waitsForWhom_2 := dk_seg dksX1_waitsForWhom_1 24 rfl rfl
theorem dksX1_waitsForWhom_3 : cX1_waitsForWhom.data.toList.drop 70 = dktX1_waitsForWhom_3 := dk_seg dksX1_waitsForWhom_2 22 rfl rfl
theorem dksX1_waitsForWhom_4 : cX1_waitsForWhom.data.toList.drop 94 = dktX1_waitsForWhom_4 := dk_seg dksX1_waitsForWhom_3 24 rfl rfl
theorem dksX1_waitsForWhom_5 : cX1_waitsForWhom.data.toList.drop 117 = dktX1_waitsForWhom_5 := dk_seg dksX1_waitsForWhom_4 23 rfl rfl
theorem dksX1_waitsForWhom_6 : cX1_waitsForWhom.data.toList.drop 141 = dktX1_waitsForWhom_6 := dk_seg dksX1_waitsForWhom_5 24 rfl rfl
theorem dksX1_waitsForWhom_7 : cX1_waitsForWhom.data.toList.drop 165 = dktX1_waitsForWhom_7 := dk_seg dksX1_waitsForWhom_6 24 rfl rfl
theorem dX1_waitsForWhom_0 : decode cX1_waitsForWhom 0 = .ok (.aload_n 0, 1) := dk_42 (dk_at dksX1_waitsForWhom_0 0 rfl rfl)
theorem dX1_waitsForWhom_1 : decode cX1_waitsForWhom 1 = .ok (.iload_n 1, 1) := dk_27 (dk_at dksX1_waitsForWhom_0 1 rfl rfl)
theorem dX1_waitsForWhom_2 : decode cX1_waitsForWhom 2 = .ok (.invokevirtual 187, 3) := dk_182 0 187 (dk_at dksX1_waitsForWhom_0 2 rfl rfl)
theorem dX1_waitsForWhom_5 : decode cX1_waitsForWhom 5 = .ok (.astore_n 2, 1) := dk_77 (dk_at dksX1_waitsForWhom_0 5 rfl rfl)
theorem dX1_waitsForWhom_6 : decode cX1_waitsForWhom 6 = .ok (.aload_n 2, 1) := dk_44 (dk_at dksX1_waitsForWhom_0 6 rfl rfl)
theorem dX1_waitsForWhom_7 : decode cX1_waitsForWhom 7 = .ok (.ifnonnull 5, 3) := dk_199 0 5 (dk_at dksX1_waitsForWhom_0 7 rfl rfl)
theorem dX1_waitsForWhom_10 : decode cX1_waitsForWhom 10 = .ok (.iconst 0, 1) := dk_3 (dk_at dksX1_waitsForWhom_0 10 rfl rfl)
theorem dX1_waitsForWhom_11 : decode cX1_waitsForWhom 11 = .ok (.ireturn, 1) := dk_172 (dk_at dksX1_waitsForWhom_0 11 rfl rfl)
theorem dX1_waitsForWhom_12 : decode cX1_waitsForWhom 12 = .ok (.aload_n 0, 1) := dk_42 (dk_at dksX1_waitsForWhom_0 12 rfl rfl)
theorem dX1_waitsForWhom_13 : decode cX1_waitsForWhom 13 = .ok (.iload_n 1, 1) := dk_27 (dk_at dksX1_waitsForWhom_0 13 rfl rfl)
theorem dX1_waitsForWhom_14 : decode cX1_waitsForWhom 14 = .ok (.invokevirtual 140, 3) := dk_182 0 140 (dk_at dksX1_waitsForWhom_0 14 rfl rfl)
theorem dX1_waitsForWhom_17 : decode cX1_waitsForWhom 17 = .ok (.istore_n 3, 1) := dk_62 (dk_at dksX1_waitsForWhom_0 17 rfl rfl)
theorem dX1_waitsForWhom_18 : decode cX1_waitsForWhom 18 = .ok (.iconst 0, 1) := dk_3 (dk_at dksX1_waitsForWhom_0 18 rfl rfl)
theorem dX1_waitsForWhom_19 : decode cX1_waitsForWhom 19 = .ok (.istore 4, 2) := dk_54 4 (dk_at dksX1_waitsForWhom_0 19 rfl rfl)
theorem dX1_waitsForWhom_21 : decode cX1_waitsForWhom 21 = .ok (.iconst 0, 1) := dk_3 (dk_at dksX1_waitsForWhom_0 21 rfl rfl)
theorem dX1_waitsForWhom_22 : decode cX1_waitsForWhom 22 = .ok (.istore 5, 2) := dk_54 5 (dk_at dksX1_waitsForWhom_0 22 rfl rfl)
theorem dX1_waitsForWhom_24 : decode cX1_waitsForWhom 24 = .ok (.iload 5, 2) := dk_21 5 (dk_at dksX1_waitsForWhom_1 0 rfl rfl)
theorem dX1_waitsForWhom_26 : decode cX1_waitsForWhom 26 = .ok (.aload_n 0, 1) := dk_42 (dk_at dksX1_waitsForWhom_1 2 rfl rfl)
theorem dX1_waitsForWhom_27 : decode cX1_waitsForWhom 27 = .ok (.getfield 77, 3) := dk_180 0 77 (dk_at dksX1_waitsForWhom_1 3 rfl rfl)
theorem dX1_waitsForWhom_30 : decode cX1_waitsForWhom 30 = .ok (.if_icmp .ge 73, 3) := dk_162 0 73 (dk_at dksX1_waitsForWhom_1 6 rfl rfl)
theorem dX1_waitsForWhom_33 : decode cX1_waitsForWhom 33 = .ok (.aload_n 2, 1) := dk_44 (dk_at dksX1_waitsForWhom_1 9 rfl rfl)
theorem dX1_waitsForWhom_34 : decode cX1_waitsForWhom 34 = .ok (.getfield 108, 3) := dk_180 0 108 (dk_at dksX1_waitsForWhom_1 10 rfl rfl)
theorem dX1_waitsForWhom_37 : decode cX1_waitsForWhom 37 = .ok (.iconst 1, 1) := dk_4 (dk_at dksX1_waitsForWhom_1 13 rfl rfl)
theorem dX1_waitsForWhom_38 : decode cX1_waitsForWhom 38 = .ok (.if_icmp .ne 20, 3) := dk_160 0 20 (dk_at dksX1_waitsForWhom_1 14 rfl rfl)
theorem dX1_waitsForWhom_41 : decode cX1_waitsForWhom 41 = .ok (.aload_n 0, 1) := dk_42 (dk_at dksX1_waitsForWhom_1 17 rfl rfl)
theorem dX1_waitsForWhom_42 : decode cX1_waitsForWhom 42 = .ok (.getfield 11, 3) := dk_180 0 11 (dk_at dksX1_waitsForWhom_1 18 rfl rfl)
theorem dX1_waitsForWhom_45 : decode cX1_waitsForWhom 45 = .ok (.iload 5, 2) := dk_21 5 (dk_at dksX1_waitsForWhom_1 21 rfl rfl)
theorem dX1_waitsForWhom_47 : decode cX1_waitsForWhom 47 = .ok (.aaload, 1) := dk_50 (dk_at dksX1_waitsForWhom_1 23 rfl rfl)
theorem dX1_waitsForWhom_48 : decode cX1_waitsForWhom 48 = .ok (.iload_n 3, 1) := dk_29 (dk_at dksX1_waitsForWhom_2 0 rfl rfl)
theorem dX1_waitsForWhom_49 : decode cX1_waitsForWhom 49 = .ok (.saload, 1) := dk_53 (dk_at dksX1_waitsForWhom_2 1 rfl rfl)
theorem dX1_waitsForWhom_50 : decode cX1_waitsForWhom 50 = .ok (.iconst 1, 1) := dk_4 (dk_at dksX1_waitsForWhom_2 2 rfl rfl)
theorem dX1_waitsForWhom_51 : decode cX1_waitsForWhom 51 = .ok (.if_icmp .ne 7, 3) := dk_160 0 7 (dk_at dksX1_waitsForWhom_2 3 rfl rfl)
theorem dX1_waitsForWhom_54 : decode cX1_waitsForWhom 54 = .ok (.iconst 1, 1) := dk_4 (dk_at dksX1_waitsForWhom_2 6 rfl rfl)
theorem dX1_waitsForWhom_55 : decode cX1_waitsForWhom 55 = .ok (.goto 4, 3) := dk_167 0 4 (dk_at dksX1_waitsForWhom_2 7 rfl rfl)
theorem dX1_waitsForWhom_58 : decode cX1_waitsForWhom 58 = .ok (.iconst 0, 1) := dk_3 (dk_at dksX1_waitsForWhom_2 10 rfl rfl)
theorem dX1_waitsForWhom_59 : decode cX1_waitsForWhom 59 = .ok (.istore 6, 2) := dk_54 6 (dk_at dksX1_waitsForWhom_2 11 rfl rfl)
theorem dX1_waitsForWhom_61 : decode cX1_waitsForWhom 61 = .ok (.iload 4, 2) := dk_21 4 (dk_at dksX1_waitsForWhom_2 13 rfl rfl)
theorem dX1_waitsForWhom_63 : decode cX1_waitsForWhom 63 = .ok (.iload 5, 2) := dk_21 5 (dk_at dksX1_waitsForWhom_2 15 rfl rfl)
theorem dX1_waitsForWhom_65 : decode cX1_waitsForWhom 65 = .ok (.iload_n 1, 1) := dk_27 (dk_at dksX1_waitsForWhom_2 17 rfl rfl)
theorem dX1_waitsForWhom_66 : decode cX1_waitsForWhom 66 = .ok (.if_icmp .eq 27, 3) := dk_159 0 27 (dk_at dksX1_waitsForWhom_2 18 rfl rfl)
theorem dX1_waitsForWhom_69 : decode cX1_waitsForWhom 69 = .ok (.aload_n 0, 1) := dk_42 (dk_at dksX1_waitsForWhom_2 21 rfl rfl)
theorem dX1_waitsForWhom_70 : decode cX1_waitsForWhom 70 = .ok (.getfield 11, 3) := dk_180 0 11 (dk_at dksX1_waitsForWhom_3 0 rfl rfl)
theorem dX1_waitsForWhom_73 : decode cX1_waitsForWhom 73 = .ok (.iload 5, 2) := dk_21 5 (dk_at dksX1_waitsForWhom_3 3 rfl rfl)
theorem dX1_waitsForWhom_75 : decode cX1_waitsForWhom 75 = .ok (.aaload, 1) := dk_50 (dk_at dksX1_waitsForWhom_3 5 rfl rfl)
theorem dX1_waitsForWhom_76 : decode cX1_waitsForWhom 76 = .ok (.iload_n 3, 1) := dk_29 (dk_at dksX1_waitsForWhom_3 6 rfl rfl)
theorem dX1_waitsForWhom_77 : decode cX1_waitsForWhom 77 = .ok (.saload, 1) := dk_53 (dk_at dksX1_waitsForWhom_3 7 rfl rfl)
theorem dX1_waitsForWhom_78 : decode cX1_waitsForWhom 78 = .ok (.ifCond .eq 15, 3) := dk_153 0 15 (dk_at dksX1_waitsForWhom_3 8 rfl rfl)
theorem dX1_waitsForWhom_81 : decode cX1_waitsForWhom 81 = .ok (.iload 6, 2) := dk_21 6 (dk_at dksX1_waitsForWhom_3 11 rfl rfl)
theorem dX1_waitsForWhom_83 : decode cX1_waitsForWhom 83 = .ok (.ifCond .ne 10, 3) := dk_154 0 10 (dk_at dksX1_waitsForWhom_3 13 rfl rfl)
theorem dX1_waitsForWhom_86 : decode cX1_waitsForWhom 86 = .ok (.iconst 1, 1) := dk_4 (dk_at dksX1_waitsForWhom_3 16 rfl rfl)
theorem dX1_waitsForWhom_87 : decode cX1_waitsForWhom 87 = .ok (.iload 5, 2) := dk_21 5 (dk_at dksX1_waitsForWhom_3 17 rfl rfl)
theorem dX1_waitsForWhom_89 : decode cX1_waitsForWhom 89 = .ok (.ishl, 1) := dk_120 (dk_at dksX1_waitsForWhom_3 19 rfl rfl)
theorem dX1_waitsForWhom_90 : decode cX1_waitsForWhom 90 = .ok (.goto 4, 3) := dk_167 0 4 (dk_at dksX1_waitsForWhom_3 20 rfl rfl)
theorem dX1_waitsForWhom_93 : decode cX1_waitsForWhom 93 = .ok (.iconst 0, 1) := dk_3 (dk_at dksX1_waitsForWhom_3 23 rfl rfl)
theorem dX1_waitsForWhom_94 : decode cX1_waitsForWhom 94 = .ok (.ior, 1) := dk_128 (dk_at dksX1_waitsForWhom_4 0 rfl rfl)
theorem dX1_waitsForWhom_95 : decode cX1_waitsForWhom 95 = .ok (.istore 4, 2) := dk_54 4 (dk_at dksX1_waitsForWhom_4 1 rfl rfl)
theorem dX1_waitsForWhom_97 : decode cX1_waitsForWhom 97 = .ok (.iinc 5 1, 3) := dk_132 5 1 (dk_at dksX1_waitsForWhom_4 3 rfl rfl)
theorem dX1_waitsForWhom_100 : decode cX1_waitsForWhom 100 = .ok (.goto (-76), 3) := dk_167 255 180 (dk_at dksX1_waitsForWhom_4 6 rfl rfl)
theorem dX1_waitsForWhom_103 : decode cX1_waitsForWhom 103 = .ok (.aload_n 0, 1) := dk_42 (dk_at dksX1_waitsForWhom_4 9 rfl rfl)
theorem dX1_waitsForWhom_104 : decode cX1_waitsForWhom 104 = .ok (.getfield 21, 3) := dk_180 0 21 (dk_at dksX1_waitsForWhom_4 10 rfl rfl)
theorem dX1_waitsForWhom_107 : decode cX1_waitsForWhom 107 = .ok (.iload_n 3, 1) := dk_29 (dk_at dksX1_waitsForWhom_4 13 rfl rfl)
theorem dX1_waitsForWhom_108 : decode cX1_waitsForWhom 108 = .ok (.invokevirtual 49, 3) := dk_182 0 49 (dk_at dksX1_waitsForWhom_4 14 rfl rfl)
theorem dX1_waitsForWhom_111 : decode cX1_waitsForWhom 111 = .ok (.checkcast 41, 3) := dk_192 0 41 (dk_at dksX1_waitsForWhom_4 17 rfl rfl)
theorem dX1_waitsForWhom_114 : decode cX1_waitsForWhom 114 = .ok (.invokevirtual 53, 3) := dk_182 0 53 (dk_at dksX1_waitsForWhom_4 20 rfl rfl)
theorem dX1_waitsForWhom_117 : decode cX1_waitsForWhom 117 = .ok (.astore 5, 2) := dk_58 5 (dk_at dksX1_waitsForWhom_5 0 rfl rfl)
theorem dX1_waitsForWhom_119 : decode cX1_waitsForWhom 119 = .ok (.aload 5, 2) := dk_25 5 (dk_at dksX1_waitsForWhom_5 2 rfl rfl)
theorem dX1_waitsForWhom_121 : decode cX1_waitsForWhom 121 = .ok (.invokeinterface 57 1, 5) := by decide +kernel
theorem dX1_waitsForWhom_126 : decode cX1_waitsForWhom 126 = .ok (.ifCond .eq 42, 3) := dk_153 0 42 (dk_at dksX1_waitsForWhom_5 9 rfl rfl)
theorem dX1_waitsForWhom_129 : decode cX1_waitsForWhom 129 = .ok (.aload 5, 2) := dk_25 5 (dk_at dksX1_waitsForWhom_5 12 rfl rfl)
theorem dX1_waitsForWhom_131 : decode cX1_waitsForWhom 131 = .ok (.invokeinterface 63 1, 5) := by decide +kernel
theorem dX1_waitsForWhom_136 : decode cX1_waitsForWhom 136 = .ok (.checkcast 67, 3) := dk_192 0 67 (dk_at dksX1_waitsForWhom_5 19 rfl rfl)
theorem dX1_waitsForWhom_139 : decode cX1_waitsForWhom 139 = .ok (.astore 6, 2) := dk_58 6 (dk_at dksX1_waitsForWhom_5 22 rfl rfl)
theorem dX1_waitsForWhom_141 : decode cX1_waitsForWhom 141 = .ok (.aload 6, 2) := dk_25 6 (dk_at dksX1_waitsForWhom_6 0 rfl rfl)
theorem dX1_waitsForWhom_143 : decode cX1_waitsForWhom 143 = .ok (.getfield 111, 3) := dk_180 0 111 (dk_at dksX1_waitsForWhom_6 2 rfl rfl)
theorem dX1_waitsForWhom_146 : decode cX1_waitsForWhom 146 = .ok (.iload_n 1, 1) := dk_27 (dk_at dksX1_waitsForWhom_6 5 rfl rfl)
theorem dX1_waitsForWhom_147 : decode cX1_waitsForWhom 147 = .ok (.if_icmp .ne 6, 3) := dk_160 0 6 (dk_at dksX1_waitsForWhom_6 6 rfl rfl)
theorem dX1_waitsForWhom_150 : decode cX1_waitsForWhom 150 = .ok (.goto 18, 3) := dk_167 0 18 (dk_at dksX1_waitsForWhom_6 9 rfl rfl)
theorem dX1_waitsForWhom_153 : decode cX1_waitsForWhom 153 = .ok (.iload 4, 2) := dk_21 4 (dk_at dksX1_waitsForWhom_6 12 rfl rfl)
theorem dX1_waitsForWhom_155 : decode cX1_waitsForWhom 155 = .ok (.iconst 1, 1) := dk_4 (dk_at dksX1_waitsForWhom_6 14 rfl rfl)
theorem dX1_waitsForWhom_156 : decode cX1_waitsForWhom 156 = .ok (.aload 6, 2) := dk_25 6 (dk_at dksX1_waitsForWhom_6 15 rfl rfl)
theorem dX1_waitsForWhom_158 : decode cX1_waitsForWhom 158 = .ok (.getfield 111, 3) := dk_180 0 111 (dk_at dksX1_waitsForWhom_6 17 rfl rfl)
theorem dX1_waitsForWhom_161 : decode cX1_waitsForWhom 161 = .ok (.ishl, 1) := dk_120 (dk_at dksX1_waitsForWhom_6 20 rfl rfl)
theorem dX1_waitsForWhom_162 : decode cX1_waitsForWhom 162 = .ok (.ior, 1) := dk_128 (dk_at dksX1_waitsForWhom_6 21 rfl rfl)
theorem dX1_waitsForWhom_163 : decode cX1_waitsForWhom 163 = .ok (.istore 4, 2) := dk_54 4 (dk_at dksX1_waitsForWhom_6 22 rfl rfl)
theorem dX1_waitsForWhom_165 : decode cX1_waitsForWhom 165 = .ok (.goto (-46), 3) := dk_167 255 210 (dk_at dksX1_waitsForWhom_7 0 rfl rfl)
theorem dX1_waitsForWhom_168 : decode cX1_waitsForWhom 168 = .ok (.iload 4, 2) := dk_21 4 (dk_at dksX1_waitsForWhom_7 3 rfl rfl)
theorem dX1_waitsForWhom_170 : decode cX1_waitsForWhom 170 = .ok (.ireturn, 1) := dk_172 (dk_at dksX1_waitsForWhom_7 5 rfl rfl)
abbrev cX1_wishOf : ByteArray := prog_5_method_11_code
def yX1_wishOf : MethodName := ⟨RX1, "wishOf", "(I)LLarderLocks$Wish;"⟩
def dkwX1_wishOf_2 : List UInt8 := [25, 4, 180, 0, 111, 27, 160, 0, 6, 25, 4, 176, 167, 255, 224, 1, 176]
abbrev dktX1_wishOf_2 : List UInt8 := dkwX1_wishOf_2 ++ []
def dkwX1_wishOf_1 : List UInt8 := [182, 0, 53, 78, 45, 185, 0, 57, 1, 0, 153, 0, 29, 45, 185, 0, 63, 1, 0, 192, 0, 67, 58, 4]
abbrev dktX1_wishOf_1 : List UInt8 := dkwX1_wishOf_1 ++ dktX1_wishOf_2
def dkwX1_wishOf_0 : List UInt8 := [42, 27, 182, 0, 140, 61, 28, 16, 241, 159, 0, 53, 42, 180, 0, 21, 28, 182, 0, 49, 192, 0, 41]
abbrev dktX1_wishOf_0 : List UInt8 := dkwX1_wishOf_0 ++ dktX1_wishOf_1
theorem dksX1_wishOf_0 : cX1_wishOf.data.toList.drop 0 = dktX1_wishOf_0 := by decide +kernel
theorem dksX1_wishOf_1 : cX1_wishOf.data.toList.drop 23 = dktX1_wishOf_1 := dk_seg dksX1_wishOf_0 23 rfl rfl
theorem dksX1_wishOf_2 : cX1_wishOf.data.toList.drop 47 = dktX1_wishOf_2 := dk_seg dksX1_wishOf_1 24 rfl rfl
theorem dX1_wishOf_0 : decode cX1_wishOf 0 = .ok (.aload_n 0, 1) := dk_42 (dk_at dksX1_wishOf_0 0 rfl rfl)
theorem dX1_wishOf_1 : decode cX1_wishOf 1 = .ok (.iload_n 1, 1) := dk_27 (dk_at dksX1_wishOf_0 1 rfl rfl)
theorem dX1_wishOf_2 : decode cX1_wishOf 2 = .ok (.invokevirtual 140, 3) := dk_182 0 140 (dk_at dksX1_wishOf_0 2 rfl rfl)
theorem dX1_wishOf_5 : decode cX1_wishOf 5 = .ok (.istore_n 2, 1) := dk_61 (dk_at dksX1_wishOf_0 5 rfl rfl)
theorem dX1_wishOf_6 : decode cX1_wishOf 6 = .ok (.iload_n 2, 1) := dk_28 (dk_at dksX1_wishOf_0 6 rfl rfl)
theorem dX1_wishOf_7 : decode cX1_wishOf 7 = .ok (.bipush (-15), 2) := dk_16 241 (dk_at dksX1_wishOf_0 7 rfl rfl)
theorem dX1_wishOf_9 : decode cX1_wishOf 9 = .ok (.if_icmp .eq 53, 3) := dk_159 0 53 (dk_at dksX1_wishOf_0 9 rfl rfl)
theorem dX1_wishOf_12 : decode cX1_wishOf 12 = .ok (.aload_n 0, 1) := dk_42 (dk_at dksX1_wishOf_0 12 rfl rfl)
theorem dX1_wishOf_13 : decode cX1_wishOf 13 = .ok (.getfield 21, 3) := dk_180 0 21 (dk_at dksX1_wishOf_0 13 rfl rfl)
theorem dX1_wishOf_16 : decode cX1_wishOf 16 = .ok (.iload_n 2, 1) := dk_28 (dk_at dksX1_wishOf_0 16 rfl rfl)
theorem dX1_wishOf_17 : decode cX1_wishOf 17 = .ok (.invokevirtual 49, 3) := dk_182 0 49 (dk_at dksX1_wishOf_0 17 rfl rfl)
theorem dX1_wishOf_20 : decode cX1_wishOf 20 = .ok (.checkcast 41, 3) := dk_192 0 41 (dk_at dksX1_wishOf_0 20 rfl rfl)
theorem dX1_wishOf_23 : decode cX1_wishOf 23 = .ok (.invokevirtual 53, 3) := dk_182 0 53 (dk_at dksX1_wishOf_1 0 rfl rfl)
theorem dX1_wishOf_26 : decode cX1_wishOf 26 = .ok (.astore_n 3, 1) := dk_78 (dk_at dksX1_wishOf_1 3 rfl rfl)
theorem dX1_wishOf_27 : decode cX1_wishOf 27 = .ok (.aload_n 3, 1) := dk_45 (dk_at dksX1_wishOf_1 4 rfl rfl)
theorem dX1_wishOf_28 : decode cX1_wishOf 28 = .ok (.invokeinterface 57 1, 5) := by decide +kernel
theorem dX1_wishOf_33 : decode cX1_wishOf 33 = .ok (.ifCond .eq 29, 3) := dk_153 0 29 (dk_at dksX1_wishOf_1 10 rfl rfl)
theorem dX1_wishOf_36 : decode cX1_wishOf 36 = .ok (.aload_n 3, 1) := dk_45 (dk_at dksX1_wishOf_1 13 rfl rfl)
theorem dX1_wishOf_37 : decode cX1_wishOf 37 = .ok (.invokeinterface 63 1, 5) := by decide +kernel
theorem dX1_wishOf_42 : decode cX1_wishOf 42 = .ok (.checkcast 67, 3) := dk_192 0 67 (dk_at dksX1_wishOf_1 19 rfl rfl)
theorem dX1_wishOf_45 : decode cX1_wishOf 45 = .ok (.astore 4, 2) := dk_58 4 (dk_at dksX1_wishOf_1 22 rfl rfl)
theorem dX1_wishOf_47 : decode cX1_wishOf 47 = .ok (.aload 4, 2) := dk_25 4 (dk_at dksX1_wishOf_2 0 rfl rfl)
theorem dX1_wishOf_49 : decode cX1_wishOf 49 = .ok (.getfield 111, 3) := dk_180 0 111 (dk_at dksX1_wishOf_2 2 rfl rfl)
theorem dX1_wishOf_52 : decode cX1_wishOf 52 = .ok (.iload_n 1, 1) := dk_27 (dk_at dksX1_wishOf_2 5 rfl rfl)
theorem dX1_wishOf_53 : decode cX1_wishOf 53 = .ok (.if_icmp .ne 6, 3) := dk_160 0 6 (dk_at dksX1_wishOf_2 6 rfl rfl)
theorem dX1_wishOf_56 : decode cX1_wishOf 56 = .ok (.aload 4, 2) := dk_25 4 (dk_at dksX1_wishOf_2 9 rfl rfl)
theorem dX1_wishOf_58 : decode cX1_wishOf 58 = .ok (.areturn, 1) := dk_176 (dk_at dksX1_wishOf_2 11 rfl rfl)
theorem dX1_wishOf_59 : decode cX1_wishOf 59 = .ok (.goto (-32), 3) := dk_167 255 224 (dk_at dksX1_wishOf_2 12 rfl rfl)
theorem dX1_wishOf_62 : decode cX1_wishOf 62 = .ok (.aconst_null, 1) := dk_1 (dk_at dksX1_wishOf_2 15 rfl rfl)
theorem dX1_wishOf_63 : decode cX1_wishOf 63 = .ok (.areturn, 1) := dk_176 (dk_at dksX1_wishOf_2 16 rfl rfl)
abbrev cX1_letsAllGo : ByteArray := prog_5_method_17_code
def yX1_letsAllGo : MethodName := ⟨RX1, "letsAllGo", "(I[LLarderLocks$Fit;)I"⟩
def dkwX1_letsAllGo_5 : List UInt8 := [21, 5, 172]
abbrev dktX1_letsAllGo_5 : List UInt8 := dkwX1_letsAllGo_5 ++ []
def dkwX1_letsAllGo_4 : List UInt8 := [153, 0, 13, 42, 21, 6, 44, 182, 0, 184, 167, 0, 4, 3, 96, 54, 5, 132, 6, 1, 167, 255, 222]
abbrev dktX1_letsAllGo_4 : List UInt8 := dkwX1_letsAllGo_4 ++ dktX1_letsAllGo_5
def dkwX1_letsAllGo_3 : List UInt8 := [44, 182, 0, 184, 54, 5, 3, 54, 6, 21, 6, 16, 8, 162, 0, 33, 21, 5, 25, 4, 21, 6, 51]
abbrev dktX1_letsAllGo_3 : List UInt8 := dkwX1_letsAllGo_3 ++ dktX1_letsAllGo_4
def dkwX1_letsAllGo_2 : List UInt8 := [27, 50, 21, 5, 3, 86, 132, 5, 1, 167, 255, 214, 29, 16, 241, 160, 0, 7, 3, 167, 0, 9, 42, 29]
abbrev dktX1_letsAllGo_2 : List UInt8 := dkwX1_letsAllGo_2 ++ dktX1_letsAllGo_3
def dkwX1_letsAllGo_1 : List UInt8 := [21, 5, 42, 180, 0, 11, 27, 50, 21, 5, 53, 153, 0, 7, 4, 167, 0, 4, 3, 84, 42, 180, 0, 11]
abbrev dktX1_letsAllGo_1 : List UInt8 := dkwX1_letsAllGo_1 ++ dktX1_letsAllGo_2
def dkwX1_letsAllGo_0 : List UInt8 := [42, 27, 182, 0, 181, 62, 16, 8, 188, 4, 58, 4, 3, 54, 5, 21, 5, 16, 8, 162, 0, 41, 25, 4]
abbrev dktX1_letsAllGo_0 : List UInt8 := dkwX1_letsAllGo_0 ++ dktX1_letsAllGo_1
theorem dksX1_letsAllGo_0 : cX1_letsAllGo.data.toList.drop 0 = dktX1_letsAllGo_0 := by decide +kernel
theorem dksX1_letsAllGo_1 : cX1_letsAllGo.data.toList.drop 24 = dktX1_letsAllGo_1 := dk_seg dksX1_letsAllGo_0 24 rfl rfl
theorem dksX1_letsAllGo_2 : cX1_letsAllGo.data.toList.drop 48 = dktX1_letsAllGo_2 := dk_seg dksX1_letsAllGo_1 24 rfl rfl
theorem dksX1_letsAllGo_3 : cX1_letsAllGo.data.toList.drop 72 = dktX1_letsAllGo_3 := dk_seg dksX1_letsAllGo_2 24 rfl rfl
theorem dksX1_letsAllGo_4 : cX1_letsAllGo.data.toList.drop 95 = dktX1_letsAllGo_4 := dk_seg dksX1_letsAllGo_3 23 rfl rfl
theorem dksX1_letsAllGo_5 : cX1_letsAllGo.data.toList.drop 118 = dktX1_letsAllGo_5 := dk_seg dksX1_letsAllGo_4 23 rfl rfl
theorem dX1_letsAllGo_0 : decode cX1_letsAllGo 0 = .ok (.aload_n 0, 1) := dk_42 (dk_at dksX1_letsAllGo_0 0 rfl rfl)
theorem dX1_letsAllGo_1 : decode cX1_letsAllGo 1 = .ok (.iload_n 1, 1) := dk_27 (dk_at dksX1_letsAllGo_0 1 rfl rfl)
theorem dX1_letsAllGo_2 : decode cX1_letsAllGo 2 = .ok (.invokevirtual 181, 3) := dk_182 0 181 (dk_at dksX1_letsAllGo_0 2 rfl rfl)
theorem dX1_letsAllGo_5 : decode cX1_letsAllGo 5 = .ok (.istore_n 3, 1) := dk_62 (dk_at dksX1_letsAllGo_0 5 rfl rfl)
theorem dX1_letsAllGo_6 : decode cX1_letsAllGo 6 = .ok (.bipush 8, 2) := dk_16 8 (dk_at dksX1_letsAllGo_0 6 rfl rfl)
theorem dX1_letsAllGo_8 : decode cX1_letsAllGo 8 = .ok (.newarray .boolean, 2) := dk_188_4 (dk_at dksX1_letsAllGo_0 8 rfl rfl)
theorem dX1_letsAllGo_10 : decode cX1_letsAllGo 10 = .ok (.astore 4, 2) := dk_58 4 (dk_at dksX1_letsAllGo_0 10 rfl rfl)
theorem dX1_letsAllGo_12 : decode cX1_letsAllGo 12 = .ok (.iconst 0, 1) := dk_3 (dk_at dksX1_letsAllGo_0 12 rfl rfl)
theorem dX1_letsAllGo_13 : decode cX1_letsAllGo 13 = .ok (.istore 5, 2) := dk_54 5 (dk_at dksX1_letsAllGo_0 13 rfl rfl)
theorem dX1_letsAllGo_15 : decode cX1_letsAllGo 15 = .ok (.iload 5, 2) := dk_21 5 (dk_at dksX1_letsAllGo_0 15 rfl rfl)
theorem dX1_letsAllGo_17 : decode cX1_letsAllGo 17 = .ok (.bipush 8, 2) := dk_16 8 (dk_at dksX1_letsAllGo_0 17 rfl rfl)
theorem dX1_letsAllGo_19 : decode cX1_letsAllGo 19 = .ok (.if_icmp .ge 41, 3) := dk_162 0 41 (dk_at dksX1_letsAllGo_0 19 rfl rfl)
theorem dX1_letsAllGo_22 : decode cX1_letsAllGo 22 = .ok (.aload 4, 2) := dk_25 4 (dk_at dksX1_letsAllGo_0 22 rfl rfl)
theorem dX1_letsAllGo_24 : decode cX1_letsAllGo 24 = .ok (.iload 5, 2) := dk_21 5 (dk_at dksX1_letsAllGo_1 0 rfl rfl)
theorem dX1_letsAllGo_26 : decode cX1_letsAllGo 26 = .ok (.aload_n 0, 1) := dk_42 (dk_at dksX1_letsAllGo_1 2 rfl rfl)
theorem dX1_letsAllGo_27 : decode cX1_letsAllGo 27 = .ok (.getfield 11, 3) := dk_180 0 11 (dk_at dksX1_letsAllGo_1 3 rfl rfl)
theorem dX1_letsAllGo_30 : decode cX1_letsAllGo 30 = .ok (.iload_n 1, 1) := dk_27 (dk_at dksX1_letsAllGo_1 6 rfl rfl)
theorem dX1_letsAllGo_31 : decode cX1_letsAllGo 31 = .ok (.aaload, 1) := dk_50 (dk_at dksX1_letsAllGo_1 7 rfl rfl)
theorem dX1_letsAllGo_32 : decode cX1_letsAllGo 32 = .ok (.iload 5, 2) := dk_21 5 (dk_at dksX1_letsAllGo_1 8 rfl rfl)
theorem dX1_letsAllGo_34 : decode cX1_letsAllGo 34 = .ok (.saload, 1) := dk_53 (dk_at dksX1_letsAllGo_1 10 rfl rfl)
theorem dX1_letsAllGo_35 : decode cX1_letsAllGo 35 = .ok (.ifCond .eq 7, 3) := dk_153 0 7 (dk_at dksX1_letsAllGo_1 11 rfl rfl)
theorem dX1_letsAllGo_38 : decode cX1_letsAllGo 38 = .ok (.iconst 1, 1) := dk_4 (dk_at dksX1_letsAllGo_1 14 rfl rfl)
theorem dX1_letsAllGo_39 : decode cX1_letsAllGo 39 = .ok (.goto 4, 3) := dk_167 0 4 (dk_at dksX1_letsAllGo_1 15 rfl rfl)
theorem dX1_letsAllGo_42 : decode cX1_letsAllGo 42 = .ok (.iconst 0, 1) := dk_3 (dk_at dksX1_letsAllGo_1 18 rfl rfl)
theorem dX1_letsAllGo_43 : decode cX1_letsAllGo 43 = .ok (.bastore, 1) := dk_84 (dk_at dksX1_letsAllGo_1 19 rfl rfl)
theorem dX1_letsAllGo_44 : decode cX1_letsAllGo 44 = .ok (.aload_n 0, 1) := dk_42 (dk_at dksX1_letsAllGo_1 20 rfl rfl)
theorem dX1_letsAllGo_45 : decode cX1_letsAllGo 45 = .ok (.getfield 11, 3) := dk_180 0 11 (dk_at dksX1_letsAllGo_1 21 rfl rfl)
theorem dX1_letsAllGo_48 : decode cX1_letsAllGo 48 = .ok (.iload_n 1, 1) := dk_27 (dk_at dksX1_letsAllGo_2 0 rfl rfl)
theorem dX1_letsAllGo_49 : decode cX1_letsAllGo 49 = .ok (.aaload, 1) := dk_50 (dk_at dksX1_letsAllGo_2 1 rfl rfl)
theorem dX1_letsAllGo_50 : decode cX1_letsAllGo 50 = .ok (.iload 5, 2) := dk_21 5 (dk_at dksX1_letsAllGo_2 2 rfl rfl)
theorem dX1_letsAllGo_52 : decode cX1_letsAllGo 52 = .ok (.iconst 0, 1) := dk_3 (dk_at dksX1_letsAllGo_2 4 rfl rfl)
theorem dX1_letsAllGo_53 : decode cX1_letsAllGo 53 = .ok (.sastore, 1) := dk_86 (dk_at dksX1_letsAllGo_2 5 rfl rfl)
theorem dX1_letsAllGo_54 : decode cX1_letsAllGo 54 = .ok (.iinc 5 1, 3) := dk_132 5 1 (dk_at dksX1_letsAllGo_2 6 rfl rfl)
theorem dX1_letsAllGo_57 : decode cX1_letsAllGo 57 = .ok (.goto (-42), 3) := dk_167 255 214 (dk_at dksX1_letsAllGo_2 9 rfl rfl)
theorem dX1_letsAllGo_60 : decode cX1_letsAllGo 60 = .ok (.iload_n 3, 1) := dk_29 (dk_at dksX1_letsAllGo_2 12 rfl rfl)
theorem dX1_letsAllGo_61 : decode cX1_letsAllGo 61 = .ok (.bipush (-15), 2) := dk_16 241 (dk_at dksX1_letsAllGo_2 13 rfl rfl)
theorem dX1_letsAllGo_63 : decode cX1_letsAllGo 63 = .ok (.if_icmp .ne 7, 3) := dk_160 0 7 (dk_at dksX1_letsAllGo_2 15 rfl rfl)
theorem dX1_letsAllGo_66 : decode cX1_letsAllGo 66 = .ok (.iconst 0, 1) := dk_3 (dk_at dksX1_letsAllGo_2 18 rfl rfl)
theorem dX1_letsAllGo_67 : decode cX1_letsAllGo 67 = .ok (.goto 9, 3) := dk_167 0 9 (dk_at dksX1_letsAllGo_2 19 rfl rfl)
theorem dX1_letsAllGo_70 : decode cX1_letsAllGo 70 = .ok (.aload_n 0, 1) := dk_42 (dk_at dksX1_letsAllGo_2 22 rfl rfl)
theorem dX1_letsAllGo_71 : decode cX1_letsAllGo 71 = .ok (.iload_n 3, 1) := dk_29 (dk_at dksX1_letsAllGo_2 23 rfl rfl)
theorem dX1_letsAllGo_72 : decode cX1_letsAllGo 72 = .ok (.aload_n 2, 1) := dk_44 (dk_at dksX1_letsAllGo_3 0 rfl rfl)
theorem dX1_letsAllGo_73 : decode cX1_letsAllGo 73 = .ok (.invokevirtual 184, 3) := dk_182 0 184 (dk_at dksX1_letsAllGo_3 1 rfl rfl)
theorem dX1_letsAllGo_76 : decode cX1_letsAllGo 76 = .ok (.istore 5, 2) := dk_54 5 (dk_at dksX1_letsAllGo_3 4 rfl rfl)
theorem dX1_letsAllGo_78 : decode cX1_letsAllGo 78 = .ok (.iconst 0, 1) := dk_3 (dk_at dksX1_letsAllGo_3 6 rfl rfl)
theorem dX1_letsAllGo_79 : decode cX1_letsAllGo 79 = .ok (.istore 6, 2) := dk_54 6 (dk_at dksX1_letsAllGo_3 7 rfl rfl)
theorem dX1_letsAllGo_81 : decode cX1_letsAllGo 81 = .ok (.iload 6, 2) := dk_21 6 (dk_at dksX1_letsAllGo_3 9 rfl rfl)
theorem dX1_letsAllGo_83 : decode cX1_letsAllGo 83 = .ok (.bipush 8, 2) := dk_16 8 (dk_at dksX1_letsAllGo_3 11 rfl rfl)
theorem dX1_letsAllGo_85 : decode cX1_letsAllGo 85 = .ok (.if_icmp .ge 33, 3) := dk_162 0 33 (dk_at dksX1_letsAllGo_3 13 rfl rfl)
theorem dX1_letsAllGo_88 : decode cX1_letsAllGo 88 = .ok (.iload 5, 2) := dk_21 5 (dk_at dksX1_letsAllGo_3 16 rfl rfl)
theorem dX1_letsAllGo_90 : decode cX1_letsAllGo 90 = .ok (.aload 4, 2) := dk_25 4 (dk_at dksX1_letsAllGo_3 18 rfl rfl)
theorem dX1_letsAllGo_92 : decode cX1_letsAllGo 92 = .ok (.iload 6, 2) := dk_21 6 (dk_at dksX1_letsAllGo_3 20 rfl rfl)
theorem dX1_letsAllGo_94 : decode cX1_letsAllGo 94 = .ok (.baload, 1) := dk_51 (dk_at dksX1_letsAllGo_3 22 rfl rfl)
theorem dX1_letsAllGo_95 : decode cX1_letsAllGo 95 = .ok (.ifCond .eq 13, 3) := dk_153 0 13 (dk_at dksX1_letsAllGo_4 0 rfl rfl)
theorem dX1_letsAllGo_98 : decode cX1_letsAllGo 98 = .ok (.aload_n 0, 1) := dk_42 (dk_at dksX1_letsAllGo_4 3 rfl rfl)
theorem dX1_letsAllGo_99 : decode cX1_letsAllGo 99 = .ok (.iload 6, 2) := dk_21 6 (dk_at dksX1_letsAllGo_4 4 rfl rfl)
theorem dX1_letsAllGo_101 : decode cX1_letsAllGo 101 = .ok (.aload_n 2, 1) := dk_44 (dk_at dksX1_letsAllGo_4 6 rfl rfl)
theorem dX1_letsAllGo_102 : decode cX1_letsAllGo 102 = .ok (.invokevirtual 184, 3) := dk_182 0 184 (dk_at dksX1_letsAllGo_4 7 rfl rfl)
theorem dX1_letsAllGo_105 : decode cX1_letsAllGo 105 = .ok (.goto 4, 3) := dk_167 0 4 (dk_at dksX1_letsAllGo_4 10 rfl rfl)
theorem dX1_letsAllGo_108 : decode cX1_letsAllGo 108 = .ok (.iconst 0, 1) := dk_3 (dk_at dksX1_letsAllGo_4 13 rfl rfl)
theorem dX1_letsAllGo_109 : decode cX1_letsAllGo 109 = .ok (.iadd, 1) := dk_96 (dk_at dksX1_letsAllGo_4 14 rfl rfl)
theorem dX1_letsAllGo_110 : decode cX1_letsAllGo 110 = .ok (.istore 5, 2) := dk_54 5 (dk_at dksX1_letsAllGo_4 15 rfl rfl)
theorem dX1_letsAllGo_112 : decode cX1_letsAllGo 112 = .ok (.iinc 6 1, 3) := dk_132 6 1 (dk_at dksX1_letsAllGo_4 17 rfl rfl)
theorem dX1_letsAllGo_115 : decode cX1_letsAllGo 115 = .ok (.goto (-34), 3) := dk_167 255 222 (dk_at dksX1_letsAllGo_4 20 rfl rfl)
theorem dX1_letsAllGo_118 : decode cX1_letsAllGo 118 = .ok (.iload 5, 2) := dk_21 5 (dk_at dksX1_letsAllGo_5 0 rfl rfl)
theorem dX1_letsAllGo_120 : decode cX1_letsAllGo 120 = .ok (.ireturn, 1) := dk_172 (dk_at dksX1_letsAllGo_5 2 rfl rfl)
abbrev cX1_waitsNoMore : ByteArray := prog_5_method_12_code
def yX1_waitsNoMore : MethodName := ⟨RX1, "waitsNoMore", "(I)I"⟩
def dkwX1_waitsNoMore_2 : List UInt8 := [180, 0, 111, 27, 160, 255, 234, 45, 185, 0, 143, 1, 0, 167, 255, 225, 28, 172]
abbrev dktX1_waitsNoMore_2 : List UInt8 := dkwX1_waitsNoMore_2 ++ []
def dkwX1_waitsNoMore_1 : List UInt8 := [182, 0, 53, 78, 45, 185, 0, 57, 1, 0, 153, 0, 28, 45, 185, 0, 63, 1, 0, 192, 0, 67]
abbrev dktX1_waitsNoMore_1 : List UInt8 := dkwX1_waitsNoMore_1 ++ dktX1_waitsNoMore_2
def dkwX1_waitsNoMore_0 : List UInt8 := [42, 27, 182, 0, 140, 61, 28, 16, 241, 159, 0, 52, 42, 180, 0, 21, 28, 182, 0, 49, 192, 0, 41]
abbrev dktX1_waitsNoMore_0 : List UInt8 := dkwX1_waitsNoMore_0 ++ dktX1_waitsNoMore_1
theorem dksX1_waitsNoMore_0 : cX1_waitsNoMore.data.toList.drop 0 = dktX1_waitsNoMore_0 := by decide +kernel
theorem dksX1_waitsNoMore_1 : cX1_waitsNoMore.data.toList.drop 23 = dktX1_waitsNoMore_1 := dk_seg dksX1_waitsNoMore_0 23 rfl rfl
theorem dksX1_waitsNoMore_2 : cX1_waitsNoMore.data.toList.drop 45 = dktX1_waitsNoMore_2 := dk_seg dksX1_waitsNoMore_1 22 rfl rfl
theorem dX1_waitsNoMore_0 : decode cX1_waitsNoMore 0 = .ok (.aload_n 0, 1) := dk_42 (dk_at dksX1_waitsNoMore_0 0 rfl rfl)
theorem dX1_waitsNoMore_1 : decode cX1_waitsNoMore 1 = .ok (.iload_n 1, 1) := dk_27 (dk_at dksX1_waitsNoMore_0 1 rfl rfl)
theorem dX1_waitsNoMore_2 : decode cX1_waitsNoMore 2 = .ok (.invokevirtual 140, 3) := dk_182 0 140 (dk_at dksX1_waitsNoMore_0 2 rfl rfl)
theorem dX1_waitsNoMore_5 : decode cX1_waitsNoMore 5 = .ok (.istore_n 2, 1) := dk_61 (dk_at dksX1_waitsNoMore_0 5 rfl rfl)
theorem dX1_waitsNoMore_6 : decode cX1_waitsNoMore 6 = .ok (.iload_n 2, 1) := dk_28 (dk_at dksX1_waitsNoMore_0 6 rfl rfl)
theorem dX1_waitsNoMore_7 : decode cX1_waitsNoMore 7 = .ok (.bipush (-15), 2) := dk_16 241 (dk_at dksX1_waitsNoMore_0 7 rfl rfl)
theorem dX1_waitsNoMore_9 : decode cX1_waitsNoMore 9 = .ok (.if_icmp .eq 52, 3) := dk_159 0 52 (dk_at dksX1_waitsNoMore_0 9 rfl rfl)
theorem dX1_waitsNoMore_12 : decode cX1_waitsNoMore 12 = .ok (.aload_n 0, 1) := dk_42 (dk_at dksX1_waitsNoMore_0 12 rfl rfl)
theorem dX1_waitsNoMore_13 : decode cX1_waitsNoMore 13 = .ok (.getfield 21, 3) := dk_180 0 21 (dk_at dksX1_waitsNoMore_0 13 rfl rfl)
theorem dX1_waitsNoMore_16 : decode cX1_waitsNoMore 16 = .ok (.iload_n 2, 1) := dk_28 (dk_at dksX1_waitsNoMore_0 16 rfl rfl)
theorem dX1_waitsNoMore_17 : decode cX1_waitsNoMore 17 = .ok (.invokevirtual 49, 3) := dk_182 0 49 (dk_at dksX1_waitsNoMore_0 17 rfl rfl)
theorem dX1_waitsNoMore_20 : decode cX1_waitsNoMore 20 = .ok (.checkcast 41, 3) := dk_192 0 41 (dk_at dksX1_waitsNoMore_0 20 rfl rfl)
theorem dX1_waitsNoMore_23 : decode cX1_waitsNoMore 23 = .ok (.invokevirtual 53, 3) := dk_182 0 53 (dk_at dksX1_waitsNoMore_1 0 rfl rfl)
theorem dX1_waitsNoMore_26 : decode cX1_waitsNoMore 26 = .ok (.astore_n 3, 1) := dk_78 (dk_at dksX1_waitsNoMore_1 3 rfl rfl)
theorem dX1_waitsNoMore_27 : decode cX1_waitsNoMore 27 = .ok (.aload_n 3, 1) := dk_45 (dk_at dksX1_waitsNoMore_1 4 rfl rfl)
theorem dX1_waitsNoMore_28 : decode cX1_waitsNoMore 28 = .ok (.invokeinterface 57 1, 5) := by decide +kernel
theorem dX1_waitsNoMore_33 : decode cX1_waitsNoMore 33 = .ok (.ifCond .eq 28, 3) := dk_153 0 28 (dk_at dksX1_waitsNoMore_1 10 rfl rfl)
theorem dX1_waitsNoMore_36 : decode cX1_waitsNoMore 36 = .ok (.aload_n 3, 1) := dk_45 (dk_at dksX1_waitsNoMore_1 13 rfl rfl)
theorem dX1_waitsNoMore_37 : decode cX1_waitsNoMore 37 = .ok (.invokeinterface 63 1, 5) := by decide +kernel
theorem dX1_waitsNoMore_42 : decode cX1_waitsNoMore 42 = .ok (.checkcast 67, 3) := dk_192 0 67 (dk_at dksX1_waitsNoMore_1 19 rfl rfl)
theorem dX1_waitsNoMore_45 : decode cX1_waitsNoMore 45 = .ok (.getfield 111, 3) := dk_180 0 111 (dk_at dksX1_waitsNoMore_2 0 rfl rfl)
theorem dX1_waitsNoMore_48 : decode cX1_waitsNoMore 48 = .ok (.iload_n 1, 1) := dk_27 (dk_at dksX1_waitsNoMore_2 3 rfl rfl)
theorem dX1_waitsNoMore_49 : decode cX1_waitsNoMore 49 = .ok (.if_icmp .ne (-22), 3) := dk_160 255 234 (dk_at dksX1_waitsNoMore_2 4 rfl rfl)
theorem dX1_waitsNoMore_52 : decode cX1_waitsNoMore 52 = .ok (.aload_n 3, 1) := dk_45 (dk_at dksX1_waitsNoMore_2 7 rfl rfl)
theorem dX1_waitsNoMore_53 : decode cX1_waitsNoMore 53 = .ok (.invokeinterface 143 1, 5) := by decide +kernel
theorem dX1_waitsNoMore_58 : decode cX1_waitsNoMore 58 = .ok (.goto (-31), 3) := dk_167 255 225 (dk_at dksX1_waitsNoMore_2 13 rfl rfl)
theorem dX1_waitsNoMore_61 : decode cX1_waitsNoMore 61 = .ok (.iload_n 2, 1) := dk_28 (dk_at dksX1_waitsNoMore_2 16 rfl rfl)
theorem dX1_waitsNoMore_62 : decode cX1_waitsNoMore 62 = .ok (.ireturn, 1) := dk_172 (dk_at dksX1_waitsNoMore_2 17 rfl rfl)
abbrev cX1_serves : ByteArray := prog_5_method_9_code
def yX1_serves : MethodName := ⟨RX1, "serves", "(I[LLarderLocks$Fit;)I"⟩
def dkwX1_serves_2 : List UInt8 := [182, 0, 136, 132, 4, 1, 167, 255, 218, 21, 4, 172]
abbrev dktX1_serves_2 : List UInt8 := dkwX1_serves_2 ++ []
def dkwX1_serves_1 : List UInt8 := [45, 182, 0, 126, 192, 0, 67, 44, 182, 0, 129, 153, 0, 21, 42, 27, 45, 182, 0, 133, 192, 0, 67]
abbrev dktX1_serves_1 : List UInt8 := dkwX1_serves_1 ++ dktX1_serves_2
def dkwX1_serves_0 : List UInt8 := [42, 180, 0, 21, 27, 182, 0, 49, 192, 0, 41, 78, 3, 54, 4, 45, 182, 0, 123, 154, 0, 37, 42, 27]
abbrev dktX1_serves_0 : List UInt8 := dkwX1_serves_0 ++ dktX1_serves_1
theorem dksX1_serves_0 : cX1_serves.data.toList.drop 0 = dktX1_serves_0 := by decide +kernel
theorem dksX1_serves_1 : cX1_serves.data.toList.drop 24 = dktX1_serves_1 := dk_seg dksX1_serves_0 24 rfl rfl
theorem dksX1_serves_2 : cX1_serves.data.toList.drop 47 = dktX1_serves_2 := dk_seg dksX1_serves_1 23 rfl rfl
theorem dX1_serves_0 : decode cX1_serves 0 = .ok (.aload_n 0, 1) := dk_42 (dk_at dksX1_serves_0 0 rfl rfl)
theorem dX1_serves_1 : decode cX1_serves 1 = .ok (.getfield 21, 3) := dk_180 0 21 (dk_at dksX1_serves_0 1 rfl rfl)
theorem dX1_serves_4 : decode cX1_serves 4 = .ok (.iload_n 1, 1) := dk_27 (dk_at dksX1_serves_0 4 rfl rfl)
theorem dX1_serves_5 : decode cX1_serves 5 = .ok (.invokevirtual 49, 3) := dk_182 0 49 (dk_at dksX1_serves_0 5 rfl rfl)
theorem dX1_serves_8 : decode cX1_serves 8 = .ok (.checkcast 41, 3) := dk_192 0 41 (dk_at dksX1_serves_0 8 rfl rfl)
theorem dX1_serves_11 : decode cX1_serves 11 = .ok (.astore_n 3, 1) := dk_78 (dk_at dksX1_serves_0 11 rfl rfl)
theorem dX1_serves_12 : decode cX1_serves 12 = .ok (.iconst 0, 1) := dk_3 (dk_at dksX1_serves_0 12 rfl rfl)
theorem dX1_serves_13 : decode cX1_serves 13 = .ok (.istore 4, 2) := dk_54 4 (dk_at dksX1_serves_0 13 rfl rfl)
theorem dX1_serves_15 : decode cX1_serves 15 = .ok (.aload_n 3, 1) := dk_45 (dk_at dksX1_serves_0 15 rfl rfl)
theorem dX1_serves_16 : decode cX1_serves 16 = .ok (.invokevirtual 123, 3) := dk_182 0 123 (dk_at dksX1_serves_0 16 rfl rfl)
theorem dX1_serves_19 : decode cX1_serves 19 = .ok (.ifCond .ne 37, 3) := dk_154 0 37 (dk_at dksX1_serves_0 19 rfl rfl)
theorem dX1_serves_22 : decode cX1_serves 22 = .ok (.aload_n 0, 1) := dk_42 (dk_at dksX1_serves_0 22 rfl rfl)
theorem dX1_serves_23 : decode cX1_serves 23 = .ok (.iload_n 1, 1) := dk_27 (dk_at dksX1_serves_0 23 rfl rfl)
theorem dX1_serves_24 : decode cX1_serves 24 = .ok (.aload_n 3, 1) := dk_45 (dk_at dksX1_serves_1 0 rfl rfl)
theorem dX1_serves_25 : decode cX1_serves 25 = .ok (.invokevirtual 126, 3) := dk_182 0 126 (dk_at dksX1_serves_1 1 rfl rfl)
theorem dX1_serves_28 : decode cX1_serves 28 = .ok (.checkcast 67, 3) := dk_192 0 67 (dk_at dksX1_serves_1 4 rfl rfl)
theorem dX1_serves_31 : decode cX1_serves 31 = .ok (.aload_n 2, 1) := dk_44 (dk_at dksX1_serves_1 7 rfl rfl)
theorem dX1_serves_32 : decode cX1_serves 32 = .ok (.invokevirtual 129, 3) := dk_182 0 129 (dk_at dksX1_serves_1 8 rfl rfl)
theorem dX1_serves_35 : decode cX1_serves 35 = .ok (.ifCond .eq 21, 3) := dk_153 0 21 (dk_at dksX1_serves_1 11 rfl rfl)
theorem dX1_serves_38 : decode cX1_serves 38 = .ok (.aload_n 0, 1) := dk_42 (dk_at dksX1_serves_1 14 rfl rfl)
theorem dX1_serves_39 : decode cX1_serves 39 = .ok (.iload_n 1, 1) := dk_27 (dk_at dksX1_serves_1 15 rfl rfl)
theorem dX1_serves_40 : decode cX1_serves 40 = .ok (.aload_n 3, 1) := dk_45 (dk_at dksX1_serves_1 16 rfl rfl)
theorem dX1_serves_41 : decode cX1_serves 41 = .ok (.invokevirtual 133, 3) := dk_182 0 133 (dk_at dksX1_serves_1 17 rfl rfl)
theorem dX1_serves_44 : decode cX1_serves 44 = .ok (.checkcast 67, 3) := dk_192 0 67 (dk_at dksX1_serves_1 20 rfl rfl)
theorem dX1_serves_47 : decode cX1_serves 47 = .ok (.invokevirtual 136, 3) := dk_182 0 136 (dk_at dksX1_serves_2 0 rfl rfl)
theorem dX1_serves_50 : decode cX1_serves 50 = .ok (.iinc 4 1, 3) := dk_132 4 1 (dk_at dksX1_serves_2 3 rfl rfl)
theorem dX1_serves_53 : decode cX1_serves 53 = .ok (.goto (-38), 3) := dk_167 255 218 (dk_at dksX1_serves_2 6 rfl rfl)
theorem dX1_serves_56 : decode cX1_serves 56 = .ok (.iload 4, 2) := dk_21 4 (dk_at dksX1_serves_2 9 rfl rfl)
theorem dX1_serves_58 : decode cX1_serves 58 = .ok (.ireturn, 1) := dk_172 (dk_at dksX1_serves_2 11 rfl rfl)
abbrev cX1_frees : ByteArray := prog_5_method_18_code
def yX1_frees : MethodName := ⟨RX1, "frees", "(II[LLarderLocks$Fit;)I"⟩
def dkwX1_frees_2 : List UInt8 := [28, 45, 182, 0, 184, 172]
abbrev dktX1_frees_2 : List UInt8 := dkwX1_frees_2 ++ []
def dkwX1_frees_1 : List UInt8 := [182, 0, 140, 28, 160, 0, 10, 42, 27, 182, 0, 181, 54, 4, 42, 180, 0, 11, 27, 50, 28, 3, 86, 42]
abbrev dktX1_frees_1 : List UInt8 := dkwX1_frees_1 ++ dktX1_frees_2
def dkwX1_frees_0 : List UInt8 := [42, 180, 0, 11, 27, 50, 28, 53, 154, 0, 7, 4, 167, 0, 4, 3, 7, 28, 184, 0, 160, 42, 27]
abbrev dktX1_frees_0 : List UInt8 := dkwX1_frees_0 ++ dktX1_frees_1
theorem dksX1_frees_0 : cX1_frees.data.toList.drop 0 = dktX1_frees_0 := by decide +kernel
theorem dksX1_frees_1 : cX1_frees.data.toList.drop 23 = dktX1_frees_1 := dk_seg dksX1_frees_0 23 rfl rfl
theorem dksX1_frees_2 : cX1_frees.data.toList.drop 47 = dktX1_frees_2 := dk_seg dksX1_frees_1 24 rfl rfl
theorem dX1_frees_0 : decode cX1_frees 0 = .ok (.aload_n 0, 1) := dk_42 (dk_at dksX1_frees_0 0 rfl rfl)
theorem dX1_frees_1 : decode cX1_frees 1 = .ok (.getfield 11, 3) := dk_180 0 11 (dk_at dksX1_frees_0 1 rfl rfl)
theorem dX1_frees_4 : decode cX1_frees 4 = .ok (.iload_n 1, 1) := dk_27 (dk_at dksX1_frees_0 4 rfl rfl)
theorem dX1_frees_5 : decode cX1_frees 5 = .ok (.aaload, 1) := dk_50 (dk_at dksX1_frees_0 5 rfl rfl)
theorem dX1_frees_6 : decode cX1_frees 6 = .ok (.iload_n 2, 1) := dk_28 (dk_at dksX1_frees_0 6 rfl rfl)
theorem dX1_frees_7 : decode cX1_frees 7 = .ok (.saload, 1) := dk_53 (dk_at dksX1_frees_0 7 rfl rfl)
theorem dX1_frees_8 : decode cX1_frees 8 = .ok (.ifCond .ne 7, 3) := dk_154 0 7 (dk_at dksX1_frees_0 8 rfl rfl)
theorem dX1_frees_11 : decode cX1_frees 11 = .ok (.iconst 1, 1) := dk_4 (dk_at dksX1_frees_0 11 rfl rfl)
theorem dX1_frees_12 : decode cX1_frees 12 = .ok (.goto 4, 3) := dk_167 0 4 (dk_at dksX1_frees_0 12 rfl rfl)
theorem dX1_frees_15 : decode cX1_frees 15 = .ok (.iconst 0, 1) := dk_3 (dk_at dksX1_frees_0 15 rfl rfl)
theorem dX1_frees_16 : decode cX1_frees 16 = .ok (.iconst 4, 1) := dk_7 (dk_at dksX1_frees_0 16 rfl rfl)
theorem dX1_frees_17 : decode cX1_frees 17 = .ok (.iload_n 2, 1) := dk_28 (dk_at dksX1_frees_0 17 rfl rfl)
theorem dX1_frees_18 : decode cX1_frees 18 = .ok (.invokestatic 160, 3) := dk_184 0 160 (dk_at dksX1_frees_0 18 rfl rfl)
theorem dX1_frees_21 : decode cX1_frees 21 = .ok (.aload_n 0, 1) := dk_42 (dk_at dksX1_frees_0 21 rfl rfl)
theorem dX1_frees_22 : decode cX1_frees 22 = .ok (.iload_n 1, 1) := dk_27 (dk_at dksX1_frees_0 22 rfl rfl)
theorem dX1_frees_23 : decode cX1_frees 23 = .ok (.invokevirtual 140, 3) := dk_182 0 140 (dk_at dksX1_frees_1 0 rfl rfl)
theorem dX1_frees_26 : decode cX1_frees 26 = .ok (.iload_n 2, 1) := dk_28 (dk_at dksX1_frees_1 3 rfl rfl)
theorem dX1_frees_27 : decode cX1_frees 27 = .ok (.if_icmp .ne 10, 3) := dk_160 0 10 (dk_at dksX1_frees_1 4 rfl rfl)
theorem dX1_frees_30 : decode cX1_frees 30 = .ok (.aload_n 0, 1) := dk_42 (dk_at dksX1_frees_1 7 rfl rfl)
theorem dX1_frees_31 : decode cX1_frees 31 = .ok (.iload_n 1, 1) := dk_27 (dk_at dksX1_frees_1 8 rfl rfl)
theorem dX1_frees_32 : decode cX1_frees 32 = .ok (.invokevirtual 181, 3) := dk_182 0 181 (dk_at dksX1_frees_1 9 rfl rfl)
theorem dX1_frees_35 : decode cX1_frees 35 = .ok (.istore 4, 2) := dk_54 4 (dk_at dksX1_frees_1 12 rfl rfl)
theorem dX1_frees_37 : decode cX1_frees 37 = .ok (.aload_n 0, 1) := dk_42 (dk_at dksX1_frees_1 14 rfl rfl)
theorem dX1_frees_38 : decode cX1_frees 38 = .ok (.getfield 11, 3) := dk_180 0 11 (dk_at dksX1_frees_1 15 rfl rfl)
theorem dX1_frees_41 : decode cX1_frees 41 = .ok (.iload_n 1, 1) := dk_27 (dk_at dksX1_frees_1 18 rfl rfl)
theorem dX1_frees_42 : decode cX1_frees 42 = .ok (.aaload, 1) := dk_50 (dk_at dksX1_frees_1 19 rfl rfl)
theorem dX1_frees_43 : decode cX1_frees 43 = .ok (.iload_n 2, 1) := dk_28 (dk_at dksX1_frees_1 20 rfl rfl)
theorem dX1_frees_44 : decode cX1_frees 44 = .ok (.iconst 0, 1) := dk_3 (dk_at dksX1_frees_1 21 rfl rfl)
theorem dX1_frees_45 : decode cX1_frees 45 = .ok (.sastore, 1) := dk_86 (dk_at dksX1_frees_1 22 rfl rfl)
theorem dX1_frees_46 : decode cX1_frees 46 = .ok (.aload_n 0, 1) := dk_42 (dk_at dksX1_frees_1 23 rfl rfl)
theorem dX1_frees_47 : decode cX1_frees 47 = .ok (.iload_n 2, 1) := dk_28 (dk_at dksX1_frees_2 0 rfl rfl)
theorem dX1_frees_48 : decode cX1_frees 48 = .ok (.aload_n 3, 1) := dk_45 (dk_at dksX1_frees_2 1 rfl rfl)
theorem dX1_frees_49 : decode cX1_frees 49 = .ok (.invokevirtual 184, 3) := dk_182 0 184 (dk_at dksX1_frees_2 2 rfl rfl)
theorem dX1_frees_52 : decode cX1_frees 52 = .ok (.ireturn, 1) := dk_172 (dk_at dksX1_frees_2 5 rfl rfl)
abbrev cX1_ends : ByteArray := prog_5_method_19_code
def yX1_ends : MethodName := ⟨RX1, "ends", "(I[LLarderLocks$Fit;)I"⟩
def dkwX1_ends_1 : List UInt8 := [180, 0, 80, 4, 96, 181, 0, 80, 29, 172]
abbrev dktX1_ends_1 : List UInt8 := dkwX1_ends_1 ++ []
def dkwX1_ends_0 : List UInt8 := [42, 27, 44, 182, 0, 177, 62, 42, 89, 180, 0, 73, 4, 27, 120, 2, 130, 126, 181, 0, 73, 42, 89]
abbrev dktX1_ends_0 : List UInt8 := dkwX1_ends_0 ++ dktX1_ends_1
theorem dksX1_ends_0 : cX1_ends.data.toList.drop 0 = dktX1_ends_0 := by decide +kernel
theorem dksX1_ends_1 : cX1_ends.data.toList.drop 23 = dktX1_ends_1 := dk_seg dksX1_ends_0 23 rfl rfl
theorem dX1_ends_0 : decode cX1_ends 0 = .ok (.aload_n 0, 1) := dk_42 (dk_at dksX1_ends_0 0 rfl rfl)
theorem dX1_ends_1 : decode cX1_ends 1 = .ok (.iload_n 1, 1) := dk_27 (dk_at dksX1_ends_0 1 rfl rfl)
theorem dX1_ends_2 : decode cX1_ends 2 = .ok (.aload_n 2, 1) := dk_44 (dk_at dksX1_ends_0 2 rfl rfl)
theorem dX1_ends_3 : decode cX1_ends 3 = .ok (.invokevirtual 177, 3) := dk_182 0 177 (dk_at dksX1_ends_0 3 rfl rfl)
theorem dX1_ends_6 : decode cX1_ends 6 = .ok (.istore_n 3, 1) := dk_62 (dk_at dksX1_ends_0 6 rfl rfl)
theorem dX1_ends_7 : decode cX1_ends 7 = .ok (.aload_n 0, 1) := dk_42 (dk_at dksX1_ends_0 7 rfl rfl)
theorem dX1_ends_8 : decode cX1_ends 8 = .ok (.dup, 1) := dk_89 (dk_at dksX1_ends_0 8 rfl rfl)
theorem dX1_ends_9 : decode cX1_ends 9 = .ok (.getfield 73, 3) := dk_180 0 73 (dk_at dksX1_ends_0 9 rfl rfl)
theorem dX1_ends_12 : decode cX1_ends 12 = .ok (.iconst 1, 1) := dk_4 (dk_at dksX1_ends_0 12 rfl rfl)
theorem dX1_ends_13 : decode cX1_ends 13 = .ok (.iload_n 1, 1) := dk_27 (dk_at dksX1_ends_0 13 rfl rfl)
theorem dX1_ends_14 : decode cX1_ends 14 = .ok (.ishl, 1) := dk_120 (dk_at dksX1_ends_0 14 rfl rfl)
theorem dX1_ends_15 : decode cX1_ends 15 = .ok (.iconst (-1), 1) := dk_2 (dk_at dksX1_ends_0 15 rfl rfl)
theorem dX1_ends_16 : decode cX1_ends 16 = .ok (.ixor, 1) := dk_130 (dk_at dksX1_ends_0 16 rfl rfl)
theorem dX1_ends_17 : decode cX1_ends 17 = .ok (.iand, 1) := dk_126 (dk_at dksX1_ends_0 17 rfl rfl)
theorem dX1_ends_18 : decode cX1_ends 18 = .ok (.putfield 73, 3) := dk_181 0 73 (dk_at dksX1_ends_0 18 rfl rfl)
theorem dX1_ends_21 : decode cX1_ends 21 = .ok (.aload_n 0, 1) := dk_42 (dk_at dksX1_ends_0 21 rfl rfl)
theorem dX1_ends_22 : decode cX1_ends 22 = .ok (.dup, 1) := dk_89 (dk_at dksX1_ends_0 22 rfl rfl)
theorem dX1_ends_23 : decode cX1_ends 23 = .ok (.getfield 80, 3) := dk_180 0 80 (dk_at dksX1_ends_1 0 rfl rfl)
theorem dX1_ends_26 : decode cX1_ends 26 = .ok (.iconst 1, 1) := dk_4 (dk_at dksX1_ends_1 3 rfl rfl)
theorem dX1_ends_27 : decode cX1_ends 27 = .ok (.iadd, 1) := dk_96 (dk_at dksX1_ends_1 4 rfl rfl)
theorem dX1_ends_28 : decode cX1_ends 28 = .ok (.putfield 80, 3) := dk_181 0 80 (dk_at dksX1_ends_1 5 rfl rfl)
theorem dX1_ends_31 : decode cX1_ends 31 = .ok (.iload_n 3, 1) := dk_29 (dk_at dksX1_ends_1 8 rfl rfl)
theorem dX1_ends_32 : decode cX1_ends 32 = .ok (.ireturn, 1) := dk_172 (dk_at dksX1_ends_1 9 rfl rfl)
abbrev cX1_ofMaid : ByteArray := prog_5_method_30_code
def yX1_ofMaid : MethodName := ⟨RX1, "ofMaid", "(II)I"⟩
def dkwX1_ofMaid_4 : List UInt8 := [167, 0, 14, 42, 180, 0, 32, 27, 46, 167, 0, 5, 16, 244, 172]
abbrev dktX1_ofMaid_4 : List UInt8 := dkwX1_ofMaid_4 ++ []
def dkwX1_ofMaid_3 : List UInt8 := [42, 180, 0, 25, 27, 46, 167, 0, 31, 42, 27, 182, 0, 191, 167, 0, 23, 42, 180, 0, 29, 27, 46]
abbrev dktX1_ofMaid_3 : List UInt8 := dkwX1_ofMaid_3 ++ dktX1_ofMaid_4
def dkwX1_ofMaid_2 : List UInt8 := [42, 27, 182, 0, 215, 167, 0, 56, 42, 27, 182, 0, 140, 167, 0, 48, 42, 27, 182, 0, 218, 167, 0, 40]
abbrev dktX1_ofMaid_2 : List UInt8 := dkwX1_ofMaid_2 ++ dktX1_ofMaid_3
def dkwX1_ofMaid_1 : List UInt8 := [170, 0, 0, 0, 0, 0, 102, 0, 0, 0, 0, 0, 0, 0, 6, 0, 0, 0, 43, 0, 0, 0, 51, 0, 0, 0, 59, 0, 0, 0, 67, 0, 0, 0, 76, 0, 0, 0, 84, 0, 0, 0, 93]
abbrev dktX1_ofMaid_1 : List UInt8 := dkwX1_ofMaid_1 ++ dktX1_ofMaid_2
def dkwX1_ofMaid_0 : List UInt8 := [28]
abbrev dktX1_ofMaid_0 : List UInt8 := dkwX1_ofMaid_0 ++ dktX1_ofMaid_1
theorem dksX1_ofMaid_0 : cX1_ofMaid.data.toList.drop 0 = dktX1_ofMaid_0 := by decide +kernel
theorem dksX1_ofMaid_1 : cX1_ofMaid.data.toList.drop 1 = dktX1_ofMaid_1 := dk_seg dksX1_ofMaid_0 1 rfl rfl
theorem dksX1_ofMaid_2 : cX1_ofMaid.data.toList.drop 44 = dktX1_ofMaid_2 := dk_seg dksX1_ofMaid_1 43 rfl rfl
theorem dksX1_ofMaid_3 : cX1_ofMaid.data.toList.drop 68 = dktX1_ofMaid_3 := dk_seg dksX1_ofMaid_2 24 rfl rfl
theorem dksX1_ofMaid_4 : cX1_ofMaid.data.toList.drop 91 = dktX1_ofMaid_4 := dk_seg dksX1_ofMaid_3 23 rfl rfl
theorem dX1_ofMaid_0 : decode cX1_ofMaid 0 = .ok (.iload_n 2, 1) := dk_28 (dk_at dksX1_ofMaid_0 0 rfl rfl)
theorem dX1_ofMaid_1 : decode cX1_ofMaid 1 = .ok (.tableswitch 102 0 6 #[43, 51, 59, 67, 76, 84, 93], 43) := by decide +kernel
theorem dX1_ofMaid_44 : decode cX1_ofMaid 44 = .ok (.aload_n 0, 1) := dk_42 (dk_at dksX1_ofMaid_2 0 rfl rfl)
theorem dX1_ofMaid_45 : decode cX1_ofMaid 45 = .ok (.iload_n 1, 1) := dk_27 (dk_at dksX1_ofMaid_2 1 rfl rfl)
theorem dX1_ofMaid_46 : decode cX1_ofMaid 46 = .ok (.invokevirtual 215, 3) := dk_182 0 215 (dk_at dksX1_ofMaid_2 2 rfl rfl)
theorem dX1_ofMaid_49 : decode cX1_ofMaid 49 = .ok (.goto 56, 3) := dk_167 0 56 (dk_at dksX1_ofMaid_2 5 rfl rfl)
theorem dX1_ofMaid_52 : decode cX1_ofMaid 52 = .ok (.aload_n 0, 1) := dk_42 (dk_at dksX1_ofMaid_2 8 rfl rfl)
theorem dX1_ofMaid_53 : decode cX1_ofMaid 53 = .ok (.iload_n 1, 1) := dk_27 (dk_at dksX1_ofMaid_2 9 rfl rfl)
theorem dX1_ofMaid_54 : decode cX1_ofMaid 54 = .ok (.invokevirtual 140, 3) := dk_182 0 140 (dk_at dksX1_ofMaid_2 10 rfl rfl)
theorem dX1_ofMaid_57 : decode cX1_ofMaid 57 = .ok (.goto 48, 3) := dk_167 0 48 (dk_at dksX1_ofMaid_2 13 rfl rfl)
theorem dX1_ofMaid_60 : decode cX1_ofMaid 60 = .ok (.aload_n 0, 1) := dk_42 (dk_at dksX1_ofMaid_2 16 rfl rfl)
theorem dX1_ofMaid_61 : decode cX1_ofMaid 61 = .ok (.iload_n 1, 1) := dk_27 (dk_at dksX1_ofMaid_2 17 rfl rfl)
theorem dX1_ofMaid_62 : decode cX1_ofMaid 62 = .ok (.invokevirtual 218, 3) := dk_182 0 218 (dk_at dksX1_ofMaid_2 18 rfl rfl)
theorem dX1_ofMaid_65 : decode cX1_ofMaid 65 = .ok (.goto 40, 3) := dk_167 0 40 (dk_at dksX1_ofMaid_2 21 rfl rfl)
theorem dX1_ofMaid_68 : decode cX1_ofMaid 68 = .ok (.aload_n 0, 1) := dk_42 (dk_at dksX1_ofMaid_3 0 rfl rfl)
theorem dX1_ofMaid_69 : decode cX1_ofMaid 69 = .ok (.getfield 25, 3) := dk_180 0 25 (dk_at dksX1_ofMaid_3 1 rfl rfl)
theorem dX1_ofMaid_72 : decode cX1_ofMaid 72 = .ok (.iload_n 1, 1) := dk_27 (dk_at dksX1_ofMaid_3 4 rfl rfl)
theorem dX1_ofMaid_73 : decode cX1_ofMaid 73 = .ok (.iaload, 1) := dk_46 (dk_at dksX1_ofMaid_3 5 rfl rfl)
theorem dX1_ofMaid_74 : decode cX1_ofMaid 74 = .ok (.goto 31, 3) := dk_167 0 31 (dk_at dksX1_ofMaid_3 6 rfl rfl)
theorem dX1_ofMaid_77 : decode cX1_ofMaid 77 = .ok (.aload_n 0, 1) := dk_42 (dk_at dksX1_ofMaid_3 9 rfl rfl)
theorem dX1_ofMaid_78 : decode cX1_ofMaid 78 = .ok (.iload_n 1, 1) := dk_27 (dk_at dksX1_ofMaid_3 10 rfl rfl)
theorem dX1_ofMaid_79 : decode cX1_ofMaid 79 = .ok (.invokevirtual 191, 3) := dk_182 0 191 (dk_at dksX1_ofMaid_3 11 rfl rfl)
theorem dX1_ofMaid_82 : decode cX1_ofMaid 82 = .ok (.goto 23, 3) := dk_167 0 23 (dk_at dksX1_ofMaid_3 14 rfl rfl)
theorem dX1_ofMaid_85 : decode cX1_ofMaid 85 = .ok (.aload_n 0, 1) := dk_42 (dk_at dksX1_ofMaid_3 17 rfl rfl)
theorem dX1_ofMaid_86 : decode cX1_ofMaid 86 = .ok (.getfield 29, 3) := dk_180 0 29 (dk_at dksX1_ofMaid_3 18 rfl rfl)
theorem dX1_ofMaid_89 : decode cX1_ofMaid 89 = .ok (.iload_n 1, 1) := dk_27 (dk_at dksX1_ofMaid_3 21 rfl rfl)
theorem dX1_ofMaid_90 : decode cX1_ofMaid 90 = .ok (.iaload, 1) := dk_46 (dk_at dksX1_ofMaid_3 22 rfl rfl)
theorem dX1_ofMaid_91 : decode cX1_ofMaid 91 = .ok (.goto 14, 3) := dk_167 0 14 (dk_at dksX1_ofMaid_4 0 rfl rfl)
theorem dX1_ofMaid_94 : decode cX1_ofMaid 94 = .ok (.aload_n 0, 1) := dk_42 (dk_at dksX1_ofMaid_4 3 rfl rfl)
theorem dX1_ofMaid_95 : decode cX1_ofMaid 95 = .ok (.getfield 32, 3) := dk_180 0 32 (dk_at dksX1_ofMaid_4 4 rfl rfl)
theorem dX1_ofMaid_98 : decode cX1_ofMaid 98 = .ok (.iload_n 1, 1) := dk_27 (dk_at dksX1_ofMaid_4 7 rfl rfl)
theorem dX1_ofMaid_99 : decode cX1_ofMaid 99 = .ok (.iaload, 1) := dk_46 (dk_at dksX1_ofMaid_4 8 rfl rfl)
theorem dX1_ofMaid_100 : decode cX1_ofMaid 100 = .ok (.goto 5, 3) := dk_167 0 5 (dk_at dksX1_ofMaid_4 9 rfl rfl)
theorem dX1_ofMaid_103 : decode cX1_ofMaid 103 = .ok (.bipush (-12), 2) := dk_16 244 (dk_at dksX1_ofMaid_4 12 rfl rfl)
theorem dX1_ofMaid_105 : decode cX1_ofMaid 105 = .ok (.ireturn, 1) := dk_172 (dk_at dksX1_ofMaid_4 14 rfl rfl)
abbrev cX1_held : ByteArray := prog_5_method_28_code
def yX1_held : MethodName := ⟨RX1, "held", "(I)I"⟩
def dkwX1_held_2 : List UInt8 := [28, 172]
abbrev dktX1_held_2 : List UInt8 := dkwX1_held_2 ++ []
def dkwX1_held_1 : List UInt8 := [21, 5, 53, 54, 6, 28, 21, 6, 153, 0, 7, 4, 167, 0, 4, 3, 96, 61, 132, 5, 1, 167, 255, 227]
abbrev dktX1_held_1 : List UInt8 := dkwX1_held_1 ++ dktX1_held_2
def dkwX1_held_0 : List UInt8 := [3, 61, 42, 180, 0, 11, 27, 50, 78, 45, 190, 54, 4, 3, 54, 5, 21, 5, 21, 4, 162, 0, 28, 45]
abbrev dktX1_held_0 : List UInt8 := dkwX1_held_0 ++ dktX1_held_1
theorem dksX1_held_0 : cX1_held.data.toList.drop 0 = dktX1_held_0 := by decide +kernel
theorem dksX1_held_1 : cX1_held.data.toList.drop 24 = dktX1_held_1 := dk_seg dksX1_held_0 24 rfl rfl
theorem dksX1_held_2 : cX1_held.data.toList.drop 48 = dktX1_held_2 := dk_seg dksX1_held_1 24 rfl rfl
theorem dX1_held_0 : decode cX1_held 0 = .ok (.iconst 0, 1) := dk_3 (dk_at dksX1_held_0 0 rfl rfl)
theorem dX1_held_1 : decode cX1_held 1 = .ok (.istore_n 2, 1) := dk_61 (dk_at dksX1_held_0 1 rfl rfl)
theorem dX1_held_2 : decode cX1_held 2 = .ok (.aload_n 0, 1) := dk_42 (dk_at dksX1_held_0 2 rfl rfl)
theorem dX1_held_3 : decode cX1_held 3 = .ok (.getfield 11, 3) := dk_180 0 11 (dk_at dksX1_held_0 3 rfl rfl)
theorem dX1_held_6 : decode cX1_held 6 = .ok (.iload_n 1, 1) := dk_27 (dk_at dksX1_held_0 6 rfl rfl)
theorem dX1_held_7 : decode cX1_held 7 = .ok (.aaload, 1) := dk_50 (dk_at dksX1_held_0 7 rfl rfl)
theorem dX1_held_8 : decode cX1_held 8 = .ok (.astore_n 3, 1) := dk_78 (dk_at dksX1_held_0 8 rfl rfl)
theorem dX1_held_9 : decode cX1_held 9 = .ok (.aload_n 3, 1) := dk_45 (dk_at dksX1_held_0 9 rfl rfl)
theorem dX1_held_10 : decode cX1_held 10 = .ok (.arraylength, 1) := dk_190 (dk_at dksX1_held_0 10 rfl rfl)
theorem dX1_held_11 : decode cX1_held 11 = .ok (.istore 4, 2) := dk_54 4 (dk_at dksX1_held_0 11 rfl rfl)
theorem dX1_held_13 : decode cX1_held 13 = .ok (.iconst 0, 1) := dk_3 (dk_at dksX1_held_0 13 rfl rfl)
theorem dX1_held_14 : decode cX1_held 14 = .ok (.istore 5, 2) := dk_54 5 (dk_at dksX1_held_0 14 rfl rfl)
theorem dX1_held_16 : decode cX1_held 16 = .ok (.iload 5, 2) := dk_21 5 (dk_at dksX1_held_0 16 rfl rfl)
theorem dX1_held_18 : decode cX1_held 18 = .ok (.iload 4, 2) := dk_21 4 (dk_at dksX1_held_0 18 rfl rfl)
theorem dX1_held_20 : decode cX1_held 20 = .ok (.if_icmp .ge 28, 3) := dk_162 0 28 (dk_at dksX1_held_0 20 rfl rfl)
theorem dX1_held_23 : decode cX1_held 23 = .ok (.aload_n 3, 1) := dk_45 (dk_at dksX1_held_0 23 rfl rfl)
theorem dX1_held_24 : decode cX1_held 24 = .ok (.iload 5, 2) := dk_21 5 (dk_at dksX1_held_1 0 rfl rfl)
theorem dX1_held_26 : decode cX1_held 26 = .ok (.saload, 1) := dk_53 (dk_at dksX1_held_1 2 rfl rfl)
theorem dX1_held_27 : decode cX1_held 27 = .ok (.istore 6, 2) := dk_54 6 (dk_at dksX1_held_1 3 rfl rfl)
theorem dX1_held_29 : decode cX1_held 29 = .ok (.iload_n 2, 1) := dk_28 (dk_at dksX1_held_1 5 rfl rfl)
theorem dX1_held_30 : decode cX1_held 30 = .ok (.iload 6, 2) := dk_21 6 (dk_at dksX1_held_1 6 rfl rfl)
theorem dX1_held_32 : decode cX1_held 32 = .ok (.ifCond .eq 7, 3) := dk_153 0 7 (dk_at dksX1_held_1 8 rfl rfl)
theorem dX1_held_35 : decode cX1_held 35 = .ok (.iconst 1, 1) := dk_4 (dk_at dksX1_held_1 11 rfl rfl)
theorem dX1_held_36 : decode cX1_held 36 = .ok (.goto 4, 3) := dk_167 0 4 (dk_at dksX1_held_1 12 rfl rfl)
theorem dX1_held_39 : decode cX1_held 39 = .ok (.iconst 0, 1) := dk_3 (dk_at dksX1_held_1 15 rfl rfl)
theorem dX1_held_40 : decode cX1_held 40 = .ok (.iadd, 1) := dk_96 (dk_at dksX1_held_1 16 rfl rfl)
theorem dX1_held_41 : decode cX1_held 41 = .ok (.istore_n 2, 1) := dk_61 (dk_at dksX1_held_1 17 rfl rfl)
theorem dX1_held_42 : decode cX1_held 42 = .ok (.iinc 5 1, 3) := dk_132 5 1 (dk_at dksX1_held_1 18 rfl rfl)
theorem dX1_held_45 : decode cX1_held 45 = .ok (.goto (-29), 3) := dk_167 255 227 (dk_at dksX1_held_1 21 rfl rfl)
theorem dX1_held_48 : decode cX1_held 48 = .ok (.iload_n 2, 1) := dk_28 (dk_at dksX1_held_2 0 rfl rfl)
theorem dX1_held_49 : decode cX1_held 49 = .ok (.ireturn, 1) := dk_172 (dk_at dksX1_held_2 1 rfl rfl)
abbrev cX1_ahead : ByteArray := prog_5_method_29_code
def yX1_ahead : MethodName := ⟨RX1, "ahead", "(I)I"⟩
def dkwX1_ahead_2 : List UInt8 := [172]
abbrev dktX1_ahead_2 : List UInt8 := dkwX1_ahead_2 ++ []
def dkwX1_ahead_1 : List UInt8 := [192, 0, 41, 29, 182, 0, 214, 192, 0, 67, 180, 0, 111, 27, 159, 0, 9, 132, 3, 1, 167, 255, 222, 29]
abbrev dktX1_ahead_1 : List UInt8 := dkwX1_ahead_1 ++ dktX1_ahead_2
def dkwX1_ahead_0 : List UInt8 := [42, 27, 182, 0, 140, 61, 3, 62, 28, 16, 241, 159, 0, 34, 42, 180, 0, 21, 28, 182, 0, 49]
abbrev dktX1_ahead_0 : List UInt8 := dkwX1_ahead_0 ++ dktX1_ahead_1
theorem dksX1_ahead_0 : cX1_ahead.data.toList.drop 0 = dktX1_ahead_0 := by decide +kernel
theorem dksX1_ahead_1 : cX1_ahead.data.toList.drop 22 = dktX1_ahead_1 := dk_seg dksX1_ahead_0 22 rfl rfl
theorem dksX1_ahead_2 : cX1_ahead.data.toList.drop 46 = dktX1_ahead_2 := dk_seg dksX1_ahead_1 24 rfl rfl
theorem dX1_ahead_0 : decode cX1_ahead 0 = .ok (.aload_n 0, 1) := dk_42 (dk_at dksX1_ahead_0 0 rfl rfl)
theorem dX1_ahead_1 : decode cX1_ahead 1 = .ok (.iload_n 1, 1) := dk_27 (dk_at dksX1_ahead_0 1 rfl rfl)
theorem dX1_ahead_2 : decode cX1_ahead 2 = .ok (.invokevirtual 140, 3) := dk_182 0 140 (dk_at dksX1_ahead_0 2 rfl rfl)
theorem dX1_ahead_5 : decode cX1_ahead 5 = .ok (.istore_n 2, 1) := dk_61 (dk_at dksX1_ahead_0 5 rfl rfl)
theorem dX1_ahead_6 : decode cX1_ahead 6 = .ok (.iconst 0, 1) := dk_3 (dk_at dksX1_ahead_0 6 rfl rfl)
theorem dX1_ahead_7 : decode cX1_ahead 7 = .ok (.istore_n 3, 1) := dk_62 (dk_at dksX1_ahead_0 7 rfl rfl)
theorem dX1_ahead_8 : decode cX1_ahead 8 = .ok (.iload_n 2, 1) := dk_28 (dk_at dksX1_ahead_0 8 rfl rfl)
theorem dX1_ahead_9 : decode cX1_ahead 9 = .ok (.bipush (-15), 2) := dk_16 241 (dk_at dksX1_ahead_0 9 rfl rfl)
theorem dX1_ahead_11 : decode cX1_ahead 11 = .ok (.if_icmp .eq 34, 3) := dk_159 0 34 (dk_at dksX1_ahead_0 11 rfl rfl)
theorem dX1_ahead_14 : decode cX1_ahead 14 = .ok (.aload_n 0, 1) := dk_42 (dk_at dksX1_ahead_0 14 rfl rfl)
theorem dX1_ahead_15 : decode cX1_ahead 15 = .ok (.getfield 21, 3) := dk_180 0 21 (dk_at dksX1_ahead_0 15 rfl rfl)
theorem dX1_ahead_18 : decode cX1_ahead 18 = .ok (.iload_n 2, 1) := dk_28 (dk_at dksX1_ahead_0 18 rfl rfl)
theorem dX1_ahead_19 : decode cX1_ahead 19 = .ok (.invokevirtual 49, 3) := dk_182 0 49 (dk_at dksX1_ahead_0 19 rfl rfl)
theorem dX1_ahead_22 : decode cX1_ahead 22 = .ok (.checkcast 41, 3) := dk_192 0 41 (dk_at dksX1_ahead_1 0 rfl rfl)
theorem dX1_ahead_25 : decode cX1_ahead 25 = .ok (.iload_n 3, 1) := dk_29 (dk_at dksX1_ahead_1 3 rfl rfl)
theorem dX1_ahead_26 : decode cX1_ahead 26 = .ok (.invokevirtual 214, 3) := dk_182 0 214 (dk_at dksX1_ahead_1 4 rfl rfl)
theorem dX1_ahead_29 : decode cX1_ahead 29 = .ok (.checkcast 67, 3) := dk_192 0 67 (dk_at dksX1_ahead_1 7 rfl rfl)
theorem dX1_ahead_32 : decode cX1_ahead 32 = .ok (.getfield 111, 3) := dk_180 0 111 (dk_at dksX1_ahead_1 10 rfl rfl)
theorem dX1_ahead_35 : decode cX1_ahead 35 = .ok (.iload_n 1, 1) := dk_27 (dk_at dksX1_ahead_1 13 rfl rfl)
theorem dX1_ahead_36 : decode cX1_ahead 36 = .ok (.if_icmp .eq 9, 3) := dk_159 0 9 (dk_at dksX1_ahead_1 14 rfl rfl)
theorem dX1_ahead_39 : decode cX1_ahead 39 = .ok (.iinc 3 1, 3) := dk_132 3 1 (dk_at dksX1_ahead_1 17 rfl rfl)
theorem dX1_ahead_42 : decode cX1_ahead 42 = .ok (.goto (-34), 3) := dk_167 255 222 (dk_at dksX1_ahead_1 20 rfl rfl)
theorem dX1_ahead_45 : decode cX1_ahead 45 = .ok (.iload_n 3, 1) := dk_29 (dk_at dksX1_ahead_1 23 rfl rfl)
theorem dX1_ahead_46 : decode cX1_ahead 46 = .ok (.ireturn, 1) := dk_172 (dk_at dksX1_ahead_2 0 rfl rfl)
abbrev cX1_heldBy : ByteArray := prog_5_method_31_code
def yX1_heldBy : MethodName := ⟨RX1, "heldBy", "(II)I"⟩
def dkwX1_heldBy_1 : List UInt8 := [29, 28, 160, 0, 6, 21, 4, 172, 132, 3, 1, 132, 4, 1, 167, 255, 223, 16, 245, 172]
abbrev dktX1_heldBy_1 : List UInt8 := dkwX1_heldBy_1 ++ []
def dkwX1_heldBy_0 : List UInt8 := [3, 62, 3, 54, 4, 21, 4, 16, 8, 162, 0, 32, 42, 180, 0, 11, 27, 50, 21, 4, 53, 153, 0, 14]
abbrev dktX1_heldBy_0 : List UInt8 := dkwX1_heldBy_0 ++ dktX1_heldBy_1
theorem dksX1_heldBy_0 : cX1_heldBy.data.toList.drop 0 = dktX1_heldBy_0 := by decide +kernel
theorem dksX1_heldBy_1 : cX1_heldBy.data.toList.drop 24 = dktX1_heldBy_1 := dk_seg dksX1_heldBy_0 24 rfl rfl
theorem dX1_heldBy_0 : decode cX1_heldBy 0 = .ok (.iconst 0, 1) := dk_3 (dk_at dksX1_heldBy_0 0 rfl rfl)
theorem dX1_heldBy_1 : decode cX1_heldBy 1 = .ok (.istore_n 3, 1) := dk_62 (dk_at dksX1_heldBy_0 1 rfl rfl)
theorem dX1_heldBy_2 : decode cX1_heldBy 2 = .ok (.iconst 0, 1) := dk_3 (dk_at dksX1_heldBy_0 2 rfl rfl)
theorem dX1_heldBy_3 : decode cX1_heldBy 3 = .ok (.istore 4, 2) := dk_54 4 (dk_at dksX1_heldBy_0 3 rfl rfl)
theorem dX1_heldBy_5 : decode cX1_heldBy 5 = .ok (.iload 4, 2) := dk_21 4 (dk_at dksX1_heldBy_0 5 rfl rfl)
theorem dX1_heldBy_7 : decode cX1_heldBy 7 = .ok (.bipush 8, 2) := dk_16 8 (dk_at dksX1_heldBy_0 7 rfl rfl)
theorem dX1_heldBy_9 : decode cX1_heldBy 9 = .ok (.if_icmp .ge 32, 3) := dk_162 0 32 (dk_at dksX1_heldBy_0 9 rfl rfl)
theorem dX1_heldBy_12 : decode cX1_heldBy 12 = .ok (.aload_n 0, 1) := dk_42 (dk_at dksX1_heldBy_0 12 rfl rfl)
theorem dX1_heldBy_13 : decode cX1_heldBy 13 = .ok (.getfield 11, 3) := dk_180 0 11 (dk_at dksX1_heldBy_0 13 rfl rfl)
theorem dX1_heldBy_16 : decode cX1_heldBy 16 = .ok (.iload_n 1, 1) := dk_27 (dk_at dksX1_heldBy_0 16 rfl rfl)
theorem dX1_heldBy_17 : decode cX1_heldBy 17 = .ok (.aaload, 1) := dk_50 (dk_at dksX1_heldBy_0 17 rfl rfl)
theorem dX1_heldBy_18 : decode cX1_heldBy 18 = .ok (.iload 4, 2) := dk_21 4 (dk_at dksX1_heldBy_0 18 rfl rfl)
theorem dX1_heldBy_20 : decode cX1_heldBy 20 = .ok (.saload, 1) := dk_53 (dk_at dksX1_heldBy_0 20 rfl rfl)
theorem dX1_heldBy_21 : decode cX1_heldBy 21 = .ok (.ifCond .eq 14, 3) := dk_153 0 14 (dk_at dksX1_heldBy_0 21 rfl rfl)
theorem dX1_heldBy_24 : decode cX1_heldBy 24 = .ok (.iload_n 3, 1) := dk_29 (dk_at dksX1_heldBy_1 0 rfl rfl)
theorem dX1_heldBy_25 : decode cX1_heldBy 25 = .ok (.iload_n 2, 1) := dk_28 (dk_at dksX1_heldBy_1 1 rfl rfl)
theorem dX1_heldBy_26 : decode cX1_heldBy 26 = .ok (.if_icmp .ne 6, 3) := dk_160 0 6 (dk_at dksX1_heldBy_1 2 rfl rfl)
theorem dX1_heldBy_29 : decode cX1_heldBy 29 = .ok (.iload 4, 2) := dk_21 4 (dk_at dksX1_heldBy_1 5 rfl rfl)
theorem dX1_heldBy_31 : decode cX1_heldBy 31 = .ok (.ireturn, 1) := dk_172 (dk_at dksX1_heldBy_1 7 rfl rfl)
theorem dX1_heldBy_32 : decode cX1_heldBy 32 = .ok (.iinc 3 1, 3) := dk_132 3 1 (dk_at dksX1_heldBy_1 8 rfl rfl)
theorem dX1_heldBy_35 : decode cX1_heldBy 35 = .ok (.iinc 4 1, 3) := dk_132 4 1 (dk_at dksX1_heldBy_1 11 rfl rfl)
theorem dX1_heldBy_38 : decode cX1_heldBy 38 = .ok (.goto (-33), 3) := dk_167 255 223 (dk_at dksX1_heldBy_1 14 rfl rfl)
theorem dX1_heldBy_41 : decode cX1_heldBy 41 = .ok (.bipush (-11), 2) := dk_16 245 (dk_at dksX1_heldBy_1 17 rfl rfl)
theorem dX1_heldBy_43 : decode cX1_heldBy 43 = .ok (.ireturn, 1) := dk_172 (dk_at dksX1_heldBy_1 19 rfl rfl)
abbrev cX1_ofShelf : ByteArray := prog_5_method_35_code
def yX1_ofShelf : MethodName := ⟨RX1, "ofShelf", "(II)I"⟩
def dkwX1_ofShelf_4 : List UInt8 := [27, 46, 167, 0, 14, 42, 180, 0, 38, 27, 46, 167, 0, 5, 16, 244, 172]
abbrev dktX1_ofShelf_4 : List UInt8 := dkwX1_ofShelf_4 ++ []
def dkwX1_ofShelf_3 : List UInt8 := [182, 0, 49, 192, 0, 41, 182, 0, 146, 167, 0, 31, 42, 27, 182, 0, 224, 167, 0, 23, 42, 180, 0, 35]
abbrev dktX1_ofShelf_3 : List UInt8 := dkwX1_ofShelf_3 ++ dktX1_ofShelf_4
def dkwX1_ofShelf_2 : List UInt8 := [42, 27, 182, 0, 221, 167, 0, 58, 42, 27, 16, 245, 182, 0, 114, 167, 0, 48, 42, 180, 0, 21, 27]
abbrev dktX1_ofShelf_2 : List UInt8 := dkwX1_ofShelf_2 ++ dktX1_ofShelf_3
def dkwX1_ofShelf_1 : List UInt8 := [170, 0, 0, 0, 0, 0, 100, 0, 0, 0, 0, 0, 0, 0, 5, 0, 0, 0, 39, 0, 0, 0, 47, 0, 0, 0, 57, 0, 0, 0, 74, 0, 0, 0, 82, 0, 0, 0, 91]
abbrev dktX1_ofShelf_1 : List UInt8 := dkwX1_ofShelf_1 ++ dktX1_ofShelf_2
def dkwX1_ofShelf_0 : List UInt8 := [28]
abbrev dktX1_ofShelf_0 : List UInt8 := dkwX1_ofShelf_0 ++ dktX1_ofShelf_1
theorem dksX1_ofShelf_0 : cX1_ofShelf.data.toList.drop 0 = dktX1_ofShelf_0 := by decide +kernel
theorem dksX1_ofShelf_1 : cX1_ofShelf.data.toList.drop 1 = dktX1_ofShelf_1 := dk_seg dksX1_ofShelf_0 1 rfl rfl
theorem dksX1_ofShelf_2 : cX1_ofShelf.data.toList.drop 40 = dktX1_ofShelf_2 := dk_seg dksX1_ofShelf_1 39 rfl rfl
theorem dksX1_ofShelf_3 : cX1_ofShelf.data.toList.drop 63 = dktX1_ofShelf_3 := dk_seg dksX1_ofShelf_2 23 rfl rfl
theorem dksX1_ofShelf_4 : cX1_ofShelf.data.toList.drop 87 = dktX1_ofShelf_4 := dk_seg dksX1_ofShelf_3 24 rfl rfl
theorem dX1_ofShelf_0 : decode cX1_ofShelf 0 = .ok (.iload_n 2, 1) := dk_28 (dk_at dksX1_ofShelf_0 0 rfl rfl)
theorem dX1_ofShelf_1 : decode cX1_ofShelf 1 = .ok (.tableswitch 100 0 5 #[39, 47, 57, 74, 82, 91], 39) := by decide +kernel
theorem dX1_ofShelf_40 : decode cX1_ofShelf 40 = .ok (.aload_n 0, 1) := dk_42 (dk_at dksX1_ofShelf_2 0 rfl rfl)
theorem dX1_ofShelf_41 : decode cX1_ofShelf 41 = .ok (.iload_n 1, 1) := dk_27 (dk_at dksX1_ofShelf_2 1 rfl rfl)
theorem dX1_ofShelf_42 : decode cX1_ofShelf 42 = .ok (.invokevirtual 221, 3) := dk_182 0 221 (dk_at dksX1_ofShelf_2 2 rfl rfl)
theorem dX1_ofShelf_45 : decode cX1_ofShelf 45 = .ok (.goto 58, 3) := dk_167 0 58 (dk_at dksX1_ofShelf_2 5 rfl rfl)
theorem dX1_ofShelf_48 : decode cX1_ofShelf 48 = .ok (.aload_n 0, 1) := dk_42 (dk_at dksX1_ofShelf_2 8 rfl rfl)
theorem dX1_ofShelf_49 : decode cX1_ofShelf 49 = .ok (.iload_n 1, 1) := dk_27 (dk_at dksX1_ofShelf_2 9 rfl rfl)
theorem dX1_ofShelf_50 : decode cX1_ofShelf 50 = .ok (.bipush (-11), 2) := dk_16 245 (dk_at dksX1_ofShelf_2 10 rfl rfl)
theorem dX1_ofShelf_52 : decode cX1_ofShelf 52 = .ok (.invokevirtual 114, 3) := dk_182 0 114 (dk_at dksX1_ofShelf_2 12 rfl rfl)
theorem dX1_ofShelf_55 : decode cX1_ofShelf 55 = .ok (.goto 48, 3) := dk_167 0 48 (dk_at dksX1_ofShelf_2 15 rfl rfl)
theorem dX1_ofShelf_58 : decode cX1_ofShelf 58 = .ok (.aload_n 0, 1) := dk_42 (dk_at dksX1_ofShelf_2 18 rfl rfl)
theorem dX1_ofShelf_59 : decode cX1_ofShelf 59 = .ok (.getfield 21, 3) := dk_180 0 21 (dk_at dksX1_ofShelf_2 19 rfl rfl)
theorem dX1_ofShelf_62 : decode cX1_ofShelf 62 = .ok (.iload_n 1, 1) := dk_27 (dk_at dksX1_ofShelf_2 22 rfl rfl)
theorem dX1_ofShelf_63 : decode cX1_ofShelf 63 = .ok (.invokevirtual 49, 3) := dk_182 0 49 (dk_at dksX1_ofShelf_3 0 rfl rfl)
theorem dX1_ofShelf_66 : decode cX1_ofShelf 66 = .ok (.checkcast 41, 3) := dk_192 0 41 (dk_at dksX1_ofShelf_3 3 rfl rfl)
theorem dX1_ofShelf_69 : decode cX1_ofShelf 69 = .ok (.invokevirtual 146, 3) := dk_182 0 146 (dk_at dksX1_ofShelf_3 6 rfl rfl)
theorem dX1_ofShelf_72 : decode cX1_ofShelf 72 = .ok (.goto 31, 3) := dk_167 0 31 (dk_at dksX1_ofShelf_3 9 rfl rfl)
theorem dX1_ofShelf_75 : decode cX1_ofShelf 75 = .ok (.aload_n 0, 1) := dk_42 (dk_at dksX1_ofShelf_3 12 rfl rfl)
theorem dX1_ofShelf_76 : decode cX1_ofShelf 76 = .ok (.iload_n 1, 1) := dk_27 (dk_at dksX1_ofShelf_3 13 rfl rfl)
theorem dX1_ofShelf_77 : decode cX1_ofShelf 77 = .ok (.invokevirtual 224, 3) := dk_182 0 224 (dk_at dksX1_ofShelf_3 14 rfl rfl)
theorem dX1_ofShelf_80 : decode cX1_ofShelf 80 = .ok (.goto 23, 3) := dk_167 0 23 (dk_at dksX1_ofShelf_3 17 rfl rfl)
theorem dX1_ofShelf_83 : decode cX1_ofShelf 83 = .ok (.aload_n 0, 1) := dk_42 (dk_at dksX1_ofShelf_3 20 rfl rfl)
theorem dX1_ofShelf_84 : decode cX1_ofShelf 84 = .ok (.getfield 35, 3) := dk_180 0 35 (dk_at dksX1_ofShelf_3 21 rfl rfl)
theorem dX1_ofShelf_87 : decode cX1_ofShelf 87 = .ok (.iload_n 1, 1) := dk_27 (dk_at dksX1_ofShelf_4 0 rfl rfl)
theorem dX1_ofShelf_88 : decode cX1_ofShelf 88 = .ok (.iaload, 1) := dk_46 (dk_at dksX1_ofShelf_4 1 rfl rfl)
theorem dX1_ofShelf_89 : decode cX1_ofShelf 89 = .ok (.goto 14, 3) := dk_167 0 14 (dk_at dksX1_ofShelf_4 2 rfl rfl)
theorem dX1_ofShelf_92 : decode cX1_ofShelf 92 = .ok (.aload_n 0, 1) := dk_42 (dk_at dksX1_ofShelf_4 5 rfl rfl)
theorem dX1_ofShelf_93 : decode cX1_ofShelf 93 = .ok (.getfield 38, 3) := dk_180 0 38 (dk_at dksX1_ofShelf_4 6 rfl rfl)
theorem dX1_ofShelf_96 : decode cX1_ofShelf 96 = .ok (.iload_n 1, 1) := dk_27 (dk_at dksX1_ofShelf_4 9 rfl rfl)
theorem dX1_ofShelf_97 : decode cX1_ofShelf 97 = .ok (.iaload, 1) := dk_46 (dk_at dksX1_ofShelf_4 10 rfl rfl)
theorem dX1_ofShelf_98 : decode cX1_ofShelf 98 = .ok (.goto 5, 3) := dk_167 0 5 (dk_at dksX1_ofShelf_4 11 rfl rfl)
theorem dX1_ofShelf_101 : decode cX1_ofShelf 101 = .ok (.bipush (-12), 2) := dk_16 244 (dk_at dksX1_ofShelf_4 14 rfl rfl)
theorem dX1_ofShelf_103 : decode cX1_ofShelf 103 = .ok (.ireturn, 1) := dk_172 (dk_at dksX1_ofShelf_4 16 rfl rfl)
abbrev cX1_holders : ByteArray := prog_5_method_32_code
def yX1_holders : MethodName := ⟨RX1, "holders", "(I)I"⟩
def dkwX1_holders_2 : List UInt8 := [153, 0, 7, 4, 167, 0, 4, 3, 96, 61, 167, 255, 213, 28, 172]
abbrev dktX1_holders_2 : List UInt8 := dkwX1_holders_2 ++ []
def dkwX1_holders_1 : List UInt8 := [185, 0, 63, 1, 0, 192, 0, 92, 182, 0, 201, 54, 4, 28, 42, 180, 0, 11, 21, 4, 50, 27, 53]
abbrev dktX1_holders_1 : List UInt8 := dkwX1_holders_1 ++ dktX1_holders_2
def dkwX1_holders_0 : List UInt8 := [3, 61, 42, 182, 0, 194, 185, 0, 198, 1, 0, 78, 45, 185, 0, 57, 1, 0, 153, 0, 40, 45]
abbrev dktX1_holders_0 : List UInt8 := dkwX1_holders_0 ++ dktX1_holders_1
theorem dksX1_holders_0 : cX1_holders.data.toList.drop 0 = dktX1_holders_0 := by decide +kernel
theorem dksX1_holders_1 : cX1_holders.data.toList.drop 22 = dktX1_holders_1 := dk_seg dksX1_holders_0 22 rfl rfl
theorem dksX1_holders_2 : cX1_holders.data.toList.drop 45 = dktX1_holders_2 := dk_seg dksX1_holders_1 23 rfl rfl
theorem dX1_holders_0 : decode cX1_holders 0 = .ok (.iconst 0, 1) := dk_3 (dk_at dksX1_holders_0 0 rfl rfl)
theorem dX1_holders_1 : decode cX1_holders 1 = .ok (.istore_n 2, 1) := dk_61 (dk_at dksX1_holders_0 1 rfl rfl)
theorem dX1_holders_2 : decode cX1_holders 2 = .ok (.aload_n 0, 1) := dk_42 (dk_at dksX1_holders_0 2 rfl rfl)
theorem dX1_holders_3 : decode cX1_holders 3 = .ok (.invokevirtual 194, 3) := dk_182 0 194 (dk_at dksX1_holders_0 3 rfl rfl)
theorem dX1_holders_6 : decode cX1_holders 6 = .ok (.invokeinterface 198 1, 5) := by decide +kernel
theorem dX1_holders_11 : decode cX1_holders 11 = .ok (.astore_n 3, 1) := dk_78 (dk_at dksX1_holders_0 11 rfl rfl)
theorem dX1_holders_12 : decode cX1_holders 12 = .ok (.aload_n 3, 1) := dk_45 (dk_at dksX1_holders_0 12 rfl rfl)
theorem dX1_holders_13 : decode cX1_holders 13 = .ok (.invokeinterface 57 1, 5) := by decide +kernel
theorem dX1_holders_18 : decode cX1_holders 18 = .ok (.ifCond .eq 40, 3) := dk_153 0 40 (dk_at dksX1_holders_0 18 rfl rfl)
theorem dX1_holders_21 : decode cX1_holders 21 = .ok (.aload_n 3, 1) := dk_45 (dk_at dksX1_holders_0 21 rfl rfl)
theorem dX1_holders_22 : decode cX1_holders 22 = .ok (.invokeinterface 63 1, 5) := by decide +kernel
theorem dX1_holders_27 : decode cX1_holders 27 = .ok (.checkcast 92, 3) := dk_192 0 92 (dk_at dksX1_holders_1 5 rfl rfl)
theorem dX1_holders_30 : decode cX1_holders 30 = .ok (.invokevirtual 201, 3) := dk_182 0 201 (dk_at dksX1_holders_1 8 rfl rfl)
theorem dX1_holders_33 : decode cX1_holders 33 = .ok (.istore 4, 2) := dk_54 4 (dk_at dksX1_holders_1 11 rfl rfl)
theorem dX1_holders_35 : decode cX1_holders 35 = .ok (.iload_n 2, 1) := dk_28 (dk_at dksX1_holders_1 13 rfl rfl)
theorem dX1_holders_36 : decode cX1_holders 36 = .ok (.aload_n 0, 1) := dk_42 (dk_at dksX1_holders_1 14 rfl rfl)
theorem dX1_holders_37 : decode cX1_holders 37 = .ok (.getfield 11, 3) := dk_180 0 11 (dk_at dksX1_holders_1 15 rfl rfl)
theorem dX1_holders_40 : decode cX1_holders 40 = .ok (.iload 4, 2) := dk_21 4 (dk_at dksX1_holders_1 18 rfl rfl)
theorem dX1_holders_42 : decode cX1_holders 42 = .ok (.aaload, 1) := dk_50 (dk_at dksX1_holders_1 20 rfl rfl)
theorem dX1_holders_43 : decode cX1_holders 43 = .ok (.iload_n 1, 1) := dk_27 (dk_at dksX1_holders_1 21 rfl rfl)
theorem dX1_holders_44 : decode cX1_holders 44 = .ok (.saload, 1) := dk_53 (dk_at dksX1_holders_1 22 rfl rfl)
theorem dX1_holders_45 : decode cX1_holders 45 = .ok (.ifCond .eq 7, 3) := dk_153 0 7 (dk_at dksX1_holders_2 0 rfl rfl)
theorem dX1_holders_48 : decode cX1_holders 48 = .ok (.iconst 1, 1) := dk_4 (dk_at dksX1_holders_2 3 rfl rfl)
theorem dX1_holders_49 : decode cX1_holders 49 = .ok (.goto 4, 3) := dk_167 0 4 (dk_at dksX1_holders_2 4 rfl rfl)
theorem dX1_holders_52 : decode cX1_holders 52 = .ok (.iconst 0, 1) := dk_3 (dk_at dksX1_holders_2 7 rfl rfl)
theorem dX1_holders_53 : decode cX1_holders 53 = .ok (.iadd, 1) := dk_96 (dk_at dksX1_holders_2 8 rfl rfl)
theorem dX1_holders_54 : decode cX1_holders 54 = .ok (.istore_n 2, 1) := dk_61 (dk_at dksX1_holders_2 9 rfl rfl)
theorem dX1_holders_55 : decode cX1_holders 55 = .ok (.goto (-43), 3) := dk_167 255 213 (dk_at dksX1_holders_2 10 rfl rfl)
theorem dX1_holders_58 : decode cX1_holders 58 = .ok (.iload_n 2, 1) := dk_28 (dk_at dksX1_holders_2 13 rfl rfl)
theorem dX1_holders_59 : decode cX1_holders 59 = .ok (.ireturn, 1) := dk_172 (dk_at dksX1_holders_2 14 rfl rfl)
abbrev cX1_soleWishes : ByteArray := prog_5_method_34_code
def yX1_soleWishes : MethodName := ⟨RX1, "soleWishes", "(I)I"⟩
def dkwX1_soleWishes_2 : List UInt8 := [4, 167, 0, 4, 3, 96, 61, 167, 255, 219, 28, 172]
abbrev dktX1_soleWishes_2 : List UInt8 := dkwX1_soleWishes_2 ++ []
def dkwX1_soleWishes_1 : List UInt8 := [153, 0, 34, 45, 185, 0, 63, 1, 0, 192, 0, 67, 58, 4, 28, 25, 4, 180, 0, 108, 5, 160, 0, 7]
abbrev dktX1_soleWishes_1 : List UInt8 := dkwX1_soleWishes_1 ++ dktX1_soleWishes_2
def dkwX1_soleWishes_0 : List UInt8 := [3, 61, 42, 180, 0, 21, 27, 182, 0, 49, 192, 0, 41, 182, 0, 53, 78, 45, 185, 0, 57, 1, 0]
abbrev dktX1_soleWishes_0 : List UInt8 := dkwX1_soleWishes_0 ++ dktX1_soleWishes_1
theorem dksX1_soleWishes_0 : cX1_soleWishes.data.toList.drop 0 = dktX1_soleWishes_0 := by decide +kernel
theorem dksX1_soleWishes_1 : cX1_soleWishes.data.toList.drop 23 = dktX1_soleWishes_1 := dk_seg dksX1_soleWishes_0 23 rfl rfl
theorem dksX1_soleWishes_2 : cX1_soleWishes.data.toList.drop 47 = dktX1_soleWishes_2 := dk_seg dksX1_soleWishes_1 24 rfl rfl
theorem dX1_soleWishes_0 : decode cX1_soleWishes 0 = .ok (.iconst 0, 1) := dk_3 (dk_at dksX1_soleWishes_0 0 rfl rfl)
theorem dX1_soleWishes_1 : decode cX1_soleWishes 1 = .ok (.istore_n 2, 1) := dk_61 (dk_at dksX1_soleWishes_0 1 rfl rfl)
theorem dX1_soleWishes_2 : decode cX1_soleWishes 2 = .ok (.aload_n 0, 1) := dk_42 (dk_at dksX1_soleWishes_0 2 rfl rfl)
theorem dX1_soleWishes_3 : decode cX1_soleWishes 3 = .ok (.getfield 21, 3) := dk_180 0 21 (dk_at dksX1_soleWishes_0 3 rfl rfl)
theorem dX1_soleWishes_6 : decode cX1_soleWishes 6 = .ok (.iload_n 1, 1) := dk_27 (dk_at dksX1_soleWishes_0 6 rfl rfl)
theorem dX1_soleWishes_7 : decode cX1_soleWishes 7 = .ok (.invokevirtual 49, 3) := dk_182 0 49 (dk_at dksX1_soleWishes_0 7 rfl rfl)
theorem dX1_soleWishes_10 : decode cX1_soleWishes 10 = .ok (.checkcast 41, 3) := dk_192 0 41 (dk_at dksX1_soleWishes_0 10 rfl rfl)
theorem dX1_soleWishes_13 : decode cX1_soleWishes 13 = .ok (.invokevirtual 53, 3) := dk_182 0 53 (dk_at dksX1_soleWishes_0 13 rfl rfl)
theorem dX1_soleWishes_16 : decode cX1_soleWishes 16 = .ok (.astore_n 3, 1) := dk_78 (dk_at dksX1_soleWishes_0 16 rfl rfl)
theorem dX1_soleWishes_17 : decode cX1_soleWishes 17 = .ok (.aload_n 3, 1) := dk_45 (dk_at dksX1_soleWishes_0 17 rfl rfl)
theorem dX1_soleWishes_18 : decode cX1_soleWishes 18 = .ok (.invokeinterface 57 1, 5) := by decide +kernel
theorem dX1_soleWishes_23 : decode cX1_soleWishes 23 = .ok (.ifCond .eq 34, 3) := dk_153 0 34 (dk_at dksX1_soleWishes_1 0 rfl rfl)
theorem dX1_soleWishes_26 : decode cX1_soleWishes 26 = .ok (.aload_n 3, 1) := dk_45 (dk_at dksX1_soleWishes_1 3 rfl rfl)
theorem dX1_soleWishes_27 : decode cX1_soleWishes 27 = .ok (.invokeinterface 63 1, 5) := by decide +kernel
theorem dX1_soleWishes_32 : decode cX1_soleWishes 32 = .ok (.checkcast 67, 3) := dk_192 0 67 (dk_at dksX1_soleWishes_1 9 rfl rfl)
theorem dX1_soleWishes_35 : decode cX1_soleWishes 35 = .ok (.astore 4, 2) := dk_58 4 (dk_at dksX1_soleWishes_1 12 rfl rfl)
theorem dX1_soleWishes_37 : decode cX1_soleWishes 37 = .ok (.iload_n 2, 1) := dk_28 (dk_at dksX1_soleWishes_1 14 rfl rfl)
theorem dX1_soleWishes_38 : decode cX1_soleWishes 38 = .ok (.aload 4, 2) := dk_25 4 (dk_at dksX1_soleWishes_1 15 rfl rfl)
theorem dX1_soleWishes_40 : decode cX1_soleWishes 40 = .ok (.getfield 108, 3) := dk_180 0 108 (dk_at dksX1_soleWishes_1 17 rfl rfl)
theorem dX1_soleWishes_43 : decode cX1_soleWishes 43 = .ok (.iconst 2, 1) := dk_5 (dk_at dksX1_soleWishes_1 20 rfl rfl)
theorem dX1_soleWishes_44 : decode cX1_soleWishes 44 = .ok (.if_icmp .ne 7, 3) := dk_160 0 7 (dk_at dksX1_soleWishes_1 21 rfl rfl)
theorem dX1_soleWishes_47 : decode cX1_soleWishes 47 = .ok (.iconst 1, 1) := dk_4 (dk_at dksX1_soleWishes_2 0 rfl rfl)
theorem dX1_soleWishes_48 : decode cX1_soleWishes 48 = .ok (.goto 4, 3) := dk_167 0 4 (dk_at dksX1_soleWishes_2 1 rfl rfl)
theorem dX1_soleWishes_51 : decode cX1_soleWishes 51 = .ok (.iconst 0, 1) := dk_3 (dk_at dksX1_soleWishes_2 4 rfl rfl)
theorem dX1_soleWishes_52 : decode cX1_soleWishes 52 = .ok (.iadd, 1) := dk_96 (dk_at dksX1_soleWishes_2 5 rfl rfl)
theorem dX1_soleWishes_53 : decode cX1_soleWishes 53 = .ok (.istore_n 2, 1) := dk_61 (dk_at dksX1_soleWishes_2 6 rfl rfl)
theorem dX1_soleWishes_54 : decode cX1_soleWishes 54 = .ok (.goto (-37), 3) := dk_167 255 219 (dk_at dksX1_soleWishes_2 7 rfl rfl)
theorem dX1_soleWishes_57 : decode cX1_soleWishes 57 = .ok (.iload_n 2, 1) := dk_28 (dk_at dksX1_soleWishes_2 10 rfl rfl)
theorem dX1_soleWishes_58 : decode cX1_soleWishes 58 = .ok (.ireturn, 1) := dk_172 (dk_at dksX1_soleWishes_2 11 rfl rfl)
abbrev cX1_holder : ByteArray := prog_5_method_33_code
def yX1_holder : MethodName := ⟨RX1, "holder", "(II)I"⟩
def dkwX1_holder_2 : List UInt8 := [153, 0, 14, 29, 28, 160, 0, 6, 21, 5, 172, 132, 3, 1, 167, 255, 208, 16, 245, 172]
abbrev dktX1_holder_2 : List UInt8 := dkwX1_holder_2 ++ []
def dkwX1_holder_1 : List UInt8 := [25, 4, 185, 0, 63, 1, 0, 192, 0, 92, 182, 0, 201, 54, 5, 42, 180, 0, 11, 21, 5, 50, 27, 53]
abbrev dktX1_holder_1 : List UInt8 := dkwX1_holder_1 ++ dktX1_holder_2
def dkwX1_holder_0 : List UInt8 := [3, 62, 42, 182, 0, 194, 185, 0, 198, 1, 0, 58, 4, 25, 4, 185, 0, 57, 1, 0, 153, 0, 44]
abbrev dktX1_holder_0 : List UInt8 := dkwX1_holder_0 ++ dktX1_holder_1
theorem dksX1_holder_0 : cX1_holder.data.toList.drop 0 = dktX1_holder_0 := by decide +kernel
theorem dksX1_holder_1 : cX1_holder.data.toList.drop 23 = dktX1_holder_1 := dk_seg dksX1_holder_0 23 rfl rfl
theorem dksX1_holder_2 : cX1_holder.data.toList.drop 47 = dktX1_holder_2 := dk_seg dksX1_holder_1 24 rfl rfl
theorem dX1_holder_0 : decode cX1_holder 0 = .ok (.iconst 0, 1) := dk_3 (dk_at dksX1_holder_0 0 rfl rfl)
theorem dX1_holder_1 : decode cX1_holder 1 = .ok (.istore_n 3, 1) := dk_62 (dk_at dksX1_holder_0 1 rfl rfl)
theorem dX1_holder_2 : decode cX1_holder 2 = .ok (.aload_n 0, 1) := dk_42 (dk_at dksX1_holder_0 2 rfl rfl)
theorem dX1_holder_3 : decode cX1_holder 3 = .ok (.invokevirtual 194, 3) := dk_182 0 194 (dk_at dksX1_holder_0 3 rfl rfl)
theorem dX1_holder_6 : decode cX1_holder 6 = .ok (.invokeinterface 198 1, 5) := by decide +kernel
theorem dX1_holder_11 : decode cX1_holder 11 = .ok (.astore 4, 2) := dk_58 4 (dk_at dksX1_holder_0 11 rfl rfl)
theorem dX1_holder_13 : decode cX1_holder 13 = .ok (.aload 4, 2) := dk_25 4 (dk_at dksX1_holder_0 13 rfl rfl)
theorem dX1_holder_15 : decode cX1_holder 15 = .ok (.invokeinterface 57 1, 5) := by decide +kernel
theorem dX1_holder_20 : decode cX1_holder 20 = .ok (.ifCond .eq 44, 3) := dk_153 0 44 (dk_at dksX1_holder_0 20 rfl rfl)
theorem dX1_holder_23 : decode cX1_holder 23 = .ok (.aload 4, 2) := dk_25 4 (dk_at dksX1_holder_1 0 rfl rfl)
theorem dX1_holder_25 : decode cX1_holder 25 = .ok (.invokeinterface 63 1, 5) := by decide +kernel
theorem dX1_holder_30 : decode cX1_holder 30 = .ok (.checkcast 92, 3) := dk_192 0 92 (dk_at dksX1_holder_1 7 rfl rfl)
theorem dX1_holder_33 : decode cX1_holder 33 = .ok (.invokevirtual 201, 3) := dk_182 0 201 (dk_at dksX1_holder_1 10 rfl rfl)
theorem dX1_holder_36 : decode cX1_holder 36 = .ok (.istore 5, 2) := dk_54 5 (dk_at dksX1_holder_1 13 rfl rfl)
theorem dX1_holder_38 : decode cX1_holder 38 = .ok (.aload_n 0, 1) := dk_42 (dk_at dksX1_holder_1 15 rfl rfl)
theorem dX1_holder_39 : decode cX1_holder 39 = .ok (.getfield 11, 3) := dk_180 0 11 (dk_at dksX1_holder_1 16 rfl rfl)
theorem dX1_holder_42 : decode cX1_holder 42 = .ok (.iload 5, 2) := dk_21 5 (dk_at dksX1_holder_1 19 rfl rfl)
theorem dX1_holder_44 : decode cX1_holder 44 = .ok (.aaload, 1) := dk_50 (dk_at dksX1_holder_1 21 rfl rfl)
theorem dX1_holder_45 : decode cX1_holder 45 = .ok (.iload_n 1, 1) := dk_27 (dk_at dksX1_holder_1 22 rfl rfl)
theorem dX1_holder_46 : decode cX1_holder 46 = .ok (.saload, 1) := dk_53 (dk_at dksX1_holder_1 23 rfl rfl)
theorem dX1_holder_47 : decode cX1_holder 47 = .ok (.ifCond .eq 14, 3) := dk_153 0 14 (dk_at dksX1_holder_2 0 rfl rfl)
theorem dX1_holder_50 : decode cX1_holder 50 = .ok (.iload_n 3, 1) := dk_29 (dk_at dksX1_holder_2 3 rfl rfl)
theorem dX1_holder_51 : decode cX1_holder 51 = .ok (.iload_n 2, 1) := dk_28 (dk_at dksX1_holder_2 4 rfl rfl)
theorem dX1_holder_52 : decode cX1_holder 52 = .ok (.if_icmp .ne 6, 3) := dk_160 0 6 (dk_at dksX1_holder_2 5 rfl rfl)
theorem dX1_holder_55 : decode cX1_holder 55 = .ok (.iload 5, 2) := dk_21 5 (dk_at dksX1_holder_2 8 rfl rfl)
theorem dX1_holder_57 : decode cX1_holder 57 = .ok (.ireturn, 1) := dk_172 (dk_at dksX1_holder_2 10 rfl rfl)
theorem dX1_holder_58 : decode cX1_holder 58 = .ok (.iinc 3 1, 3) := dk_132 3 1 (dk_at dksX1_holder_2 11 rfl rfl)
theorem dX1_holder_61 : decode cX1_holder 61 = .ok (.goto (-48), 3) := dk_167 255 208 (dk_at dksX1_holder_2 14 rfl rfl)
theorem dX1_holder_64 : decode cX1_holder 64 = .ok (.bipush (-11), 2) := dk_16 245 (dk_at dksX1_holder_2 17 rfl rfl)
theorem dX1_holder_66 : decode cX1_holder 66 = .ok (.ireturn, 1) := dk_172 (dk_at dksX1_holder_2 19 rfl rfl)
abbrev cX1_waiting : ByteArray := prog_5_method_27_code
def yX1_waiting : MethodName := ⟨RX1, "waiting", "(IIZ[LLarderLocks$Fit;)LLarderLocks$Larder;"⟩
def dkwX1_waiting_3 : List UInt8 := [25, 6, 182, 0, 171, 25, 5, 176]
abbrev dktX1_waiting_3 : List UInt8 := dkwX1_waiting_3 ++ []
def dkwX1_waiting_2 : List UInt8 := [54, 7, 21, 7, 153, 0, 16, 25, 5, 28, 25, 6, 25, 4, 182, 0, 129, 154, 0, 11, 25, 5, 28]
abbrev dktX1_waiting_2 : List UInt8 := dkwX1_waiting_2 ++ dktX1_waiting_3
def dkwX1_waiting_1 : List UInt8 := [25, 5, 180, 0, 21, 28, 182, 0, 49, 192, 0, 41, 182, 0, 123, 153, 0, 7, 4, 167, 0, 4, 3]
abbrev dktX1_waiting_1 : List UInt8 := dkwX1_waiting_1 ++ dktX1_waiting_2
def dkwX1_waiting_0 : List UInt8 := [42, 182, 0, 210, 58, 5, 25, 5, 27, 28, 29, 182, 0, 167, 58, 6, 25, 6, 180, 0, 150, 154, 0, 21]
abbrev dktX1_waiting_0 : List UInt8 := dkwX1_waiting_0 ++ dktX1_waiting_1
theorem dksX1_waiting_0 : cX1_waiting.data.toList.drop 0 = dktX1_waiting_0 := by decide +kernel
theorem dksX1_waiting_1 : cX1_waiting.data.toList.drop 24 = dktX1_waiting_1 := dk_seg dksX1_waiting_0 24 rfl rfl
theorem dksX1_waiting_2 : cX1_waiting.data.toList.drop 47 = dktX1_waiting_2 := dk_seg dksX1_waiting_1 23 rfl rfl
theorem dksX1_waiting_3 : cX1_waiting.data.toList.drop 70 = dktX1_waiting_3 := dk_seg dksX1_waiting_2 23 rfl rfl
theorem dX1_waiting_0 : decode cX1_waiting 0 = .ok (.aload_n 0, 1) := dk_42 (dk_at dksX1_waiting_0 0 rfl rfl)
theorem dX1_waiting_1 : decode cX1_waiting 1 = .ok (.invokevirtual 210, 3) := dk_182 0 210 (dk_at dksX1_waiting_0 1 rfl rfl)
theorem dX1_waiting_4 : decode cX1_waiting 4 = .ok (.astore 5, 2) := dk_58 5 (dk_at dksX1_waiting_0 4 rfl rfl)
theorem dX1_waiting_6 : decode cX1_waiting 6 = .ok (.aload 5, 2) := dk_25 5 (dk_at dksX1_waiting_0 6 rfl rfl)
theorem dX1_waiting_8 : decode cX1_waiting 8 = .ok (.iload_n 1, 1) := dk_27 (dk_at dksX1_waiting_0 8 rfl rfl)
theorem dX1_waiting_9 : decode cX1_waiting 9 = .ok (.iload_n 2, 1) := dk_28 (dk_at dksX1_waiting_0 9 rfl rfl)
theorem dX1_waiting_10 : decode cX1_waiting 10 = .ok (.iload_n 3, 1) := dk_29 (dk_at dksX1_waiting_0 10 rfl rfl)
theorem dX1_waiting_11 : decode cX1_waiting 11 = .ok (.invokevirtual 167, 3) := dk_182 0 167 (dk_at dksX1_waiting_0 11 rfl rfl)
theorem dX1_waiting_14 : decode cX1_waiting 14 = .ok (.astore 6, 2) := dk_58 6 (dk_at dksX1_waiting_0 14 rfl rfl)
theorem dX1_waiting_16 : decode cX1_waiting 16 = .ok (.aload 6, 2) := dk_25 6 (dk_at dksX1_waiting_0 16 rfl rfl)
theorem dX1_waiting_18 : decode cX1_waiting 18 = .ok (.getfield 150, 3) := dk_180 0 150 (dk_at dksX1_waiting_0 18 rfl rfl)
theorem dX1_waiting_21 : decode cX1_waiting 21 = .ok (.ifCond .ne 21, 3) := dk_154 0 21 (dk_at dksX1_waiting_0 21 rfl rfl)
theorem dX1_waiting_24 : decode cX1_waiting 24 = .ok (.aload 5, 2) := dk_25 5 (dk_at dksX1_waiting_1 0 rfl rfl)
theorem dX1_waiting_26 : decode cX1_waiting 26 = .ok (.getfield 21, 3) := dk_180 0 21 (dk_at dksX1_waiting_1 2 rfl rfl)
theorem dX1_waiting_29 : decode cX1_waiting 29 = .ok (.iload_n 2, 1) := dk_28 (dk_at dksX1_waiting_1 5 rfl rfl)
theorem dX1_waiting_30 : decode cX1_waiting 30 = .ok (.invokevirtual 49, 3) := dk_182 0 49 (dk_at dksX1_waiting_1 6 rfl rfl)
theorem dX1_waiting_33 : decode cX1_waiting 33 = .ok (.checkcast 41, 3) := dk_192 0 41 (dk_at dksX1_waiting_1 9 rfl rfl)
theorem dX1_waiting_36 : decode cX1_waiting 36 = .ok (.invokevirtual 123, 3) := dk_182 0 123 (dk_at dksX1_waiting_1 12 rfl rfl)
theorem dX1_waiting_39 : decode cX1_waiting 39 = .ok (.ifCond .eq 7, 3) := dk_153 0 7 (dk_at dksX1_waiting_1 15 rfl rfl)
theorem dX1_waiting_42 : decode cX1_waiting 42 = .ok (.iconst 1, 1) := dk_4 (dk_at dksX1_waiting_1 18 rfl rfl)
theorem dX1_waiting_43 : decode cX1_waiting 43 = .ok (.goto 4, 3) := dk_167 0 4 (dk_at dksX1_waiting_1 19 rfl rfl)
theorem dX1_waiting_46 : decode cX1_waiting 46 = .ok (.iconst 0, 1) := dk_3 (dk_at dksX1_waiting_1 22 rfl rfl)
theorem dX1_waiting_47 : decode cX1_waiting 47 = .ok (.istore 7, 2) := dk_54 7 (dk_at dksX1_waiting_2 0 rfl rfl)
theorem dX1_waiting_49 : decode cX1_waiting 49 = .ok (.iload 7, 2) := dk_21 7 (dk_at dksX1_waiting_2 2 rfl rfl)
theorem dX1_waiting_51 : decode cX1_waiting 51 = .ok (.ifCond .eq 16, 3) := dk_153 0 16 (dk_at dksX1_waiting_2 4 rfl rfl)
theorem dX1_waiting_54 : decode cX1_waiting 54 = .ok (.aload 5, 2) := dk_25 5 (dk_at dksX1_waiting_2 7 rfl rfl)
theorem dX1_waiting_56 : decode cX1_waiting 56 = .ok (.iload_n 2, 1) := dk_28 (dk_at dksX1_waiting_2 9 rfl rfl)
theorem dX1_waiting_57 : decode cX1_waiting 57 = .ok (.aload 6, 2) := dk_25 6 (dk_at dksX1_waiting_2 10 rfl rfl)
theorem dX1_waiting_59 : decode cX1_waiting 59 = .ok (.aload 4, 2) := dk_25 4 (dk_at dksX1_waiting_2 12 rfl rfl)
theorem dX1_waiting_61 : decode cX1_waiting 61 = .ok (.invokevirtual 129, 3) := dk_182 0 129 (dk_at dksX1_waiting_2 14 rfl rfl)
theorem dX1_waiting_64 : decode cX1_waiting 64 = .ok (.ifCond .ne 11, 3) := dk_154 0 11 (dk_at dksX1_waiting_2 17 rfl rfl)
theorem dX1_waiting_67 : decode cX1_waiting 67 = .ok (.aload 5, 2) := dk_25 5 (dk_at dksX1_waiting_2 20 rfl rfl)
theorem dX1_waiting_69 : decode cX1_waiting 69 = .ok (.iload_n 2, 1) := dk_28 (dk_at dksX1_waiting_2 22 rfl rfl)
theorem dX1_waiting_70 : decode cX1_waiting 70 = .ok (.aload 6, 2) := dk_25 6 (dk_at dksX1_waiting_3 0 rfl rfl)
theorem dX1_waiting_72 : decode cX1_waiting 72 = .ok (.invokevirtual 171, 3) := dk_182 0 171 (dk_at dksX1_waiting_3 2 rfl rfl)
theorem dX1_waiting_75 : decode cX1_waiting 75 = .ok (.aload 5, 2) := dk_25 5 (dk_at dksX1_waiting_3 5 rfl rfl)
theorem dX1_waiting_77 : decode cX1_waiting 77 = .ok (.areturn, 1) := dk_176 (dk_at dksX1_waiting_3 7 rfl rfl)
abbrev cX1_isInRingAgain : ByteArray := prog_5_method_24_code
def yX1_isInRingAgain : MethodName := ⟨RX1, "isInRingAgain", "(I)Z"⟩
def dkwX1_isInRingAgain_6 : List UInt8 := [167, 0, 4, 3, 128, 79, 167, 255, 204, 167, 255, 167, 44, 27, 46, 27, 184, 0, 87, 172]
abbrev dktX1_isInRingAgain_6 : List UInt8 := dkwX1_isInRingAgain_6 ++ []
def dkwX1_isInRingAgain_5 : List UInt8 := [54, 6, 44, 21, 6, 92, 46, 44, 21, 6, 46, 21, 4, 184, 0, 87, 153, 0, 10, 44, 21, 4, 46]
abbrev dktX1_isInRingAgain_5 : List UInt8 := dkwX1_isInRingAgain_5 ++ dktX1_isInRingAgain_6
def dkwX1_isInRingAgain_4 : List UInt8 := [25, 5, 185, 0, 57, 1, 0, 153, 0, 48, 25, 5, 185, 0, 63, 1, 0, 192, 0, 92, 182, 0, 201]
abbrev dktX1_isInRingAgain_4 : List UInt8 := dkwX1_isInRingAgain_4 ++ dktX1_isInRingAgain_5
def dkwX1_isInRingAgain_3 : List UInt8 := [185, 0, 63, 1, 0, 192, 0, 92, 182, 0, 201, 54, 4, 42, 182, 0, 194, 185, 0, 198, 1, 0, 58, 5]
abbrev dktX1_isInRingAgain_3 : List UInt8 := dkwX1_isInRingAgain_3 ++ dktX1_isInRingAgain_4
def dkwX1_isInRingAgain_2 : List UInt8 := [167, 255, 223, 42, 182, 0, 194, 185, 0, 198, 1, 0, 78, 45, 185, 0, 57, 1, 0, 153, 0, 86, 45]
abbrev dktX1_isInRingAgain_2 : List UInt8 := dkwX1_isInRingAgain_2 ++ dktX1_isInRingAgain_3
def dkwX1_isInRingAgain_1 : List UInt8 := [45, 185, 0, 63, 1, 0, 192, 0, 92, 182, 0, 201, 54, 4, 44, 21, 4, 42, 21, 4, 182, 0, 191, 79]
abbrev dktX1_isInRingAgain_1 : List UInt8 := dkwX1_isInRingAgain_1 ++ dktX1_isInRingAgain_2
def dkwX1_isInRingAgain_0 : List UInt8 := [16, 24, 188, 10, 77, 42, 182, 0, 194, 185, 0, 198, 1, 0, 78, 45, 185, 0, 57, 1, 0, 153, 0, 30]
abbrev dktX1_isInRingAgain_0 : List UInt8 := dkwX1_isInRingAgain_0 ++ dktX1_isInRingAgain_1
theorem dksX1_isInRingAgain_0 : cX1_isInRingAgain.data.toList.drop 0 = dktX1_isInRingAgain_0 := by decide +kernel
theorem dksX1_isInRingAgain_1 : cX1_isInRingAgain.data.toList.drop 24 = dktX1_isInRingAgain_1 := dk_seg dksX1_isInRingAgain_0 24 rfl rfl
theorem dksX1_isInRingAgain_2 : cX1_isInRingAgain.data.toList.drop 48 = dktX1_isInRingAgain_2 := dk_seg dksX1_isInRingAgain_1 24 rfl rfl
theorem dksX1_isInRingAgain_3 : cX1_isInRingAgain.data.toList.drop 71 = dktX1_isInRingAgain_3 := dk_seg dksX1_isInRingAgain_2 23 rfl rfl
theorem dksX1_isInRingAgain_4 : cX1_isInRingAgain.data.toList.drop 95 = dktX1_isInRingAgain_4 := dk_seg dksX1_isInRingAgain_3 24 rfl rfl
theorem dksX1_isInRingAgain_5 : cX1_isInRingAgain.data.toList.drop 118 = dktX1_isInRingAgain_5 := dk_seg dksX1_isInRingAgain_4 23 rfl rfl
theorem dksX1_isInRingAgain_6 : cX1_isInRingAgain.data.toList.drop 141 = dktX1_isInRingAgain_6 := dk_seg dksX1_isInRingAgain_5 23 rfl rfl
theorem dX1_isInRingAgain_0 : decode cX1_isInRingAgain 0 = .ok (.bipush 24, 2) := dk_16 24 (dk_at dksX1_isInRingAgain_0 0 rfl rfl)
theorem dX1_isInRingAgain_2 : decode cX1_isInRingAgain 2 = .ok (.newarray .int, 2) := dk_188_10 (dk_at dksX1_isInRingAgain_0 2 rfl rfl)
theorem dX1_isInRingAgain_4 : decode cX1_isInRingAgain 4 = .ok (.astore_n 2, 1) := dk_77 (dk_at dksX1_isInRingAgain_0 4 rfl rfl)
theorem dX1_isInRingAgain_5 : decode cX1_isInRingAgain 5 = .ok (.aload_n 0, 1) := dk_42 (dk_at dksX1_isInRingAgain_0 5 rfl rfl)
theorem dX1_isInRingAgain_6 : decode cX1_isInRingAgain 6 = .ok (.invokevirtual 194, 3) := dk_182 0 194 (dk_at dksX1_isInRingAgain_0 6 rfl rfl)
theorem dX1_isInRingAgain_9 : decode cX1_isInRingAgain 9 = .ok (.invokeinterface 198 1, 5) := by decide +kernel
theorem dX1_isInRingAgain_14 : decode cX1_isInRingAgain 14 = .ok (.astore_n 3, 1) := dk_78 (dk_at dksX1_isInRingAgain_0 14 rfl rfl)
theorem dX1_isInRingAgain_15 : decode cX1_isInRingAgain 15 = .ok (.aload_n 3, 1) := dk_45 (dk_at dksX1_isInRingAgain_0 15 rfl rfl)
theorem dX1_isInRingAgain_16 : decode cX1_isInRingAgain 16 = .ok (.invokeinterface 57 1, 5) := by decide +kernel
theorem dX1_isInRingAgain_21 : decode cX1_isInRingAgain 21 = .ok (.ifCond .eq 30, 3) := dk_153 0 30 (dk_at dksX1_isInRingAgain_0 21 rfl rfl)
theorem dX1_isInRingAgain_24 : decode cX1_isInRingAgain 24 = .ok (.aload_n 3, 1) := dk_45 (dk_at dksX1_isInRingAgain_1 0 rfl rfl)
theorem dX1_isInRingAgain_25 : decode cX1_isInRingAgain 25 = .ok (.invokeinterface 63 1, 5) := by decide +kernel
theorem dX1_isInRingAgain_30 : decode cX1_isInRingAgain 30 = .ok (.checkcast 92, 3) := dk_192 0 92 (dk_at dksX1_isInRingAgain_1 6 rfl rfl)
theorem dX1_isInRingAgain_33 : decode cX1_isInRingAgain 33 = .ok (.invokevirtual 201, 3) := dk_182 0 201 (dk_at dksX1_isInRingAgain_1 9 rfl rfl)
theorem dX1_isInRingAgain_36 : decode cX1_isInRingAgain 36 = .ok (.istore 4, 2) := dk_54 4 (dk_at dksX1_isInRingAgain_1 12 rfl rfl)
theorem dX1_isInRingAgain_38 : decode cX1_isInRingAgain 38 = .ok (.aload_n 2, 1) := dk_44 (dk_at dksX1_isInRingAgain_1 14 rfl rfl)
theorem dX1_isInRingAgain_39 : decode cX1_isInRingAgain 39 = .ok (.iload 4, 2) := dk_21 4 (dk_at dksX1_isInRingAgain_1 15 rfl rfl)
theorem dX1_isInRingAgain_41 : decode cX1_isInRingAgain 41 = .ok (.aload_n 0, 1) := dk_42 (dk_at dksX1_isInRingAgain_1 17 rfl rfl)
theorem dX1_isInRingAgain_42 : decode cX1_isInRingAgain 42 = .ok (.iload 4, 2) := dk_21 4 (dk_at dksX1_isInRingAgain_1 18 rfl rfl)
theorem dX1_isInRingAgain_44 : decode cX1_isInRingAgain 44 = .ok (.invokevirtual 191, 3) := dk_182 0 191 (dk_at dksX1_isInRingAgain_1 20 rfl rfl)
theorem dX1_isInRingAgain_47 : decode cX1_isInRingAgain 47 = .ok (.iastore, 1) := dk_79 (dk_at dksX1_isInRingAgain_1 23 rfl rfl)
theorem dX1_isInRingAgain_48 : decode cX1_isInRingAgain 48 = .ok (.goto (-33), 3) := dk_167 255 223 (dk_at dksX1_isInRingAgain_2 0 rfl rfl)
theorem dX1_isInRingAgain_51 : decode cX1_isInRingAgain 51 = .ok (.aload_n 0, 1) := dk_42 (dk_at dksX1_isInRingAgain_2 3 rfl rfl)
theorem dX1_isInRingAgain_52 : decode cX1_isInRingAgain 52 = .ok (.invokevirtual 194, 3) := dk_182 0 194 (dk_at dksX1_isInRingAgain_2 4 rfl rfl)
theorem dX1_isInRingAgain_55 : decode cX1_isInRingAgain 55 = .ok (.invokeinterface 198 1, 5) := by decide +kernel
theorem dX1_isInRingAgain_60 : decode cX1_isInRingAgain 60 = .ok (.astore_n 3, 1) := dk_78 (dk_at dksX1_isInRingAgain_2 12 rfl rfl)
theorem dX1_isInRingAgain_61 : decode cX1_isInRingAgain 61 = .ok (.aload_n 3, 1) := dk_45 (dk_at dksX1_isInRingAgain_2 13 rfl rfl)
theorem dX1_isInRingAgain_62 : decode cX1_isInRingAgain 62 = .ok (.invokeinterface 57 1, 5) := by decide +kernel
theorem dX1_isInRingAgain_67 : decode cX1_isInRingAgain 67 = .ok (.ifCond .eq 86, 3) := dk_153 0 86 (dk_at dksX1_isInRingAgain_2 19 rfl rfl)
theorem dX1_isInRingAgain_70 : decode cX1_isInRingAgain 70 = .ok (.aload_n 3, 1) := dk_45 (dk_at dksX1_isInRingAgain_2 22 rfl rfl)
theorem dX1_isInRingAgain_71 : decode cX1_isInRingAgain 71 = .ok (.invokeinterface 63 1, 5) := by decide +kernel
theorem dX1_isInRingAgain_76 : decode cX1_isInRingAgain 76 = .ok (.checkcast 92, 3) := dk_192 0 92 (dk_at dksX1_isInRingAgain_3 5 rfl rfl)
theorem dX1_isInRingAgain_79 : decode cX1_isInRingAgain 79 = .ok (.invokevirtual 201, 3) := dk_182 0 201 (dk_at dksX1_isInRingAgain_3 8 rfl rfl)
theorem dX1_isInRingAgain_82 : decode cX1_isInRingAgain 82 = .ok (.istore 4, 2) := dk_54 4 (dk_at dksX1_isInRingAgain_3 11 rfl rfl)
theorem dX1_isInRingAgain_84 : decode cX1_isInRingAgain 84 = .ok (.aload_n 0, 1) := dk_42 (dk_at dksX1_isInRingAgain_3 13 rfl rfl)
theorem dX1_isInRingAgain_85 : decode cX1_isInRingAgain 85 = .ok (.invokevirtual 194, 3) := dk_182 0 194 (dk_at dksX1_isInRingAgain_3 14 rfl rfl)
theorem dX1_isInRingAgain_88 : decode cX1_isInRingAgain 88 = .ok (.invokeinterface 198 1, 5) := by decide +kernel
theorem dX1_isInRingAgain_93 : decode cX1_isInRingAgain 93 = .ok (.astore 5, 2) := dk_58 5 (dk_at dksX1_isInRingAgain_3 22 rfl rfl)
theorem dX1_isInRingAgain_95 : decode cX1_isInRingAgain 95 = .ok (.aload 5, 2) := dk_25 5 (dk_at dksX1_isInRingAgain_4 0 rfl rfl)
theorem dX1_isInRingAgain_97 : decode cX1_isInRingAgain 97 = .ok (.invokeinterface 57 1, 5) := by decide +kernel
theorem dX1_isInRingAgain_102 : decode cX1_isInRingAgain 102 = .ok (.ifCond .eq 48, 3) := dk_153 0 48 (dk_at dksX1_isInRingAgain_4 7 rfl rfl)
theorem dX1_isInRingAgain_105 : decode cX1_isInRingAgain 105 = .ok (.aload 5, 2) := dk_25 5 (dk_at dksX1_isInRingAgain_4 10 rfl rfl)
theorem dX1_isInRingAgain_107 : decode cX1_isInRingAgain 107 = .ok (.invokeinterface 63 1, 5) := by decide +kernel
theorem dX1_isInRingAgain_112 : decode cX1_isInRingAgain 112 = .ok (.checkcast 92, 3) := dk_192 0 92 (dk_at dksX1_isInRingAgain_4 17 rfl rfl)
theorem dX1_isInRingAgain_115 : decode cX1_isInRingAgain 115 = .ok (.invokevirtual 201, 3) := dk_182 0 201 (dk_at dksX1_isInRingAgain_4 20 rfl rfl)
theorem dX1_isInRingAgain_118 : decode cX1_isInRingAgain 118 = .ok (.istore 6, 2) := dk_54 6 (dk_at dksX1_isInRingAgain_5 0 rfl rfl)
theorem dX1_isInRingAgain_120 : decode cX1_isInRingAgain 120 = .ok (.aload_n 2, 1) := dk_44 (dk_at dksX1_isInRingAgain_5 2 rfl rfl)
theorem dX1_isInRingAgain_121 : decode cX1_isInRingAgain 121 = .ok (.iload 6, 2) := dk_21 6 (dk_at dksX1_isInRingAgain_5 3 rfl rfl)
theorem dX1_isInRingAgain_123 : decode cX1_isInRingAgain 123 = .ok (.dup2, 1) := dk_92 (dk_at dksX1_isInRingAgain_5 5 rfl rfl)
theorem dX1_isInRingAgain_124 : decode cX1_isInRingAgain 124 = .ok (.iaload, 1) := dk_46 (dk_at dksX1_isInRingAgain_5 6 rfl rfl)
theorem dX1_isInRingAgain_125 : decode cX1_isInRingAgain 125 = .ok (.aload_n 2, 1) := dk_44 (dk_at dksX1_isInRingAgain_5 7 rfl rfl)
theorem dX1_isInRingAgain_126 : decode cX1_isInRingAgain 126 = .ok (.iload 6, 2) := dk_21 6 (dk_at dksX1_isInRingAgain_5 8 rfl rfl)
theorem dX1_isInRingAgain_128 : decode cX1_isInRingAgain 128 = .ok (.iaload, 1) := dk_46 (dk_at dksX1_isInRingAgain_5 10 rfl rfl)
theorem dX1_isInRingAgain_129 : decode cX1_isInRingAgain 129 = .ok (.iload 4, 2) := dk_21 4 (dk_at dksX1_isInRingAgain_5 11 rfl rfl)
theorem dX1_isInRingAgain_131 : decode cX1_isInRingAgain 131 = .ok (.invokestatic 87, 3) := dk_184 0 87 (dk_at dksX1_isInRingAgain_5 13 rfl rfl)
theorem dX1_isInRingAgain_134 : decode cX1_isInRingAgain 134 = .ok (.ifCond .eq 10, 3) := dk_153 0 10 (dk_at dksX1_isInRingAgain_5 16 rfl rfl)
theorem dX1_isInRingAgain_137 : decode cX1_isInRingAgain 137 = .ok (.aload_n 2, 1) := dk_44 (dk_at dksX1_isInRingAgain_5 19 rfl rfl)
theorem dX1_isInRingAgain_138 : decode cX1_isInRingAgain 138 = .ok (.iload 4, 2) := dk_21 4 (dk_at dksX1_isInRingAgain_5 20 rfl rfl)
theorem dX1_isInRingAgain_140 : decode cX1_isInRingAgain 140 = .ok (.iaload, 1) := dk_46 (dk_at dksX1_isInRingAgain_5 22 rfl rfl)
theorem dX1_isInRingAgain_141 : decode cX1_isInRingAgain 141 = .ok (.goto 4, 3) := dk_167 0 4 (dk_at dksX1_isInRingAgain_6 0 rfl rfl)
theorem dX1_isInRingAgain_144 : decode cX1_isInRingAgain 144 = .ok (.iconst 0, 1) := dk_3 (dk_at dksX1_isInRingAgain_6 3 rfl rfl)
theorem dX1_isInRingAgain_145 : decode cX1_isInRingAgain 145 = .ok (.ior, 1) := dk_128 (dk_at dksX1_isInRingAgain_6 4 rfl rfl)
theorem dX1_isInRingAgain_146 : decode cX1_isInRingAgain 146 = .ok (.iastore, 1) := dk_79 (dk_at dksX1_isInRingAgain_6 5 rfl rfl)
theorem dX1_isInRingAgain_147 : decode cX1_isInRingAgain 147 = .ok (.goto (-52), 3) := dk_167 255 204 (dk_at dksX1_isInRingAgain_6 6 rfl rfl)
theorem dX1_isInRingAgain_150 : decode cX1_isInRingAgain 150 = .ok (.goto (-89), 3) := dk_167 255 167 (dk_at dksX1_isInRingAgain_6 9 rfl rfl)
theorem dX1_isInRingAgain_153 : decode cX1_isInRingAgain 153 = .ok (.aload_n 2, 1) := dk_44 (dk_at dksX1_isInRingAgain_6 12 rfl rfl)
theorem dX1_isInRingAgain_154 : decode cX1_isInRingAgain 154 = .ok (.iload_n 1, 1) := dk_27 (dk_at dksX1_isInRingAgain_6 13 rfl rfl)
theorem dX1_isInRingAgain_155 : decode cX1_isInRingAgain 155 = .ok (.iaload, 1) := dk_46 (dk_at dksX1_isInRingAgain_6 14 rfl rfl)
theorem dX1_isInRingAgain_156 : decode cX1_isInRingAgain 156 = .ok (.iload_n 1, 1) := dk_27 (dk_at dksX1_isInRingAgain_6 15 rfl rfl)
theorem dX1_isInRingAgain_157 : decode cX1_isInRingAgain 157 = .ok (.invokestatic 87, 3) := dk_184 0 87 (dk_at dksX1_isInRingAgain_6 16 rfl rfl)
theorem dX1_isInRingAgain_160 : decode cX1_isInRingAgain 160 = .ok (.ireturn, 1) := dk_172 (dk_at dksX1_isInRingAgain_6 19 rfl rfl)
abbrev cX1_isInRing : ByteArray := prog_5_method_23_code
def yX1_isInRing : MethodName := ⟨RX1, "isInRing", "(I)Z"⟩
def dkwX1_isInRing_0 : List UInt8 := [42, 27, 182, 0, 204, 27, 184, 0, 87, 172]
abbrev dktX1_isInRing_0 : List UInt8 := dkwX1_isInRing_0 ++ []
theorem dksX1_isInRing_0 : cX1_isInRing.data.toList.drop 0 = dktX1_isInRing_0 := by decide +kernel
theorem dX1_isInRing_0 : decode cX1_isInRing 0 = .ok (.aload_n 0, 1) := dk_42 (dk_at dksX1_isInRing_0 0 rfl rfl)
theorem dX1_isInRing_1 : decode cX1_isInRing 1 = .ok (.iload_n 1, 1) := dk_27 (dk_at dksX1_isInRing_0 1 rfl rfl)
theorem dX1_isInRing_2 : decode cX1_isInRing 2 = .ok (.invokevirtual 204, 3) := dk_182 0 204 (dk_at dksX1_isInRing_0 2 rfl rfl)
theorem dX1_isInRing_5 : decode cX1_isInRing 5 = .ok (.iload_n 1, 1) := dk_27 (dk_at dksX1_isInRing_0 5 rfl rfl)
theorem dX1_isInRing_6 : decode cX1_isInRing 6 = .ok (.invokestatic 87, 3) := dk_184 0 87 (dk_at dksX1_isInRing_0 6 rfl rfl)
theorem dX1_isInRing_9 : decode cX1_isInRing 9 = .ok (.ireturn, 1) := dk_172 (dk_at dksX1_isInRing_0 9 rfl rfl)
abbrev cX1_chain : ByteArray := prog_5_method_26_code
def yX1_chain : MethodName := ⟨RX1, "chain", "(I)I"⟩
def dkwX1_chain_3 : List UInt8 := [167, 255, 207, 28, 4, 96, 172]
abbrev dktX1_chain_3 : List UInt8 := dkwX1_chain_3 ++ []
def dkwX1_chain_2 : List UInt8 := [21, 5, 184, 0, 87, 153, 0, 16, 28, 42, 21, 5, 182, 0, 207, 184, 0, 102, 167, 0, 4, 28, 61]
abbrev dktX1_chain_2 : List UInt8 := dkwX1_chain_2 ++ dktX1_chain_3
def dkwX1_chain_1 : List UInt8 := [185, 0, 57, 1, 0, 153, 0, 45, 25, 4, 185, 0, 63, 1, 0, 192, 0, 92, 182, 0, 201, 54, 5, 29]
abbrev dktX1_chain_1 : List UInt8 := dkwX1_chain_1 ++ dktX1_chain_2
def dkwX1_chain_0 : List UInt8 := [3, 61, 42, 27, 182, 0, 191, 62, 42, 182, 0, 194, 185, 0, 198, 1, 0, 58, 4, 25, 4]
abbrev dktX1_chain_0 : List UInt8 := dkwX1_chain_0 ++ dktX1_chain_1
theorem dksX1_chain_0 : cX1_chain.data.toList.drop 0 = dktX1_chain_0 := by decide +kernel
theorem dksX1_chain_1 : cX1_chain.data.toList.drop 21 = dktX1_chain_1 := dk_seg dksX1_chain_0 21 rfl rfl
theorem dksX1_chain_2 : cX1_chain.data.toList.drop 45 = dktX1_chain_2 := dk_seg dksX1_chain_1 24 rfl rfl
theorem dksX1_chain_3 : cX1_chain.data.toList.drop 68 = dktX1_chain_3 := dk_seg dksX1_chain_2 23 rfl rfl
theorem dX1_chain_0 : decode cX1_chain 0 = .ok (.iconst 0, 1) := dk_3 (dk_at dksX1_chain_0 0 rfl rfl)
theorem dX1_chain_1 : decode cX1_chain 1 = .ok (.istore_n 2, 1) := dk_61 (dk_at dksX1_chain_0 1 rfl rfl)
theorem dX1_chain_2 : decode cX1_chain 2 = .ok (.aload_n 0, 1) := dk_42 (dk_at dksX1_chain_0 2 rfl rfl)
theorem dX1_chain_3 : decode cX1_chain 3 = .ok (.iload_n 1, 1) := dk_27 (dk_at dksX1_chain_0 3 rfl rfl)
theorem dX1_chain_4 : decode cX1_chain 4 = .ok (.invokevirtual 191, 3) := dk_182 0 191 (dk_at dksX1_chain_0 4 rfl rfl)
theorem dX1_chain_7 : decode cX1_chain 7 = .ok (.istore_n 3, 1) := dk_62 (dk_at dksX1_chain_0 7 rfl rfl)
theorem dX1_chain_8 : decode cX1_chain 8 = .ok (.aload_n 0, 1) := dk_42 (dk_at dksX1_chain_0 8 rfl rfl)
theorem dX1_chain_9 : decode cX1_chain 9 = .ok (.invokevirtual 194, 3) := dk_182 0 194 (dk_at dksX1_chain_0 9 rfl rfl)
theorem dX1_chain_12 : decode cX1_chain 12 = .ok (.invokeinterface 198 1, 5) := by decide +kernel
theorem dX1_chain_17 : decode cX1_chain 17 = .ok (.astore 4, 2) := dk_58 4 (dk_at dksX1_chain_0 17 rfl rfl)
theorem dX1_chain_19 : decode cX1_chain 19 = .ok (.aload 4, 2) := dk_25 4 (dk_at dksX1_chain_0 19 rfl rfl)
theorem dX1_chain_21 : decode cX1_chain 21 = .ok (.invokeinterface 57 1, 5) := by decide +kernel
theorem dX1_chain_26 : decode cX1_chain 26 = .ok (.ifCond .eq 45, 3) := dk_153 0 45 (dk_at dksX1_chain_1 5 rfl rfl)
theorem dX1_chain_29 : decode cX1_chain 29 = .ok (.aload 4, 2) := dk_25 4 (dk_at dksX1_chain_1 8 rfl rfl)
theorem dX1_chain_31 : decode cX1_chain 31 = .ok (.invokeinterface 63 1, 5) := by decide +kernel
theorem dX1_chain_36 : decode cX1_chain 36 = .ok (.checkcast 92, 3) := dk_192 0 92 (dk_at dksX1_chain_1 15 rfl rfl)
theorem dX1_chain_39 : decode cX1_chain 39 = .ok (.invokevirtual 201, 3) := dk_182 0 201 (dk_at dksX1_chain_1 18 rfl rfl)
theorem dX1_chain_42 : decode cX1_chain 42 = .ok (.istore 5, 2) := dk_54 5 (dk_at dksX1_chain_1 21 rfl rfl)
theorem dX1_chain_44 : decode cX1_chain 44 = .ok (.iload_n 3, 1) := dk_29 (dk_at dksX1_chain_1 23 rfl rfl)
theorem dX1_chain_45 : decode cX1_chain 45 = .ok (.iload 5, 2) := dk_21 5 (dk_at dksX1_chain_2 0 rfl rfl)
theorem dX1_chain_47 : decode cX1_chain 47 = .ok (.invokestatic 87, 3) := dk_184 0 87 (dk_at dksX1_chain_2 2 rfl rfl)
theorem dX1_chain_50 : decode cX1_chain 50 = .ok (.ifCond .eq 16, 3) := dk_153 0 16 (dk_at dksX1_chain_2 5 rfl rfl)
theorem dX1_chain_53 : decode cX1_chain 53 = .ok (.iload_n 2, 1) := dk_28 (dk_at dksX1_chain_2 8 rfl rfl)
theorem dX1_chain_54 : decode cX1_chain 54 = .ok (.aload_n 0, 1) := dk_42 (dk_at dksX1_chain_2 9 rfl rfl)
theorem dX1_chain_55 : decode cX1_chain 55 = .ok (.iload 5, 2) := dk_21 5 (dk_at dksX1_chain_2 10 rfl rfl)
theorem dX1_chain_57 : decode cX1_chain 57 = .ok (.invokevirtual 207, 3) := dk_182 0 207 (dk_at dksX1_chain_2 12 rfl rfl)
theorem dX1_chain_60 : decode cX1_chain 60 = .ok (.invokestatic 102, 3) := dk_184 0 102 (dk_at dksX1_chain_2 15 rfl rfl)
theorem dX1_chain_63 : decode cX1_chain 63 = .ok (.goto 4, 3) := dk_167 0 4 (dk_at dksX1_chain_2 18 rfl rfl)
theorem dX1_chain_66 : decode cX1_chain 66 = .ok (.iload_n 2, 1) := dk_28 (dk_at dksX1_chain_2 21 rfl rfl)
theorem dX1_chain_67 : decode cX1_chain 67 = .ok (.istore_n 2, 1) := dk_61 (dk_at dksX1_chain_2 22 rfl rfl)
theorem dX1_chain_68 : decode cX1_chain 68 = .ok (.goto (-49), 3) := dk_167 255 207 (dk_at dksX1_chain_3 0 rfl rfl)
theorem dX1_chain_71 : decode cX1_chain 71 = .ok (.iload_n 2, 1) := dk_28 (dk_at dksX1_chain_3 3 rfl rfl)
theorem dX1_chain_72 : decode cX1_chain 72 = .ok (.iconst 1, 1) := dk_4 (dk_at dksX1_chain_3 4 rfl rfl)
theorem dX1_chain_73 : decode cX1_chain 73 = .ok (.iadd, 1) := dk_96 (dk_at dksX1_chain_3 5 rfl rfl)
theorem dX1_chain_74 : decode cX1_chain 74 = .ok (.ireturn, 1) := dk_172 (dk_at dksX1_chain_3 6 rfl rfl)
abbrev cX1_waitedFor : ByteArray := prog_5_method_25_code
def yX1_waitedFor : MethodName := ⟨RX1, "waitedFor", "(I)I"⟩
def dkwX1_waitedFor_2 : List UInt8 := [153, 0, 10, 4, 21, 4, 120, 167, 0, 4, 3, 128, 61, 167, 255, 209, 28, 172]
abbrev dktX1_waitedFor_2 : List UInt8 := dkwX1_waitedFor_2 ++ []
def dkwX1_waitedFor_1 : List UInt8 := [185, 0, 63, 1, 0, 192, 0, 92, 182, 0, 201, 54, 4, 28, 42, 21, 4, 182, 0, 204, 27, 184, 0, 87]
abbrev dktX1_waitedFor_1 : List UInt8 := dkwX1_waitedFor_1 ++ dktX1_waitedFor_2
def dkwX1_waitedFor_0 : List UInt8 := [3, 61, 42, 182, 0, 194, 185, 0, 198, 1, 0, 78, 45, 185, 0, 57, 1, 0, 153, 0, 44, 45]
abbrev dktX1_waitedFor_0 : List UInt8 := dkwX1_waitedFor_0 ++ dktX1_waitedFor_1
theorem dksX1_waitedFor_0 : cX1_waitedFor.data.toList.drop 0 = dktX1_waitedFor_0 := by decide +kernel
theorem dksX1_waitedFor_1 : cX1_waitedFor.data.toList.drop 22 = dktX1_waitedFor_1 := dk_seg dksX1_waitedFor_0 22 rfl rfl
theorem dksX1_waitedFor_2 : cX1_waitedFor.data.toList.drop 46 = dktX1_waitedFor_2 := dk_seg dksX1_waitedFor_1 24 rfl rfl
theorem dX1_waitedFor_0 : decode cX1_waitedFor 0 = .ok (.iconst 0, 1) := dk_3 (dk_at dksX1_waitedFor_0 0 rfl rfl)
theorem dX1_waitedFor_1 : decode cX1_waitedFor 1 = .ok (.istore_n 2, 1) := dk_61 (dk_at dksX1_waitedFor_0 1 rfl rfl)
theorem dX1_waitedFor_2 : decode cX1_waitedFor 2 = .ok (.aload_n 0, 1) := dk_42 (dk_at dksX1_waitedFor_0 2 rfl rfl)
theorem dX1_waitedFor_3 : decode cX1_waitedFor 3 = .ok (.invokevirtual 194, 3) := dk_182 0 194 (dk_at dksX1_waitedFor_0 3 rfl rfl)
theorem dX1_waitedFor_6 : decode cX1_waitedFor 6 = .ok (.invokeinterface 198 1, 5) := by decide +kernel
theorem dX1_waitedFor_11 : decode cX1_waitedFor 11 = .ok (.astore_n 3, 1) := dk_78 (dk_at dksX1_waitedFor_0 11 rfl rfl)
theorem dX1_waitedFor_12 : decode cX1_waitedFor 12 = .ok (.aload_n 3, 1) := dk_45 (dk_at dksX1_waitedFor_0 12 rfl rfl)
theorem dX1_waitedFor_13 : decode cX1_waitedFor 13 = .ok (.invokeinterface 57 1, 5) := by decide +kernel
theorem dX1_waitedFor_18 : decode cX1_waitedFor 18 = .ok (.ifCond .eq 44, 3) := dk_153 0 44 (dk_at dksX1_waitedFor_0 18 rfl rfl)
theorem dX1_waitedFor_21 : decode cX1_waitedFor 21 = .ok (.aload_n 3, 1) := dk_45 (dk_at dksX1_waitedFor_0 21 rfl rfl)
theorem dX1_waitedFor_22 : decode cX1_waitedFor 22 = .ok (.invokeinterface 63 1, 5) := by decide +kernel
theorem dX1_waitedFor_27 : decode cX1_waitedFor 27 = .ok (.checkcast 92, 3) := dk_192 0 92 (dk_at dksX1_waitedFor_1 5 rfl rfl)
theorem dX1_waitedFor_30 : decode cX1_waitedFor 30 = .ok (.invokevirtual 201, 3) := dk_182 0 201 (dk_at dksX1_waitedFor_1 8 rfl rfl)
theorem dX1_waitedFor_33 : decode cX1_waitedFor 33 = .ok (.istore 4, 2) := dk_54 4 (dk_at dksX1_waitedFor_1 11 rfl rfl)
theorem dX1_waitedFor_35 : decode cX1_waitedFor 35 = .ok (.iload_n 2, 1) := dk_28 (dk_at dksX1_waitedFor_1 13 rfl rfl)
theorem dX1_waitedFor_36 : decode cX1_waitedFor 36 = .ok (.aload_n 0, 1) := dk_42 (dk_at dksX1_waitedFor_1 14 rfl rfl)
theorem dX1_waitedFor_37 : decode cX1_waitedFor 37 = .ok (.iload 4, 2) := dk_21 4 (dk_at dksX1_waitedFor_1 15 rfl rfl)
theorem dX1_waitedFor_39 : decode cX1_waitedFor 39 = .ok (.invokevirtual 204, 3) := dk_182 0 204 (dk_at dksX1_waitedFor_1 17 rfl rfl)
theorem dX1_waitedFor_42 : decode cX1_waitedFor 42 = .ok (.iload_n 1, 1) := dk_27 (dk_at dksX1_waitedFor_1 20 rfl rfl)
theorem dX1_waitedFor_43 : decode cX1_waitedFor 43 = .ok (.invokestatic 87, 3) := dk_184 0 87 (dk_at dksX1_waitedFor_1 21 rfl rfl)
theorem dX1_waitedFor_46 : decode cX1_waitedFor 46 = .ok (.ifCond .eq 10, 3) := dk_153 0 10 (dk_at dksX1_waitedFor_2 0 rfl rfl)
theorem dX1_waitedFor_49 : decode cX1_waitedFor 49 = .ok (.iconst 1, 1) := dk_4 (dk_at dksX1_waitedFor_2 3 rfl rfl)
theorem dX1_waitedFor_50 : decode cX1_waitedFor 50 = .ok (.iload 4, 2) := dk_21 4 (dk_at dksX1_waitedFor_2 4 rfl rfl)
theorem dX1_waitedFor_52 : decode cX1_waitedFor 52 = .ok (.ishl, 1) := dk_120 (dk_at dksX1_waitedFor_2 6 rfl rfl)
theorem dX1_waitedFor_53 : decode cX1_waitedFor 53 = .ok (.goto 4, 3) := dk_167 0 4 (dk_at dksX1_waitedFor_2 7 rfl rfl)
theorem dX1_waitedFor_56 : decode cX1_waitedFor 56 = .ok (.iconst 0, 1) := dk_3 (dk_at dksX1_waitedFor_2 10 rfl rfl)
theorem dX1_waitedFor_57 : decode cX1_waitedFor 57 = .ok (.ior, 1) := dk_128 (dk_at dksX1_waitedFor_2 11 rfl rfl)
theorem dX1_waitedFor_58 : decode cX1_waitedFor 58 = .ok (.istore_n 2, 1) := dk_61 (dk_at dksX1_waitedFor_2 12 rfl rfl)
theorem dX1_waitedFor_59 : decode cX1_waitedFor 59 = .ok (.goto (-47), 3) := dk_167 255 209 (dk_at dksX1_waitedFor_2 13 rfl rfl)
theorem dX1_waitedFor_62 : decode cX1_waitedFor 62 = .ok (.iload_n 2, 1) := dk_28 (dk_at dksX1_waitedFor_2 16 rfl rfl)
theorem dX1_waitedFor_63 : decode cX1_waitedFor 63 = .ok (.ireturn, 1) := dk_172 (dk_at dksX1_waitedFor_2 17 rfl rfl)
abbrev cX1_needed : ByteArray := prog_5_method_38_code
def yX1_needed : MethodName := ⟨RX1, "needed", "(I)I"⟩
def dkwX1_needed_2 : List UInt8 := [167, 255, 222, 29, 27, 160, 0, 5, 28, 172, 132, 2, 1, 167, 255, 198, 16, 245, 172]
abbrev dktX1_needed_2 : List UInt8 := dkwX1_needed_2 ++ []
def dkwX1_needed_1 : List UInt8 := [159, 0, 17, 42, 21, 4, 28, 182, 0, 227, 153, 0, 7, 4, 167, 0, 4, 3, 96, 62, 132, 4, 1]
abbrev dktX1_needed_1 : List UInt8 := dkwX1_needed_1 ++ dktX1_needed_2
def dkwX1_needed_0 : List UInt8 := [3, 61, 28, 16, 8, 162, 0, 58, 3, 62, 3, 54, 4, 21, 4, 16, 8, 162, 0, 33, 29, 21, 4, 28]
abbrev dktX1_needed_0 : List UInt8 := dkwX1_needed_0 ++ dktX1_needed_1
theorem dksX1_needed_0 : cX1_needed.data.toList.drop 0 = dktX1_needed_0 := by decide +kernel
theorem dksX1_needed_1 : cX1_needed.data.toList.drop 24 = dktX1_needed_1 := dk_seg dksX1_needed_0 24 rfl rfl
theorem dksX1_needed_2 : cX1_needed.data.toList.drop 47 = dktX1_needed_2 := dk_seg dksX1_needed_1 23 rfl rfl
theorem dX1_needed_0 : decode cX1_needed 0 = .ok (.iconst 0, 1) := dk_3 (dk_at dksX1_needed_0 0 rfl rfl)
theorem dX1_needed_1 : decode cX1_needed 1 = .ok (.istore_n 2, 1) := dk_61 (dk_at dksX1_needed_0 1 rfl rfl)
theorem dX1_needed_2 : decode cX1_needed 2 = .ok (.iload_n 2, 1) := dk_28 (dk_at dksX1_needed_0 2 rfl rfl)
theorem dX1_needed_3 : decode cX1_needed 3 = .ok (.bipush 8, 2) := dk_16 8 (dk_at dksX1_needed_0 3 rfl rfl)
theorem dX1_needed_5 : decode cX1_needed 5 = .ok (.if_icmp .ge 58, 3) := dk_162 0 58 (dk_at dksX1_needed_0 5 rfl rfl)
theorem dX1_needed_8 : decode cX1_needed 8 = .ok (.iconst 0, 1) := dk_3 (dk_at dksX1_needed_0 8 rfl rfl)
theorem dX1_needed_9 : decode cX1_needed 9 = .ok (.istore_n 3, 1) := dk_62 (dk_at dksX1_needed_0 9 rfl rfl)
theorem dX1_needed_10 : decode cX1_needed 10 = .ok (.iconst 0, 1) := dk_3 (dk_at dksX1_needed_0 10 rfl rfl)
theorem dX1_needed_11 : decode cX1_needed 11 = .ok (.istore 4, 2) := dk_54 4 (dk_at dksX1_needed_0 11 rfl rfl)
theorem dX1_needed_13 : decode cX1_needed 13 = .ok (.iload 4, 2) := dk_21 4 (dk_at dksX1_needed_0 13 rfl rfl)
theorem dX1_needed_15 : decode cX1_needed 15 = .ok (.bipush 8, 2) := dk_16 8 (dk_at dksX1_needed_0 15 rfl rfl)
theorem dX1_needed_17 : decode cX1_needed 17 = .ok (.if_icmp .ge 33, 3) := dk_162 0 33 (dk_at dksX1_needed_0 17 rfl rfl)
theorem dX1_needed_20 : decode cX1_needed 20 = .ok (.iload_n 3, 1) := dk_29 (dk_at dksX1_needed_0 20 rfl rfl)
theorem dX1_needed_21 : decode cX1_needed 21 = .ok (.iload 4, 2) := dk_21 4 (dk_at dksX1_needed_0 21 rfl rfl)
theorem dX1_needed_23 : decode cX1_needed 23 = .ok (.iload_n 2, 1) := dk_28 (dk_at dksX1_needed_0 23 rfl rfl)
theorem dX1_needed_24 : decode cX1_needed 24 = .ok (.if_icmp .eq 17, 3) := dk_159 0 17 (dk_at dksX1_needed_1 0 rfl rfl)
theorem dX1_needed_27 : decode cX1_needed 27 = .ok (.aload_n 0, 1) := dk_42 (dk_at dksX1_needed_1 3 rfl rfl)
theorem dX1_needed_28 : decode cX1_needed 28 = .ok (.iload 4, 2) := dk_21 4 (dk_at dksX1_needed_1 4 rfl rfl)
theorem dX1_needed_30 : decode cX1_needed 30 = .ok (.iload_n 2, 1) := dk_28 (dk_at dksX1_needed_1 6 rfl rfl)
theorem dX1_needed_31 : decode cX1_needed 31 = .ok (.invokevirtual 227, 3) := dk_182 0 227 (dk_at dksX1_needed_1 7 rfl rfl)
theorem dX1_needed_34 : decode cX1_needed 34 = .ok (.ifCond .eq 7, 3) := dk_153 0 7 (dk_at dksX1_needed_1 10 rfl rfl)
theorem dX1_needed_37 : decode cX1_needed 37 = .ok (.iconst 1, 1) := dk_4 (dk_at dksX1_needed_1 13 rfl rfl)
theorem dX1_needed_38 : decode cX1_needed 38 = .ok (.goto 4, 3) := dk_167 0 4 (dk_at dksX1_needed_1 14 rfl rfl)
theorem dX1_needed_41 : decode cX1_needed 41 = .ok (.iconst 0, 1) := dk_3 (dk_at dksX1_needed_1 17 rfl rfl)
theorem dX1_needed_42 : decode cX1_needed 42 = .ok (.iadd, 1) := dk_96 (dk_at dksX1_needed_1 18 rfl rfl)
theorem dX1_needed_43 : decode cX1_needed 43 = .ok (.istore_n 3, 1) := dk_62 (dk_at dksX1_needed_1 19 rfl rfl)
theorem dX1_needed_44 : decode cX1_needed 44 = .ok (.iinc 4 1, 3) := dk_132 4 1 (dk_at dksX1_needed_1 20 rfl rfl)
theorem dX1_needed_47 : decode cX1_needed 47 = .ok (.goto (-34), 3) := dk_167 255 222 (dk_at dksX1_needed_2 0 rfl rfl)
theorem dX1_needed_50 : decode cX1_needed 50 = .ok (.iload_n 3, 1) := dk_29 (dk_at dksX1_needed_2 3 rfl rfl)
theorem dX1_needed_51 : decode cX1_needed 51 = .ok (.iload_n 1, 1) := dk_27 (dk_at dksX1_needed_2 4 rfl rfl)
theorem dX1_needed_52 : decode cX1_needed 52 = .ok (.if_icmp .ne 5, 3) := dk_160 0 5 (dk_at dksX1_needed_2 5 rfl rfl)
theorem dX1_needed_55 : decode cX1_needed 55 = .ok (.iload_n 2, 1) := dk_28 (dk_at dksX1_needed_2 8 rfl rfl)
theorem dX1_needed_56 : decode cX1_needed 56 = .ok (.ireturn, 1) := dk_172 (dk_at dksX1_needed_2 9 rfl rfl)
theorem dX1_needed_57 : decode cX1_needed 57 = .ok (.iinc 2 1, 3) := dk_132 2 1 (dk_at dksX1_needed_2 10 rfl rfl)
theorem dX1_needed_60 : decode cX1_needed 60 = .ok (.goto (-58), 3) := dk_167 255 198 (dk_at dksX1_needed_2 13 rfl rfl)
theorem dX1_needed_63 : decode cX1_needed 63 = .ok (.bipush (-11), 2) := dk_16 245 (dk_at dksX1_needed_2 16 rfl rfl)
theorem dX1_needed_65 : decode cX1_needed 65 = .ok (.ireturn, 1) := dk_172 (dk_at dksX1_needed_2 18 rfl rfl)
abbrev cX1_isNeededAhead : ByteArray := prog_5_method_37_code
def yX1_isNeededAhead : MethodName := ⟨RX1, "isNeededAhead", "(II)Z"⟩
def dkwX1_isNeededAhead_3 : List UInt8 := [167, 0, 17, 3, 167, 0, 13, 27, 28, 162, 0, 7, 4, 167, 0, 4, 3, 172]
abbrev dktX1_isNeededAhead_3 : List UInt8 := dkwX1_isNeededAhead_3 ++ []
def dkwX1_isNeededAhead_2 : List UInt8 := [182, 0, 221, 42, 28, 182, 0, 221, 100, 54, 4, 21, 4, 153, 0, 16, 21, 4, 158, 0, 7, 4]
abbrev dktX1_isNeededAhead_2 : List UInt8 := dkwX1_isNeededAhead_2 ++ dktX1_isNeededAhead_3
def dkwX1_isNeededAhead_1 : List UInt8 := [192, 0, 41, 182, 0, 146, 100, 62, 29, 153, 0, 13, 29, 158, 0, 7, 4, 167, 0, 4, 3, 172, 42, 27]
abbrev dktX1_isNeededAhead_1 : List UInt8 := dkwX1_isNeededAhead_1 ++ dktX1_isNeededAhead_2
def dkwX1_isNeededAhead_0 : List UInt8 := [42, 180, 0, 21, 27, 182, 0, 49, 192, 0, 41, 182, 0, 146, 42, 180, 0, 21, 28, 182, 0, 49]
abbrev dktX1_isNeededAhead_0 : List UInt8 := dkwX1_isNeededAhead_0 ++ dktX1_isNeededAhead_1
theorem dksX1_isNeededAhead_0 : cX1_isNeededAhead.data.toList.drop 0 = dktX1_isNeededAhead_0 := by decide +kernel
theorem dksX1_isNeededAhead_1 : cX1_isNeededAhead.data.toList.drop 22 = dktX1_isNeededAhead_1 := dk_seg dksX1_isNeededAhead_0 22 rfl rfl
theorem dksX1_isNeededAhead_2 : cX1_isNeededAhead.data.toList.drop 46 = dktX1_isNeededAhead_2 := dk_seg dksX1_isNeededAhead_1 24 rfl rfl
theorem dksX1_isNeededAhead_3 : cX1_isNeededAhead.data.toList.drop 68 = dktX1_isNeededAhead_3 := dk_seg dksX1_isNeededAhead_2 22 rfl rfl
theorem dX1_isNeededAhead_0 : decode cX1_isNeededAhead 0 = .ok (.aload_n 0, 1) := dk_42 (dk_at dksX1_isNeededAhead_0 0 rfl rfl)
theorem dX1_isNeededAhead_1 : decode cX1_isNeededAhead 1 = .ok (.getfield 21, 3) := dk_180 0 21 (dk_at dksX1_isNeededAhead_0 1 rfl rfl)
theorem dX1_isNeededAhead_4 : decode cX1_isNeededAhead 4 = .ok (.iload_n 1, 1) := dk_27 (dk_at dksX1_isNeededAhead_0 4 rfl rfl)
theorem dX1_isNeededAhead_5 : decode cX1_isNeededAhead 5 = .ok (.invokevirtual 49, 3) := dk_182 0 49 (dk_at dksX1_isNeededAhead_0 5 rfl rfl)
theorem dX1_isNeededAhead_8 : decode cX1_isNeededAhead 8 = .ok (.checkcast 41, 3) := dk_192 0 41 (dk_at dksX1_isNeededAhead_0 8 rfl rfl)
theorem dX1_isNeededAhead_11 : decode cX1_isNeededAhead 11 = .ok (.invokevirtual 146, 3) := dk_182 0 146 (dk_at dksX1_isNeededAhead_0 11 rfl rfl)
theorem dX1_isNeededAhead_14 : decode cX1_isNeededAhead 14 = .ok (.aload_n 0, 1) := dk_42 (dk_at dksX1_isNeededAhead_0 14 rfl rfl)
theorem dX1_isNeededAhead_15 : decode cX1_isNeededAhead 15 = .ok (.getfield 21, 3) := dk_180 0 21 (dk_at dksX1_isNeededAhead_0 15 rfl rfl)
theorem dX1_isNeededAhead_18 : decode cX1_isNeededAhead 18 = .ok (.iload_n 2, 1) := dk_28 (dk_at dksX1_isNeededAhead_0 18 rfl rfl)
theorem dX1_isNeededAhead_19 : decode cX1_isNeededAhead 19 = .ok (.invokevirtual 49, 3) := dk_182 0 49 (dk_at dksX1_isNeededAhead_0 19 rfl rfl)
theorem dX1_isNeededAhead_22 : decode cX1_isNeededAhead 22 = .ok (.checkcast 41, 3) := dk_192 0 41 (dk_at dksX1_isNeededAhead_1 0 rfl rfl)
theorem dX1_isNeededAhead_25 : decode cX1_isNeededAhead 25 = .ok (.invokevirtual 146, 3) := dk_182 0 146 (dk_at dksX1_isNeededAhead_1 3 rfl rfl)
theorem dX1_isNeededAhead_28 : decode cX1_isNeededAhead 28 = .ok (.isub, 1) := dk_100 (dk_at dksX1_isNeededAhead_1 6 rfl rfl)
theorem dX1_isNeededAhead_29 : decode cX1_isNeededAhead 29 = .ok (.istore_n 3, 1) := dk_62 (dk_at dksX1_isNeededAhead_1 7 rfl rfl)
theorem dX1_isNeededAhead_30 : decode cX1_isNeededAhead 30 = .ok (.iload_n 3, 1) := dk_29 (dk_at dksX1_isNeededAhead_1 8 rfl rfl)
theorem dX1_isNeededAhead_31 : decode cX1_isNeededAhead 31 = .ok (.ifCond .eq 13, 3) := dk_153 0 13 (dk_at dksX1_isNeededAhead_1 9 rfl rfl)
theorem dX1_isNeededAhead_34 : decode cX1_isNeededAhead 34 = .ok (.iload_n 3, 1) := dk_29 (dk_at dksX1_isNeededAhead_1 12 rfl rfl)
theorem dX1_isNeededAhead_35 : decode cX1_isNeededAhead 35 = .ok (.ifCond .le 7, 3) := dk_158 0 7 (dk_at dksX1_isNeededAhead_1 13 rfl rfl)
theorem dX1_isNeededAhead_38 : decode cX1_isNeededAhead 38 = .ok (.iconst 1, 1) := dk_4 (dk_at dksX1_isNeededAhead_1 16 rfl rfl)
theorem dX1_isNeededAhead_39 : decode cX1_isNeededAhead 39 = .ok (.goto 4, 3) := dk_167 0 4 (dk_at dksX1_isNeededAhead_1 17 rfl rfl)
theorem dX1_isNeededAhead_42 : decode cX1_isNeededAhead 42 = .ok (.iconst 0, 1) := dk_3 (dk_at dksX1_isNeededAhead_1 20 rfl rfl)
theorem dX1_isNeededAhead_43 : decode cX1_isNeededAhead 43 = .ok (.ireturn, 1) := dk_172 (dk_at dksX1_isNeededAhead_1 21 rfl rfl)
theorem dX1_isNeededAhead_44 : decode cX1_isNeededAhead 44 = .ok (.aload_n 0, 1) := dk_42 (dk_at dksX1_isNeededAhead_1 22 rfl rfl)
theorem dX1_isNeededAhead_45 : decode cX1_isNeededAhead 45 = .ok (.iload_n 1, 1) := dk_27 (dk_at dksX1_isNeededAhead_1 23 rfl rfl)
theorem dX1_isNeededAhead_46 : decode cX1_isNeededAhead 46 = .ok (.invokevirtual 221, 3) := dk_182 0 221 (dk_at dksX1_isNeededAhead_2 0 rfl rfl)
theorem dX1_isNeededAhead_49 : decode cX1_isNeededAhead 49 = .ok (.aload_n 0, 1) := dk_42 (dk_at dksX1_isNeededAhead_2 3 rfl rfl)
theorem dX1_isNeededAhead_50 : decode cX1_isNeededAhead 50 = .ok (.iload_n 2, 1) := dk_28 (dk_at dksX1_isNeededAhead_2 4 rfl rfl)
theorem dX1_isNeededAhead_51 : decode cX1_isNeededAhead 51 = .ok (.invokevirtual 221, 3) := dk_182 0 221 (dk_at dksX1_isNeededAhead_2 5 rfl rfl)
theorem dX1_isNeededAhead_54 : decode cX1_isNeededAhead 54 = .ok (.isub, 1) := dk_100 (dk_at dksX1_isNeededAhead_2 8 rfl rfl)
theorem dX1_isNeededAhead_55 : decode cX1_isNeededAhead 55 = .ok (.istore 4, 2) := dk_54 4 (dk_at dksX1_isNeededAhead_2 9 rfl rfl)
theorem dX1_isNeededAhead_57 : decode cX1_isNeededAhead 57 = .ok (.iload 4, 2) := dk_21 4 (dk_at dksX1_isNeededAhead_2 11 rfl rfl)
theorem dX1_isNeededAhead_59 : decode cX1_isNeededAhead 59 = .ok (.ifCond .eq 16, 3) := dk_153 0 16 (dk_at dksX1_isNeededAhead_2 13 rfl rfl)
theorem dX1_isNeededAhead_62 : decode cX1_isNeededAhead 62 = .ok (.iload 4, 2) := dk_21 4 (dk_at dksX1_isNeededAhead_2 16 rfl rfl)
theorem dX1_isNeededAhead_64 : decode cX1_isNeededAhead 64 = .ok (.ifCond .le 7, 3) := dk_158 0 7 (dk_at dksX1_isNeededAhead_2 18 rfl rfl)
theorem dX1_isNeededAhead_67 : decode cX1_isNeededAhead 67 = .ok (.iconst 1, 1) := dk_4 (dk_at dksX1_isNeededAhead_2 21 rfl rfl)
theorem dX1_isNeededAhead_68 : decode cX1_isNeededAhead 68 = .ok (.goto 17, 3) := dk_167 0 17 (dk_at dksX1_isNeededAhead_3 0 rfl rfl)
theorem dX1_isNeededAhead_71 : decode cX1_isNeededAhead 71 = .ok (.iconst 0, 1) := dk_3 (dk_at dksX1_isNeededAhead_3 3 rfl rfl)
theorem dX1_isNeededAhead_72 : decode cX1_isNeededAhead 72 = .ok (.goto 13, 3) := dk_167 0 13 (dk_at dksX1_isNeededAhead_3 4 rfl rfl)
theorem dX1_isNeededAhead_75 : decode cX1_isNeededAhead 75 = .ok (.iload_n 1, 1) := dk_27 (dk_at dksX1_isNeededAhead_3 7 rfl rfl)
theorem dX1_isNeededAhead_76 : decode cX1_isNeededAhead 76 = .ok (.iload_n 2, 1) := dk_28 (dk_at dksX1_isNeededAhead_3 8 rfl rfl)
theorem dX1_isNeededAhead_77 : decode cX1_isNeededAhead 77 = .ok (.if_icmp .ge 7, 3) := dk_162 0 7 (dk_at dksX1_isNeededAhead_3 9 rfl rfl)
theorem dX1_isNeededAhead_80 : decode cX1_isNeededAhead 80 = .ok (.iconst 1, 1) := dk_4 (dk_at dksX1_isNeededAhead_3 12 rfl rfl)
theorem dX1_isNeededAhead_81 : decode cX1_isNeededAhead 81 = .ok (.goto 4, 3) := dk_167 0 4 (dk_at dksX1_isNeededAhead_3 13 rfl rfl)
theorem dX1_isNeededAhead_84 : decode cX1_isNeededAhead 84 = .ok (.iconst 0, 1) := dk_3 (dk_at dksX1_isNeededAhead_3 16 rfl rfl)
theorem dX1_isNeededAhead_85 : decode cX1_isNeededAhead 85 = .ok (.ireturn, 1) := dk_172 (dk_at dksX1_isNeededAhead_3 17 rfl rfl)
abbrev cX1_ranked : ByteArray := prog_5_method_40_code
def yX1_ranked : MethodName := ⟨RX1, "ranked", "(I)I"⟩
def dkwX1_ranked_4 : List UInt8 := [167, 0, 4, 3, 96, 54, 4, 167, 255, 205, 21, 4, 27, 160, 0, 5, 29, 172, 167, 255, 158, 16, 245, 172]
abbrev dktX1_ranked_4 : List UInt8 := dkwX1_ranked_4 ++ []
def dkwX1_ranked_3 : List UInt8 := [182, 0, 201, 54, 6, 21, 4, 21, 6, 29, 159, 0, 17, 42, 21, 6, 29, 182, 0, 230, 153, 0, 7, 4]
abbrev dktX1_ranked_3 : List UInt8 := dkwX1_ranked_3 ++ dktX1_ranked_4
def dkwX1_ranked_2 : List UInt8 := [58, 5, 25, 5, 185, 0, 57, 1, 0, 153, 0, 47, 25, 5, 185, 0, 63, 1, 0, 192, 0, 92]
abbrev dktX1_ranked_2 : List UInt8 := dkwX1_ranked_2 ++ dktX1_ranked_3
def dkwX1_ranked_1 : List UInt8 := [185, 0, 63, 1, 0, 192, 0, 92, 182, 0, 201, 62, 3, 54, 4, 42, 182, 0, 194, 185, 0, 198, 1, 0]
abbrev dktX1_ranked_1 : List UInt8 := dkwX1_ranked_1 ++ dktX1_ranked_2
def dkwX1_ranked_0 : List UInt8 := [42, 182, 0, 194, 185, 0, 198, 1, 0, 77, 44, 185, 0, 57, 1, 0, 153, 0, 95, 44]
abbrev dktX1_ranked_0 : List UInt8 := dkwX1_ranked_0 ++ dktX1_ranked_1
theorem dksX1_ranked_0 : cX1_ranked.data.toList.drop 0 = dktX1_ranked_0 := by decide +kernel
theorem dksX1_ranked_1 : cX1_ranked.data.toList.drop 20 = dktX1_ranked_1 := dk_seg dksX1_ranked_0 20 rfl rfl
theorem dksX1_ranked_2 : cX1_ranked.data.toList.drop 44 = dktX1_ranked_2 := dk_seg dksX1_ranked_1 24 rfl rfl
theorem dksX1_ranked_3 : cX1_ranked.data.toList.drop 66 = dktX1_ranked_3 := dk_seg dksX1_ranked_2 22 rfl rfl
theorem dksX1_ranked_4 : cX1_ranked.data.toList.drop 90 = dktX1_ranked_4 := dk_seg dksX1_ranked_3 24 rfl rfl
theorem dX1_ranked_0 : decode cX1_ranked 0 = .ok (.aload_n 0, 1) := dk_42 (dk_at dksX1_ranked_0 0 rfl rfl)
theorem dX1_ranked_1 : decode cX1_ranked 1 = .ok (.invokevirtual 194, 3) := dk_182 0 194 (dk_at dksX1_ranked_0 1 rfl rfl)
theorem dX1_ranked_4 : decode cX1_ranked 4 = .ok (.invokeinterface 198 1, 5) := by decide +kernel
theorem dX1_ranked_9 : decode cX1_ranked 9 = .ok (.astore_n 2, 1) := dk_77 (dk_at dksX1_ranked_0 9 rfl rfl)
theorem dX1_ranked_10 : decode cX1_ranked 10 = .ok (.aload_n 2, 1) := dk_44 (dk_at dksX1_ranked_0 10 rfl rfl)
theorem dX1_ranked_11 : decode cX1_ranked 11 = .ok (.invokeinterface 57 1, 5) := by decide +kernel
theorem dX1_ranked_16 : decode cX1_ranked 16 = .ok (.ifCond .eq 95, 3) := dk_153 0 95 (dk_at dksX1_ranked_0 16 rfl rfl)
theorem dX1_ranked_19 : decode cX1_ranked 19 = .ok (.aload_n 2, 1) := dk_44 (dk_at dksX1_ranked_0 19 rfl rfl)
theorem dX1_ranked_20 : decode cX1_ranked 20 = .ok (.invokeinterface 63 1, 5) := by decide +kernel
theorem dX1_ranked_25 : decode cX1_ranked 25 = .ok (.checkcast 92, 3) := dk_192 0 92 (dk_at dksX1_ranked_1 5 rfl rfl)
theorem dX1_ranked_28 : decode cX1_ranked 28 = .ok (.invokevirtual 201, 3) := dk_182 0 201 (dk_at dksX1_ranked_1 8 rfl rfl)
theorem dX1_ranked_31 : decode cX1_ranked 31 = .ok (.istore_n 3, 1) := dk_62 (dk_at dksX1_ranked_1 11 rfl rfl)
theorem dX1_ranked_32 : decode cX1_ranked 32 = .ok (.iconst 0, 1) := dk_3 (dk_at dksX1_ranked_1 12 rfl rfl)
theorem dX1_ranked_33 : decode cX1_ranked 33 = .ok (.istore 4, 2) := dk_54 4 (dk_at dksX1_ranked_1 13 rfl rfl)
theorem dX1_ranked_35 : decode cX1_ranked 35 = .ok (.aload_n 0, 1) := dk_42 (dk_at dksX1_ranked_1 15 rfl rfl)
theorem dX1_ranked_36 : decode cX1_ranked 36 = .ok (.invokevirtual 194, 3) := dk_182 0 194 (dk_at dksX1_ranked_1 16 rfl rfl)
theorem dX1_ranked_39 : decode cX1_ranked 39 = .ok (.invokeinterface 198 1, 5) := by decide +kernel
theorem dX1_ranked_44 : decode cX1_ranked 44 = .ok (.astore 5, 2) := dk_58 5 (dk_at dksX1_ranked_2 0 rfl rfl)
theorem dX1_ranked_46 : decode cX1_ranked 46 = .ok (.aload 5, 2) := dk_25 5 (dk_at dksX1_ranked_2 2 rfl rfl)
theorem dX1_ranked_48 : decode cX1_ranked 48 = .ok (.invokeinterface 57 1, 5) := by decide +kernel
theorem dX1_ranked_53 : decode cX1_ranked 53 = .ok (.ifCond .eq 47, 3) := dk_153 0 47 (dk_at dksX1_ranked_2 9 rfl rfl)
theorem dX1_ranked_56 : decode cX1_ranked 56 = .ok (.aload 5, 2) := dk_25 5 (dk_at dksX1_ranked_2 12 rfl rfl)
theorem dX1_ranked_58 : decode cX1_ranked 58 = .ok (.invokeinterface 63 1, 5) := by decide +kernel
theorem dX1_ranked_63 : decode cX1_ranked 63 = .ok (.checkcast 92, 3) := dk_192 0 92 (dk_at dksX1_ranked_2 19 rfl rfl)
theorem dX1_ranked_66 : decode cX1_ranked 66 = .ok (.invokevirtual 201, 3) := dk_182 0 201 (dk_at dksX1_ranked_3 0 rfl rfl)
theorem dX1_ranked_69 : decode cX1_ranked 69 = .ok (.istore 6, 2) := dk_54 6 (dk_at dksX1_ranked_3 3 rfl rfl)
theorem dX1_ranked_71 : decode cX1_ranked 71 = .ok (.iload 4, 2) := dk_21 4 (dk_at dksX1_ranked_3 5 rfl rfl)
theorem dX1_ranked_73 : decode cX1_ranked 73 = .ok (.iload 6, 2) := dk_21 6 (dk_at dksX1_ranked_3 7 rfl rfl)
theorem dX1_ranked_75 : decode cX1_ranked 75 = .ok (.iload_n 3, 1) := dk_29 (dk_at dksX1_ranked_3 9 rfl rfl)
theorem dX1_ranked_76 : decode cX1_ranked 76 = .ok (.if_icmp .eq 17, 3) := dk_159 0 17 (dk_at dksX1_ranked_3 10 rfl rfl)
theorem dX1_ranked_79 : decode cX1_ranked 79 = .ok (.aload_n 0, 1) := dk_42 (dk_at dksX1_ranked_3 13 rfl rfl)
theorem dX1_ranked_80 : decode cX1_ranked 80 = .ok (.iload 6, 2) := dk_21 6 (dk_at dksX1_ranked_3 14 rfl rfl)
theorem dX1_ranked_82 : decode cX1_ranked 82 = .ok (.iload_n 3, 1) := dk_29 (dk_at dksX1_ranked_3 16 rfl rfl)
theorem dX1_ranked_83 : decode cX1_ranked 83 = .ok (.invokevirtual 230, 3) := dk_182 0 230 (dk_at dksX1_ranked_3 17 rfl rfl)
theorem dX1_ranked_86 : decode cX1_ranked 86 = .ok (.ifCond .eq 7, 3) := dk_153 0 7 (dk_at dksX1_ranked_3 20 rfl rfl)
theorem dX1_ranked_89 : decode cX1_ranked 89 = .ok (.iconst 1, 1) := dk_4 (dk_at dksX1_ranked_3 23 rfl rfl)
theorem dX1_ranked_90 : decode cX1_ranked 90 = .ok (.goto 4, 3) := dk_167 0 4 (dk_at dksX1_ranked_4 0 rfl rfl)
theorem dX1_ranked_93 : decode cX1_ranked 93 = .ok (.iconst 0, 1) := dk_3 (dk_at dksX1_ranked_4 3 rfl rfl)
theorem dX1_ranked_94 : decode cX1_ranked 94 = .ok (.iadd, 1) := dk_96 (dk_at dksX1_ranked_4 4 rfl rfl)
theorem dX1_ranked_95 : decode cX1_ranked 95 = .ok (.istore 4, 2) := dk_54 4 (dk_at dksX1_ranked_4 5 rfl rfl)
theorem dX1_ranked_97 : decode cX1_ranked 97 = .ok (.goto (-51), 3) := dk_167 255 205 (dk_at dksX1_ranked_4 7 rfl rfl)
theorem dX1_ranked_100 : decode cX1_ranked 100 = .ok (.iload 4, 2) := dk_21 4 (dk_at dksX1_ranked_4 10 rfl rfl)
theorem dX1_ranked_102 : decode cX1_ranked 102 = .ok (.iload_n 1, 1) := dk_27 (dk_at dksX1_ranked_4 12 rfl rfl)
theorem dX1_ranked_103 : decode cX1_ranked 103 = .ok (.if_icmp .ne 5, 3) := dk_160 0 5 (dk_at dksX1_ranked_4 13 rfl rfl)
theorem dX1_ranked_106 : decode cX1_ranked 106 = .ok (.iload_n 3, 1) := dk_29 (dk_at dksX1_ranked_4 16 rfl rfl)
theorem dX1_ranked_107 : decode cX1_ranked 107 = .ok (.ireturn, 1) := dk_172 (dk_at dksX1_ranked_4 17 rfl rfl)
theorem dX1_ranked_108 : decode cX1_ranked 108 = .ok (.goto (-98), 3) := dk_167 255 158 (dk_at dksX1_ranked_4 18 rfl rfl)
theorem dX1_ranked_111 : decode cX1_ranked 111 = .ok (.bipush (-11), 2) := dk_16 245 (dk_at dksX1_ranked_4 21 rfl rfl)
theorem dX1_ranked_113 : decode cX1_ranked 113 = .ok (.ireturn, 1) := dk_172 (dk_at dksX1_ranked_4 23 rfl rfl)
abbrev cX1_isMaidAhead : ByteArray := prog_5_method_39_code
def yX1_isMaidAhead : MethodName := ⟨RX1, "isMaidAhead", "(II)Z"⟩
def dkwX1_isMaidAhead_3 : List UInt8 := [27, 28, 164, 0, 7, 4, 167, 0, 4, 3, 172]
abbrev dktX1_isMaidAhead_3 : List UInt8 := dkwX1_isMaidAhead_3 ++ []
def dkwX1_isMaidAhead_2 : List UInt8 := [62, 29, 42, 28, 182, 0, 140, 16, 241, 160, 0, 7, 4, 167, 0, 4, 3, 159, 0, 7, 29, 167, 0, 13]
abbrev dktX1_isMaidAhead_2 : List UInt8 := dkwX1_isMaidAhead_2 ++ dktX1_isMaidAhead_3
def dkwX1_isMaidAhead_1 : List UInt8 := [164, 0, 7, 4, 167, 0, 4, 3, 172, 42, 27, 182, 0, 140, 16, 241, 160, 0, 7, 4, 167, 0, 4, 3]
abbrev dktX1_isMaidAhead_1 : List UInt8 := dkwX1_isMaidAhead_1 ++ dktX1_isMaidAhead_2
def dkwX1_isMaidAhead_0 : List UInt8 := [42, 27, 182, 0, 215, 42, 28, 182, 0, 215, 159, 0, 22, 42, 27, 182, 0, 215, 42, 28, 182, 0, 215]
abbrev dktX1_isMaidAhead_0 : List UInt8 := dkwX1_isMaidAhead_0 ++ dktX1_isMaidAhead_1
theorem dksX1_isMaidAhead_0 : cX1_isMaidAhead.data.toList.drop 0 = dktX1_isMaidAhead_0 := by decide +kernel
theorem dksX1_isMaidAhead_1 : cX1_isMaidAhead.data.toList.drop 23 = dktX1_isMaidAhead_1 := dk_seg dksX1_isMaidAhead_0 23 rfl rfl
theorem dksX1_isMaidAhead_2 : cX1_isMaidAhead.data.toList.drop 47 = dktX1_isMaidAhead_2 := dk_seg dksX1_isMaidAhead_1 24 rfl rfl
theorem dksX1_isMaidAhead_3 : cX1_isMaidAhead.data.toList.drop 71 = dktX1_isMaidAhead_3 := dk_seg dksX1_isMaidAhead_2 24 rfl rfl
theorem dX1_isMaidAhead_0 : decode cX1_isMaidAhead 0 = .ok (.aload_n 0, 1) := dk_42 (dk_at dksX1_isMaidAhead_0 0 rfl rfl)
theorem dX1_isMaidAhead_1 : decode cX1_isMaidAhead 1 = .ok (.iload_n 1, 1) := dk_27 (dk_at dksX1_isMaidAhead_0 1 rfl rfl)
theorem dX1_isMaidAhead_2 : decode cX1_isMaidAhead 2 = .ok (.invokevirtual 215, 3) := dk_182 0 215 (dk_at dksX1_isMaidAhead_0 2 rfl rfl)
theorem dX1_isMaidAhead_5 : decode cX1_isMaidAhead 5 = .ok (.aload_n 0, 1) := dk_42 (dk_at dksX1_isMaidAhead_0 5 rfl rfl)
theorem dX1_isMaidAhead_6 : decode cX1_isMaidAhead 6 = .ok (.iload_n 2, 1) := dk_28 (dk_at dksX1_isMaidAhead_0 6 rfl rfl)
theorem dX1_isMaidAhead_7 : decode cX1_isMaidAhead 7 = .ok (.invokevirtual 215, 3) := dk_182 0 215 (dk_at dksX1_isMaidAhead_0 7 rfl rfl)
theorem dX1_isMaidAhead_10 : decode cX1_isMaidAhead 10 = .ok (.if_icmp .eq 22, 3) := dk_159 0 22 (dk_at dksX1_isMaidAhead_0 10 rfl rfl)
theorem dX1_isMaidAhead_13 : decode cX1_isMaidAhead 13 = .ok (.aload_n 0, 1) := dk_42 (dk_at dksX1_isMaidAhead_0 13 rfl rfl)
theorem dX1_isMaidAhead_14 : decode cX1_isMaidAhead 14 = .ok (.iload_n 1, 1) := dk_27 (dk_at dksX1_isMaidAhead_0 14 rfl rfl)
theorem dX1_isMaidAhead_15 : decode cX1_isMaidAhead 15 = .ok (.invokevirtual 215, 3) := dk_182 0 215 (dk_at dksX1_isMaidAhead_0 15 rfl rfl)
theorem dX1_isMaidAhead_18 : decode cX1_isMaidAhead 18 = .ok (.aload_n 0, 1) := dk_42 (dk_at dksX1_isMaidAhead_0 18 rfl rfl)
theorem dX1_isMaidAhead_19 : decode cX1_isMaidAhead 19 = .ok (.iload_n 2, 1) := dk_28 (dk_at dksX1_isMaidAhead_0 19 rfl rfl)
theorem dX1_isMaidAhead_20 : decode cX1_isMaidAhead 20 = .ok (.invokevirtual 215, 3) := dk_182 0 215 (dk_at dksX1_isMaidAhead_0 20 rfl rfl)
theorem dX1_isMaidAhead_23 : decode cX1_isMaidAhead 23 = .ok (.if_icmp .le 7, 3) := dk_164 0 7 (dk_at dksX1_isMaidAhead_1 0 rfl rfl)
theorem dX1_isMaidAhead_26 : decode cX1_isMaidAhead 26 = .ok (.iconst 1, 1) := dk_4 (dk_at dksX1_isMaidAhead_1 3 rfl rfl)
theorem dX1_isMaidAhead_27 : decode cX1_isMaidAhead 27 = .ok (.goto 4, 3) := dk_167 0 4 (dk_at dksX1_isMaidAhead_1 4 rfl rfl)
theorem dX1_isMaidAhead_30 : decode cX1_isMaidAhead 30 = .ok (.iconst 0, 1) := dk_3 (dk_at dksX1_isMaidAhead_1 7 rfl rfl)
theorem dX1_isMaidAhead_31 : decode cX1_isMaidAhead 31 = .ok (.ireturn, 1) := dk_172 (dk_at dksX1_isMaidAhead_1 8 rfl rfl)
theorem dX1_isMaidAhead_32 : decode cX1_isMaidAhead 32 = .ok (.aload_n 0, 1) := dk_42 (dk_at dksX1_isMaidAhead_1 9 rfl rfl)
theorem dX1_isMaidAhead_33 : decode cX1_isMaidAhead 33 = .ok (.iload_n 1, 1) := dk_27 (dk_at dksX1_isMaidAhead_1 10 rfl rfl)
theorem dX1_isMaidAhead_34 : decode cX1_isMaidAhead 34 = .ok (.invokevirtual 140, 3) := dk_182 0 140 (dk_at dksX1_isMaidAhead_1 11 rfl rfl)
theorem dX1_isMaidAhead_37 : decode cX1_isMaidAhead 37 = .ok (.bipush (-15), 2) := dk_16 241 (dk_at dksX1_isMaidAhead_1 14 rfl rfl)
theorem dX1_isMaidAhead_39 : decode cX1_isMaidAhead 39 = .ok (.if_icmp .ne 7, 3) := dk_160 0 7 (dk_at dksX1_isMaidAhead_1 16 rfl rfl)
theorem dX1_isMaidAhead_42 : decode cX1_isMaidAhead 42 = .ok (.iconst 1, 1) := dk_4 (dk_at dksX1_isMaidAhead_1 19 rfl rfl)
theorem dX1_isMaidAhead_43 : decode cX1_isMaidAhead 43 = .ok (.goto 4, 3) := dk_167 0 4 (dk_at dksX1_isMaidAhead_1 20 rfl rfl)
theorem dX1_isMaidAhead_46 : decode cX1_isMaidAhead 46 = .ok (.iconst 0, 1) := dk_3 (dk_at dksX1_isMaidAhead_1 23 rfl rfl)
theorem dX1_isMaidAhead_47 : decode cX1_isMaidAhead 47 = .ok (.istore_n 3, 1) := dk_62 (dk_at dksX1_isMaidAhead_2 0 rfl rfl)
theorem dX1_isMaidAhead_48 : decode cX1_isMaidAhead 48 = .ok (.iload_n 3, 1) := dk_29 (dk_at dksX1_isMaidAhead_2 1 rfl rfl)
theorem dX1_isMaidAhead_49 : decode cX1_isMaidAhead 49 = .ok (.aload_n 0, 1) := dk_42 (dk_at dksX1_isMaidAhead_2 2 rfl rfl)
theorem dX1_isMaidAhead_50 : decode cX1_isMaidAhead 50 = .ok (.iload_n 2, 1) := dk_28 (dk_at dksX1_isMaidAhead_2 3 rfl rfl)
theorem dX1_isMaidAhead_51 : decode cX1_isMaidAhead 51 = .ok (.invokevirtual 140, 3) := dk_182 0 140 (dk_at dksX1_isMaidAhead_2 4 rfl rfl)
theorem dX1_isMaidAhead_54 : decode cX1_isMaidAhead 54 = .ok (.bipush (-15), 2) := dk_16 241 (dk_at dksX1_isMaidAhead_2 7 rfl rfl)
theorem dX1_isMaidAhead_56 : decode cX1_isMaidAhead 56 = .ok (.if_icmp .ne 7, 3) := dk_160 0 7 (dk_at dksX1_isMaidAhead_2 9 rfl rfl)
theorem dX1_isMaidAhead_59 : decode cX1_isMaidAhead 59 = .ok (.iconst 1, 1) := dk_4 (dk_at dksX1_isMaidAhead_2 12 rfl rfl)
theorem dX1_isMaidAhead_60 : decode cX1_isMaidAhead 60 = .ok (.goto 4, 3) := dk_167 0 4 (dk_at dksX1_isMaidAhead_2 13 rfl rfl)
theorem dX1_isMaidAhead_63 : decode cX1_isMaidAhead 63 = .ok (.iconst 0, 1) := dk_3 (dk_at dksX1_isMaidAhead_2 16 rfl rfl)
theorem dX1_isMaidAhead_64 : decode cX1_isMaidAhead 64 = .ok (.if_icmp .eq 7, 3) := dk_159 0 7 (dk_at dksX1_isMaidAhead_2 17 rfl rfl)
theorem dX1_isMaidAhead_67 : decode cX1_isMaidAhead 67 = .ok (.iload_n 3, 1) := dk_29 (dk_at dksX1_isMaidAhead_2 20 rfl rfl)
theorem dX1_isMaidAhead_68 : decode cX1_isMaidAhead 68 = .ok (.goto 13, 3) := dk_167 0 13 (dk_at dksX1_isMaidAhead_2 21 rfl rfl)
theorem dX1_isMaidAhead_71 : decode cX1_isMaidAhead 71 = .ok (.iload_n 1, 1) := dk_27 (dk_at dksX1_isMaidAhead_3 0 rfl rfl)
theorem dX1_isMaidAhead_72 : decode cX1_isMaidAhead 72 = .ok (.iload_n 2, 1) := dk_28 (dk_at dksX1_isMaidAhead_3 1 rfl rfl)
theorem dX1_isMaidAhead_73 : decode cX1_isMaidAhead 73 = .ok (.if_icmp .le 7, 3) := dk_164 0 7 (dk_at dksX1_isMaidAhead_3 2 rfl rfl)
theorem dX1_isMaidAhead_76 : decode cX1_isMaidAhead 76 = .ok (.iconst 1, 1) := dk_4 (dk_at dksX1_isMaidAhead_3 5 rfl rfl)
theorem dX1_isMaidAhead_77 : decode cX1_isMaidAhead 77 = .ok (.goto 4, 3) := dk_167 0 4 (dk_at dksX1_isMaidAhead_3 6 rfl rfl)
theorem dX1_isMaidAhead_80 : decode cX1_isMaidAhead 80 = .ok (.iconst 0, 1) := dk_3 (dk_at dksX1_isMaidAhead_3 9 rfl rfl)
theorem dX1_isMaidAhead_81 : decode cX1_isMaidAhead 81 = .ok (.ireturn, 1) := dk_172 (dk_at dksX1_isMaidAhead_3 10 rfl rfl)
abbrev cX1_text : ByteArray := prog_5_method_47_code
def yX1_text : MethodName := ⟨RX1, "text", "(I)Ljava/lang/String;"⟩
def dkwX1_text_8 : List UInt8 := [182, 0, 245, 87, 3, 62, 167, 255, 196, 44, 182, 1, 5, 176]
abbrev dktX1_text_8 : List UInt8 := dkwX1_text_8 ++ []
def dkwX1_text_7 : List UInt8 := [167, 0, 5, 18, 250, 182, 0, 252, 25, 5, 180, 0, 111, 182, 0, 241, 25, 5, 180, 0, 108, 184, 0, 255]
abbrev dktX1_text_7 : List UInt8 := dkwX1_text_7 ++ dktX1_text_8
def dkwX1_text_6 : List UInt8 := [153, 0, 56, 25, 4, 185, 0, 63, 1, 0, 192, 0, 67, 58, 5, 44, 29, 153, 0, 9, 19, 1, 3]
abbrev dktX1_text_6 : List UInt8 := dkwX1_text_6 ++ dktX1_text_7
def dkwX1_text_5 : List UInt8 := [180, 0, 21, 27, 182, 0, 49, 192, 0, 41, 182, 0, 53, 58, 4, 25, 4, 185, 0, 57, 1, 0]
abbrev dktX1_text_5 : List UInt8 := dkwX1_text_5 ++ dktX1_text_6
def dkwX1_text_4 : List UInt8 := [180, 0, 11, 21, 5, 50, 27, 53, 184, 0, 255, 182, 0, 245, 87, 3, 62, 167, 255, 181, 4, 62, 42]
abbrev dktX1_text_4 : List UInt8 := dkwX1_text_4 ++ dktX1_text_5
def dkwX1_text_3 : List UInt8 := [153, 0, 41, 44, 29, 153, 0, 8, 18, 248, 167, 0, 5, 18, 250, 182, 0, 252, 21, 5, 182, 0, 241, 42]
abbrev dktX1_text_3 : List UInt8 := dkwX1_text_3 ++ dktX1_text_4
def dkwX1_text_2 : List UInt8 := [185, 0, 63, 1, 0, 192, 0, 92, 182, 0, 201, 54, 5, 42, 180, 0, 11, 21, 5, 50, 27, 53]
abbrev dktX1_text_2 : List UInt8 := dkwX1_text_2 ++ dktX1_text_3
def dkwX1_text_1 : List UInt8 := [182, 0, 194, 185, 0, 198, 1, 0, 58, 4, 25, 4, 185, 0, 57, 1, 0, 153, 0, 71, 25, 4]
abbrev dktX1_text_1 : List UInt8 := dkwX1_text_1 ++ dktX1_text_2
def dkwX1_text_0 : List UInt8 := [187, 0, 238, 89, 183, 0, 240, 77, 44, 27, 182, 0, 241, 16, 58, 182, 0, 245, 87, 4, 62, 42]
abbrev dktX1_text_0 : List UInt8 := dkwX1_text_0 ++ dktX1_text_1
theorem dksX1_text_0 : cX1_text.data.toList.drop 0 = dktX1_text_0 := by decide +kernel
theorem dksX1_text_1 : cX1_text.data.toList.drop 22 = dktX1_text_1 := dk_seg dksX1_text_0 22 rfl rfl
theorem dksX1_text_2 : cX1_text.data.toList.drop 44 = dktX1_text_2 := dk_seg dksX1_text_1 22 rfl rfl
theorem dksX1_text_3 : cX1_text.data.toList.drop 66 = dktX1_text_3 := dk_seg dksX1_text_2 22 rfl rfl
theorem dksX1_text_4 : cX1_text.data.toList.drop 90 = dktX1_text_4 := dk_seg dksX1_text_3 24 rfl rfl
theorem dksX1_text_5 : cX1_text.data.toList.drop 113 = dktX1_text_5 := dk_seg dksX1_text_4 23 rfl rfl
theorem dksX1_text_6 : cX1_text.data.toList.drop 135 = dktX1_text_6 := dk_seg dksX1_text_5 22 rfl rfl
theorem dksX1_text_7 : cX1_text.data.toList.drop 158 = dktX1_text_7 := dk_seg dksX1_text_6 23 rfl rfl
theorem dksX1_text_8 : cX1_text.data.toList.drop 182 = dktX1_text_8 := dk_seg dksX1_text_7 24 rfl rfl
theorem dX1_text_0 : decode cX1_text 0 = .ok (.new 238, 3) := dk_187 0 238 (dk_at dksX1_text_0 0 rfl rfl)
theorem dX1_text_3 : decode cX1_text 3 = .ok (.dup, 1) := dk_89 (dk_at dksX1_text_0 3 rfl rfl)
theorem dX1_text_4 : decode cX1_text 4 = .ok (.invokespecial 240, 3) := dk_183 0 240 (dk_at dksX1_text_0 4 rfl rfl)
theorem dX1_text_7 : decode cX1_text 7 = .ok (.astore_n 2, 1) := dk_77 (dk_at dksX1_text_0 7 rfl rfl)
theorem dX1_text_8 : decode cX1_text 8 = .ok (.aload_n 2, 1) := dk_44 (dk_at dksX1_text_0 8 rfl rfl)
theorem dX1_text_9 : decode cX1_text 9 = .ok (.iload_n 1, 1) := dk_27 (dk_at dksX1_text_0 9 rfl rfl)
theorem dX1_text_10 : decode cX1_text 10 = .ok (.invokevirtual 241, 3) := dk_182 0 241 (dk_at dksX1_text_0 10 rfl rfl)
theorem dX1_text_13 : decode cX1_text 13 = .ok (.bipush 58, 2) := dk_16 58 (dk_at dksX1_text_0 13 rfl rfl)
theorem dX1_text_15 : decode cX1_text 15 = .ok (.invokevirtual 245, 3) := dk_182 0 245 (dk_at dksX1_text_0 15 rfl rfl)
theorem dX1_text_18 : decode cX1_text 18 = .ok (.pop, 1) := dk_87 (dk_at dksX1_text_0 18 rfl rfl)
theorem dX1_text_19 : decode cX1_text 19 = .ok (.iconst 1, 1) := dk_4 (dk_at dksX1_text_0 19 rfl rfl)
theorem dX1_text_20 : decode cX1_text 20 = .ok (.istore_n 3, 1) := dk_62 (dk_at dksX1_text_0 20 rfl rfl)
theorem dX1_text_21 : decode cX1_text 21 = .ok (.aload_n 0, 1) := dk_42 (dk_at dksX1_text_0 21 rfl rfl)
theorem dX1_text_22 : decode cX1_text 22 = .ok (.invokevirtual 194, 3) := dk_182 0 194 (dk_at dksX1_text_1 0 rfl rfl)
theorem dX1_text_25 : decode cX1_text 25 = .ok (.invokeinterface 198 1, 5) := by decide +kernel
theorem dX1_text_30 : decode cX1_text 30 = .ok (.astore 4, 2) := dk_58 4 (dk_at dksX1_text_1 8 rfl rfl)
theorem dX1_text_32 : decode cX1_text 32 = .ok (.aload 4, 2) := dk_25 4 (dk_at dksX1_text_1 10 rfl rfl)
theorem dX1_text_34 : decode cX1_text 34 = .ok (.invokeinterface 57 1, 5) := by decide +kernel
theorem dX1_text_39 : decode cX1_text 39 = .ok (.ifCond .eq 71, 3) := dk_153 0 71 (dk_at dksX1_text_1 17 rfl rfl)
theorem dX1_text_42 : decode cX1_text 42 = .ok (.aload 4, 2) := dk_25 4 (dk_at dksX1_text_1 20 rfl rfl)
theorem dX1_text_44 : decode cX1_text 44 = .ok (.invokeinterface 63 1, 5) := by decide +kernel
theorem dX1_text_49 : decode cX1_text 49 = .ok (.checkcast 92, 3) := dk_192 0 92 (dk_at dksX1_text_2 5 rfl rfl)
theorem dX1_text_52 : decode cX1_text 52 = .ok (.invokevirtual 201, 3) := dk_182 0 201 (dk_at dksX1_text_2 8 rfl rfl)
theorem dX1_text_55 : decode cX1_text 55 = .ok (.istore 5, 2) := dk_54 5 (dk_at dksX1_text_2 11 rfl rfl)
theorem dX1_text_57 : decode cX1_text 57 = .ok (.aload_n 0, 1) := dk_42 (dk_at dksX1_text_2 13 rfl rfl)
theorem dX1_text_58 : decode cX1_text 58 = .ok (.getfield 11, 3) := dk_180 0 11 (dk_at dksX1_text_2 14 rfl rfl)
theorem dX1_text_61 : decode cX1_text 61 = .ok (.iload 5, 2) := dk_21 5 (dk_at dksX1_text_2 17 rfl rfl)
theorem dX1_text_63 : decode cX1_text 63 = .ok (.aaload, 1) := dk_50 (dk_at dksX1_text_2 19 rfl rfl)
theorem dX1_text_64 : decode cX1_text 64 = .ok (.iload_n 1, 1) := dk_27 (dk_at dksX1_text_2 20 rfl rfl)
theorem dX1_text_65 : decode cX1_text 65 = .ok (.saload, 1) := dk_53 (dk_at dksX1_text_2 21 rfl rfl)
theorem dX1_text_66 : decode cX1_text 66 = .ok (.ifCond .eq 41, 3) := dk_153 0 41 (dk_at dksX1_text_3 0 rfl rfl)
theorem dX1_text_69 : decode cX1_text 69 = .ok (.aload_n 2, 1) := dk_44 (dk_at dksX1_text_3 3 rfl rfl)
theorem dX1_text_70 : decode cX1_text 70 = .ok (.iload_n 3, 1) := dk_29 (dk_at dksX1_text_3 4 rfl rfl)
theorem dX1_text_71 : decode cX1_text 71 = .ok (.ifCond .eq 8, 3) := dk_153 0 8 (dk_at dksX1_text_3 5 rfl rfl)
theorem dX1_text_74 : decode cX1_text 74 = .ok (.ldc 248, 2) := dk_18 248 (dk_at dksX1_text_3 8 rfl rfl)
theorem dX1_text_76 : decode cX1_text 76 = .ok (.goto 5, 3) := dk_167 0 5 (dk_at dksX1_text_3 10 rfl rfl)
theorem dX1_text_79 : decode cX1_text 79 = .ok (.ldc 250, 2) := dk_18 250 (dk_at dksX1_text_3 13 rfl rfl)
theorem dX1_text_81 : decode cX1_text 81 = .ok (.invokevirtual 252, 3) := dk_182 0 252 (dk_at dksX1_text_3 15 rfl rfl)
theorem dX1_text_84 : decode cX1_text 84 = .ok (.iload 5, 2) := dk_21 5 (dk_at dksX1_text_3 18 rfl rfl)
theorem dX1_text_86 : decode cX1_text 86 = .ok (.invokevirtual 241, 3) := dk_182 0 241 (dk_at dksX1_text_3 20 rfl rfl)
theorem dX1_text_89 : decode cX1_text 89 = .ok (.aload_n 0, 1) := dk_42 (dk_at dksX1_text_3 23 rfl rfl)
theorem dX1_text_90 : decode cX1_text 90 = .ok (.getfield 11, 3) := dk_180 0 11 (dk_at dksX1_text_4 0 rfl rfl)
theorem dX1_text_93 : decode cX1_text 93 = .ok (.iload 5, 2) := dk_21 5 (dk_at dksX1_text_4 3 rfl rfl)
theorem dX1_text_95 : decode cX1_text 95 = .ok (.aaload, 1) := dk_50 (dk_at dksX1_text_4 5 rfl rfl)
theorem dX1_text_96 : decode cX1_text 96 = .ok (.iload_n 1, 1) := dk_27 (dk_at dksX1_text_4 6 rfl rfl)
theorem dX1_text_97 : decode cX1_text 97 = .ok (.saload, 1) := dk_53 (dk_at dksX1_text_4 7 rfl rfl)
theorem dX1_text_98 : decode cX1_text 98 = .ok (.invokestatic 255, 3) := dk_184 0 255 (dk_at dksX1_text_4 8 rfl rfl)
theorem dX1_text_101 : decode cX1_text 101 = .ok (.invokevirtual 245, 3) := dk_182 0 245 (dk_at dksX1_text_4 11 rfl rfl)
theorem dX1_text_104 : decode cX1_text 104 = .ok (.pop, 1) := dk_87 (dk_at dksX1_text_4 14 rfl rfl)
theorem dX1_text_105 : decode cX1_text 105 = .ok (.iconst 0, 1) := dk_3 (dk_at dksX1_text_4 15 rfl rfl)
theorem dX1_text_106 : decode cX1_text 106 = .ok (.istore_n 3, 1) := dk_62 (dk_at dksX1_text_4 16 rfl rfl)
theorem dX1_text_107 : decode cX1_text 107 = .ok (.goto (-75), 3) := dk_167 255 181 (dk_at dksX1_text_4 17 rfl rfl)
theorem dX1_text_110 : decode cX1_text 110 = .ok (.iconst 1, 1) := dk_4 (dk_at dksX1_text_4 20 rfl rfl)
theorem dX1_text_111 : decode cX1_text 111 = .ok (.istore_n 3, 1) := dk_62 (dk_at dksX1_text_4 21 rfl rfl)
theorem dX1_text_112 : decode cX1_text 112 = .ok (.aload_n 0, 1) := dk_42 (dk_at dksX1_text_4 22 rfl rfl)
theorem dX1_text_113 : decode cX1_text 113 = .ok (.getfield 21, 3) := dk_180 0 21 (dk_at dksX1_text_5 0 rfl rfl)
theorem dX1_text_116 : decode cX1_text 116 = .ok (.iload_n 1, 1) := dk_27 (dk_at dksX1_text_5 3 rfl rfl)
theorem dX1_text_117 : decode cX1_text 117 = .ok (.invokevirtual 49, 3) := dk_182 0 49 (dk_at dksX1_text_5 4 rfl rfl)
theorem dX1_text_120 : decode cX1_text 120 = .ok (.checkcast 41, 3) := dk_192 0 41 (dk_at dksX1_text_5 7 rfl rfl)
theorem dX1_text_123 : decode cX1_text 123 = .ok (.invokevirtual 53, 3) := dk_182 0 53 (dk_at dksX1_text_5 10 rfl rfl)
theorem dX1_text_126 : decode cX1_text 126 = .ok (.astore 4, 2) := dk_58 4 (dk_at dksX1_text_5 13 rfl rfl)
theorem dX1_text_128 : decode cX1_text 128 = .ok (.aload 4, 2) := dk_25 4 (dk_at dksX1_text_5 15 rfl rfl)
theorem dX1_text_130 : decode cX1_text 130 = .ok (.invokeinterface 57 1, 5) := by decide +kernel
theorem dX1_text_135 : decode cX1_text 135 = .ok (.ifCond .eq 56, 3) := dk_153 0 56 (dk_at dksX1_text_6 0 rfl rfl)
theorem dX1_text_138 : decode cX1_text 138 = .ok (.aload 4, 2) := dk_25 4 (dk_at dksX1_text_6 3 rfl rfl)
theorem dX1_text_140 : decode cX1_text 140 = .ok (.invokeinterface 63 1, 5) := by decide +kernel
theorem dX1_text_145 : decode cX1_text 145 = .ok (.checkcast 67, 3) := dk_192 0 67 (dk_at dksX1_text_6 10 rfl rfl)
theorem dX1_text_148 : decode cX1_text 148 = .ok (.astore 5, 2) := dk_58 5 (dk_at dksX1_text_6 13 rfl rfl)
theorem dX1_text_150 : decode cX1_text 150 = .ok (.aload_n 2, 1) := dk_44 (dk_at dksX1_text_6 15 rfl rfl)
theorem dX1_text_151 : decode cX1_text 151 = .ok (.iload_n 3, 1) := dk_29 (dk_at dksX1_text_6 16 rfl rfl)
theorem dX1_text_152 : decode cX1_text 152 = .ok (.ifCond .eq 9, 3) := dk_153 0 9 (dk_at dksX1_text_6 17 rfl rfl)
theorem dX1_text_155 : decode cX1_text 155 = .ok (.ldc_w 259, 3) := dk_19 1 3 (dk_at dksX1_text_6 20 rfl rfl)
theorem dX1_text_158 : decode cX1_text 158 = .ok (.goto 5, 3) := dk_167 0 5 (dk_at dksX1_text_7 0 rfl rfl)
theorem dX1_text_161 : decode cX1_text 161 = .ok (.ldc 250, 2) := dk_18 250 (dk_at dksX1_text_7 3 rfl rfl)
theorem dX1_text_163 : decode cX1_text 163 = .ok (.invokevirtual 252, 3) := dk_182 0 252 (dk_at dksX1_text_7 5 rfl rfl)
theorem dX1_text_166 : decode cX1_text 166 = .ok (.aload 5, 2) := dk_25 5 (dk_at dksX1_text_7 8 rfl rfl)
theorem dX1_text_168 : decode cX1_text 168 = .ok (.getfield 111, 3) := dk_180 0 111 (dk_at dksX1_text_7 10 rfl rfl)
theorem dX1_text_171 : decode cX1_text 171 = .ok (.invokevirtual 241, 3) := dk_182 0 241 (dk_at dksX1_text_7 13 rfl rfl)
theorem dX1_text_174 : decode cX1_text 174 = .ok (.aload 5, 2) := dk_25 5 (dk_at dksX1_text_7 16 rfl rfl)
theorem dX1_text_176 : decode cX1_text 176 = .ok (.getfield 108, 3) := dk_180 0 108 (dk_at dksX1_text_7 18 rfl rfl)
theorem dX1_text_179 : decode cX1_text 179 = .ok (.invokestatic 255, 3) := dk_184 0 255 (dk_at dksX1_text_7 21 rfl rfl)
theorem dX1_text_182 : decode cX1_text 182 = .ok (.invokevirtual 245, 3) := dk_182 0 245 (dk_at dksX1_text_8 0 rfl rfl)
theorem dX1_text_185 : decode cX1_text 185 = .ok (.pop, 1) := dk_87 (dk_at dksX1_text_8 3 rfl rfl)
theorem dX1_text_186 : decode cX1_text 186 = .ok (.iconst 0, 1) := dk_3 (dk_at dksX1_text_8 4 rfl rfl)
theorem dX1_text_187 : decode cX1_text 187 = .ok (.istore_n 3, 1) := dk_62 (dk_at dksX1_text_8 5 rfl rfl)
theorem dX1_text_188 : decode cX1_text 188 = .ok (.goto (-60), 3) := dk_167 255 196 (dk_at dksX1_text_8 6 rfl rfl)
theorem dX1_text_191 : decode cX1_text 191 = .ok (.aload_n 2, 1) := dk_44 (dk_at dksX1_text_8 9 rfl rfl)
theorem dX1_text_192 : decode cX1_text 192 = .ok (.invokevirtual 261, 3) := dk_182 1 5 (dk_at dksX1_text_8 10 rfl rfl)
theorem dX1_text_195 : decode cX1_text 195 = .ok (.areturn, 1) := dk_176 (dk_at dksX1_text_8 13 rfl rfl)
abbrev cX1_maidText : ByteArray := prog_5_method_48_code
def yX1_maidText : MethodName := ⟨RX1, "maidText", "(I)Ljava/lang/String;"⟩
def dkwX1_maidText_6 : List UInt8 := [182, 1, 5, 176]
abbrev dktX1_maidText_6 : List UInt8 := dkwX1_maidText_6 ++ []
def dkwX1_maidText_5 : List UInt8 := [182, 0, 140, 182, 0, 241, 45, 180, 0, 108, 184, 0, 255, 182, 0, 245, 182, 1, 5, 182, 0, 252]
abbrev dktX1_maidText_5 : List UInt8 := dkwX1_maidText_5 ++ dktX1_maidText_6
def dkwX1_maidText_4 : List UInt8 := [199, 0, 8, 18, 248, 167, 0, 37, 187, 0, 238, 89, 183, 0, 240, 19, 1, 9, 182, 0, 252, 42, 27]
abbrev dktX1_maidText_4 : List UInt8 := dkwX1_maidText_4 ++ dktX1_maidText_5
def dkwX1_maidText_3 : List UInt8 := [182, 0, 245, 182, 1, 5, 182, 0, 252, 87, 132, 3, 1, 167, 255, 193, 42, 27, 182, 0, 187, 78, 44, 45]
abbrev dktX1_maidText_3 : List UInt8 := dkwX1_maidText_3 ++ dktX1_maidText_4
def dkwX1_maidText_2 : List UInt8 := [183, 0, 240, 18, 248, 182, 0, 252, 29, 182, 0, 241, 42, 180, 0, 11, 27, 50, 29, 53, 184, 0, 255]
abbrev dktX1_maidText_2 : List UInt8 := dkwX1_maidText_2 ++ dktX1_maidText_3
def dkwX1_maidText_1 : List UInt8 := [162, 0, 63, 44, 42, 180, 0, 11, 27, 50, 29, 53, 154, 0, 8, 18, 248, 167, 0, 36, 187, 0, 238, 89]
abbrev dktX1_maidText_1 : List UInt8 := dkwX1_maidText_1 ++ dktX1_maidText_2
def dkwX1_maidText_0 : List UInt8 := [187, 0, 238, 89, 183, 0, 240, 77, 44, 27, 182, 0, 241, 16, 61, 182, 0, 245, 87, 3, 62, 29, 16, 8]
abbrev dktX1_maidText_0 : List UInt8 := dkwX1_maidText_0 ++ dktX1_maidText_1
theorem dksX1_maidText_0 : cX1_maidText.data.toList.drop 0 = dktX1_maidText_0 := by decide +kernel
theorem dksX1_maidText_1 : cX1_maidText.data.toList.drop 24 = dktX1_maidText_1 := dk_seg dksX1_maidText_0 24 rfl rfl
theorem dksX1_maidText_2 : cX1_maidText.data.toList.drop 48 = dktX1_maidText_2 := dk_seg dksX1_maidText_1 24 rfl rfl
theorem dksX1_maidText_3 : cX1_maidText.data.toList.drop 71 = dktX1_maidText_3 := dk_seg dksX1_maidText_2 23 rfl rfl
theorem dksX1_maidText_4 : cX1_maidText.data.toList.drop 95 = dktX1_maidText_4 := dk_seg dksX1_maidText_3 24 rfl rfl
theorem dksX1_maidText_5 : cX1_maidText.data.toList.drop 118 = dktX1_maidText_5 := dk_seg dksX1_maidText_4 23 rfl rfl
theorem dksX1_maidText_6 : cX1_maidText.data.toList.drop 140 = dktX1_maidText_6 := dk_seg dksX1_maidText_5 22 rfl rfl
theorem dX1_maidText_0 : decode cX1_maidText 0 = .ok (.new 238, 3) := dk_187 0 238 (dk_at dksX1_maidText_0 0 rfl rfl)
theorem dX1_maidText_3 : decode cX1_maidText 3 = .ok (.dup, 1) := dk_89 (dk_at dksX1_maidText_0 3 rfl rfl)
theorem dX1_maidText_4 : decode cX1_maidText 4 = .ok (.invokespecial 240, 3) := dk_183 0 240 (dk_at dksX1_maidText_0 4 rfl rfl)
theorem dX1_maidText_7 : decode cX1_maidText 7 = .ok (.astore_n 2, 1) := dk_77 (dk_at dksX1_maidText_0 7 rfl rfl)
theorem dX1_maidText_8 : decode cX1_maidText 8 = .ok (.aload_n 2, 1) := dk_44 (dk_at dksX1_maidText_0 8 rfl rfl)
theorem dX1_maidText_9 : decode cX1_maidText 9 = .ok (.iload_n 1, 1) := dk_27 (dk_at dksX1_maidText_0 9 rfl rfl)
theorem dX1_maidText_10 : decode cX1_maidText 10 = .ok (.invokevirtual 241, 3) := dk_182 0 241 (dk_at dksX1_maidText_0 10 rfl rfl)
theorem dX1_maidText_13 : decode cX1_maidText 13 = .ok (.bipush 61, 2) := dk_16 61 (dk_at dksX1_maidText_0 13 rfl rfl)
theorem dX1_maidText_15 : decode cX1_maidText 15 = .ok (.invokevirtual 245, 3) := dk_182 0 245 (dk_at dksX1_maidText_0 15 rfl rfl)
theorem dX1_maidText_18 : decode cX1_maidText 18 = .ok (.pop, 1) := dk_87 (dk_at dksX1_maidText_0 18 rfl rfl)
theorem dX1_maidText_19 : decode cX1_maidText 19 = .ok (.iconst 0, 1) := dk_3 (dk_at dksX1_maidText_0 19 rfl rfl)
theorem dX1_maidText_20 : decode cX1_maidText 20 = .ok (.istore_n 3, 1) := dk_62 (dk_at dksX1_maidText_0 20 rfl rfl)
theorem dX1_maidText_21 : decode cX1_maidText 21 = .ok (.iload_n 3, 1) := dk_29 (dk_at dksX1_maidText_0 21 rfl rfl)
theorem dX1_maidText_22 : decode cX1_maidText 22 = .ok (.bipush 8, 2) := dk_16 8 (dk_at dksX1_maidText_0 22 rfl rfl)
theorem dX1_maidText_24 : decode cX1_maidText 24 = .ok (.if_icmp .ge 63, 3) := dk_162 0 63 (dk_at dksX1_maidText_1 0 rfl rfl)
theorem dX1_maidText_27 : decode cX1_maidText 27 = .ok (.aload_n 2, 1) := dk_44 (dk_at dksX1_maidText_1 3 rfl rfl)
theorem dX1_maidText_28 : decode cX1_maidText 28 = .ok (.aload_n 0, 1) := dk_42 (dk_at dksX1_maidText_1 4 rfl rfl)
theorem dX1_maidText_29 : decode cX1_maidText 29 = .ok (.getfield 11, 3) := dk_180 0 11 (dk_at dksX1_maidText_1 5 rfl rfl)
theorem dX1_maidText_32 : decode cX1_maidText 32 = .ok (.iload_n 1, 1) := dk_27 (dk_at dksX1_maidText_1 8 rfl rfl)
theorem dX1_maidText_33 : decode cX1_maidText 33 = .ok (.aaload, 1) := dk_50 (dk_at dksX1_maidText_1 9 rfl rfl)
theorem dX1_maidText_34 : decode cX1_maidText 34 = .ok (.iload_n 3, 1) := dk_29 (dk_at dksX1_maidText_1 10 rfl rfl)
theorem dX1_maidText_35 : decode cX1_maidText 35 = .ok (.saload, 1) := dk_53 (dk_at dksX1_maidText_1 11 rfl rfl)
theorem dX1_maidText_36 : decode cX1_maidText 36 = .ok (.ifCond .ne 8, 3) := dk_154 0 8 (dk_at dksX1_maidText_1 12 rfl rfl)
theorem dX1_maidText_39 : decode cX1_maidText 39 = .ok (.ldc 248, 2) := dk_18 248 (dk_at dksX1_maidText_1 15 rfl rfl)
theorem dX1_maidText_41 : decode cX1_maidText 41 = .ok (.goto 36, 3) := dk_167 0 36 (dk_at dksX1_maidText_1 17 rfl rfl)
theorem dX1_maidText_44 : decode cX1_maidText 44 = .ok (.new 238, 3) := dk_187 0 238 (dk_at dksX1_maidText_1 20 rfl rfl)
theorem dX1_maidText_47 : decode cX1_maidText 47 = .ok (.dup, 1) := dk_89 (dk_at dksX1_maidText_1 23 rfl rfl)
theorem dX1_maidText_48 : decode cX1_maidText 48 = .ok (.invokespecial 240, 3) := dk_183 0 240 (dk_at dksX1_maidText_2 0 rfl rfl)
theorem dX1_maidText_51 : decode cX1_maidText 51 = .ok (.ldc 248, 2) := dk_18 248 (dk_at dksX1_maidText_2 3 rfl rfl)
theorem dX1_maidText_53 : decode cX1_maidText 53 = .ok (.invokevirtual 252, 3) := dk_182 0 252 (dk_at dksX1_maidText_2 5 rfl rfl)
theorem dX1_maidText_56 : decode cX1_maidText 56 = .ok (.iload_n 3, 1) := dk_29 (dk_at dksX1_maidText_2 8 rfl rfl)
theorem dX1_maidText_57 : decode cX1_maidText 57 = .ok (.invokevirtual 241, 3) := dk_182 0 241 (dk_at dksX1_maidText_2 9 rfl rfl)
theorem dX1_maidText_60 : decode cX1_maidText 60 = .ok (.aload_n 0, 1) := dk_42 (dk_at dksX1_maidText_2 12 rfl rfl)
theorem dX1_maidText_61 : decode cX1_maidText 61 = .ok (.getfield 11, 3) := dk_180 0 11 (dk_at dksX1_maidText_2 13 rfl rfl)
theorem dX1_maidText_64 : decode cX1_maidText 64 = .ok (.iload_n 1, 1) := dk_27 (dk_at dksX1_maidText_2 16 rfl rfl)
theorem dX1_maidText_65 : decode cX1_maidText 65 = .ok (.aaload, 1) := dk_50 (dk_at dksX1_maidText_2 17 rfl rfl)
theorem dX1_maidText_66 : decode cX1_maidText 66 = .ok (.iload_n 3, 1) := dk_29 (dk_at dksX1_maidText_2 18 rfl rfl)
theorem dX1_maidText_67 : decode cX1_maidText 67 = .ok (.saload, 1) := dk_53 (dk_at dksX1_maidText_2 19 rfl rfl)
theorem dX1_maidText_68 : decode cX1_maidText 68 = .ok (.invokestatic 255, 3) := dk_184 0 255 (dk_at dksX1_maidText_2 20 rfl rfl)
theorem dX1_maidText_71 : decode cX1_maidText 71 = .ok (.invokevirtual 245, 3) := dk_182 0 245 (dk_at dksX1_maidText_3 0 rfl rfl)
theorem dX1_maidText_74 : decode cX1_maidText 74 = .ok (.invokevirtual 261, 3) := dk_182 1 5 (dk_at dksX1_maidText_3 3 rfl rfl)
theorem dX1_maidText_77 : decode cX1_maidText 77 = .ok (.invokevirtual 252, 3) := dk_182 0 252 (dk_at dksX1_maidText_3 6 rfl rfl)
theorem dX1_maidText_80 : decode cX1_maidText 80 = .ok (.pop, 1) := dk_87 (dk_at dksX1_maidText_3 9 rfl rfl)
theorem dX1_maidText_81 : decode cX1_maidText 81 = .ok (.iinc 3 1, 3) := dk_132 3 1 (dk_at dksX1_maidText_3 10 rfl rfl)
theorem dX1_maidText_84 : decode cX1_maidText 84 = .ok (.goto (-63), 3) := dk_167 255 193 (dk_at dksX1_maidText_3 13 rfl rfl)
theorem dX1_maidText_87 : decode cX1_maidText 87 = .ok (.aload_n 0, 1) := dk_42 (dk_at dksX1_maidText_3 16 rfl rfl)
theorem dX1_maidText_88 : decode cX1_maidText 88 = .ok (.iload_n 1, 1) := dk_27 (dk_at dksX1_maidText_3 17 rfl rfl)
theorem dX1_maidText_89 : decode cX1_maidText 89 = .ok (.invokevirtual 187, 3) := dk_182 0 187 (dk_at dksX1_maidText_3 18 rfl rfl)
theorem dX1_maidText_92 : decode cX1_maidText 92 = .ok (.astore_n 3, 1) := dk_78 (dk_at dksX1_maidText_3 21 rfl rfl)
theorem dX1_maidText_93 : decode cX1_maidText 93 = .ok (.aload_n 2, 1) := dk_44 (dk_at dksX1_maidText_3 22 rfl rfl)
theorem dX1_maidText_94 : decode cX1_maidText 94 = .ok (.aload_n 3, 1) := dk_45 (dk_at dksX1_maidText_3 23 rfl rfl)
theorem dX1_maidText_95 : decode cX1_maidText 95 = .ok (.ifnonnull 8, 3) := dk_199 0 8 (dk_at dksX1_maidText_4 0 rfl rfl)
theorem dX1_maidText_98 : decode cX1_maidText 98 = .ok (.ldc 248, 2) := dk_18 248 (dk_at dksX1_maidText_4 3 rfl rfl)
theorem dX1_maidText_100 : decode cX1_maidText 100 = .ok (.goto 37, 3) := dk_167 0 37 (dk_at dksX1_maidText_4 5 rfl rfl)
theorem dX1_maidText_103 : decode cX1_maidText 103 = .ok (.new 238, 3) := dk_187 0 238 (dk_at dksX1_maidText_4 8 rfl rfl)
theorem dX1_maidText_106 : decode cX1_maidText 106 = .ok (.dup, 1) := dk_89 (dk_at dksX1_maidText_4 11 rfl rfl)
theorem dX1_maidText_107 : decode cX1_maidText 107 = .ok (.invokespecial 240, 3) := dk_183 0 240 (dk_at dksX1_maidText_4 12 rfl rfl)
theorem dX1_maidText_110 : decode cX1_maidText 110 = .ok (.ldc_w 265, 3) := dk_19 1 9 (dk_at dksX1_maidText_4 15 rfl rfl)
theorem dX1_maidText_113 : decode cX1_maidText 113 = .ok (.invokevirtual 252, 3) := dk_182 0 252 (dk_at dksX1_maidText_4 18 rfl rfl)
theorem dX1_maidText_116 : decode cX1_maidText 116 = .ok (.aload_n 0, 1) := dk_42 (dk_at dksX1_maidText_4 21 rfl rfl)
theorem dX1_maidText_117 : decode cX1_maidText 117 = .ok (.iload_n 1, 1) := dk_27 (dk_at dksX1_maidText_4 22 rfl rfl)
theorem dX1_maidText_118 : decode cX1_maidText 118 = .ok (.invokevirtual 140, 3) := dk_182 0 140 (dk_at dksX1_maidText_5 0 rfl rfl)
theorem dX1_maidText_121 : decode cX1_maidText 121 = .ok (.invokevirtual 241, 3) := dk_182 0 241 (dk_at dksX1_maidText_5 3 rfl rfl)
theorem dX1_maidText_124 : decode cX1_maidText 124 = .ok (.aload_n 3, 1) := dk_45 (dk_at dksX1_maidText_5 6 rfl rfl)
theorem dX1_maidText_125 : decode cX1_maidText 125 = .ok (.getfield 108, 3) := dk_180 0 108 (dk_at dksX1_maidText_5 7 rfl rfl)
theorem dX1_maidText_128 : decode cX1_maidText 128 = .ok (.invokestatic 255, 3) := dk_184 0 255 (dk_at dksX1_maidText_5 10 rfl rfl)
theorem dX1_maidText_131 : decode cX1_maidText 131 = .ok (.invokevirtual 245, 3) := dk_182 0 245 (dk_at dksX1_maidText_5 13 rfl rfl)
theorem dX1_maidText_134 : decode cX1_maidText 134 = .ok (.invokevirtual 261, 3) := dk_182 1 5 (dk_at dksX1_maidText_5 16 rfl rfl)
theorem dX1_maidText_137 : decode cX1_maidText 137 = .ok (.invokevirtual 252, 3) := dk_182 0 252 (dk_at dksX1_maidText_5 19 rfl rfl)
theorem dX1_maidText_140 : decode cX1_maidText 140 = .ok (.invokevirtual 261, 3) := dk_182 1 5 (dk_at dksX1_maidText_6 0 rfl rfl)
theorem dX1_maidText_143 : decode cX1_maidText 143 = .ok (.areturn, 1) := dk_176 (dk_at dksX1_maidText_6 3 rfl rfl)
abbrev cX1_waiting_2 : ByteArray := prog_5_method_41_code
def yX1_waiting_2 : MethodName := ⟨RX1, "waiting", "()I"⟩
def dkwX1_waiting_2_1 : List UInt8 := [185, 0, 63, 1, 0, 192, 0, 41, 78, 27, 45, 182, 0, 146, 96, 60, 167, 255, 230, 27, 172]
abbrev dktX1_waiting_2_1 : List UInt8 := dkwX1_waiting_2_1 ++ []
def dkwX1_waiting_2_0 : List UInt8 := [3, 60, 42, 180, 0, 21, 182, 0, 233, 77, 44, 185, 0, 57, 1, 0, 153, 0, 23, 44]
abbrev dktX1_waiting_2_0 : List UInt8 := dkwX1_waiting_2_0 ++ dktX1_waiting_2_1
theorem dksX1_waiting_2_0 : cX1_waiting_2.data.toList.drop 0 = dktX1_waiting_2_0 := by decide +kernel
theorem dksX1_waiting_2_1 : cX1_waiting_2.data.toList.drop 20 = dktX1_waiting_2_1 := dk_seg dksX1_waiting_2_0 20 rfl rfl
theorem dX1_waiting_2_0 : decode cX1_waiting_2 0 = .ok (.iconst 0, 1) := dk_3 (dk_at dksX1_waiting_2_0 0 rfl rfl)
theorem dX1_waiting_2_1 : decode cX1_waiting_2 1 = .ok (.istore_n 1, 1) := dk_60 (dk_at dksX1_waiting_2_0 1 rfl rfl)
theorem dX1_waiting_2_2 : decode cX1_waiting_2 2 = .ok (.aload_n 0, 1) := dk_42 (dk_at dksX1_waiting_2_0 2 rfl rfl)
theorem dX1_waiting_2_3 : decode cX1_waiting_2 3 = .ok (.getfield 21, 3) := dk_180 0 21 (dk_at dksX1_waiting_2_0 3 rfl rfl)
theorem dX1_waiting_2_6 : decode cX1_waiting_2 6 = .ok (.invokevirtual 233, 3) := dk_182 0 233 (dk_at dksX1_waiting_2_0 6 rfl rfl)
theorem dX1_waiting_2_9 : decode cX1_waiting_2 9 = .ok (.astore_n 2, 1) := dk_77 (dk_at dksX1_waiting_2_0 9 rfl rfl)
theorem dX1_waiting_2_10 : decode cX1_waiting_2 10 = .ok (.aload_n 2, 1) := dk_44 (dk_at dksX1_waiting_2_0 10 rfl rfl)
theorem dX1_waiting_2_11 : decode cX1_waiting_2 11 = .ok (.invokeinterface 57 1, 5) := by decide +kernel
theorem dX1_waiting_2_16 : decode cX1_waiting_2 16 = .ok (.ifCond .eq 23, 3) := dk_153 0 23 (dk_at dksX1_waiting_2_0 16 rfl rfl)
theorem dX1_waiting_2_19 : decode cX1_waiting_2 19 = .ok (.aload_n 2, 1) := dk_44 (dk_at dksX1_waiting_2_0 19 rfl rfl)
theorem dX1_waiting_2_20 : decode cX1_waiting_2 20 = .ok (.invokeinterface 63 1, 5) := by decide +kernel
theorem dX1_waiting_2_25 : decode cX1_waiting_2 25 = .ok (.checkcast 41, 3) := dk_192 0 41 (dk_at dksX1_waiting_2_1 5 rfl rfl)
theorem dX1_waiting_2_28 : decode cX1_waiting_2 28 = .ok (.astore_n 3, 1) := dk_78 (dk_at dksX1_waiting_2_1 8 rfl rfl)
theorem dX1_waiting_2_29 : decode cX1_waiting_2 29 = .ok (.iload_n 1, 1) := dk_27 (dk_at dksX1_waiting_2_1 9 rfl rfl)
theorem dX1_waiting_2_30 : decode cX1_waiting_2 30 = .ok (.aload_n 3, 1) := dk_45 (dk_at dksX1_waiting_2_1 10 rfl rfl)
theorem dX1_waiting_2_31 : decode cX1_waiting_2 31 = .ok (.invokevirtual 146, 3) := dk_182 0 146 (dk_at dksX1_waiting_2_1 11 rfl rfl)
theorem dX1_waiting_2_34 : decode cX1_waiting_2 34 = .ok (.iadd, 1) := dk_96 (dk_at dksX1_waiting_2_1 14 rfl rfl)
theorem dX1_waiting_2_35 : decode cX1_waiting_2 35 = .ok (.istore_n 1, 1) := dk_60 (dk_at dksX1_waiting_2_1 15 rfl rfl)
theorem dX1_waiting_2_36 : decode cX1_waiting_2 36 = .ok (.goto (-26), 3) := dk_167 255 230 (dk_at dksX1_waiting_2_1 16 rfl rfl)
theorem dX1_waiting_2_39 : decode cX1_waiting_2 39 = .ok (.iload_n 1, 1) := dk_27 (dk_at dksX1_waiting_2_1 19 rfl rfl)
theorem dX1_waiting_2_40 : decode cX1_waiting_2 40 = .ok (.ireturn, 1) := dk_172 (dk_at dksX1_waiting_2_1 20 rfl rfl)
abbrev cX1_locks : ByteArray := prog_5_method_42_code
def yX1_locks : MethodName := ⟨RX1, "locks", "(Z)I"⟩
def dkwX1_locks_4 : List UInt8 := [167, 255, 216, 167, 255, 173, 28, 172]
abbrev dktX1_locks_4 : List UInt8 := dkwX1_locks_4 ++ []
def dkwX1_locks_3 : List UInt8 := [159, 0, 12, 21, 8, 153, 0, 11, 27, 154, 0, 7, 4, 167, 0, 4, 3, 96, 61, 132, 7, 1]
abbrev dktX1_locks_3 : List UInt8 := dkwX1_locks_3 ++ dktX1_locks_4
def dkwX1_locks_2 : List UInt8 := [190, 54, 6, 3, 54, 7, 21, 7, 21, 6, 162, 0, 39, 25, 5, 21, 7, 53, 54, 8, 28, 21, 8, 5]
abbrev dktX1_locks_2 : List UInt8 := dkwX1_locks_2 ++ dktX1_locks_3
def dkwX1_locks_1 : List UInt8 := [185, 0, 63, 1, 0, 192, 0, 92, 182, 0, 201, 54, 4, 42, 180, 0, 11, 21, 4, 50, 58, 5, 25, 5]
abbrev dktX1_locks_1 : List UInt8 := dkwX1_locks_1 ++ dktX1_locks_2
def dkwX1_locks_0 : List UInt8 := [3, 61, 42, 182, 0, 194, 185, 0, 198, 1, 0, 78, 45, 185, 0, 57, 1, 0, 153, 0, 80, 45]
abbrev dktX1_locks_0 : List UInt8 := dkwX1_locks_0 ++ dktX1_locks_1
theorem dksX1_locks_0 : cX1_locks.data.toList.drop 0 = dktX1_locks_0 := by decide +kernel
theorem dksX1_locks_1 : cX1_locks.data.toList.drop 22 = dktX1_locks_1 := dk_seg dksX1_locks_0 22 rfl rfl
theorem dksX1_locks_2 : cX1_locks.data.toList.drop 46 = dktX1_locks_2 := dk_seg dksX1_locks_1 24 rfl rfl
theorem dksX1_locks_3 : cX1_locks.data.toList.drop 70 = dktX1_locks_3 := dk_seg dksX1_locks_2 24 rfl rfl
theorem dksX1_locks_4 : cX1_locks.data.toList.drop 92 = dktX1_locks_4 := dk_seg dksX1_locks_3 22 rfl rfl
theorem dX1_locks_0 : decode cX1_locks 0 = .ok (.iconst 0, 1) := dk_3 (dk_at dksX1_locks_0 0 rfl rfl)
theorem dX1_locks_1 : decode cX1_locks 1 = .ok (.istore_n 2, 1) := dk_61 (dk_at dksX1_locks_0 1 rfl rfl)
theorem dX1_locks_2 : decode cX1_locks 2 = .ok (.aload_n 0, 1) := dk_42 (dk_at dksX1_locks_0 2 rfl rfl)
theorem dX1_locks_3 : decode cX1_locks 3 = .ok (.invokevirtual 194, 3) := dk_182 0 194 (dk_at dksX1_locks_0 3 rfl rfl)
theorem dX1_locks_6 : decode cX1_locks 6 = .ok (.invokeinterface 198 1, 5) := by decide +kernel
theorem dX1_locks_11 : decode cX1_locks 11 = .ok (.astore_n 3, 1) := dk_78 (dk_at dksX1_locks_0 11 rfl rfl)
theorem dX1_locks_12 : decode cX1_locks 12 = .ok (.aload_n 3, 1) := dk_45 (dk_at dksX1_locks_0 12 rfl rfl)
theorem dX1_locks_13 : decode cX1_locks 13 = .ok (.invokeinterface 57 1, 5) := by decide +kernel
theorem dX1_locks_18 : decode cX1_locks 18 = .ok (.ifCond .eq 80, 3) := dk_153 0 80 (dk_at dksX1_locks_0 18 rfl rfl)
theorem dX1_locks_21 : decode cX1_locks 21 = .ok (.aload_n 3, 1) := dk_45 (dk_at dksX1_locks_0 21 rfl rfl)
theorem dX1_locks_22 : decode cX1_locks 22 = .ok (.invokeinterface 63 1, 5) := by decide +kernel
theorem dX1_locks_27 : decode cX1_locks 27 = .ok (.checkcast 92, 3) := dk_192 0 92 (dk_at dksX1_locks_1 5 rfl rfl)
theorem dX1_locks_30 : decode cX1_locks 30 = .ok (.invokevirtual 201, 3) := dk_182 0 201 (dk_at dksX1_locks_1 8 rfl rfl)
theorem dX1_locks_33 : decode cX1_locks 33 = .ok (.istore 4, 2) := dk_54 4 (dk_at dksX1_locks_1 11 rfl rfl)
theorem dX1_locks_35 : decode cX1_locks 35 = .ok (.aload_n 0, 1) := dk_42 (dk_at dksX1_locks_1 13 rfl rfl)
theorem dX1_locks_36 : decode cX1_locks 36 = .ok (.getfield 11, 3) := dk_180 0 11 (dk_at dksX1_locks_1 14 rfl rfl)
theorem dX1_locks_39 : decode cX1_locks 39 = .ok (.iload 4, 2) := dk_21 4 (dk_at dksX1_locks_1 17 rfl rfl)
theorem dX1_locks_41 : decode cX1_locks 41 = .ok (.aaload, 1) := dk_50 (dk_at dksX1_locks_1 19 rfl rfl)
theorem dX1_locks_42 : decode cX1_locks 42 = .ok (.astore 5, 2) := dk_58 5 (dk_at dksX1_locks_1 20 rfl rfl)
theorem dX1_locks_44 : decode cX1_locks 44 = .ok (.aload 5, 2) := dk_25 5 (dk_at dksX1_locks_1 22 rfl rfl)
theorem dX1_locks_46 : decode cX1_locks 46 = .ok (.arraylength, 1) := dk_190 (dk_at dksX1_locks_2 0 rfl rfl)
theorem dX1_locks_47 : decode cX1_locks 47 = .ok (.istore 6, 2) := dk_54 6 (dk_at dksX1_locks_2 1 rfl rfl)
theorem dX1_locks_49 : decode cX1_locks 49 = .ok (.iconst 0, 1) := dk_3 (dk_at dksX1_locks_2 3 rfl rfl)
theorem dX1_locks_50 : decode cX1_locks 50 = .ok (.istore 7, 2) := dk_54 7 (dk_at dksX1_locks_2 4 rfl rfl)
theorem dX1_locks_52 : decode cX1_locks 52 = .ok (.iload 7, 2) := dk_21 7 (dk_at dksX1_locks_2 6 rfl rfl)
theorem dX1_locks_54 : decode cX1_locks 54 = .ok (.iload 6, 2) := dk_21 6 (dk_at dksX1_locks_2 8 rfl rfl)
theorem dX1_locks_56 : decode cX1_locks 56 = .ok (.if_icmp .ge 39, 3) := dk_162 0 39 (dk_at dksX1_locks_2 10 rfl rfl)
theorem dX1_locks_59 : decode cX1_locks 59 = .ok (.aload 5, 2) := dk_25 5 (dk_at dksX1_locks_2 13 rfl rfl)
theorem dX1_locks_61 : decode cX1_locks 61 = .ok (.iload 7, 2) := dk_21 7 (dk_at dksX1_locks_2 15 rfl rfl)
theorem dX1_locks_63 : decode cX1_locks 63 = .ok (.saload, 1) := dk_53 (dk_at dksX1_locks_2 17 rfl rfl)
theorem dX1_locks_64 : decode cX1_locks 64 = .ok (.istore 8, 2) := dk_54 8 (dk_at dksX1_locks_2 18 rfl rfl)
theorem dX1_locks_66 : decode cX1_locks 66 = .ok (.iload_n 2, 1) := dk_28 (dk_at dksX1_locks_2 20 rfl rfl)
theorem dX1_locks_67 : decode cX1_locks 67 = .ok (.iload 8, 2) := dk_21 8 (dk_at dksX1_locks_2 21 rfl rfl)
theorem dX1_locks_69 : decode cX1_locks 69 = .ok (.iconst 2, 1) := dk_5 (dk_at dksX1_locks_2 23 rfl rfl)
theorem dX1_locks_70 : decode cX1_locks 70 = .ok (.if_icmp .eq 12, 3) := dk_159 0 12 (dk_at dksX1_locks_3 0 rfl rfl)
theorem dX1_locks_73 : decode cX1_locks 73 = .ok (.iload 8, 2) := dk_21 8 (dk_at dksX1_locks_3 3 rfl rfl)
theorem dX1_locks_75 : decode cX1_locks 75 = .ok (.ifCond .eq 11, 3) := dk_153 0 11 (dk_at dksX1_locks_3 5 rfl rfl)
theorem dX1_locks_78 : decode cX1_locks 78 = .ok (.iload_n 1, 1) := dk_27 (dk_at dksX1_locks_3 8 rfl rfl)
theorem dX1_locks_79 : decode cX1_locks 79 = .ok (.ifCond .ne 7, 3) := dk_154 0 7 (dk_at dksX1_locks_3 9 rfl rfl)
theorem dX1_locks_82 : decode cX1_locks 82 = .ok (.iconst 1, 1) := dk_4 (dk_at dksX1_locks_3 12 rfl rfl)
theorem dX1_locks_83 : decode cX1_locks 83 = .ok (.goto 4, 3) := dk_167 0 4 (dk_at dksX1_locks_3 13 rfl rfl)
theorem dX1_locks_86 : decode cX1_locks 86 = .ok (.iconst 0, 1) := dk_3 (dk_at dksX1_locks_3 16 rfl rfl)
theorem dX1_locks_87 : decode cX1_locks 87 = .ok (.iadd, 1) := dk_96 (dk_at dksX1_locks_3 17 rfl rfl)
theorem dX1_locks_88 : decode cX1_locks 88 = .ok (.istore_n 2, 1) := dk_61 (dk_at dksX1_locks_3 18 rfl rfl)
theorem dX1_locks_89 : decode cX1_locks 89 = .ok (.iinc 7 1, 3) := dk_132 7 1 (dk_at dksX1_locks_3 19 rfl rfl)
theorem dX1_locks_92 : decode cX1_locks 92 = .ok (.goto (-40), 3) := dk_167 255 216 (dk_at dksX1_locks_4 0 rfl rfl)
theorem dX1_locks_95 : decode cX1_locks 95 = .ok (.goto (-83), 3) := dk_167 255 173 (dk_at dksX1_locks_4 3 rfl rfl)
theorem dX1_locks_98 : decode cX1_locks 98 = .ok (.iload_n 2, 1) := dk_28 (dk_at dksX1_locks_4 6 rfl rfl)
theorem dX1_locks_99 : decode cX1_locks 99 = .ok (.ireturn, 1) := dk_172 (dk_at dksX1_locks_4 7 rfl rfl)
abbrev cX1_sum : ByteArray := prog_5_method_44_code
def yX1_sum : MethodName := ⟨RX1, "sum", "([I)I"⟩
def dkwX1_sum_1 : List UInt8 := [21, 5, 96, 60, 132, 4, 1, 167, 255, 236, 27, 172]
abbrev dktX1_sum_1 : List UInt8 := dkwX1_sum_1 ++ []
def dkwX1_sum_0 : List UInt8 := [3, 60, 42, 77, 44, 190, 62, 3, 54, 4, 21, 4, 29, 162, 0, 20, 44, 21, 4, 46, 54, 5, 27]
abbrev dktX1_sum_0 : List UInt8 := dkwX1_sum_0 ++ dktX1_sum_1
theorem dksX1_sum_0 : cX1_sum.data.toList.drop 0 = dktX1_sum_0 := by decide +kernel
theorem dksX1_sum_1 : cX1_sum.data.toList.drop 23 = dktX1_sum_1 := dk_seg dksX1_sum_0 23 rfl rfl
theorem dX1_sum_0 : decode cX1_sum 0 = .ok (.iconst 0, 1) := dk_3 (dk_at dksX1_sum_0 0 rfl rfl)
theorem dX1_sum_1 : decode cX1_sum 1 = .ok (.istore_n 1, 1) := dk_60 (dk_at dksX1_sum_0 1 rfl rfl)
theorem dX1_sum_2 : decode cX1_sum 2 = .ok (.aload_n 0, 1) := dk_42 (dk_at dksX1_sum_0 2 rfl rfl)
theorem dX1_sum_3 : decode cX1_sum 3 = .ok (.astore_n 2, 1) := dk_77 (dk_at dksX1_sum_0 3 rfl rfl)
theorem dX1_sum_4 : decode cX1_sum 4 = .ok (.aload_n 2, 1) := dk_44 (dk_at dksX1_sum_0 4 rfl rfl)
theorem dX1_sum_5 : decode cX1_sum 5 = .ok (.arraylength, 1) := dk_190 (dk_at dksX1_sum_0 5 rfl rfl)
theorem dX1_sum_6 : decode cX1_sum 6 = .ok (.istore_n 3, 1) := dk_62 (dk_at dksX1_sum_0 6 rfl rfl)
theorem dX1_sum_7 : decode cX1_sum 7 = .ok (.iconst 0, 1) := dk_3 (dk_at dksX1_sum_0 7 rfl rfl)
theorem dX1_sum_8 : decode cX1_sum 8 = .ok (.istore 4, 2) := dk_54 4 (dk_at dksX1_sum_0 8 rfl rfl)
theorem dX1_sum_10 : decode cX1_sum 10 = .ok (.iload 4, 2) := dk_21 4 (dk_at dksX1_sum_0 10 rfl rfl)
theorem dX1_sum_12 : decode cX1_sum 12 = .ok (.iload_n 3, 1) := dk_29 (dk_at dksX1_sum_0 12 rfl rfl)
theorem dX1_sum_13 : decode cX1_sum 13 = .ok (.if_icmp .ge 20, 3) := dk_162 0 20 (dk_at dksX1_sum_0 13 rfl rfl)
theorem dX1_sum_16 : decode cX1_sum 16 = .ok (.aload_n 2, 1) := dk_44 (dk_at dksX1_sum_0 16 rfl rfl)
theorem dX1_sum_17 : decode cX1_sum 17 = .ok (.iload 4, 2) := dk_21 4 (dk_at dksX1_sum_0 17 rfl rfl)
theorem dX1_sum_19 : decode cX1_sum 19 = .ok (.iaload, 1) := dk_46 (dk_at dksX1_sum_0 19 rfl rfl)
theorem dX1_sum_20 : decode cX1_sum 20 = .ok (.istore 5, 2) := dk_54 5 (dk_at dksX1_sum_0 20 rfl rfl)
theorem dX1_sum_22 : decode cX1_sum 22 = .ok (.iload_n 1, 1) := dk_27 (dk_at dksX1_sum_0 22 rfl rfl)
theorem dX1_sum_23 : decode cX1_sum 23 = .ok (.iload 5, 2) := dk_21 5 (dk_at dksX1_sum_1 0 rfl rfl)
theorem dX1_sum_25 : decode cX1_sum 25 = .ok (.iadd, 1) := dk_96 (dk_at dksX1_sum_1 2 rfl rfl)
theorem dX1_sum_26 : decode cX1_sum 26 = .ok (.istore_n 1, 1) := dk_60 (dk_at dksX1_sum_1 3 rfl rfl)
theorem dX1_sum_27 : decode cX1_sum 27 = .ok (.iinc 4 1, 3) := dk_132 4 1 (dk_at dksX1_sum_1 4 rfl rfl)
theorem dX1_sum_30 : decode cX1_sum 30 = .ok (.goto (-20), 3) := dk_167 255 236 (dk_at dksX1_sum_1 7 rfl rfl)
theorem dX1_sum_33 : decode cX1_sum 33 = .ok (.iload_n 1, 1) := dk_27 (dk_at dksX1_sum_1 10 rfl rfl)
theorem dX1_sum_34 : decode cX1_sum 34 = .ok (.ireturn, 1) := dk_172 (dk_at dksX1_sum_1 11 rfl rfl)
abbrev cX1_unheld : ByteArray := prog_5_method_43_code
def yX1_unheld : MethodName := ⟨RX1, "unheld", "()I"⟩
def dkwX1_unheld_1 : List UInt8 := [96, 60, 132, 2, 1, 167, 255, 231, 27, 172]
abbrev dktX1_unheld_1 : List UInt8 := dkwX1_unheld_1 ++ []
def dkwX1_unheld_0 : List UInt8 := [3, 60, 3, 61, 28, 16, 8, 162, 0, 25, 27, 42, 28, 182, 0, 221, 154, 0, 7, 4, 167, 0, 4, 3]
abbrev dktX1_unheld_0 : List UInt8 := dkwX1_unheld_0 ++ dktX1_unheld_1
theorem dksX1_unheld_0 : cX1_unheld.data.toList.drop 0 = dktX1_unheld_0 := by decide +kernel
theorem dksX1_unheld_1 : cX1_unheld.data.toList.drop 24 = dktX1_unheld_1 := dk_seg dksX1_unheld_0 24 rfl rfl
theorem dX1_unheld_0 : decode cX1_unheld 0 = .ok (.iconst 0, 1) := dk_3 (dk_at dksX1_unheld_0 0 rfl rfl)
theorem dX1_unheld_1 : decode cX1_unheld 1 = .ok (.istore_n 1, 1) := dk_60 (dk_at dksX1_unheld_0 1 rfl rfl)
theorem dX1_unheld_2 : decode cX1_unheld 2 = .ok (.iconst 0, 1) := dk_3 (dk_at dksX1_unheld_0 2 rfl rfl)
theorem dX1_unheld_3 : decode cX1_unheld 3 = .ok (.istore_n 2, 1) := dk_61 (dk_at dksX1_unheld_0 3 rfl rfl)
theorem dX1_unheld_4 : decode cX1_unheld 4 = .ok (.iload_n 2, 1) := dk_28 (dk_at dksX1_unheld_0 4 rfl rfl)
theorem dX1_unheld_5 : decode cX1_unheld 5 = .ok (.bipush 8, 2) := dk_16 8 (dk_at dksX1_unheld_0 5 rfl rfl)
theorem dX1_unheld_7 : decode cX1_unheld 7 = .ok (.if_icmp .ge 25, 3) := dk_162 0 25 (dk_at dksX1_unheld_0 7 rfl rfl)
theorem dX1_unheld_10 : decode cX1_unheld 10 = .ok (.iload_n 1, 1) := dk_27 (dk_at dksX1_unheld_0 10 rfl rfl)
theorem dX1_unheld_11 : decode cX1_unheld 11 = .ok (.aload_n 0, 1) := dk_42 (dk_at dksX1_unheld_0 11 rfl rfl)
theorem dX1_unheld_12 : decode cX1_unheld 12 = .ok (.iload_n 2, 1) := dk_28 (dk_at dksX1_unheld_0 12 rfl rfl)
theorem dX1_unheld_13 : decode cX1_unheld 13 = .ok (.invokevirtual 221, 3) := dk_182 0 221 (dk_at dksX1_unheld_0 13 rfl rfl)
theorem dX1_unheld_16 : decode cX1_unheld 16 = .ok (.ifCond .ne 7, 3) := dk_154 0 7 (dk_at dksX1_unheld_0 16 rfl rfl)
theorem dX1_unheld_19 : decode cX1_unheld 19 = .ok (.iconst 1, 1) := dk_4 (dk_at dksX1_unheld_0 19 rfl rfl)
theorem dX1_unheld_20 : decode cX1_unheld 20 = .ok (.goto 4, 3) := dk_167 0 4 (dk_at dksX1_unheld_0 20 rfl rfl)
theorem dX1_unheld_23 : decode cX1_unheld 23 = .ok (.iconst 0, 1) := dk_3 (dk_at dksX1_unheld_0 23 rfl rfl)
theorem dX1_unheld_24 : decode cX1_unheld 24 = .ok (.iadd, 1) := dk_96 (dk_at dksX1_unheld_1 0 rfl rfl)
theorem dX1_unheld_25 : decode cX1_unheld 25 = .ok (.istore_n 1, 1) := dk_60 (dk_at dksX1_unheld_1 1 rfl rfl)
theorem dX1_unheld_26 : decode cX1_unheld 26 = .ok (.iinc 2 1, 3) := dk_132 2 1 (dk_at dksX1_unheld_1 2 rfl rfl)
theorem dX1_unheld_29 : decode cX1_unheld 29 = .ok (.goto (-25), 3) := dk_167 255 231 (dk_at dksX1_unheld_1 5 rfl rfl)
theorem dX1_unheld_32 : decode cX1_unheld 32 = .ok (.iload_n 1, 1) := dk_27 (dk_at dksX1_unheld_1 8 rfl rfl)
theorem dX1_unheld_33 : decode cX1_unheld 33 = .ok (.ireturn, 1) := dk_172 (dk_at dksX1_unheld_1 9 rfl rfl)
abbrev cX1_isBalanced : ByteArray := prog_5_method_46_code
def yX1_isBalanced : MethodName := ⟨RX1, "isBalanced", "([LLarderLocks$Fit;)Z"⟩
def dkwX1_isBalanced_2 : List UInt8 := [126, 61, 132, 3, 1, 167, 255, 238, 28, 172]
abbrev dktX1_isBalanced_2 : List UInt8 := dkwX1_isBalanced_2 ++ []
def dkwX1_isBalanced_1 : List UInt8 := [160, 0, 7, 4, 167, 0, 4, 3, 61, 3, 62, 29, 16, 8, 162, 0, 18, 28, 42, 29, 43, 182, 0, 234]
abbrev dktX1_isBalanced_1 : List UInt8 := dkwX1_isBalanced_1 ++ dktX1_isBalanced_2
def dkwX1_isBalanced_0 : List UInt8 := [42, 182, 0, 157, 42, 180, 0, 77, 42, 180, 0, 80, 100, 160, 0, 16, 42, 182, 0, 174, 16, 245]
abbrev dktX1_isBalanced_0 : List UInt8 := dkwX1_isBalanced_0 ++ dktX1_isBalanced_1
theorem dksX1_isBalanced_0 : cX1_isBalanced.data.toList.drop 0 = dktX1_isBalanced_0 := by decide +kernel
theorem dksX1_isBalanced_1 : cX1_isBalanced.data.toList.drop 22 = dktX1_isBalanced_1 := dk_seg dksX1_isBalanced_0 22 rfl rfl
theorem dksX1_isBalanced_2 : cX1_isBalanced.data.toList.drop 46 = dktX1_isBalanced_2 := dk_seg dksX1_isBalanced_1 24 rfl rfl
theorem dX1_isBalanced_0 : decode cX1_isBalanced 0 = .ok (.aload_n 0, 1) := dk_42 (dk_at dksX1_isBalanced_0 0 rfl rfl)
theorem dX1_isBalanced_1 : decode cX1_isBalanced 1 = .ok (.invokevirtual 157, 3) := dk_182 0 157 (dk_at dksX1_isBalanced_0 1 rfl rfl)
theorem dX1_isBalanced_4 : decode cX1_isBalanced 4 = .ok (.aload_n 0, 1) := dk_42 (dk_at dksX1_isBalanced_0 4 rfl rfl)
theorem dX1_isBalanced_5 : decode cX1_isBalanced 5 = .ok (.getfield 77, 3) := dk_180 0 77 (dk_at dksX1_isBalanced_0 5 rfl rfl)
theorem dX1_isBalanced_8 : decode cX1_isBalanced 8 = .ok (.aload_n 0, 1) := dk_42 (dk_at dksX1_isBalanced_0 8 rfl rfl)
theorem dX1_isBalanced_9 : decode cX1_isBalanced 9 = .ok (.getfield 80, 3) := dk_180 0 80 (dk_at dksX1_isBalanced_0 9 rfl rfl)
theorem dX1_isBalanced_12 : decode cX1_isBalanced 12 = .ok (.isub, 1) := dk_100 (dk_at dksX1_isBalanced_0 12 rfl rfl)
theorem dX1_isBalanced_13 : decode cX1_isBalanced 13 = .ok (.if_icmp .ne 16, 3) := dk_160 0 16 (dk_at dksX1_isBalanced_0 13 rfl rfl)
theorem dX1_isBalanced_16 : decode cX1_isBalanced 16 = .ok (.aload_n 0, 1) := dk_42 (dk_at dksX1_isBalanced_0 16 rfl rfl)
theorem dX1_isBalanced_17 : decode cX1_isBalanced 17 = .ok (.invokevirtual 174, 3) := dk_182 0 174 (dk_at dksX1_isBalanced_0 17 rfl rfl)
theorem dX1_isBalanced_20 : decode cX1_isBalanced 20 = .ok (.bipush (-11), 2) := dk_16 245 (dk_at dksX1_isBalanced_0 20 rfl rfl)
theorem dX1_isBalanced_22 : decode cX1_isBalanced 22 = .ok (.if_icmp .ne 7, 3) := dk_160 0 7 (dk_at dksX1_isBalanced_1 0 rfl rfl)
theorem dX1_isBalanced_25 : decode cX1_isBalanced 25 = .ok (.iconst 1, 1) := dk_4 (dk_at dksX1_isBalanced_1 3 rfl rfl)
theorem dX1_isBalanced_26 : decode cX1_isBalanced 26 = .ok (.goto 4, 3) := dk_167 0 4 (dk_at dksX1_isBalanced_1 4 rfl rfl)
theorem dX1_isBalanced_29 : decode cX1_isBalanced 29 = .ok (.iconst 0, 1) := dk_3 (dk_at dksX1_isBalanced_1 7 rfl rfl)
theorem dX1_isBalanced_30 : decode cX1_isBalanced 30 = .ok (.istore_n 2, 1) := dk_61 (dk_at dksX1_isBalanced_1 8 rfl rfl)
theorem dX1_isBalanced_31 : decode cX1_isBalanced 31 = .ok (.iconst 0, 1) := dk_3 (dk_at dksX1_isBalanced_1 9 rfl rfl)
theorem dX1_isBalanced_32 : decode cX1_isBalanced 32 = .ok (.istore_n 3, 1) := dk_62 (dk_at dksX1_isBalanced_1 10 rfl rfl)
theorem dX1_isBalanced_33 : decode cX1_isBalanced 33 = .ok (.iload_n 3, 1) := dk_29 (dk_at dksX1_isBalanced_1 11 rfl rfl)
theorem dX1_isBalanced_34 : decode cX1_isBalanced 34 = .ok (.bipush 8, 2) := dk_16 8 (dk_at dksX1_isBalanced_1 12 rfl rfl)
theorem dX1_isBalanced_36 : decode cX1_isBalanced 36 = .ok (.if_icmp .ge 18, 3) := dk_162 0 18 (dk_at dksX1_isBalanced_1 14 rfl rfl)
theorem dX1_isBalanced_39 : decode cX1_isBalanced 39 = .ok (.iload_n 2, 1) := dk_28 (dk_at dksX1_isBalanced_1 17 rfl rfl)
theorem dX1_isBalanced_40 : decode cX1_isBalanced 40 = .ok (.aload_n 0, 1) := dk_42 (dk_at dksX1_isBalanced_1 18 rfl rfl)
theorem dX1_isBalanced_41 : decode cX1_isBalanced 41 = .ok (.iload_n 3, 1) := dk_29 (dk_at dksX1_isBalanced_1 19 rfl rfl)
theorem dX1_isBalanced_42 : decode cX1_isBalanced 42 = .ok (.aload_n 1, 1) := dk_43 (dk_at dksX1_isBalanced_1 20 rfl rfl)
theorem dX1_isBalanced_43 : decode cX1_isBalanced 43 = .ok (.invokevirtual 234, 3) := dk_182 0 234 (dk_at dksX1_isBalanced_1 21 rfl rfl)
theorem dX1_isBalanced_46 : decode cX1_isBalanced 46 = .ok (.iand, 1) := dk_126 (dk_at dksX1_isBalanced_2 0 rfl rfl)
theorem dX1_isBalanced_47 : decode cX1_isBalanced 47 = .ok (.istore_n 2, 1) := dk_61 (dk_at dksX1_isBalanced_2 1 rfl rfl)
theorem dX1_isBalanced_48 : decode cX1_isBalanced 48 = .ok (.iinc 3 1, 3) := dk_132 3 1 (dk_at dksX1_isBalanced_2 2 rfl rfl)
theorem dX1_isBalanced_51 : decode cX1_isBalanced 51 = .ok (.goto (-18), 3) := dk_167 255 238 (dk_at dksX1_isBalanced_2 5 rfl rfl)
theorem dX1_isBalanced_54 : decode cX1_isBalanced 54 = .ok (.iload_n 2, 1) := dk_28 (dk_at dksX1_isBalanced_2 8 rfl rfl)
theorem dX1_isBalanced_55 : decode cX1_isBalanced 55 = .ok (.ireturn, 1) := dk_172 (dk_at dksX1_isBalanced_2 9 rfl rfl)
abbrev cX1_isRight : ByteArray := prog_5_method_45_code
def yX1_isRight : MethodName := ⟨RX1, "isRight", "(I[LLarderLocks$Fit;)Z"⟩
def dkwX1_isRight_3 : List UInt8 := [167, 0, 4, 3, 172]
abbrev dktX1_isRight_3 : List UInt8 := dkwX1_isRight_3 ++ []
def dkwX1_isRight_2 : List UInt8 := [182, 0, 123, 154, 0, 20, 42, 27, 25, 4, 182, 0, 126, 192, 0, 67, 44, 182, 0, 129, 154, 0, 7, 4]
abbrev dktX1_isRight_2 : List UInt8 := dkwX1_isRight_2 ++ dktX1_isRight_3
def dkwX1_isRight_1 : List UInt8 := [182, 0, 49, 192, 0, 41, 58, 4, 29, 153, 0, 12, 42, 27, 182, 0, 221, 4, 160, 0, 32, 25, 4]
abbrev dktX1_isRight_1 : List UInt8 := dkwX1_isRight_1 ++ dktX1_isRight_2
def dkwX1_isRight_0 : List UInt8 := [42, 27, 16, 245, 182, 0, 114, 5, 160, 0, 7, 4, 167, 0, 4, 3, 62, 42, 180, 0, 21, 27]
abbrev dktX1_isRight_0 : List UInt8 := dkwX1_isRight_0 ++ dktX1_isRight_1
theorem dksX1_isRight_0 : cX1_isRight.data.toList.drop 0 = dktX1_isRight_0 := by decide +kernel
theorem dksX1_isRight_1 : cX1_isRight.data.toList.drop 22 = dktX1_isRight_1 := dk_seg dksX1_isRight_0 22 rfl rfl
theorem dksX1_isRight_2 : cX1_isRight.data.toList.drop 45 = dktX1_isRight_2 := dk_seg dksX1_isRight_1 23 rfl rfl
theorem dksX1_isRight_3 : cX1_isRight.data.toList.drop 69 = dktX1_isRight_3 := dk_seg dksX1_isRight_2 24 rfl rfl
theorem dX1_isRight_0 : decode cX1_isRight 0 = .ok (.aload_n 0, 1) := dk_42 (dk_at dksX1_isRight_0 0 rfl rfl)
theorem dX1_isRight_1 : decode cX1_isRight 1 = .ok (.iload_n 1, 1) := dk_27 (dk_at dksX1_isRight_0 1 rfl rfl)
theorem dX1_isRight_2 : decode cX1_isRight 2 = .ok (.bipush (-11), 2) := dk_16 245 (dk_at dksX1_isRight_0 2 rfl rfl)
theorem dX1_isRight_4 : decode cX1_isRight 4 = .ok (.invokevirtual 114, 3) := dk_182 0 114 (dk_at dksX1_isRight_0 4 rfl rfl)
theorem dX1_isRight_7 : decode cX1_isRight 7 = .ok (.iconst 2, 1) := dk_5 (dk_at dksX1_isRight_0 7 rfl rfl)
theorem dX1_isRight_8 : decode cX1_isRight 8 = .ok (.if_icmp .ne 7, 3) := dk_160 0 7 (dk_at dksX1_isRight_0 8 rfl rfl)
theorem dX1_isRight_11 : decode cX1_isRight 11 = .ok (.iconst 1, 1) := dk_4 (dk_at dksX1_isRight_0 11 rfl rfl)
theorem dX1_isRight_12 : decode cX1_isRight 12 = .ok (.goto 4, 3) := dk_167 0 4 (dk_at dksX1_isRight_0 12 rfl rfl)
theorem dX1_isRight_15 : decode cX1_isRight 15 = .ok (.iconst 0, 1) := dk_3 (dk_at dksX1_isRight_0 15 rfl rfl)
theorem dX1_isRight_16 : decode cX1_isRight 16 = .ok (.istore_n 3, 1) := dk_62 (dk_at dksX1_isRight_0 16 rfl rfl)
theorem dX1_isRight_17 : decode cX1_isRight 17 = .ok (.aload_n 0, 1) := dk_42 (dk_at dksX1_isRight_0 17 rfl rfl)
theorem dX1_isRight_18 : decode cX1_isRight 18 = .ok (.getfield 21, 3) := dk_180 0 21 (dk_at dksX1_isRight_0 18 rfl rfl)
theorem dX1_isRight_21 : decode cX1_isRight 21 = .ok (.iload_n 1, 1) := dk_27 (dk_at dksX1_isRight_0 21 rfl rfl)
theorem dX1_isRight_22 : decode cX1_isRight 22 = .ok (.invokevirtual 49, 3) := dk_182 0 49 (dk_at dksX1_isRight_1 0 rfl rfl)
theorem dX1_isRight_25 : decode cX1_isRight 25 = .ok (.checkcast 41, 3) := dk_192 0 41 (dk_at dksX1_isRight_1 3 rfl rfl)
theorem dX1_isRight_28 : decode cX1_isRight 28 = .ok (.astore 4, 2) := dk_58 4 (dk_at dksX1_isRight_1 6 rfl rfl)
theorem dX1_isRight_30 : decode cX1_isRight 30 = .ok (.iload_n 3, 1) := dk_29 (dk_at dksX1_isRight_1 8 rfl rfl)
theorem dX1_isRight_31 : decode cX1_isRight 31 = .ok (.ifCond .eq 12, 3) := dk_153 0 12 (dk_at dksX1_isRight_1 9 rfl rfl)
theorem dX1_isRight_34 : decode cX1_isRight 34 = .ok (.aload_n 0, 1) := dk_42 (dk_at dksX1_isRight_1 12 rfl rfl)
theorem dX1_isRight_35 : decode cX1_isRight 35 = .ok (.iload_n 1, 1) := dk_27 (dk_at dksX1_isRight_1 13 rfl rfl)
theorem dX1_isRight_36 : decode cX1_isRight 36 = .ok (.invokevirtual 221, 3) := dk_182 0 221 (dk_at dksX1_isRight_1 14 rfl rfl)
theorem dX1_isRight_39 : decode cX1_isRight 39 = .ok (.iconst 1, 1) := dk_4 (dk_at dksX1_isRight_1 17 rfl rfl)
theorem dX1_isRight_40 : decode cX1_isRight 40 = .ok (.if_icmp .ne 32, 3) := dk_160 0 32 (dk_at dksX1_isRight_1 18 rfl rfl)
theorem dX1_isRight_43 : decode cX1_isRight 43 = .ok (.aload 4, 2) := dk_25 4 (dk_at dksX1_isRight_1 21 rfl rfl)
theorem dX1_isRight_45 : decode cX1_isRight 45 = .ok (.invokevirtual 123, 3) := dk_182 0 123 (dk_at dksX1_isRight_2 0 rfl rfl)
theorem dX1_isRight_48 : decode cX1_isRight 48 = .ok (.ifCond .ne 20, 3) := dk_154 0 20 (dk_at dksX1_isRight_2 3 rfl rfl)
theorem dX1_isRight_51 : decode cX1_isRight 51 = .ok (.aload_n 0, 1) := dk_42 (dk_at dksX1_isRight_2 6 rfl rfl)
theorem dX1_isRight_52 : decode cX1_isRight 52 = .ok (.iload_n 1, 1) := dk_27 (dk_at dksX1_isRight_2 7 rfl rfl)
theorem dX1_isRight_53 : decode cX1_isRight 53 = .ok (.aload 4, 2) := dk_25 4 (dk_at dksX1_isRight_2 8 rfl rfl)
theorem dX1_isRight_55 : decode cX1_isRight 55 = .ok (.invokevirtual 126, 3) := dk_182 0 126 (dk_at dksX1_isRight_2 10 rfl rfl)
theorem dX1_isRight_58 : decode cX1_isRight 58 = .ok (.checkcast 67, 3) := dk_192 0 67 (dk_at dksX1_isRight_2 13 rfl rfl)
theorem dX1_isRight_61 : decode cX1_isRight 61 = .ok (.aload_n 2, 1) := dk_44 (dk_at dksX1_isRight_2 16 rfl rfl)
theorem dX1_isRight_62 : decode cX1_isRight 62 = .ok (.invokevirtual 129, 3) := dk_182 0 129 (dk_at dksX1_isRight_2 17 rfl rfl)
theorem dX1_isRight_65 : decode cX1_isRight 65 = .ok (.ifCond .ne 7, 3) := dk_154 0 7 (dk_at dksX1_isRight_2 20 rfl rfl)
theorem dX1_isRight_68 : decode cX1_isRight 68 = .ok (.iconst 1, 1) := dk_4 (dk_at dksX1_isRight_2 23 rfl rfl)
theorem dX1_isRight_69 : decode cX1_isRight 69 = .ok (.goto 4, 3) := dk_167 0 4 (dk_at dksX1_isRight_3 0 rfl rfl)
theorem dX1_isRight_72 : decode cX1_isRight 72 = .ok (.iconst 0, 1) := dk_3 (dk_at dksX1_isRight_3 3 rfl rfl)
theorem dX1_isRight_73 : decode cX1_isRight 73 = .ok (.ireturn, 1) := dk_172 (dk_at dksX1_isRight_3 4 rfl rfl)
theorem q86 : (Jvm.Cond.initialized "LarderLocks$Larder") ∈ lw_all := lw_g (lw_at lw_m1 2 rfl) rfl
theorem q140 : (Jvm.Cond.instantiable "LarderLocks$Larder" (10 : Nat)) ∈ lw_all := lw_g (lw_at lw_m1 56 rfl) rfl
theorem q142 : (Jvm.Cond.instanceMethod ({ cls := "LarderLocks$Larder", name := "<init>", desc := "()V" } : Jvm.MethodName)) ∈ lw_all := lw_g (lw_at lw_m1 58 rfl) rfl
theorem q143 : (Jvm.Cond.code ({ cls := "LarderLocks$Larder", name := "<init>", desc := "()V" } : Jvm.MethodName) prog_5_method_1_code (2 : Nat) (Option.none : Option Jvm.ClassFile.FieldType)) ∈ lw_all := lw_g (lw_at lw_m1 59 rfl) rfl
theorem q144 : (Jvm.Cond.methodLink "LarderLocks$Larder" (3 : Nat) ({ cls := "java/lang/Object", name := "<init>", desc := "()V" } : Jvm.MethodName)) ∈ lw_all := lw_g (lw_at lw_m1 60 rfl) rfl
theorem q145 : (Jvm.Cond.classLink "LarderLocks$Larder" (9 : Nat) "[[S") ∈ lw_all := lw_g (lw_at lw_m1 61 rfl) rfl
theorem q147 : (Jvm.Cond.classLink "LarderLocks$Larder" (16 : Nat) "java/util/ArrayList") ∈ lw_all := lw_g (lw_at lw_m1 63 rfl) rfl
theorem q149 : (Jvm.Cond.methodLink "LarderLocks$Larder" (18 : Nat) ({ cls := "java/util/ArrayList", name := "<init>", desc := "(I)V" } : Jvm.MethodName)) ∈ lw_all := lw_g (lw_at lw_m1 65 rfl) rfl
theorem q183 : (Jvm.Cond.classLink "LarderLocks$Larder" (41 : Nat) "java/util/LinkedList") ∈ lw_all := lw_g (lw_at lw_m1 99 rfl) rfl
theorem q185 : (Jvm.Cond.methodLink "LarderLocks$Larder" (43 : Nat) ({ cls := "java/util/LinkedList", name := "<init>", desc := "()V" } : Jvm.MethodName)) ∈ lw_all := lw_g (lw_at lw_m1 101 rfl) rfl
theorem q205 : (Jvm.Cond.methodLink "LarderLocks$Larder" (44 : Nat) ({ cls := "java/util/ArrayList", name := "add", desc := "(Ljava/lang/Object;)Z" } : Jvm.MethodName)) ∈ lw_all := lw_g (lw_at lw_m1 121 rfl) rfl
theorem q242 : (Jvm.Cond.selects "LarderLocks$Larder" ({ cls := "java/lang/Object", name := "getClass", desc := "()Ljava/lang/Class;" } : Jvm.MethodName) ({ cls := "java/lang/Object", name := "getClass", desc := "()Ljava/lang/Class;" } : Jvm.MethodName)) ∈ lw_all := lw_g (lw_at lw_m1 158 rfl) rfl
theorem q277 : (Jvm.Cond.fieldLink "LarderLocks$Larder" (11 : Nat) "LarderLocks$Larder" "how" "[[S") ∈ lw_all := lw_g (lw_at lw_m1 193 rfl) rfl
theorem q279 : (Jvm.Cond.fieldLink "LarderLocks$Larder" (21 : Nat) "LarderLocks$Larder" "rows" "Ljava/util/ArrayList;") ∈ lw_all := lw_g (lw_at lw_m1 195 rfl) rfl
theorem q281 : (Jvm.Cond.fieldLink "LarderLocks$Larder" (25 : Nat) "LarderLocks$Larder" "letGo" "[I") ∈ lw_all := lw_g (lw_at lw_m1 197 rfl) rfl
theorem q283 : (Jvm.Cond.fieldLink "LarderLocks$Larder" (29 : Nat) "LarderLocks$Larder" "waited" "[I") ∈ lw_all := lw_g (lw_at lw_m1 199 rfl) rfl
theorem q285 : (Jvm.Cond.fieldLink "LarderLocks$Larder" (32 : Nat) "LarderLocks$Larder" "got" "[I") ∈ lw_all := lw_g (lw_at lw_m1 201 rfl) rfl
theorem q286 : (Jvm.Cond.fieldLink "LarderLocks$Larder" (35 : Nat) "LarderLocks$Larder" "given" "[I") ∈ lw_all := lw_g (lw_at lw_m1 202 rfl) rfl
theorem q288 : (Jvm.Cond.fieldLink "LarderLocks$Larder" (38 : Nat) "LarderLocks$Larder" "longest" "[I") ∈ lw_all := lw_g (lw_at lw_m1 204 rfl) rfl
theorem q289 : (Jvm.Cond.fieldLink "LarderLocks$Larder" (73 : Nat) "LarderLocks$Larder" "there" "I") ∈ lw_all := lw_g (lw_at lw_m1 205 rfl) rfl
theorem q290 : (Jvm.Cond.fieldLink "LarderLocks$Larder" (77 : Nat) "LarderLocks$Larder" "came" "I") ∈ lw_all := lw_g (lw_at lw_m1 206 rfl) rfl
theorem q292 : (Jvm.Cond.fieldLink "LarderLocks$Larder" (80 : Nat) "LarderLocks$Larder" "ended" "I") ∈ lw_all := lw_g (lw_at lw_m1 208 rfl) rfl
theorem q294 : (Jvm.Cond.laysFinal "LarderLocks$Larder" "LarderLocks$Larder" "how" "[[S") ∈ lw_all := lw_g (lw_at lw_m1 210 rfl) rfl
theorem q295 : (Jvm.Cond.soleField "LarderLocks$Larder" "how") ∈ lw_all := lw_g (lw_at lw_m1 211 rfl) rfl
theorem q296 : (Jvm.Cond.laysFinal "LarderLocks$Larder" "LarderLocks$Larder" "rows" "Ljava/util/ArrayList;") ∈ lw_all := lw_g (lw_at lw_m1 212 rfl) rfl
theorem q297 : (Jvm.Cond.soleField "LarderLocks$Larder" "rows") ∈ lw_all := lw_g (lw_at lw_m1 213 rfl) rfl
theorem q298 : (Jvm.Cond.laysFinal "LarderLocks$Larder" "LarderLocks$Larder" "letGo" "[I") ∈ lw_all := lw_g (lw_at lw_m1 214 rfl) rfl
theorem q299 : (Jvm.Cond.soleField "LarderLocks$Larder" "letGo") ∈ lw_all := lw_g (lw_at lw_m1 215 rfl) rfl
theorem q300 : (Jvm.Cond.laysFinal "LarderLocks$Larder" "LarderLocks$Larder" "waited" "[I") ∈ lw_all := lw_g (lw_at lw_m1 216 rfl) rfl
theorem q301 : (Jvm.Cond.soleField "LarderLocks$Larder" "waited") ∈ lw_all := lw_g (lw_at lw_m1 217 rfl) rfl
theorem q302 : (Jvm.Cond.laysFinal "LarderLocks$Larder" "LarderLocks$Larder" "got" "[I") ∈ lw_all := lw_g (lw_at lw_m1 218 rfl) rfl
theorem q303 : (Jvm.Cond.soleField "LarderLocks$Larder" "got") ∈ lw_all := lw_g (lw_at lw_m1 219 rfl) rfl
theorem q304 : (Jvm.Cond.laysFinal "LarderLocks$Larder" "LarderLocks$Larder" "given" "[I") ∈ lw_all := lw_g (lw_at lw_m1 220 rfl) rfl
theorem q305 : (Jvm.Cond.soleField "LarderLocks$Larder" "given") ∈ lw_all := lw_g (lw_at lw_m1 221 rfl) rfl
theorem q306 : (Jvm.Cond.laysFinal "LarderLocks$Larder" "LarderLocks$Larder" "longest" "[I") ∈ lw_all := lw_g (lw_at lw_m1 222 rfl) rfl
theorem q307 : (Jvm.Cond.soleField "LarderLocks$Larder" "longest") ∈ lw_all := lw_g (lw_at lw_m1 223 rfl) rfl
theorem q308 : (Jvm.Cond.lays "LarderLocks$Larder" "LarderLocks$Larder" "there" "I") ∈ lw_all := lw_g (lw_at lw_m1 224 rfl) rfl
theorem q309 : (Jvm.Cond.soleField "LarderLocks$Larder" "there") ∈ lw_all := lw_g (lw_at lw_m1 225 rfl) rfl
theorem q310 : (Jvm.Cond.lays "LarderLocks$Larder" "LarderLocks$Larder" "came" "I") ∈ lw_all := lw_g (lw_at lw_m1 226 rfl) rfl
theorem q311 : (Jvm.Cond.soleField "LarderLocks$Larder" "came") ∈ lw_all := lw_g (lw_at lw_m1 227 rfl) rfl
theorem q312 : (Jvm.Cond.lays "LarderLocks$Larder" "LarderLocks$Larder" "ended" "I") ∈ lw_all := lw_g (lw_at lw_m1 228 rfl) rfl
theorem q313 : (Jvm.Cond.soleField "LarderLocks$Larder" "ended") ∈ lw_all := lw_g (lw_at lw_m1 229 rfl) rfl
theorem q314 : (Jvm.Cond.superclass "LarderLocks$Larder" "java/lang/Object") ∈ lw_all := lw_g (lw_at lw_m1 230 rfl) rfl
theorem q402 : (Jvm.Cond.instanceMethod ({ cls := "LarderLocks$Larder", name := "copy", desc := "()LLarderLocks$Larder;" } : Jvm.MethodName)) ∈ lw_all := lw_g (lw_at lw_m2 78 rfl) rfl
theorem q403 : (Jvm.Cond.selects "LarderLocks$Larder" ({ cls := "LarderLocks$Larder", name := "copy", desc := "()LLarderLocks$Larder;" } : Jvm.MethodName) ({ cls := "LarderLocks$Larder", name := "copy", desc := "()LLarderLocks$Larder;" } : Jvm.MethodName)) ∈ lw_all := lw_g (lw_at lw_m2 79 rfl) rfl
theorem q404 : (Jvm.Cond.code ({ cls := "LarderLocks$Larder", name := "copy", desc := "()LLarderLocks$Larder;" } : Jvm.MethodName) prog_5_method_2_code (5 : Nat) (Option.some (Jvm.ClassFile.FieldType.object "LarderLocks$Larder"))) ∈ lw_all := lw_g (lw_at lw_m2 80 rfl) rfl
theorem q405 : (Jvm.Cond.classLink "LarderLocks$Larder" (12 : Nat) "LarderLocks$Larder") ∈ lw_all := lw_g (lw_at lw_m2 81 rfl) rfl
theorem q406 : (Jvm.Cond.methodLink "LarderLocks$Larder" (48 : Nat) ({ cls := "LarderLocks$Larder", name := "<init>", desc := "()V" } : Jvm.MethodName)) ∈ lw_all := lw_g (lw_at lw_m2 82 rfl) rfl
theorem q407 : (Jvm.Cond.methodLink "LarderLocks$Larder" (49 : Nat) ({ cls := "java/util/ArrayList", name := "get", desc := "(I)Ljava/lang/Object;" } : Jvm.MethodName)) ∈ lw_all := lw_g (lw_at lw_m2 83 rfl) rfl
theorem q421 : (Jvm.Cond.methodLink "LarderLocks$Larder" (53 : Nat) ({ cls := "java/util/LinkedList", name := "iterator", desc := "()Ljava/util/Iterator;" } : Jvm.MethodName)) ∈ lw_all := lw_g (lw_at lw_m2 97 rfl) rfl
theorem q508 : (Jvm.Cond.interfaceEntry "LarderLocks$Larder" (57 : Nat)) ∈ lw_tbl := lw_at lw_m2 184 rfl
theorem q509 : (Jvm.Cond.methodLink "LarderLocks$Larder" (57 : Nat) ({ cls := "java/util/Iterator", name := "hasNext", desc := "()Z" } : Jvm.MethodName)) ∈ lw_all := lw_g (lw_at lw_m2 185 rfl) rfl
theorem q554 : (Jvm.Cond.interfaceEntry "LarderLocks$Larder" (63 : Nat)) ∈ lw_tbl := lw_at lw_m2 230 rfl
theorem q555 : (Jvm.Cond.methodLink "LarderLocks$Larder" (63 : Nat) ({ cls := "java/util/Iterator", name := "next", desc := "()Ljava/lang/Object;" } : Jvm.MethodName)) ∈ lw_all := lw_g (lw_at lw_m2 231 rfl) rfl
theorem q915 : (Jvm.Cond.classLink "LarderLocks$Larder" (67 : Nat) "LarderLocks$Wish") ∈ lw_all := lw_g (lw_at lw_m4 111 rfl) rfl
theorem q916 : (Jvm.Cond.methodLink "LarderLocks$Larder" (69 : Nat) ({ cls := "java/util/LinkedList", name := "addLast", desc := "(Ljava/lang/Object;)V" } : Jvm.MethodName)) ∈ lw_all := lw_g (lw_at lw_m4 112 rfl) rfl
theorem q946 : (Jvm.Cond.instanceMethod ({ cls := "LarderLocks$Larder", name := "comes", desc := "()I" } : Jvm.MethodName)) ∈ lw_all := lw_g (lw_at lw_m4 142 rfl) rfl
theorem q947 : (Jvm.Cond.selects "LarderLocks$Larder" ({ cls := "LarderLocks$Larder", name := "comes", desc := "()I" } : Jvm.MethodName) ({ cls := "LarderLocks$Larder", name := "comes", desc := "()I" } : Jvm.MethodName)) ∈ lw_all := lw_g (lw_at lw_m4 143 rfl) rfl
theorem q948 : (Jvm.Cond.code ({ cls := "LarderLocks$Larder", name := "comes", desc := "()I" } : Jvm.MethodName) prog_5_method_14_code (1 : Nat) (Option.some Jvm.ClassFile.FieldType.int)) ∈ lw_all := lw_g (lw_at lw_m4 144 rfl) rfl
theorem q949 : (Jvm.Cond.methodLink "LarderLocks$Larder" (157 : Nat) ({ cls := "LarderLocks$Larder", name := "many", desc := "()I" } : Jvm.MethodName)) ∈ lw_all := lw_g (lw_at lw_m4 145 rfl) rfl
theorem q950 : (Jvm.Cond.instanceMethod ({ cls := "LarderLocks$Larder", name := "many", desc := "()I" } : Jvm.MethodName)) ∈ lw_all := lw_g (lw_at lw_m4 146 rfl) rfl
theorem q951 : (Jvm.Cond.selects "LarderLocks$Larder" ({ cls := "LarderLocks$Larder", name := "many", desc := "()I" } : Jvm.MethodName) ({ cls := "LarderLocks$Larder", name := "many", desc := "()I" } : Jvm.MethodName)) ∈ lw_all := lw_g (lw_at lw_m4 147 rfl) rfl
theorem q952 : (Jvm.Cond.code ({ cls := "LarderLocks$Larder", name := "many", desc := "()I" } : Jvm.MethodName) prog_5_method_4_code (1 : Nat) (Option.some Jvm.ClassFile.FieldType.int)) ∈ lw_all := lw_g (lw_at lw_m4 148 rfl) rfl
theorem q953 : (Jvm.Cond.methodLink "LarderLocks$Larder" (91 : Nat) ({ cls := "java/lang/Integer", name := "bitCount", desc := "(I)I" } : Jvm.MethodName)) ∈ lw_all := lw_g (lw_at lw_m4 149 rfl) rfl
theorem q959 : (Jvm.Cond.methodLinkNest "LarderLocks$Larder" (160 : Nat) ({ cls := "LarderLocks", name := "refuse", desc := "(ZII)V" } : Jvm.MethodName) "LarderLocks") ∈ lw_tbl := lw_at lw_m4 155 rfl
theorem q994 : (Jvm.Cond.instanceMethod ({ cls := "LarderLocks$Larder", name := "notes", desc := "()V" } : Jvm.MethodName)) ∈ lw_all := lw_g (lw_at lw_m4 190 rfl) rfl
theorem q995 : (Jvm.Cond.selects "LarderLocks$Larder" ({ cls := "LarderLocks$Larder", name := "notes", desc := "()V" } : Jvm.MethodName) ({ cls := "LarderLocks$Larder", name := "notes", desc := "()V" } : Jvm.MethodName)) ∈ lw_all := lw_g (lw_at lw_m4 191 rfl) rfl
theorem q996 : (Jvm.Cond.code ({ cls := "LarderLocks$Larder", name := "notes", desc := "()V" } : Jvm.MethodName) prog_5_method_36_code (2 : Nat) (Option.none : Option Jvm.ClassFile.FieldType)) ∈ lw_all := lw_g (lw_at lw_m4 192 rfl) rfl
theorem q997 : (Jvm.Cond.methodLink "LarderLocks$Larder" (146 : Nat) ({ cls := "java/util/LinkedList", name := "size", desc := "()I" } : Jvm.MethodName)) ∈ lw_all := lw_g (lw_at lw_m4 193 rfl) rfl
theorem q998 : (Jvm.Cond.methodLink "LarderLocks$Larder" (102 : Nat) ({ cls := "java/lang/Math", name := "max", desc := "(II)I" } : Jvm.MethodName)) ∈ lw_all := lw_g (lw_at lw_m4 194 rfl) rfl
theorem q1047 : (Jvm.Cond.instanceMethod ({ cls := "LarderLocks$Larder", name := "isThere", desc := "(I)Z" } : Jvm.MethodName)) ∈ lw_all := lw_g (lw_at lw_m5 3 rfl) rfl
theorem q1048 : (Jvm.Cond.selects "LarderLocks$Larder" ({ cls := "LarderLocks$Larder", name := "isThere", desc := "(I)Z" } : Jvm.MethodName) ({ cls := "LarderLocks$Larder", name := "isThere", desc := "(I)Z" } : Jvm.MethodName)) ∈ lw_all := lw_g (lw_at lw_m5 4 rfl) rfl
theorem q1049 : (Jvm.Cond.code ({ cls := "LarderLocks$Larder", name := "isThere", desc := "(I)Z" } : Jvm.MethodName) prog_5_method_3_code (2 : Nat) (Option.some Jvm.ClassFile.FieldType.boolean)) ∈ lw_all := lw_g (lw_at lw_m5 5 rfl) rfl
theorem q1050 : (Jvm.Cond.methodLinkNest "LarderLocks$Larder" (83 : Nat) ({ cls := "LarderLocks", name := "isIn", desc := "(III)Z" } : Jvm.MethodName) "LarderLocks") ∈ lw_tbl := lw_at lw_m5 6 rfl
theorem q1053 : (Jvm.Cond.methodLinkNest "LarderLocks$Larder" (87 : Nat) ({ cls := "LarderLocks", name := "has", desc := "(II)Z" } : Jvm.MethodName) "LarderLocks") ∈ lw_tbl := lw_at lw_m5 9 rfl
theorem q1061 : (Jvm.Cond.instanceMethod ({ cls := "LarderLocks$Larder", name := "wants", desc := "(IIZ[LLarderLocks$Fit;)I" } : Jvm.MethodName)) ∈ lw_all := lw_g (lw_at lw_m5 17 rfl) rfl
theorem q1062 : (Jvm.Cond.selects "LarderLocks$Larder" ({ cls := "LarderLocks$Larder", name := "wants", desc := "(IIZ[LLarderLocks$Fit;)I" } : Jvm.MethodName) ({ cls := "LarderLocks$Larder", name := "wants", desc := "(IIZ[LLarderLocks$Fit;)I" } : Jvm.MethodName)) ∈ lw_all := lw_g (lw_at lw_m5 18 rfl) rfl
theorem q1063 : (Jvm.Cond.code ({ cls := "LarderLocks$Larder", name := "wants", desc := "(IIZ[LLarderLocks$Fit;)I" } : Jvm.MethodName) prog_5_method_16_code (10 : Nat) (Option.some Jvm.ClassFile.FieldType.int)) ∈ lw_all := lw_g (lw_at lw_m5 19 rfl) rfl
theorem q1064 : (Jvm.Cond.methodLink "LarderLocks$Larder" (167 : Nat) ({ cls := "LarderLocks$Larder", name := "wish", desc := "(IIZ)LLarderLocks$Wish;" } : Jvm.MethodName)) ∈ lw_all := lw_g (lw_at lw_m5 20 rfl) rfl
theorem q1065 : (Jvm.Cond.privateMethod ({ cls := "LarderLocks$Larder", name := "wish", desc := "(IIZ)LLarderLocks$Wish;" } : Jvm.MethodName)) ∈ lw_tbl := lw_at lw_m5 21 rfl
theorem q1066 : (Jvm.Cond.instanceMethod ({ cls := "LarderLocks$Larder", name := "wish", desc := "(IIZ)LLarderLocks$Wish;" } : Jvm.MethodName)) ∈ lw_all := lw_g (lw_at lw_m5 22 rfl) rfl
theorem q1067 : (Jvm.Cond.code ({ cls := "LarderLocks$Larder", name := "wish", desc := "(IIZ)LLarderLocks$Wish;" } : Jvm.MethodName) prog_5_method_15_code (6 : Nat) (Option.some (Jvm.ClassFile.FieldType.object "LarderLocks$Wish"))) ∈ lw_all := lw_g (lw_at lw_m5 23 rfl) rfl
theorem q1068 : (Jvm.Cond.methodLink "LarderLocks$Larder" (140 : Nat) ({ cls := "LarderLocks$Larder", name := "waitsFor", desc := "(I)I" } : Jvm.MethodName)) ∈ lw_all := lw_g (lw_at lw_m5 24 rfl) rfl
theorem q1069 : (Jvm.Cond.instanceMethod ({ cls := "LarderLocks$Larder", name := "waitsFor", desc := "(I)I" } : Jvm.MethodName)) ∈ lw_all := lw_g (lw_at lw_m5 25 rfl) rfl
theorem q1070 : (Jvm.Cond.selects "LarderLocks$Larder" ({ cls := "LarderLocks$Larder", name := "waitsFor", desc := "(I)I" } : Jvm.MethodName) ({ cls := "LarderLocks$Larder", name := "waitsFor", desc := "(I)I" } : Jvm.MethodName)) ∈ lw_all := lw_g (lw_at lw_m5 26 rfl) rfl
theorem q1071 : (Jvm.Cond.code ({ cls := "LarderLocks$Larder", name := "waitsFor", desc := "(I)I" } : Jvm.MethodName) prog_5_method_10_code (6 : Nat) (Option.some Jvm.ClassFile.FieldType.int)) ∈ lw_all := lw_g (lw_at lw_m5 27 rfl) rfl
theorem q1073 : (Jvm.Cond.methodLink "LarderLocks$Larder" (164 : Nat) ({ cls := "LarderLocks$Wish", name := "<init>", desc := "(IIZ)V" } : Jvm.MethodName)) ∈ lw_all := lw_g (lw_at lw_m5 29 rfl) rfl
theorem q1078 : (Jvm.Cond.fieldLinkNest "LarderLocks$Larder" (111 : Nat) "LarderLocks$Wish" "maid" "I" "LarderLocks") ∈ lw_tbl := lw_at lw_m5 34 rfl
theorem q1081 : (Jvm.Cond.fieldLinkNest "LarderLocks$Larder" (108 : Nat) "LarderLocks$Wish" "kind" "I" "LarderLocks") ∈ lw_tbl := lw_at lw_m5 37 rfl
theorem q1083 : (Jvm.Cond.fieldLinkNest "LarderLocks$Larder" (150 : Nat) "LarderLocks$Wish" "isStronger" "Z" "LarderLocks") ∈ lw_tbl := lw_at lw_m5 39 rfl
theorem q1091 : (Jvm.Cond.methodLink "LarderLocks$Larder" (123 : Nat) ({ cls := "java/util/LinkedList", name := "isEmpty", desc := "()Z" } : Jvm.MethodName)) ∈ lw_all := lw_g (lw_at lw_m5 47 rfl) rfl
theorem q1098 : (Jvm.Cond.methodLink "LarderLocks$Larder" (129 : Nat) ({ cls := "LarderLocks$Larder", name := "canHave", desc := "(ILLarderLocks$Wish;[LLarderLocks$Fit;)Z" } : Jvm.MethodName)) ∈ lw_all := lw_g (lw_at lw_m5 54 rfl) rfl
theorem q1099 : (Jvm.Cond.privateMethod ({ cls := "LarderLocks$Larder", name := "canHave", desc := "(ILLarderLocks$Wish;[LLarderLocks$Fit;)Z" } : Jvm.MethodName)) ∈ lw_tbl := lw_at lw_m5 55 rfl
theorem q1100 : (Jvm.Cond.instanceMethod ({ cls := "LarderLocks$Larder", name := "canHave", desc := "(ILLarderLocks$Wish;[LLarderLocks$Fit;)Z" } : Jvm.MethodName)) ∈ lw_all := lw_g (lw_at lw_m5 56 rfl) rfl
theorem q1101 : (Jvm.Cond.code ({ cls := "LarderLocks$Larder", name := "canHave", desc := "(ILLarderLocks$Wish;[LLarderLocks$Fit;)Z" } : Jvm.MethodName) prog_5_method_7_code (4 : Nat) (Option.some Jvm.ClassFile.FieldType.boolean)) ∈ lw_all := lw_g (lw_at lw_m5 57 rfl) rfl
theorem q1102 : (Jvm.Cond.methodLink "LarderLocks$Larder" (114 : Nat) ({ cls := "LarderLocks$Larder", name := "others", desc := "(II)I" } : Jvm.MethodName)) ∈ lw_all := lw_g (lw_at lw_m5 58 rfl) rfl
theorem q1103 : (Jvm.Cond.privateMethod ({ cls := "LarderLocks$Larder", name := "others", desc := "(II)I" } : Jvm.MethodName)) ∈ lw_tbl := lw_at lw_m5 59 rfl
theorem q1104 : (Jvm.Cond.instanceMethod ({ cls := "LarderLocks$Larder", name := "others", desc := "(II)I" } : Jvm.MethodName)) ∈ lw_all := lw_g (lw_at lw_m5 60 rfl) rfl
theorem q1105 : (Jvm.Cond.code ({ cls := "LarderLocks$Larder", name := "others", desc := "(II)I" } : Jvm.MethodName) prog_5_method_6_code (5 : Nat) (Option.some Jvm.ClassFile.FieldType.int)) ∈ lw_all := lw_g (lw_at lw_m5 61 rfl) rfl
theorem q1106 : (Jvm.Cond.interfaceEntry "LarderLocks$Larder" (117 : Nat)) ∈ lw_tbl := lw_at lw_m5 62 rfl
theorem q1107 : (Jvm.Cond.methodLink "LarderLocks$Larder" (117 : Nat) ({ cls := "LarderLocks$Fit", name := "is", desc := "(I)Z" } : Jvm.MethodName)) ∈ lw_all := lw_g (lw_at lw_m5 63 rfl) rfl
theorem q1110 : (Jvm.Cond.methodLink "LarderLocks$Larder" (136 : Nat) ({ cls := "LarderLocks$Larder", name := "gives", desc := "(ILLarderLocks$Wish;)V" } : Jvm.MethodName)) ∈ lw_all := lw_g (lw_at lw_m5 66 rfl) rfl
theorem q1111 : (Jvm.Cond.privateMethod ({ cls := "LarderLocks$Larder", name := "gives", desc := "(ILLarderLocks$Wish;)V" } : Jvm.MethodName)) ∈ lw_tbl := lw_at lw_m5 67 rfl
theorem q1112 : (Jvm.Cond.instanceMethod ({ cls := "LarderLocks$Larder", name := "gives", desc := "(ILLarderLocks$Wish;)V" } : Jvm.MethodName)) ∈ lw_all := lw_g (lw_at lw_m5 68 rfl) rfl
theorem q1113 : (Jvm.Cond.code ({ cls := "LarderLocks$Larder", name := "gives", desc := "(ILLarderLocks$Wish;)V" } : Jvm.MethodName) prog_5_method_8_code (3 : Nat) (Option.none : Option Jvm.ClassFile.FieldType)) ∈ lw_all := lw_g (lw_at lw_m5 69 rfl) rfl
theorem q1114 : (Jvm.Cond.methodLink "LarderLocks$Larder" (171 : Nat) ({ cls := "LarderLocks$Larder", name := "waits", desc := "(ILLarderLocks$Wish;)V" } : Jvm.MethodName)) ∈ lw_all := lw_g (lw_at lw_m5 70 rfl) rfl
theorem q1115 : (Jvm.Cond.privateMethod ({ cls := "LarderLocks$Larder", name := "waits", desc := "(ILLarderLocks$Wish;)V" } : Jvm.MethodName)) ∈ lw_tbl := lw_at lw_m5 71 rfl
theorem q1116 : (Jvm.Cond.instanceMethod ({ cls := "LarderLocks$Larder", name := "waits", desc := "(ILLarderLocks$Wish;)V" } : Jvm.MethodName)) ∈ lw_all := lw_g (lw_at lw_m5 72 rfl) rfl
theorem q1117 : (Jvm.Cond.code ({ cls := "LarderLocks$Larder", name := "waits", desc := "(ILLarderLocks$Wish;)V" } : Jvm.MethodName) prog_5_method_13_code (7 : Nat) (Option.none : Option Jvm.ClassFile.FieldType)) ∈ lw_all := lw_g (lw_at lw_m5 73 rfl) rfl
theorem q1118 : (Jvm.Cond.methodLink "LarderLocks$Larder" (154 : Nat) ({ cls := "java/util/LinkedList", name := "add", desc := "(ILjava/lang/Object;)V" } : Jvm.MethodName)) ∈ lw_all := lw_g (lw_at lw_m5 74 rfl) rfl
theorem q1126 : (Jvm.Cond.methodLink "LarderLocks$Larder" (174 : Nat) ({ cls := "LarderLocks$Larder", name := "youngestInRing", desc := "()I" } : Jvm.MethodName)) ∈ lw_all := lw_g (lw_at lw_m5 82 rfl) rfl
theorem q1127 : (Jvm.Cond.privateMethod ({ cls := "LarderLocks$Larder", name := "youngestInRing", desc := "()I" } : Jvm.MethodName)) ∈ lw_tbl := lw_at lw_m5 83 rfl
theorem q1128 : (Jvm.Cond.instanceMethod ({ cls := "LarderLocks$Larder", name := "youngestInRing", desc := "()I" } : Jvm.MethodName)) ∈ lw_all := lw_g (lw_at lw_m5 84 rfl) rfl
theorem q1129 : (Jvm.Cond.code ({ cls := "LarderLocks$Larder", name := "youngestInRing", desc := "()I" } : Jvm.MethodName) prog_5_method_22_code (4 : Nat) (Option.some Jvm.ClassFile.FieldType.int)) ∈ lw_all := lw_g (lw_at lw_m5 85 rfl) rfl
theorem q1130 : (Jvm.Cond.methodLink "LarderLocks$Larder" (194 : Nat) ({ cls := "LarderLocks$Larder", name := "maids", desc := "()Ljava/lang/Iterable;" } : Jvm.MethodName)) ∈ lw_all := lw_g (lw_at lw_m5 86 rfl) rfl
theorem q1131 : (Jvm.Cond.instanceMethod ({ cls := "LarderLocks$Larder", name := "maids", desc := "()Ljava/lang/Iterable;" } : Jvm.MethodName)) ∈ lw_all := lw_g (lw_at lw_m5 87 rfl) rfl
theorem q1132 : (Jvm.Cond.selects "LarderLocks$Larder" ({ cls := "LarderLocks$Larder", name := "maids", desc := "()Ljava/lang/Iterable;" } : Jvm.MethodName) ({ cls := "LarderLocks$Larder", name := "maids", desc := "()Ljava/lang/Iterable;" } : Jvm.MethodName)) ∈ lw_all := lw_g (lw_at lw_m5 88 rfl) rfl
theorem q1133 : (Jvm.Cond.code ({ cls := "LarderLocks$Larder", name := "maids", desc := "()Ljava/lang/Iterable;" } : Jvm.MethodName) prog_5_method_5_code (2 : Nat) (Option.some (Jvm.ClassFile.FieldType.object "java/lang/Iterable"))) ∈ lw_all := lw_g (lw_at lw_m5 89 rfl) rfl
theorem q1134 : (Jvm.Cond.classLink "LarderLocks$Larder" (97 : Nat) "LarderLocks$Larder$1") ∈ lw_all := lw_g (lw_at lw_m5 90 rfl) rfl
theorem q1136 : (Jvm.Cond.methodLink "LarderLocks$Larder" (99 : Nat) ({ cls := "LarderLocks$Larder$1", name := "<init>", desc := "(LLarderLocks$Larder;I)V" } : Jvm.MethodName)) ∈ lw_all := lw_g (lw_at lw_m5 92 rfl) rfl
theorem q1147 : (Jvm.Cond.interfaceEntry "LarderLocks$Larder" (198 : Nat)) ∈ lw_tbl := lw_at lw_m5 103 rfl
theorem q1148 : (Jvm.Cond.methodLink "LarderLocks$Larder" (198 : Nat) ({ cls := "java/lang/Iterable", name := "iterator", desc := "()Ljava/util/Iterator;" } : Jvm.MethodName)) ∈ lw_all := lw_g (lw_at lw_m5 104 rfl) rfl
theorem q1211 : (Jvm.Cond.classLink "LarderLocks$Larder" (92 : Nat) "java/lang/Integer") ∈ lw_all := lw_g (lw_at lw_m5 167 rfl) rfl
theorem q1212 : (Jvm.Cond.methodLink "LarderLocks$Larder" (201 : Nat) ({ cls := "java/lang/Integer", name := "intValue", desc := "()I" } : Jvm.MethodName)) ∈ lw_all := lw_g (lw_at lw_m5 168 rfl) rfl
theorem q1216 : (Jvm.Cond.methodLink "LarderLocks$Larder" (204 : Nat) ({ cls := "LarderLocks$Larder", name := "reach", desc := "(I)I" } : Jvm.MethodName)) ∈ lw_all := lw_g (lw_at lw_m5 172 rfl) rfl
theorem q1217 : (Jvm.Cond.privateMethod ({ cls := "LarderLocks$Larder", name := "reach", desc := "(I)I" } : Jvm.MethodName)) ∈ lw_tbl := lw_at lw_m5 173 rfl
theorem q1218 : (Jvm.Cond.instanceMethod ({ cls := "LarderLocks$Larder", name := "reach", desc := "(I)I" } : Jvm.MethodName)) ∈ lw_all := lw_g (lw_at lw_m5 174 rfl) rfl
theorem q1219 : (Jvm.Cond.code ({ cls := "LarderLocks$Larder", name := "reach", desc := "(I)I" } : Jvm.MethodName) prog_5_method_21_code (5 : Nat) (Option.some Jvm.ClassFile.FieldType.int)) ∈ lw_all := lw_g (lw_at lw_m5 175 rfl) rfl
theorem q1220 : (Jvm.Cond.methodLink "LarderLocks$Larder" (191 : Nat) ({ cls := "LarderLocks$Larder", name := "waitsForWhom", desc := "(I)I" } : Jvm.MethodName)) ∈ lw_all := lw_g (lw_at lw_m5 176 rfl) rfl
theorem q1221 : (Jvm.Cond.instanceMethod ({ cls := "LarderLocks$Larder", name := "waitsForWhom", desc := "(I)I" } : Jvm.MethodName)) ∈ lw_all := lw_g (lw_at lw_m5 177 rfl) rfl
theorem q1222 : (Jvm.Cond.selects "LarderLocks$Larder" ({ cls := "LarderLocks$Larder", name := "waitsForWhom", desc := "(I)I" } : Jvm.MethodName) ({ cls := "LarderLocks$Larder", name := "waitsForWhom", desc := "(I)I" } : Jvm.MethodName)) ∈ lw_all := lw_g (lw_at lw_m5 178 rfl) rfl
theorem q1223 : (Jvm.Cond.code ({ cls := "LarderLocks$Larder", name := "waitsForWhom", desc := "(I)I" } : Jvm.MethodName) prog_5_method_20_code (7 : Nat) (Option.some Jvm.ClassFile.FieldType.int)) ∈ lw_all := lw_g (lw_at lw_m5 179 rfl) rfl
theorem q1224 : (Jvm.Cond.methodLink "LarderLocks$Larder" (187 : Nat) ({ cls := "LarderLocks$Larder", name := "wishOf", desc := "(I)LLarderLocks$Wish;" } : Jvm.MethodName)) ∈ lw_all := lw_g (lw_at lw_m5 180 rfl) rfl
theorem q1225 : (Jvm.Cond.privateMethod ({ cls := "LarderLocks$Larder", name := "wishOf", desc := "(I)LLarderLocks$Wish;" } : Jvm.MethodName)) ∈ lw_tbl := lw_at lw_m5 181 rfl
theorem q1226 : (Jvm.Cond.instanceMethod ({ cls := "LarderLocks$Larder", name := "wishOf", desc := "(I)LLarderLocks$Wish;" } : Jvm.MethodName)) ∈ lw_all := lw_g (lw_at lw_m5 182 rfl) rfl
theorem q1227 : (Jvm.Cond.code ({ cls := "LarderLocks$Larder", name := "wishOf", desc := "(I)LLarderLocks$Wish;" } : Jvm.MethodName) prog_5_method_11_code (5 : Nat) (Option.some (Jvm.ClassFile.FieldType.object "LarderLocks$Wish"))) ∈ lw_all := lw_g (lw_at lw_m5 183 rfl) rfl
theorem q1228 : (Jvm.Cond.methodLink "LarderLocks$Larder" (177 : Nat) ({ cls := "LarderLocks$Larder", name := "letsAllGo", desc := "(I[LLarderLocks$Fit;)I" } : Jvm.MethodName)) ∈ lw_all := lw_g (lw_at lw_m5 184 rfl) rfl
theorem q1229 : (Jvm.Cond.privateMethod ({ cls := "LarderLocks$Larder", name := "letsAllGo", desc := "(I[LLarderLocks$Fit;)I" } : Jvm.MethodName)) ∈ lw_tbl := lw_at lw_m5 185 rfl
theorem q1230 : (Jvm.Cond.instanceMethod ({ cls := "LarderLocks$Larder", name := "letsAllGo", desc := "(I[LLarderLocks$Fit;)I" } : Jvm.MethodName)) ∈ lw_all := lw_g (lw_at lw_m5 186 rfl) rfl
theorem q1231 : (Jvm.Cond.code ({ cls := "LarderLocks$Larder", name := "letsAllGo", desc := "(I[LLarderLocks$Fit;)I" } : Jvm.MethodName) prog_5_method_17_code (7 : Nat) (Option.some Jvm.ClassFile.FieldType.int)) ∈ lw_all := lw_g (lw_at lw_m5 187 rfl) rfl
theorem q1232 : (Jvm.Cond.methodLink "LarderLocks$Larder" (181 : Nat) ({ cls := "LarderLocks$Larder", name := "waitsNoMore", desc := "(I)I" } : Jvm.MethodName)) ∈ lw_all := lw_g (lw_at lw_m5 188 rfl) rfl
theorem q1233 : (Jvm.Cond.privateMethod ({ cls := "LarderLocks$Larder", name := "waitsNoMore", desc := "(I)I" } : Jvm.MethodName)) ∈ lw_tbl := lw_at lw_m5 189 rfl
theorem q1234 : (Jvm.Cond.instanceMethod ({ cls := "LarderLocks$Larder", name := "waitsNoMore", desc := "(I)I" } : Jvm.MethodName)) ∈ lw_all := lw_g (lw_at lw_m5 190 rfl) rfl
theorem q1235 : (Jvm.Cond.code ({ cls := "LarderLocks$Larder", name := "waitsNoMore", desc := "(I)I" } : Jvm.MethodName) prog_5_method_12_code (4 : Nat) (Option.some Jvm.ClassFile.FieldType.int)) ∈ lw_all := lw_g (lw_at lw_m5 191 rfl) rfl
theorem q1236 : (Jvm.Cond.interfaceEntry "LarderLocks$Larder" (143 : Nat)) ∈ lw_tbl := lw_at lw_m5 192 rfl
theorem q1237 : (Jvm.Cond.methodLink "LarderLocks$Larder" (143 : Nat) ({ cls := "java/util/Iterator", name := "remove", desc := "()V" } : Jvm.MethodName)) ∈ lw_all := lw_g (lw_at lw_m5 193 rfl) rfl
theorem q1339 : (Jvm.Cond.methodLink "LarderLocks$Larder" (184 : Nat) ({ cls := "LarderLocks$Larder", name := "serves", desc := "(I[LLarderLocks$Fit;)I" } : Jvm.MethodName)) ∈ lw_all := lw_g (lw_at lw_m6 55 rfl) rfl
theorem q1340 : (Jvm.Cond.privateMethod ({ cls := "LarderLocks$Larder", name := "serves", desc := "(I[LLarderLocks$Fit;)I" } : Jvm.MethodName)) ∈ lw_tbl := lw_at lw_m6 56 rfl
theorem q1341 : (Jvm.Cond.instanceMethod ({ cls := "LarderLocks$Larder", name := "serves", desc := "(I[LLarderLocks$Fit;)I" } : Jvm.MethodName)) ∈ lw_all := lw_g (lw_at lw_m6 57 rfl) rfl
theorem q1342 : (Jvm.Cond.code ({ cls := "LarderLocks$Larder", name := "serves", desc := "(I[LLarderLocks$Fit;)I" } : Jvm.MethodName) prog_5_method_9_code (5 : Nat) (Option.some Jvm.ClassFile.FieldType.int)) ∈ lw_all := lw_g (lw_at lw_m6 58 rfl) rfl
theorem q1343 : (Jvm.Cond.methodLink "LarderLocks$Larder" (126 : Nat) ({ cls := "java/util/LinkedList", name := "getFirst", desc := "()Ljava/lang/Object;" } : Jvm.MethodName)) ∈ lw_all := lw_g (lw_at lw_m6 59 rfl) rfl
theorem q1347 : (Jvm.Cond.methodLink "LarderLocks$Larder" (133 : Nat) ({ cls := "java/util/LinkedList", name := "removeFirst", desc := "()Ljava/lang/Object;" } : Jvm.MethodName)) ∈ lw_all := lw_g (lw_at lw_m6 63 rfl) rfl
theorem q1361 : (Jvm.Cond.instanceMethod ({ cls := "LarderLocks$Larder", name := "frees", desc := "(II[LLarderLocks$Fit;)I" } : Jvm.MethodName)) ∈ lw_all := lw_g (lw_at lw_m6 77 rfl) rfl
theorem q1362 : (Jvm.Cond.selects "LarderLocks$Larder" ({ cls := "LarderLocks$Larder", name := "frees", desc := "(II[LLarderLocks$Fit;)I" } : Jvm.MethodName) ({ cls := "LarderLocks$Larder", name := "frees", desc := "(II[LLarderLocks$Fit;)I" } : Jvm.MethodName)) ∈ lw_all := lw_g (lw_at lw_m6 78 rfl) rfl
theorem q1363 : (Jvm.Cond.code ({ cls := "LarderLocks$Larder", name := "frees", desc := "(II[LLarderLocks$Fit;)I" } : Jvm.MethodName) prog_5_method_18_code (5 : Nat) (Option.some Jvm.ClassFile.FieldType.int)) ∈ lw_all := lw_g (lw_at lw_m6 79 rfl) rfl
theorem q1369 : (Jvm.Cond.instanceMethod ({ cls := "LarderLocks$Larder", name := "ends", desc := "(I[LLarderLocks$Fit;)I" } : Jvm.MethodName)) ∈ lw_all := lw_g (lw_at lw_m6 85 rfl) rfl
theorem q1370 : (Jvm.Cond.selects "LarderLocks$Larder" ({ cls := "LarderLocks$Larder", name := "ends", desc := "(I[LLarderLocks$Fit;)I" } : Jvm.MethodName) ({ cls := "LarderLocks$Larder", name := "ends", desc := "(I[LLarderLocks$Fit;)I" } : Jvm.MethodName)) ∈ lw_all := lw_g (lw_at lw_m6 86 rfl) rfl
theorem q1371 : (Jvm.Cond.code ({ cls := "LarderLocks$Larder", name := "ends", desc := "(I[LLarderLocks$Fit;)I" } : Jvm.MethodName) prog_5_method_19_code (4 : Nat) (Option.some Jvm.ClassFile.FieldType.int)) ∈ lw_all := lw_g (lw_at lw_m6 87 rfl) rfl
theorem q1381 : (Jvm.Cond.instanceMethod ({ cls := "LarderLocks$Larder", name := "ofMaid", desc := "(II)I" } : Jvm.MethodName)) ∈ lw_all := lw_g (lw_at lw_m6 97 rfl) rfl
theorem q1382 : (Jvm.Cond.selects "LarderLocks$Larder" ({ cls := "LarderLocks$Larder", name := "ofMaid", desc := "(II)I" } : Jvm.MethodName) ({ cls := "LarderLocks$Larder", name := "ofMaid", desc := "(II)I" } : Jvm.MethodName)) ∈ lw_all := lw_g (lw_at lw_m6 98 rfl) rfl
theorem q1383 : (Jvm.Cond.code ({ cls := "LarderLocks$Larder", name := "ofMaid", desc := "(II)I" } : Jvm.MethodName) prog_5_method_30_code (3 : Nat) (Option.some Jvm.ClassFile.FieldType.int)) ∈ lw_all := lw_g (lw_at lw_m6 99 rfl) rfl
theorem q1384 : (Jvm.Cond.methodLink "LarderLocks$Larder" (215 : Nat) ({ cls := "LarderLocks$Larder", name := "held", desc := "(I)I" } : Jvm.MethodName)) ∈ lw_all := lw_g (lw_at lw_m6 100 rfl) rfl
theorem q1385 : (Jvm.Cond.instanceMethod ({ cls := "LarderLocks$Larder", name := "held", desc := "(I)I" } : Jvm.MethodName)) ∈ lw_all := lw_g (lw_at lw_m6 101 rfl) rfl
theorem q1386 : (Jvm.Cond.selects "LarderLocks$Larder" ({ cls := "LarderLocks$Larder", name := "held", desc := "(I)I" } : Jvm.MethodName) ({ cls := "LarderLocks$Larder", name := "held", desc := "(I)I" } : Jvm.MethodName)) ∈ lw_all := lw_g (lw_at lw_m6 102 rfl) rfl
theorem q1387 : (Jvm.Cond.code ({ cls := "LarderLocks$Larder", name := "held", desc := "(I)I" } : Jvm.MethodName) prog_5_method_28_code (7 : Nat) (Option.some Jvm.ClassFile.FieldType.int)) ∈ lw_all := lw_g (lw_at lw_m6 103 rfl) rfl
theorem q1388 : (Jvm.Cond.methodLink "LarderLocks$Larder" (218 : Nat) ({ cls := "LarderLocks$Larder", name := "ahead", desc := "(I)I" } : Jvm.MethodName)) ∈ lw_all := lw_g (lw_at lw_m6 104 rfl) rfl
theorem q1389 : (Jvm.Cond.instanceMethod ({ cls := "LarderLocks$Larder", name := "ahead", desc := "(I)I" } : Jvm.MethodName)) ∈ lw_all := lw_g (lw_at lw_m6 105 rfl) rfl
theorem q1390 : (Jvm.Cond.selects "LarderLocks$Larder" ({ cls := "LarderLocks$Larder", name := "ahead", desc := "(I)I" } : Jvm.MethodName) ({ cls := "LarderLocks$Larder", name := "ahead", desc := "(I)I" } : Jvm.MethodName)) ∈ lw_all := lw_g (lw_at lw_m6 106 rfl) rfl
theorem q1391 : (Jvm.Cond.code ({ cls := "LarderLocks$Larder", name := "ahead", desc := "(I)I" } : Jvm.MethodName) prog_5_method_29_code (4 : Nat) (Option.some Jvm.ClassFile.FieldType.int)) ∈ lw_all := lw_g (lw_at lw_m6 107 rfl) rfl
theorem q1392 : (Jvm.Cond.methodLink "LarderLocks$Larder" (214 : Nat) ({ cls := "java/util/LinkedList", name := "get", desc := "(I)Ljava/lang/Object;" } : Jvm.MethodName)) ∈ lw_all := lw_g (lw_at lw_m6 108 rfl) rfl
theorem q1398 : (Jvm.Cond.instanceMethod ({ cls := "LarderLocks$Larder", name := "heldBy", desc := "(II)I" } : Jvm.MethodName)) ∈ lw_all := lw_g (lw_at lw_m6 114 rfl) rfl
theorem q1399 : (Jvm.Cond.selects "LarderLocks$Larder" ({ cls := "LarderLocks$Larder", name := "heldBy", desc := "(II)I" } : Jvm.MethodName) ({ cls := "LarderLocks$Larder", name := "heldBy", desc := "(II)I" } : Jvm.MethodName)) ∈ lw_all := lw_g (lw_at lw_m6 115 rfl) rfl
theorem q1400 : (Jvm.Cond.code ({ cls := "LarderLocks$Larder", name := "heldBy", desc := "(II)I" } : Jvm.MethodName) prog_5_method_31_code (5 : Nat) (Option.some Jvm.ClassFile.FieldType.int)) ∈ lw_all := lw_g (lw_at lw_m6 116 rfl) rfl
theorem q1406 : (Jvm.Cond.instanceMethod ({ cls := "LarderLocks$Larder", name := "ofShelf", desc := "(II)I" } : Jvm.MethodName)) ∈ lw_all := lw_g (lw_at lw_m6 122 rfl) rfl
theorem q1407 : (Jvm.Cond.selects "LarderLocks$Larder" ({ cls := "LarderLocks$Larder", name := "ofShelf", desc := "(II)I" } : Jvm.MethodName) ({ cls := "LarderLocks$Larder", name := "ofShelf", desc := "(II)I" } : Jvm.MethodName)) ∈ lw_all := lw_g (lw_at lw_m6 123 rfl) rfl
theorem q1408 : (Jvm.Cond.code ({ cls := "LarderLocks$Larder", name := "ofShelf", desc := "(II)I" } : Jvm.MethodName) prog_5_method_35_code (3 : Nat) (Option.some Jvm.ClassFile.FieldType.int)) ∈ lw_all := lw_g (lw_at lw_m6 124 rfl) rfl
theorem q1409 : (Jvm.Cond.methodLink "LarderLocks$Larder" (221 : Nat) ({ cls := "LarderLocks$Larder", name := "holders", desc := "(I)I" } : Jvm.MethodName)) ∈ lw_all := lw_g (lw_at lw_m6 125 rfl) rfl
theorem q1410 : (Jvm.Cond.instanceMethod ({ cls := "LarderLocks$Larder", name := "holders", desc := "(I)I" } : Jvm.MethodName)) ∈ lw_all := lw_g (lw_at lw_m6 126 rfl) rfl
theorem q1411 : (Jvm.Cond.selects "LarderLocks$Larder" ({ cls := "LarderLocks$Larder", name := "holders", desc := "(I)I" } : Jvm.MethodName) ({ cls := "LarderLocks$Larder", name := "holders", desc := "(I)I" } : Jvm.MethodName)) ∈ lw_all := lw_g (lw_at lw_m6 127 rfl) rfl
theorem q1412 : (Jvm.Cond.code ({ cls := "LarderLocks$Larder", name := "holders", desc := "(I)I" } : Jvm.MethodName) prog_5_method_32_code (5 : Nat) (Option.some Jvm.ClassFile.FieldType.int)) ∈ lw_all := lw_g (lw_at lw_m6 128 rfl) rfl
theorem q1413 : (Jvm.Cond.methodLink "LarderLocks$Larder" (224 : Nat) ({ cls := "LarderLocks$Larder", name := "soleWishes", desc := "(I)I" } : Jvm.MethodName)) ∈ lw_all := lw_g (lw_at lw_m6 129 rfl) rfl
theorem q1414 : (Jvm.Cond.privateMethod ({ cls := "LarderLocks$Larder", name := "soleWishes", desc := "(I)I" } : Jvm.MethodName)) ∈ lw_tbl := lw_at lw_m6 130 rfl
theorem q1415 : (Jvm.Cond.instanceMethod ({ cls := "LarderLocks$Larder", name := "soleWishes", desc := "(I)I" } : Jvm.MethodName)) ∈ lw_all := lw_g (lw_at lw_m6 131 rfl) rfl
theorem q1416 : (Jvm.Cond.code ({ cls := "LarderLocks$Larder", name := "soleWishes", desc := "(I)I" } : Jvm.MethodName) prog_5_method_34_code (5 : Nat) (Option.some Jvm.ClassFile.FieldType.int)) ∈ lw_all := lw_g (lw_at lw_m6 132 rfl) rfl
theorem q1422 : (Jvm.Cond.instanceMethod ({ cls := "LarderLocks$Larder", name := "holder", desc := "(II)I" } : Jvm.MethodName)) ∈ lw_all := lw_g (lw_at lw_m6 138 rfl) rfl
theorem q1423 : (Jvm.Cond.selects "LarderLocks$Larder" ({ cls := "LarderLocks$Larder", name := "holder", desc := "(II)I" } : Jvm.MethodName) ({ cls := "LarderLocks$Larder", name := "holder", desc := "(II)I" } : Jvm.MethodName)) ∈ lw_all := lw_g (lw_at lw_m6 139 rfl) rfl
theorem q1424 : (Jvm.Cond.code ({ cls := "LarderLocks$Larder", name := "holder", desc := "(II)I" } : Jvm.MethodName) prog_5_method_33_code (6 : Nat) (Option.some Jvm.ClassFile.FieldType.int)) ∈ lw_all := lw_g (lw_at lw_m6 140 rfl) rfl
theorem q1443 : (Jvm.Cond.instanceMethod ({ cls := "LarderLocks$Larder", name := "waiting", desc := "(IIZ[LLarderLocks$Fit;)LLarderLocks$Larder;" } : Jvm.MethodName)) ∈ lw_all := lw_g (lw_at lw_m6 159 rfl) rfl
theorem q1444 : (Jvm.Cond.selects "LarderLocks$Larder" ({ cls := "LarderLocks$Larder", name := "waiting", desc := "(IIZ[LLarderLocks$Fit;)LLarderLocks$Larder;" } : Jvm.MethodName) ({ cls := "LarderLocks$Larder", name := "waiting", desc := "(IIZ[LLarderLocks$Fit;)LLarderLocks$Larder;" } : Jvm.MethodName)) ∈ lw_all := lw_g (lw_at lw_m6 160 rfl) rfl
theorem q1445 : (Jvm.Cond.code ({ cls := "LarderLocks$Larder", name := "waiting", desc := "(IIZ[LLarderLocks$Fit;)LLarderLocks$Larder;" } : Jvm.MethodName) prog_5_method_27_code (8 : Nat) (Option.some (Jvm.ClassFile.FieldType.object "LarderLocks$Larder"))) ∈ lw_all := lw_g (lw_at lw_m6 161 rfl) rfl
theorem q1446 : (Jvm.Cond.methodLink "LarderLocks$Larder" (210 : Nat) ({ cls := "LarderLocks$Larder", name := "copy", desc := "()LLarderLocks$Larder;" } : Jvm.MethodName)) ∈ lw_all := lw_g (lw_at lw_m6 162 rfl) rfl
theorem q1448 : (Jvm.Cond.instanceMethod ({ cls := "LarderLocks$Larder", name := "isInRingAgain", desc := "(I)Z" } : Jvm.MethodName)) ∈ lw_all := lw_g (lw_at lw_m6 164 rfl) rfl
theorem q1449 : (Jvm.Cond.selects "LarderLocks$Larder" ({ cls := "LarderLocks$Larder", name := "isInRingAgain", desc := "(I)Z" } : Jvm.MethodName) ({ cls := "LarderLocks$Larder", name := "isInRingAgain", desc := "(I)Z" } : Jvm.MethodName)) ∈ lw_all := lw_g (lw_at lw_m6 165 rfl) rfl
theorem q1450 : (Jvm.Cond.code ({ cls := "LarderLocks$Larder", name := "isInRingAgain", desc := "(I)Z" } : Jvm.MethodName) prog_5_method_24_code (7 : Nat) (Option.some Jvm.ClassFile.FieldType.boolean)) ∈ lw_all := lw_g (lw_at lw_m6 166 rfl) rfl
theorem q1452 : (Jvm.Cond.instanceMethod ({ cls := "LarderLocks$Larder", name := "isInRing", desc := "(I)Z" } : Jvm.MethodName)) ∈ lw_all := lw_g (lw_at lw_m6 168 rfl) rfl
theorem q1453 : (Jvm.Cond.selects "LarderLocks$Larder" ({ cls := "LarderLocks$Larder", name := "isInRing", desc := "(I)Z" } : Jvm.MethodName) ({ cls := "LarderLocks$Larder", name := "isInRing", desc := "(I)Z" } : Jvm.MethodName)) ∈ lw_all := lw_g (lw_at lw_m6 169 rfl) rfl
theorem q1454 : (Jvm.Cond.code ({ cls := "LarderLocks$Larder", name := "isInRing", desc := "(I)Z" } : Jvm.MethodName) prog_5_method_23_code (2 : Nat) (Option.some Jvm.ClassFile.FieldType.boolean)) ∈ lw_all := lw_g (lw_at lw_m6 170 rfl) rfl
theorem q1468 : (Jvm.Cond.instanceMethod ({ cls := "LarderLocks$Larder", name := "chain", desc := "(I)I" } : Jvm.MethodName)) ∈ lw_all := lw_g (lw_at lw_m6 184 rfl) rfl
theorem q1469 : (Jvm.Cond.selects "LarderLocks$Larder" ({ cls := "LarderLocks$Larder", name := "chain", desc := "(I)I" } : Jvm.MethodName) ({ cls := "LarderLocks$Larder", name := "chain", desc := "(I)I" } : Jvm.MethodName)) ∈ lw_all := lw_g (lw_at lw_m6 185 rfl) rfl
theorem q1470 : (Jvm.Cond.code ({ cls := "LarderLocks$Larder", name := "chain", desc := "(I)I" } : Jvm.MethodName) prog_5_method_26_code (6 : Nat) (Option.some Jvm.ClassFile.FieldType.int)) ∈ lw_all := lw_g (lw_at lw_m6 186 rfl) rfl
theorem q1471 : (Jvm.Cond.methodLink "LarderLocks$Larder" (207 : Nat) ({ cls := "LarderLocks$Larder", name := "chain", desc := "(I)I" } : Jvm.MethodName)) ∈ lw_all := lw_g (lw_at lw_m6 187 rfl) rfl
theorem q1477 : (Jvm.Cond.instanceMethod ({ cls := "LarderLocks$Larder", name := "waitedFor", desc := "(I)I" } : Jvm.MethodName)) ∈ lw_all := lw_g (lw_at lw_m6 193 rfl) rfl
theorem q1478 : (Jvm.Cond.selects "LarderLocks$Larder" ({ cls := "LarderLocks$Larder", name := "waitedFor", desc := "(I)I" } : Jvm.MethodName) ({ cls := "LarderLocks$Larder", name := "waitedFor", desc := "(I)I" } : Jvm.MethodName)) ∈ lw_all := lw_g (lw_at lw_m6 194 rfl) rfl
theorem q1479 : (Jvm.Cond.code ({ cls := "LarderLocks$Larder", name := "waitedFor", desc := "(I)I" } : Jvm.MethodName) prog_5_method_25_code (5 : Nat) (Option.some Jvm.ClassFile.FieldType.int)) ∈ lw_all := lw_g (lw_at lw_m6 195 rfl) rfl
theorem q1485 : (Jvm.Cond.instanceMethod ({ cls := "LarderLocks$Larder", name := "needed", desc := "(I)I" } : Jvm.MethodName)) ∈ lw_all := lw_g (lw_at lw_m6 201 rfl) rfl
theorem q1486 : (Jvm.Cond.selects "LarderLocks$Larder" ({ cls := "LarderLocks$Larder", name := "needed", desc := "(I)I" } : Jvm.MethodName) ({ cls := "LarderLocks$Larder", name := "needed", desc := "(I)I" } : Jvm.MethodName)) ∈ lw_all := lw_g (lw_at lw_m6 202 rfl) rfl
theorem q1487 : (Jvm.Cond.code ({ cls := "LarderLocks$Larder", name := "needed", desc := "(I)I" } : Jvm.MethodName) prog_5_method_38_code (5 : Nat) (Option.some Jvm.ClassFile.FieldType.int)) ∈ lw_all := lw_g (lw_at lw_m6 203 rfl) rfl
theorem q1488 : (Jvm.Cond.methodLink "LarderLocks$Larder" (227 : Nat) ({ cls := "LarderLocks$Larder", name := "isNeededAhead", desc := "(II)Z" } : Jvm.MethodName)) ∈ lw_all := lw_g (lw_at lw_m6 204 rfl) rfl
theorem q1489 : (Jvm.Cond.privateMethod ({ cls := "LarderLocks$Larder", name := "isNeededAhead", desc := "(II)Z" } : Jvm.MethodName)) ∈ lw_tbl := lw_at lw_m6 205 rfl
theorem q1490 : (Jvm.Cond.instanceMethod ({ cls := "LarderLocks$Larder", name := "isNeededAhead", desc := "(II)Z" } : Jvm.MethodName)) ∈ lw_all := lw_g (lw_at lw_m6 206 rfl) rfl
theorem q1491 : (Jvm.Cond.code ({ cls := "LarderLocks$Larder", name := "isNeededAhead", desc := "(II)Z" } : Jvm.MethodName) prog_5_method_37_code (5 : Nat) (Option.some Jvm.ClassFile.FieldType.boolean)) ∈ lw_all := lw_g (lw_at lw_m6 207 rfl) rfl
theorem q1497 : (Jvm.Cond.instanceMethod ({ cls := "LarderLocks$Larder", name := "ranked", desc := "(I)I" } : Jvm.MethodName)) ∈ lw_all := lw_g (lw_at lw_m6 213 rfl) rfl
theorem q1498 : (Jvm.Cond.selects "LarderLocks$Larder" ({ cls := "LarderLocks$Larder", name := "ranked", desc := "(I)I" } : Jvm.MethodName) ({ cls := "LarderLocks$Larder", name := "ranked", desc := "(I)I" } : Jvm.MethodName)) ∈ lw_all := lw_g (lw_at lw_m6 214 rfl) rfl
theorem q1499 : (Jvm.Cond.code ({ cls := "LarderLocks$Larder", name := "ranked", desc := "(I)I" } : Jvm.MethodName) prog_5_method_40_code (7 : Nat) (Option.some Jvm.ClassFile.FieldType.int)) ∈ lw_all := lw_g (lw_at lw_m6 215 rfl) rfl
theorem q1500 : (Jvm.Cond.methodLink "LarderLocks$Larder" (230 : Nat) ({ cls := "LarderLocks$Larder", name := "isMaidAhead", desc := "(II)Z" } : Jvm.MethodName)) ∈ lw_all := lw_g (lw_at lw_m6 216 rfl) rfl
theorem q1501 : (Jvm.Cond.privateMethod ({ cls := "LarderLocks$Larder", name := "isMaidAhead", desc := "(II)Z" } : Jvm.MethodName)) ∈ lw_tbl := lw_at lw_m6 217 rfl
theorem q1502 : (Jvm.Cond.instanceMethod ({ cls := "LarderLocks$Larder", name := "isMaidAhead", desc := "(II)Z" } : Jvm.MethodName)) ∈ lw_all := lw_g (lw_at lw_m6 218 rfl) rfl
theorem q1503 : (Jvm.Cond.code ({ cls := "LarderLocks$Larder", name := "isMaidAhead", desc := "(II)Z" } : Jvm.MethodName) prog_5_method_39_code (4 : Nat) (Option.some Jvm.ClassFile.FieldType.boolean)) ∈ lw_all := lw_g (lw_at lw_m6 219 rfl) rfl
theorem q1740 : (Jvm.Cond.instanceMethod ({ cls := "LarderLocks$Larder", name := "text", desc := "(I)Ljava/lang/String;" } : Jvm.MethodName)) ∈ lw_all := lw_g (lw_at lw_m7 216 rfl) rfl
theorem q1741 : (Jvm.Cond.selects "LarderLocks$Larder" ({ cls := "LarderLocks$Larder", name := "text", desc := "(I)Ljava/lang/String;" } : Jvm.MethodName) ({ cls := "LarderLocks$Larder", name := "text", desc := "(I)Ljava/lang/String;" } : Jvm.MethodName)) ∈ lw_all := lw_g (lw_at lw_m7 217 rfl) rfl
theorem q1742 : (Jvm.Cond.code ({ cls := "LarderLocks$Larder", name := "text", desc := "(I)Ljava/lang/String;" } : Jvm.MethodName) prog_5_method_47_code (6 : Nat) (Option.some (Jvm.ClassFile.FieldType.object "java/lang/String"))) ∈ lw_all := lw_g (lw_at lw_m7 218 rfl) rfl
theorem q1743 : (Jvm.Cond.classLink "LarderLocks$Larder" (238 : Nat) "java/lang/StringBuilder") ∈ lw_all := lw_g (lw_at lw_m7 219 rfl) rfl
theorem q1744 : (Jvm.Cond.methodLink "LarderLocks$Larder" (240 : Nat) ({ cls := "java/lang/StringBuilder", name := "<init>", desc := "()V" } : Jvm.MethodName)) ∈ lw_all := lw_g (lw_at lw_m7 220 rfl) rfl
theorem q1745 : (Jvm.Cond.methodLink "LarderLocks$Larder" (241 : Nat) ({ cls := "java/lang/StringBuilder", name := "append", desc := "(I)Ljava/lang/StringBuilder;" } : Jvm.MethodName)) ∈ lw_all := lw_g (lw_at lw_m7 221 rfl) rfl
theorem q1770 : (Jvm.Cond.methodLink "LarderLocks$Larder" (245 : Nat) ({ cls := "java/lang/StringBuilder", name := "append", desc := "(C)Ljava/lang/StringBuilder;" } : Jvm.MethodName)) ∈ lw_all := lw_g (lw_at lw_m8 6 rfl) rfl
theorem q1771 : (Jvm.Cond.stringRef "LarderLocks$Larder" (248 : Nat) "") ∈ lw_tbl := lw_at lw_m8 7 rfl
theorem q1772 : (Jvm.Cond.stringRef "LarderLocks$Larder" (250 : Nat) ",") ∈ lw_tbl := lw_at lw_m8 8 rfl
theorem q1773 : (Jvm.Cond.methodLink "LarderLocks$Larder" (252 : Nat) ({ cls := "java/lang/StringBuilder", name := "append", desc := "(Ljava/lang/String;)Ljava/lang/StringBuilder;" } : Jvm.MethodName)) ∈ lw_all := lw_g (lw_at lw_m8 9 rfl) rfl
theorem q1774 : (Jvm.Cond.methodLinkNest "LarderLocks$Larder" (255 : Nat) ({ cls := "LarderLocks", name := "signOf", desc := "(I)C" } : Jvm.MethodName) "LarderLocks") ∈ lw_tbl := lw_at lw_m8 10 rfl
theorem q1777 : (Jvm.Cond.stringRef "LarderLocks$Larder" (259 : Nat) "<") ∈ lw_tbl := lw_at lw_m8 13 rfl
theorem q1778 : (Jvm.Cond.methodLink "LarderLocks$Larder" (261 : Nat) ({ cls := "java/lang/StringBuilder", name := "toString", desc := "()Ljava/lang/String;" } : Jvm.MethodName)) ∈ lw_all := lw_g (lw_at lw_m8 14 rfl) rfl
theorem q1785 : (Jvm.Cond.instanceMethod ({ cls := "LarderLocks$Larder", name := "maidText", desc := "(I)Ljava/lang/String;" } : Jvm.MethodName)) ∈ lw_all := lw_g (lw_at lw_m8 21 rfl) rfl
theorem q1786 : (Jvm.Cond.selects "LarderLocks$Larder" ({ cls := "LarderLocks$Larder", name := "maidText", desc := "(I)Ljava/lang/String;" } : Jvm.MethodName) ({ cls := "LarderLocks$Larder", name := "maidText", desc := "(I)Ljava/lang/String;" } : Jvm.MethodName)) ∈ lw_all := lw_g (lw_at lw_m8 22 rfl) rfl
theorem q1787 : (Jvm.Cond.code ({ cls := "LarderLocks$Larder", name := "maidText", desc := "(I)Ljava/lang/String;" } : Jvm.MethodName) prog_5_method_48_code (4 : Nat) (Option.some (Jvm.ClassFile.FieldType.object "java/lang/String"))) ∈ lw_all := lw_g (lw_at lw_m8 23 rfl) rfl
theorem q1788 : (Jvm.Cond.stringRef "LarderLocks$Larder" (265 : Nat) "?") ∈ lw_tbl := lw_at lw_m8 24 rfl
theorem q1804 : (Jvm.Cond.instanceMethod ({ cls := "LarderLocks$Larder", name := "waiting", desc := "()I" } : Jvm.MethodName)) ∈ lw_all := lw_g (lw_at lw_m8 40 rfl) rfl
theorem q1805 : (Jvm.Cond.selects "LarderLocks$Larder" ({ cls := "LarderLocks$Larder", name := "waiting", desc := "()I" } : Jvm.MethodName) ({ cls := "LarderLocks$Larder", name := "waiting", desc := "()I" } : Jvm.MethodName)) ∈ lw_all := lw_g (lw_at lw_m8 41 rfl) rfl
theorem q1806 : (Jvm.Cond.code ({ cls := "LarderLocks$Larder", name := "waiting", desc := "()I" } : Jvm.MethodName) prog_5_method_41_code (4 : Nat) (Option.some Jvm.ClassFile.FieldType.int)) ∈ lw_all := lw_g (lw_at lw_m8 42 rfl) rfl
theorem q1807 : (Jvm.Cond.methodLink "LarderLocks$Larder" (233 : Nat) ({ cls := "java/util/ArrayList", name := "iterator", desc := "()Ljava/util/Iterator;" } : Jvm.MethodName)) ∈ lw_all := lw_g (lw_at lw_m8 43 rfl) rfl
theorem q1809 : (Jvm.Cond.instanceMethod ({ cls := "LarderLocks$Larder", name := "locks", desc := "(Z)I" } : Jvm.MethodName)) ∈ lw_all := lw_g (lw_at lw_m8 45 rfl) rfl
theorem q1810 : (Jvm.Cond.selects "LarderLocks$Larder" ({ cls := "LarderLocks$Larder", name := "locks", desc := "(Z)I" } : Jvm.MethodName) ({ cls := "LarderLocks$Larder", name := "locks", desc := "(Z)I" } : Jvm.MethodName)) ∈ lw_all := lw_g (lw_at lw_m8 46 rfl) rfl
theorem q1811 : (Jvm.Cond.code ({ cls := "LarderLocks$Larder", name := "locks", desc := "(Z)I" } : Jvm.MethodName) prog_5_method_42_code (9 : Nat) (Option.some Jvm.ClassFile.FieldType.int)) ∈ lw_all := lw_g (lw_at lw_m8 47 rfl) rfl
theorem q1813 : (Jvm.Cond.static ({ cls := "LarderLocks$Larder", name := "sum", desc := "([I)I" } : Jvm.MethodName)) ∈ lw_all := lw_g (lw_at lw_m8 49 rfl) rfl
theorem q1814 : (Jvm.Cond.code ({ cls := "LarderLocks$Larder", name := "sum", desc := "([I)I" } : Jvm.MethodName) prog_5_method_44_code (6 : Nat) (Option.some Jvm.ClassFile.FieldType.int)) ∈ lw_all := lw_g (lw_at lw_m8 50 rfl) rfl
theorem q1816 : (Jvm.Cond.instanceMethod ({ cls := "LarderLocks$Larder", name := "unheld", desc := "()I" } : Jvm.MethodName)) ∈ lw_all := lw_g (lw_at lw_m8 52 rfl) rfl
theorem q1817 : (Jvm.Cond.selects "LarderLocks$Larder" ({ cls := "LarderLocks$Larder", name := "unheld", desc := "()I" } : Jvm.MethodName) ({ cls := "LarderLocks$Larder", name := "unheld", desc := "()I" } : Jvm.MethodName)) ∈ lw_all := lw_g (lw_at lw_m8 53 rfl) rfl
theorem q1818 : (Jvm.Cond.code ({ cls := "LarderLocks$Larder", name := "unheld", desc := "()I" } : Jvm.MethodName) prog_5_method_43_code (3 : Nat) (Option.some Jvm.ClassFile.FieldType.int)) ∈ lw_all := lw_g (lw_at lw_m8 54 rfl) rfl
theorem q1824 : (Jvm.Cond.instanceMethod ({ cls := "LarderLocks$Larder", name := "isBalanced", desc := "([LLarderLocks$Fit;)Z" } : Jvm.MethodName)) ∈ lw_all := lw_g (lw_at lw_m8 60 rfl) rfl
theorem q1825 : (Jvm.Cond.selects "LarderLocks$Larder" ({ cls := "LarderLocks$Larder", name := "isBalanced", desc := "([LLarderLocks$Fit;)Z" } : Jvm.MethodName) ({ cls := "LarderLocks$Larder", name := "isBalanced", desc := "([LLarderLocks$Fit;)Z" } : Jvm.MethodName)) ∈ lw_all := lw_g (lw_at lw_m8 61 rfl) rfl
theorem q1826 : (Jvm.Cond.code ({ cls := "LarderLocks$Larder", name := "isBalanced", desc := "([LLarderLocks$Fit;)Z" } : Jvm.MethodName) prog_5_method_46_code (4 : Nat) (Option.some Jvm.ClassFile.FieldType.boolean)) ∈ lw_all := lw_g (lw_at lw_m8 62 rfl) rfl
theorem q1827 : (Jvm.Cond.methodLink "LarderLocks$Larder" (234 : Nat) ({ cls := "LarderLocks$Larder", name := "isRight", desc := "(I[LLarderLocks$Fit;)Z" } : Jvm.MethodName)) ∈ lw_all := lw_g (lw_at lw_m8 63 rfl) rfl
theorem q1828 : (Jvm.Cond.privateMethod ({ cls := "LarderLocks$Larder", name := "isRight", desc := "(I[LLarderLocks$Fit;)Z" } : Jvm.MethodName)) ∈ lw_tbl := lw_at lw_m8 64 rfl
theorem q1829 : (Jvm.Cond.instanceMethod ({ cls := "LarderLocks$Larder", name := "isRight", desc := "(I[LLarderLocks$Fit;)Z" } : Jvm.MethodName)) ∈ lw_all := lw_g (lw_at lw_m8 65 rfl) rfl
theorem q1830 : (Jvm.Cond.code ({ cls := "LarderLocks$Larder", name := "isRight", desc := "(I[LLarderLocks$Fit;)Z" } : Jvm.MethodName) prog_5_method_45_code (5 : Nat) (Option.some Jvm.ClassFile.FieldType.boolean)) ∈ lw_all := lw_g (lw_at lw_m8 66 rfl) rfl
theorem q2274 : (Jvm.Cond.castable "LarderLocks$Larder" "java/lang/Object") ∈ lw_tbl := lw_at lw_m10 30 rfl
theorem in_X1 : ∀ w ∈ wsX10, w ∈ lw_all := lw_in wsX10 [294, 296, 298, 300, 302, 304, 306, 308, 310, 312] (by decide +kernel) (by decide +kernel)
