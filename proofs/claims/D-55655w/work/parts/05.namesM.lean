/-! LarderLocksModel -/
set_option maxRecDepth 100000
def RX2 : String := "LarderLocksModel"
def TX2 : u_T := fun k => match k with
  | 0 => ("LarderLocksModel", "g", "[I", true)
  | 1 => ("LarderLocksModel", "kept", "[I", true)
  | 2 => ("LarderLocksModel", "saved", "[I", true)
  | 3 => ("LarderLocksModel", "before", "[I", true)
  | 4 => ("LarderLocksModel", "spare", "[I", true)
  | 5 => ("LarderLocksModel", "isSaved", "Z", false)
  | 6 => ("LarderLocksModel", "changes", "I", false)
  | 7 => ("LarderLocksModel", "isWithin", "Z", false)
  | 8 => ("LarderLocksModel", "why", "I", false)
  | 9 => ("LarderLocksModel", "detail", "I", false)
  | 10 => ("LarderLocksModel", "text", "[I", true)
  | 11 => ("LarderLocksModel", "length", "I", false)
  | 12 => ("LarderLocksModel", "signs", "[C", true)
  | 13 => ("LarderLocksModel", "signMany", "I", false)
  | 14 => ("LarderLocksModel", "barredBy", "I", false)
  | 15 => ("LarderLocksModel", "spot", "I", false)
  | 16 => ("LarderLocksModel", "told", "[I", true)
  | _ => ("LarderLocksModel", "toldMany", "I", false)
def tyX2 : Nat → FieldType := fun k => match k with
  | 0 => .array .int
  | 1 => .array .int
  | 2 => .array .int
  | 3 => .array .int
  | 4 => .array .int
  | 5 => .boolean
  | 6 => .int
  | 7 => .boolean
  | 8 => .int
  | 9 => .int
  | 10 => .array .int
  | 11 => .int
  | 12 => .array .char
  | 13 => .int
  | 14 => .int
  | 15 => .int
  | 16 => .array .int
  | _ => .int
abbrev wsX20 : List Cond := u_ws RX2 TX2 18
set_option maxRecDepth 100000 in
theorem nmX2 : ∀ a, a < 18 → ∀ b, b < 18 → a ≠ b → (TX2 a).2.1 ≠ (TX2 b).2.1 := by decide +kernel
set_option maxRecDepth 100000 in
theorem tyX2_ok : ∀ k, k < 18 → parseFieldDescriptor (TX2 k).2.2.1 = some (tyX2 k) := by decide +kernel
abbrev cX2_init : ByteArray := prog_12_method_1_code
def yX2_init : MethodName := ⟨RX2, "<init>", "()V"⟩
def dkwX2_init_3 : List UInt8 := [188, 10, 181, 0, 32, 177]
abbrev dktX2_init_3 : List UInt8 := dkwX2_init_3 ++ []
def dkwX2_init_2 : List UInt8 := [181, 0, 22, 42, 16, 60, 188, 10, 181, 0, 25, 42, 17, 0, 200, 188, 5, 181, 0, 28, 42, 16, 93]
abbrev dktX2_init_2 : List UInt8 := dkwX2_init_2 ++ dktX2_init_3
def dkwX2_init_1 : List UInt8 := [17, 1, 173, 188, 10, 181, 0, 16, 42, 17, 1, 173, 188, 10, 181, 0, 19, 42, 17, 1, 173, 188, 10]
abbrev dktX2_init_1 : List UInt8 := dkwX2_init_1 ++ dktX2_init_2
def dkwX2_init_0 : List UInt8 := [42, 183, 0, 1, 42, 17, 1, 173, 188, 10, 181, 0, 7, 42, 17, 13, 104, 188, 10, 181, 0, 13, 42]
abbrev dktX2_init_0 : List UInt8 := dkwX2_init_0 ++ dktX2_init_1
theorem dksX2_init_0 : cX2_init.data.toList.drop 0 = dktX2_init_0 := by decide +kernel
theorem dksX2_init_1 : cX2_init.data.toList.drop 23 = dktX2_init_1 := dk_seg dksX2_init_0 23 rfl rfl
theorem dksX2_init_2 : cX2_init.data.toList.drop 46 = dktX2_init_2 := dk_seg dksX2_init_1 23 rfl rfl
theorem dksX2_init_3 : cX2_init.data.toList.drop 69 = dktX2_init_3 := dk_seg dksX2_init_2 23 rfl rfl
theorem dX2_init_0 : decode cX2_init 0 = .ok (.aload_n 0, 1) := dk_42 (dk_at dksX2_init_0 0 rfl rfl)
theorem dX2_init_1 : decode cX2_init 1 = .ok (.invokespecial 1, 3) := dk_183 0 1 (dk_at dksX2_init_0 1 rfl rfl)
theorem dX2_init_4 : decode cX2_init 4 = .ok (.aload_n 0, 1) := dk_42 (dk_at dksX2_init_0 4 rfl rfl)
theorem dX2_init_5 : decode cX2_init 5 = .ok (.sipush 429, 3) := dk_17 1 173 (dk_at dksX2_init_0 5 rfl rfl)
theorem dX2_init_8 : decode cX2_init 8 = .ok (.newarray .int, 2) := dk_188_10 (dk_at dksX2_init_0 8 rfl rfl)
theorem dX2_init_10 : decode cX2_init 10 = .ok (.putfield 7, 3) := dk_181 0 7 (dk_at dksX2_init_0 10 rfl rfl)
theorem dX2_init_13 : decode cX2_init 13 = .ok (.aload_n 0, 1) := dk_42 (dk_at dksX2_init_0 13 rfl rfl)
theorem dX2_init_14 : decode cX2_init 14 = .ok (.sipush 3432, 3) := dk_17 13 104 (dk_at dksX2_init_0 14 rfl rfl)
theorem dX2_init_17 : decode cX2_init 17 = .ok (.newarray .int, 2) := dk_188_10 (dk_at dksX2_init_0 17 rfl rfl)
theorem dX2_init_19 : decode cX2_init 19 = .ok (.putfield 13, 3) := dk_181 0 13 (dk_at dksX2_init_0 19 rfl rfl)
theorem dX2_init_22 : decode cX2_init 22 = .ok (.aload_n 0, 1) := dk_42 (dk_at dksX2_init_0 22 rfl rfl)
theorem dX2_init_23 : decode cX2_init 23 = .ok (.sipush 429, 3) := dk_17 1 173 (dk_at dksX2_init_1 0 rfl rfl)
theorem dX2_init_26 : decode cX2_init 26 = .ok (.newarray .int, 2) := dk_188_10 (dk_at dksX2_init_1 3 rfl rfl)
theorem dX2_init_28 : decode cX2_init 28 = .ok (.putfield 16, 3) := dk_181 0 16 (dk_at dksX2_init_1 5 rfl rfl)
theorem dX2_init_31 : decode cX2_init 31 = .ok (.aload_n 0, 1) := dk_42 (dk_at dksX2_init_1 8 rfl rfl)
theorem dX2_init_32 : decode cX2_init 32 = .ok (.sipush 429, 3) := dk_17 1 173 (dk_at dksX2_init_1 9 rfl rfl)
theorem dX2_init_35 : decode cX2_init 35 = .ok (.newarray .int, 2) := dk_188_10 (dk_at dksX2_init_1 12 rfl rfl)
theorem dX2_init_37 : decode cX2_init 37 = .ok (.putfield 19, 3) := dk_181 0 19 (dk_at dksX2_init_1 14 rfl rfl)
theorem dX2_init_40 : decode cX2_init 40 = .ok (.aload_n 0, 1) := dk_42 (dk_at dksX2_init_1 17 rfl rfl)
theorem dX2_init_41 : decode cX2_init 41 = .ok (.sipush 429, 3) := dk_17 1 173 (dk_at dksX2_init_1 18 rfl rfl)
theorem dX2_init_44 : decode cX2_init 44 = .ok (.newarray .int, 2) := dk_188_10 (dk_at dksX2_init_1 21 rfl rfl)
theorem dX2_init_46 : decode cX2_init 46 = .ok (.putfield 22, 3) := dk_181 0 22 (dk_at dksX2_init_2 0 rfl rfl)
theorem dX2_init_49 : decode cX2_init 49 = .ok (.aload_n 0, 1) := dk_42 (dk_at dksX2_init_2 3 rfl rfl)
theorem dX2_init_50 : decode cX2_init 50 = .ok (.bipush 60, 2) := dk_16 60 (dk_at dksX2_init_2 4 rfl rfl)
theorem dX2_init_52 : decode cX2_init 52 = .ok (.newarray .int, 2) := dk_188_10 (dk_at dksX2_init_2 6 rfl rfl)
theorem dX2_init_54 : decode cX2_init 54 = .ok (.putfield 25, 3) := dk_181 0 25 (dk_at dksX2_init_2 8 rfl rfl)
theorem dX2_init_57 : decode cX2_init 57 = .ok (.aload_n 0, 1) := dk_42 (dk_at dksX2_init_2 11 rfl rfl)
theorem dX2_init_58 : decode cX2_init 58 = .ok (.sipush 200, 3) := dk_17 0 200 (dk_at dksX2_init_2 12 rfl rfl)
theorem dX2_init_61 : decode cX2_init 61 = .ok (.newarray .char, 2) := dk_188_5 (dk_at dksX2_init_2 15 rfl rfl)
theorem dX2_init_63 : decode cX2_init 63 = .ok (.putfield 28, 3) := dk_181 0 28 (dk_at dksX2_init_2 17 rfl rfl)
theorem dX2_init_66 : decode cX2_init 66 = .ok (.aload_n 0, 1) := dk_42 (dk_at dksX2_init_2 20 rfl rfl)
theorem dX2_init_67 : decode cX2_init 67 = .ok (.bipush 93, 2) := dk_16 93 (dk_at dksX2_init_2 21 rfl rfl)
theorem dX2_init_69 : decode cX2_init 69 = .ok (.newarray .int, 2) := dk_188_10 (dk_at dksX2_init_3 0 rfl rfl)
theorem dX2_init_71 : decode cX2_init 71 = .ok (.putfield 32, 3) := dk_181 0 32 (dk_at dksX2_init_3 2 rfl rfl)
theorem dX2_init_74 : decode cX2_init 74 = .ok (.return_, 1) := dk_177 (dk_at dksX2_init_3 5 rfl rfl)
abbrev cX2_maid : ByteArray := prog_12_method_15_code
def yX2_maid : MethodName := ⟨RX2, "maid", "()I"⟩
def dkwX2_maid_3 : List UInt8 := [27, 4, 2, 182, 0, 72, 27, 172]
abbrev dktX2_maid_3 : List UInt8 := dkwX2_maid_3 ++ []
def dkwX2_maid_2 : List UInt8 := [180, 0, 7, 3, 46, 60, 42, 180, 0, 7, 3, 92, 46, 4, 96, 79, 42, 27, 3, 4, 182, 0, 72, 42]
abbrev dktX2_maid_2 : List UInt8 := dkwX2_maid_2 ++ dktX2_maid_3
def dkwX2_maid_1 : List UInt8 := [16, 8, 160, 0, 11, 42, 4, 16, 8, 182, 0, 61, 172, 42, 42, 180, 0, 7, 182, 0, 68, 42]
abbrev dktX2_maid_1 : List UInt8 := dkwX2_maid_1 ++ dktX2_maid_2
def dkwX2_maid_0 : List UInt8 := [42, 180, 0, 7, 3, 46, 16, 24, 160, 0, 11, 42, 4, 16, 24, 182, 0, 61, 172, 42, 182, 0, 64]
abbrev dktX2_maid_0 : List UInt8 := dkwX2_maid_0 ++ dktX2_maid_1
theorem dksX2_maid_0 : cX2_maid.data.toList.drop 0 = dktX2_maid_0 := by decide +kernel
theorem dksX2_maid_1 : cX2_maid.data.toList.drop 23 = dktX2_maid_1 := dk_seg dksX2_maid_0 23 rfl rfl
theorem dksX2_maid_2 : cX2_maid.data.toList.drop 45 = dktX2_maid_2 := dk_seg dksX2_maid_1 22 rfl rfl
theorem dksX2_maid_3 : cX2_maid.data.toList.drop 69 = dktX2_maid_3 := dk_seg dksX2_maid_2 24 rfl rfl
theorem dX2_maid_0 : decode cX2_maid 0 = .ok (.aload_n 0, 1) := dk_42 (dk_at dksX2_maid_0 0 rfl rfl)
theorem dX2_maid_1 : decode cX2_maid 1 = .ok (.getfield 7, 3) := dk_180 0 7 (dk_at dksX2_maid_0 1 rfl rfl)
theorem dX2_maid_4 : decode cX2_maid 4 = .ok (.iconst 0, 1) := dk_3 (dk_at dksX2_maid_0 4 rfl rfl)
theorem dX2_maid_5 : decode cX2_maid 5 = .ok (.iaload, 1) := dk_46 (dk_at dksX2_maid_0 5 rfl rfl)
theorem dX2_maid_6 : decode cX2_maid 6 = .ok (.bipush 24, 2) := dk_16 24 (dk_at dksX2_maid_0 6 rfl rfl)
theorem dX2_maid_8 : decode cX2_maid 8 = .ok (.if_icmp .ne 11, 3) := dk_160 0 11 (dk_at dksX2_maid_0 8 rfl rfl)
theorem dX2_maid_11 : decode cX2_maid 11 = .ok (.aload_n 0, 1) := dk_42 (dk_at dksX2_maid_0 11 rfl rfl)
theorem dX2_maid_12 : decode cX2_maid 12 = .ok (.iconst 1, 1) := dk_4 (dk_at dksX2_maid_0 12 rfl rfl)
theorem dX2_maid_13 : decode cX2_maid 13 = .ok (.bipush 24, 2) := dk_16 24 (dk_at dksX2_maid_0 13 rfl rfl)
theorem dX2_maid_15 : decode cX2_maid 15 = .ok (.invokevirtual 61, 3) := dk_182 0 61 (dk_at dksX2_maid_0 15 rfl rfl)
theorem dX2_maid_18 : decode cX2_maid 18 = .ok (.ireturn, 1) := dk_172 (dk_at dksX2_maid_0 18 rfl rfl)
theorem dX2_maid_19 : decode cX2_maid 19 = .ok (.aload_n 0, 1) := dk_42 (dk_at dksX2_maid_0 19 rfl rfl)
theorem dX2_maid_20 : decode cX2_maid 20 = .ok (.invokevirtual 64, 3) := dk_182 0 64 (dk_at dksX2_maid_0 20 rfl rfl)
theorem dX2_maid_23 : decode cX2_maid 23 = .ok (.bipush 8, 2) := dk_16 8 (dk_at dksX2_maid_1 0 rfl rfl)
theorem dX2_maid_25 : decode cX2_maid 25 = .ok (.if_icmp .ne 11, 3) := dk_160 0 11 (dk_at dksX2_maid_1 2 rfl rfl)
theorem dX2_maid_28 : decode cX2_maid 28 = .ok (.aload_n 0, 1) := dk_42 (dk_at dksX2_maid_1 5 rfl rfl)
theorem dX2_maid_29 : decode cX2_maid 29 = .ok (.iconst 1, 1) := dk_4 (dk_at dksX2_maid_1 6 rfl rfl)
theorem dX2_maid_30 : decode cX2_maid 30 = .ok (.bipush 8, 2) := dk_16 8 (dk_at dksX2_maid_1 7 rfl rfl)
theorem dX2_maid_32 : decode cX2_maid 32 = .ok (.invokevirtual 61, 3) := dk_182 0 61 (dk_at dksX2_maid_1 9 rfl rfl)
theorem dX2_maid_35 : decode cX2_maid 35 = .ok (.ireturn, 1) := dk_172 (dk_at dksX2_maid_1 12 rfl rfl)
theorem dX2_maid_36 : decode cX2_maid 36 = .ok (.aload_n 0, 1) := dk_42 (dk_at dksX2_maid_1 13 rfl rfl)
theorem dX2_maid_37 : decode cX2_maid 37 = .ok (.aload_n 0, 1) := dk_42 (dk_at dksX2_maid_1 14 rfl rfl)
theorem dX2_maid_38 : decode cX2_maid 38 = .ok (.getfield 7, 3) := dk_180 0 7 (dk_at dksX2_maid_1 15 rfl rfl)
theorem dX2_maid_41 : decode cX2_maid 41 = .ok (.invokevirtual 68, 3) := dk_182 0 68 (dk_at dksX2_maid_1 18 rfl rfl)
theorem dX2_maid_44 : decode cX2_maid 44 = .ok (.aload_n 0, 1) := dk_42 (dk_at dksX2_maid_1 21 rfl rfl)
theorem dX2_maid_45 : decode cX2_maid 45 = .ok (.getfield 7, 3) := dk_180 0 7 (dk_at dksX2_maid_2 0 rfl rfl)
theorem dX2_maid_48 : decode cX2_maid 48 = .ok (.iconst 0, 1) := dk_3 (dk_at dksX2_maid_2 3 rfl rfl)
theorem dX2_maid_49 : decode cX2_maid 49 = .ok (.iaload, 1) := dk_46 (dk_at dksX2_maid_2 4 rfl rfl)
theorem dX2_maid_50 : decode cX2_maid 50 = .ok (.istore_n 1, 1) := dk_60 (dk_at dksX2_maid_2 5 rfl rfl)
theorem dX2_maid_51 : decode cX2_maid 51 = .ok (.aload_n 0, 1) := dk_42 (dk_at dksX2_maid_2 6 rfl rfl)
theorem dX2_maid_52 : decode cX2_maid 52 = .ok (.getfield 7, 3) := dk_180 0 7 (dk_at dksX2_maid_2 7 rfl rfl)
theorem dX2_maid_55 : decode cX2_maid 55 = .ok (.iconst 0, 1) := dk_3 (dk_at dksX2_maid_2 10 rfl rfl)
theorem dX2_maid_56 : decode cX2_maid 56 = .ok (.dup2, 1) := dk_92 (dk_at dksX2_maid_2 11 rfl rfl)
theorem dX2_maid_57 : decode cX2_maid 57 = .ok (.iaload, 1) := dk_46 (dk_at dksX2_maid_2 12 rfl rfl)
theorem dX2_maid_58 : decode cX2_maid 58 = .ok (.iconst 1, 1) := dk_4 (dk_at dksX2_maid_2 13 rfl rfl)
theorem dX2_maid_59 : decode cX2_maid 59 = .ok (.iadd, 1) := dk_96 (dk_at dksX2_maid_2 14 rfl rfl)
theorem dX2_maid_60 : decode cX2_maid 60 = .ok (.iastore, 1) := dk_79 (dk_at dksX2_maid_2 15 rfl rfl)
theorem dX2_maid_61 : decode cX2_maid 61 = .ok (.aload_n 0, 1) := dk_42 (dk_at dksX2_maid_2 16 rfl rfl)
theorem dX2_maid_62 : decode cX2_maid 62 = .ok (.iload_n 1, 1) := dk_27 (dk_at dksX2_maid_2 17 rfl rfl)
theorem dX2_maid_63 : decode cX2_maid 63 = .ok (.iconst 0, 1) := dk_3 (dk_at dksX2_maid_2 18 rfl rfl)
theorem dX2_maid_64 : decode cX2_maid 64 = .ok (.iconst 1, 1) := dk_4 (dk_at dksX2_maid_2 19 rfl rfl)
theorem dX2_maid_65 : decode cX2_maid 65 = .ok (.invokevirtual 72, 3) := dk_182 0 72 (dk_at dksX2_maid_2 20 rfl rfl)
theorem dX2_maid_68 : decode cX2_maid 68 = .ok (.aload_n 0, 1) := dk_42 (dk_at dksX2_maid_2 23 rfl rfl)
theorem dX2_maid_69 : decode cX2_maid 69 = .ok (.iload_n 1, 1) := dk_27 (dk_at dksX2_maid_3 0 rfl rfl)
theorem dX2_maid_70 : decode cX2_maid 70 = .ok (.iconst 1, 1) := dk_4 (dk_at dksX2_maid_3 1 rfl rfl)
theorem dX2_maid_71 : decode cX2_maid 71 = .ok (.iconst (-1), 1) := dk_2 (dk_at dksX2_maid_3 2 rfl rfl)
theorem dX2_maid_72 : decode cX2_maid 72 = .ok (.invokevirtual 72, 3) := dk_182 0 72 (dk_at dksX2_maid_3 3 rfl rfl)
theorem dX2_maid_75 : decode cX2_maid 75 = .ok (.iload_n 1, 1) := dk_27 (dk_at dksX2_maid_3 6 rfl rfl)
theorem dX2_maid_76 : decode cX2_maid 76 = .ok (.ireturn, 1) := dk_172 (dk_at dksX2_maid_3 7 rfl rfl)
abbrev cX2_refuses : ByteArray := prog_12_method_3_code
def yX2_refuses : MethodName := ⟨RX2, "refuses", "(II)I"⟩
def dkwX2_refuses_0 : List UInt8 := [42, 27, 181, 0, 35, 42, 28, 181, 0, 39, 16, 242, 172]
abbrev dktX2_refuses_0 : List UInt8 := dkwX2_refuses_0 ++ []
theorem dksX2_refuses_0 : cX2_refuses.data.toList.drop 0 = dktX2_refuses_0 := by decide +kernel
theorem dX2_refuses_0 : decode cX2_refuses 0 = .ok (.aload_n 0, 1) := dk_42 (dk_at dksX2_refuses_0 0 rfl rfl)
theorem dX2_refuses_1 : decode cX2_refuses 1 = .ok (.iload_n 1, 1) := dk_27 (dk_at dksX2_refuses_0 1 rfl rfl)
theorem dX2_refuses_2 : decode cX2_refuses 2 = .ok (.putfield 35, 3) := dk_181 0 35 (dk_at dksX2_refuses_0 2 rfl rfl)
theorem dX2_refuses_5 : decode cX2_refuses 5 = .ok (.aload_n 0, 1) := dk_42 (dk_at dksX2_refuses_0 5 rfl rfl)
theorem dX2_refuses_6 : decode cX2_refuses 6 = .ok (.iload_n 2, 1) := dk_28 (dk_at dksX2_refuses_0 6 rfl rfl)
theorem dX2_refuses_7 : decode cX2_refuses 7 = .ok (.putfield 39, 3) := dk_181 0 39 (dk_at dksX2_refuses_0 7 rfl rfl)
theorem dX2_refuses_10 : decode cX2_refuses 10 = .ok (.bipush (-14), 2) := dk_16 242 (dk_at dksX2_refuses_0 10 rfl rfl)
theorem dX2_refuses_12 : decode cX2_refuses 12 = .ok (.ireturn, 1) := dk_172 (dk_at dksX2_refuses_0 12 rfl rfl)
abbrev cX2_there : ByteArray := prog_12_method_14_code
def yX2_there : MethodName := ⟨RX2, "there", "()I"⟩
def dkwX2_there_0 : List UInt8 := [42, 180, 0, 7, 3, 46, 42, 180, 0, 7, 4, 46, 100, 172]
abbrev dktX2_there_0 : List UInt8 := dkwX2_there_0 ++ []
theorem dksX2_there_0 : cX2_there.data.toList.drop 0 = dktX2_there_0 := by decide +kernel
theorem dX2_there_0 : decode cX2_there 0 = .ok (.aload_n 0, 1) := dk_42 (dk_at dksX2_there_0 0 rfl rfl)
theorem dX2_there_1 : decode cX2_there 1 = .ok (.getfield 7, 3) := dk_180 0 7 (dk_at dksX2_there_0 1 rfl rfl)
theorem dX2_there_4 : decode cX2_there 4 = .ok (.iconst 0, 1) := dk_3 (dk_at dksX2_there_0 4 rfl rfl)
theorem dX2_there_5 : decode cX2_there 5 = .ok (.iaload, 1) := dk_46 (dk_at dksX2_there_0 5 rfl rfl)
theorem dX2_there_6 : decode cX2_there 6 = .ok (.aload_n 0, 1) := dk_42 (dk_at dksX2_there_0 6 rfl rfl)
theorem dX2_there_7 : decode cX2_there 7 = .ok (.getfield 7, 3) := dk_180 0 7 (dk_at dksX2_there_0 7 rfl rfl)
theorem dX2_there_10 : decode cX2_there 10 = .ok (.iconst 1, 1) := dk_4 (dk_at dksX2_there_0 10 rfl rfl)
theorem dX2_there_11 : decode cX2_there 11 = .ok (.iaload, 1) := dk_46 (dk_at dksX2_there_0 11 rfl rfl)
theorem dX2_there_12 : decode cX2_there 12 = .ok (.isub, 1) := dk_100 (dk_at dksX2_there_0 12 rfl rfl)
theorem dX2_there_13 : decode cX2_there 13 = .ok (.ireturn, 1) := dk_172 (dk_at dksX2_there_0 13 rfl rfl)
abbrev cX2_keeps : ByteArray := prog_12_method_5_code
def yX2_keeps : MethodName := ⟨RX2, "keeps", "([I)V"⟩
def dkwX2_keeps_3 : List UInt8 := [180, 0, 46, 104, 184, 0, 49, 42, 89, 180, 0, 46, 4, 96, 181, 0, 46, 177]
abbrev dktX2_keeps_3 : List UInt8 := dkwX2_keeps_3 ++ []
def dkwX2_keeps_2 : List UInt8 := [167, 255, 230, 42, 89, 180, 0, 46, 4, 100, 181, 0, 46, 43, 3, 42, 180, 0, 13, 17, 1, 173, 42]
abbrev dktX2_keeps_2 : List UInt8 := dkwX2_keeps_2 ++ dktX2_keeps_3
def dkwX2_keeps_1 : List UInt8 := [162, 0, 25, 42, 180, 0, 13, 28, 42, 180, 0, 13, 28, 17, 1, 173, 96, 46, 79, 132, 2, 1]
abbrev dktX2_keeps_1 : List UInt8 := dkwX2_keeps_1 ++ dktX2_keeps_2
def dkwX2_keeps_0 : List UInt8 := [42, 180, 0, 42, 153, 0, 4, 177, 42, 180, 0, 46, 16, 8, 160, 0, 44, 3, 61, 28, 17, 11, 187]
abbrev dktX2_keeps_0 : List UInt8 := dkwX2_keeps_0 ++ dktX2_keeps_1
theorem dksX2_keeps_0 : cX2_keeps.data.toList.drop 0 = dktX2_keeps_0 := by decide +kernel
theorem dksX2_keeps_1 : cX2_keeps.data.toList.drop 23 = dktX2_keeps_1 := dk_seg dksX2_keeps_0 23 rfl rfl
theorem dksX2_keeps_2 : cX2_keeps.data.toList.drop 45 = dktX2_keeps_2 := dk_seg dksX2_keeps_1 22 rfl rfl
theorem dksX2_keeps_3 : cX2_keeps.data.toList.drop 68 = dktX2_keeps_3 := dk_seg dksX2_keeps_2 23 rfl rfl
theorem dX2_keeps_0 : decode cX2_keeps 0 = .ok (.aload_n 0, 1) := dk_42 (dk_at dksX2_keeps_0 0 rfl rfl)
theorem dX2_keeps_1 : decode cX2_keeps 1 = .ok (.getfield 42, 3) := dk_180 0 42 (dk_at dksX2_keeps_0 1 rfl rfl)
theorem dX2_keeps_4 : decode cX2_keeps 4 = .ok (.ifCond .eq 4, 3) := dk_153 0 4 (dk_at dksX2_keeps_0 4 rfl rfl)
theorem dX2_keeps_7 : decode cX2_keeps 7 = .ok (.return_, 1) := dk_177 (dk_at dksX2_keeps_0 7 rfl rfl)
theorem dX2_keeps_8 : decode cX2_keeps 8 = .ok (.aload_n 0, 1) := dk_42 (dk_at dksX2_keeps_0 8 rfl rfl)
theorem dX2_keeps_9 : decode cX2_keeps 9 = .ok (.getfield 46, 3) := dk_180 0 46 (dk_at dksX2_keeps_0 9 rfl rfl)
theorem dX2_keeps_12 : decode cX2_keeps 12 = .ok (.bipush 8, 2) := dk_16 8 (dk_at dksX2_keeps_0 12 rfl rfl)
theorem dX2_keeps_14 : decode cX2_keeps 14 = .ok (.if_icmp .ne 44, 3) := dk_160 0 44 (dk_at dksX2_keeps_0 14 rfl rfl)
theorem dX2_keeps_17 : decode cX2_keeps 17 = .ok (.iconst 0, 1) := dk_3 (dk_at dksX2_keeps_0 17 rfl rfl)
theorem dX2_keeps_18 : decode cX2_keeps 18 = .ok (.istore_n 2, 1) := dk_61 (dk_at dksX2_keeps_0 18 rfl rfl)
theorem dX2_keeps_19 : decode cX2_keeps 19 = .ok (.iload_n 2, 1) := dk_28 (dk_at dksX2_keeps_0 19 rfl rfl)
theorem dX2_keeps_20 : decode cX2_keeps 20 = .ok (.sipush 3003, 3) := dk_17 11 187 (dk_at dksX2_keeps_0 20 rfl rfl)
theorem dX2_keeps_23 : decode cX2_keeps 23 = .ok (.if_icmp .ge 25, 3) := dk_162 0 25 (dk_at dksX2_keeps_1 0 rfl rfl)
theorem dX2_keeps_26 : decode cX2_keeps 26 = .ok (.aload_n 0, 1) := dk_42 (dk_at dksX2_keeps_1 3 rfl rfl)
theorem dX2_keeps_27 : decode cX2_keeps 27 = .ok (.getfield 13, 3) := dk_180 0 13 (dk_at dksX2_keeps_1 4 rfl rfl)
theorem dX2_keeps_30 : decode cX2_keeps 30 = .ok (.iload_n 2, 1) := dk_28 (dk_at dksX2_keeps_1 7 rfl rfl)
theorem dX2_keeps_31 : decode cX2_keeps 31 = .ok (.aload_n 0, 1) := dk_42 (dk_at dksX2_keeps_1 8 rfl rfl)
theorem dX2_keeps_32 : decode cX2_keeps 32 = .ok (.getfield 13, 3) := dk_180 0 13 (dk_at dksX2_keeps_1 9 rfl rfl)
theorem dX2_keeps_35 : decode cX2_keeps 35 = .ok (.iload_n 2, 1) := dk_28 (dk_at dksX2_keeps_1 12 rfl rfl)
theorem dX2_keeps_36 : decode cX2_keeps 36 = .ok (.sipush 429, 3) := dk_17 1 173 (dk_at dksX2_keeps_1 13 rfl rfl)
theorem dX2_keeps_39 : decode cX2_keeps 39 = .ok (.iadd, 1) := dk_96 (dk_at dksX2_keeps_1 16 rfl rfl)
theorem dX2_keeps_40 : decode cX2_keeps 40 = .ok (.iaload, 1) := dk_46 (dk_at dksX2_keeps_1 17 rfl rfl)
theorem dX2_keeps_41 : decode cX2_keeps 41 = .ok (.iastore, 1) := dk_79 (dk_at dksX2_keeps_1 18 rfl rfl)
theorem dX2_keeps_42 : decode cX2_keeps 42 = .ok (.iinc 2 1, 3) := dk_132 2 1 (dk_at dksX2_keeps_1 19 rfl rfl)
theorem dX2_keeps_45 : decode cX2_keeps 45 = .ok (.goto (-26), 3) := dk_167 255 230 (dk_at dksX2_keeps_2 0 rfl rfl)
theorem dX2_keeps_48 : decode cX2_keeps 48 = .ok (.aload_n 0, 1) := dk_42 (dk_at dksX2_keeps_2 3 rfl rfl)
theorem dX2_keeps_49 : decode cX2_keeps 49 = .ok (.dup, 1) := dk_89 (dk_at dksX2_keeps_2 4 rfl rfl)
theorem dX2_keeps_50 : decode cX2_keeps 50 = .ok (.getfield 46, 3) := dk_180 0 46 (dk_at dksX2_keeps_2 5 rfl rfl)
theorem dX2_keeps_53 : decode cX2_keeps 53 = .ok (.iconst 1, 1) := dk_4 (dk_at dksX2_keeps_2 8 rfl rfl)
theorem dX2_keeps_54 : decode cX2_keeps 54 = .ok (.isub, 1) := dk_100 (dk_at dksX2_keeps_2 9 rfl rfl)
theorem dX2_keeps_55 : decode cX2_keeps 55 = .ok (.putfield 46, 3) := dk_181 0 46 (dk_at dksX2_keeps_2 10 rfl rfl)
theorem dX2_keeps_58 : decode cX2_keeps 58 = .ok (.aload_n 1, 1) := dk_43 (dk_at dksX2_keeps_2 13 rfl rfl)
theorem dX2_keeps_59 : decode cX2_keeps 59 = .ok (.iconst 0, 1) := dk_3 (dk_at dksX2_keeps_2 14 rfl rfl)
theorem dX2_keeps_60 : decode cX2_keeps 60 = .ok (.aload_n 0, 1) := dk_42 (dk_at dksX2_keeps_2 15 rfl rfl)
theorem dX2_keeps_61 : decode cX2_keeps 61 = .ok (.getfield 13, 3) := dk_180 0 13 (dk_at dksX2_keeps_2 16 rfl rfl)
theorem dX2_keeps_64 : decode cX2_keeps 64 = .ok (.sipush 429, 3) := dk_17 1 173 (dk_at dksX2_keeps_2 19 rfl rfl)
theorem dX2_keeps_67 : decode cX2_keeps 67 = .ok (.aload_n 0, 1) := dk_42 (dk_at dksX2_keeps_2 22 rfl rfl)
theorem dX2_keeps_68 : decode cX2_keeps 68 = .ok (.getfield 46, 3) := dk_180 0 46 (dk_at dksX2_keeps_3 0 rfl rfl)
theorem dX2_keeps_71 : decode cX2_keeps 71 = .ok (.imul, 1) := dk_104 (dk_at dksX2_keeps_3 3 rfl rfl)
theorem dX2_keeps_72 : decode cX2_keeps 72 = .ok (.invokestatic 49, 3) := dk_184 0 49 (dk_at dksX2_keeps_3 4 rfl rfl)
theorem dX2_keeps_75 : decode cX2_keeps 75 = .ok (.aload_n 0, 1) := dk_42 (dk_at dksX2_keeps_3 7 rfl rfl)
theorem dX2_keeps_76 : decode cX2_keeps 76 = .ok (.dup, 1) := dk_89 (dk_at dksX2_keeps_3 8 rfl rfl)
theorem dX2_keeps_77 : decode cX2_keeps 77 = .ok (.getfield 46, 3) := dk_180 0 46 (dk_at dksX2_keeps_3 9 rfl rfl)
theorem dX2_keeps_80 : decode cX2_keeps 80 = .ok (.iconst 1, 1) := dk_4 (dk_at dksX2_keeps_3 12 rfl rfl)
theorem dX2_keeps_81 : decode cX2_keeps 81 = .ok (.iadd, 1) := dk_96 (dk_at dksX2_keeps_3 13 rfl rfl)
theorem dX2_keeps_82 : decode cX2_keeps 82 = .ok (.putfield 46, 3) := dk_181 0 46 (dk_at dksX2_keeps_3 14 rfl rfl)
theorem dX2_keeps_85 : decode cX2_keeps 85 = .ok (.return_, 1) := dk_177 (dk_at dksX2_keeps_3 17 rfl rfl)
abbrev cX2_copies : ByteArray := prog_12_method_4_code
def yX2_copies : MethodName := ⟨RX2, "copies", "([II[II)V"⟩
def dkwX2_copies_1 : List UInt8 := [132, 4, 1, 167, 255, 233, 177]
abbrev dktX2_copies_1 : List UInt8 := dkwX2_copies_1 ++ []
def dkwX2_copies_0 : List UInt8 := [3, 54, 4, 21, 4, 17, 1, 173, 162, 0, 21, 44, 29, 21, 4, 96, 42, 27, 21, 4, 96, 46, 79]
abbrev dktX2_copies_0 : List UInt8 := dkwX2_copies_0 ++ dktX2_copies_1
theorem dksX2_copies_0 : cX2_copies.data.toList.drop 0 = dktX2_copies_0 := by decide +kernel
theorem dksX2_copies_1 : cX2_copies.data.toList.drop 23 = dktX2_copies_1 := dk_seg dksX2_copies_0 23 rfl rfl
theorem dX2_copies_0 : decode cX2_copies 0 = .ok (.iconst 0, 1) := dk_3 (dk_at dksX2_copies_0 0 rfl rfl)
theorem dX2_copies_1 : decode cX2_copies 1 = .ok (.istore 4, 2) := dk_54 4 (dk_at dksX2_copies_0 1 rfl rfl)
theorem dX2_copies_3 : decode cX2_copies 3 = .ok (.iload 4, 2) := dk_21 4 (dk_at dksX2_copies_0 3 rfl rfl)
theorem dX2_copies_5 : decode cX2_copies 5 = .ok (.sipush 429, 3) := dk_17 1 173 (dk_at dksX2_copies_0 5 rfl rfl)
theorem dX2_copies_8 : decode cX2_copies 8 = .ok (.if_icmp .ge 21, 3) := dk_162 0 21 (dk_at dksX2_copies_0 8 rfl rfl)
theorem dX2_copies_11 : decode cX2_copies 11 = .ok (.aload_n 2, 1) := dk_44 (dk_at dksX2_copies_0 11 rfl rfl)
theorem dX2_copies_12 : decode cX2_copies 12 = .ok (.iload_n 3, 1) := dk_29 (dk_at dksX2_copies_0 12 rfl rfl)
theorem dX2_copies_13 : decode cX2_copies 13 = .ok (.iload 4, 2) := dk_21 4 (dk_at dksX2_copies_0 13 rfl rfl)
theorem dX2_copies_15 : decode cX2_copies 15 = .ok (.iadd, 1) := dk_96 (dk_at dksX2_copies_0 15 rfl rfl)
theorem dX2_copies_16 : decode cX2_copies 16 = .ok (.aload_n 0, 1) := dk_42 (dk_at dksX2_copies_0 16 rfl rfl)
theorem dX2_copies_17 : decode cX2_copies 17 = .ok (.iload_n 1, 1) := dk_27 (dk_at dksX2_copies_0 17 rfl rfl)
theorem dX2_copies_18 : decode cX2_copies 18 = .ok (.iload 4, 2) := dk_21 4 (dk_at dksX2_copies_0 18 rfl rfl)
theorem dX2_copies_20 : decode cX2_copies 20 = .ok (.iadd, 1) := dk_96 (dk_at dksX2_copies_0 20 rfl rfl)
theorem dX2_copies_21 : decode cX2_copies 21 = .ok (.iaload, 1) := dk_46 (dk_at dksX2_copies_0 21 rfl rfl)
theorem dX2_copies_22 : decode cX2_copies 22 = .ok (.iastore, 1) := dk_79 (dk_at dksX2_copies_0 22 rfl rfl)
theorem dX2_copies_23 : decode cX2_copies 23 = .ok (.iinc 4 1, 3) := dk_132 4 1 (dk_at dksX2_copies_1 0 rfl rfl)
theorem dX2_copies_26 : decode cX2_copies 26 = .ok (.goto (-23), 3) := dk_167 255 233 (dk_at dksX2_copies_1 3 rfl rfl)
theorem dX2_copies_29 : decode cX2_copies 29 = .ok (.return_, 1) := dk_177 (dk_at dksX2_copies_1 6 rfl rfl)
abbrev cX2_lays : ByteArray := prog_12_method_7_code
def yX2_lays : MethodName := ⟨RX2, "lays", "(III)V"⟩
def dkwX2_lays_0 : List UInt8 := [42, 180, 0, 7, 8, 16, 6, 27, 104, 96, 28, 96, 29, 79, 177]
abbrev dktX2_lays_0 : List UInt8 := dkwX2_lays_0 ++ []
theorem dksX2_lays_0 : cX2_lays.data.toList.drop 0 = dktX2_lays_0 := by decide +kernel
theorem dX2_lays_0 : decode cX2_lays 0 = .ok (.aload_n 0, 1) := dk_42 (dk_at dksX2_lays_0 0 rfl rfl)
theorem dX2_lays_1 : decode cX2_lays 1 = .ok (.getfield 7, 3) := dk_180 0 7 (dk_at dksX2_lays_0 1 rfl rfl)
theorem dX2_lays_4 : decode cX2_lays 4 = .ok (.iconst 5, 1) := dk_8 (dk_at dksX2_lays_0 4 rfl rfl)
theorem dX2_lays_5 : decode cX2_lays 5 = .ok (.bipush 6, 2) := dk_16 6 (dk_at dksX2_lays_0 5 rfl rfl)
theorem dX2_lays_7 : decode cX2_lays 7 = .ok (.iload_n 1, 1) := dk_27 (dk_at dksX2_lays_0 7 rfl rfl)
theorem dX2_lays_8 : decode cX2_lays 8 = .ok (.imul, 1) := dk_104 (dk_at dksX2_lays_0 8 rfl rfl)
theorem dX2_lays_9 : decode cX2_lays 9 = .ok (.iadd, 1) := dk_96 (dk_at dksX2_lays_0 9 rfl rfl)
theorem dX2_lays_10 : decode cX2_lays 10 = .ok (.iload_n 2, 1) := dk_28 (dk_at dksX2_lays_0 10 rfl rfl)
theorem dX2_lays_11 : decode cX2_lays 11 = .ok (.iadd, 1) := dk_96 (dk_at dksX2_lays_0 11 rfl rfl)
theorem dX2_lays_12 : decode cX2_lays 12 = .ok (.iload_n 3, 1) := dk_29 (dk_at dksX2_lays_0 12 rfl rfl)
theorem dX2_lays_13 : decode cX2_lays 13 = .ok (.iastore, 1) := dk_79 (dk_at dksX2_lays_0 13 rfl rfl)
theorem dX2_lays_14 : decode cX2_lays 14 = .ok (.return_, 1) := dk_177 (dk_at dksX2_lays_0 14 rfl rfl)
abbrev cX2_want : ByteArray := prog_12_method_31_code
def yX2_want : MethodName := ⟨RX2, "want", "(IIZ)I"⟩
def dkwX2_want_3 : List UInt8 := [172]
abbrev dktX2_want_3 : List UInt8 := dkwX2_want_3 ++ []
def dkwX2_want_2 : List UInt8 := [42, 180, 0, 118, 182, 0, 61, 172, 42, 42, 180, 0, 7, 182, 0, 68, 42, 27, 28, 21, 4, 182, 0, 143]
abbrev dktX2_want_2 : List UInt8 := dkwX2_want_2 ++ dktX2_want_3
def dkwX2_want_1 : List UInt8 := [167, 0, 4, 4, 54, 4, 42, 27, 28, 21, 4, 182, 0, 139, 54, 5, 21, 5, 158, 0, 14, 42, 21, 5]
abbrev dktX2_want_1 : List UInt8 := dkwX2_want_1 ++ dktX2_want_2
def dkwX2_want_0 : List UInt8 := [42, 27, 182, 0, 133, 153, 0, 10, 28, 184, 0, 136, 154, 0, 6, 16, 245, 172, 29, 153, 0, 7, 5]
abbrev dktX2_want_0 : List UInt8 := dkwX2_want_0 ++ dktX2_want_1
theorem dksX2_want_0 : cX2_want.data.toList.drop 0 = dktX2_want_0 := by decide +kernel
theorem dksX2_want_1 : cX2_want.data.toList.drop 23 = dktX2_want_1 := dk_seg dksX2_want_0 23 rfl rfl
theorem dksX2_want_2 : cX2_want.data.toList.drop 47 = dktX2_want_2 := dk_seg dksX2_want_1 24 rfl rfl
theorem dksX2_want_3 : cX2_want.data.toList.drop 71 = dktX2_want_3 := dk_seg dksX2_want_2 24 rfl rfl
theorem dX2_want_0 : decode cX2_want 0 = .ok (.aload_n 0, 1) := dk_42 (dk_at dksX2_want_0 0 rfl rfl)
theorem dX2_want_1 : decode cX2_want 1 = .ok (.iload_n 1, 1) := dk_27 (dk_at dksX2_want_0 1 rfl rfl)
theorem dX2_want_2 : decode cX2_want 2 = .ok (.invokevirtual 133, 3) := dk_182 0 133 (dk_at dksX2_want_0 2 rfl rfl)
theorem dX2_want_5 : decode cX2_want 5 = .ok (.ifCond .eq 10, 3) := dk_153 0 10 (dk_at dksX2_want_0 5 rfl rfl)
theorem dX2_want_8 : decode cX2_want 8 = .ok (.iload_n 2, 1) := dk_28 (dk_at dksX2_want_0 8 rfl rfl)
theorem dX2_want_9 : decode cX2_want 9 = .ok (.invokestatic 136, 3) := dk_184 0 136 (dk_at dksX2_want_0 9 rfl rfl)
theorem dX2_want_12 : decode cX2_want 12 = .ok (.ifCond .ne 6, 3) := dk_154 0 6 (dk_at dksX2_want_0 12 rfl rfl)
theorem dX2_want_15 : decode cX2_want 15 = .ok (.bipush (-11), 2) := dk_16 245 (dk_at dksX2_want_0 15 rfl rfl)
theorem dX2_want_17 : decode cX2_want 17 = .ok (.ireturn, 1) := dk_172 (dk_at dksX2_want_0 17 rfl rfl)
theorem dX2_want_18 : decode cX2_want 18 = .ok (.iload_n 3, 1) := dk_29 (dk_at dksX2_want_0 18 rfl rfl)
theorem dX2_want_19 : decode cX2_want 19 = .ok (.ifCond .eq 7, 3) := dk_153 0 7 (dk_at dksX2_want_0 19 rfl rfl)
theorem dX2_want_22 : decode cX2_want 22 = .ok (.iconst 2, 1) := dk_5 (dk_at dksX2_want_0 22 rfl rfl)
theorem dX2_want_23 : decode cX2_want 23 = .ok (.goto 4, 3) := dk_167 0 4 (dk_at dksX2_want_1 0 rfl rfl)
theorem dX2_want_26 : decode cX2_want 26 = .ok (.iconst 1, 1) := dk_4 (dk_at dksX2_want_1 3 rfl rfl)
theorem dX2_want_27 : decode cX2_want 27 = .ok (.istore 4, 2) := dk_54 4 (dk_at dksX2_want_1 4 rfl rfl)
theorem dX2_want_29 : decode cX2_want 29 = .ok (.aload_n 0, 1) := dk_42 (dk_at dksX2_want_1 6 rfl rfl)
theorem dX2_want_30 : decode cX2_want 30 = .ok (.iload_n 1, 1) := dk_27 (dk_at dksX2_want_1 7 rfl rfl)
theorem dX2_want_31 : decode cX2_want 31 = .ok (.iload_n 2, 1) := dk_28 (dk_at dksX2_want_1 8 rfl rfl)
theorem dX2_want_32 : decode cX2_want 32 = .ok (.iload 4, 2) := dk_21 4 (dk_at dksX2_want_1 9 rfl rfl)
theorem dX2_want_34 : decode cX2_want 34 = .ok (.invokevirtual 139, 3) := dk_182 0 139 (dk_at dksX2_want_1 11 rfl rfl)
theorem dX2_want_37 : decode cX2_want 37 = .ok (.istore 5, 2) := dk_54 5 (dk_at dksX2_want_1 14 rfl rfl)
theorem dX2_want_39 : decode cX2_want 39 = .ok (.iload 5, 2) := dk_21 5 (dk_at dksX2_want_1 16 rfl rfl)
theorem dX2_want_41 : decode cX2_want 41 = .ok (.ifCond .le 14, 3) := dk_158 0 14 (dk_at dksX2_want_1 18 rfl rfl)
theorem dX2_want_44 : decode cX2_want 44 = .ok (.aload_n 0, 1) := dk_42 (dk_at dksX2_want_1 21 rfl rfl)
theorem dX2_want_45 : decode cX2_want 45 = .ok (.iload 5, 2) := dk_21 5 (dk_at dksX2_want_1 22 rfl rfl)
theorem dX2_want_47 : decode cX2_want 47 = .ok (.aload_n 0, 1) := dk_42 (dk_at dksX2_want_2 0 rfl rfl)
theorem dX2_want_48 : decode cX2_want 48 = .ok (.getfield 118, 3) := dk_180 0 118 (dk_at dksX2_want_2 1 rfl rfl)
theorem dX2_want_51 : decode cX2_want 51 = .ok (.invokevirtual 61, 3) := dk_182 0 61 (dk_at dksX2_want_2 4 rfl rfl)
theorem dX2_want_54 : decode cX2_want 54 = .ok (.ireturn, 1) := dk_172 (dk_at dksX2_want_2 7 rfl rfl)
theorem dX2_want_55 : decode cX2_want 55 = .ok (.aload_n 0, 1) := dk_42 (dk_at dksX2_want_2 8 rfl rfl)
theorem dX2_want_56 : decode cX2_want 56 = .ok (.aload_n 0, 1) := dk_42 (dk_at dksX2_want_2 9 rfl rfl)
theorem dX2_want_57 : decode cX2_want 57 = .ok (.getfield 7, 3) := dk_180 0 7 (dk_at dksX2_want_2 10 rfl rfl)
theorem dX2_want_60 : decode cX2_want 60 = .ok (.invokevirtual 68, 3) := dk_182 0 68 (dk_at dksX2_want_2 13 rfl rfl)
theorem dX2_want_63 : decode cX2_want 63 = .ok (.aload_n 0, 1) := dk_42 (dk_at dksX2_want_2 16 rfl rfl)
theorem dX2_want_64 : decode cX2_want 64 = .ok (.iload_n 1, 1) := dk_27 (dk_at dksX2_want_2 17 rfl rfl)
theorem dX2_want_65 : decode cX2_want 65 = .ok (.iload_n 2, 1) := dk_28 (dk_at dksX2_want_2 18 rfl rfl)
theorem dX2_want_66 : decode cX2_want 66 = .ok (.iload 4, 2) := dk_21 4 (dk_at dksX2_want_2 19 rfl rfl)
theorem dX2_want_68 : decode cX2_want 68 = .ok (.invokevirtual 143, 3) := dk_182 0 143 (dk_at dksX2_want_2 21 rfl rfl)
theorem dX2_want_71 : decode cX2_want 71 = .ok (.ireturn, 1) := dk_172 (dk_at dksX2_want_3 0 rfl rfl)
abbrev cX2_isMaid : ByteArray := prog_12_method_8_code
def yX2_isMaid : MethodName := ⟨RX2, "isMaid", "(I)Z"⟩
def dkwX2_isMaid_1 : List UInt8 := [160, 0, 7, 4, 167, 0, 4, 3, 172]
abbrev dktX2_isMaid_1 : List UInt8 := dkwX2_isMaid_1 ++ []
def dkwX2_isMaid_0 : List UInt8 := [27, 3, 42, 180, 0, 7, 3, 46, 4, 100, 184, 0, 53, 153, 0, 17, 42, 27, 3, 182, 0, 57, 4]
abbrev dktX2_isMaid_0 : List UInt8 := dkwX2_isMaid_0 ++ dktX2_isMaid_1
theorem dksX2_isMaid_0 : cX2_isMaid.data.toList.drop 0 = dktX2_isMaid_0 := by decide +kernel
theorem dksX2_isMaid_1 : cX2_isMaid.data.toList.drop 23 = dktX2_isMaid_1 := dk_seg dksX2_isMaid_0 23 rfl rfl
theorem dX2_isMaid_0 : decode cX2_isMaid 0 = .ok (.iload_n 1, 1) := dk_27 (dk_at dksX2_isMaid_0 0 rfl rfl)
theorem dX2_isMaid_1 : decode cX2_isMaid 1 = .ok (.iconst 0, 1) := dk_3 (dk_at dksX2_isMaid_0 1 rfl rfl)
theorem dX2_isMaid_2 : decode cX2_isMaid 2 = .ok (.aload_n 0, 1) := dk_42 (dk_at dksX2_isMaid_0 2 rfl rfl)
theorem dX2_isMaid_3 : decode cX2_isMaid 3 = .ok (.getfield 7, 3) := dk_180 0 7 (dk_at dksX2_isMaid_0 3 rfl rfl)
theorem dX2_isMaid_6 : decode cX2_isMaid 6 = .ok (.iconst 0, 1) := dk_3 (dk_at dksX2_isMaid_0 6 rfl rfl)
theorem dX2_isMaid_7 : decode cX2_isMaid 7 = .ok (.iaload, 1) := dk_46 (dk_at dksX2_isMaid_0 7 rfl rfl)
theorem dX2_isMaid_8 : decode cX2_isMaid 8 = .ok (.iconst 1, 1) := dk_4 (dk_at dksX2_isMaid_0 8 rfl rfl)
theorem dX2_isMaid_9 : decode cX2_isMaid 9 = .ok (.isub, 1) := dk_100 (dk_at dksX2_isMaid_0 9 rfl rfl)
theorem dX2_isMaid_10 : decode cX2_isMaid 10 = .ok (.invokestatic 53, 3) := dk_184 0 53 (dk_at dksX2_isMaid_0 10 rfl rfl)
theorem dX2_isMaid_13 : decode cX2_isMaid 13 = .ok (.ifCond .eq 17, 3) := dk_153 0 17 (dk_at dksX2_isMaid_0 13 rfl rfl)
theorem dX2_isMaid_16 : decode cX2_isMaid 16 = .ok (.aload_n 0, 1) := dk_42 (dk_at dksX2_isMaid_0 16 rfl rfl)
theorem dX2_isMaid_17 : decode cX2_isMaid 17 = .ok (.iload_n 1, 1) := dk_27 (dk_at dksX2_isMaid_0 17 rfl rfl)
theorem dX2_isMaid_18 : decode cX2_isMaid 18 = .ok (.iconst 0, 1) := dk_3 (dk_at dksX2_isMaid_0 18 rfl rfl)
theorem dX2_isMaid_19 : decode cX2_isMaid 19 = .ok (.invokevirtual 57, 3) := dk_182 0 57 (dk_at dksX2_isMaid_0 19 rfl rfl)
theorem dX2_isMaid_22 : decode cX2_isMaid 22 = .ok (.iconst 1, 1) := dk_4 (dk_at dksX2_isMaid_0 22 rfl rfl)
theorem dX2_isMaid_23 : decode cX2_isMaid 23 = .ok (.if_icmp .ne 7, 3) := dk_160 0 7 (dk_at dksX2_isMaid_1 0 rfl rfl)
theorem dX2_isMaid_26 : decode cX2_isMaid 26 = .ok (.iconst 1, 1) := dk_4 (dk_at dksX2_isMaid_1 3 rfl rfl)
theorem dX2_isMaid_27 : decode cX2_isMaid 27 = .ok (.goto 4, 3) := dk_167 0 4 (dk_at dksX2_isMaid_1 4 rfl rfl)
theorem dX2_isMaid_30 : decode cX2_isMaid 30 = .ok (.iconst 0, 1) := dk_3 (dk_at dksX2_isMaid_1 7 rfl rfl)
theorem dX2_isMaid_31 : decode cX2_isMaid 31 = .ok (.ireturn, 1) := dk_172 (dk_at dksX2_isMaid_1 8 rfl rfl)
abbrev cX2_in : ByteArray := prog_12_method_2_code
def yX2_in : MethodName := ⟨RX2, "in", "(III)Z"⟩
def dkwX2_in_0 : List UInt8 := [26, 27, 161, 0, 12, 26, 28, 163, 0, 7, 4, 167, 0, 4, 3, 172]
abbrev dktX2_in_0 : List UInt8 := dkwX2_in_0 ++ []
theorem dksX2_in_0 : cX2_in.data.toList.drop 0 = dktX2_in_0 := by decide +kernel
theorem dX2_in_0 : decode cX2_in 0 = .ok (.iload_n 0, 1) := dk_26 (dk_at dksX2_in_0 0 rfl rfl)
theorem dX2_in_1 : decode cX2_in 1 = .ok (.iload_n 1, 1) := dk_27 (dk_at dksX2_in_0 1 rfl rfl)
theorem dX2_in_2 : decode cX2_in 2 = .ok (.if_icmp .lt 12, 3) := dk_161 0 12 (dk_at dksX2_in_0 2 rfl rfl)
theorem dX2_in_5 : decode cX2_in 5 = .ok (.iload_n 0, 1) := dk_26 (dk_at dksX2_in_0 5 rfl rfl)
theorem dX2_in_6 : decode cX2_in 6 = .ok (.iload_n 2, 1) := dk_28 (dk_at dksX2_in_0 6 rfl rfl)
theorem dX2_in_7 : decode cX2_in 7 = .ok (.if_icmp .gt 7, 3) := dk_163 0 7 (dk_at dksX2_in_0 7 rfl rfl)
theorem dX2_in_10 : decode cX2_in 10 = .ok (.iconst 1, 1) := dk_4 (dk_at dksX2_in_0 10 rfl rfl)
theorem dX2_in_11 : decode cX2_in 11 = .ok (.goto 4, 3) := dk_167 0 4 (dk_at dksX2_in_0 11 rfl rfl)
theorem dX2_in_14 : decode cX2_in 14 = .ok (.iconst 0, 1) := dk_3 (dk_at dksX2_in_0 14 rfl rfl)
theorem dX2_in_15 : decode cX2_in 15 = .ok (.ireturn, 1) := dk_172 (dk_at dksX2_in_0 15 rfl rfl)
abbrev cX2_of : ByteArray := prog_12_method_6_code
def yX2_of : MethodName := ⟨RX2, "of", "(II)I"⟩
def dkwX2_of_0 : List UInt8 := [42, 180, 0, 7, 8, 16, 6, 27, 104, 96, 28, 96, 46, 172]
abbrev dktX2_of_0 : List UInt8 := dkwX2_of_0 ++ []
theorem dksX2_of_0 : cX2_of.data.toList.drop 0 = dktX2_of_0 := by decide +kernel
theorem dX2_of_0 : decode cX2_of 0 = .ok (.aload_n 0, 1) := dk_42 (dk_at dksX2_of_0 0 rfl rfl)
theorem dX2_of_1 : decode cX2_of 1 = .ok (.getfield 7, 3) := dk_180 0 7 (dk_at dksX2_of_0 1 rfl rfl)
theorem dX2_of_4 : decode cX2_of 4 = .ok (.iconst 5, 1) := dk_8 (dk_at dksX2_of_0 4 rfl rfl)
theorem dX2_of_5 : decode cX2_of 5 = .ok (.bipush 6, 2) := dk_16 6 (dk_at dksX2_of_0 5 rfl rfl)
theorem dX2_of_7 : decode cX2_of 7 = .ok (.iload_n 1, 1) := dk_27 (dk_at dksX2_of_0 7 rfl rfl)
theorem dX2_of_8 : decode cX2_of 8 = .ok (.imul, 1) := dk_104 (dk_at dksX2_of_0 8 rfl rfl)
theorem dX2_of_9 : decode cX2_of 9 = .ok (.iadd, 1) := dk_96 (dk_at dksX2_of_0 9 rfl rfl)
theorem dX2_of_10 : decode cX2_of 10 = .ok (.iload_n 2, 1) := dk_28 (dk_at dksX2_of_0 10 rfl rfl)
theorem dX2_of_11 : decode cX2_of 11 = .ok (.iadd, 1) := dk_96 (dk_at dksX2_of_0 11 rfl rfl)
theorem dX2_of_12 : decode cX2_of 12 = .ok (.iaload, 1) := dk_46 (dk_at dksX2_of_0 12 rfl rfl)
theorem dX2_of_13 : decode cX2_of 13 = .ok (.ireturn, 1) := dk_172 (dk_at dksX2_of_0 13 rfl rfl)
abbrev cX2_isShelf : ByteArray := prog_12_method_9_code
def yX2_isShelf : MethodName := ⟨RX2, "isShelf", "(I)Z"⟩
def dkwX2_isShelf_0 : List UInt8 := [26, 3, 16, 7, 184, 0, 53, 172]
abbrev dktX2_isShelf_0 : List UInt8 := dkwX2_isShelf_0 ++ []
theorem dksX2_isShelf_0 : cX2_isShelf.data.toList.drop 0 = dktX2_isShelf_0 := by decide +kernel
theorem dX2_isShelf_0 : decode cX2_isShelf 0 = .ok (.iload_n 0, 1) := dk_26 (dk_at dksX2_isShelf_0 0 rfl rfl)
theorem dX2_isShelf_1 : decode cX2_isShelf 1 = .ok (.iconst 0, 1) := dk_3 (dk_at dksX2_isShelf_0 1 rfl rfl)
theorem dX2_isShelf_2 : decode cX2_isShelf 2 = .ok (.bipush 7, 2) := dk_16 7 (dk_at dksX2_isShelf_0 2 rfl rfl)
theorem dX2_isShelf_4 : decode cX2_isShelf 4 = .ok (.invokestatic 53, 3) := dk_184 0 53 (dk_at dksX2_isShelf_0 4 rfl rfl)
theorem dX2_isShelf_7 : decode cX2_isShelf 7 = .ok (.ireturn, 1) := dk_172 (dk_at dksX2_isShelf_0 7 rfl rfl)
abbrev cX2_bars : ByteArray := prog_12_method_28_code
def yX2_bars : MethodName := ⟨RX2, "bars", "(III)I"⟩
def dkwX2_bars_2 : List UInt8 := [167, 0, 4, 3, 172]
abbrev dktX2_bars_2 : List UInt8 := dkwX2_bars_2 ++ []
def dkwX2_bars_1 : List UInt8 := [182, 0, 76, 181, 0, 118, 42, 180, 0, 118, 5, 159, 0, 11, 42, 180, 0, 118, 29, 160, 0, 7, 6]
abbrev dktX2_bars_1 : List UInt8 := dkwX2_bars_1 ++ dktX2_bars_2
def dkwX2_bars_0 : List UInt8 := [42, 42, 27, 4, 182, 0, 57, 181, 0, 118, 42, 180, 0, 118, 155, 0, 5, 5, 172, 42, 42, 27, 28]
abbrev dktX2_bars_0 : List UInt8 := dkwX2_bars_0 ++ dktX2_bars_1
theorem dksX2_bars_0 : cX2_bars.data.toList.drop 0 = dktX2_bars_0 := by decide +kernel
theorem dksX2_bars_1 : cX2_bars.data.toList.drop 23 = dktX2_bars_1 := dk_seg dksX2_bars_0 23 rfl rfl
theorem dksX2_bars_2 : cX2_bars.data.toList.drop 46 = dktX2_bars_2 := dk_seg dksX2_bars_1 23 rfl rfl
theorem dX2_bars_0 : decode cX2_bars 0 = .ok (.aload_n 0, 1) := dk_42 (dk_at dksX2_bars_0 0 rfl rfl)
theorem dX2_bars_1 : decode cX2_bars 1 = .ok (.aload_n 0, 1) := dk_42 (dk_at dksX2_bars_0 1 rfl rfl)
theorem dX2_bars_2 : decode cX2_bars 2 = .ok (.iload_n 1, 1) := dk_27 (dk_at dksX2_bars_0 2 rfl rfl)
theorem dX2_bars_3 : decode cX2_bars 3 = .ok (.iconst 1, 1) := dk_4 (dk_at dksX2_bars_0 3 rfl rfl)
theorem dX2_bars_4 : decode cX2_bars 4 = .ok (.invokevirtual 57, 3) := dk_182 0 57 (dk_at dksX2_bars_0 4 rfl rfl)
theorem dX2_bars_7 : decode cX2_bars 7 = .ok (.putfield 118, 3) := dk_181 0 118 (dk_at dksX2_bars_0 7 rfl rfl)
theorem dX2_bars_10 : decode cX2_bars 10 = .ok (.aload_n 0, 1) := dk_42 (dk_at dksX2_bars_0 10 rfl rfl)
theorem dX2_bars_11 : decode cX2_bars 11 = .ok (.getfield 118, 3) := dk_180 0 118 (dk_at dksX2_bars_0 11 rfl rfl)
theorem dX2_bars_14 : decode cX2_bars 14 = .ok (.ifCond .lt 5, 3) := dk_155 0 5 (dk_at dksX2_bars_0 14 rfl rfl)
theorem dX2_bars_17 : decode cX2_bars 17 = .ok (.iconst 2, 1) := dk_5 (dk_at dksX2_bars_0 17 rfl rfl)
theorem dX2_bars_18 : decode cX2_bars 18 = .ok (.ireturn, 1) := dk_172 (dk_at dksX2_bars_0 18 rfl rfl)
theorem dX2_bars_19 : decode cX2_bars 19 = .ok (.aload_n 0, 1) := dk_42 (dk_at dksX2_bars_0 19 rfl rfl)
theorem dX2_bars_20 : decode cX2_bars 20 = .ok (.aload_n 0, 1) := dk_42 (dk_at dksX2_bars_0 20 rfl rfl)
theorem dX2_bars_21 : decode cX2_bars 21 = .ok (.iload_n 1, 1) := dk_27 (dk_at dksX2_bars_0 21 rfl rfl)
theorem dX2_bars_22 : decode cX2_bars 22 = .ok (.iload_n 2, 1) := dk_28 (dk_at dksX2_bars_0 22 rfl rfl)
theorem dX2_bars_23 : decode cX2_bars 23 = .ok (.invokevirtual 76, 3) := dk_182 0 76 (dk_at dksX2_bars_1 0 rfl rfl)
theorem dX2_bars_26 : decode cX2_bars 26 = .ok (.putfield 118, 3) := dk_181 0 118 (dk_at dksX2_bars_1 3 rfl rfl)
theorem dX2_bars_29 : decode cX2_bars 29 = .ok (.aload_n 0, 1) := dk_42 (dk_at dksX2_bars_1 6 rfl rfl)
theorem dX2_bars_30 : decode cX2_bars 30 = .ok (.getfield 118, 3) := dk_180 0 118 (dk_at dksX2_bars_1 7 rfl rfl)
theorem dX2_bars_33 : decode cX2_bars 33 = .ok (.iconst 2, 1) := dk_5 (dk_at dksX2_bars_1 10 rfl rfl)
theorem dX2_bars_34 : decode cX2_bars 34 = .ok (.if_icmp .eq 11, 3) := dk_159 0 11 (dk_at dksX2_bars_1 11 rfl rfl)
theorem dX2_bars_37 : decode cX2_bars 37 = .ok (.aload_n 0, 1) := dk_42 (dk_at dksX2_bars_1 14 rfl rfl)
theorem dX2_bars_38 : decode cX2_bars 38 = .ok (.getfield 118, 3) := dk_180 0 118 (dk_at dksX2_bars_1 15 rfl rfl)
theorem dX2_bars_41 : decode cX2_bars 41 = .ok (.iload_n 3, 1) := dk_29 (dk_at dksX2_bars_1 18 rfl rfl)
theorem dX2_bars_42 : decode cX2_bars 42 = .ok (.if_icmp .ne 7, 3) := dk_160 0 7 (dk_at dksX2_bars_1 19 rfl rfl)
theorem dX2_bars_45 : decode cX2_bars 45 = .ok (.iconst 3, 1) := dk_6 (dk_at dksX2_bars_1 22 rfl rfl)
theorem dX2_bars_46 : decode cX2_bars 46 = .ok (.goto 4, 3) := dk_167 0 4 (dk_at dksX2_bars_2 0 rfl rfl)
theorem dX2_bars_49 : decode cX2_bars 49 = .ok (.iconst 0, 1) := dk_3 (dk_at dksX2_bars_2 3 rfl rfl)
theorem dX2_bars_50 : decode cX2_bars 50 = .ok (.ireturn, 1) := dk_172 (dk_at dksX2_bars_2 4 rfl rfl)
abbrev cX2_lock : ByteArray := prog_12_method_10_code
def yX2_lock : MethodName := ⟨RX2, "lock", "(II)I"⟩
def dkwX2_lock_0 : List UInt8 := [42, 180, 0, 7, 17, 0, 149, 16, 8, 27, 104, 96, 28, 96, 46, 172]
abbrev dktX2_lock_0 : List UInt8 := dkwX2_lock_0 ++ []
theorem dksX2_lock_0 : cX2_lock.data.toList.drop 0 = dktX2_lock_0 := by decide +kernel
theorem dX2_lock_0 : decode cX2_lock 0 = .ok (.aload_n 0, 1) := dk_42 (dk_at dksX2_lock_0 0 rfl rfl)
theorem dX2_lock_1 : decode cX2_lock 1 = .ok (.getfield 7, 3) := dk_180 0 7 (dk_at dksX2_lock_0 1 rfl rfl)
theorem dX2_lock_4 : decode cX2_lock 4 = .ok (.sipush 149, 3) := dk_17 0 149 (dk_at dksX2_lock_0 4 rfl rfl)
theorem dX2_lock_7 : decode cX2_lock 7 = .ok (.bipush 8, 2) := dk_16 8 (dk_at dksX2_lock_0 7 rfl rfl)
theorem dX2_lock_9 : decode cX2_lock 9 = .ok (.iload_n 1, 1) := dk_27 (dk_at dksX2_lock_0 9 rfl rfl)
theorem dX2_lock_10 : decode cX2_lock 10 = .ok (.imul, 1) := dk_104 (dk_at dksX2_lock_0 10 rfl rfl)
theorem dX2_lock_11 : decode cX2_lock 11 = .ok (.iadd, 1) := dk_96 (dk_at dksX2_lock_0 11 rfl rfl)
theorem dX2_lock_12 : decode cX2_lock 12 = .ok (.iload_n 2, 1) := dk_28 (dk_at dksX2_lock_0 12 rfl rfl)
theorem dX2_lock_13 : decode cX2_lock 13 = .ok (.iadd, 1) := dk_96 (dk_at dksX2_lock_0 13 rfl rfl)
theorem dX2_lock_14 : decode cX2_lock 14 = .ok (.iaload, 1) := dk_46 (dk_at dksX2_lock_0 14 rfl rfl)
theorem dX2_lock_15 : decode cX2_lock 15 = .ok (.ireturn, 1) := dk_172 (dk_at dksX2_lock_0 15 rfl rfl)
abbrev cX2_wants : ByteArray := prog_12_method_30_code
def yX2_wants : MethodName := ⟨RX2, "wants", "(III)I"⟩
def dkwX2_wants_3 : List UInt8 := [167, 0, 17, 42, 27, 4, 182, 0, 57, 155, 0, 7, 4, 167, 0, 4, 3, 172]
abbrev dktX2_wants_3 : List UInt8 := dkwX2_wants_3 ++ []
def dkwX2_wants_2 : List UInt8 := [4, 96, 79, 42, 182, 0, 127, 42, 182, 0, 130, 42, 27, 28, 182, 0, 76, 29, 160, 0, 7, 5]
abbrev dktX2_wants_2 : List UInt8 := dkwX2_wants_2 ++ dktX2_wants_3
def dkwX2_wants_1 : List UInt8 := [182, 0, 124, 42, 27, 7, 42, 27, 7, 182, 0, 57, 4, 96, 182, 0, 72, 42, 180, 0, 7, 6, 92, 46]
abbrev dktX2_wants_1 : List UInt8 := dkwX2_wants_1 ++ dktX2_wants_2
def dkwX2_wants_0 : List UInt8 := [42, 27, 28, 29, 182, 0, 121, 153, 0, 12, 42, 27, 28, 29, 182, 0, 95, 5, 172, 42, 27, 28, 29]
abbrev dktX2_wants_0 : List UInt8 := dkwX2_wants_0 ++ dktX2_wants_1
theorem dksX2_wants_0 : cX2_wants.data.toList.drop 0 = dktX2_wants_0 := by decide +kernel
theorem dksX2_wants_1 : cX2_wants.data.toList.drop 23 = dktX2_wants_1 := dk_seg dksX2_wants_0 23 rfl rfl
theorem dksX2_wants_2 : cX2_wants.data.toList.drop 47 = dktX2_wants_2 := dk_seg dksX2_wants_1 24 rfl rfl
theorem dksX2_wants_3 : cX2_wants.data.toList.drop 69 = dktX2_wants_3 := dk_seg dksX2_wants_2 22 rfl rfl
theorem dX2_wants_0 : decode cX2_wants 0 = .ok (.aload_n 0, 1) := dk_42 (dk_at dksX2_wants_0 0 rfl rfl)
theorem dX2_wants_1 : decode cX2_wants 1 = .ok (.iload_n 1, 1) := dk_27 (dk_at dksX2_wants_0 1 rfl rfl)
theorem dX2_wants_2 : decode cX2_wants 2 = .ok (.iload_n 2, 1) := dk_28 (dk_at dksX2_wants_0 2 rfl rfl)
theorem dX2_wants_3 : decode cX2_wants 3 = .ok (.iload_n 3, 1) := dk_29 (dk_at dksX2_wants_0 3 rfl rfl)
theorem dX2_wants_4 : decode cX2_wants 4 = .ok (.invokevirtual 121, 3) := dk_182 0 121 (dk_at dksX2_wants_0 4 rfl rfl)
theorem dX2_wants_7 : decode cX2_wants 7 = .ok (.ifCond .eq 12, 3) := dk_153 0 12 (dk_at dksX2_wants_0 7 rfl rfl)
theorem dX2_wants_10 : decode cX2_wants 10 = .ok (.aload_n 0, 1) := dk_42 (dk_at dksX2_wants_0 10 rfl rfl)
theorem dX2_wants_11 : decode cX2_wants 11 = .ok (.iload_n 1, 1) := dk_27 (dk_at dksX2_wants_0 11 rfl rfl)
theorem dX2_wants_12 : decode cX2_wants 12 = .ok (.iload_n 2, 1) := dk_28 (dk_at dksX2_wants_0 12 rfl rfl)
theorem dX2_wants_13 : decode cX2_wants 13 = .ok (.iload_n 3, 1) := dk_29 (dk_at dksX2_wants_0 13 rfl rfl)
theorem dX2_wants_14 : decode cX2_wants 14 = .ok (.invokevirtual 95, 3) := dk_182 0 95 (dk_at dksX2_wants_0 14 rfl rfl)
theorem dX2_wants_17 : decode cX2_wants 17 = .ok (.iconst 2, 1) := dk_5 (dk_at dksX2_wants_0 17 rfl rfl)
theorem dX2_wants_18 : decode cX2_wants 18 = .ok (.ireturn, 1) := dk_172 (dk_at dksX2_wants_0 18 rfl rfl)
theorem dX2_wants_19 : decode cX2_wants 19 = .ok (.aload_n 0, 1) := dk_42 (dk_at dksX2_wants_0 19 rfl rfl)
theorem dX2_wants_20 : decode cX2_wants 20 = .ok (.iload_n 1, 1) := dk_27 (dk_at dksX2_wants_0 20 rfl rfl)
theorem dX2_wants_21 : decode cX2_wants 21 = .ok (.iload_n 2, 1) := dk_28 (dk_at dksX2_wants_0 21 rfl rfl)
theorem dX2_wants_22 : decode cX2_wants 22 = .ok (.iload_n 3, 1) := dk_29 (dk_at dksX2_wants_0 22 rfl rfl)
theorem dX2_wants_23 : decode cX2_wants 23 = .ok (.invokevirtual 124, 3) := dk_182 0 124 (dk_at dksX2_wants_1 0 rfl rfl)
theorem dX2_wants_26 : decode cX2_wants 26 = .ok (.aload_n 0, 1) := dk_42 (dk_at dksX2_wants_1 3 rfl rfl)
theorem dX2_wants_27 : decode cX2_wants 27 = .ok (.iload_n 1, 1) := dk_27 (dk_at dksX2_wants_1 4 rfl rfl)
theorem dX2_wants_28 : decode cX2_wants 28 = .ok (.iconst 4, 1) := dk_7 (dk_at dksX2_wants_1 5 rfl rfl)
theorem dX2_wants_29 : decode cX2_wants 29 = .ok (.aload_n 0, 1) := dk_42 (dk_at dksX2_wants_1 6 rfl rfl)
theorem dX2_wants_30 : decode cX2_wants 30 = .ok (.iload_n 1, 1) := dk_27 (dk_at dksX2_wants_1 7 rfl rfl)
theorem dX2_wants_31 : decode cX2_wants 31 = .ok (.iconst 4, 1) := dk_7 (dk_at dksX2_wants_1 8 rfl rfl)
theorem dX2_wants_32 : decode cX2_wants 32 = .ok (.invokevirtual 57, 3) := dk_182 0 57 (dk_at dksX2_wants_1 9 rfl rfl)
theorem dX2_wants_35 : decode cX2_wants 35 = .ok (.iconst 1, 1) := dk_4 (dk_at dksX2_wants_1 12 rfl rfl)
theorem dX2_wants_36 : decode cX2_wants 36 = .ok (.iadd, 1) := dk_96 (dk_at dksX2_wants_1 13 rfl rfl)
theorem dX2_wants_37 : decode cX2_wants 37 = .ok (.invokevirtual 72, 3) := dk_182 0 72 (dk_at dksX2_wants_1 14 rfl rfl)
theorem dX2_wants_40 : decode cX2_wants 40 = .ok (.aload_n 0, 1) := dk_42 (dk_at dksX2_wants_1 17 rfl rfl)
theorem dX2_wants_41 : decode cX2_wants 41 = .ok (.getfield 7, 3) := dk_180 0 7 (dk_at dksX2_wants_1 18 rfl rfl)
theorem dX2_wants_44 : decode cX2_wants 44 = .ok (.iconst 3, 1) := dk_6 (dk_at dksX2_wants_1 21 rfl rfl)
theorem dX2_wants_45 : decode cX2_wants 45 = .ok (.dup2, 1) := dk_92 (dk_at dksX2_wants_1 22 rfl rfl)
theorem dX2_wants_46 : decode cX2_wants 46 = .ok (.iaload, 1) := dk_46 (dk_at dksX2_wants_1 23 rfl rfl)
theorem dX2_wants_47 : decode cX2_wants 47 = .ok (.iconst 1, 1) := dk_4 (dk_at dksX2_wants_2 0 rfl rfl)
theorem dX2_wants_48 : decode cX2_wants 48 = .ok (.iadd, 1) := dk_96 (dk_at dksX2_wants_2 1 rfl rfl)
theorem dX2_wants_49 : decode cX2_wants 49 = .ok (.iastore, 1) := dk_79 (dk_at dksX2_wants_2 2 rfl rfl)
theorem dX2_wants_50 : decode cX2_wants 50 = .ok (.aload_n 0, 1) := dk_42 (dk_at dksX2_wants_2 3 rfl rfl)
theorem dX2_wants_51 : decode cX2_wants 51 = .ok (.invokevirtual 127, 3) := dk_182 0 127 (dk_at dksX2_wants_2 4 rfl rfl)
theorem dX2_wants_54 : decode cX2_wants 54 = .ok (.aload_n 0, 1) := dk_42 (dk_at dksX2_wants_2 7 rfl rfl)
theorem dX2_wants_55 : decode cX2_wants 55 = .ok (.invokevirtual 130, 3) := dk_182 0 130 (dk_at dksX2_wants_2 8 rfl rfl)
theorem dX2_wants_58 : decode cX2_wants 58 = .ok (.aload_n 0, 1) := dk_42 (dk_at dksX2_wants_2 11 rfl rfl)
theorem dX2_wants_59 : decode cX2_wants 59 = .ok (.iload_n 1, 1) := dk_27 (dk_at dksX2_wants_2 12 rfl rfl)
theorem dX2_wants_60 : decode cX2_wants 60 = .ok (.iload_n 2, 1) := dk_28 (dk_at dksX2_wants_2 13 rfl rfl)
theorem dX2_wants_61 : decode cX2_wants 61 = .ok (.invokevirtual 76, 3) := dk_182 0 76 (dk_at dksX2_wants_2 14 rfl rfl)
theorem dX2_wants_64 : decode cX2_wants 64 = .ok (.iload_n 3, 1) := dk_29 (dk_at dksX2_wants_2 17 rfl rfl)
theorem dX2_wants_65 : decode cX2_wants 65 = .ok (.if_icmp .ne 7, 3) := dk_160 0 7 (dk_at dksX2_wants_2 18 rfl rfl)
theorem dX2_wants_68 : decode cX2_wants 68 = .ok (.iconst 2, 1) := dk_5 (dk_at dksX2_wants_2 21 rfl rfl)
theorem dX2_wants_69 : decode cX2_wants 69 = .ok (.goto 17, 3) := dk_167 0 17 (dk_at dksX2_wants_3 0 rfl rfl)
theorem dX2_wants_72 : decode cX2_wants 72 = .ok (.aload_n 0, 1) := dk_42 (dk_at dksX2_wants_3 3 rfl rfl)
theorem dX2_wants_73 : decode cX2_wants 73 = .ok (.iload_n 1, 1) := dk_27 (dk_at dksX2_wants_3 4 rfl rfl)
theorem dX2_wants_74 : decode cX2_wants 74 = .ok (.iconst 1, 1) := dk_4 (dk_at dksX2_wants_3 5 rfl rfl)
theorem dX2_wants_75 : decode cX2_wants 75 = .ok (.invokevirtual 57, 3) := dk_182 0 57 (dk_at dksX2_wants_3 6 rfl rfl)
theorem dX2_wants_78 : decode cX2_wants 78 = .ok (.ifCond .lt 7, 3) := dk_155 0 7 (dk_at dksX2_wants_3 9 rfl rfl)
theorem dX2_wants_81 : decode cX2_wants 81 = .ok (.iconst 1, 1) := dk_4 (dk_at dksX2_wants_3 12 rfl rfl)
theorem dX2_wants_82 : decode cX2_wants 82 = .ok (.goto 4, 3) := dk_167 0 4 (dk_at dksX2_wants_3 13 rfl rfl)
theorem dX2_wants_85 : decode cX2_wants 85 = .ok (.iconst 0, 1) := dk_3 (dk_at dksX2_wants_3 16 rfl rfl)
theorem dX2_wants_86 : decode cX2_wants 86 = .ok (.ireturn, 1) := dk_172 (dk_at dksX2_wants_3 17 rfl rfl)
abbrev cX2_isAtOnce : ByteArray := prog_12_method_29_code
def yX2_isAtOnce : MethodName := ⟨RX2, "isAtOnce", "(III)Z"⟩
def dkwX2_isAtOnce_1 : List UInt8 := [182, 0, 88, 153, 0, 7, 4, 167, 0, 4, 3, 172]
abbrev dktX2_isAtOnce_1 : List UInt8 := dkwX2_isAtOnce_1 ++ []
def dkwX2_isAtOnce_0 : List UInt8 := [42, 27, 28, 182, 0, 76, 4, 159, 0, 12, 42, 28, 5, 182, 0, 82, 154, 0, 17, 42, 27, 28, 29]
abbrev dktX2_isAtOnce_0 : List UInt8 := dkwX2_isAtOnce_0 ++ dktX2_isAtOnce_1
theorem dksX2_isAtOnce_0 : cX2_isAtOnce.data.toList.drop 0 = dktX2_isAtOnce_0 := by decide +kernel
theorem dksX2_isAtOnce_1 : cX2_isAtOnce.data.toList.drop 23 = dktX2_isAtOnce_1 := dk_seg dksX2_isAtOnce_0 23 rfl rfl
theorem dX2_isAtOnce_0 : decode cX2_isAtOnce 0 = .ok (.aload_n 0, 1) := dk_42 (dk_at dksX2_isAtOnce_0 0 rfl rfl)
theorem dX2_isAtOnce_1 : decode cX2_isAtOnce 1 = .ok (.iload_n 1, 1) := dk_27 (dk_at dksX2_isAtOnce_0 1 rfl rfl)
theorem dX2_isAtOnce_2 : decode cX2_isAtOnce 2 = .ok (.iload_n 2, 1) := dk_28 (dk_at dksX2_isAtOnce_0 2 rfl rfl)
theorem dX2_isAtOnce_3 : decode cX2_isAtOnce 3 = .ok (.invokevirtual 76, 3) := dk_182 0 76 (dk_at dksX2_isAtOnce_0 3 rfl rfl)
theorem dX2_isAtOnce_6 : decode cX2_isAtOnce 6 = .ok (.iconst 1, 1) := dk_4 (dk_at dksX2_isAtOnce_0 6 rfl rfl)
theorem dX2_isAtOnce_7 : decode cX2_isAtOnce 7 = .ok (.if_icmp .eq 12, 3) := dk_159 0 12 (dk_at dksX2_isAtOnce_0 7 rfl rfl)
theorem dX2_isAtOnce_10 : decode cX2_isAtOnce 10 = .ok (.aload_n 0, 1) := dk_42 (dk_at dksX2_isAtOnce_0 10 rfl rfl)
theorem dX2_isAtOnce_11 : decode cX2_isAtOnce 11 = .ok (.iload_n 2, 1) := dk_28 (dk_at dksX2_isAtOnce_0 11 rfl rfl)
theorem dX2_isAtOnce_12 : decode cX2_isAtOnce 12 = .ok (.iconst 2, 1) := dk_5 (dk_at dksX2_isAtOnce_0 12 rfl rfl)
theorem dX2_isAtOnce_13 : decode cX2_isAtOnce 13 = .ok (.invokevirtual 82, 3) := dk_182 0 82 (dk_at dksX2_isAtOnce_0 13 rfl rfl)
theorem dX2_isAtOnce_16 : decode cX2_isAtOnce 16 = .ok (.ifCond .ne 17, 3) := dk_154 0 17 (dk_at dksX2_isAtOnce_0 16 rfl rfl)
theorem dX2_isAtOnce_19 : decode cX2_isAtOnce 19 = .ok (.aload_n 0, 1) := dk_42 (dk_at dksX2_isAtOnce_0 19 rfl rfl)
theorem dX2_isAtOnce_20 : decode cX2_isAtOnce 20 = .ok (.iload_n 1, 1) := dk_27 (dk_at dksX2_isAtOnce_0 20 rfl rfl)
theorem dX2_isAtOnce_21 : decode cX2_isAtOnce 21 = .ok (.iload_n 2, 1) := dk_28 (dk_at dksX2_isAtOnce_0 21 rfl rfl)
theorem dX2_isAtOnce_22 : decode cX2_isAtOnce 22 = .ok (.iload_n 3, 1) := dk_29 (dk_at dksX2_isAtOnce_0 22 rfl rfl)
theorem dX2_isAtOnce_23 : decode cX2_isAtOnce 23 = .ok (.invokevirtual 88, 3) := dk_182 0 88 (dk_at dksX2_isAtOnce_1 0 rfl rfl)
theorem dX2_isAtOnce_26 : decode cX2_isAtOnce 26 = .ok (.ifCond .eq 7, 3) := dk_153 0 7 (dk_at dksX2_isAtOnce_1 3 rfl rfl)
theorem dX2_isAtOnce_29 : decode cX2_isAtOnce 29 = .ok (.iconst 1, 1) := dk_4 (dk_at dksX2_isAtOnce_1 6 rfl rfl)
theorem dX2_isAtOnce_30 : decode cX2_isAtOnce 30 = .ok (.goto 4, 3) := dk_167 0 4 (dk_at dksX2_isAtOnce_1 7 rfl rfl)
theorem dX2_isAtOnce_33 : decode cX2_isAtOnce 33 = .ok (.iconst 0, 1) := dk_3 (dk_at dksX2_isAtOnce_1 10 rfl rfl)
theorem dX2_isAtOnce_34 : decode cX2_isAtOnce 34 = .ok (.ireturn, 1) := dk_172 (dk_at dksX2_isAtOnce_1 11 rfl rfl)
abbrev cX2_shelf : ByteArray := prog_12_method_12_code
def yX2_shelf : MethodName := ⟨RX2, "shelf", "(II)I"⟩
def dkwX2_shelf_0 : List UInt8 := [42, 180, 0, 7, 17, 1, 85, 16, 11, 27, 104, 96, 28, 96, 46, 172]
abbrev dktX2_shelf_0 : List UInt8 := dkwX2_shelf_0 ++ []
theorem dksX2_shelf_0 : cX2_shelf.data.toList.drop 0 = dktX2_shelf_0 := by decide +kernel
theorem dX2_shelf_0 : decode cX2_shelf 0 = .ok (.aload_n 0, 1) := dk_42 (dk_at dksX2_shelf_0 0 rfl rfl)
theorem dX2_shelf_1 : decode cX2_shelf 1 = .ok (.getfield 7, 3) := dk_180 0 7 (dk_at dksX2_shelf_0 1 rfl rfl)
theorem dX2_shelf_4 : decode cX2_shelf 4 = .ok (.sipush 341, 3) := dk_17 1 85 (dk_at dksX2_shelf_0 4 rfl rfl)
theorem dX2_shelf_7 : decode cX2_shelf 7 = .ok (.bipush 11, 2) := dk_16 11 (dk_at dksX2_shelf_0 7 rfl rfl)
theorem dX2_shelf_9 : decode cX2_shelf 9 = .ok (.iload_n 1, 1) := dk_27 (dk_at dksX2_shelf_0 9 rfl rfl)
theorem dX2_shelf_10 : decode cX2_shelf 10 = .ok (.imul, 1) := dk_104 (dk_at dksX2_shelf_0 10 rfl rfl)
theorem dX2_shelf_11 : decode cX2_shelf 11 = .ok (.iadd, 1) := dk_96 (dk_at dksX2_shelf_0 11 rfl rfl)
theorem dX2_shelf_12 : decode cX2_shelf 12 = .ok (.iload_n 2, 1) := dk_28 (dk_at dksX2_shelf_0 12 rfl rfl)
theorem dX2_shelf_13 : decode cX2_shelf 13 = .ok (.iadd, 1) := dk_96 (dk_at dksX2_shelf_0 13 rfl rfl)
theorem dX2_shelf_14 : decode cX2_shelf 14 = .ok (.iaload, 1) := dk_46 (dk_at dksX2_shelf_0 14 rfl rfl)
theorem dX2_shelf_15 : decode cX2_shelf 15 = .ok (.ireturn, 1) := dk_172 (dk_at dksX2_shelf_0 15 rfl rfl)
abbrev cX2_can : ByteArray := prog_12_method_16_code
def yX2_can : MethodName := ⟨RX2, "can", "(III)Z"⟩
def dkwX2_can_2 : List UInt8 := [27, 28, 182, 0, 76, 4, 160, 0, 5, 3, 172, 132, 4, 1, 167, 255, 197, 4, 172]
abbrev dktX2_can_2 : List UInt8 := dkwX2_can_2 ++ []
def dkwX2_can_1 : List UInt8 := [182, 0, 76, 5, 159, 0, 29, 42, 21, 4, 28, 182, 0, 76, 4, 160, 0, 20, 29, 5, 159, 0, 13, 42]
abbrev dktX2_can_1 : List UInt8 := dkwX2_can_1 ++ dktX2_can_2
def dkwX2_can_0 : List UInt8 := [3, 54, 4, 21, 4, 42, 180, 0, 7, 3, 46, 162, 0, 54, 21, 4, 27, 159, 0, 42, 42, 21, 4, 28]
abbrev dktX2_can_0 : List UInt8 := dkwX2_can_0 ++ dktX2_can_1
theorem dksX2_can_0 : cX2_can.data.toList.drop 0 = dktX2_can_0 := by decide +kernel
theorem dksX2_can_1 : cX2_can.data.toList.drop 24 = dktX2_can_1 := dk_seg dksX2_can_0 24 rfl rfl
theorem dksX2_can_2 : cX2_can.data.toList.drop 48 = dktX2_can_2 := dk_seg dksX2_can_1 24 rfl rfl
theorem dX2_can_0 : decode cX2_can 0 = .ok (.iconst 0, 1) := dk_3 (dk_at dksX2_can_0 0 rfl rfl)
theorem dX2_can_1 : decode cX2_can 1 = .ok (.istore 4, 2) := dk_54 4 (dk_at dksX2_can_0 1 rfl rfl)
theorem dX2_can_3 : decode cX2_can 3 = .ok (.iload 4, 2) := dk_21 4 (dk_at dksX2_can_0 3 rfl rfl)
theorem dX2_can_5 : decode cX2_can 5 = .ok (.aload_n 0, 1) := dk_42 (dk_at dksX2_can_0 5 rfl rfl)
theorem dX2_can_6 : decode cX2_can 6 = .ok (.getfield 7, 3) := dk_180 0 7 (dk_at dksX2_can_0 6 rfl rfl)
theorem dX2_can_9 : decode cX2_can 9 = .ok (.iconst 0, 1) := dk_3 (dk_at dksX2_can_0 9 rfl rfl)
theorem dX2_can_10 : decode cX2_can 10 = .ok (.iaload, 1) := dk_46 (dk_at dksX2_can_0 10 rfl rfl)
theorem dX2_can_11 : decode cX2_can 11 = .ok (.if_icmp .ge 54, 3) := dk_162 0 54 (dk_at dksX2_can_0 11 rfl rfl)
theorem dX2_can_14 : decode cX2_can 14 = .ok (.iload 4, 2) := dk_21 4 (dk_at dksX2_can_0 14 rfl rfl)
theorem dX2_can_16 : decode cX2_can 16 = .ok (.iload_n 1, 1) := dk_27 (dk_at dksX2_can_0 16 rfl rfl)
theorem dX2_can_17 : decode cX2_can 17 = .ok (.if_icmp .eq 42, 3) := dk_159 0 42 (dk_at dksX2_can_0 17 rfl rfl)
theorem dX2_can_20 : decode cX2_can 20 = .ok (.aload_n 0, 1) := dk_42 (dk_at dksX2_can_0 20 rfl rfl)
theorem dX2_can_21 : decode cX2_can 21 = .ok (.iload 4, 2) := dk_21 4 (dk_at dksX2_can_0 21 rfl rfl)
theorem dX2_can_23 : decode cX2_can 23 = .ok (.iload_n 2, 1) := dk_28 (dk_at dksX2_can_0 23 rfl rfl)
theorem dX2_can_24 : decode cX2_can 24 = .ok (.invokevirtual 76, 3) := dk_182 0 76 (dk_at dksX2_can_1 0 rfl rfl)
theorem dX2_can_27 : decode cX2_can 27 = .ok (.iconst 2, 1) := dk_5 (dk_at dksX2_can_1 3 rfl rfl)
theorem dX2_can_28 : decode cX2_can 28 = .ok (.if_icmp .eq 29, 3) := dk_159 0 29 (dk_at dksX2_can_1 4 rfl rfl)
theorem dX2_can_31 : decode cX2_can 31 = .ok (.aload_n 0, 1) := dk_42 (dk_at dksX2_can_1 7 rfl rfl)
theorem dX2_can_32 : decode cX2_can 32 = .ok (.iload 4, 2) := dk_21 4 (dk_at dksX2_can_1 8 rfl rfl)
theorem dX2_can_34 : decode cX2_can 34 = .ok (.iload_n 2, 1) := dk_28 (dk_at dksX2_can_1 10 rfl rfl)
theorem dX2_can_35 : decode cX2_can 35 = .ok (.invokevirtual 76, 3) := dk_182 0 76 (dk_at dksX2_can_1 11 rfl rfl)
theorem dX2_can_38 : decode cX2_can 38 = .ok (.iconst 1, 1) := dk_4 (dk_at dksX2_can_1 14 rfl rfl)
theorem dX2_can_39 : decode cX2_can 39 = .ok (.if_icmp .ne 20, 3) := dk_160 0 20 (dk_at dksX2_can_1 15 rfl rfl)
theorem dX2_can_42 : decode cX2_can 42 = .ok (.iload_n 3, 1) := dk_29 (dk_at dksX2_can_1 18 rfl rfl)
theorem dX2_can_43 : decode cX2_can 43 = .ok (.iconst 2, 1) := dk_5 (dk_at dksX2_can_1 19 rfl rfl)
theorem dX2_can_44 : decode cX2_can 44 = .ok (.if_icmp .eq 13, 3) := dk_159 0 13 (dk_at dksX2_can_1 20 rfl rfl)
theorem dX2_can_47 : decode cX2_can 47 = .ok (.aload_n 0, 1) := dk_42 (dk_at dksX2_can_1 23 rfl rfl)
theorem dX2_can_48 : decode cX2_can 48 = .ok (.iload_n 1, 1) := dk_27 (dk_at dksX2_can_2 0 rfl rfl)
theorem dX2_can_49 : decode cX2_can 49 = .ok (.iload_n 2, 1) := dk_28 (dk_at dksX2_can_2 1 rfl rfl)
theorem dX2_can_50 : decode cX2_can 50 = .ok (.invokevirtual 76, 3) := dk_182 0 76 (dk_at dksX2_can_2 2 rfl rfl)
theorem dX2_can_53 : decode cX2_can 53 = .ok (.iconst 1, 1) := dk_4 (dk_at dksX2_can_2 5 rfl rfl)
theorem dX2_can_54 : decode cX2_can 54 = .ok (.if_icmp .ne 5, 3) := dk_160 0 5 (dk_at dksX2_can_2 6 rfl rfl)
theorem dX2_can_57 : decode cX2_can 57 = .ok (.iconst 0, 1) := dk_3 (dk_at dksX2_can_2 9 rfl rfl)
theorem dX2_can_58 : decode cX2_can 58 = .ok (.ireturn, 1) := dk_172 (dk_at dksX2_can_2 10 rfl rfl)
theorem dX2_can_59 : decode cX2_can 59 = .ok (.iinc 4 1, 3) := dk_132 4 1 (dk_at dksX2_can_2 11 rfl rfl)
theorem dX2_can_62 : decode cX2_can 62 = .ok (.goto (-59), 3) := dk_167 255 197 (dk_at dksX2_can_2 14 rfl rfl)
theorem dX2_can_65 : decode cX2_can 65 = .ok (.iconst 1, 1) := dk_4 (dk_at dksX2_can_2 17 rfl rfl)
theorem dX2_can_66 : decode cX2_can 66 = .ok (.ireturn, 1) := dk_172 (dk_at dksX2_can_2 18 rfl rfl)
abbrev cX2_has : ByteArray := prog_12_method_17_code
def yX2_has : MethodName := ⟨RX2, "has", "(III)V"⟩
def dkwX2_has_1 : List UInt8 := [42, 28, 3, 182, 0, 82, 4, 96, 182, 0, 85, 42, 180, 0, 7, 5, 92, 46, 4, 96, 79, 177]
abbrev dktX2_has_1 : List UInt8 := dkwX2_has_1 ++ []
def dkwX2_has_0 : List UInt8 := [42, 27, 28, 29, 182, 0, 79, 42, 27, 8, 42, 27, 8, 182, 0, 57, 4, 96, 182, 0, 72, 42, 28, 3]
abbrev dktX2_has_0 : List UInt8 := dkwX2_has_0 ++ dktX2_has_1
theorem dksX2_has_0 : cX2_has.data.toList.drop 0 = dktX2_has_0 := by decide +kernel
theorem dksX2_has_1 : cX2_has.data.toList.drop 24 = dktX2_has_1 := dk_seg dksX2_has_0 24 rfl rfl
theorem dX2_has_0 : decode cX2_has 0 = .ok (.aload_n 0, 1) := dk_42 (dk_at dksX2_has_0 0 rfl rfl)
theorem dX2_has_1 : decode cX2_has 1 = .ok (.iload_n 1, 1) := dk_27 (dk_at dksX2_has_0 1 rfl rfl)
theorem dX2_has_2 : decode cX2_has 2 = .ok (.iload_n 2, 1) := dk_28 (dk_at dksX2_has_0 2 rfl rfl)
theorem dX2_has_3 : decode cX2_has 3 = .ok (.iload_n 3, 1) := dk_29 (dk_at dksX2_has_0 3 rfl rfl)
theorem dX2_has_4 : decode cX2_has 4 = .ok (.invokevirtual 79, 3) := dk_182 0 79 (dk_at dksX2_has_0 4 rfl rfl)
theorem dX2_has_7 : decode cX2_has 7 = .ok (.aload_n 0, 1) := dk_42 (dk_at dksX2_has_0 7 rfl rfl)
theorem dX2_has_8 : decode cX2_has 8 = .ok (.iload_n 1, 1) := dk_27 (dk_at dksX2_has_0 8 rfl rfl)
theorem dX2_has_9 : decode cX2_has 9 = .ok (.iconst 5, 1) := dk_8 (dk_at dksX2_has_0 9 rfl rfl)
theorem dX2_has_10 : decode cX2_has 10 = .ok (.aload_n 0, 1) := dk_42 (dk_at dksX2_has_0 10 rfl rfl)
theorem dX2_has_11 : decode cX2_has 11 = .ok (.iload_n 1, 1) := dk_27 (dk_at dksX2_has_0 11 rfl rfl)
theorem dX2_has_12 : decode cX2_has 12 = .ok (.iconst 5, 1) := dk_8 (dk_at dksX2_has_0 12 rfl rfl)
theorem dX2_has_13 : decode cX2_has 13 = .ok (.invokevirtual 57, 3) := dk_182 0 57 (dk_at dksX2_has_0 13 rfl rfl)
theorem dX2_has_16 : decode cX2_has 16 = .ok (.iconst 1, 1) := dk_4 (dk_at dksX2_has_0 16 rfl rfl)
theorem dX2_has_17 : decode cX2_has 17 = .ok (.iadd, 1) := dk_96 (dk_at dksX2_has_0 17 rfl rfl)
theorem dX2_has_18 : decode cX2_has 18 = .ok (.invokevirtual 72, 3) := dk_182 0 72 (dk_at dksX2_has_0 18 rfl rfl)
theorem dX2_has_21 : decode cX2_has 21 = .ok (.aload_n 0, 1) := dk_42 (dk_at dksX2_has_0 21 rfl rfl)
theorem dX2_has_22 : decode cX2_has 22 = .ok (.iload_n 2, 1) := dk_28 (dk_at dksX2_has_0 22 rfl rfl)
theorem dX2_has_23 : decode cX2_has 23 = .ok (.iconst 0, 1) := dk_3 (dk_at dksX2_has_0 23 rfl rfl)
theorem dX2_has_24 : decode cX2_has 24 = .ok (.aload_n 0, 1) := dk_42 (dk_at dksX2_has_1 0 rfl rfl)
theorem dX2_has_25 : decode cX2_has 25 = .ok (.iload_n 2, 1) := dk_28 (dk_at dksX2_has_1 1 rfl rfl)
theorem dX2_has_26 : decode cX2_has 26 = .ok (.iconst 0, 1) := dk_3 (dk_at dksX2_has_1 2 rfl rfl)
theorem dX2_has_27 : decode cX2_has 27 = .ok (.invokevirtual 82, 3) := dk_182 0 82 (dk_at dksX2_has_1 3 rfl rfl)
theorem dX2_has_30 : decode cX2_has 30 = .ok (.iconst 1, 1) := dk_4 (dk_at dksX2_has_1 6 rfl rfl)
theorem dX2_has_31 : decode cX2_has 31 = .ok (.iadd, 1) := dk_96 (dk_at dksX2_has_1 7 rfl rfl)
theorem dX2_has_32 : decode cX2_has 32 = .ok (.invokevirtual 85, 3) := dk_182 0 85 (dk_at dksX2_has_1 8 rfl rfl)
theorem dX2_has_35 : decode cX2_has 35 = .ok (.aload_n 0, 1) := dk_42 (dk_at dksX2_has_1 11 rfl rfl)
theorem dX2_has_36 : decode cX2_has 36 = .ok (.getfield 7, 3) := dk_180 0 7 (dk_at dksX2_has_1 12 rfl rfl)
theorem dX2_has_39 : decode cX2_has 39 = .ok (.iconst 2, 1) := dk_5 (dk_at dksX2_has_1 15 rfl rfl)
theorem dX2_has_40 : decode cX2_has 40 = .ok (.dup2, 1) := dk_92 (dk_at dksX2_has_1 16 rfl rfl)
theorem dX2_has_41 : decode cX2_has 41 = .ok (.iaload, 1) := dk_46 (dk_at dksX2_has_1 17 rfl rfl)
theorem dX2_has_42 : decode cX2_has 42 = .ok (.iconst 1, 1) := dk_4 (dk_at dksX2_has_1 18 rfl rfl)
theorem dX2_has_43 : decode cX2_has 43 = .ok (.iadd, 1) := dk_96 (dk_at dksX2_has_1 19 rfl rfl)
theorem dX2_has_44 : decode cX2_has 44 = .ok (.iastore, 1) := dk_79 (dk_at dksX2_has_1 20 rfl rfl)
theorem dX2_has_45 : decode cX2_has 45 = .ok (.return_, 1) := dk_177 (dk_at dksX2_has_1 21 rfl rfl)
abbrev cX2_locks : ByteArray := prog_12_method_11_code
def yX2_locks : MethodName := ⟨RX2, "locks", "(III)V"⟩
def dkwX2_locks_0 : List UInt8 := [42, 180, 0, 7, 17, 0, 149, 16, 8, 27, 104, 96, 28, 96, 29, 79, 177]
abbrev dktX2_locks_0 : List UInt8 := dkwX2_locks_0 ++ []
theorem dksX2_locks_0 : cX2_locks.data.toList.drop 0 = dktX2_locks_0 := by decide +kernel
theorem dX2_locks_0 : decode cX2_locks 0 = .ok (.aload_n 0, 1) := dk_42 (dk_at dksX2_locks_0 0 rfl rfl)
theorem dX2_locks_1 : decode cX2_locks 1 = .ok (.getfield 7, 3) := dk_180 0 7 (dk_at dksX2_locks_0 1 rfl rfl)
theorem dX2_locks_4 : decode cX2_locks 4 = .ok (.sipush 149, 3) := dk_17 0 149 (dk_at dksX2_locks_0 4 rfl rfl)
theorem dX2_locks_7 : decode cX2_locks 7 = .ok (.bipush 8, 2) := dk_16 8 (dk_at dksX2_locks_0 7 rfl rfl)
theorem dX2_locks_9 : decode cX2_locks 9 = .ok (.iload_n 1, 1) := dk_27 (dk_at dksX2_locks_0 9 rfl rfl)
theorem dX2_locks_10 : decode cX2_locks 10 = .ok (.imul, 1) := dk_104 (dk_at dksX2_locks_0 10 rfl rfl)
theorem dX2_locks_11 : decode cX2_locks 11 = .ok (.iadd, 1) := dk_96 (dk_at dksX2_locks_0 11 rfl rfl)
theorem dX2_locks_12 : decode cX2_locks 12 = .ok (.iload_n 2, 1) := dk_28 (dk_at dksX2_locks_0 12 rfl rfl)
theorem dX2_locks_13 : decode cX2_locks 13 = .ok (.iadd, 1) := dk_96 (dk_at dksX2_locks_0 13 rfl rfl)
theorem dX2_locks_14 : decode cX2_locks 14 = .ok (.iload_n 3, 1) := dk_29 (dk_at dksX2_locks_0 14 rfl rfl)
theorem dX2_locks_15 : decode cX2_locks 15 = .ok (.iastore, 1) := dk_79 (dk_at dksX2_locks_0 15 rfl rfl)
theorem dX2_locks_16 : decode cX2_locks 16 = .ok (.return_, 1) := dk_177 (dk_at dksX2_locks_0 16 rfl rfl)
abbrev cX2_shelves : ByteArray := prog_12_method_13_code
def yX2_shelves : MethodName := ⟨RX2, "shelves", "(III)V"⟩
def dkwX2_shelves_0 : List UInt8 := [42, 180, 0, 7, 17, 1, 85, 16, 11, 27, 104, 96, 28, 96, 29, 79, 177]
abbrev dktX2_shelves_0 : List UInt8 := dkwX2_shelves_0 ++ []
theorem dksX2_shelves_0 : cX2_shelves.data.toList.drop 0 = dktX2_shelves_0 := by decide +kernel
theorem dX2_shelves_0 : decode cX2_shelves 0 = .ok (.aload_n 0, 1) := dk_42 (dk_at dksX2_shelves_0 0 rfl rfl)
theorem dX2_shelves_1 : decode cX2_shelves 1 = .ok (.getfield 7, 3) := dk_180 0 7 (dk_at dksX2_shelves_0 1 rfl rfl)
theorem dX2_shelves_4 : decode cX2_shelves 4 = .ok (.sipush 341, 3) := dk_17 1 85 (dk_at dksX2_shelves_0 4 rfl rfl)
theorem dX2_shelves_7 : decode cX2_shelves 7 = .ok (.bipush 11, 2) := dk_16 11 (dk_at dksX2_shelves_0 7 rfl rfl)
theorem dX2_shelves_9 : decode cX2_shelves 9 = .ok (.iload_n 1, 1) := dk_27 (dk_at dksX2_shelves_0 9 rfl rfl)
theorem dX2_shelves_10 : decode cX2_shelves 10 = .ok (.imul, 1) := dk_104 (dk_at dksX2_shelves_0 10 rfl rfl)
theorem dX2_shelves_11 : decode cX2_shelves 11 = .ok (.iadd, 1) := dk_96 (dk_at dksX2_shelves_0 11 rfl rfl)
theorem dX2_shelves_12 : decode cX2_shelves 12 = .ok (.iload_n 2, 1) := dk_28 (dk_at dksX2_shelves_0 12 rfl rfl)
theorem dX2_shelves_13 : decode cX2_shelves 13 = .ok (.iadd, 1) := dk_96 (dk_at dksX2_shelves_0 13 rfl rfl)
theorem dX2_shelves_14 : decode cX2_shelves 14 = .ok (.iload_n 3, 1) := dk_29 (dk_at dksX2_shelves_0 14 rfl rfl)
theorem dX2_shelves_15 : decode cX2_shelves 15 = .ok (.iastore, 1) := dk_79 (dk_at dksX2_shelves_0 15 rfl rfl)
theorem dX2_shelves_16 : decode cX2_shelves 16 = .ok (.return_, 1) := dk_177 (dk_at dksX2_shelves_0 16 rfl rfl)
abbrev cX2_comesToWait : ByteArray := prog_12_method_20_code
def yX2_comesToWait : MethodName := ⟨RX2, "comesToWait", "(III)V"⟩
def dkwX2_comesToWait_5 : List UInt8 := [182, 0, 85, 42, 27, 4, 28, 182, 0, 72, 42, 27, 5, 29, 182, 0, 72, 177]
abbrev dktX2_comesToWait_5 : List UInt8 := dkwX2_comesToWait_5 ++ []
def dkwX2_comesToWait_4 : List UInt8 := [167, 255, 226, 42, 28, 6, 21, 4, 96, 27, 182, 0, 85, 42, 28, 5, 42, 28, 5, 182, 0, 82, 4, 96]
abbrev dktX2_comesToWait_4 : List UInt8 := dkwX2_comesToWait_4 ++ dktX2_comesToWait_5
def dkwX2_comesToWait_3 : List UInt8 := [42, 28, 6, 21, 5, 96, 42, 28, 6, 21, 5, 96, 4, 100, 182, 0, 82, 182, 0, 85, 132, 5, 255]
abbrev dktX2_comesToWait_3 : List UInt8 := dkwX2_comesToWait_3 ++ dktX2_comesToWait_4
def dkwX2_comesToWait_2 : List UInt8 := [160, 0, 9, 132, 4, 1, 167, 255, 224, 42, 28, 5, 182, 0, 82, 54, 5, 21, 5, 21, 4, 164, 0, 29]
abbrev dktX2_comesToWait_2 : List UInt8 := dkwX2_comesToWait_2 ++ dktX2_comesToWait_3
def dkwX2_comesToWait_1 : List UInt8 := [28, 5, 182, 0, 82, 162, 0, 27, 42, 42, 28, 6, 21, 4, 96, 182, 0, 82, 28, 182, 0, 76, 4]
abbrev dktX2_comesToWait_1 : List UInt8 := dkwX2_comesToWait_1 ++ dktX2_comesToWait_2
def dkwX2_comesToWait_0 : List UInt8 := [42, 28, 5, 182, 0, 82, 54, 4, 42, 27, 28, 182, 0, 76, 4, 160, 0, 41, 3, 54, 4, 21, 4, 42]
abbrev dktX2_comesToWait_0 : List UInt8 := dkwX2_comesToWait_0 ++ dktX2_comesToWait_1
theorem dksX2_comesToWait_0 : cX2_comesToWait.data.toList.drop 0 = dktX2_comesToWait_0 := by decide +kernel
theorem dksX2_comesToWait_1 : cX2_comesToWait.data.toList.drop 24 = dktX2_comesToWait_1 := dk_seg dksX2_comesToWait_0 24 rfl rfl
theorem dksX2_comesToWait_2 : cX2_comesToWait.data.toList.drop 47 = dktX2_comesToWait_2 := dk_seg dksX2_comesToWait_1 23 rfl rfl
theorem dksX2_comesToWait_3 : cX2_comesToWait.data.toList.drop 71 = dktX2_comesToWait_3 := dk_seg dksX2_comesToWait_2 24 rfl rfl
theorem dksX2_comesToWait_4 : cX2_comesToWait.data.toList.drop 94 = dktX2_comesToWait_4 := dk_seg dksX2_comesToWait_3 23 rfl rfl
theorem dksX2_comesToWait_5 : cX2_comesToWait.data.toList.drop 118 = dktX2_comesToWait_5 := dk_seg dksX2_comesToWait_4 24 rfl rfl
theorem dX2_comesToWait_0 : decode cX2_comesToWait 0 = .ok (.aload_n 0, 1) := dk_42 (dk_at dksX2_comesToWait_0 0 rfl rfl)
theorem dX2_comesToWait_1 : decode cX2_comesToWait 1 = .ok (.iload_n 2, 1) := dk_28 (dk_at dksX2_comesToWait_0 1 rfl rfl)
theorem dX2_comesToWait_2 : decode cX2_comesToWait 2 = .ok (.iconst 2, 1) := dk_5 (dk_at dksX2_comesToWait_0 2 rfl rfl)
theorem dX2_comesToWait_3 : decode cX2_comesToWait 3 = .ok (.invokevirtual 82, 3) := dk_182 0 82 (dk_at dksX2_comesToWait_0 3 rfl rfl)
theorem dX2_comesToWait_6 : decode cX2_comesToWait 6 = .ok (.istore 4, 2) := dk_54 4 (dk_at dksX2_comesToWait_0 6 rfl rfl)
theorem dX2_comesToWait_8 : decode cX2_comesToWait 8 = .ok (.aload_n 0, 1) := dk_42 (dk_at dksX2_comesToWait_0 8 rfl rfl)
theorem dX2_comesToWait_9 : decode cX2_comesToWait 9 = .ok (.iload_n 1, 1) := dk_27 (dk_at dksX2_comesToWait_0 9 rfl rfl)
theorem dX2_comesToWait_10 : decode cX2_comesToWait 10 = .ok (.iload_n 2, 1) := dk_28 (dk_at dksX2_comesToWait_0 10 rfl rfl)
theorem dX2_comesToWait_11 : decode cX2_comesToWait 11 = .ok (.invokevirtual 76, 3) := dk_182 0 76 (dk_at dksX2_comesToWait_0 11 rfl rfl)
theorem dX2_comesToWait_14 : decode cX2_comesToWait 14 = .ok (.iconst 1, 1) := dk_4 (dk_at dksX2_comesToWait_0 14 rfl rfl)
theorem dX2_comesToWait_15 : decode cX2_comesToWait 15 = .ok (.if_icmp .ne 41, 3) := dk_160 0 41 (dk_at dksX2_comesToWait_0 15 rfl rfl)
theorem dX2_comesToWait_18 : decode cX2_comesToWait 18 = .ok (.iconst 0, 1) := dk_3 (dk_at dksX2_comesToWait_0 18 rfl rfl)
theorem dX2_comesToWait_19 : decode cX2_comesToWait 19 = .ok (.istore 4, 2) := dk_54 4 (dk_at dksX2_comesToWait_0 19 rfl rfl)
theorem dX2_comesToWait_21 : decode cX2_comesToWait 21 = .ok (.iload 4, 2) := dk_21 4 (dk_at dksX2_comesToWait_0 21 rfl rfl)
theorem dX2_comesToWait_23 : decode cX2_comesToWait 23 = .ok (.aload_n 0, 1) := dk_42 (dk_at dksX2_comesToWait_0 23 rfl rfl)
theorem dX2_comesToWait_24 : decode cX2_comesToWait 24 = .ok (.iload_n 2, 1) := dk_28 (dk_at dksX2_comesToWait_1 0 rfl rfl)
theorem dX2_comesToWait_25 : decode cX2_comesToWait 25 = .ok (.iconst 2, 1) := dk_5 (dk_at dksX2_comesToWait_1 1 rfl rfl)
theorem dX2_comesToWait_26 : decode cX2_comesToWait 26 = .ok (.invokevirtual 82, 3) := dk_182 0 82 (dk_at dksX2_comesToWait_1 2 rfl rfl)
theorem dX2_comesToWait_29 : decode cX2_comesToWait 29 = .ok (.if_icmp .ge 27, 3) := dk_162 0 27 (dk_at dksX2_comesToWait_1 5 rfl rfl)
theorem dX2_comesToWait_32 : decode cX2_comesToWait 32 = .ok (.aload_n 0, 1) := dk_42 (dk_at dksX2_comesToWait_1 8 rfl rfl)
theorem dX2_comesToWait_33 : decode cX2_comesToWait 33 = .ok (.aload_n 0, 1) := dk_42 (dk_at dksX2_comesToWait_1 9 rfl rfl)
theorem dX2_comesToWait_34 : decode cX2_comesToWait 34 = .ok (.iload_n 2, 1) := dk_28 (dk_at dksX2_comesToWait_1 10 rfl rfl)
theorem dX2_comesToWait_35 : decode cX2_comesToWait 35 = .ok (.iconst 3, 1) := dk_6 (dk_at dksX2_comesToWait_1 11 rfl rfl)
theorem dX2_comesToWait_36 : decode cX2_comesToWait 36 = .ok (.iload 4, 2) := dk_21 4 (dk_at dksX2_comesToWait_1 12 rfl rfl)
theorem dX2_comesToWait_38 : decode cX2_comesToWait 38 = .ok (.iadd, 1) := dk_96 (dk_at dksX2_comesToWait_1 14 rfl rfl)
theorem dX2_comesToWait_39 : decode cX2_comesToWait 39 = .ok (.invokevirtual 82, 3) := dk_182 0 82 (dk_at dksX2_comesToWait_1 15 rfl rfl)
theorem dX2_comesToWait_42 : decode cX2_comesToWait 42 = .ok (.iload_n 2, 1) := dk_28 (dk_at dksX2_comesToWait_1 18 rfl rfl)
theorem dX2_comesToWait_43 : decode cX2_comesToWait 43 = .ok (.invokevirtual 76, 3) := dk_182 0 76 (dk_at dksX2_comesToWait_1 19 rfl rfl)
theorem dX2_comesToWait_46 : decode cX2_comesToWait 46 = .ok (.iconst 1, 1) := dk_4 (dk_at dksX2_comesToWait_1 22 rfl rfl)
theorem dX2_comesToWait_47 : decode cX2_comesToWait 47 = .ok (.if_icmp .ne 9, 3) := dk_160 0 9 (dk_at dksX2_comesToWait_2 0 rfl rfl)
theorem dX2_comesToWait_50 : decode cX2_comesToWait 50 = .ok (.iinc 4 1, 3) := dk_132 4 1 (dk_at dksX2_comesToWait_2 3 rfl rfl)
theorem dX2_comesToWait_53 : decode cX2_comesToWait 53 = .ok (.goto (-32), 3) := dk_167 255 224 (dk_at dksX2_comesToWait_2 6 rfl rfl)
theorem dX2_comesToWait_56 : decode cX2_comesToWait 56 = .ok (.aload_n 0, 1) := dk_42 (dk_at dksX2_comesToWait_2 9 rfl rfl)
theorem dX2_comesToWait_57 : decode cX2_comesToWait 57 = .ok (.iload_n 2, 1) := dk_28 (dk_at dksX2_comesToWait_2 10 rfl rfl)
theorem dX2_comesToWait_58 : decode cX2_comesToWait 58 = .ok (.iconst 2, 1) := dk_5 (dk_at dksX2_comesToWait_2 11 rfl rfl)
theorem dX2_comesToWait_59 : decode cX2_comesToWait 59 = .ok (.invokevirtual 82, 3) := dk_182 0 82 (dk_at dksX2_comesToWait_2 12 rfl rfl)
theorem dX2_comesToWait_62 : decode cX2_comesToWait 62 = .ok (.istore 5, 2) := dk_54 5 (dk_at dksX2_comesToWait_2 15 rfl rfl)
theorem dX2_comesToWait_64 : decode cX2_comesToWait 64 = .ok (.iload 5, 2) := dk_21 5 (dk_at dksX2_comesToWait_2 17 rfl rfl)
theorem dX2_comesToWait_66 : decode cX2_comesToWait 66 = .ok (.iload 4, 2) := dk_21 4 (dk_at dksX2_comesToWait_2 19 rfl rfl)
theorem dX2_comesToWait_68 : decode cX2_comesToWait 68 = .ok (.if_icmp .le 29, 3) := dk_164 0 29 (dk_at dksX2_comesToWait_2 21 rfl rfl)
theorem dX2_comesToWait_71 : decode cX2_comesToWait 71 = .ok (.aload_n 0, 1) := dk_42 (dk_at dksX2_comesToWait_3 0 rfl rfl)
theorem dX2_comesToWait_72 : decode cX2_comesToWait 72 = .ok (.iload_n 2, 1) := dk_28 (dk_at dksX2_comesToWait_3 1 rfl rfl)
theorem dX2_comesToWait_73 : decode cX2_comesToWait 73 = .ok (.iconst 3, 1) := dk_6 (dk_at dksX2_comesToWait_3 2 rfl rfl)
theorem dX2_comesToWait_74 : decode cX2_comesToWait 74 = .ok (.iload 5, 2) := dk_21 5 (dk_at dksX2_comesToWait_3 3 rfl rfl)
theorem dX2_comesToWait_76 : decode cX2_comesToWait 76 = .ok (.iadd, 1) := dk_96 (dk_at dksX2_comesToWait_3 5 rfl rfl)
theorem dX2_comesToWait_77 : decode cX2_comesToWait 77 = .ok (.aload_n 0, 1) := dk_42 (dk_at dksX2_comesToWait_3 6 rfl rfl)
theorem dX2_comesToWait_78 : decode cX2_comesToWait 78 = .ok (.iload_n 2, 1) := dk_28 (dk_at dksX2_comesToWait_3 7 rfl rfl)
theorem dX2_comesToWait_79 : decode cX2_comesToWait 79 = .ok (.iconst 3, 1) := dk_6 (dk_at dksX2_comesToWait_3 8 rfl rfl)
theorem dX2_comesToWait_80 : decode cX2_comesToWait 80 = .ok (.iload 5, 2) := dk_21 5 (dk_at dksX2_comesToWait_3 9 rfl rfl)
theorem dX2_comesToWait_82 : decode cX2_comesToWait 82 = .ok (.iadd, 1) := dk_96 (dk_at dksX2_comesToWait_3 11 rfl rfl)
theorem dX2_comesToWait_83 : decode cX2_comesToWait 83 = .ok (.iconst 1, 1) := dk_4 (dk_at dksX2_comesToWait_3 12 rfl rfl)
theorem dX2_comesToWait_84 : decode cX2_comesToWait 84 = .ok (.isub, 1) := dk_100 (dk_at dksX2_comesToWait_3 13 rfl rfl)
theorem dX2_comesToWait_85 : decode cX2_comesToWait 85 = .ok (.invokevirtual 82, 3) := dk_182 0 82 (dk_at dksX2_comesToWait_3 14 rfl rfl)
theorem dX2_comesToWait_88 : decode cX2_comesToWait 88 = .ok (.invokevirtual 85, 3) := dk_182 0 85 (dk_at dksX2_comesToWait_3 17 rfl rfl)
theorem dX2_comesToWait_91 : decode cX2_comesToWait 91 = .ok (.iinc 5 (-1), 3) := dk_132 5 255 (dk_at dksX2_comesToWait_3 20 rfl rfl)
theorem dX2_comesToWait_94 : decode cX2_comesToWait 94 = .ok (.goto (-30), 3) := dk_167 255 226 (dk_at dksX2_comesToWait_4 0 rfl rfl)
theorem dX2_comesToWait_97 : decode cX2_comesToWait 97 = .ok (.aload_n 0, 1) := dk_42 (dk_at dksX2_comesToWait_4 3 rfl rfl)
theorem dX2_comesToWait_98 : decode cX2_comesToWait 98 = .ok (.iload_n 2, 1) := dk_28 (dk_at dksX2_comesToWait_4 4 rfl rfl)
theorem dX2_comesToWait_99 : decode cX2_comesToWait 99 = .ok (.iconst 3, 1) := dk_6 (dk_at dksX2_comesToWait_4 5 rfl rfl)
theorem dX2_comesToWait_100 : decode cX2_comesToWait 100 = .ok (.iload 4, 2) := dk_21 4 (dk_at dksX2_comesToWait_4 6 rfl rfl)
theorem dX2_comesToWait_102 : decode cX2_comesToWait 102 = .ok (.iadd, 1) := dk_96 (dk_at dksX2_comesToWait_4 8 rfl rfl)
theorem dX2_comesToWait_103 : decode cX2_comesToWait 103 = .ok (.iload_n 1, 1) := dk_27 (dk_at dksX2_comesToWait_4 9 rfl rfl)
theorem dX2_comesToWait_104 : decode cX2_comesToWait 104 = .ok (.invokevirtual 85, 3) := dk_182 0 85 (dk_at dksX2_comesToWait_4 10 rfl rfl)
theorem dX2_comesToWait_107 : decode cX2_comesToWait 107 = .ok (.aload_n 0, 1) := dk_42 (dk_at dksX2_comesToWait_4 13 rfl rfl)
theorem dX2_comesToWait_108 : decode cX2_comesToWait 108 = .ok (.iload_n 2, 1) := dk_28 (dk_at dksX2_comesToWait_4 14 rfl rfl)
theorem dX2_comesToWait_109 : decode cX2_comesToWait 109 = .ok (.iconst 2, 1) := dk_5 (dk_at dksX2_comesToWait_4 15 rfl rfl)
theorem dX2_comesToWait_110 : decode cX2_comesToWait 110 = .ok (.aload_n 0, 1) := dk_42 (dk_at dksX2_comesToWait_4 16 rfl rfl)
theorem dX2_comesToWait_111 : decode cX2_comesToWait 111 = .ok (.iload_n 2, 1) := dk_28 (dk_at dksX2_comesToWait_4 17 rfl rfl)
theorem dX2_comesToWait_112 : decode cX2_comesToWait 112 = .ok (.iconst 2, 1) := dk_5 (dk_at dksX2_comesToWait_4 18 rfl rfl)
theorem dX2_comesToWait_113 : decode cX2_comesToWait 113 = .ok (.invokevirtual 82, 3) := dk_182 0 82 (dk_at dksX2_comesToWait_4 19 rfl rfl)
theorem dX2_comesToWait_116 : decode cX2_comesToWait 116 = .ok (.iconst 1, 1) := dk_4 (dk_at dksX2_comesToWait_4 22 rfl rfl)
theorem dX2_comesToWait_117 : decode cX2_comesToWait 117 = .ok (.iadd, 1) := dk_96 (dk_at dksX2_comesToWait_4 23 rfl rfl)
theorem dX2_comesToWait_118 : decode cX2_comesToWait 118 = .ok (.invokevirtual 85, 3) := dk_182 0 85 (dk_at dksX2_comesToWait_5 0 rfl rfl)
theorem dX2_comesToWait_121 : decode cX2_comesToWait 121 = .ok (.aload_n 0, 1) := dk_42 (dk_at dksX2_comesToWait_5 3 rfl rfl)
theorem dX2_comesToWait_122 : decode cX2_comesToWait 122 = .ok (.iload_n 1, 1) := dk_27 (dk_at dksX2_comesToWait_5 4 rfl rfl)
theorem dX2_comesToWait_123 : decode cX2_comesToWait 123 = .ok (.iconst 1, 1) := dk_4 (dk_at dksX2_comesToWait_5 5 rfl rfl)
theorem dX2_comesToWait_124 : decode cX2_comesToWait 124 = .ok (.iload_n 2, 1) := dk_28 (dk_at dksX2_comesToWait_5 6 rfl rfl)
theorem dX2_comesToWait_125 : decode cX2_comesToWait 125 = .ok (.invokevirtual 72, 3) := dk_182 0 72 (dk_at dksX2_comesToWait_5 7 rfl rfl)
theorem dX2_comesToWait_128 : decode cX2_comesToWait 128 = .ok (.aload_n 0, 1) := dk_42 (dk_at dksX2_comesToWait_5 10 rfl rfl)
theorem dX2_comesToWait_129 : decode cX2_comesToWait 129 = .ok (.iload_n 1, 1) := dk_27 (dk_at dksX2_comesToWait_5 11 rfl rfl)
theorem dX2_comesToWait_130 : decode cX2_comesToWait 130 = .ok (.iconst 2, 1) := dk_5 (dk_at dksX2_comesToWait_5 12 rfl rfl)
theorem dX2_comesToWait_131 : decode cX2_comesToWait 131 = .ok (.iload_n 3, 1) := dk_29 (dk_at dksX2_comesToWait_5 13 rfl rfl)
theorem dX2_comesToWait_132 : decode cX2_comesToWait 132 = .ok (.invokevirtual 72, 3) := dk_182 0 72 (dk_at dksX2_comesToWait_5 14 rfl rfl)
theorem dX2_comesToWait_135 : decode cX2_comesToWait 135 = .ok (.return_, 1) := dk_177 (dk_at dksX2_comesToWait_5 17 rfl rfl)
abbrev cX2_breaks : ByteArray := prog_12_method_26_code
def yX2_breaks : MethodName := ⟨RX2, "breaks", "()V"⟩
def dkwX2_breaks_1 : List UInt8 := [180, 0, 7, 7, 92, 46, 4, 96, 79, 42, 27, 182, 0, 115, 87, 42, 182, 0, 112, 60, 167, 255, 217, 177]
abbrev dktX2_breaks_1 : List UInt8 := dkwX2_breaks_1 ++ []
def dkwX2_breaks_0 : List UInt8 := [42, 182, 0, 112, 60, 27, 155, 0, 41, 42, 27, 6, 42, 27, 6, 182, 0, 57, 4, 96, 182, 0, 72, 42]
abbrev dktX2_breaks_0 : List UInt8 := dkwX2_breaks_0 ++ dktX2_breaks_1
theorem dksX2_breaks_0 : cX2_breaks.data.toList.drop 0 = dktX2_breaks_0 := by decide +kernel
theorem dksX2_breaks_1 : cX2_breaks.data.toList.drop 24 = dktX2_breaks_1 := dk_seg dksX2_breaks_0 24 rfl rfl
theorem dX2_breaks_0 : decode cX2_breaks 0 = .ok (.aload_n 0, 1) := dk_42 (dk_at dksX2_breaks_0 0 rfl rfl)
theorem dX2_breaks_1 : decode cX2_breaks 1 = .ok (.invokevirtual 112, 3) := dk_182 0 112 (dk_at dksX2_breaks_0 1 rfl rfl)
theorem dX2_breaks_4 : decode cX2_breaks 4 = .ok (.istore_n 1, 1) := dk_60 (dk_at dksX2_breaks_0 4 rfl rfl)
theorem dX2_breaks_5 : decode cX2_breaks 5 = .ok (.iload_n 1, 1) := dk_27 (dk_at dksX2_breaks_0 5 rfl rfl)
theorem dX2_breaks_6 : decode cX2_breaks 6 = .ok (.ifCond .lt 41, 3) := dk_155 0 41 (dk_at dksX2_breaks_0 6 rfl rfl)
theorem dX2_breaks_9 : decode cX2_breaks 9 = .ok (.aload_n 0, 1) := dk_42 (dk_at dksX2_breaks_0 9 rfl rfl)
theorem dX2_breaks_10 : decode cX2_breaks 10 = .ok (.iload_n 1, 1) := dk_27 (dk_at dksX2_breaks_0 10 rfl rfl)
theorem dX2_breaks_11 : decode cX2_breaks 11 = .ok (.iconst 3, 1) := dk_6 (dk_at dksX2_breaks_0 11 rfl rfl)
theorem dX2_breaks_12 : decode cX2_breaks 12 = .ok (.aload_n 0, 1) := dk_42 (dk_at dksX2_breaks_0 12 rfl rfl)
theorem dX2_breaks_13 : decode cX2_breaks 13 = .ok (.iload_n 1, 1) := dk_27 (dk_at dksX2_breaks_0 13 rfl rfl)
theorem dX2_breaks_14 : decode cX2_breaks 14 = .ok (.iconst 3, 1) := dk_6 (dk_at dksX2_breaks_0 14 rfl rfl)
theorem dX2_breaks_15 : decode cX2_breaks 15 = .ok (.invokevirtual 57, 3) := dk_182 0 57 (dk_at dksX2_breaks_0 15 rfl rfl)
theorem dX2_breaks_18 : decode cX2_breaks 18 = .ok (.iconst 1, 1) := dk_4 (dk_at dksX2_breaks_0 18 rfl rfl)
theorem dX2_breaks_19 : decode cX2_breaks 19 = .ok (.iadd, 1) := dk_96 (dk_at dksX2_breaks_0 19 rfl rfl)
theorem dX2_breaks_20 : decode cX2_breaks 20 = .ok (.invokevirtual 72, 3) := dk_182 0 72 (dk_at dksX2_breaks_0 20 rfl rfl)
theorem dX2_breaks_23 : decode cX2_breaks 23 = .ok (.aload_n 0, 1) := dk_42 (dk_at dksX2_breaks_0 23 rfl rfl)
theorem dX2_breaks_24 : decode cX2_breaks 24 = .ok (.getfield 7, 3) := dk_180 0 7 (dk_at dksX2_breaks_1 0 rfl rfl)
theorem dX2_breaks_27 : decode cX2_breaks 27 = .ok (.iconst 4, 1) := dk_7 (dk_at dksX2_breaks_1 3 rfl rfl)
theorem dX2_breaks_28 : decode cX2_breaks 28 = .ok (.dup2, 1) := dk_92 (dk_at dksX2_breaks_1 4 rfl rfl)
theorem dX2_breaks_29 : decode cX2_breaks 29 = .ok (.iaload, 1) := dk_46 (dk_at dksX2_breaks_1 5 rfl rfl)
theorem dX2_breaks_30 : decode cX2_breaks 30 = .ok (.iconst 1, 1) := dk_4 (dk_at dksX2_breaks_1 6 rfl rfl)
theorem dX2_breaks_31 : decode cX2_breaks 31 = .ok (.iadd, 1) := dk_96 (dk_at dksX2_breaks_1 7 rfl rfl)
theorem dX2_breaks_32 : decode cX2_breaks 32 = .ok (.iastore, 1) := dk_79 (dk_at dksX2_breaks_1 8 rfl rfl)
theorem dX2_breaks_33 : decode cX2_breaks 33 = .ok (.aload_n 0, 1) := dk_42 (dk_at dksX2_breaks_1 9 rfl rfl)
theorem dX2_breaks_34 : decode cX2_breaks 34 = .ok (.iload_n 1, 1) := dk_27 (dk_at dksX2_breaks_1 10 rfl rfl)
theorem dX2_breaks_35 : decode cX2_breaks 35 = .ok (.invokevirtual 115, 3) := dk_182 0 115 (dk_at dksX2_breaks_1 11 rfl rfl)
theorem dX2_breaks_38 : decode cX2_breaks 38 = .ok (.pop, 1) := dk_87 (dk_at dksX2_breaks_1 14 rfl rfl)
theorem dX2_breaks_39 : decode cX2_breaks 39 = .ok (.aload_n 0, 1) := dk_42 (dk_at dksX2_breaks_1 15 rfl rfl)
theorem dX2_breaks_40 : decode cX2_breaks 40 = .ok (.invokevirtual 112, 3) := dk_182 0 112 (dk_at dksX2_breaks_1 16 rfl rfl)
theorem dX2_breaks_43 : decode cX2_breaks 43 = .ok (.istore_n 1, 1) := dk_60 (dk_at dksX2_breaks_1 19 rfl rfl)
theorem dX2_breaks_44 : decode cX2_breaks 44 = .ok (.goto (-39), 3) := dk_167 255 217 (dk_at dksX2_breaks_1 20 rfl rfl)
theorem dX2_breaks_47 : decode cX2_breaks 47 = .ok (.return_, 1) := dk_177 (dk_at dksX2_breaks_1 23 rfl rfl)
abbrev cX2_youngestInRing : ByteArray := prog_12_method_25_code
def yX2_youngestInRing : MethodName := ⟨RX2, "youngestInRing", "()I"⟩
def dkwX2_youngestInRing_1 : List UInt8 := [132, 1, 255, 167, 255, 239, 2, 172]
abbrev dktX2_youngestInRing_1 : List UInt8 := dkwX2_youngestInRing_1 ++ []
def dkwX2_youngestInRing_0 : List UInt8 := [42, 180, 0, 7, 3, 46, 4, 100, 60, 27, 155, 0, 19, 42, 27, 182, 0, 108, 153, 0, 5, 27, 172]
abbrev dktX2_youngestInRing_0 : List UInt8 := dkwX2_youngestInRing_0 ++ dktX2_youngestInRing_1
theorem dksX2_youngestInRing_0 : cX2_youngestInRing.data.toList.drop 0 = dktX2_youngestInRing_0 := by decide +kernel
theorem dksX2_youngestInRing_1 : cX2_youngestInRing.data.toList.drop 23 = dktX2_youngestInRing_1 := dk_seg dksX2_youngestInRing_0 23 rfl rfl
theorem dX2_youngestInRing_0 : decode cX2_youngestInRing 0 = .ok (.aload_n 0, 1) := dk_42 (dk_at dksX2_youngestInRing_0 0 rfl rfl)
theorem dX2_youngestInRing_1 : decode cX2_youngestInRing 1 = .ok (.getfield 7, 3) := dk_180 0 7 (dk_at dksX2_youngestInRing_0 1 rfl rfl)
theorem dX2_youngestInRing_4 : decode cX2_youngestInRing 4 = .ok (.iconst 0, 1) := dk_3 (dk_at dksX2_youngestInRing_0 4 rfl rfl)
theorem dX2_youngestInRing_5 : decode cX2_youngestInRing 5 = .ok (.iaload, 1) := dk_46 (dk_at dksX2_youngestInRing_0 5 rfl rfl)
theorem dX2_youngestInRing_6 : decode cX2_youngestInRing 6 = .ok (.iconst 1, 1) := dk_4 (dk_at dksX2_youngestInRing_0 6 rfl rfl)
theorem dX2_youngestInRing_7 : decode cX2_youngestInRing 7 = .ok (.isub, 1) := dk_100 (dk_at dksX2_youngestInRing_0 7 rfl rfl)
theorem dX2_youngestInRing_8 : decode cX2_youngestInRing 8 = .ok (.istore_n 1, 1) := dk_60 (dk_at dksX2_youngestInRing_0 8 rfl rfl)
theorem dX2_youngestInRing_9 : decode cX2_youngestInRing 9 = .ok (.iload_n 1, 1) := dk_27 (dk_at dksX2_youngestInRing_0 9 rfl rfl)
theorem dX2_youngestInRing_10 : decode cX2_youngestInRing 10 = .ok (.ifCond .lt 19, 3) := dk_155 0 19 (dk_at dksX2_youngestInRing_0 10 rfl rfl)
theorem dX2_youngestInRing_13 : decode cX2_youngestInRing 13 = .ok (.aload_n 0, 1) := dk_42 (dk_at dksX2_youngestInRing_0 13 rfl rfl)
theorem dX2_youngestInRing_14 : decode cX2_youngestInRing 14 = .ok (.iload_n 1, 1) := dk_27 (dk_at dksX2_youngestInRing_0 14 rfl rfl)
theorem dX2_youngestInRing_15 : decode cX2_youngestInRing 15 = .ok (.invokevirtual 108, 3) := dk_182 0 108 (dk_at dksX2_youngestInRing_0 15 rfl rfl)
theorem dX2_youngestInRing_18 : decode cX2_youngestInRing 18 = .ok (.ifCond .eq 5, 3) := dk_153 0 5 (dk_at dksX2_youngestInRing_0 18 rfl rfl)
theorem dX2_youngestInRing_21 : decode cX2_youngestInRing 21 = .ok (.iload_n 1, 1) := dk_27 (dk_at dksX2_youngestInRing_0 21 rfl rfl)
theorem dX2_youngestInRing_22 : decode cX2_youngestInRing 22 = .ok (.ireturn, 1) := dk_172 (dk_at dksX2_youngestInRing_0 22 rfl rfl)
theorem dX2_youngestInRing_23 : decode cX2_youngestInRing 23 = .ok (.iinc 1 (-1), 3) := dk_132 1 255 (dk_at dksX2_youngestInRing_1 0 rfl rfl)
theorem dX2_youngestInRing_26 : decode cX2_youngestInRing 26 = .ok (.goto (-17), 3) := dk_167 255 239 (dk_at dksX2_youngestInRing_1 3 rfl rfl)
theorem dX2_youngestInRing_29 : decode cX2_youngestInRing 29 = .ok (.iconst (-1), 1) := dk_2 (dk_at dksX2_youngestInRing_1 6 rfl rfl)
theorem dX2_youngestInRing_30 : decode cX2_youngestInRing 30 = .ok (.ireturn, 1) := dk_172 (dk_at dksX2_youngestInRing_1 7 rfl rfl)
abbrev cX2_isInRing : ByteArray := prog_12_method_23_code
def yX2_isInRing : MethodName := ⟨RX2, "isInRing", "(I)Z"⟩
def dkwX2_isInRing_0 : List UInt8 := [42, 27, 182, 0, 102, 27, 122, 4, 126, 4, 160, 0, 7, 4, 167, 0, 4, 3, 172]
abbrev dktX2_isInRing_0 : List UInt8 := dkwX2_isInRing_0 ++ []
theorem dksX2_isInRing_0 : cX2_isInRing.data.toList.drop 0 = dktX2_isInRing_0 := by decide +kernel
theorem dX2_isInRing_0 : decode cX2_isInRing 0 = .ok (.aload_n 0, 1) := dk_42 (dk_at dksX2_isInRing_0 0 rfl rfl)
theorem dX2_isInRing_1 : decode cX2_isInRing 1 = .ok (.iload_n 1, 1) := dk_27 (dk_at dksX2_isInRing_0 1 rfl rfl)
theorem dX2_isInRing_2 : decode cX2_isInRing 2 = .ok (.invokevirtual 102, 3) := dk_182 0 102 (dk_at dksX2_isInRing_0 2 rfl rfl)
theorem dX2_isInRing_5 : decode cX2_isInRing 5 = .ok (.iload_n 1, 1) := dk_27 (dk_at dksX2_isInRing_0 5 rfl rfl)
theorem dX2_isInRing_6 : decode cX2_isInRing 6 = .ok (.ishr, 1) := dk_122 (dk_at dksX2_isInRing_0 6 rfl rfl)
theorem dX2_isInRing_7 : decode cX2_isInRing 7 = .ok (.iconst 1, 1) := dk_4 (dk_at dksX2_isInRing_0 7 rfl rfl)
theorem dX2_isInRing_8 : decode cX2_isInRing 8 = .ok (.iand, 1) := dk_126 (dk_at dksX2_isInRing_0 8 rfl rfl)
theorem dX2_isInRing_9 : decode cX2_isInRing 9 = .ok (.iconst 1, 1) := dk_4 (dk_at dksX2_isInRing_0 9 rfl rfl)
theorem dX2_isInRing_10 : decode cX2_isInRing 10 = .ok (.if_icmp .ne 7, 3) := dk_160 0 7 (dk_at dksX2_isInRing_0 10 rfl rfl)
theorem dX2_isInRing_13 : decode cX2_isInRing 13 = .ok (.iconst 1, 1) := dk_4 (dk_at dksX2_isInRing_0 13 rfl rfl)
theorem dX2_isInRing_14 : decode cX2_isInRing 14 = .ok (.goto 4, 3) := dk_167 0 4 (dk_at dksX2_isInRing_0 14 rfl rfl)
theorem dX2_isInRing_17 : decode cX2_isInRing 17 = .ok (.iconst 0, 1) := dk_3 (dk_at dksX2_isInRing_0 17 rfl rfl)
theorem dX2_isInRing_18 : decode cX2_isInRing 18 = .ok (.ireturn, 1) := dk_172 (dk_at dksX2_isInRing_0 18 rfl rfl)
abbrev cX2_reaches : ByteArray := prog_12_method_22_code
def yX2_reaches : MethodName := ⟨RX2, "reaches", "(I)I"⟩
def dkwX2_reaches_2 : List UInt8 := [182, 0, 98, 128, 61, 167, 255, 213, 28, 172]
abbrev dktX2_reaches_2 : List UInt8 := dkwX2_reaches_2 ++ []
def dkwX2_reaches_1 : List UInt8 := [4, 126, 154, 0, 9, 132, 4, 1, 167, 255, 240, 29, 4, 21, 4, 120, 128, 62, 28, 42, 21, 4]
abbrev dktX2_reaches_1 : List UInt8 := dkwX2_reaches_1 ++ dktX2_reaches_2
def dkwX2_reaches_0 : List UInt8 := [42, 27, 182, 0, 98, 61, 3, 62, 28, 29, 159, 0, 44, 3, 54, 4, 28, 29, 2, 130, 126, 21, 4, 122]
abbrev dktX2_reaches_0 : List UInt8 := dkwX2_reaches_0 ++ dktX2_reaches_1
theorem dksX2_reaches_0 : cX2_reaches.data.toList.drop 0 = dktX2_reaches_0 := by decide +kernel
theorem dksX2_reaches_1 : cX2_reaches.data.toList.drop 24 = dktX2_reaches_1 := dk_seg dksX2_reaches_0 24 rfl rfl
theorem dksX2_reaches_2 : cX2_reaches.data.toList.drop 46 = dktX2_reaches_2 := dk_seg dksX2_reaches_1 22 rfl rfl
theorem dX2_reaches_0 : decode cX2_reaches 0 = .ok (.aload_n 0, 1) := dk_42 (dk_at dksX2_reaches_0 0 rfl rfl)
theorem dX2_reaches_1 : decode cX2_reaches 1 = .ok (.iload_n 1, 1) := dk_27 (dk_at dksX2_reaches_0 1 rfl rfl)
theorem dX2_reaches_2 : decode cX2_reaches 2 = .ok (.invokevirtual 98, 3) := dk_182 0 98 (dk_at dksX2_reaches_0 2 rfl rfl)
theorem dX2_reaches_5 : decode cX2_reaches 5 = .ok (.istore_n 2, 1) := dk_61 (dk_at dksX2_reaches_0 5 rfl rfl)
theorem dX2_reaches_6 : decode cX2_reaches 6 = .ok (.iconst 0, 1) := dk_3 (dk_at dksX2_reaches_0 6 rfl rfl)
theorem dX2_reaches_7 : decode cX2_reaches 7 = .ok (.istore_n 3, 1) := dk_62 (dk_at dksX2_reaches_0 7 rfl rfl)
theorem dX2_reaches_8 : decode cX2_reaches 8 = .ok (.iload_n 2, 1) := dk_28 (dk_at dksX2_reaches_0 8 rfl rfl)
theorem dX2_reaches_9 : decode cX2_reaches 9 = .ok (.iload_n 3, 1) := dk_29 (dk_at dksX2_reaches_0 9 rfl rfl)
theorem dX2_reaches_10 : decode cX2_reaches 10 = .ok (.if_icmp .eq 44, 3) := dk_159 0 44 (dk_at dksX2_reaches_0 10 rfl rfl)
theorem dX2_reaches_13 : decode cX2_reaches 13 = .ok (.iconst 0, 1) := dk_3 (dk_at dksX2_reaches_0 13 rfl rfl)
theorem dX2_reaches_14 : decode cX2_reaches 14 = .ok (.istore 4, 2) := dk_54 4 (dk_at dksX2_reaches_0 14 rfl rfl)
theorem dX2_reaches_16 : decode cX2_reaches 16 = .ok (.iload_n 2, 1) := dk_28 (dk_at dksX2_reaches_0 16 rfl rfl)
theorem dX2_reaches_17 : decode cX2_reaches 17 = .ok (.iload_n 3, 1) := dk_29 (dk_at dksX2_reaches_0 17 rfl rfl)
theorem dX2_reaches_18 : decode cX2_reaches 18 = .ok (.iconst (-1), 1) := dk_2 (dk_at dksX2_reaches_0 18 rfl rfl)
theorem dX2_reaches_19 : decode cX2_reaches 19 = .ok (.ixor, 1) := dk_130 (dk_at dksX2_reaches_0 19 rfl rfl)
theorem dX2_reaches_20 : decode cX2_reaches 20 = .ok (.iand, 1) := dk_126 (dk_at dksX2_reaches_0 20 rfl rfl)
theorem dX2_reaches_21 : decode cX2_reaches 21 = .ok (.iload 4, 2) := dk_21 4 (dk_at dksX2_reaches_0 21 rfl rfl)
theorem dX2_reaches_23 : decode cX2_reaches 23 = .ok (.ishr, 1) := dk_122 (dk_at dksX2_reaches_0 23 rfl rfl)
theorem dX2_reaches_24 : decode cX2_reaches 24 = .ok (.iconst 1, 1) := dk_4 (dk_at dksX2_reaches_1 0 rfl rfl)
theorem dX2_reaches_25 : decode cX2_reaches 25 = .ok (.iand, 1) := dk_126 (dk_at dksX2_reaches_1 1 rfl rfl)
theorem dX2_reaches_26 : decode cX2_reaches 26 = .ok (.ifCond .ne 9, 3) := dk_154 0 9 (dk_at dksX2_reaches_1 2 rfl rfl)
theorem dX2_reaches_29 : decode cX2_reaches 29 = .ok (.iinc 4 1, 3) := dk_132 4 1 (dk_at dksX2_reaches_1 5 rfl rfl)
theorem dX2_reaches_32 : decode cX2_reaches 32 = .ok (.goto (-16), 3) := dk_167 255 240 (dk_at dksX2_reaches_1 8 rfl rfl)
theorem dX2_reaches_35 : decode cX2_reaches 35 = .ok (.iload_n 3, 1) := dk_29 (dk_at dksX2_reaches_1 11 rfl rfl)
theorem dX2_reaches_36 : decode cX2_reaches 36 = .ok (.iconst 1, 1) := dk_4 (dk_at dksX2_reaches_1 12 rfl rfl)
theorem dX2_reaches_37 : decode cX2_reaches 37 = .ok (.iload 4, 2) := dk_21 4 (dk_at dksX2_reaches_1 13 rfl rfl)
theorem dX2_reaches_39 : decode cX2_reaches 39 = .ok (.ishl, 1) := dk_120 (dk_at dksX2_reaches_1 15 rfl rfl)
theorem dX2_reaches_40 : decode cX2_reaches 40 = .ok (.ior, 1) := dk_128 (dk_at dksX2_reaches_1 16 rfl rfl)
theorem dX2_reaches_41 : decode cX2_reaches 41 = .ok (.istore_n 3, 1) := dk_62 (dk_at dksX2_reaches_1 17 rfl rfl)
theorem dX2_reaches_42 : decode cX2_reaches 42 = .ok (.iload_n 2, 1) := dk_28 (dk_at dksX2_reaches_1 18 rfl rfl)
theorem dX2_reaches_43 : decode cX2_reaches 43 = .ok (.aload_n 0, 1) := dk_42 (dk_at dksX2_reaches_1 19 rfl rfl)
theorem dX2_reaches_44 : decode cX2_reaches 44 = .ok (.iload 4, 2) := dk_21 4 (dk_at dksX2_reaches_1 20 rfl rfl)
theorem dX2_reaches_46 : decode cX2_reaches 46 = .ok (.invokevirtual 98, 3) := dk_182 0 98 (dk_at dksX2_reaches_2 0 rfl rfl)
theorem dX2_reaches_49 : decode cX2_reaches 49 = .ok (.ior, 1) := dk_128 (dk_at dksX2_reaches_2 3 rfl rfl)
theorem dX2_reaches_50 : decode cX2_reaches 50 = .ok (.istore_n 2, 1) := dk_61 (dk_at dksX2_reaches_2 4 rfl rfl)
theorem dX2_reaches_51 : decode cX2_reaches 51 = .ok (.goto (-43), 3) := dk_167 255 213 (dk_at dksX2_reaches_2 5 rfl rfl)
theorem dX2_reaches_54 : decode cX2_reaches 54 = .ok (.iload_n 2, 1) := dk_28 (dk_at dksX2_reaches_2 8 rfl rfl)
theorem dX2_reaches_55 : decode cX2_reaches 55 = .ok (.ireturn, 1) := dk_172 (dk_at dksX2_reaches_2 9 rfl rfl)
abbrev cX2_waitsFor : ByteArray := prog_12_method_21_code
def yX2_waitsFor : MethodName := ⟨RX2, "waitsFor", "(I)I"⟩
def dkwX2_waitsFor_5 : List UInt8 := [172]
abbrev dktX2_waitsFor_5 : List UInt8 := dkwX2_waitsFor_5 ++ []
def dkwX2_waitsFor_4 : List UInt8 := [159, 0, 23, 29, 4, 42, 28, 6, 21, 4, 96, 182, 0, 82, 120, 128, 62, 132, 4, 1, 167, 255, 226, 29]
abbrev dktX2_waitsFor_4 : List UInt8 := dkwX2_waitsFor_4 ++ dktX2_waitsFor_5
def dkwX2_waitsFor_3 : List UInt8 := [120, 128, 62, 132, 4, 1, 167, 255, 197, 3, 54, 4, 42, 28, 6, 21, 4, 96, 182, 0, 82, 27]
abbrev dktX2_waitsFor_3 : List UInt8 := dkwX2_waitsFor_3 ++ dktX2_waitsFor_4
def dkwX2_waitsFor_2 : List UInt8 := [21, 4, 28, 182, 0, 76, 4, 160, 0, 20, 42, 27, 5, 182, 0, 57, 5, 160, 0, 10, 29, 4, 21, 4]
abbrev dktX2_waitsFor_2 : List UInt8 := dkwX2_waitsFor_2 ++ dktX2_waitsFor_3
def dkwX2_waitsFor_1 : List UInt8 := [3, 46, 162, 0, 54, 21, 4, 27, 159, 0, 42, 42, 21, 4, 28, 182, 0, 76, 5, 159, 0, 24, 42]
abbrev dktX2_waitsFor_1 : List UInt8 := dkwX2_waitsFor_1 ++ dktX2_waitsFor_2
def dkwX2_waitsFor_0 : List UInt8 := [42, 27, 4, 182, 0, 57, 61, 3, 62, 28, 156, 0, 5, 3, 172, 3, 54, 4, 21, 4, 42, 180, 0, 7]
abbrev dktX2_waitsFor_0 : List UInt8 := dkwX2_waitsFor_0 ++ dktX2_waitsFor_1
theorem dksX2_waitsFor_0 : cX2_waitsFor.data.toList.drop 0 = dktX2_waitsFor_0 := by decide +kernel
theorem dksX2_waitsFor_1 : cX2_waitsFor.data.toList.drop 24 = dktX2_waitsFor_1 := dk_seg dksX2_waitsFor_0 24 rfl rfl
theorem dksX2_waitsFor_2 : cX2_waitsFor.data.toList.drop 47 = dktX2_waitsFor_2 := dk_seg dksX2_waitsFor_1 23 rfl rfl
theorem dksX2_waitsFor_3 : cX2_waitsFor.data.toList.drop 71 = dktX2_waitsFor_3 := dk_seg dksX2_waitsFor_2 24 rfl rfl
theorem dksX2_waitsFor_4 : cX2_waitsFor.data.toList.drop 93 = dktX2_waitsFor_4 := dk_seg dksX2_waitsFor_3 22 rfl rfl
theorem dksX2_waitsFor_5 : cX2_waitsFor.data.toList.drop 117 = dktX2_waitsFor_5 := dk_seg dksX2_waitsFor_4 24 rfl rfl
theorem dX2_waitsFor_0 : decode cX2_waitsFor 0 = .ok (.aload_n 0, 1) := dk_42 (dk_at dksX2_waitsFor_0 0 rfl rfl)
theorem dX2_waitsFor_1 : decode cX2_waitsFor 1 = .ok (.iload_n 1, 1) := dk_27 (dk_at dksX2_waitsFor_0 1 rfl rfl)
theorem dX2_waitsFor_2 : decode cX2_waitsFor 2 = .ok (.iconst 1, 1) := dk_4 (dk_at dksX2_waitsFor_0 2 rfl rfl)
theorem dX2_waitsFor_3 : decode cX2_waitsFor 3 = .ok (.invokevirtual 57, 3) := dk_182 0 57 (dk_at dksX2_waitsFor_0 3 rfl rfl)
theorem dX2_waitsFor_6 : decode cX2_waitsFor 6 = .ok (.istore_n 2, 1) := dk_61 (dk_at dksX2_waitsFor_0 6 rfl rfl)
theorem dX2_waitsFor_7 : decode cX2_waitsFor 7 = .ok (.iconst 0, 1) := dk_3 (dk_at dksX2_waitsFor_0 7 rfl rfl)
theorem dX2_waitsFor_8 : decode cX2_waitsFor 8 = .ok (.istore_n 3, 1) := dk_62 (dk_at dksX2_waitsFor_0 8 rfl rfl)
theorem dX2_waitsFor_9 : decode cX2_waitsFor 9 = .ok (.iload_n 2, 1) := dk_28 (dk_at dksX2_waitsFor_0 9 rfl rfl)
theorem dX2_waitsFor_10 : decode cX2_waitsFor 10 = .ok (.ifCond .ge 5, 3) := dk_156 0 5 (dk_at dksX2_waitsFor_0 10 rfl rfl)
theorem dX2_waitsFor_13 : decode cX2_waitsFor 13 = .ok (.iconst 0, 1) := dk_3 (dk_at dksX2_waitsFor_0 13 rfl rfl)
theorem dX2_waitsFor_14 : decode cX2_waitsFor 14 = .ok (.ireturn, 1) := dk_172 (dk_at dksX2_waitsFor_0 14 rfl rfl)
theorem dX2_waitsFor_15 : decode cX2_waitsFor 15 = .ok (.iconst 0, 1) := dk_3 (dk_at dksX2_waitsFor_0 15 rfl rfl)
theorem dX2_waitsFor_16 : decode cX2_waitsFor 16 = .ok (.istore 4, 2) := dk_54 4 (dk_at dksX2_waitsFor_0 16 rfl rfl)
theorem dX2_waitsFor_18 : decode cX2_waitsFor 18 = .ok (.iload 4, 2) := dk_21 4 (dk_at dksX2_waitsFor_0 18 rfl rfl)
theorem dX2_waitsFor_20 : decode cX2_waitsFor 20 = .ok (.aload_n 0, 1) := dk_42 (dk_at dksX2_waitsFor_0 20 rfl rfl)
theorem dX2_waitsFor_21 : decode cX2_waitsFor 21 = .ok (.getfield 7, 3) := dk_180 0 7 (dk_at dksX2_waitsFor_0 21 rfl rfl)
theorem dX2_waitsFor_24 : decode cX2_waitsFor 24 = .ok (.iconst 0, 1) := dk_3 (dk_at dksX2_waitsFor_1 0 rfl rfl)
theorem dX2_waitsFor_25 : decode cX2_waitsFor 25 = .ok (.iaload, 1) := dk_46 (dk_at dksX2_waitsFor_1 1 rfl rfl)
theorem dX2_waitsFor_26 : decode cX2_waitsFor 26 = .ok (.if_icmp .ge 54, 3) := dk_162 0 54 (dk_at dksX2_waitsFor_1 2 rfl rfl)
theorem dX2_waitsFor_29 : decode cX2_waitsFor 29 = .ok (.iload 4, 2) := dk_21 4 (dk_at dksX2_waitsFor_1 5 rfl rfl)
theorem dX2_waitsFor_31 : decode cX2_waitsFor 31 = .ok (.iload_n 1, 1) := dk_27 (dk_at dksX2_waitsFor_1 7 rfl rfl)
theorem dX2_waitsFor_32 : decode cX2_waitsFor 32 = .ok (.if_icmp .eq 42, 3) := dk_159 0 42 (dk_at dksX2_waitsFor_1 8 rfl rfl)
theorem dX2_waitsFor_35 : decode cX2_waitsFor 35 = .ok (.aload_n 0, 1) := dk_42 (dk_at dksX2_waitsFor_1 11 rfl rfl)
theorem dX2_waitsFor_36 : decode cX2_waitsFor 36 = .ok (.iload 4, 2) := dk_21 4 (dk_at dksX2_waitsFor_1 12 rfl rfl)
theorem dX2_waitsFor_38 : decode cX2_waitsFor 38 = .ok (.iload_n 2, 1) := dk_28 (dk_at dksX2_waitsFor_1 14 rfl rfl)
theorem dX2_waitsFor_39 : decode cX2_waitsFor 39 = .ok (.invokevirtual 76, 3) := dk_182 0 76 (dk_at dksX2_waitsFor_1 15 rfl rfl)
theorem dX2_waitsFor_42 : decode cX2_waitsFor 42 = .ok (.iconst 2, 1) := dk_5 (dk_at dksX2_waitsFor_1 18 rfl rfl)
theorem dX2_waitsFor_43 : decode cX2_waitsFor 43 = .ok (.if_icmp .eq 24, 3) := dk_159 0 24 (dk_at dksX2_waitsFor_1 19 rfl rfl)
theorem dX2_waitsFor_46 : decode cX2_waitsFor 46 = .ok (.aload_n 0, 1) := dk_42 (dk_at dksX2_waitsFor_1 22 rfl rfl)
theorem dX2_waitsFor_47 : decode cX2_waitsFor 47 = .ok (.iload 4, 2) := dk_21 4 (dk_at dksX2_waitsFor_2 0 rfl rfl)
theorem dX2_waitsFor_49 : decode cX2_waitsFor 49 = .ok (.iload_n 2, 1) := dk_28 (dk_at dksX2_waitsFor_2 2 rfl rfl)
theorem dX2_waitsFor_50 : decode cX2_waitsFor 50 = .ok (.invokevirtual 76, 3) := dk_182 0 76 (dk_at dksX2_waitsFor_2 3 rfl rfl)
theorem dX2_waitsFor_53 : decode cX2_waitsFor 53 = .ok (.iconst 1, 1) := dk_4 (dk_at dksX2_waitsFor_2 6 rfl rfl)
theorem dX2_waitsFor_54 : decode cX2_waitsFor 54 = .ok (.if_icmp .ne 20, 3) := dk_160 0 20 (dk_at dksX2_waitsFor_2 7 rfl rfl)
theorem dX2_waitsFor_57 : decode cX2_waitsFor 57 = .ok (.aload_n 0, 1) := dk_42 (dk_at dksX2_waitsFor_2 10 rfl rfl)
theorem dX2_waitsFor_58 : decode cX2_waitsFor 58 = .ok (.iload_n 1, 1) := dk_27 (dk_at dksX2_waitsFor_2 11 rfl rfl)
theorem dX2_waitsFor_59 : decode cX2_waitsFor 59 = .ok (.iconst 2, 1) := dk_5 (dk_at dksX2_waitsFor_2 12 rfl rfl)
theorem dX2_waitsFor_60 : decode cX2_waitsFor 60 = .ok (.invokevirtual 57, 3) := dk_182 0 57 (dk_at dksX2_waitsFor_2 13 rfl rfl)
theorem dX2_waitsFor_63 : decode cX2_waitsFor 63 = .ok (.iconst 2, 1) := dk_5 (dk_at dksX2_waitsFor_2 16 rfl rfl)
theorem dX2_waitsFor_64 : decode cX2_waitsFor 64 = .ok (.if_icmp .ne 10, 3) := dk_160 0 10 (dk_at dksX2_waitsFor_2 17 rfl rfl)
theorem dX2_waitsFor_67 : decode cX2_waitsFor 67 = .ok (.iload_n 3, 1) := dk_29 (dk_at dksX2_waitsFor_2 20 rfl rfl)
theorem dX2_waitsFor_68 : decode cX2_waitsFor 68 = .ok (.iconst 1, 1) := dk_4 (dk_at dksX2_waitsFor_2 21 rfl rfl)
theorem dX2_waitsFor_69 : decode cX2_waitsFor 69 = .ok (.iload 4, 2) := dk_21 4 (dk_at dksX2_waitsFor_2 22 rfl rfl)
theorem dX2_waitsFor_71 : decode cX2_waitsFor 71 = .ok (.ishl, 1) := dk_120 (dk_at dksX2_waitsFor_3 0 rfl rfl)
theorem dX2_waitsFor_72 : decode cX2_waitsFor 72 = .ok (.ior, 1) := dk_128 (dk_at dksX2_waitsFor_3 1 rfl rfl)
theorem dX2_waitsFor_73 : decode cX2_waitsFor 73 = .ok (.istore_n 3, 1) := dk_62 (dk_at dksX2_waitsFor_3 2 rfl rfl)
theorem dX2_waitsFor_74 : decode cX2_waitsFor 74 = .ok (.iinc 4 1, 3) := dk_132 4 1 (dk_at dksX2_waitsFor_3 3 rfl rfl)
theorem dX2_waitsFor_77 : decode cX2_waitsFor 77 = .ok (.goto (-59), 3) := dk_167 255 197 (dk_at dksX2_waitsFor_3 6 rfl rfl)
theorem dX2_waitsFor_80 : decode cX2_waitsFor 80 = .ok (.iconst 0, 1) := dk_3 (dk_at dksX2_waitsFor_3 9 rfl rfl)
theorem dX2_waitsFor_81 : decode cX2_waitsFor 81 = .ok (.istore 4, 2) := dk_54 4 (dk_at dksX2_waitsFor_3 10 rfl rfl)
theorem dX2_waitsFor_83 : decode cX2_waitsFor 83 = .ok (.aload_n 0, 1) := dk_42 (dk_at dksX2_waitsFor_3 12 rfl rfl)
theorem dX2_waitsFor_84 : decode cX2_waitsFor 84 = .ok (.iload_n 2, 1) := dk_28 (dk_at dksX2_waitsFor_3 13 rfl rfl)
theorem dX2_waitsFor_85 : decode cX2_waitsFor 85 = .ok (.iconst 3, 1) := dk_6 (dk_at dksX2_waitsFor_3 14 rfl rfl)
theorem dX2_waitsFor_86 : decode cX2_waitsFor 86 = .ok (.iload 4, 2) := dk_21 4 (dk_at dksX2_waitsFor_3 15 rfl rfl)
theorem dX2_waitsFor_88 : decode cX2_waitsFor 88 = .ok (.iadd, 1) := dk_96 (dk_at dksX2_waitsFor_3 17 rfl rfl)
theorem dX2_waitsFor_89 : decode cX2_waitsFor 89 = .ok (.invokevirtual 82, 3) := dk_182 0 82 (dk_at dksX2_waitsFor_3 18 rfl rfl)
theorem dX2_waitsFor_92 : decode cX2_waitsFor 92 = .ok (.iload_n 1, 1) := dk_27 (dk_at dksX2_waitsFor_3 21 rfl rfl)
theorem dX2_waitsFor_93 : decode cX2_waitsFor 93 = .ok (.if_icmp .eq 23, 3) := dk_159 0 23 (dk_at dksX2_waitsFor_4 0 rfl rfl)
theorem dX2_waitsFor_96 : decode cX2_waitsFor 96 = .ok (.iload_n 3, 1) := dk_29 (dk_at dksX2_waitsFor_4 3 rfl rfl)
theorem dX2_waitsFor_97 : decode cX2_waitsFor 97 = .ok (.iconst 1, 1) := dk_4 (dk_at dksX2_waitsFor_4 4 rfl rfl)
theorem dX2_waitsFor_98 : decode cX2_waitsFor 98 = .ok (.aload_n 0, 1) := dk_42 (dk_at dksX2_waitsFor_4 5 rfl rfl)
theorem dX2_waitsFor_99 : decode cX2_waitsFor 99 = .ok (.iload_n 2, 1) := dk_28 (dk_at dksX2_waitsFor_4 6 rfl rfl)
theorem dX2_waitsFor_100 : decode cX2_waitsFor 100 = .ok (.iconst 3, 1) := dk_6 (dk_at dksX2_waitsFor_4 7 rfl rfl)
theorem dX2_waitsFor_101 : decode cX2_waitsFor 101 = .ok (.iload 4, 2) := dk_21 4 (dk_at dksX2_waitsFor_4 8 rfl rfl)
theorem dX2_waitsFor_103 : decode cX2_waitsFor 103 = .ok (.iadd, 1) := dk_96 (dk_at dksX2_waitsFor_4 10 rfl rfl)
theorem dX2_waitsFor_104 : decode cX2_waitsFor 104 = .ok (.invokevirtual 82, 3) := dk_182 0 82 (dk_at dksX2_waitsFor_4 11 rfl rfl)
theorem dX2_waitsFor_107 : decode cX2_waitsFor 107 = .ok (.ishl, 1) := dk_120 (dk_at dksX2_waitsFor_4 14 rfl rfl)
theorem dX2_waitsFor_108 : decode cX2_waitsFor 108 = .ok (.ior, 1) := dk_128 (dk_at dksX2_waitsFor_4 15 rfl rfl)
theorem dX2_waitsFor_109 : decode cX2_waitsFor 109 = .ok (.istore_n 3, 1) := dk_62 (dk_at dksX2_waitsFor_4 16 rfl rfl)
theorem dX2_waitsFor_110 : decode cX2_waitsFor 110 = .ok (.iinc 4 1, 3) := dk_132 4 1 (dk_at dksX2_waitsFor_4 17 rfl rfl)
theorem dX2_waitsFor_113 : decode cX2_waitsFor 113 = .ok (.goto (-30), 3) := dk_167 255 226 (dk_at dksX2_waitsFor_4 20 rfl rfl)
theorem dX2_waitsFor_116 : decode cX2_waitsFor 116 = .ok (.iload_n 3, 1) := dk_29 (dk_at dksX2_waitsFor_4 23 rfl rfl)
theorem dX2_waitsFor_117 : decode cX2_waitsFor 117 = .ok (.ireturn, 1) := dk_172 (dk_at dksX2_waitsFor_5 0 rfl rfl)
abbrev cX2_letsAll : ByteArray := prog_12_method_24_code
def yX2_letsAll : MethodName := ⟨RX2, "letsAll", "(I)I"⟩
def dkwX2_letsAll_5 : List UInt8 := [172]
abbrev dktX2_letsAll_5 : List UInt8 := dkwX2_letsAll_5 ++ []
def dkwX2_letsAll_4 : List UInt8 := [126, 4, 160, 0, 14, 21, 4, 42, 21, 5, 182, 0, 105, 96, 54, 4, 132, 5, 1, 167, 255, 225, 21, 4]
abbrev dktX2_letsAll_4 : List UInt8 := dkwX2_letsAll_4 ++ dktX2_letsAll_5
def dkwX2_letsAll_3 : List UInt8 := [182, 0, 105, 167, 0, 4, 3, 54, 4, 3, 54, 5, 21, 5, 16, 8, 162, 0, 30, 29, 21, 5, 122, 4]
abbrev dktX2_letsAll_3 : List UInt8 := dkwX2_letsAll_3 ++ dktX2_letsAll_4
def dkwX2_letsAll_2 : List UInt8 := [128, 62, 42, 27, 21, 4, 3, 182, 0, 79, 132, 4, 1, 167, 255, 217, 28, 155, 0, 11, 42, 28]
abbrev dktX2_letsAll_2 : List UInt8 := dkwX2_letsAll_2 ++ dktX2_letsAll_3
def dkwX2_letsAll_1 : List UInt8 := [16, 8, 162, 0, 38, 29, 42, 27, 21, 4, 182, 0, 76, 158, 0, 10, 4, 21, 4, 120, 167, 0, 4, 3]
abbrev dktX2_letsAll_1 : List UInt8 := dkwX2_letsAll_1 ++ dktX2_letsAll_2
def dkwX2_letsAll_0 : List UInt8 := [42, 27, 4, 182, 0, 57, 61, 3, 62, 28, 155, 0, 8, 42, 27, 182, 0, 91, 3, 54, 4, 21, 4]
abbrev dktX2_letsAll_0 : List UInt8 := dkwX2_letsAll_0 ++ dktX2_letsAll_1
theorem dksX2_letsAll_0 : cX2_letsAll.data.toList.drop 0 = dktX2_letsAll_0 := by decide +kernel
theorem dksX2_letsAll_1 : cX2_letsAll.data.toList.drop 23 = dktX2_letsAll_1 := dk_seg dksX2_letsAll_0 23 rfl rfl
theorem dksX2_letsAll_2 : cX2_letsAll.data.toList.drop 47 = dktX2_letsAll_2 := dk_seg dksX2_letsAll_1 24 rfl rfl
theorem dksX2_letsAll_3 : cX2_letsAll.data.toList.drop 69 = dktX2_letsAll_3 := dk_seg dksX2_letsAll_2 22 rfl rfl
theorem dksX2_letsAll_4 : cX2_letsAll.data.toList.drop 93 = dktX2_letsAll_4 := dk_seg dksX2_letsAll_3 24 rfl rfl
theorem dksX2_letsAll_5 : cX2_letsAll.data.toList.drop 117 = dktX2_letsAll_5 := dk_seg dksX2_letsAll_4 24 rfl rfl
theorem dX2_letsAll_0 : decode cX2_letsAll 0 = .ok (.aload_n 0, 1) := dk_42 (dk_at dksX2_letsAll_0 0 rfl rfl)
theorem dX2_letsAll_1 : decode cX2_letsAll 1 = .ok (.iload_n 1, 1) := dk_27 (dk_at dksX2_letsAll_0 1 rfl rfl)
theorem dX2_letsAll_2 : decode cX2_letsAll 2 = .ok (.iconst 1, 1) := dk_4 (dk_at dksX2_letsAll_0 2 rfl rfl)
theorem dX2_letsAll_3 : decode cX2_letsAll 3 = .ok (.invokevirtual 57, 3) := dk_182 0 57 (dk_at dksX2_letsAll_0 3 rfl rfl)
theorem dX2_letsAll_6 : decode cX2_letsAll 6 = .ok (.istore_n 2, 1) := dk_61 (dk_at dksX2_letsAll_0 6 rfl rfl)
theorem dX2_letsAll_7 : decode cX2_letsAll 7 = .ok (.iconst 0, 1) := dk_3 (dk_at dksX2_letsAll_0 7 rfl rfl)
theorem dX2_letsAll_8 : decode cX2_letsAll 8 = .ok (.istore_n 3, 1) := dk_62 (dk_at dksX2_letsAll_0 8 rfl rfl)
theorem dX2_letsAll_9 : decode cX2_letsAll 9 = .ok (.iload_n 2, 1) := dk_28 (dk_at dksX2_letsAll_0 9 rfl rfl)
theorem dX2_letsAll_10 : decode cX2_letsAll 10 = .ok (.ifCond .lt 8, 3) := dk_155 0 8 (dk_at dksX2_letsAll_0 10 rfl rfl)
theorem dX2_letsAll_13 : decode cX2_letsAll 13 = .ok (.aload_n 0, 1) := dk_42 (dk_at dksX2_letsAll_0 13 rfl rfl)
theorem dX2_letsAll_14 : decode cX2_letsAll 14 = .ok (.iload_n 1, 1) := dk_27 (dk_at dksX2_letsAll_0 14 rfl rfl)
theorem dX2_letsAll_15 : decode cX2_letsAll 15 = .ok (.invokevirtual 91, 3) := dk_182 0 91 (dk_at dksX2_letsAll_0 15 rfl rfl)
theorem dX2_letsAll_18 : decode cX2_letsAll 18 = .ok (.iconst 0, 1) := dk_3 (dk_at dksX2_letsAll_0 18 rfl rfl)
theorem dX2_letsAll_19 : decode cX2_letsAll 19 = .ok (.istore 4, 2) := dk_54 4 (dk_at dksX2_letsAll_0 19 rfl rfl)
theorem dX2_letsAll_21 : decode cX2_letsAll 21 = .ok (.iload 4, 2) := dk_21 4 (dk_at dksX2_letsAll_0 21 rfl rfl)
theorem dX2_letsAll_23 : decode cX2_letsAll 23 = .ok (.bipush 8, 2) := dk_16 8 (dk_at dksX2_letsAll_1 0 rfl rfl)
theorem dX2_letsAll_25 : decode cX2_letsAll 25 = .ok (.if_icmp .ge 38, 3) := dk_162 0 38 (dk_at dksX2_letsAll_1 2 rfl rfl)
theorem dX2_letsAll_28 : decode cX2_letsAll 28 = .ok (.iload_n 3, 1) := dk_29 (dk_at dksX2_letsAll_1 5 rfl rfl)
theorem dX2_letsAll_29 : decode cX2_letsAll 29 = .ok (.aload_n 0, 1) := dk_42 (dk_at dksX2_letsAll_1 6 rfl rfl)
theorem dX2_letsAll_30 : decode cX2_letsAll 30 = .ok (.iload_n 1, 1) := dk_27 (dk_at dksX2_letsAll_1 7 rfl rfl)
theorem dX2_letsAll_31 : decode cX2_letsAll 31 = .ok (.iload 4, 2) := dk_21 4 (dk_at dksX2_letsAll_1 8 rfl rfl)
theorem dX2_letsAll_33 : decode cX2_letsAll 33 = .ok (.invokevirtual 76, 3) := dk_182 0 76 (dk_at dksX2_letsAll_1 10 rfl rfl)
theorem dX2_letsAll_36 : decode cX2_letsAll 36 = .ok (.ifCond .le 10, 3) := dk_158 0 10 (dk_at dksX2_letsAll_1 13 rfl rfl)
theorem dX2_letsAll_39 : decode cX2_letsAll 39 = .ok (.iconst 1, 1) := dk_4 (dk_at dksX2_letsAll_1 16 rfl rfl)
theorem dX2_letsAll_40 : decode cX2_letsAll 40 = .ok (.iload 4, 2) := dk_21 4 (dk_at dksX2_letsAll_1 17 rfl rfl)
theorem dX2_letsAll_42 : decode cX2_letsAll 42 = .ok (.ishl, 1) := dk_120 (dk_at dksX2_letsAll_1 19 rfl rfl)
theorem dX2_letsAll_43 : decode cX2_letsAll 43 = .ok (.goto 4, 3) := dk_167 0 4 (dk_at dksX2_letsAll_1 20 rfl rfl)
theorem dX2_letsAll_46 : decode cX2_letsAll 46 = .ok (.iconst 0, 1) := dk_3 (dk_at dksX2_letsAll_1 23 rfl rfl)
theorem dX2_letsAll_47 : decode cX2_letsAll 47 = .ok (.ior, 1) := dk_128 (dk_at dksX2_letsAll_2 0 rfl rfl)
theorem dX2_letsAll_48 : decode cX2_letsAll 48 = .ok (.istore_n 3, 1) := dk_62 (dk_at dksX2_letsAll_2 1 rfl rfl)
theorem dX2_letsAll_49 : decode cX2_letsAll 49 = .ok (.aload_n 0, 1) := dk_42 (dk_at dksX2_letsAll_2 2 rfl rfl)
theorem dX2_letsAll_50 : decode cX2_letsAll 50 = .ok (.iload_n 1, 1) := dk_27 (dk_at dksX2_letsAll_2 3 rfl rfl)
theorem dX2_letsAll_51 : decode cX2_letsAll 51 = .ok (.iload 4, 2) := dk_21 4 (dk_at dksX2_letsAll_2 4 rfl rfl)
theorem dX2_letsAll_53 : decode cX2_letsAll 53 = .ok (.iconst 0, 1) := dk_3 (dk_at dksX2_letsAll_2 6 rfl rfl)
theorem dX2_letsAll_54 : decode cX2_letsAll 54 = .ok (.invokevirtual 79, 3) := dk_182 0 79 (dk_at dksX2_letsAll_2 7 rfl rfl)
theorem dX2_letsAll_57 : decode cX2_letsAll 57 = .ok (.iinc 4 1, 3) := dk_132 4 1 (dk_at dksX2_letsAll_2 10 rfl rfl)
theorem dX2_letsAll_60 : decode cX2_letsAll 60 = .ok (.goto (-39), 3) := dk_167 255 217 (dk_at dksX2_letsAll_2 13 rfl rfl)
theorem dX2_letsAll_63 : decode cX2_letsAll 63 = .ok (.iload_n 2, 1) := dk_28 (dk_at dksX2_letsAll_2 16 rfl rfl)
theorem dX2_letsAll_64 : decode cX2_letsAll 64 = .ok (.ifCond .lt 11, 3) := dk_155 0 11 (dk_at dksX2_letsAll_2 17 rfl rfl)
theorem dX2_letsAll_67 : decode cX2_letsAll 67 = .ok (.aload_n 0, 1) := dk_42 (dk_at dksX2_letsAll_2 20 rfl rfl)
theorem dX2_letsAll_68 : decode cX2_letsAll 68 = .ok (.iload_n 2, 1) := dk_28 (dk_at dksX2_letsAll_2 21 rfl rfl)
theorem dX2_letsAll_69 : decode cX2_letsAll 69 = .ok (.invokevirtual 105, 3) := dk_182 0 105 (dk_at dksX2_letsAll_3 0 rfl rfl)
theorem dX2_letsAll_72 : decode cX2_letsAll 72 = .ok (.goto 4, 3) := dk_167 0 4 (dk_at dksX2_letsAll_3 3 rfl rfl)
theorem dX2_letsAll_75 : decode cX2_letsAll 75 = .ok (.iconst 0, 1) := dk_3 (dk_at dksX2_letsAll_3 6 rfl rfl)
theorem dX2_letsAll_76 : decode cX2_letsAll 76 = .ok (.istore 4, 2) := dk_54 4 (dk_at dksX2_letsAll_3 7 rfl rfl)
theorem dX2_letsAll_78 : decode cX2_letsAll 78 = .ok (.iconst 0, 1) := dk_3 (dk_at dksX2_letsAll_3 9 rfl rfl)
theorem dX2_letsAll_79 : decode cX2_letsAll 79 = .ok (.istore 5, 2) := dk_54 5 (dk_at dksX2_letsAll_3 10 rfl rfl)
theorem dX2_letsAll_81 : decode cX2_letsAll 81 = .ok (.iload 5, 2) := dk_21 5 (dk_at dksX2_letsAll_3 12 rfl rfl)
theorem dX2_letsAll_83 : decode cX2_letsAll 83 = .ok (.bipush 8, 2) := dk_16 8 (dk_at dksX2_letsAll_3 14 rfl rfl)
theorem dX2_letsAll_85 : decode cX2_letsAll 85 = .ok (.if_icmp .ge 30, 3) := dk_162 0 30 (dk_at dksX2_letsAll_3 16 rfl rfl)
theorem dX2_letsAll_88 : decode cX2_letsAll 88 = .ok (.iload_n 3, 1) := dk_29 (dk_at dksX2_letsAll_3 19 rfl rfl)
theorem dX2_letsAll_89 : decode cX2_letsAll 89 = .ok (.iload 5, 2) := dk_21 5 (dk_at dksX2_letsAll_3 20 rfl rfl)
theorem dX2_letsAll_91 : decode cX2_letsAll 91 = .ok (.ishr, 1) := dk_122 (dk_at dksX2_letsAll_3 22 rfl rfl)
theorem dX2_letsAll_92 : decode cX2_letsAll 92 = .ok (.iconst 1, 1) := dk_4 (dk_at dksX2_letsAll_3 23 rfl rfl)
theorem dX2_letsAll_93 : decode cX2_letsAll 93 = .ok (.iand, 1) := dk_126 (dk_at dksX2_letsAll_4 0 rfl rfl)
theorem dX2_letsAll_94 : decode cX2_letsAll 94 = .ok (.iconst 1, 1) := dk_4 (dk_at dksX2_letsAll_4 1 rfl rfl)
theorem dX2_letsAll_95 : decode cX2_letsAll 95 = .ok (.if_icmp .ne 14, 3) := dk_160 0 14 (dk_at dksX2_letsAll_4 2 rfl rfl)
theorem dX2_letsAll_98 : decode cX2_letsAll 98 = .ok (.iload 4, 2) := dk_21 4 (dk_at dksX2_letsAll_4 5 rfl rfl)
theorem dX2_letsAll_100 : decode cX2_letsAll 100 = .ok (.aload_n 0, 1) := dk_42 (dk_at dksX2_letsAll_4 7 rfl rfl)
theorem dX2_letsAll_101 : decode cX2_letsAll 101 = .ok (.iload 5, 2) := dk_21 5 (dk_at dksX2_letsAll_4 8 rfl rfl)
theorem dX2_letsAll_103 : decode cX2_letsAll 103 = .ok (.invokevirtual 105, 3) := dk_182 0 105 (dk_at dksX2_letsAll_4 10 rfl rfl)
theorem dX2_letsAll_106 : decode cX2_letsAll 106 = .ok (.iadd, 1) := dk_96 (dk_at dksX2_letsAll_4 13 rfl rfl)
theorem dX2_letsAll_107 : decode cX2_letsAll 107 = .ok (.istore 4, 2) := dk_54 4 (dk_at dksX2_letsAll_4 14 rfl rfl)
theorem dX2_letsAll_109 : decode cX2_letsAll 109 = .ok (.iinc 5 1, 3) := dk_132 5 1 (dk_at dksX2_letsAll_4 16 rfl rfl)
theorem dX2_letsAll_112 : decode cX2_letsAll 112 = .ok (.goto (-31), 3) := dk_167 255 225 (dk_at dksX2_letsAll_4 19 rfl rfl)
theorem dX2_letsAll_115 : decode cX2_letsAll 115 = .ok (.iload 4, 2) := dk_21 4 (dk_at dksX2_letsAll_4 22 rfl rfl)
theorem dX2_letsAll_117 : decode cX2_letsAll 117 = .ok (.ireturn, 1) := dk_172 (dk_at dksX2_letsAll_5 0 rfl rfl)
abbrev cX2_leaves : ByteArray := prog_12_method_18_code
def yX2_leaves : MethodName := ⟨RX2, "leaves", "(I)V"⟩
def dkwX2_leaves_4 : List UInt8 := [177]
abbrev dktX2_leaves_4 : List UInt8 := dkwX2_leaves_4 ++ []
def dkwX2_leaves_3 : List UInt8 := [182, 0, 85, 42, 28, 5, 29, 182, 0, 85, 42, 27, 4, 2, 182, 0, 72, 42, 27, 5, 3, 182, 0, 72]
abbrev dktX2_leaves_3 : List UInt8 := dkwX2_leaves_3 ++ dktX2_leaves_4
def dkwX2_leaves_2 : List UInt8 := [28, 6, 29, 96, 21, 6, 182, 0, 85, 132, 3, 1, 132, 5, 1, 167, 255, 213, 42, 28, 6, 29, 96, 3]
abbrev dktX2_leaves_2 : List UInt8 := dkwX2_leaves_2 ++ dktX2_leaves_3
def dkwX2_leaves_1 : List UInt8 := [162, 0, 42, 42, 28, 6, 21, 5, 96, 182, 0, 82, 54, 6, 21, 6, 27, 160, 0, 6, 167, 0, 16, 42]
abbrev dktX2_leaves_1 : List UInt8 := dkwX2_leaves_1 ++ dktX2_leaves_2
def dkwX2_leaves_0 : List UInt8 := [42, 27, 4, 182, 0, 57, 61, 3, 62, 42, 28, 5, 182, 0, 82, 54, 4, 3, 54, 5, 21, 5, 21, 4]
abbrev dktX2_leaves_0 : List UInt8 := dkwX2_leaves_0 ++ dktX2_leaves_1
theorem dksX2_leaves_0 : cX2_leaves.data.toList.drop 0 = dktX2_leaves_0 := by decide +kernel
theorem dksX2_leaves_1 : cX2_leaves.data.toList.drop 24 = dktX2_leaves_1 := dk_seg dksX2_leaves_0 24 rfl rfl
theorem dksX2_leaves_2 : cX2_leaves.data.toList.drop 48 = dktX2_leaves_2 := dk_seg dksX2_leaves_1 24 rfl rfl
theorem dksX2_leaves_3 : cX2_leaves.data.toList.drop 72 = dktX2_leaves_3 := dk_seg dksX2_leaves_2 24 rfl rfl
theorem dksX2_leaves_4 : cX2_leaves.data.toList.drop 96 = dktX2_leaves_4 := dk_seg dksX2_leaves_3 24 rfl rfl
theorem dX2_leaves_0 : decode cX2_leaves 0 = .ok (.aload_n 0, 1) := dk_42 (dk_at dksX2_leaves_0 0 rfl rfl)
theorem dX2_leaves_1 : decode cX2_leaves 1 = .ok (.iload_n 1, 1) := dk_27 (dk_at dksX2_leaves_0 1 rfl rfl)
theorem dX2_leaves_2 : decode cX2_leaves 2 = .ok (.iconst 1, 1) := dk_4 (dk_at dksX2_leaves_0 2 rfl rfl)
theorem dX2_leaves_3 : decode cX2_leaves 3 = .ok (.invokevirtual 57, 3) := dk_182 0 57 (dk_at dksX2_leaves_0 3 rfl rfl)
theorem dX2_leaves_6 : decode cX2_leaves 6 = .ok (.istore_n 2, 1) := dk_61 (dk_at dksX2_leaves_0 6 rfl rfl)
theorem dX2_leaves_7 : decode cX2_leaves 7 = .ok (.iconst 0, 1) := dk_3 (dk_at dksX2_leaves_0 7 rfl rfl)
theorem dX2_leaves_8 : decode cX2_leaves 8 = .ok (.istore_n 3, 1) := dk_62 (dk_at dksX2_leaves_0 8 rfl rfl)
theorem dX2_leaves_9 : decode cX2_leaves 9 = .ok (.aload_n 0, 1) := dk_42 (dk_at dksX2_leaves_0 9 rfl rfl)
theorem dX2_leaves_10 : decode cX2_leaves 10 = .ok (.iload_n 2, 1) := dk_28 (dk_at dksX2_leaves_0 10 rfl rfl)
theorem dX2_leaves_11 : decode cX2_leaves 11 = .ok (.iconst 2, 1) := dk_5 (dk_at dksX2_leaves_0 11 rfl rfl)
theorem dX2_leaves_12 : decode cX2_leaves 12 = .ok (.invokevirtual 82, 3) := dk_182 0 82 (dk_at dksX2_leaves_0 12 rfl rfl)
theorem dX2_leaves_15 : decode cX2_leaves 15 = .ok (.istore 4, 2) := dk_54 4 (dk_at dksX2_leaves_0 15 rfl rfl)
theorem dX2_leaves_17 : decode cX2_leaves 17 = .ok (.iconst 0, 1) := dk_3 (dk_at dksX2_leaves_0 17 rfl rfl)
theorem dX2_leaves_18 : decode cX2_leaves 18 = .ok (.istore 5, 2) := dk_54 5 (dk_at dksX2_leaves_0 18 rfl rfl)
theorem dX2_leaves_20 : decode cX2_leaves 20 = .ok (.iload 5, 2) := dk_21 5 (dk_at dksX2_leaves_0 20 rfl rfl)
theorem dX2_leaves_22 : decode cX2_leaves 22 = .ok (.iload 4, 2) := dk_21 4 (dk_at dksX2_leaves_0 22 rfl rfl)
theorem dX2_leaves_24 : decode cX2_leaves 24 = .ok (.if_icmp .ge 42, 3) := dk_162 0 42 (dk_at dksX2_leaves_1 0 rfl rfl)
theorem dX2_leaves_27 : decode cX2_leaves 27 = .ok (.aload_n 0, 1) := dk_42 (dk_at dksX2_leaves_1 3 rfl rfl)
theorem dX2_leaves_28 : decode cX2_leaves 28 = .ok (.iload_n 2, 1) := dk_28 (dk_at dksX2_leaves_1 4 rfl rfl)
theorem dX2_leaves_29 : decode cX2_leaves 29 = .ok (.iconst 3, 1) := dk_6 (dk_at dksX2_leaves_1 5 rfl rfl)
theorem dX2_leaves_30 : decode cX2_leaves 30 = .ok (.iload 5, 2) := dk_21 5 (dk_at dksX2_leaves_1 6 rfl rfl)
theorem dX2_leaves_32 : decode cX2_leaves 32 = .ok (.iadd, 1) := dk_96 (dk_at dksX2_leaves_1 8 rfl rfl)
theorem dX2_leaves_33 : decode cX2_leaves 33 = .ok (.invokevirtual 82, 3) := dk_182 0 82 (dk_at dksX2_leaves_1 9 rfl rfl)
theorem dX2_leaves_36 : decode cX2_leaves 36 = .ok (.istore 6, 2) := dk_54 6 (dk_at dksX2_leaves_1 12 rfl rfl)
theorem dX2_leaves_38 : decode cX2_leaves 38 = .ok (.iload 6, 2) := dk_21 6 (dk_at dksX2_leaves_1 14 rfl rfl)
theorem dX2_leaves_40 : decode cX2_leaves 40 = .ok (.iload_n 1, 1) := dk_27 (dk_at dksX2_leaves_1 16 rfl rfl)
theorem dX2_leaves_41 : decode cX2_leaves 41 = .ok (.if_icmp .ne 6, 3) := dk_160 0 6 (dk_at dksX2_leaves_1 17 rfl rfl)
theorem dX2_leaves_44 : decode cX2_leaves 44 = .ok (.goto 16, 3) := dk_167 0 16 (dk_at dksX2_leaves_1 20 rfl rfl)
theorem dX2_leaves_47 : decode cX2_leaves 47 = .ok (.aload_n 0, 1) := dk_42 (dk_at dksX2_leaves_1 23 rfl rfl)
theorem dX2_leaves_48 : decode cX2_leaves 48 = .ok (.iload_n 2, 1) := dk_28 (dk_at dksX2_leaves_2 0 rfl rfl)
theorem dX2_leaves_49 : decode cX2_leaves 49 = .ok (.iconst 3, 1) := dk_6 (dk_at dksX2_leaves_2 1 rfl rfl)
theorem dX2_leaves_50 : decode cX2_leaves 50 = .ok (.iload_n 3, 1) := dk_29 (dk_at dksX2_leaves_2 2 rfl rfl)
theorem dX2_leaves_51 : decode cX2_leaves 51 = .ok (.iadd, 1) := dk_96 (dk_at dksX2_leaves_2 3 rfl rfl)
theorem dX2_leaves_52 : decode cX2_leaves 52 = .ok (.iload 6, 2) := dk_21 6 (dk_at dksX2_leaves_2 4 rfl rfl)
theorem dX2_leaves_54 : decode cX2_leaves 54 = .ok (.invokevirtual 85, 3) := dk_182 0 85 (dk_at dksX2_leaves_2 6 rfl rfl)
theorem dX2_leaves_57 : decode cX2_leaves 57 = .ok (.iinc 3 1, 3) := dk_132 3 1 (dk_at dksX2_leaves_2 9 rfl rfl)
theorem dX2_leaves_60 : decode cX2_leaves 60 = .ok (.iinc 5 1, 3) := dk_132 5 1 (dk_at dksX2_leaves_2 12 rfl rfl)
theorem dX2_leaves_63 : decode cX2_leaves 63 = .ok (.goto (-43), 3) := dk_167 255 213 (dk_at dksX2_leaves_2 15 rfl rfl)
theorem dX2_leaves_66 : decode cX2_leaves 66 = .ok (.aload_n 0, 1) := dk_42 (dk_at dksX2_leaves_2 18 rfl rfl)
theorem dX2_leaves_67 : decode cX2_leaves 67 = .ok (.iload_n 2, 1) := dk_28 (dk_at dksX2_leaves_2 19 rfl rfl)
theorem dX2_leaves_68 : decode cX2_leaves 68 = .ok (.iconst 3, 1) := dk_6 (dk_at dksX2_leaves_2 20 rfl rfl)
theorem dX2_leaves_69 : decode cX2_leaves 69 = .ok (.iload_n 3, 1) := dk_29 (dk_at dksX2_leaves_2 21 rfl rfl)
theorem dX2_leaves_70 : decode cX2_leaves 70 = .ok (.iadd, 1) := dk_96 (dk_at dksX2_leaves_2 22 rfl rfl)
theorem dX2_leaves_71 : decode cX2_leaves 71 = .ok (.iconst 0, 1) := dk_3 (dk_at dksX2_leaves_2 23 rfl rfl)
theorem dX2_leaves_72 : decode cX2_leaves 72 = .ok (.invokevirtual 85, 3) := dk_182 0 85 (dk_at dksX2_leaves_3 0 rfl rfl)
theorem dX2_leaves_75 : decode cX2_leaves 75 = .ok (.aload_n 0, 1) := dk_42 (dk_at dksX2_leaves_3 3 rfl rfl)
theorem dX2_leaves_76 : decode cX2_leaves 76 = .ok (.iload_n 2, 1) := dk_28 (dk_at dksX2_leaves_3 4 rfl rfl)
theorem dX2_leaves_77 : decode cX2_leaves 77 = .ok (.iconst 2, 1) := dk_5 (dk_at dksX2_leaves_3 5 rfl rfl)
theorem dX2_leaves_78 : decode cX2_leaves 78 = .ok (.iload_n 3, 1) := dk_29 (dk_at dksX2_leaves_3 6 rfl rfl)
theorem dX2_leaves_79 : decode cX2_leaves 79 = .ok (.invokevirtual 85, 3) := dk_182 0 85 (dk_at dksX2_leaves_3 7 rfl rfl)
theorem dX2_leaves_82 : decode cX2_leaves 82 = .ok (.aload_n 0, 1) := dk_42 (dk_at dksX2_leaves_3 10 rfl rfl)
theorem dX2_leaves_83 : decode cX2_leaves 83 = .ok (.iload_n 1, 1) := dk_27 (dk_at dksX2_leaves_3 11 rfl rfl)
theorem dX2_leaves_84 : decode cX2_leaves 84 = .ok (.iconst 1, 1) := dk_4 (dk_at dksX2_leaves_3 12 rfl rfl)
theorem dX2_leaves_85 : decode cX2_leaves 85 = .ok (.iconst (-1), 1) := dk_2 (dk_at dksX2_leaves_3 13 rfl rfl)
theorem dX2_leaves_86 : decode cX2_leaves 86 = .ok (.invokevirtual 72, 3) := dk_182 0 72 (dk_at dksX2_leaves_3 14 rfl rfl)
theorem dX2_leaves_89 : decode cX2_leaves 89 = .ok (.aload_n 0, 1) := dk_42 (dk_at dksX2_leaves_3 17 rfl rfl)
theorem dX2_leaves_90 : decode cX2_leaves 90 = .ok (.iload_n 1, 1) := dk_27 (dk_at dksX2_leaves_3 18 rfl rfl)
theorem dX2_leaves_91 : decode cX2_leaves 91 = .ok (.iconst 2, 1) := dk_5 (dk_at dksX2_leaves_3 19 rfl rfl)
theorem dX2_leaves_92 : decode cX2_leaves 92 = .ok (.iconst 0, 1) := dk_3 (dk_at dksX2_leaves_3 20 rfl rfl)
theorem dX2_leaves_93 : decode cX2_leaves 93 = .ok (.invokevirtual 72, 3) := dk_182 0 72 (dk_at dksX2_leaves_3 21 rfl rfl)
theorem dX2_leaves_96 : decode cX2_leaves 96 = .ok (.return_, 1) := dk_177 (dk_at dksX2_leaves_4 0 rfl rfl)
abbrev cX2_gives : ByteArray := prog_12_method_19_code
def yX2_gives : MethodName := ⟨RX2, "gives", "(I)I"⟩
def dkwX2_gives_2 : List UInt8 := [21, 4, 182, 0, 95, 132, 2, 1, 167, 255, 203, 28, 172]
abbrev dktX2_gives_2 : List UInt8 := dkwX2_gives_2 ++ []
def dkwX2_gives_1 : List UInt8 := [54, 4, 42, 29, 27, 21, 4, 182, 0, 88, 154, 0, 5, 28, 172, 42, 29, 182, 0, 91, 42, 29, 27]
abbrev dktX2_gives_1 : List UInt8 := dkwX2_gives_1 ++ dktX2_gives_2
def dkwX2_gives_0 : List UInt8 := [3, 61, 42, 27, 5, 182, 0, 82, 158, 0, 50, 42, 27, 6, 182, 0, 82, 62, 42, 29, 5, 182, 0, 57]
abbrev dktX2_gives_0 : List UInt8 := dkwX2_gives_0 ++ dktX2_gives_1
theorem dksX2_gives_0 : cX2_gives.data.toList.drop 0 = dktX2_gives_0 := by decide +kernel
theorem dksX2_gives_1 : cX2_gives.data.toList.drop 24 = dktX2_gives_1 := dk_seg dksX2_gives_0 24 rfl rfl
theorem dksX2_gives_2 : cX2_gives.data.toList.drop 47 = dktX2_gives_2 := dk_seg dksX2_gives_1 23 rfl rfl
theorem dX2_gives_0 : decode cX2_gives 0 = .ok (.iconst 0, 1) := dk_3 (dk_at dksX2_gives_0 0 rfl rfl)
theorem dX2_gives_1 : decode cX2_gives 1 = .ok (.istore_n 2, 1) := dk_61 (dk_at dksX2_gives_0 1 rfl rfl)
theorem dX2_gives_2 : decode cX2_gives 2 = .ok (.aload_n 0, 1) := dk_42 (dk_at dksX2_gives_0 2 rfl rfl)
theorem dX2_gives_3 : decode cX2_gives 3 = .ok (.iload_n 1, 1) := dk_27 (dk_at dksX2_gives_0 3 rfl rfl)
theorem dX2_gives_4 : decode cX2_gives 4 = .ok (.iconst 2, 1) := dk_5 (dk_at dksX2_gives_0 4 rfl rfl)
theorem dX2_gives_5 : decode cX2_gives 5 = .ok (.invokevirtual 82, 3) := dk_182 0 82 (dk_at dksX2_gives_0 5 rfl rfl)
theorem dX2_gives_8 : decode cX2_gives 8 = .ok (.ifCond .le 50, 3) := dk_158 0 50 (dk_at dksX2_gives_0 8 rfl rfl)
theorem dX2_gives_11 : decode cX2_gives 11 = .ok (.aload_n 0, 1) := dk_42 (dk_at dksX2_gives_0 11 rfl rfl)
theorem dX2_gives_12 : decode cX2_gives 12 = .ok (.iload_n 1, 1) := dk_27 (dk_at dksX2_gives_0 12 rfl rfl)
theorem dX2_gives_13 : decode cX2_gives 13 = .ok (.iconst 3, 1) := dk_6 (dk_at dksX2_gives_0 13 rfl rfl)
theorem dX2_gives_14 : decode cX2_gives 14 = .ok (.invokevirtual 82, 3) := dk_182 0 82 (dk_at dksX2_gives_0 14 rfl rfl)
theorem dX2_gives_17 : decode cX2_gives 17 = .ok (.istore_n 3, 1) := dk_62 (dk_at dksX2_gives_0 17 rfl rfl)
theorem dX2_gives_18 : decode cX2_gives 18 = .ok (.aload_n 0, 1) := dk_42 (dk_at dksX2_gives_0 18 rfl rfl)
theorem dX2_gives_19 : decode cX2_gives 19 = .ok (.iload_n 3, 1) := dk_29 (dk_at dksX2_gives_0 19 rfl rfl)
theorem dX2_gives_20 : decode cX2_gives 20 = .ok (.iconst 2, 1) := dk_5 (dk_at dksX2_gives_0 20 rfl rfl)
theorem dX2_gives_21 : decode cX2_gives 21 = .ok (.invokevirtual 57, 3) := dk_182 0 57 (dk_at dksX2_gives_0 21 rfl rfl)
theorem dX2_gives_24 : decode cX2_gives 24 = .ok (.istore 4, 2) := dk_54 4 (dk_at dksX2_gives_1 0 rfl rfl)
theorem dX2_gives_26 : decode cX2_gives 26 = .ok (.aload_n 0, 1) := dk_42 (dk_at dksX2_gives_1 2 rfl rfl)
theorem dX2_gives_27 : decode cX2_gives 27 = .ok (.iload_n 3, 1) := dk_29 (dk_at dksX2_gives_1 3 rfl rfl)
theorem dX2_gives_28 : decode cX2_gives 28 = .ok (.iload_n 1, 1) := dk_27 (dk_at dksX2_gives_1 4 rfl rfl)
theorem dX2_gives_29 : decode cX2_gives 29 = .ok (.iload 4, 2) := dk_21 4 (dk_at dksX2_gives_1 5 rfl rfl)
theorem dX2_gives_31 : decode cX2_gives 31 = .ok (.invokevirtual 88, 3) := dk_182 0 88 (dk_at dksX2_gives_1 7 rfl rfl)
theorem dX2_gives_34 : decode cX2_gives 34 = .ok (.ifCond .ne 5, 3) := dk_154 0 5 (dk_at dksX2_gives_1 10 rfl rfl)
theorem dX2_gives_37 : decode cX2_gives 37 = .ok (.iload_n 2, 1) := dk_28 (dk_at dksX2_gives_1 13 rfl rfl)
theorem dX2_gives_38 : decode cX2_gives 38 = .ok (.ireturn, 1) := dk_172 (dk_at dksX2_gives_1 14 rfl rfl)
theorem dX2_gives_39 : decode cX2_gives 39 = .ok (.aload_n 0, 1) := dk_42 (dk_at dksX2_gives_1 15 rfl rfl)
theorem dX2_gives_40 : decode cX2_gives 40 = .ok (.iload_n 3, 1) := dk_29 (dk_at dksX2_gives_1 16 rfl rfl)
theorem dX2_gives_41 : decode cX2_gives 41 = .ok (.invokevirtual 91, 3) := dk_182 0 91 (dk_at dksX2_gives_1 17 rfl rfl)
theorem dX2_gives_44 : decode cX2_gives 44 = .ok (.aload_n 0, 1) := dk_42 (dk_at dksX2_gives_1 20 rfl rfl)
theorem dX2_gives_45 : decode cX2_gives 45 = .ok (.iload_n 3, 1) := dk_29 (dk_at dksX2_gives_1 21 rfl rfl)
theorem dX2_gives_46 : decode cX2_gives 46 = .ok (.iload_n 1, 1) := dk_27 (dk_at dksX2_gives_1 22 rfl rfl)
theorem dX2_gives_47 : decode cX2_gives 47 = .ok (.iload 4, 2) := dk_21 4 (dk_at dksX2_gives_2 0 rfl rfl)
theorem dX2_gives_49 : decode cX2_gives 49 = .ok (.invokevirtual 95, 3) := dk_182 0 95 (dk_at dksX2_gives_2 2 rfl rfl)
theorem dX2_gives_52 : decode cX2_gives 52 = .ok (.iinc 2 1, 3) := dk_132 2 1 (dk_at dksX2_gives_2 5 rfl rfl)
theorem dX2_gives_55 : decode cX2_gives 55 = .ok (.goto (-53), 3) := dk_167 255 203 (dk_at dksX2_gives_2 8 rfl rfl)
theorem dX2_gives_58 : decode cX2_gives 58 = .ok (.iload_n 2, 1) := dk_28 (dk_at dksX2_gives_2 11 rfl rfl)
theorem dX2_gives_59 : decode cX2_gives 59 = .ok (.ireturn, 1) := dk_172 (dk_at dksX2_gives_2 12 rfl rfl)
abbrev cX2_counts : ByteArray := prog_12_method_27_code
def yX2_counts : MethodName := ⟨RX2, "counts", "()V"⟩
def dkwX2_counts_1 : List UInt8 := [27, 4, 42, 27, 5, 182, 0, 82, 182, 0, 85, 132, 1, 1, 167, 255, 220, 177]
abbrev dktX2_counts_1 : List UInt8 := dkwX2_counts_1 ++ []
def dkwX2_counts_0 : List UInt8 := [3, 60, 27, 16, 8, 162, 0, 36, 42, 27, 5, 182, 0, 82, 42, 27, 4, 182, 0, 82, 164, 0, 15, 42]
abbrev dktX2_counts_0 : List UInt8 := dkwX2_counts_0 ++ dktX2_counts_1
theorem dksX2_counts_0 : cX2_counts.data.toList.drop 0 = dktX2_counts_0 := by decide +kernel
theorem dksX2_counts_1 : cX2_counts.data.toList.drop 24 = dktX2_counts_1 := dk_seg dksX2_counts_0 24 rfl rfl
theorem dX2_counts_0 : decode cX2_counts 0 = .ok (.iconst 0, 1) := dk_3 (dk_at dksX2_counts_0 0 rfl rfl)
theorem dX2_counts_1 : decode cX2_counts 1 = .ok (.istore_n 1, 1) := dk_60 (dk_at dksX2_counts_0 1 rfl rfl)
theorem dX2_counts_2 : decode cX2_counts 2 = .ok (.iload_n 1, 1) := dk_27 (dk_at dksX2_counts_0 2 rfl rfl)
theorem dX2_counts_3 : decode cX2_counts 3 = .ok (.bipush 8, 2) := dk_16 8 (dk_at dksX2_counts_0 3 rfl rfl)
theorem dX2_counts_5 : decode cX2_counts 5 = .ok (.if_icmp .ge 36, 3) := dk_162 0 36 (dk_at dksX2_counts_0 5 rfl rfl)
theorem dX2_counts_8 : decode cX2_counts 8 = .ok (.aload_n 0, 1) := dk_42 (dk_at dksX2_counts_0 8 rfl rfl)
theorem dX2_counts_9 : decode cX2_counts 9 = .ok (.iload_n 1, 1) := dk_27 (dk_at dksX2_counts_0 9 rfl rfl)
theorem dX2_counts_10 : decode cX2_counts 10 = .ok (.iconst 2, 1) := dk_5 (dk_at dksX2_counts_0 10 rfl rfl)
theorem dX2_counts_11 : decode cX2_counts 11 = .ok (.invokevirtual 82, 3) := dk_182 0 82 (dk_at dksX2_counts_0 11 rfl rfl)
theorem dX2_counts_14 : decode cX2_counts 14 = .ok (.aload_n 0, 1) := dk_42 (dk_at dksX2_counts_0 14 rfl rfl)
theorem dX2_counts_15 : decode cX2_counts 15 = .ok (.iload_n 1, 1) := dk_27 (dk_at dksX2_counts_0 15 rfl rfl)
theorem dX2_counts_16 : decode cX2_counts 16 = .ok (.iconst 1, 1) := dk_4 (dk_at dksX2_counts_0 16 rfl rfl)
theorem dX2_counts_17 : decode cX2_counts 17 = .ok (.invokevirtual 82, 3) := dk_182 0 82 (dk_at dksX2_counts_0 17 rfl rfl)
theorem dX2_counts_20 : decode cX2_counts 20 = .ok (.if_icmp .le 15, 3) := dk_164 0 15 (dk_at dksX2_counts_0 20 rfl rfl)
theorem dX2_counts_23 : decode cX2_counts 23 = .ok (.aload_n 0, 1) := dk_42 (dk_at dksX2_counts_0 23 rfl rfl)
theorem dX2_counts_24 : decode cX2_counts 24 = .ok (.iload_n 1, 1) := dk_27 (dk_at dksX2_counts_1 0 rfl rfl)
theorem dX2_counts_25 : decode cX2_counts 25 = .ok (.iconst 1, 1) := dk_4 (dk_at dksX2_counts_1 1 rfl rfl)
theorem dX2_counts_26 : decode cX2_counts 26 = .ok (.aload_n 0, 1) := dk_42 (dk_at dksX2_counts_1 2 rfl rfl)
theorem dX2_counts_27 : decode cX2_counts 27 = .ok (.iload_n 1, 1) := dk_27 (dk_at dksX2_counts_1 3 rfl rfl)
theorem dX2_counts_28 : decode cX2_counts 28 = .ok (.iconst 2, 1) := dk_5 (dk_at dksX2_counts_1 4 rfl rfl)
theorem dX2_counts_29 : decode cX2_counts 29 = .ok (.invokevirtual 82, 3) := dk_182 0 82 (dk_at dksX2_counts_1 5 rfl rfl)
theorem dX2_counts_32 : decode cX2_counts 32 = .ok (.invokevirtual 85, 3) := dk_182 0 85 (dk_at dksX2_counts_1 8 rfl rfl)
theorem dX2_counts_35 : decode cX2_counts 35 = .ok (.iinc 1 1, 3) := dk_132 1 1 (dk_at dksX2_counts_1 11 rfl rfl)
theorem dX2_counts_38 : decode cX2_counts 38 = .ok (.goto (-36), 3) := dk_167 255 220 (dk_at dksX2_counts_1 14 rfl rfl)
theorem dX2_counts_41 : decode cX2_counts 41 = .ok (.return_, 1) := dk_177 (dk_at dksX2_counts_1 17 rfl rfl)
abbrev cX2_free : ByteArray := prog_12_method_32_code
def yX2_free : MethodName := ⟨RX2, "free", "(II)I"⟩
def dkwX2_free_2 : List UInt8 := [28, 160, 0, 8, 42, 27, 182, 0, 91, 42, 27, 28, 3, 182, 0, 79, 42, 28, 182, 0, 105, 172]
abbrev dktX2_free_2 : List UInt8 := dkwX2_free_2 ++ []
def dkwX2_free_1 : List UInt8 := [154, 0, 10, 42, 7, 28, 182, 0, 61, 172, 42, 42, 180, 0, 7, 182, 0, 68, 42, 27, 4, 182, 0, 57]
abbrev dktX2_free_1 : List UInt8 := dkwX2_free_1 ++ dktX2_free_2
def dkwX2_free_0 : List UInt8 := [42, 27, 182, 0, 133, 153, 0, 10, 28, 184, 0, 136, 154, 0, 6, 16, 245, 172, 42, 27, 28, 182, 0, 76]
abbrev dktX2_free_0 : List UInt8 := dkwX2_free_0 ++ dktX2_free_1
theorem dksX2_free_0 : cX2_free.data.toList.drop 0 = dktX2_free_0 := by decide +kernel
theorem dksX2_free_1 : cX2_free.data.toList.drop 24 = dktX2_free_1 := dk_seg dksX2_free_0 24 rfl rfl
theorem dksX2_free_2 : cX2_free.data.toList.drop 48 = dktX2_free_2 := dk_seg dksX2_free_1 24 rfl rfl
theorem dX2_free_0 : decode cX2_free 0 = .ok (.aload_n 0, 1) := dk_42 (dk_at dksX2_free_0 0 rfl rfl)
theorem dX2_free_1 : decode cX2_free 1 = .ok (.iload_n 1, 1) := dk_27 (dk_at dksX2_free_0 1 rfl rfl)
theorem dX2_free_2 : decode cX2_free 2 = .ok (.invokevirtual 133, 3) := dk_182 0 133 (dk_at dksX2_free_0 2 rfl rfl)
theorem dX2_free_5 : decode cX2_free 5 = .ok (.ifCond .eq 10, 3) := dk_153 0 10 (dk_at dksX2_free_0 5 rfl rfl)
theorem dX2_free_8 : decode cX2_free 8 = .ok (.iload_n 2, 1) := dk_28 (dk_at dksX2_free_0 8 rfl rfl)
theorem dX2_free_9 : decode cX2_free 9 = .ok (.invokestatic 136, 3) := dk_184 0 136 (dk_at dksX2_free_0 9 rfl rfl)
theorem dX2_free_12 : decode cX2_free 12 = .ok (.ifCond .ne 6, 3) := dk_154 0 6 (dk_at dksX2_free_0 12 rfl rfl)
theorem dX2_free_15 : decode cX2_free 15 = .ok (.bipush (-11), 2) := dk_16 245 (dk_at dksX2_free_0 15 rfl rfl)
theorem dX2_free_17 : decode cX2_free 17 = .ok (.ireturn, 1) := dk_172 (dk_at dksX2_free_0 17 rfl rfl)
theorem dX2_free_18 : decode cX2_free 18 = .ok (.aload_n 0, 1) := dk_42 (dk_at dksX2_free_0 18 rfl rfl)
theorem dX2_free_19 : decode cX2_free 19 = .ok (.iload_n 1, 1) := dk_27 (dk_at dksX2_free_0 19 rfl rfl)
theorem dX2_free_20 : decode cX2_free 20 = .ok (.iload_n 2, 1) := dk_28 (dk_at dksX2_free_0 20 rfl rfl)
theorem dX2_free_21 : decode cX2_free 21 = .ok (.invokevirtual 76, 3) := dk_182 0 76 (dk_at dksX2_free_0 21 rfl rfl)
theorem dX2_free_24 : decode cX2_free 24 = .ok (.ifCond .ne 10, 3) := dk_154 0 10 (dk_at dksX2_free_1 0 rfl rfl)
theorem dX2_free_27 : decode cX2_free 27 = .ok (.aload_n 0, 1) := dk_42 (dk_at dksX2_free_1 3 rfl rfl)
theorem dX2_free_28 : decode cX2_free 28 = .ok (.iconst 4, 1) := dk_7 (dk_at dksX2_free_1 4 rfl rfl)
theorem dX2_free_29 : decode cX2_free 29 = .ok (.iload_n 2, 1) := dk_28 (dk_at dksX2_free_1 5 rfl rfl)
theorem dX2_free_30 : decode cX2_free 30 = .ok (.invokevirtual 61, 3) := dk_182 0 61 (dk_at dksX2_free_1 6 rfl rfl)
theorem dX2_free_33 : decode cX2_free 33 = .ok (.ireturn, 1) := dk_172 (dk_at dksX2_free_1 9 rfl rfl)
theorem dX2_free_34 : decode cX2_free 34 = .ok (.aload_n 0, 1) := dk_42 (dk_at dksX2_free_1 10 rfl rfl)
theorem dX2_free_35 : decode cX2_free 35 = .ok (.aload_n 0, 1) := dk_42 (dk_at dksX2_free_1 11 rfl rfl)
theorem dX2_free_36 : decode cX2_free 36 = .ok (.getfield 7, 3) := dk_180 0 7 (dk_at dksX2_free_1 12 rfl rfl)
theorem dX2_free_39 : decode cX2_free 39 = .ok (.invokevirtual 68, 3) := dk_182 0 68 (dk_at dksX2_free_1 15 rfl rfl)
theorem dX2_free_42 : decode cX2_free 42 = .ok (.aload_n 0, 1) := dk_42 (dk_at dksX2_free_1 18 rfl rfl)
theorem dX2_free_43 : decode cX2_free 43 = .ok (.iload_n 1, 1) := dk_27 (dk_at dksX2_free_1 19 rfl rfl)
theorem dX2_free_44 : decode cX2_free 44 = .ok (.iconst 1, 1) := dk_4 (dk_at dksX2_free_1 20 rfl rfl)
theorem dX2_free_45 : decode cX2_free 45 = .ok (.invokevirtual 57, 3) := dk_182 0 57 (dk_at dksX2_free_1 21 rfl rfl)
theorem dX2_free_48 : decode cX2_free 48 = .ok (.iload_n 2, 1) := dk_28 (dk_at dksX2_free_2 0 rfl rfl)
theorem dX2_free_49 : decode cX2_free 49 = .ok (.if_icmp .ne 8, 3) := dk_160 0 8 (dk_at dksX2_free_2 1 rfl rfl)
theorem dX2_free_52 : decode cX2_free 52 = .ok (.aload_n 0, 1) := dk_42 (dk_at dksX2_free_2 4 rfl rfl)
theorem dX2_free_53 : decode cX2_free 53 = .ok (.iload_n 1, 1) := dk_27 (dk_at dksX2_free_2 5 rfl rfl)
theorem dX2_free_54 : decode cX2_free 54 = .ok (.invokevirtual 91, 3) := dk_182 0 91 (dk_at dksX2_free_2 6 rfl rfl)
theorem dX2_free_57 : decode cX2_free 57 = .ok (.aload_n 0, 1) := dk_42 (dk_at dksX2_free_2 9 rfl rfl)
theorem dX2_free_58 : decode cX2_free 58 = .ok (.iload_n 1, 1) := dk_27 (dk_at dksX2_free_2 10 rfl rfl)
theorem dX2_free_59 : decode cX2_free 59 = .ok (.iload_n 2, 1) := dk_28 (dk_at dksX2_free_2 11 rfl rfl)
theorem dX2_free_60 : decode cX2_free 60 = .ok (.iconst 0, 1) := dk_3 (dk_at dksX2_free_2 12 rfl rfl)
theorem dX2_free_61 : decode cX2_free 61 = .ok (.invokevirtual 79, 3) := dk_182 0 79 (dk_at dksX2_free_2 13 rfl rfl)
theorem dX2_free_64 : decode cX2_free 64 = .ok (.aload_n 0, 1) := dk_42 (dk_at dksX2_free_2 16 rfl rfl)
theorem dX2_free_65 : decode cX2_free 65 = .ok (.iload_n 2, 1) := dk_28 (dk_at dksX2_free_2 17 rfl rfl)
theorem dX2_free_66 : decode cX2_free 66 = .ok (.invokevirtual 105, 3) := dk_182 0 105 (dk_at dksX2_free_2 18 rfl rfl)
theorem dX2_free_69 : decode cX2_free 69 = .ok (.ireturn, 1) := dk_172 (dk_at dksX2_free_2 21 rfl rfl)
abbrev cX2_end : ByteArray := prog_12_method_33_code
def yX2_end : MethodName := ⟨RX2, "end", "(I)I"⟩
def dkwX2_end_1 : List UInt8 := [61, 42, 27, 3, 3, 182, 0, 72, 42, 180, 0, 7, 4, 92, 46, 4, 96, 79, 28, 172]
abbrev dktX2_end_1 : List UInt8 := dkwX2_end_1 ++ []
def dkwX2_end_0 : List UInt8 := [42, 27, 182, 0, 133, 154, 0, 6, 16, 245, 172, 42, 42, 180, 0, 7, 182, 0, 68, 42, 27, 182, 0, 115]
abbrev dktX2_end_0 : List UInt8 := dkwX2_end_0 ++ dktX2_end_1
theorem dksX2_end_0 : cX2_end.data.toList.drop 0 = dktX2_end_0 := by decide +kernel
theorem dksX2_end_1 : cX2_end.data.toList.drop 24 = dktX2_end_1 := dk_seg dksX2_end_0 24 rfl rfl
theorem dX2_end_0 : decode cX2_end 0 = .ok (.aload_n 0, 1) := dk_42 (dk_at dksX2_end_0 0 rfl rfl)
theorem dX2_end_1 : decode cX2_end 1 = .ok (.iload_n 1, 1) := dk_27 (dk_at dksX2_end_0 1 rfl rfl)
theorem dX2_end_2 : decode cX2_end 2 = .ok (.invokevirtual 133, 3) := dk_182 0 133 (dk_at dksX2_end_0 2 rfl rfl)
theorem dX2_end_5 : decode cX2_end 5 = .ok (.ifCond .ne 6, 3) := dk_154 0 6 (dk_at dksX2_end_0 5 rfl rfl)
theorem dX2_end_8 : decode cX2_end 8 = .ok (.bipush (-11), 2) := dk_16 245 (dk_at dksX2_end_0 8 rfl rfl)
theorem dX2_end_10 : decode cX2_end 10 = .ok (.ireturn, 1) := dk_172 (dk_at dksX2_end_0 10 rfl rfl)
theorem dX2_end_11 : decode cX2_end 11 = .ok (.aload_n 0, 1) := dk_42 (dk_at dksX2_end_0 11 rfl rfl)
theorem dX2_end_12 : decode cX2_end 12 = .ok (.aload_n 0, 1) := dk_42 (dk_at dksX2_end_0 12 rfl rfl)
theorem dX2_end_13 : decode cX2_end 13 = .ok (.getfield 7, 3) := dk_180 0 7 (dk_at dksX2_end_0 13 rfl rfl)
theorem dX2_end_16 : decode cX2_end 16 = .ok (.invokevirtual 68, 3) := dk_182 0 68 (dk_at dksX2_end_0 16 rfl rfl)
theorem dX2_end_19 : decode cX2_end 19 = .ok (.aload_n 0, 1) := dk_42 (dk_at dksX2_end_0 19 rfl rfl)
theorem dX2_end_20 : decode cX2_end 20 = .ok (.iload_n 1, 1) := dk_27 (dk_at dksX2_end_0 20 rfl rfl)
theorem dX2_end_21 : decode cX2_end 21 = .ok (.invokevirtual 115, 3) := dk_182 0 115 (dk_at dksX2_end_0 21 rfl rfl)
theorem dX2_end_24 : decode cX2_end 24 = .ok (.istore_n 2, 1) := dk_61 (dk_at dksX2_end_1 0 rfl rfl)
theorem dX2_end_25 : decode cX2_end 25 = .ok (.aload_n 0, 1) := dk_42 (dk_at dksX2_end_1 1 rfl rfl)
theorem dX2_end_26 : decode cX2_end 26 = .ok (.iload_n 1, 1) := dk_27 (dk_at dksX2_end_1 2 rfl rfl)
theorem dX2_end_27 : decode cX2_end 27 = .ok (.iconst 0, 1) := dk_3 (dk_at dksX2_end_1 3 rfl rfl)
theorem dX2_end_28 : decode cX2_end 28 = .ok (.iconst 0, 1) := dk_3 (dk_at dksX2_end_1 4 rfl rfl)
theorem dX2_end_29 : decode cX2_end 29 = .ok (.invokevirtual 72, 3) := dk_182 0 72 (dk_at dksX2_end_1 5 rfl rfl)
theorem dX2_end_32 : decode cX2_end 32 = .ok (.aload_n 0, 1) := dk_42 (dk_at dksX2_end_1 8 rfl rfl)
theorem dX2_end_33 : decode cX2_end 33 = .ok (.getfield 7, 3) := dk_180 0 7 (dk_at dksX2_end_1 9 rfl rfl)
theorem dX2_end_36 : decode cX2_end 36 = .ok (.iconst 1, 1) := dk_4 (dk_at dksX2_end_1 12 rfl rfl)
theorem dX2_end_37 : decode cX2_end 37 = .ok (.dup2, 1) := dk_92 (dk_at dksX2_end_1 13 rfl rfl)
theorem dX2_end_38 : decode cX2_end 38 = .ok (.iaload, 1) := dk_46 (dk_at dksX2_end_1 14 rfl rfl)
theorem dX2_end_39 : decode cX2_end 39 = .ok (.iconst 1, 1) := dk_4 (dk_at dksX2_end_1 15 rfl rfl)
theorem dX2_end_40 : decode cX2_end 40 = .ok (.iadd, 1) := dk_96 (dk_at dksX2_end_1 16 rfl rfl)
theorem dX2_end_41 : decode cX2_end 41 = .ok (.iastore, 1) := dk_79 (dk_at dksX2_end_1 17 rfl rfl)
theorem dX2_end_42 : decode cX2_end 42 = .ok (.iload_n 2, 1) := dk_28 (dk_at dksX2_end_1 18 rfl rfl)
theorem dX2_end_43 : decode cX2_end 43 = .ok (.ireturn, 1) := dk_172 (dk_at dksX2_end_1 19 rfl rfl)
abbrev cX2_holds : ByteArray := prog_12_method_34_code
def yX2_holds : MethodName := ⟨RX2, "holds", "(II)I"⟩
def dkwX2_holds_1 : List UInt8 := [16, 245, 172]
abbrev dktX2_holds_1 : List UInt8 := dkwX2_holds_1 ++ []
def dkwX2_holds_0 : List UInt8 := [42, 27, 182, 0, 133, 153, 0, 19, 28, 184, 0, 136, 153, 0, 12, 42, 27, 28, 182, 0, 76, 167, 0, 5]
abbrev dktX2_holds_0 : List UInt8 := dkwX2_holds_0 ++ dktX2_holds_1
theorem dksX2_holds_0 : cX2_holds.data.toList.drop 0 = dktX2_holds_0 := by decide +kernel
theorem dksX2_holds_1 : cX2_holds.data.toList.drop 24 = dktX2_holds_1 := dk_seg dksX2_holds_0 24 rfl rfl
theorem dX2_holds_0 : decode cX2_holds 0 = .ok (.aload_n 0, 1) := dk_42 (dk_at dksX2_holds_0 0 rfl rfl)
theorem dX2_holds_1 : decode cX2_holds 1 = .ok (.iload_n 1, 1) := dk_27 (dk_at dksX2_holds_0 1 rfl rfl)
theorem dX2_holds_2 : decode cX2_holds 2 = .ok (.invokevirtual 133, 3) := dk_182 0 133 (dk_at dksX2_holds_0 2 rfl rfl)
theorem dX2_holds_5 : decode cX2_holds 5 = .ok (.ifCond .eq 19, 3) := dk_153 0 19 (dk_at dksX2_holds_0 5 rfl rfl)
theorem dX2_holds_8 : decode cX2_holds 8 = .ok (.iload_n 2, 1) := dk_28 (dk_at dksX2_holds_0 8 rfl rfl)
theorem dX2_holds_9 : decode cX2_holds 9 = .ok (.invokestatic 136, 3) := dk_184 0 136 (dk_at dksX2_holds_0 9 rfl rfl)
theorem dX2_holds_12 : decode cX2_holds 12 = .ok (.ifCond .eq 12, 3) := dk_153 0 12 (dk_at dksX2_holds_0 12 rfl rfl)
theorem dX2_holds_15 : decode cX2_holds 15 = .ok (.aload_n 0, 1) := dk_42 (dk_at dksX2_holds_0 15 rfl rfl)
theorem dX2_holds_16 : decode cX2_holds 16 = .ok (.iload_n 1, 1) := dk_27 (dk_at dksX2_holds_0 16 rfl rfl)
theorem dX2_holds_17 : decode cX2_holds 17 = .ok (.iload_n 2, 1) := dk_28 (dk_at dksX2_holds_0 17 rfl rfl)
theorem dX2_holds_18 : decode cX2_holds 18 = .ok (.invokevirtual 76, 3) := dk_182 0 76 (dk_at dksX2_holds_0 18 rfl rfl)
theorem dX2_holds_21 : decode cX2_holds 21 = .ok (.goto 5, 3) := dk_167 0 5 (dk_at dksX2_holds_0 21 rfl rfl)
theorem dX2_holds_24 : decode cX2_holds 24 = .ok (.bipush (-11), 2) := dk_16 245 (dk_at dksX2_holds_1 0 rfl rfl)
theorem dX2_holds_26 : decode cX2_holds 26 = .ok (.ireturn, 1) := dk_172 (dk_at dksX2_holds_1 2 rfl rfl)
abbrev cX2_maidOf : ByteArray := prog_12_method_37_code
def yX2_maidOf : MethodName := ⟨RX2, "maidOf", "(II)I"⟩
def dkwX2_maidOf_4 : List UInt8 := [27, 7, 182, 0, 57, 172, 42, 27, 8, 182, 0, 57, 172, 16, 244, 172]
abbrev dktX2_maidOf_4 : List UInt8 := dkwX2_maidOf_4 ++ []
def dkwX2_maidOf_3 : List UInt8 := [182, 0, 57, 172, 42, 27, 182, 0, 149, 172, 42, 27, 6, 182, 0, 57, 172, 42, 27, 182, 0, 98, 172, 42]
abbrev dktX2_maidOf_3 : List UInt8 := dkwX2_maidOf_3 ++ dktX2_maidOf_4
def dkwX2_maidOf_2 : List UInt8 := [42, 27, 182, 0, 146, 172, 42, 27, 4, 182, 0, 57, 156, 0, 8, 16, 241, 167, 0, 9, 42, 27, 4]
abbrev dktX2_maidOf_2 : List UInt8 := dkwX2_maidOf_2 ++ dktX2_maidOf_3
def dkwX2_maidOf_1 : List UInt8 := [170, 0, 0, 0, 0, 0, 0, 104, 0, 0, 0, 0, 0, 0, 0, 6, 0, 0, 0, 44, 0, 0, 0, 50, 0, 0, 0, 71, 0, 0, 0, 77, 0, 0, 0, 84, 0, 0, 0, 90, 0, 0, 0, 97]
abbrev dktX2_maidOf_1 : List UInt8 := dkwX2_maidOf_1 ++ dktX2_maidOf_2
def dkwX2_maidOf_0 : List UInt8 := [42, 27, 182, 0, 133, 154, 0, 6, 16, 245, 172, 28]
abbrev dktX2_maidOf_0 : List UInt8 := dkwX2_maidOf_0 ++ dktX2_maidOf_1
theorem dksX2_maidOf_0 : cX2_maidOf.data.toList.drop 0 = dktX2_maidOf_0 := by decide +kernel
theorem dksX2_maidOf_1 : cX2_maidOf.data.toList.drop 12 = dktX2_maidOf_1 := dk_seg dksX2_maidOf_0 12 rfl rfl
theorem dksX2_maidOf_2 : cX2_maidOf.data.toList.drop 56 = dktX2_maidOf_2 := dk_seg dksX2_maidOf_1 44 rfl rfl
theorem dksX2_maidOf_3 : cX2_maidOf.data.toList.drop 79 = dktX2_maidOf_3 := dk_seg dksX2_maidOf_2 23 rfl rfl
theorem dksX2_maidOf_4 : cX2_maidOf.data.toList.drop 103 = dktX2_maidOf_4 := dk_seg dksX2_maidOf_3 24 rfl rfl
theorem dX2_maidOf_0 : decode cX2_maidOf 0 = .ok (.aload_n 0, 1) := dk_42 (dk_at dksX2_maidOf_0 0 rfl rfl)
theorem dX2_maidOf_1 : decode cX2_maidOf 1 = .ok (.iload_n 1, 1) := dk_27 (dk_at dksX2_maidOf_0 1 rfl rfl)
theorem dX2_maidOf_2 : decode cX2_maidOf 2 = .ok (.invokevirtual 133, 3) := dk_182 0 133 (dk_at dksX2_maidOf_0 2 rfl rfl)
theorem dX2_maidOf_5 : decode cX2_maidOf 5 = .ok (.ifCond .ne 6, 3) := dk_154 0 6 (dk_at dksX2_maidOf_0 5 rfl rfl)
theorem dX2_maidOf_8 : decode cX2_maidOf 8 = .ok (.bipush (-11), 2) := dk_16 245 (dk_at dksX2_maidOf_0 8 rfl rfl)
theorem dX2_maidOf_10 : decode cX2_maidOf 10 = .ok (.ireturn, 1) := dk_172 (dk_at dksX2_maidOf_0 10 rfl rfl)
theorem dX2_maidOf_11 : decode cX2_maidOf 11 = .ok (.iload_n 2, 1) := dk_28 (dk_at dksX2_maidOf_0 11 rfl rfl)
theorem dX2_maidOf_12 : decode cX2_maidOf 12 = .ok (.tableswitch 104 0 6 #[44, 50, 71, 77, 84, 90, 97], 44) := by decide +kernel
theorem dX2_maidOf_56 : decode cX2_maidOf 56 = .ok (.aload_n 0, 1) := dk_42 (dk_at dksX2_maidOf_2 0 rfl rfl)
theorem dX2_maidOf_57 : decode cX2_maidOf 57 = .ok (.iload_n 1, 1) := dk_27 (dk_at dksX2_maidOf_2 1 rfl rfl)
theorem dX2_maidOf_58 : decode cX2_maidOf 58 = .ok (.invokevirtual 146, 3) := dk_182 0 146 (dk_at dksX2_maidOf_2 2 rfl rfl)
theorem dX2_maidOf_61 : decode cX2_maidOf 61 = .ok (.ireturn, 1) := dk_172 (dk_at dksX2_maidOf_2 5 rfl rfl)
theorem dX2_maidOf_62 : decode cX2_maidOf 62 = .ok (.aload_n 0, 1) := dk_42 (dk_at dksX2_maidOf_2 6 rfl rfl)
theorem dX2_maidOf_63 : decode cX2_maidOf 63 = .ok (.iload_n 1, 1) := dk_27 (dk_at dksX2_maidOf_2 7 rfl rfl)
theorem dX2_maidOf_64 : decode cX2_maidOf 64 = .ok (.iconst 1, 1) := dk_4 (dk_at dksX2_maidOf_2 8 rfl rfl)
theorem dX2_maidOf_65 : decode cX2_maidOf 65 = .ok (.invokevirtual 57, 3) := dk_182 0 57 (dk_at dksX2_maidOf_2 9 rfl rfl)
theorem dX2_maidOf_68 : decode cX2_maidOf 68 = .ok (.ifCond .ge 8, 3) := dk_156 0 8 (dk_at dksX2_maidOf_2 12 rfl rfl)
theorem dX2_maidOf_71 : decode cX2_maidOf 71 = .ok (.bipush (-15), 2) := dk_16 241 (dk_at dksX2_maidOf_2 15 rfl rfl)
theorem dX2_maidOf_73 : decode cX2_maidOf 73 = .ok (.goto 9, 3) := dk_167 0 9 (dk_at dksX2_maidOf_2 17 rfl rfl)
theorem dX2_maidOf_76 : decode cX2_maidOf 76 = .ok (.aload_n 0, 1) := dk_42 (dk_at dksX2_maidOf_2 20 rfl rfl)
theorem dX2_maidOf_77 : decode cX2_maidOf 77 = .ok (.iload_n 1, 1) := dk_27 (dk_at dksX2_maidOf_2 21 rfl rfl)
theorem dX2_maidOf_78 : decode cX2_maidOf 78 = .ok (.iconst 1, 1) := dk_4 (dk_at dksX2_maidOf_2 22 rfl rfl)
theorem dX2_maidOf_79 : decode cX2_maidOf 79 = .ok (.invokevirtual 57, 3) := dk_182 0 57 (dk_at dksX2_maidOf_3 0 rfl rfl)
theorem dX2_maidOf_82 : decode cX2_maidOf 82 = .ok (.ireturn, 1) := dk_172 (dk_at dksX2_maidOf_3 3 rfl rfl)
theorem dX2_maidOf_83 : decode cX2_maidOf 83 = .ok (.aload_n 0, 1) := dk_42 (dk_at dksX2_maidOf_3 4 rfl rfl)
theorem dX2_maidOf_84 : decode cX2_maidOf 84 = .ok (.iload_n 1, 1) := dk_27 (dk_at dksX2_maidOf_3 5 rfl rfl)
theorem dX2_maidOf_85 : decode cX2_maidOf 85 = .ok (.invokevirtual 149, 3) := dk_182 0 149 (dk_at dksX2_maidOf_3 6 rfl rfl)
theorem dX2_maidOf_88 : decode cX2_maidOf 88 = .ok (.ireturn, 1) := dk_172 (dk_at dksX2_maidOf_3 9 rfl rfl)
theorem dX2_maidOf_89 : decode cX2_maidOf 89 = .ok (.aload_n 0, 1) := dk_42 (dk_at dksX2_maidOf_3 10 rfl rfl)
theorem dX2_maidOf_90 : decode cX2_maidOf 90 = .ok (.iload_n 1, 1) := dk_27 (dk_at dksX2_maidOf_3 11 rfl rfl)
theorem dX2_maidOf_91 : decode cX2_maidOf 91 = .ok (.iconst 3, 1) := dk_6 (dk_at dksX2_maidOf_3 12 rfl rfl)
theorem dX2_maidOf_92 : decode cX2_maidOf 92 = .ok (.invokevirtual 57, 3) := dk_182 0 57 (dk_at dksX2_maidOf_3 13 rfl rfl)
theorem dX2_maidOf_95 : decode cX2_maidOf 95 = .ok (.ireturn, 1) := dk_172 (dk_at dksX2_maidOf_3 16 rfl rfl)
theorem dX2_maidOf_96 : decode cX2_maidOf 96 = .ok (.aload_n 0, 1) := dk_42 (dk_at dksX2_maidOf_3 17 rfl rfl)
theorem dX2_maidOf_97 : decode cX2_maidOf 97 = .ok (.iload_n 1, 1) := dk_27 (dk_at dksX2_maidOf_3 18 rfl rfl)
theorem dX2_maidOf_98 : decode cX2_maidOf 98 = .ok (.invokevirtual 98, 3) := dk_182 0 98 (dk_at dksX2_maidOf_3 19 rfl rfl)
theorem dX2_maidOf_101 : decode cX2_maidOf 101 = .ok (.ireturn, 1) := dk_172 (dk_at dksX2_maidOf_3 22 rfl rfl)
theorem dX2_maidOf_102 : decode cX2_maidOf 102 = .ok (.aload_n 0, 1) := dk_42 (dk_at dksX2_maidOf_3 23 rfl rfl)
theorem dX2_maidOf_103 : decode cX2_maidOf 103 = .ok (.iload_n 1, 1) := dk_27 (dk_at dksX2_maidOf_4 0 rfl rfl)
theorem dX2_maidOf_104 : decode cX2_maidOf 104 = .ok (.iconst 4, 1) := dk_7 (dk_at dksX2_maidOf_4 1 rfl rfl)
theorem dX2_maidOf_105 : decode cX2_maidOf 105 = .ok (.invokevirtual 57, 3) := dk_182 0 57 (dk_at dksX2_maidOf_4 2 rfl rfl)
theorem dX2_maidOf_108 : decode cX2_maidOf 108 = .ok (.ireturn, 1) := dk_172 (dk_at dksX2_maidOf_4 5 rfl rfl)
theorem dX2_maidOf_109 : decode cX2_maidOf 109 = .ok (.aload_n 0, 1) := dk_42 (dk_at dksX2_maidOf_4 6 rfl rfl)
theorem dX2_maidOf_110 : decode cX2_maidOf 110 = .ok (.iload_n 1, 1) := dk_27 (dk_at dksX2_maidOf_4 7 rfl rfl)
theorem dX2_maidOf_111 : decode cX2_maidOf 111 = .ok (.iconst 5, 1) := dk_8 (dk_at dksX2_maidOf_4 8 rfl rfl)
theorem dX2_maidOf_112 : decode cX2_maidOf 112 = .ok (.invokevirtual 57, 3) := dk_182 0 57 (dk_at dksX2_maidOf_4 9 rfl rfl)
theorem dX2_maidOf_115 : decode cX2_maidOf 115 = .ok (.ireturn, 1) := dk_172 (dk_at dksX2_maidOf_4 12 rfl rfl)
theorem dX2_maidOf_116 : decode cX2_maidOf 116 = .ok (.bipush (-12), 2) := dk_16 244 (dk_at dksX2_maidOf_4 13 rfl rfl)
theorem dX2_maidOf_118 : decode cX2_maidOf 118 = .ok (.ireturn, 1) := dk_172 (dk_at dksX2_maidOf_4 15 rfl rfl)
abbrev cX2_locksOf : ByteArray := prog_12_method_35_code
def yX2_locksOf : MethodName := ⟨RX2, "locksOf", "(I)I"⟩
def dkwX2_locksOf_1 : List UInt8 := [3, 96, 61, 132, 3, 1, 167, 255, 230, 28, 172]
abbrev dktX2_locksOf_1 : List UInt8 := dkwX2_locksOf_1 ++ []
def dkwX2_locksOf_0 : List UInt8 := [3, 61, 3, 62, 29, 16, 8, 162, 0, 26, 28, 42, 27, 29, 182, 0, 76, 158, 0, 7, 4, 167, 0, 4]
abbrev dktX2_locksOf_0 : List UInt8 := dkwX2_locksOf_0 ++ dktX2_locksOf_1
theorem dksX2_locksOf_0 : cX2_locksOf.data.toList.drop 0 = dktX2_locksOf_0 := by decide +kernel
theorem dksX2_locksOf_1 : cX2_locksOf.data.toList.drop 24 = dktX2_locksOf_1 := dk_seg dksX2_locksOf_0 24 rfl rfl
theorem dX2_locksOf_0 : decode cX2_locksOf 0 = .ok (.iconst 0, 1) := dk_3 (dk_at dksX2_locksOf_0 0 rfl rfl)
theorem dX2_locksOf_1 : decode cX2_locksOf 1 = .ok (.istore_n 2, 1) := dk_61 (dk_at dksX2_locksOf_0 1 rfl rfl)
theorem dX2_locksOf_2 : decode cX2_locksOf 2 = .ok (.iconst 0, 1) := dk_3 (dk_at dksX2_locksOf_0 2 rfl rfl)
theorem dX2_locksOf_3 : decode cX2_locksOf 3 = .ok (.istore_n 3, 1) := dk_62 (dk_at dksX2_locksOf_0 3 rfl rfl)
theorem dX2_locksOf_4 : decode cX2_locksOf 4 = .ok (.iload_n 3, 1) := dk_29 (dk_at dksX2_locksOf_0 4 rfl rfl)
theorem dX2_locksOf_5 : decode cX2_locksOf 5 = .ok (.bipush 8, 2) := dk_16 8 (dk_at dksX2_locksOf_0 5 rfl rfl)
theorem dX2_locksOf_7 : decode cX2_locksOf 7 = .ok (.if_icmp .ge 26, 3) := dk_162 0 26 (dk_at dksX2_locksOf_0 7 rfl rfl)
theorem dX2_locksOf_10 : decode cX2_locksOf 10 = .ok (.iload_n 2, 1) := dk_28 (dk_at dksX2_locksOf_0 10 rfl rfl)
theorem dX2_locksOf_11 : decode cX2_locksOf 11 = .ok (.aload_n 0, 1) := dk_42 (dk_at dksX2_locksOf_0 11 rfl rfl)
theorem dX2_locksOf_12 : decode cX2_locksOf 12 = .ok (.iload_n 1, 1) := dk_27 (dk_at dksX2_locksOf_0 12 rfl rfl)
theorem dX2_locksOf_13 : decode cX2_locksOf 13 = .ok (.iload_n 3, 1) := dk_29 (dk_at dksX2_locksOf_0 13 rfl rfl)
theorem dX2_locksOf_14 : decode cX2_locksOf 14 = .ok (.invokevirtual 76, 3) := dk_182 0 76 (dk_at dksX2_locksOf_0 14 rfl rfl)
theorem dX2_locksOf_17 : decode cX2_locksOf 17 = .ok (.ifCond .le 7, 3) := dk_158 0 7 (dk_at dksX2_locksOf_0 17 rfl rfl)
theorem dX2_locksOf_20 : decode cX2_locksOf 20 = .ok (.iconst 1, 1) := dk_4 (dk_at dksX2_locksOf_0 20 rfl rfl)
theorem dX2_locksOf_21 : decode cX2_locksOf 21 = .ok (.goto 4, 3) := dk_167 0 4 (dk_at dksX2_locksOf_0 21 rfl rfl)
theorem dX2_locksOf_24 : decode cX2_locksOf 24 = .ok (.iconst 0, 1) := dk_3 (dk_at dksX2_locksOf_1 0 rfl rfl)
theorem dX2_locksOf_25 : decode cX2_locksOf 25 = .ok (.iadd, 1) := dk_96 (dk_at dksX2_locksOf_1 1 rfl rfl)
theorem dX2_locksOf_26 : decode cX2_locksOf 26 = .ok (.istore_n 2, 1) := dk_61 (dk_at dksX2_locksOf_1 2 rfl rfl)
theorem dX2_locksOf_27 : decode cX2_locksOf 27 = .ok (.iinc 3 1, 3) := dk_132 3 1 (dk_at dksX2_locksOf_1 3 rfl rfl)
theorem dX2_locksOf_30 : decode cX2_locksOf 30 = .ok (.goto (-26), 3) := dk_167 255 230 (dk_at dksX2_locksOf_1 6 rfl rfl)
theorem dX2_locksOf_33 : decode cX2_locksOf 33 = .ok (.iload_n 2, 1) := dk_28 (dk_at dksX2_locksOf_1 9 rfl rfl)
theorem dX2_locksOf_34 : decode cX2_locksOf 34 = .ok (.ireturn, 1) := dk_172 (dk_at dksX2_locksOf_1 10 rfl rfl)
abbrev cX2_ahead : ByteArray := prog_12_method_36_code
def yX2_ahead : MethodName := ⟨RX2, "ahead", "(I)I"⟩
def dkwX2_ahead_1 : List UInt8 := [159, 0, 9, 132, 3, 1, 167, 255, 237, 29, 172]
abbrev dktX2_ahead_1 : List UInt8 := dkwX2_ahead_1 ++ []
def dkwX2_ahead_0 : List UInt8 := [42, 27, 4, 182, 0, 57, 61, 3, 62, 28, 155, 0, 21, 42, 28, 6, 29, 96, 182, 0, 82, 27]
abbrev dktX2_ahead_0 : List UInt8 := dkwX2_ahead_0 ++ dktX2_ahead_1
theorem dksX2_ahead_0 : cX2_ahead.data.toList.drop 0 = dktX2_ahead_0 := by decide +kernel
theorem dksX2_ahead_1 : cX2_ahead.data.toList.drop 22 = dktX2_ahead_1 := dk_seg dksX2_ahead_0 22 rfl rfl
theorem dX2_ahead_0 : decode cX2_ahead 0 = .ok (.aload_n 0, 1) := dk_42 (dk_at dksX2_ahead_0 0 rfl rfl)
theorem dX2_ahead_1 : decode cX2_ahead 1 = .ok (.iload_n 1, 1) := dk_27 (dk_at dksX2_ahead_0 1 rfl rfl)
theorem dX2_ahead_2 : decode cX2_ahead 2 = .ok (.iconst 1, 1) := dk_4 (dk_at dksX2_ahead_0 2 rfl rfl)
theorem dX2_ahead_3 : decode cX2_ahead 3 = .ok (.invokevirtual 57, 3) := dk_182 0 57 (dk_at dksX2_ahead_0 3 rfl rfl)
theorem dX2_ahead_6 : decode cX2_ahead 6 = .ok (.istore_n 2, 1) := dk_61 (dk_at dksX2_ahead_0 6 rfl rfl)
theorem dX2_ahead_7 : decode cX2_ahead 7 = .ok (.iconst 0, 1) := dk_3 (dk_at dksX2_ahead_0 7 rfl rfl)
theorem dX2_ahead_8 : decode cX2_ahead 8 = .ok (.istore_n 3, 1) := dk_62 (dk_at dksX2_ahead_0 8 rfl rfl)
theorem dX2_ahead_9 : decode cX2_ahead 9 = .ok (.iload_n 2, 1) := dk_28 (dk_at dksX2_ahead_0 9 rfl rfl)
theorem dX2_ahead_10 : decode cX2_ahead 10 = .ok (.ifCond .lt 21, 3) := dk_155 0 21 (dk_at dksX2_ahead_0 10 rfl rfl)
theorem dX2_ahead_13 : decode cX2_ahead 13 = .ok (.aload_n 0, 1) := dk_42 (dk_at dksX2_ahead_0 13 rfl rfl)
theorem dX2_ahead_14 : decode cX2_ahead 14 = .ok (.iload_n 2, 1) := dk_28 (dk_at dksX2_ahead_0 14 rfl rfl)
theorem dX2_ahead_15 : decode cX2_ahead 15 = .ok (.iconst 3, 1) := dk_6 (dk_at dksX2_ahead_0 15 rfl rfl)
theorem dX2_ahead_16 : decode cX2_ahead 16 = .ok (.iload_n 3, 1) := dk_29 (dk_at dksX2_ahead_0 16 rfl rfl)
theorem dX2_ahead_17 : decode cX2_ahead 17 = .ok (.iadd, 1) := dk_96 (dk_at dksX2_ahead_0 17 rfl rfl)
theorem dX2_ahead_18 : decode cX2_ahead 18 = .ok (.invokevirtual 82, 3) := dk_182 0 82 (dk_at dksX2_ahead_0 18 rfl rfl)
theorem dX2_ahead_21 : decode cX2_ahead 21 = .ok (.iload_n 1, 1) := dk_27 (dk_at dksX2_ahead_0 21 rfl rfl)
theorem dX2_ahead_22 : decode cX2_ahead 22 = .ok (.if_icmp .eq 9, 3) := dk_159 0 9 (dk_at dksX2_ahead_1 0 rfl rfl)
theorem dX2_ahead_25 : decode cX2_ahead 25 = .ok (.iinc 3 1, 3) := dk_132 3 1 (dk_at dksX2_ahead_1 3 rfl rfl)
theorem dX2_ahead_28 : decode cX2_ahead 28 = .ok (.goto (-19), 3) := dk_167 255 237 (dk_at dksX2_ahead_1 6 rfl rfl)
theorem dX2_ahead_31 : decode cX2_ahead 31 = .ok (.iload_n 3, 1) := dk_29 (dk_at dksX2_ahead_1 9 rfl rfl)
theorem dX2_ahead_32 : decode cX2_ahead 32 = .ok (.ireturn, 1) := dk_172 (dk_at dksX2_ahead_1 10 rfl rfl)
abbrev cX2_heldBy : ByteArray := prog_12_method_38_code
def yX2_heldBy : MethodName := ⟨RX2, "heldBy", "(II)I"⟩
def dkwX2_heldBy_2 : List UInt8 := [132, 4, 1, 167, 255, 222, 16, 245, 172]
abbrev dktX2_heldBy_2 : List UInt8 := dkwX2_heldBy_2 ++ []
def dkwX2_heldBy_1 : List UInt8 := [27, 21, 4, 182, 0, 76, 154, 0, 6, 167, 0, 14, 29, 28, 160, 0, 6, 21, 4, 172, 132, 3, 1]
abbrev dktX2_heldBy_1 : List UInt8 := dkwX2_heldBy_1 ++ dktX2_heldBy_2
def dkwX2_heldBy_0 : List UInt8 := [42, 27, 182, 0, 133, 154, 0, 6, 16, 245, 172, 3, 62, 3, 54, 4, 21, 4, 16, 8, 162, 0, 33, 42]
abbrev dktX2_heldBy_0 : List UInt8 := dkwX2_heldBy_0 ++ dktX2_heldBy_1
theorem dksX2_heldBy_0 : cX2_heldBy.data.toList.drop 0 = dktX2_heldBy_0 := by decide +kernel
theorem dksX2_heldBy_1 : cX2_heldBy.data.toList.drop 24 = dktX2_heldBy_1 := dk_seg dksX2_heldBy_0 24 rfl rfl
theorem dksX2_heldBy_2 : cX2_heldBy.data.toList.drop 47 = dktX2_heldBy_2 := dk_seg dksX2_heldBy_1 23 rfl rfl
theorem dX2_heldBy_0 : decode cX2_heldBy 0 = .ok (.aload_n 0, 1) := dk_42 (dk_at dksX2_heldBy_0 0 rfl rfl)
theorem dX2_heldBy_1 : decode cX2_heldBy 1 = .ok (.iload_n 1, 1) := dk_27 (dk_at dksX2_heldBy_0 1 rfl rfl)
theorem dX2_heldBy_2 : decode cX2_heldBy 2 = .ok (.invokevirtual 133, 3) := dk_182 0 133 (dk_at dksX2_heldBy_0 2 rfl rfl)
theorem dX2_heldBy_5 : decode cX2_heldBy 5 = .ok (.ifCond .ne 6, 3) := dk_154 0 6 (dk_at dksX2_heldBy_0 5 rfl rfl)
theorem dX2_heldBy_8 : decode cX2_heldBy 8 = .ok (.bipush (-11), 2) := dk_16 245 (dk_at dksX2_heldBy_0 8 rfl rfl)
theorem dX2_heldBy_10 : decode cX2_heldBy 10 = .ok (.ireturn, 1) := dk_172 (dk_at dksX2_heldBy_0 10 rfl rfl)
theorem dX2_heldBy_11 : decode cX2_heldBy 11 = .ok (.iconst 0, 1) := dk_3 (dk_at dksX2_heldBy_0 11 rfl rfl)
theorem dX2_heldBy_12 : decode cX2_heldBy 12 = .ok (.istore_n 3, 1) := dk_62 (dk_at dksX2_heldBy_0 12 rfl rfl)
theorem dX2_heldBy_13 : decode cX2_heldBy 13 = .ok (.iconst 0, 1) := dk_3 (dk_at dksX2_heldBy_0 13 rfl rfl)
theorem dX2_heldBy_14 : decode cX2_heldBy 14 = .ok (.istore 4, 2) := dk_54 4 (dk_at dksX2_heldBy_0 14 rfl rfl)
theorem dX2_heldBy_16 : decode cX2_heldBy 16 = .ok (.iload 4, 2) := dk_21 4 (dk_at dksX2_heldBy_0 16 rfl rfl)
theorem dX2_heldBy_18 : decode cX2_heldBy 18 = .ok (.bipush 8, 2) := dk_16 8 (dk_at dksX2_heldBy_0 18 rfl rfl)
theorem dX2_heldBy_20 : decode cX2_heldBy 20 = .ok (.if_icmp .ge 33, 3) := dk_162 0 33 (dk_at dksX2_heldBy_0 20 rfl rfl)
theorem dX2_heldBy_23 : decode cX2_heldBy 23 = .ok (.aload_n 0, 1) := dk_42 (dk_at dksX2_heldBy_0 23 rfl rfl)
theorem dX2_heldBy_24 : decode cX2_heldBy 24 = .ok (.iload_n 1, 1) := dk_27 (dk_at dksX2_heldBy_1 0 rfl rfl)
theorem dX2_heldBy_25 : decode cX2_heldBy 25 = .ok (.iload 4, 2) := dk_21 4 (dk_at dksX2_heldBy_1 1 rfl rfl)
theorem dX2_heldBy_27 : decode cX2_heldBy 27 = .ok (.invokevirtual 76, 3) := dk_182 0 76 (dk_at dksX2_heldBy_1 3 rfl rfl)
theorem dX2_heldBy_30 : decode cX2_heldBy 30 = .ok (.ifCond .ne 6, 3) := dk_154 0 6 (dk_at dksX2_heldBy_1 6 rfl rfl)
theorem dX2_heldBy_33 : decode cX2_heldBy 33 = .ok (.goto 14, 3) := dk_167 0 14 (dk_at dksX2_heldBy_1 9 rfl rfl)
theorem dX2_heldBy_36 : decode cX2_heldBy 36 = .ok (.iload_n 3, 1) := dk_29 (dk_at dksX2_heldBy_1 12 rfl rfl)
theorem dX2_heldBy_37 : decode cX2_heldBy 37 = .ok (.iload_n 2, 1) := dk_28 (dk_at dksX2_heldBy_1 13 rfl rfl)
theorem dX2_heldBy_38 : decode cX2_heldBy 38 = .ok (.if_icmp .ne 6, 3) := dk_160 0 6 (dk_at dksX2_heldBy_1 14 rfl rfl)
theorem dX2_heldBy_41 : decode cX2_heldBy 41 = .ok (.iload 4, 2) := dk_21 4 (dk_at dksX2_heldBy_1 17 rfl rfl)
theorem dX2_heldBy_43 : decode cX2_heldBy 43 = .ok (.ireturn, 1) := dk_172 (dk_at dksX2_heldBy_1 19 rfl rfl)
theorem dX2_heldBy_44 : decode cX2_heldBy 44 = .ok (.iinc 3 1, 3) := dk_132 3 1 (dk_at dksX2_heldBy_1 20 rfl rfl)
theorem dX2_heldBy_47 : decode cX2_heldBy 47 = .ok (.iinc 4 1, 3) := dk_132 4 1 (dk_at dksX2_heldBy_2 0 rfl rfl)
theorem dX2_heldBy_50 : decode cX2_heldBy 50 = .ok (.goto (-34), 3) := dk_167 255 222 (dk_at dksX2_heldBy_2 3 rfl rfl)
theorem dX2_heldBy_53 : decode cX2_heldBy 53 = .ok (.bipush (-11), 2) := dk_16 245 (dk_at dksX2_heldBy_2 6 rfl rfl)
theorem dX2_heldBy_55 : decode cX2_heldBy 55 = .ok (.ireturn, 1) := dk_172 (dk_at dksX2_heldBy_2 8 rfl rfl)
abbrev cX2_shelfOf : ByteArray := prog_12_method_42_code
def yX2_shelfOf : MethodName := ⟨RX2, "shelfOf", "(II)I"⟩
def dkwX2_shelfOf_3 : List UInt8 := [172, 42, 27, 3, 182, 0, 82, 172, 42, 27, 4, 182, 0, 82, 172, 16, 244, 172]
abbrev dktX2_shelfOf_3 : List UInt8 := dkwX2_shelfOf_3 ++ []
def dkwX2_shelfOf_2 : List UInt8 := [42, 27, 182, 0, 152, 172, 42, 27, 182, 0, 155, 172, 42, 27, 5, 182, 0, 82, 172, 42, 27, 182, 0, 158]
abbrev dktX2_shelfOf_2 : List UInt8 := dkwX2_shelfOf_2 ++ dktX2_shelfOf_3
def dkwX2_shelfOf_1 : List UInt8 := [170, 0, 0, 0, 76, 0, 0, 0, 0, 0, 0, 0, 5, 0, 0, 0, 37, 0, 0, 0, 43, 0, 0, 0, 49, 0, 0, 0, 56, 0, 0, 0, 62, 0, 0, 0, 69]
abbrev dktX2_shelfOf_1 : List UInt8 := dkwX2_shelfOf_1 ++ dktX2_shelfOf_2
def dkwX2_shelfOf_0 : List UInt8 := [27, 184, 0, 136, 154, 0, 6, 16, 245, 172, 28]
abbrev dktX2_shelfOf_0 : List UInt8 := dkwX2_shelfOf_0 ++ dktX2_shelfOf_1
theorem dksX2_shelfOf_0 : cX2_shelfOf.data.toList.drop 0 = dktX2_shelfOf_0 := by decide +kernel
theorem dksX2_shelfOf_1 : cX2_shelfOf.data.toList.drop 11 = dktX2_shelfOf_1 := dk_seg dksX2_shelfOf_0 11 rfl rfl
theorem dksX2_shelfOf_2 : cX2_shelfOf.data.toList.drop 48 = dktX2_shelfOf_2 := dk_seg dksX2_shelfOf_1 37 rfl rfl
theorem dksX2_shelfOf_3 : cX2_shelfOf.data.toList.drop 72 = dktX2_shelfOf_3 := dk_seg dksX2_shelfOf_2 24 rfl rfl
theorem dX2_shelfOf_0 : decode cX2_shelfOf 0 = .ok (.iload_n 1, 1) := dk_27 (dk_at dksX2_shelfOf_0 0 rfl rfl)
theorem dX2_shelfOf_1 : decode cX2_shelfOf 1 = .ok (.invokestatic 136, 3) := dk_184 0 136 (dk_at dksX2_shelfOf_0 1 rfl rfl)
theorem dX2_shelfOf_4 : decode cX2_shelfOf 4 = .ok (.ifCond .ne 6, 3) := dk_154 0 6 (dk_at dksX2_shelfOf_0 4 rfl rfl)
theorem dX2_shelfOf_7 : decode cX2_shelfOf 7 = .ok (.bipush (-11), 2) := dk_16 245 (dk_at dksX2_shelfOf_0 7 rfl rfl)
theorem dX2_shelfOf_9 : decode cX2_shelfOf 9 = .ok (.ireturn, 1) := dk_172 (dk_at dksX2_shelfOf_0 9 rfl rfl)
theorem dX2_shelfOf_10 : decode cX2_shelfOf 10 = .ok (.iload_n 2, 1) := dk_28 (dk_at dksX2_shelfOf_0 10 rfl rfl)
theorem dX2_shelfOf_11 : decode cX2_shelfOf 11 = .ok (.tableswitch 76 0 5 #[37, 43, 49, 56, 62, 69], 37) := by decide +kernel
theorem dX2_shelfOf_48 : decode cX2_shelfOf 48 = .ok (.aload_n 0, 1) := dk_42 (dk_at dksX2_shelfOf_2 0 rfl rfl)
theorem dX2_shelfOf_49 : decode cX2_shelfOf 49 = .ok (.iload_n 1, 1) := dk_27 (dk_at dksX2_shelfOf_2 1 rfl rfl)
theorem dX2_shelfOf_50 : decode cX2_shelfOf 50 = .ok (.invokevirtual 152, 3) := dk_182 0 152 (dk_at dksX2_shelfOf_2 2 rfl rfl)
theorem dX2_shelfOf_53 : decode cX2_shelfOf 53 = .ok (.ireturn, 1) := dk_172 (dk_at dksX2_shelfOf_2 5 rfl rfl)
theorem dX2_shelfOf_54 : decode cX2_shelfOf 54 = .ok (.aload_n 0, 1) := dk_42 (dk_at dksX2_shelfOf_2 6 rfl rfl)
theorem dX2_shelfOf_55 : decode cX2_shelfOf 55 = .ok (.iload_n 1, 1) := dk_27 (dk_at dksX2_shelfOf_2 7 rfl rfl)
theorem dX2_shelfOf_56 : decode cX2_shelfOf 56 = .ok (.invokevirtual 155, 3) := dk_182 0 155 (dk_at dksX2_shelfOf_2 8 rfl rfl)
theorem dX2_shelfOf_59 : decode cX2_shelfOf 59 = .ok (.ireturn, 1) := dk_172 (dk_at dksX2_shelfOf_2 11 rfl rfl)
theorem dX2_shelfOf_60 : decode cX2_shelfOf 60 = .ok (.aload_n 0, 1) := dk_42 (dk_at dksX2_shelfOf_2 12 rfl rfl)
theorem dX2_shelfOf_61 : decode cX2_shelfOf 61 = .ok (.iload_n 1, 1) := dk_27 (dk_at dksX2_shelfOf_2 13 rfl rfl)
theorem dX2_shelfOf_62 : decode cX2_shelfOf 62 = .ok (.iconst 2, 1) := dk_5 (dk_at dksX2_shelfOf_2 14 rfl rfl)
theorem dX2_shelfOf_63 : decode cX2_shelfOf 63 = .ok (.invokevirtual 82, 3) := dk_182 0 82 (dk_at dksX2_shelfOf_2 15 rfl rfl)
theorem dX2_shelfOf_66 : decode cX2_shelfOf 66 = .ok (.ireturn, 1) := dk_172 (dk_at dksX2_shelfOf_2 18 rfl rfl)
theorem dX2_shelfOf_67 : decode cX2_shelfOf 67 = .ok (.aload_n 0, 1) := dk_42 (dk_at dksX2_shelfOf_2 19 rfl rfl)
theorem dX2_shelfOf_68 : decode cX2_shelfOf 68 = .ok (.iload_n 1, 1) := dk_27 (dk_at dksX2_shelfOf_2 20 rfl rfl)
theorem dX2_shelfOf_69 : decode cX2_shelfOf 69 = .ok (.invokevirtual 158, 3) := dk_182 0 158 (dk_at dksX2_shelfOf_2 21 rfl rfl)
theorem dX2_shelfOf_72 : decode cX2_shelfOf 72 = .ok (.ireturn, 1) := dk_172 (dk_at dksX2_shelfOf_3 0 rfl rfl)
theorem dX2_shelfOf_73 : decode cX2_shelfOf 73 = .ok (.aload_n 0, 1) := dk_42 (dk_at dksX2_shelfOf_3 1 rfl rfl)
theorem dX2_shelfOf_74 : decode cX2_shelfOf 74 = .ok (.iload_n 1, 1) := dk_27 (dk_at dksX2_shelfOf_3 2 rfl rfl)
theorem dX2_shelfOf_75 : decode cX2_shelfOf 75 = .ok (.iconst 0, 1) := dk_3 (dk_at dksX2_shelfOf_3 3 rfl rfl)
theorem dX2_shelfOf_76 : decode cX2_shelfOf 76 = .ok (.invokevirtual 82, 3) := dk_182 0 82 (dk_at dksX2_shelfOf_3 4 rfl rfl)
theorem dX2_shelfOf_79 : decode cX2_shelfOf 79 = .ok (.ireturn, 1) := dk_172 (dk_at dksX2_shelfOf_3 7 rfl rfl)
theorem dX2_shelfOf_80 : decode cX2_shelfOf 80 = .ok (.aload_n 0, 1) := dk_42 (dk_at dksX2_shelfOf_3 8 rfl rfl)
theorem dX2_shelfOf_81 : decode cX2_shelfOf 81 = .ok (.iload_n 1, 1) := dk_27 (dk_at dksX2_shelfOf_3 9 rfl rfl)
theorem dX2_shelfOf_82 : decode cX2_shelfOf 82 = .ok (.iconst 1, 1) := dk_4 (dk_at dksX2_shelfOf_3 10 rfl rfl)
theorem dX2_shelfOf_83 : decode cX2_shelfOf 83 = .ok (.invokevirtual 82, 3) := dk_182 0 82 (dk_at dksX2_shelfOf_3 11 rfl rfl)
theorem dX2_shelfOf_86 : decode cX2_shelfOf 86 = .ok (.ireturn, 1) := dk_172 (dk_at dksX2_shelfOf_3 14 rfl rfl)
theorem dX2_shelfOf_87 : decode cX2_shelfOf 87 = .ok (.bipush (-12), 2) := dk_16 244 (dk_at dksX2_shelfOf_3 15 rfl rfl)
theorem dX2_shelfOf_89 : decode cX2_shelfOf 89 = .ok (.ireturn, 1) := dk_172 (dk_at dksX2_shelfOf_3 17 rfl rfl)
abbrev cX2_holders : ByteArray := prog_12_method_39_code
def yX2_holders : MethodName := ⟨RX2, "holders", "(I)I"⟩
def dkwX2_holders_1 : List UInt8 := [4, 167, 0, 4, 3, 96, 61, 132, 3, 1, 167, 255, 226, 28, 172]
abbrev dktX2_holders_1 : List UInt8 := dkwX2_holders_1 ++ []
def dkwX2_holders_0 : List UInt8 := [3, 61, 3, 62, 29, 42, 180, 0, 7, 3, 46, 162, 0, 26, 28, 42, 29, 27, 182, 0, 76, 158, 0, 7]
abbrev dktX2_holders_0 : List UInt8 := dkwX2_holders_0 ++ dktX2_holders_1
theorem dksX2_holders_0 : cX2_holders.data.toList.drop 0 = dktX2_holders_0 := by decide +kernel
theorem dksX2_holders_1 : cX2_holders.data.toList.drop 24 = dktX2_holders_1 := dk_seg dksX2_holders_0 24 rfl rfl
theorem dX2_holders_0 : decode cX2_holders 0 = .ok (.iconst 0, 1) := dk_3 (dk_at dksX2_holders_0 0 rfl rfl)
theorem dX2_holders_1 : decode cX2_holders 1 = .ok (.istore_n 2, 1) := dk_61 (dk_at dksX2_holders_0 1 rfl rfl)
theorem dX2_holders_2 : decode cX2_holders 2 = .ok (.iconst 0, 1) := dk_3 (dk_at dksX2_holders_0 2 rfl rfl)
theorem dX2_holders_3 : decode cX2_holders 3 = .ok (.istore_n 3, 1) := dk_62 (dk_at dksX2_holders_0 3 rfl rfl)
theorem dX2_holders_4 : decode cX2_holders 4 = .ok (.iload_n 3, 1) := dk_29 (dk_at dksX2_holders_0 4 rfl rfl)
theorem dX2_holders_5 : decode cX2_holders 5 = .ok (.aload_n 0, 1) := dk_42 (dk_at dksX2_holders_0 5 rfl rfl)
theorem dX2_holders_6 : decode cX2_holders 6 = .ok (.getfield 7, 3) := dk_180 0 7 (dk_at dksX2_holders_0 6 rfl rfl)
theorem dX2_holders_9 : decode cX2_holders 9 = .ok (.iconst 0, 1) := dk_3 (dk_at dksX2_holders_0 9 rfl rfl)
theorem dX2_holders_10 : decode cX2_holders 10 = .ok (.iaload, 1) := dk_46 (dk_at dksX2_holders_0 10 rfl rfl)
theorem dX2_holders_11 : decode cX2_holders 11 = .ok (.if_icmp .ge 26, 3) := dk_162 0 26 (dk_at dksX2_holders_0 11 rfl rfl)
theorem dX2_holders_14 : decode cX2_holders 14 = .ok (.iload_n 2, 1) := dk_28 (dk_at dksX2_holders_0 14 rfl rfl)
theorem dX2_holders_15 : decode cX2_holders 15 = .ok (.aload_n 0, 1) := dk_42 (dk_at dksX2_holders_0 15 rfl rfl)
theorem dX2_holders_16 : decode cX2_holders 16 = .ok (.iload_n 3, 1) := dk_29 (dk_at dksX2_holders_0 16 rfl rfl)
theorem dX2_holders_17 : decode cX2_holders 17 = .ok (.iload_n 1, 1) := dk_27 (dk_at dksX2_holders_0 17 rfl rfl)
theorem dX2_holders_18 : decode cX2_holders 18 = .ok (.invokevirtual 76, 3) := dk_182 0 76 (dk_at dksX2_holders_0 18 rfl rfl)
theorem dX2_holders_21 : decode cX2_holders 21 = .ok (.ifCond .le 7, 3) := dk_158 0 7 (dk_at dksX2_holders_0 21 rfl rfl)
theorem dX2_holders_24 : decode cX2_holders 24 = .ok (.iconst 1, 1) := dk_4 (dk_at dksX2_holders_1 0 rfl rfl)
theorem dX2_holders_25 : decode cX2_holders 25 = .ok (.goto 4, 3) := dk_167 0 4 (dk_at dksX2_holders_1 1 rfl rfl)
theorem dX2_holders_28 : decode cX2_holders 28 = .ok (.iconst 0, 1) := dk_3 (dk_at dksX2_holders_1 4 rfl rfl)
theorem dX2_holders_29 : decode cX2_holders 29 = .ok (.iadd, 1) := dk_96 (dk_at dksX2_holders_1 5 rfl rfl)
theorem dX2_holders_30 : decode cX2_holders 30 = .ok (.istore_n 2, 1) := dk_61 (dk_at dksX2_holders_1 6 rfl rfl)
theorem dX2_holders_31 : decode cX2_holders 31 = .ok (.iinc 3 1, 3) := dk_132 3 1 (dk_at dksX2_holders_1 7 rfl rfl)
theorem dX2_holders_34 : decode cX2_holders 34 = .ok (.goto (-30), 3) := dk_167 255 226 (dk_at dksX2_holders_1 10 rfl rfl)
theorem dX2_holders_37 : decode cX2_holders 37 = .ok (.iload_n 2, 1) := dk_28 (dk_at dksX2_holders_1 13 rfl rfl)
theorem dX2_holders_38 : decode cX2_holders 38 = .ok (.ireturn, 1) := dk_172 (dk_at dksX2_holders_1 14 rfl rfl)
abbrev cX2_howHeld : ByteArray := prog_12_method_40_code
def yX2_howHeld : MethodName := ⟨RX2, "howHeld", "(I)I"⟩
def dkwX2_howHeld_1 : List UInt8 := [42, 29, 27, 182, 0, 76, 167, 0, 4, 28, 61, 132, 3, 1, 167, 255, 222, 28, 172]
abbrev dktX2_howHeld_1 : List UInt8 := dkwX2_howHeld_1 ++ []
def dkwX2_howHeld_0 : List UInt8 := [3, 61, 3, 62, 29, 42, 180, 0, 7, 3, 46, 162, 0, 30, 42, 29, 27, 182, 0, 76, 28, 164, 0, 12]
abbrev dktX2_howHeld_0 : List UInt8 := dkwX2_howHeld_0 ++ dktX2_howHeld_1
theorem dksX2_howHeld_0 : cX2_howHeld.data.toList.drop 0 = dktX2_howHeld_0 := by decide +kernel
theorem dksX2_howHeld_1 : cX2_howHeld.data.toList.drop 24 = dktX2_howHeld_1 := dk_seg dksX2_howHeld_0 24 rfl rfl
theorem dX2_howHeld_0 : decode cX2_howHeld 0 = .ok (.iconst 0, 1) := dk_3 (dk_at dksX2_howHeld_0 0 rfl rfl)
theorem dX2_howHeld_1 : decode cX2_howHeld 1 = .ok (.istore_n 2, 1) := dk_61 (dk_at dksX2_howHeld_0 1 rfl rfl)
theorem dX2_howHeld_2 : decode cX2_howHeld 2 = .ok (.iconst 0, 1) := dk_3 (dk_at dksX2_howHeld_0 2 rfl rfl)
theorem dX2_howHeld_3 : decode cX2_howHeld 3 = .ok (.istore_n 3, 1) := dk_62 (dk_at dksX2_howHeld_0 3 rfl rfl)
theorem dX2_howHeld_4 : decode cX2_howHeld 4 = .ok (.iload_n 3, 1) := dk_29 (dk_at dksX2_howHeld_0 4 rfl rfl)
theorem dX2_howHeld_5 : decode cX2_howHeld 5 = .ok (.aload_n 0, 1) := dk_42 (dk_at dksX2_howHeld_0 5 rfl rfl)
theorem dX2_howHeld_6 : decode cX2_howHeld 6 = .ok (.getfield 7, 3) := dk_180 0 7 (dk_at dksX2_howHeld_0 6 rfl rfl)
theorem dX2_howHeld_9 : decode cX2_howHeld 9 = .ok (.iconst 0, 1) := dk_3 (dk_at dksX2_howHeld_0 9 rfl rfl)
theorem dX2_howHeld_10 : decode cX2_howHeld 10 = .ok (.iaload, 1) := dk_46 (dk_at dksX2_howHeld_0 10 rfl rfl)
theorem dX2_howHeld_11 : decode cX2_howHeld 11 = .ok (.if_icmp .ge 30, 3) := dk_162 0 30 (dk_at dksX2_howHeld_0 11 rfl rfl)
theorem dX2_howHeld_14 : decode cX2_howHeld 14 = .ok (.aload_n 0, 1) := dk_42 (dk_at dksX2_howHeld_0 14 rfl rfl)
theorem dX2_howHeld_15 : decode cX2_howHeld 15 = .ok (.iload_n 3, 1) := dk_29 (dk_at dksX2_howHeld_0 15 rfl rfl)
theorem dX2_howHeld_16 : decode cX2_howHeld 16 = .ok (.iload_n 1, 1) := dk_27 (dk_at dksX2_howHeld_0 16 rfl rfl)
theorem dX2_howHeld_17 : decode cX2_howHeld 17 = .ok (.invokevirtual 76, 3) := dk_182 0 76 (dk_at dksX2_howHeld_0 17 rfl rfl)
theorem dX2_howHeld_20 : decode cX2_howHeld 20 = .ok (.iload_n 2, 1) := dk_28 (dk_at dksX2_howHeld_0 20 rfl rfl)
theorem dX2_howHeld_21 : decode cX2_howHeld 21 = .ok (.if_icmp .le 12, 3) := dk_164 0 12 (dk_at dksX2_howHeld_0 21 rfl rfl)
theorem dX2_howHeld_24 : decode cX2_howHeld 24 = .ok (.aload_n 0, 1) := dk_42 (dk_at dksX2_howHeld_1 0 rfl rfl)
theorem dX2_howHeld_25 : decode cX2_howHeld 25 = .ok (.iload_n 3, 1) := dk_29 (dk_at dksX2_howHeld_1 1 rfl rfl)
theorem dX2_howHeld_26 : decode cX2_howHeld 26 = .ok (.iload_n 1, 1) := dk_27 (dk_at dksX2_howHeld_1 2 rfl rfl)
theorem dX2_howHeld_27 : decode cX2_howHeld 27 = .ok (.invokevirtual 76, 3) := dk_182 0 76 (dk_at dksX2_howHeld_1 3 rfl rfl)
theorem dX2_howHeld_30 : decode cX2_howHeld 30 = .ok (.goto 4, 3) := dk_167 0 4 (dk_at dksX2_howHeld_1 6 rfl rfl)
theorem dX2_howHeld_33 : decode cX2_howHeld 33 = .ok (.iload_n 2, 1) := dk_28 (dk_at dksX2_howHeld_1 9 rfl rfl)
theorem dX2_howHeld_34 : decode cX2_howHeld 34 = .ok (.istore_n 2, 1) := dk_61 (dk_at dksX2_howHeld_1 10 rfl rfl)
theorem dX2_howHeld_35 : decode cX2_howHeld 35 = .ok (.iinc 3 1, 3) := dk_132 3 1 (dk_at dksX2_howHeld_1 11 rfl rfl)
theorem dX2_howHeld_38 : decode cX2_howHeld 38 = .ok (.goto (-34), 3) := dk_167 255 222 (dk_at dksX2_howHeld_1 14 rfl rfl)
theorem dX2_howHeld_41 : decode cX2_howHeld 41 = .ok (.iload_n 2, 1) := dk_28 (dk_at dksX2_howHeld_1 17 rfl rfl)
theorem dX2_howHeld_42 : decode cX2_howHeld 42 = .ok (.ireturn, 1) := dk_172 (dk_at dksX2_howHeld_1 18 rfl rfl)
abbrev cX2_soleWaiters : ByteArray := prog_12_method_41_code
def yX2_soleWaiters : MethodName := ⟨RX2, "soleWaiters", "(I)I"⟩
def dkwX2_soleWaiters_1 : List UInt8 := [5, 182, 0, 57, 5, 160, 0, 7, 4, 167, 0, 4, 3, 96, 61, 132, 3, 1, 167, 255, 218, 28, 172]
abbrev dktX2_soleWaiters_1 : List UInt8 := dkwX2_soleWaiters_1 ++ []
def dkwX2_soleWaiters_0 : List UInt8 := [3, 61, 3, 62, 29, 42, 27, 5, 182, 0, 82, 162, 0, 34, 28, 42, 42, 27, 6, 29, 96, 182, 0, 82]
abbrev dktX2_soleWaiters_0 : List UInt8 := dkwX2_soleWaiters_0 ++ dktX2_soleWaiters_1
theorem dksX2_soleWaiters_0 : cX2_soleWaiters.data.toList.drop 0 = dktX2_soleWaiters_0 := by decide +kernel
theorem dksX2_soleWaiters_1 : cX2_soleWaiters.data.toList.drop 24 = dktX2_soleWaiters_1 := dk_seg dksX2_soleWaiters_0 24 rfl rfl
theorem dX2_soleWaiters_0 : decode cX2_soleWaiters 0 = .ok (.iconst 0, 1) := dk_3 (dk_at dksX2_soleWaiters_0 0 rfl rfl)
theorem dX2_soleWaiters_1 : decode cX2_soleWaiters 1 = .ok (.istore_n 2, 1) := dk_61 (dk_at dksX2_soleWaiters_0 1 rfl rfl)
theorem dX2_soleWaiters_2 : decode cX2_soleWaiters 2 = .ok (.iconst 0, 1) := dk_3 (dk_at dksX2_soleWaiters_0 2 rfl rfl)
theorem dX2_soleWaiters_3 : decode cX2_soleWaiters 3 = .ok (.istore_n 3, 1) := dk_62 (dk_at dksX2_soleWaiters_0 3 rfl rfl)
theorem dX2_soleWaiters_4 : decode cX2_soleWaiters 4 = .ok (.iload_n 3, 1) := dk_29 (dk_at dksX2_soleWaiters_0 4 rfl rfl)
theorem dX2_soleWaiters_5 : decode cX2_soleWaiters 5 = .ok (.aload_n 0, 1) := dk_42 (dk_at dksX2_soleWaiters_0 5 rfl rfl)
theorem dX2_soleWaiters_6 : decode cX2_soleWaiters 6 = .ok (.iload_n 1, 1) := dk_27 (dk_at dksX2_soleWaiters_0 6 rfl rfl)
theorem dX2_soleWaiters_7 : decode cX2_soleWaiters 7 = .ok (.iconst 2, 1) := dk_5 (dk_at dksX2_soleWaiters_0 7 rfl rfl)
theorem dX2_soleWaiters_8 : decode cX2_soleWaiters 8 = .ok (.invokevirtual 82, 3) := dk_182 0 82 (dk_at dksX2_soleWaiters_0 8 rfl rfl)
theorem dX2_soleWaiters_11 : decode cX2_soleWaiters 11 = .ok (.if_icmp .ge 34, 3) := dk_162 0 34 (dk_at dksX2_soleWaiters_0 11 rfl rfl)
theorem dX2_soleWaiters_14 : decode cX2_soleWaiters 14 = .ok (.iload_n 2, 1) := dk_28 (dk_at dksX2_soleWaiters_0 14 rfl rfl)
theorem dX2_soleWaiters_15 : decode cX2_soleWaiters 15 = .ok (.aload_n 0, 1) := dk_42 (dk_at dksX2_soleWaiters_0 15 rfl rfl)
theorem dX2_soleWaiters_16 : decode cX2_soleWaiters 16 = .ok (.aload_n 0, 1) := dk_42 (dk_at dksX2_soleWaiters_0 16 rfl rfl)
theorem dX2_soleWaiters_17 : decode cX2_soleWaiters 17 = .ok (.iload_n 1, 1) := dk_27 (dk_at dksX2_soleWaiters_0 17 rfl rfl)
theorem dX2_soleWaiters_18 : decode cX2_soleWaiters 18 = .ok (.iconst 3, 1) := dk_6 (dk_at dksX2_soleWaiters_0 18 rfl rfl)
theorem dX2_soleWaiters_19 : decode cX2_soleWaiters 19 = .ok (.iload_n 3, 1) := dk_29 (dk_at dksX2_soleWaiters_0 19 rfl rfl)
theorem dX2_soleWaiters_20 : decode cX2_soleWaiters 20 = .ok (.iadd, 1) := dk_96 (dk_at dksX2_soleWaiters_0 20 rfl rfl)
theorem dX2_soleWaiters_21 : decode cX2_soleWaiters 21 = .ok (.invokevirtual 82, 3) := dk_182 0 82 (dk_at dksX2_soleWaiters_0 21 rfl rfl)
theorem dX2_soleWaiters_24 : decode cX2_soleWaiters 24 = .ok (.iconst 2, 1) := dk_5 (dk_at dksX2_soleWaiters_1 0 rfl rfl)
theorem dX2_soleWaiters_25 : decode cX2_soleWaiters 25 = .ok (.invokevirtual 57, 3) := dk_182 0 57 (dk_at dksX2_soleWaiters_1 1 rfl rfl)
theorem dX2_soleWaiters_28 : decode cX2_soleWaiters 28 = .ok (.iconst 2, 1) := dk_5 (dk_at dksX2_soleWaiters_1 4 rfl rfl)
theorem dX2_soleWaiters_29 : decode cX2_soleWaiters 29 = .ok (.if_icmp .ne 7, 3) := dk_160 0 7 (dk_at dksX2_soleWaiters_1 5 rfl rfl)
theorem dX2_soleWaiters_32 : decode cX2_soleWaiters 32 = .ok (.iconst 1, 1) := dk_4 (dk_at dksX2_soleWaiters_1 8 rfl rfl)
theorem dX2_soleWaiters_33 : decode cX2_soleWaiters 33 = .ok (.goto 4, 3) := dk_167 0 4 (dk_at dksX2_soleWaiters_1 9 rfl rfl)
theorem dX2_soleWaiters_36 : decode cX2_soleWaiters 36 = .ok (.iconst 0, 1) := dk_3 (dk_at dksX2_soleWaiters_1 12 rfl rfl)
theorem dX2_soleWaiters_37 : decode cX2_soleWaiters 37 = .ok (.iadd, 1) := dk_96 (dk_at dksX2_soleWaiters_1 13 rfl rfl)
theorem dX2_soleWaiters_38 : decode cX2_soleWaiters 38 = .ok (.istore_n 2, 1) := dk_61 (dk_at dksX2_soleWaiters_1 14 rfl rfl)
theorem dX2_soleWaiters_39 : decode cX2_soleWaiters 39 = .ok (.iinc 3 1, 3) := dk_132 3 1 (dk_at dksX2_soleWaiters_1 15 rfl rfl)
theorem dX2_soleWaiters_42 : decode cX2_soleWaiters 42 = .ok (.goto (-38), 3) := dk_167 255 218 (dk_at dksX2_soleWaiters_1 18 rfl rfl)
theorem dX2_soleWaiters_45 : decode cX2_soleWaiters 45 = .ok (.iload_n 2, 1) := dk_28 (dk_at dksX2_soleWaiters_1 21 rfl rfl)
theorem dX2_soleWaiters_46 : decode cX2_soleWaiters 46 = .ok (.ireturn, 1) := dk_172 (dk_at dksX2_soleWaiters_1 22 rfl rfl)
abbrev cX2_holder : ByteArray := prog_12_method_43_code
def yX2_holder : MethodName := ⟨RX2, "holder", "(II)I"⟩
def dkwX2_holder_2 : List UInt8 := [132, 3, 1, 132, 4, 1, 167, 255, 218, 16, 245, 172]
abbrev dktX2_holder_2 : List UInt8 := dkwX2_holder_2 ++ []
def dkwX2_holder_1 : List UInt8 := [162, 0, 33, 42, 21, 4, 27, 182, 0, 76, 154, 0, 6, 167, 0, 14, 29, 28, 160, 0, 6, 21, 4, 172]
abbrev dktX2_holder_1 : List UInt8 := dkwX2_holder_1 ++ dktX2_holder_2
def dkwX2_holder_0 : List UInt8 := [27, 184, 0, 136, 154, 0, 6, 16, 245, 172, 3, 62, 3, 54, 4, 21, 4, 42, 180, 0, 7, 3, 46]
abbrev dktX2_holder_0 : List UInt8 := dkwX2_holder_0 ++ dktX2_holder_1
theorem dksX2_holder_0 : cX2_holder.data.toList.drop 0 = dktX2_holder_0 := by decide +kernel
theorem dksX2_holder_1 : cX2_holder.data.toList.drop 23 = dktX2_holder_1 := dk_seg dksX2_holder_0 23 rfl rfl
theorem dksX2_holder_2 : cX2_holder.data.toList.drop 47 = dktX2_holder_2 := dk_seg dksX2_holder_1 24 rfl rfl
theorem dX2_holder_0 : decode cX2_holder 0 = .ok (.iload_n 1, 1) := dk_27 (dk_at dksX2_holder_0 0 rfl rfl)
theorem dX2_holder_1 : decode cX2_holder 1 = .ok (.invokestatic 136, 3) := dk_184 0 136 (dk_at dksX2_holder_0 1 rfl rfl)
theorem dX2_holder_4 : decode cX2_holder 4 = .ok (.ifCond .ne 6, 3) := dk_154 0 6 (dk_at dksX2_holder_0 4 rfl rfl)
theorem dX2_holder_7 : decode cX2_holder 7 = .ok (.bipush (-11), 2) := dk_16 245 (dk_at dksX2_holder_0 7 rfl rfl)
theorem dX2_holder_9 : decode cX2_holder 9 = .ok (.ireturn, 1) := dk_172 (dk_at dksX2_holder_0 9 rfl rfl)
theorem dX2_holder_10 : decode cX2_holder 10 = .ok (.iconst 0, 1) := dk_3 (dk_at dksX2_holder_0 10 rfl rfl)
theorem dX2_holder_11 : decode cX2_holder 11 = .ok (.istore_n 3, 1) := dk_62 (dk_at dksX2_holder_0 11 rfl rfl)
theorem dX2_holder_12 : decode cX2_holder 12 = .ok (.iconst 0, 1) := dk_3 (dk_at dksX2_holder_0 12 rfl rfl)
theorem dX2_holder_13 : decode cX2_holder 13 = .ok (.istore 4, 2) := dk_54 4 (dk_at dksX2_holder_0 13 rfl rfl)
theorem dX2_holder_15 : decode cX2_holder 15 = .ok (.iload 4, 2) := dk_21 4 (dk_at dksX2_holder_0 15 rfl rfl)
theorem dX2_holder_17 : decode cX2_holder 17 = .ok (.aload_n 0, 1) := dk_42 (dk_at dksX2_holder_0 17 rfl rfl)
theorem dX2_holder_18 : decode cX2_holder 18 = .ok (.getfield 7, 3) := dk_180 0 7 (dk_at dksX2_holder_0 18 rfl rfl)
theorem dX2_holder_21 : decode cX2_holder 21 = .ok (.iconst 0, 1) := dk_3 (dk_at dksX2_holder_0 21 rfl rfl)
theorem dX2_holder_22 : decode cX2_holder 22 = .ok (.iaload, 1) := dk_46 (dk_at dksX2_holder_0 22 rfl rfl)
theorem dX2_holder_23 : decode cX2_holder 23 = .ok (.if_icmp .ge 33, 3) := dk_162 0 33 (dk_at dksX2_holder_1 0 rfl rfl)
theorem dX2_holder_26 : decode cX2_holder 26 = .ok (.aload_n 0, 1) := dk_42 (dk_at dksX2_holder_1 3 rfl rfl)
theorem dX2_holder_27 : decode cX2_holder 27 = .ok (.iload 4, 2) := dk_21 4 (dk_at dksX2_holder_1 4 rfl rfl)
theorem dX2_holder_29 : decode cX2_holder 29 = .ok (.iload_n 1, 1) := dk_27 (dk_at dksX2_holder_1 6 rfl rfl)
theorem dX2_holder_30 : decode cX2_holder 30 = .ok (.invokevirtual 76, 3) := dk_182 0 76 (dk_at dksX2_holder_1 7 rfl rfl)
theorem dX2_holder_33 : decode cX2_holder 33 = .ok (.ifCond .ne 6, 3) := dk_154 0 6 (dk_at dksX2_holder_1 10 rfl rfl)
theorem dX2_holder_36 : decode cX2_holder 36 = .ok (.goto 14, 3) := dk_167 0 14 (dk_at dksX2_holder_1 13 rfl rfl)
theorem dX2_holder_39 : decode cX2_holder 39 = .ok (.iload_n 3, 1) := dk_29 (dk_at dksX2_holder_1 16 rfl rfl)
theorem dX2_holder_40 : decode cX2_holder 40 = .ok (.iload_n 2, 1) := dk_28 (dk_at dksX2_holder_1 17 rfl rfl)
theorem dX2_holder_41 : decode cX2_holder 41 = .ok (.if_icmp .ne 6, 3) := dk_160 0 6 (dk_at dksX2_holder_1 18 rfl rfl)
theorem dX2_holder_44 : decode cX2_holder 44 = .ok (.iload 4, 2) := dk_21 4 (dk_at dksX2_holder_1 21 rfl rfl)
theorem dX2_holder_46 : decode cX2_holder 46 = .ok (.ireturn, 1) := dk_172 (dk_at dksX2_holder_1 23 rfl rfl)
theorem dX2_holder_47 : decode cX2_holder 47 = .ok (.iinc 3 1, 3) := dk_132 3 1 (dk_at dksX2_holder_2 0 rfl rfl)
theorem dX2_holder_50 : decode cX2_holder 50 = .ok (.iinc 4 1, 3) := dk_132 4 1 (dk_at dksX2_holder_2 3 rfl rfl)
theorem dX2_holder_53 : decode cX2_holder 53 = .ok (.goto (-38), 3) := dk_167 255 218 (dk_at dksX2_holder_2 6 rfl rfl)
theorem dX2_holder_56 : decode cX2_holder 56 = .ok (.bipush (-11), 2) := dk_16 245 (dk_at dksX2_holder_2 9 rfl rfl)
theorem dX2_holder_58 : decode cX2_holder 58 = .ok (.ireturn, 1) := dk_172 (dk_at dksX2_holder_2 11 rfl rfl)
abbrev cX2_waiter : ByteArray := prog_12_method_44_code
def yX2_waiter : MethodName := ⟨RX2, "waiter", "(II)I"⟩
def dkwX2_waiter_1 : List UInt8 := [27, 6, 28, 96, 182, 0, 82, 167, 0, 5, 16, 245, 172]
abbrev dktX2_waiter_1 : List UInt8 := dkwX2_waiter_1 ++ []
def dkwX2_waiter_0 : List UInt8 := [27, 184, 0, 136, 153, 0, 30, 28, 3, 42, 27, 5, 182, 0, 82, 4, 100, 184, 0, 53, 153, 0, 14, 42]
abbrev dktX2_waiter_0 : List UInt8 := dkwX2_waiter_0 ++ dktX2_waiter_1
theorem dksX2_waiter_0 : cX2_waiter.data.toList.drop 0 = dktX2_waiter_0 := by decide +kernel
theorem dksX2_waiter_1 : cX2_waiter.data.toList.drop 24 = dktX2_waiter_1 := dk_seg dksX2_waiter_0 24 rfl rfl
theorem dX2_waiter_0 : decode cX2_waiter 0 = .ok (.iload_n 1, 1) := dk_27 (dk_at dksX2_waiter_0 0 rfl rfl)
theorem dX2_waiter_1 : decode cX2_waiter 1 = .ok (.invokestatic 136, 3) := dk_184 0 136 (dk_at dksX2_waiter_0 1 rfl rfl)
theorem dX2_waiter_4 : decode cX2_waiter 4 = .ok (.ifCond .eq 30, 3) := dk_153 0 30 (dk_at dksX2_waiter_0 4 rfl rfl)
theorem dX2_waiter_7 : decode cX2_waiter 7 = .ok (.iload_n 2, 1) := dk_28 (dk_at dksX2_waiter_0 7 rfl rfl)
theorem dX2_waiter_8 : decode cX2_waiter 8 = .ok (.iconst 0, 1) := dk_3 (dk_at dksX2_waiter_0 8 rfl rfl)
theorem dX2_waiter_9 : decode cX2_waiter 9 = .ok (.aload_n 0, 1) := dk_42 (dk_at dksX2_waiter_0 9 rfl rfl)
theorem dX2_waiter_10 : decode cX2_waiter 10 = .ok (.iload_n 1, 1) := dk_27 (dk_at dksX2_waiter_0 10 rfl rfl)
theorem dX2_waiter_11 : decode cX2_waiter 11 = .ok (.iconst 2, 1) := dk_5 (dk_at dksX2_waiter_0 11 rfl rfl)
theorem dX2_waiter_12 : decode cX2_waiter 12 = .ok (.invokevirtual 82, 3) := dk_182 0 82 (dk_at dksX2_waiter_0 12 rfl rfl)
theorem dX2_waiter_15 : decode cX2_waiter 15 = .ok (.iconst 1, 1) := dk_4 (dk_at dksX2_waiter_0 15 rfl rfl)
theorem dX2_waiter_16 : decode cX2_waiter 16 = .ok (.isub, 1) := dk_100 (dk_at dksX2_waiter_0 16 rfl rfl)
theorem dX2_waiter_17 : decode cX2_waiter 17 = .ok (.invokestatic 53, 3) := dk_184 0 53 (dk_at dksX2_waiter_0 17 rfl rfl)
theorem dX2_waiter_20 : decode cX2_waiter 20 = .ok (.ifCond .eq 14, 3) := dk_153 0 14 (dk_at dksX2_waiter_0 20 rfl rfl)
theorem dX2_waiter_23 : decode cX2_waiter 23 = .ok (.aload_n 0, 1) := dk_42 (dk_at dksX2_waiter_0 23 rfl rfl)
theorem dX2_waiter_24 : decode cX2_waiter 24 = .ok (.iload_n 1, 1) := dk_27 (dk_at dksX2_waiter_1 0 rfl rfl)
theorem dX2_waiter_25 : decode cX2_waiter 25 = .ok (.iconst 3, 1) := dk_6 (dk_at dksX2_waiter_1 1 rfl rfl)
theorem dX2_waiter_26 : decode cX2_waiter 26 = .ok (.iload_n 2, 1) := dk_28 (dk_at dksX2_waiter_1 2 rfl rfl)
theorem dX2_waiter_27 : decode cX2_waiter 27 = .ok (.iadd, 1) := dk_96 (dk_at dksX2_waiter_1 3 rfl rfl)
theorem dX2_waiter_28 : decode cX2_waiter 28 = .ok (.invokevirtual 82, 3) := dk_182 0 82 (dk_at dksX2_waiter_1 4 rfl rfl)
theorem dX2_waiter_31 : decode cX2_waiter 31 = .ok (.goto 5, 3) := dk_167 0 5 (dk_at dksX2_waiter_1 7 rfl rfl)
theorem dX2_waiter_34 : decode cX2_waiter 34 = .ok (.bipush (-11), 2) := dk_16 245 (dk_at dksX2_waiter_1 10 rfl rfl)
theorem dX2_waiter_36 : decode cX2_waiter 36 = .ok (.ireturn, 1) := dk_172 (dk_at dksX2_waiter_1 12 rfl rfl)
abbrev cX2_wouldRing : ByteArray := prog_12_method_45_code
def yX2_wouldRing : MethodName := ⟨RX2, "wouldRing", "(IIZ)I"⟩
def dkwX2_wouldRing_4 : List UInt8 := [184, 0, 49, 21, 5, 153, 0, 7, 4, 167, 0, 4, 3, 172]
abbrev dktX2_wouldRing_4 : List UInt8 := dkwX2_wouldRing_4 ++ []
def dkwX2_wouldRing_3 : List UInt8 := [21, 4, 182, 0, 124, 42, 27, 182, 0, 108, 54, 5, 42, 180, 0, 22, 3, 42, 180, 0, 7, 3]
abbrev dktX2_wouldRing_3 : List UInt8 := dkwX2_wouldRing_3 ++ dktX2_wouldRing_4
def dkwX2_wouldRing_2 : List UInt8 := [182, 0, 121, 153, 0, 5, 3, 172, 42, 180, 0, 7, 3, 42, 180, 0, 22, 3, 184, 0, 49, 42, 27, 28]
abbrev dktX2_wouldRing_2 : List UInt8 := dkwX2_wouldRing_2 ++ dktX2_wouldRing_3
def dkwX2_wouldRing_1 : List UInt8 := [167, 0, 4, 4, 54, 4, 42, 27, 28, 21, 4, 182, 0, 139, 157, 0, 14, 42, 27, 28, 21, 4]
abbrev dktX2_wouldRing_1 : List UInt8 := dkwX2_wouldRing_1 ++ dktX2_wouldRing_2
def dkwX2_wouldRing_0 : List UInt8 := [42, 27, 182, 0, 133, 153, 0, 10, 28, 184, 0, 136, 154, 0, 6, 16, 245, 172, 29, 153, 0, 7, 5]
abbrev dktX2_wouldRing_0 : List UInt8 := dkwX2_wouldRing_0 ++ dktX2_wouldRing_1
theorem dksX2_wouldRing_0 : cX2_wouldRing.data.toList.drop 0 = dktX2_wouldRing_0 := by decide +kernel
theorem dksX2_wouldRing_1 : cX2_wouldRing.data.toList.drop 23 = dktX2_wouldRing_1 := dk_seg dksX2_wouldRing_0 23 rfl rfl
theorem dksX2_wouldRing_2 : cX2_wouldRing.data.toList.drop 45 = dktX2_wouldRing_2 := dk_seg dksX2_wouldRing_1 22 rfl rfl
theorem dksX2_wouldRing_3 : cX2_wouldRing.data.toList.drop 69 = dktX2_wouldRing_3 := dk_seg dksX2_wouldRing_2 24 rfl rfl
theorem dksX2_wouldRing_4 : cX2_wouldRing.data.toList.drop 91 = dktX2_wouldRing_4 := dk_seg dksX2_wouldRing_3 22 rfl rfl
theorem dX2_wouldRing_0 : decode cX2_wouldRing 0 = .ok (.aload_n 0, 1) := dk_42 (dk_at dksX2_wouldRing_0 0 rfl rfl)
theorem dX2_wouldRing_1 : decode cX2_wouldRing 1 = .ok (.iload_n 1, 1) := dk_27 (dk_at dksX2_wouldRing_0 1 rfl rfl)
theorem dX2_wouldRing_2 : decode cX2_wouldRing 2 = .ok (.invokevirtual 133, 3) := dk_182 0 133 (dk_at dksX2_wouldRing_0 2 rfl rfl)
theorem dX2_wouldRing_5 : decode cX2_wouldRing 5 = .ok (.ifCond .eq 10, 3) := dk_153 0 10 (dk_at dksX2_wouldRing_0 5 rfl rfl)
theorem dX2_wouldRing_8 : decode cX2_wouldRing 8 = .ok (.iload_n 2, 1) := dk_28 (dk_at dksX2_wouldRing_0 8 rfl rfl)
theorem dX2_wouldRing_9 : decode cX2_wouldRing 9 = .ok (.invokestatic 136, 3) := dk_184 0 136 (dk_at dksX2_wouldRing_0 9 rfl rfl)
theorem dX2_wouldRing_12 : decode cX2_wouldRing 12 = .ok (.ifCond .ne 6, 3) := dk_154 0 6 (dk_at dksX2_wouldRing_0 12 rfl rfl)
theorem dX2_wouldRing_15 : decode cX2_wouldRing 15 = .ok (.bipush (-11), 2) := dk_16 245 (dk_at dksX2_wouldRing_0 15 rfl rfl)
theorem dX2_wouldRing_17 : decode cX2_wouldRing 17 = .ok (.ireturn, 1) := dk_172 (dk_at dksX2_wouldRing_0 17 rfl rfl)
theorem dX2_wouldRing_18 : decode cX2_wouldRing 18 = .ok (.iload_n 3, 1) := dk_29 (dk_at dksX2_wouldRing_0 18 rfl rfl)
theorem dX2_wouldRing_19 : decode cX2_wouldRing 19 = .ok (.ifCond .eq 7, 3) := dk_153 0 7 (dk_at dksX2_wouldRing_0 19 rfl rfl)
theorem dX2_wouldRing_22 : decode cX2_wouldRing 22 = .ok (.iconst 2, 1) := dk_5 (dk_at dksX2_wouldRing_0 22 rfl rfl)
theorem dX2_wouldRing_23 : decode cX2_wouldRing 23 = .ok (.goto 4, 3) := dk_167 0 4 (dk_at dksX2_wouldRing_1 0 rfl rfl)
theorem dX2_wouldRing_26 : decode cX2_wouldRing 26 = .ok (.iconst 1, 1) := dk_4 (dk_at dksX2_wouldRing_1 3 rfl rfl)
theorem dX2_wouldRing_27 : decode cX2_wouldRing 27 = .ok (.istore 4, 2) := dk_54 4 (dk_at dksX2_wouldRing_1 4 rfl rfl)
theorem dX2_wouldRing_29 : decode cX2_wouldRing 29 = .ok (.aload_n 0, 1) := dk_42 (dk_at dksX2_wouldRing_1 6 rfl rfl)
theorem dX2_wouldRing_30 : decode cX2_wouldRing 30 = .ok (.iload_n 1, 1) := dk_27 (dk_at dksX2_wouldRing_1 7 rfl rfl)
theorem dX2_wouldRing_31 : decode cX2_wouldRing 31 = .ok (.iload_n 2, 1) := dk_28 (dk_at dksX2_wouldRing_1 8 rfl rfl)
theorem dX2_wouldRing_32 : decode cX2_wouldRing 32 = .ok (.iload 4, 2) := dk_21 4 (dk_at dksX2_wouldRing_1 9 rfl rfl)
theorem dX2_wouldRing_34 : decode cX2_wouldRing 34 = .ok (.invokevirtual 139, 3) := dk_182 0 139 (dk_at dksX2_wouldRing_1 11 rfl rfl)
theorem dX2_wouldRing_37 : decode cX2_wouldRing 37 = .ok (.ifCond .gt 14, 3) := dk_157 0 14 (dk_at dksX2_wouldRing_1 14 rfl rfl)
theorem dX2_wouldRing_40 : decode cX2_wouldRing 40 = .ok (.aload_n 0, 1) := dk_42 (dk_at dksX2_wouldRing_1 17 rfl rfl)
theorem dX2_wouldRing_41 : decode cX2_wouldRing 41 = .ok (.iload_n 1, 1) := dk_27 (dk_at dksX2_wouldRing_1 18 rfl rfl)
theorem dX2_wouldRing_42 : decode cX2_wouldRing 42 = .ok (.iload_n 2, 1) := dk_28 (dk_at dksX2_wouldRing_1 19 rfl rfl)
theorem dX2_wouldRing_43 : decode cX2_wouldRing 43 = .ok (.iload 4, 2) := dk_21 4 (dk_at dksX2_wouldRing_1 20 rfl rfl)
theorem dX2_wouldRing_45 : decode cX2_wouldRing 45 = .ok (.invokevirtual 121, 3) := dk_182 0 121 (dk_at dksX2_wouldRing_2 0 rfl rfl)
theorem dX2_wouldRing_48 : decode cX2_wouldRing 48 = .ok (.ifCond .eq 5, 3) := dk_153 0 5 (dk_at dksX2_wouldRing_2 3 rfl rfl)
theorem dX2_wouldRing_51 : decode cX2_wouldRing 51 = .ok (.iconst 0, 1) := dk_3 (dk_at dksX2_wouldRing_2 6 rfl rfl)
theorem dX2_wouldRing_52 : decode cX2_wouldRing 52 = .ok (.ireturn, 1) := dk_172 (dk_at dksX2_wouldRing_2 7 rfl rfl)
theorem dX2_wouldRing_53 : decode cX2_wouldRing 53 = .ok (.aload_n 0, 1) := dk_42 (dk_at dksX2_wouldRing_2 8 rfl rfl)
theorem dX2_wouldRing_54 : decode cX2_wouldRing 54 = .ok (.getfield 7, 3) := dk_180 0 7 (dk_at dksX2_wouldRing_2 9 rfl rfl)
theorem dX2_wouldRing_57 : decode cX2_wouldRing 57 = .ok (.iconst 0, 1) := dk_3 (dk_at dksX2_wouldRing_2 12 rfl rfl)
theorem dX2_wouldRing_58 : decode cX2_wouldRing 58 = .ok (.aload_n 0, 1) := dk_42 (dk_at dksX2_wouldRing_2 13 rfl rfl)
theorem dX2_wouldRing_59 : decode cX2_wouldRing 59 = .ok (.getfield 22, 3) := dk_180 0 22 (dk_at dksX2_wouldRing_2 14 rfl rfl)
theorem dX2_wouldRing_62 : decode cX2_wouldRing 62 = .ok (.iconst 0, 1) := dk_3 (dk_at dksX2_wouldRing_2 17 rfl rfl)
theorem dX2_wouldRing_63 : decode cX2_wouldRing 63 = .ok (.invokestatic 49, 3) := dk_184 0 49 (dk_at dksX2_wouldRing_2 18 rfl rfl)
theorem dX2_wouldRing_66 : decode cX2_wouldRing 66 = .ok (.aload_n 0, 1) := dk_42 (dk_at dksX2_wouldRing_2 21 rfl rfl)
theorem dX2_wouldRing_67 : decode cX2_wouldRing 67 = .ok (.iload_n 1, 1) := dk_27 (dk_at dksX2_wouldRing_2 22 rfl rfl)
theorem dX2_wouldRing_68 : decode cX2_wouldRing 68 = .ok (.iload_n 2, 1) := dk_28 (dk_at dksX2_wouldRing_2 23 rfl rfl)
theorem dX2_wouldRing_69 : decode cX2_wouldRing 69 = .ok (.iload 4, 2) := dk_21 4 (dk_at dksX2_wouldRing_3 0 rfl rfl)
theorem dX2_wouldRing_71 : decode cX2_wouldRing 71 = .ok (.invokevirtual 124, 3) := dk_182 0 124 (dk_at dksX2_wouldRing_3 2 rfl rfl)
theorem dX2_wouldRing_74 : decode cX2_wouldRing 74 = .ok (.aload_n 0, 1) := dk_42 (dk_at dksX2_wouldRing_3 5 rfl rfl)
theorem dX2_wouldRing_75 : decode cX2_wouldRing 75 = .ok (.iload_n 1, 1) := dk_27 (dk_at dksX2_wouldRing_3 6 rfl rfl)
theorem dX2_wouldRing_76 : decode cX2_wouldRing 76 = .ok (.invokevirtual 108, 3) := dk_182 0 108 (dk_at dksX2_wouldRing_3 7 rfl rfl)
theorem dX2_wouldRing_79 : decode cX2_wouldRing 79 = .ok (.istore 5, 2) := dk_54 5 (dk_at dksX2_wouldRing_3 10 rfl rfl)
theorem dX2_wouldRing_81 : decode cX2_wouldRing 81 = .ok (.aload_n 0, 1) := dk_42 (dk_at dksX2_wouldRing_3 12 rfl rfl)
theorem dX2_wouldRing_82 : decode cX2_wouldRing 82 = .ok (.getfield 22, 3) := dk_180 0 22 (dk_at dksX2_wouldRing_3 13 rfl rfl)
theorem dX2_wouldRing_85 : decode cX2_wouldRing 85 = .ok (.iconst 0, 1) := dk_3 (dk_at dksX2_wouldRing_3 16 rfl rfl)
theorem dX2_wouldRing_86 : decode cX2_wouldRing 86 = .ok (.aload_n 0, 1) := dk_42 (dk_at dksX2_wouldRing_3 17 rfl rfl)
theorem dX2_wouldRing_87 : decode cX2_wouldRing 87 = .ok (.getfield 7, 3) := dk_180 0 7 (dk_at dksX2_wouldRing_3 18 rfl rfl)
theorem dX2_wouldRing_90 : decode cX2_wouldRing 90 = .ok (.iconst 0, 1) := dk_3 (dk_at dksX2_wouldRing_3 21 rfl rfl)
theorem dX2_wouldRing_91 : decode cX2_wouldRing 91 = .ok (.invokestatic 49, 3) := dk_184 0 49 (dk_at dksX2_wouldRing_4 0 rfl rfl)
theorem dX2_wouldRing_94 : decode cX2_wouldRing 94 = .ok (.iload 5, 2) := dk_21 5 (dk_at dksX2_wouldRing_4 3 rfl rfl)
theorem dX2_wouldRing_96 : decode cX2_wouldRing 96 = .ok (.ifCond .eq 7, 3) := dk_153 0 7 (dk_at dksX2_wouldRing_4 5 rfl rfl)
theorem dX2_wouldRing_99 : decode cX2_wouldRing 99 = .ok (.iconst 1, 1) := dk_4 (dk_at dksX2_wouldRing_4 8 rfl rfl)
theorem dX2_wouldRing_100 : decode cX2_wouldRing 100 = .ok (.goto 4, 3) := dk_167 0 4 (dk_at dksX2_wouldRing_4 9 rfl rfl)
theorem dX2_wouldRing_103 : decode cX2_wouldRing 103 = .ok (.iconst 0, 1) := dk_3 (dk_at dksX2_wouldRing_4 12 rfl rfl)
theorem dX2_wouldRing_104 : decode cX2_wouldRing 104 = .ok (.ireturn, 1) := dk_172 (dk_at dksX2_wouldRing_4 13 rfl rfl)
abbrev cX2_wouldRingAgain : ByteArray := prog_12_method_46_code
def yX2_wouldRingAgain : MethodName := ⟨RX2, "wouldRingAgain", "(IIZ)I"⟩
def dkwX2_wouldRingAgain_0 : List UInt8 := [42, 27, 28, 29, 182, 0, 161, 172]
abbrev dktX2_wouldRingAgain_0 : List UInt8 := dkwX2_wouldRingAgain_0 ++ []
theorem dksX2_wouldRingAgain_0 : cX2_wouldRingAgain.data.toList.drop 0 = dktX2_wouldRingAgain_0 := by decide +kernel
theorem dX2_wouldRingAgain_0 : decode cX2_wouldRingAgain 0 = .ok (.aload_n 0, 1) := dk_42 (dk_at dksX2_wouldRingAgain_0 0 rfl rfl)
theorem dX2_wouldRingAgain_1 : decode cX2_wouldRingAgain 1 = .ok (.iload_n 1, 1) := dk_27 (dk_at dksX2_wouldRingAgain_0 1 rfl rfl)
theorem dX2_wouldRingAgain_2 : decode cX2_wouldRingAgain 2 = .ok (.iload_n 2, 1) := dk_28 (dk_at dksX2_wouldRingAgain_0 2 rfl rfl)
theorem dX2_wouldRingAgain_3 : decode cX2_wouldRingAgain 3 = .ok (.iload_n 3, 1) := dk_29 (dk_at dksX2_wouldRingAgain_0 3 rfl rfl)
theorem dX2_wouldRingAgain_4 : decode cX2_wouldRingAgain 4 = .ok (.invokevirtual 161, 3) := dk_182 0 161 (dk_at dksX2_wouldRingAgain_0 4 rfl rfl)
theorem dX2_wouldRingAgain_7 : decode cX2_wouldRingAgain 7 = .ok (.ireturn, 1) := dk_172 (dk_at dksX2_wouldRingAgain_0 7 rfl rfl)
abbrev cX2_would : ByteArray := prog_12_method_47_code
def yX2_would : MethodName := ⟨RX2, "would", "(IIZ)I"⟩
def dkwX2_would_3 : List UInt8 := [42, 180, 0, 7, 3, 184, 0, 49, 21, 5, 172]
abbrev dktX2_would_3 : List UInt8 := dkwX2_would_3 ++ []
def dkwX2_would_2 : List UInt8 := [3, 42, 180, 0, 22, 3, 184, 0, 49, 42, 27, 28, 21, 4, 182, 0, 143, 54, 5, 42, 180, 0, 22, 3]
abbrev dktX2_would_2 : List UInt8 := dkwX2_would_2 ++ dktX2_would_3
def dkwX2_would_1 : List UInt8 := [167, 0, 4, 4, 54, 4, 42, 27, 28, 21, 4, 182, 0, 139, 158, 0, 6, 16, 242, 172, 42, 180, 0, 7]
abbrev dktX2_would_1 : List UInt8 := dkwX2_would_1 ++ dktX2_would_2
def dkwX2_would_0 : List UInt8 := [42, 27, 182, 0, 133, 153, 0, 10, 28, 184, 0, 136, 154, 0, 6, 16, 245, 172, 29, 153, 0, 7, 5]
abbrev dktX2_would_0 : List UInt8 := dkwX2_would_0 ++ dktX2_would_1
theorem dksX2_would_0 : cX2_would.data.toList.drop 0 = dktX2_would_0 := by decide +kernel
theorem dksX2_would_1 : cX2_would.data.toList.drop 23 = dktX2_would_1 := dk_seg dksX2_would_0 23 rfl rfl
theorem dksX2_would_2 : cX2_would.data.toList.drop 47 = dktX2_would_2 := dk_seg dksX2_would_1 24 rfl rfl
theorem dksX2_would_3 : cX2_would.data.toList.drop 71 = dktX2_would_3 := dk_seg dksX2_would_2 24 rfl rfl
theorem dX2_would_0 : decode cX2_would 0 = .ok (.aload_n 0, 1) := dk_42 (dk_at dksX2_would_0 0 rfl rfl)
theorem dX2_would_1 : decode cX2_would 1 = .ok (.iload_n 1, 1) := dk_27 (dk_at dksX2_would_0 1 rfl rfl)
theorem dX2_would_2 : decode cX2_would 2 = .ok (.invokevirtual 133, 3) := dk_182 0 133 (dk_at dksX2_would_0 2 rfl rfl)
theorem dX2_would_5 : decode cX2_would 5 = .ok (.ifCond .eq 10, 3) := dk_153 0 10 (dk_at dksX2_would_0 5 rfl rfl)
theorem dX2_would_8 : decode cX2_would 8 = .ok (.iload_n 2, 1) := dk_28 (dk_at dksX2_would_0 8 rfl rfl)
theorem dX2_would_9 : decode cX2_would 9 = .ok (.invokestatic 136, 3) := dk_184 0 136 (dk_at dksX2_would_0 9 rfl rfl)
theorem dX2_would_12 : decode cX2_would 12 = .ok (.ifCond .ne 6, 3) := dk_154 0 6 (dk_at dksX2_would_0 12 rfl rfl)
theorem dX2_would_15 : decode cX2_would 15 = .ok (.bipush (-11), 2) := dk_16 245 (dk_at dksX2_would_0 15 rfl rfl)
theorem dX2_would_17 : decode cX2_would 17 = .ok (.ireturn, 1) := dk_172 (dk_at dksX2_would_0 17 rfl rfl)
theorem dX2_would_18 : decode cX2_would 18 = .ok (.iload_n 3, 1) := dk_29 (dk_at dksX2_would_0 18 rfl rfl)
theorem dX2_would_19 : decode cX2_would 19 = .ok (.ifCond .eq 7, 3) := dk_153 0 7 (dk_at dksX2_would_0 19 rfl rfl)
theorem dX2_would_22 : decode cX2_would 22 = .ok (.iconst 2, 1) := dk_5 (dk_at dksX2_would_0 22 rfl rfl)
theorem dX2_would_23 : decode cX2_would 23 = .ok (.goto 4, 3) := dk_167 0 4 (dk_at dksX2_would_1 0 rfl rfl)
theorem dX2_would_26 : decode cX2_would 26 = .ok (.iconst 1, 1) := dk_4 (dk_at dksX2_would_1 3 rfl rfl)
theorem dX2_would_27 : decode cX2_would 27 = .ok (.istore 4, 2) := dk_54 4 (dk_at dksX2_would_1 4 rfl rfl)
theorem dX2_would_29 : decode cX2_would 29 = .ok (.aload_n 0, 1) := dk_42 (dk_at dksX2_would_1 6 rfl rfl)
theorem dX2_would_30 : decode cX2_would 30 = .ok (.iload_n 1, 1) := dk_27 (dk_at dksX2_would_1 7 rfl rfl)
theorem dX2_would_31 : decode cX2_would 31 = .ok (.iload_n 2, 1) := dk_28 (dk_at dksX2_would_1 8 rfl rfl)
theorem dX2_would_32 : decode cX2_would 32 = .ok (.iload 4, 2) := dk_21 4 (dk_at dksX2_would_1 9 rfl rfl)
theorem dX2_would_34 : decode cX2_would 34 = .ok (.invokevirtual 139, 3) := dk_182 0 139 (dk_at dksX2_would_1 11 rfl rfl)
theorem dX2_would_37 : decode cX2_would 37 = .ok (.ifCond .le 6, 3) := dk_158 0 6 (dk_at dksX2_would_1 14 rfl rfl)
theorem dX2_would_40 : decode cX2_would 40 = .ok (.bipush (-14), 2) := dk_16 242 (dk_at dksX2_would_1 17 rfl rfl)
theorem dX2_would_42 : decode cX2_would 42 = .ok (.ireturn, 1) := dk_172 (dk_at dksX2_would_1 19 rfl rfl)
theorem dX2_would_43 : decode cX2_would 43 = .ok (.aload_n 0, 1) := dk_42 (dk_at dksX2_would_1 20 rfl rfl)
theorem dX2_would_44 : decode cX2_would 44 = .ok (.getfield 7, 3) := dk_180 0 7 (dk_at dksX2_would_1 21 rfl rfl)
theorem dX2_would_47 : decode cX2_would 47 = .ok (.iconst 0, 1) := dk_3 (dk_at dksX2_would_2 0 rfl rfl)
theorem dX2_would_48 : decode cX2_would 48 = .ok (.aload_n 0, 1) := dk_42 (dk_at dksX2_would_2 1 rfl rfl)
theorem dX2_would_49 : decode cX2_would 49 = .ok (.getfield 22, 3) := dk_180 0 22 (dk_at dksX2_would_2 2 rfl rfl)
theorem dX2_would_52 : decode cX2_would 52 = .ok (.iconst 0, 1) := dk_3 (dk_at dksX2_would_2 5 rfl rfl)
theorem dX2_would_53 : decode cX2_would 53 = .ok (.invokestatic 49, 3) := dk_184 0 49 (dk_at dksX2_would_2 6 rfl rfl)
theorem dX2_would_56 : decode cX2_would 56 = .ok (.aload_n 0, 1) := dk_42 (dk_at dksX2_would_2 9 rfl rfl)
theorem dX2_would_57 : decode cX2_would 57 = .ok (.iload_n 1, 1) := dk_27 (dk_at dksX2_would_2 10 rfl rfl)
theorem dX2_would_58 : decode cX2_would 58 = .ok (.iload_n 2, 1) := dk_28 (dk_at dksX2_would_2 11 rfl rfl)
theorem dX2_would_59 : decode cX2_would 59 = .ok (.iload 4, 2) := dk_21 4 (dk_at dksX2_would_2 12 rfl rfl)
theorem dX2_would_61 : decode cX2_would 61 = .ok (.invokevirtual 143, 3) := dk_182 0 143 (dk_at dksX2_would_2 14 rfl rfl)
theorem dX2_would_64 : decode cX2_would 64 = .ok (.istore 5, 2) := dk_54 5 (dk_at dksX2_would_2 17 rfl rfl)
theorem dX2_would_66 : decode cX2_would 66 = .ok (.aload_n 0, 1) := dk_42 (dk_at dksX2_would_2 19 rfl rfl)
theorem dX2_would_67 : decode cX2_would 67 = .ok (.getfield 22, 3) := dk_180 0 22 (dk_at dksX2_would_2 20 rfl rfl)
theorem dX2_would_70 : decode cX2_would 70 = .ok (.iconst 0, 1) := dk_3 (dk_at dksX2_would_2 23 rfl rfl)
theorem dX2_would_71 : decode cX2_would 71 = .ok (.aload_n 0, 1) := dk_42 (dk_at dksX2_would_3 0 rfl rfl)
theorem dX2_would_72 : decode cX2_would 72 = .ok (.getfield 7, 3) := dk_180 0 7 (dk_at dksX2_would_3 1 rfl rfl)
theorem dX2_would_75 : decode cX2_would 75 = .ok (.iconst 0, 1) := dk_3 (dk_at dksX2_would_3 4 rfl rfl)
theorem dX2_would_76 : decode cX2_would 76 = .ok (.invokestatic 49, 3) := dk_184 0 49 (dk_at dksX2_would_3 5 rfl rfl)
theorem dX2_would_79 : decode cX2_would 79 = .ok (.iload 5, 2) := dk_21 5 (dk_at dksX2_would_3 8 rfl rfl)
theorem dX2_would_81 : decode cX2_would 81 = .ok (.ireturn, 1) := dk_172 (dk_at dksX2_would_3 10 rfl rfl)
abbrev cX2_chain : ByteArray := prog_12_method_49_code
def yX2_chain : MethodName := ⟨RX2, "chain", "(I)I"⟩
def dkwX2_chain_0 : List UInt8 := [42, 27, 182, 0, 133, 153, 0, 11, 42, 27, 182, 0, 165, 167, 0, 5, 16, 245, 172]
abbrev dktX2_chain_0 : List UInt8 := dkwX2_chain_0 ++ []
theorem dksX2_chain_0 : cX2_chain.data.toList.drop 0 = dktX2_chain_0 := by decide +kernel
theorem dX2_chain_0 : decode cX2_chain 0 = .ok (.aload_n 0, 1) := dk_42 (dk_at dksX2_chain_0 0 rfl rfl)
theorem dX2_chain_1 : decode cX2_chain 1 = .ok (.iload_n 1, 1) := dk_27 (dk_at dksX2_chain_0 1 rfl rfl)
theorem dX2_chain_2 : decode cX2_chain 2 = .ok (.invokevirtual 133, 3) := dk_182 0 133 (dk_at dksX2_chain_0 2 rfl rfl)
theorem dX2_chain_5 : decode cX2_chain 5 = .ok (.ifCond .eq 11, 3) := dk_153 0 11 (dk_at dksX2_chain_0 5 rfl rfl)
theorem dX2_chain_8 : decode cX2_chain 8 = .ok (.aload_n 0, 1) := dk_42 (dk_at dksX2_chain_0 8 rfl rfl)
theorem dX2_chain_9 : decode cX2_chain 9 = .ok (.iload_n 1, 1) := dk_27 (dk_at dksX2_chain_0 9 rfl rfl)
theorem dX2_chain_10 : decode cX2_chain 10 = .ok (.invokevirtual 165, 3) := dk_182 0 165 (dk_at dksX2_chain_0 10 rfl rfl)
theorem dX2_chain_13 : decode cX2_chain 13 = .ok (.goto 5, 3) := dk_167 0 5 (dk_at dksX2_chain_0 13 rfl rfl)
theorem dX2_chain_16 : decode cX2_chain 16 = .ok (.bipush (-11), 2) := dk_16 245 (dk_at dksX2_chain_0 16 rfl rfl)
theorem dX2_chain_18 : decode cX2_chain 18 = .ok (.ireturn, 1) := dk_172 (dk_at dksX2_chain_0 18 rfl rfl)
abbrev cX2_chainFrom : ByteArray := prog_12_method_48_code
def yX2_chainFrom : MethodName := ⟨RX2, "chainFrom", "(I)I"⟩
def dkwX2_chainFrom_2 : List UInt8 := [164, 0, 8, 21, 5, 167, 0, 4, 29, 62, 132, 4, 1, 167, 255, 209, 29, 4, 96, 172]
abbrev dktX2_chainFrom_2 : List UInt8 := dkwX2_chainFrom_2 ++ []
def dkwX2_chainFrom_1 : List UInt8 := [21, 4, 122, 4, 126, 154, 0, 6, 167, 0, 24, 42, 21, 4, 182, 0, 165, 54, 5, 21, 5, 29]
abbrev dktX2_chainFrom_1 : List UInt8 := dkwX2_chainFrom_1 ++ dktX2_chainFrom_2
def dkwX2_chainFrom_0 : List UInt8 := [42, 27, 182, 0, 98, 61, 3, 62, 3, 54, 4, 21, 4, 42, 180, 0, 7, 3, 46, 162, 0, 42, 28]
abbrev dktX2_chainFrom_0 : List UInt8 := dkwX2_chainFrom_0 ++ dktX2_chainFrom_1
theorem dksX2_chainFrom_0 : cX2_chainFrom.data.toList.drop 0 = dktX2_chainFrom_0 := by decide +kernel
theorem dksX2_chainFrom_1 : cX2_chainFrom.data.toList.drop 23 = dktX2_chainFrom_1 := dk_seg dksX2_chainFrom_0 23 rfl rfl
theorem dksX2_chainFrom_2 : cX2_chainFrom.data.toList.drop 45 = dktX2_chainFrom_2 := dk_seg dksX2_chainFrom_1 22 rfl rfl
theorem dX2_chainFrom_0 : decode cX2_chainFrom 0 = .ok (.aload_n 0, 1) := dk_42 (dk_at dksX2_chainFrom_0 0 rfl rfl)
theorem dX2_chainFrom_1 : decode cX2_chainFrom 1 = .ok (.iload_n 1, 1) := dk_27 (dk_at dksX2_chainFrom_0 1 rfl rfl)
theorem dX2_chainFrom_2 : decode cX2_chainFrom 2 = .ok (.invokevirtual 98, 3) := dk_182 0 98 (dk_at dksX2_chainFrom_0 2 rfl rfl)
theorem dX2_chainFrom_5 : decode cX2_chainFrom 5 = .ok (.istore_n 2, 1) := dk_61 (dk_at dksX2_chainFrom_0 5 rfl rfl)
theorem dX2_chainFrom_6 : decode cX2_chainFrom 6 = .ok (.iconst 0, 1) := dk_3 (dk_at dksX2_chainFrom_0 6 rfl rfl)
theorem dX2_chainFrom_7 : decode cX2_chainFrom 7 = .ok (.istore_n 3, 1) := dk_62 (dk_at dksX2_chainFrom_0 7 rfl rfl)
theorem dX2_chainFrom_8 : decode cX2_chainFrom 8 = .ok (.iconst 0, 1) := dk_3 (dk_at dksX2_chainFrom_0 8 rfl rfl)
theorem dX2_chainFrom_9 : decode cX2_chainFrom 9 = .ok (.istore 4, 2) := dk_54 4 (dk_at dksX2_chainFrom_0 9 rfl rfl)
theorem dX2_chainFrom_11 : decode cX2_chainFrom 11 = .ok (.iload 4, 2) := dk_21 4 (dk_at dksX2_chainFrom_0 11 rfl rfl)
theorem dX2_chainFrom_13 : decode cX2_chainFrom 13 = .ok (.aload_n 0, 1) := dk_42 (dk_at dksX2_chainFrom_0 13 rfl rfl)
theorem dX2_chainFrom_14 : decode cX2_chainFrom 14 = .ok (.getfield 7, 3) := dk_180 0 7 (dk_at dksX2_chainFrom_0 14 rfl rfl)
theorem dX2_chainFrom_17 : decode cX2_chainFrom 17 = .ok (.iconst 0, 1) := dk_3 (dk_at dksX2_chainFrom_0 17 rfl rfl)
theorem dX2_chainFrom_18 : decode cX2_chainFrom 18 = .ok (.iaload, 1) := dk_46 (dk_at dksX2_chainFrom_0 18 rfl rfl)
theorem dX2_chainFrom_19 : decode cX2_chainFrom 19 = .ok (.if_icmp .ge 42, 3) := dk_162 0 42 (dk_at dksX2_chainFrom_0 19 rfl rfl)
theorem dX2_chainFrom_22 : decode cX2_chainFrom 22 = .ok (.iload_n 2, 1) := dk_28 (dk_at dksX2_chainFrom_0 22 rfl rfl)
theorem dX2_chainFrom_23 : decode cX2_chainFrom 23 = .ok (.iload 4, 2) := dk_21 4 (dk_at dksX2_chainFrom_1 0 rfl rfl)
theorem dX2_chainFrom_25 : decode cX2_chainFrom 25 = .ok (.ishr, 1) := dk_122 (dk_at dksX2_chainFrom_1 2 rfl rfl)
theorem dX2_chainFrom_26 : decode cX2_chainFrom 26 = .ok (.iconst 1, 1) := dk_4 (dk_at dksX2_chainFrom_1 3 rfl rfl)
theorem dX2_chainFrom_27 : decode cX2_chainFrom 27 = .ok (.iand, 1) := dk_126 (dk_at dksX2_chainFrom_1 4 rfl rfl)
theorem dX2_chainFrom_28 : decode cX2_chainFrom 28 = .ok (.ifCond .ne 6, 3) := dk_154 0 6 (dk_at dksX2_chainFrom_1 5 rfl rfl)
theorem dX2_chainFrom_31 : decode cX2_chainFrom 31 = .ok (.goto 24, 3) := dk_167 0 24 (dk_at dksX2_chainFrom_1 8 rfl rfl)
theorem dX2_chainFrom_34 : decode cX2_chainFrom 34 = .ok (.aload_n 0, 1) := dk_42 (dk_at dksX2_chainFrom_1 11 rfl rfl)
theorem dX2_chainFrom_35 : decode cX2_chainFrom 35 = .ok (.iload 4, 2) := dk_21 4 (dk_at dksX2_chainFrom_1 12 rfl rfl)
theorem dX2_chainFrom_37 : decode cX2_chainFrom 37 = .ok (.invokevirtual 165, 3) := dk_182 0 165 (dk_at dksX2_chainFrom_1 14 rfl rfl)
theorem dX2_chainFrom_40 : decode cX2_chainFrom 40 = .ok (.istore 5, 2) := dk_54 5 (dk_at dksX2_chainFrom_1 17 rfl rfl)
theorem dX2_chainFrom_42 : decode cX2_chainFrom 42 = .ok (.iload 5, 2) := dk_21 5 (dk_at dksX2_chainFrom_1 19 rfl rfl)
theorem dX2_chainFrom_44 : decode cX2_chainFrom 44 = .ok (.iload_n 3, 1) := dk_29 (dk_at dksX2_chainFrom_1 21 rfl rfl)
theorem dX2_chainFrom_45 : decode cX2_chainFrom 45 = .ok (.if_icmp .le 8, 3) := dk_164 0 8 (dk_at dksX2_chainFrom_2 0 rfl rfl)
theorem dX2_chainFrom_48 : decode cX2_chainFrom 48 = .ok (.iload 5, 2) := dk_21 5 (dk_at dksX2_chainFrom_2 3 rfl rfl)
theorem dX2_chainFrom_50 : decode cX2_chainFrom 50 = .ok (.goto 4, 3) := dk_167 0 4 (dk_at dksX2_chainFrom_2 5 rfl rfl)
theorem dX2_chainFrom_53 : decode cX2_chainFrom 53 = .ok (.iload_n 3, 1) := dk_29 (dk_at dksX2_chainFrom_2 8 rfl rfl)
theorem dX2_chainFrom_54 : decode cX2_chainFrom 54 = .ok (.istore_n 3, 1) := dk_62 (dk_at dksX2_chainFrom_2 9 rfl rfl)
theorem dX2_chainFrom_55 : decode cX2_chainFrom 55 = .ok (.iinc 4 1, 3) := dk_132 4 1 (dk_at dksX2_chainFrom_2 10 rfl rfl)
theorem dX2_chainFrom_58 : decode cX2_chainFrom 58 = .ok (.goto (-47), 3) := dk_167 255 209 (dk_at dksX2_chainFrom_2 13 rfl rfl)
theorem dX2_chainFrom_61 : decode cX2_chainFrom 61 = .ok (.iload_n 3, 1) := dk_29 (dk_at dksX2_chainFrom_2 16 rfl rfl)
theorem dX2_chainFrom_62 : decode cX2_chainFrom 62 = .ok (.iconst 1, 1) := dk_4 (dk_at dksX2_chainFrom_2 17 rfl rfl)
theorem dX2_chainFrom_63 : decode cX2_chainFrom 63 = .ok (.iadd, 1) := dk_96 (dk_at dksX2_chainFrom_2 18 rfl rfl)
theorem dX2_chainFrom_64 : decode cX2_chainFrom 64 = .ok (.ireturn, 1) := dk_172 (dk_at dksX2_chainFrom_2 19 rfl rfl)
abbrev cX2_waitedFor : ByteArray := prog_12_method_50_code
def yX2_waitedFor : MethodName := ⟨RX2, "waitedFor", "(I)I"⟩
def dkwX2_waitedFor_2 : List UInt8 := [172]
abbrev dktX2_waitedFor_2 : List UInt8 := dkwX2_waitedFor_2 ++ []
def dkwX2_waitedFor_1 : List UInt8 := [162, 0, 23, 28, 42, 29, 182, 0, 102, 27, 122, 4, 126, 29, 120, 128, 61, 132, 3, 1, 167, 255, 229, 28]
abbrev dktX2_waitedFor_1 : List UInt8 := dkwX2_waitedFor_1 ++ dktX2_waitedFor_2
def dkwX2_waitedFor_0 : List UInt8 := [42, 27, 182, 0, 133, 154, 0, 6, 16, 245, 172, 3, 61, 3, 62, 29, 42, 180, 0, 7, 3, 46]
abbrev dktX2_waitedFor_0 : List UInt8 := dkwX2_waitedFor_0 ++ dktX2_waitedFor_1
theorem dksX2_waitedFor_0 : cX2_waitedFor.data.toList.drop 0 = dktX2_waitedFor_0 := by decide +kernel
theorem dksX2_waitedFor_1 : cX2_waitedFor.data.toList.drop 22 = dktX2_waitedFor_1 := dk_seg dksX2_waitedFor_0 22 rfl rfl
theorem dksX2_waitedFor_2 : cX2_waitedFor.data.toList.drop 46 = dktX2_waitedFor_2 := dk_seg dksX2_waitedFor_1 24 rfl rfl
theorem dX2_waitedFor_0 : decode cX2_waitedFor 0 = .ok (.aload_n 0, 1) := dk_42 (dk_at dksX2_waitedFor_0 0 rfl rfl)
theorem dX2_waitedFor_1 : decode cX2_waitedFor 1 = .ok (.iload_n 1, 1) := dk_27 (dk_at dksX2_waitedFor_0 1 rfl rfl)
theorem dX2_waitedFor_2 : decode cX2_waitedFor 2 = .ok (.invokevirtual 133, 3) := dk_182 0 133 (dk_at dksX2_waitedFor_0 2 rfl rfl)
theorem dX2_waitedFor_5 : decode cX2_waitedFor 5 = .ok (.ifCond .ne 6, 3) := dk_154 0 6 (dk_at dksX2_waitedFor_0 5 rfl rfl)
theorem dX2_waitedFor_8 : decode cX2_waitedFor 8 = .ok (.bipush (-11), 2) := dk_16 245 (dk_at dksX2_waitedFor_0 8 rfl rfl)
theorem dX2_waitedFor_10 : decode cX2_waitedFor 10 = .ok (.ireturn, 1) := dk_172 (dk_at dksX2_waitedFor_0 10 rfl rfl)
theorem dX2_waitedFor_11 : decode cX2_waitedFor 11 = .ok (.iconst 0, 1) := dk_3 (dk_at dksX2_waitedFor_0 11 rfl rfl)
theorem dX2_waitedFor_12 : decode cX2_waitedFor 12 = .ok (.istore_n 2, 1) := dk_61 (dk_at dksX2_waitedFor_0 12 rfl rfl)
theorem dX2_waitedFor_13 : decode cX2_waitedFor 13 = .ok (.iconst 0, 1) := dk_3 (dk_at dksX2_waitedFor_0 13 rfl rfl)
theorem dX2_waitedFor_14 : decode cX2_waitedFor 14 = .ok (.istore_n 3, 1) := dk_62 (dk_at dksX2_waitedFor_0 14 rfl rfl)
theorem dX2_waitedFor_15 : decode cX2_waitedFor 15 = .ok (.iload_n 3, 1) := dk_29 (dk_at dksX2_waitedFor_0 15 rfl rfl)
theorem dX2_waitedFor_16 : decode cX2_waitedFor 16 = .ok (.aload_n 0, 1) := dk_42 (dk_at dksX2_waitedFor_0 16 rfl rfl)
theorem dX2_waitedFor_17 : decode cX2_waitedFor 17 = .ok (.getfield 7, 3) := dk_180 0 7 (dk_at dksX2_waitedFor_0 17 rfl rfl)
theorem dX2_waitedFor_20 : decode cX2_waitedFor 20 = .ok (.iconst 0, 1) := dk_3 (dk_at dksX2_waitedFor_0 20 rfl rfl)
theorem dX2_waitedFor_21 : decode cX2_waitedFor 21 = .ok (.iaload, 1) := dk_46 (dk_at dksX2_waitedFor_0 21 rfl rfl)
theorem dX2_waitedFor_22 : decode cX2_waitedFor 22 = .ok (.if_icmp .ge 23, 3) := dk_162 0 23 (dk_at dksX2_waitedFor_1 0 rfl rfl)
theorem dX2_waitedFor_25 : decode cX2_waitedFor 25 = .ok (.iload_n 2, 1) := dk_28 (dk_at dksX2_waitedFor_1 3 rfl rfl)
theorem dX2_waitedFor_26 : decode cX2_waitedFor 26 = .ok (.aload_n 0, 1) := dk_42 (dk_at dksX2_waitedFor_1 4 rfl rfl)
theorem dX2_waitedFor_27 : decode cX2_waitedFor 27 = .ok (.iload_n 3, 1) := dk_29 (dk_at dksX2_waitedFor_1 5 rfl rfl)
theorem dX2_waitedFor_28 : decode cX2_waitedFor 28 = .ok (.invokevirtual 102, 3) := dk_182 0 102 (dk_at dksX2_waitedFor_1 6 rfl rfl)
theorem dX2_waitedFor_31 : decode cX2_waitedFor 31 = .ok (.iload_n 1, 1) := dk_27 (dk_at dksX2_waitedFor_1 9 rfl rfl)
theorem dX2_waitedFor_32 : decode cX2_waitedFor 32 = .ok (.ishr, 1) := dk_122 (dk_at dksX2_waitedFor_1 10 rfl rfl)
theorem dX2_waitedFor_33 : decode cX2_waitedFor 33 = .ok (.iconst 1, 1) := dk_4 (dk_at dksX2_waitedFor_1 11 rfl rfl)
theorem dX2_waitedFor_34 : decode cX2_waitedFor 34 = .ok (.iand, 1) := dk_126 (dk_at dksX2_waitedFor_1 12 rfl rfl)
theorem dX2_waitedFor_35 : decode cX2_waitedFor 35 = .ok (.iload_n 3, 1) := dk_29 (dk_at dksX2_waitedFor_1 13 rfl rfl)
theorem dX2_waitedFor_36 : decode cX2_waitedFor 36 = .ok (.ishl, 1) := dk_120 (dk_at dksX2_waitedFor_1 14 rfl rfl)
theorem dX2_waitedFor_37 : decode cX2_waitedFor 37 = .ok (.ior, 1) := dk_128 (dk_at dksX2_waitedFor_1 15 rfl rfl)
theorem dX2_waitedFor_38 : decode cX2_waitedFor 38 = .ok (.istore_n 2, 1) := dk_61 (dk_at dksX2_waitedFor_1 16 rfl rfl)
theorem dX2_waitedFor_39 : decode cX2_waitedFor 39 = .ok (.iinc 3 1, 3) := dk_132 3 1 (dk_at dksX2_waitedFor_1 17 rfl rfl)
theorem dX2_waitedFor_42 : decode cX2_waitedFor 42 = .ok (.goto (-27), 3) := dk_167 255 229 (dk_at dksX2_waitedFor_1 20 rfl rfl)
theorem dX2_waitedFor_45 : decode cX2_waitedFor 45 = .ok (.iload_n 2, 1) := dk_28 (dk_at dksX2_waitedFor_1 23 rfl rfl)
theorem dX2_waitedFor_46 : decode cX2_waitedFor 46 = .ok (.ireturn, 1) := dk_172 (dk_at dksX2_waitedFor_2 0 rfl rfl)
abbrev cX2_needed : ByteArray := prog_12_method_52_code
def yX2_needed : MethodName := ⟨RX2, "needed", "(I)I"⟩
def dkwX2_needed_2 : List UInt8 := [160, 0, 5, 28, 172, 132, 2, 1, 167, 255, 204, 16, 245, 172]
abbrev dktX2_needed_2 : List UInt8 := dkwX2_needed_2 ++ []
def dkwX2_needed_1 : List UInt8 := [28, 182, 0, 168, 153, 0, 7, 4, 167, 0, 4, 3, 96, 62, 132, 4, 1, 167, 255, 228, 29, 27]
abbrev dktX2_needed_1 : List UInt8 := dkwX2_needed_1 ++ dktX2_needed_2
def dkwX2_needed_0 : List UInt8 := [3, 61, 28, 16, 8, 162, 0, 52, 3, 62, 3, 54, 4, 21, 4, 16, 8, 162, 0, 27, 29, 42, 21, 4]
abbrev dktX2_needed_0 : List UInt8 := dkwX2_needed_0 ++ dktX2_needed_1
theorem dksX2_needed_0 : cX2_needed.data.toList.drop 0 = dktX2_needed_0 := by decide +kernel
theorem dksX2_needed_1 : cX2_needed.data.toList.drop 24 = dktX2_needed_1 := dk_seg dksX2_needed_0 24 rfl rfl
theorem dksX2_needed_2 : cX2_needed.data.toList.drop 46 = dktX2_needed_2 := dk_seg dksX2_needed_1 22 rfl rfl
theorem dX2_needed_0 : decode cX2_needed 0 = .ok (.iconst 0, 1) := dk_3 (dk_at dksX2_needed_0 0 rfl rfl)
theorem dX2_needed_1 : decode cX2_needed 1 = .ok (.istore_n 2, 1) := dk_61 (dk_at dksX2_needed_0 1 rfl rfl)
theorem dX2_needed_2 : decode cX2_needed 2 = .ok (.iload_n 2, 1) := dk_28 (dk_at dksX2_needed_0 2 rfl rfl)
theorem dX2_needed_3 : decode cX2_needed 3 = .ok (.bipush 8, 2) := dk_16 8 (dk_at dksX2_needed_0 3 rfl rfl)
theorem dX2_needed_5 : decode cX2_needed 5 = .ok (.if_icmp .ge 52, 3) := dk_162 0 52 (dk_at dksX2_needed_0 5 rfl rfl)
theorem dX2_needed_8 : decode cX2_needed 8 = .ok (.iconst 0, 1) := dk_3 (dk_at dksX2_needed_0 8 rfl rfl)
theorem dX2_needed_9 : decode cX2_needed 9 = .ok (.istore_n 3, 1) := dk_62 (dk_at dksX2_needed_0 9 rfl rfl)
theorem dX2_needed_10 : decode cX2_needed 10 = .ok (.iconst 0, 1) := dk_3 (dk_at dksX2_needed_0 10 rfl rfl)
theorem dX2_needed_11 : decode cX2_needed 11 = .ok (.istore 4, 2) := dk_54 4 (dk_at dksX2_needed_0 11 rfl rfl)
theorem dX2_needed_13 : decode cX2_needed 13 = .ok (.iload 4, 2) := dk_21 4 (dk_at dksX2_needed_0 13 rfl rfl)
theorem dX2_needed_15 : decode cX2_needed 15 = .ok (.bipush 8, 2) := dk_16 8 (dk_at dksX2_needed_0 15 rfl rfl)
theorem dX2_needed_17 : decode cX2_needed 17 = .ok (.if_icmp .ge 27, 3) := dk_162 0 27 (dk_at dksX2_needed_0 17 rfl rfl)
theorem dX2_needed_20 : decode cX2_needed 20 = .ok (.iload_n 3, 1) := dk_29 (dk_at dksX2_needed_0 20 rfl rfl)
theorem dX2_needed_21 : decode cX2_needed 21 = .ok (.aload_n 0, 1) := dk_42 (dk_at dksX2_needed_0 21 rfl rfl)
theorem dX2_needed_22 : decode cX2_needed 22 = .ok (.iload 4, 2) := dk_21 4 (dk_at dksX2_needed_0 22 rfl rfl)
theorem dX2_needed_24 : decode cX2_needed 24 = .ok (.iload_n 2, 1) := dk_28 (dk_at dksX2_needed_1 0 rfl rfl)
theorem dX2_needed_25 : decode cX2_needed 25 = .ok (.invokevirtual 168, 3) := dk_182 0 168 (dk_at dksX2_needed_1 1 rfl rfl)
theorem dX2_needed_28 : decode cX2_needed 28 = .ok (.ifCond .eq 7, 3) := dk_153 0 7 (dk_at dksX2_needed_1 4 rfl rfl)
theorem dX2_needed_31 : decode cX2_needed 31 = .ok (.iconst 1, 1) := dk_4 (dk_at dksX2_needed_1 7 rfl rfl)
theorem dX2_needed_32 : decode cX2_needed 32 = .ok (.goto 4, 3) := dk_167 0 4 (dk_at dksX2_needed_1 8 rfl rfl)
theorem dX2_needed_35 : decode cX2_needed 35 = .ok (.iconst 0, 1) := dk_3 (dk_at dksX2_needed_1 11 rfl rfl)
theorem dX2_needed_36 : decode cX2_needed 36 = .ok (.iadd, 1) := dk_96 (dk_at dksX2_needed_1 12 rfl rfl)
theorem dX2_needed_37 : decode cX2_needed 37 = .ok (.istore_n 3, 1) := dk_62 (dk_at dksX2_needed_1 13 rfl rfl)
theorem dX2_needed_38 : decode cX2_needed 38 = .ok (.iinc 4 1, 3) := dk_132 4 1 (dk_at dksX2_needed_1 14 rfl rfl)
theorem dX2_needed_41 : decode cX2_needed 41 = .ok (.goto (-28), 3) := dk_167 255 228 (dk_at dksX2_needed_1 17 rfl rfl)
theorem dX2_needed_44 : decode cX2_needed 44 = .ok (.iload_n 3, 1) := dk_29 (dk_at dksX2_needed_1 20 rfl rfl)
theorem dX2_needed_45 : decode cX2_needed 45 = .ok (.iload_n 1, 1) := dk_27 (dk_at dksX2_needed_1 21 rfl rfl)
theorem dX2_needed_46 : decode cX2_needed 46 = .ok (.if_icmp .ne 5, 3) := dk_160 0 5 (dk_at dksX2_needed_2 0 rfl rfl)
theorem dX2_needed_49 : decode cX2_needed 49 = .ok (.iload_n 2, 1) := dk_28 (dk_at dksX2_needed_2 3 rfl rfl)
theorem dX2_needed_50 : decode cX2_needed 50 = .ok (.ireturn, 1) := dk_172 (dk_at dksX2_needed_2 4 rfl rfl)
theorem dX2_needed_51 : decode cX2_needed 51 = .ok (.iinc 2 1, 3) := dk_132 2 1 (dk_at dksX2_needed_2 5 rfl rfl)
theorem dX2_needed_54 : decode cX2_needed 54 = .ok (.goto (-52), 3) := dk_167 255 204 (dk_at dksX2_needed_2 8 rfl rfl)
theorem dX2_needed_57 : decode cX2_needed 57 = .ok (.bipush (-11), 2) := dk_16 245 (dk_at dksX2_needed_2 11 rfl rfl)
theorem dX2_needed_59 : decode cX2_needed 59 = .ok (.ireturn, 1) := dk_172 (dk_at dksX2_needed_2 13 rfl rfl)
abbrev cX2_isNeeded : ByteArray := prog_12_method_51_code
def yX2_isNeeded : MethodName := ⟨RX2, "isNeeded", "(II)Z"⟩
def dkwX2_isNeeded_2 : List UInt8 := [21, 4, 154, 0, 12, 27, 28, 162, 0, 7, 4, 167, 0, 4, 3, 172]
abbrev dktX2_isNeeded_2 : List UInt8 := dkwX2_isNeeded_2 ++ []
def dkwX2_isNeeded_1 : List UInt8 := [167, 0, 4, 3, 172, 42, 27, 182, 0, 152, 42, 28, 182, 0, 152, 100, 54, 4, 21, 4, 157, 0, 13]
abbrev dktX2_isNeeded_1 : List UInt8 := dkwX2_isNeeded_1 ++ dktX2_isNeeded_2
def dkwX2_isNeeded_0 : List UInt8 := [42, 27, 5, 182, 0, 82, 42, 28, 5, 182, 0, 82, 100, 62, 29, 153, 0, 13, 29, 158, 0, 7, 4]
abbrev dktX2_isNeeded_0 : List UInt8 := dkwX2_isNeeded_0 ++ dktX2_isNeeded_1
theorem dksX2_isNeeded_0 : cX2_isNeeded.data.toList.drop 0 = dktX2_isNeeded_0 := by decide +kernel
theorem dksX2_isNeeded_1 : cX2_isNeeded.data.toList.drop 23 = dktX2_isNeeded_1 := dk_seg dksX2_isNeeded_0 23 rfl rfl
theorem dksX2_isNeeded_2 : cX2_isNeeded.data.toList.drop 46 = dktX2_isNeeded_2 := dk_seg dksX2_isNeeded_1 23 rfl rfl
theorem dX2_isNeeded_0 : decode cX2_isNeeded 0 = .ok (.aload_n 0, 1) := dk_42 (dk_at dksX2_isNeeded_0 0 rfl rfl)
theorem dX2_isNeeded_1 : decode cX2_isNeeded 1 = .ok (.iload_n 1, 1) := dk_27 (dk_at dksX2_isNeeded_0 1 rfl rfl)
theorem dX2_isNeeded_2 : decode cX2_isNeeded 2 = .ok (.iconst 2, 1) := dk_5 (dk_at dksX2_isNeeded_0 2 rfl rfl)
theorem dX2_isNeeded_3 : decode cX2_isNeeded 3 = .ok (.invokevirtual 82, 3) := dk_182 0 82 (dk_at dksX2_isNeeded_0 3 rfl rfl)
theorem dX2_isNeeded_6 : decode cX2_isNeeded 6 = .ok (.aload_n 0, 1) := dk_42 (dk_at dksX2_isNeeded_0 6 rfl rfl)
theorem dX2_isNeeded_7 : decode cX2_isNeeded 7 = .ok (.iload_n 2, 1) := dk_28 (dk_at dksX2_isNeeded_0 7 rfl rfl)
theorem dX2_isNeeded_8 : decode cX2_isNeeded 8 = .ok (.iconst 2, 1) := dk_5 (dk_at dksX2_isNeeded_0 8 rfl rfl)
theorem dX2_isNeeded_9 : decode cX2_isNeeded 9 = .ok (.invokevirtual 82, 3) := dk_182 0 82 (dk_at dksX2_isNeeded_0 9 rfl rfl)
theorem dX2_isNeeded_12 : decode cX2_isNeeded 12 = .ok (.isub, 1) := dk_100 (dk_at dksX2_isNeeded_0 12 rfl rfl)
theorem dX2_isNeeded_13 : decode cX2_isNeeded 13 = .ok (.istore_n 3, 1) := dk_62 (dk_at dksX2_isNeeded_0 13 rfl rfl)
theorem dX2_isNeeded_14 : decode cX2_isNeeded 14 = .ok (.iload_n 3, 1) := dk_29 (dk_at dksX2_isNeeded_0 14 rfl rfl)
theorem dX2_isNeeded_15 : decode cX2_isNeeded 15 = .ok (.ifCond .eq 13, 3) := dk_153 0 13 (dk_at dksX2_isNeeded_0 15 rfl rfl)
theorem dX2_isNeeded_18 : decode cX2_isNeeded 18 = .ok (.iload_n 3, 1) := dk_29 (dk_at dksX2_isNeeded_0 18 rfl rfl)
theorem dX2_isNeeded_19 : decode cX2_isNeeded 19 = .ok (.ifCond .le 7, 3) := dk_158 0 7 (dk_at dksX2_isNeeded_0 19 rfl rfl)
theorem dX2_isNeeded_22 : decode cX2_isNeeded 22 = .ok (.iconst 1, 1) := dk_4 (dk_at dksX2_isNeeded_0 22 rfl rfl)
theorem dX2_isNeeded_23 : decode cX2_isNeeded 23 = .ok (.goto 4, 3) := dk_167 0 4 (dk_at dksX2_isNeeded_1 0 rfl rfl)
theorem dX2_isNeeded_26 : decode cX2_isNeeded 26 = .ok (.iconst 0, 1) := dk_3 (dk_at dksX2_isNeeded_1 3 rfl rfl)
theorem dX2_isNeeded_27 : decode cX2_isNeeded 27 = .ok (.ireturn, 1) := dk_172 (dk_at dksX2_isNeeded_1 4 rfl rfl)
theorem dX2_isNeeded_28 : decode cX2_isNeeded 28 = .ok (.aload_n 0, 1) := dk_42 (dk_at dksX2_isNeeded_1 5 rfl rfl)
theorem dX2_isNeeded_29 : decode cX2_isNeeded 29 = .ok (.iload_n 1, 1) := dk_27 (dk_at dksX2_isNeeded_1 6 rfl rfl)
theorem dX2_isNeeded_30 : decode cX2_isNeeded 30 = .ok (.invokevirtual 152, 3) := dk_182 0 152 (dk_at dksX2_isNeeded_1 7 rfl rfl)
theorem dX2_isNeeded_33 : decode cX2_isNeeded 33 = .ok (.aload_n 0, 1) := dk_42 (dk_at dksX2_isNeeded_1 10 rfl rfl)
theorem dX2_isNeeded_34 : decode cX2_isNeeded 34 = .ok (.iload_n 2, 1) := dk_28 (dk_at dksX2_isNeeded_1 11 rfl rfl)
theorem dX2_isNeeded_35 : decode cX2_isNeeded 35 = .ok (.invokevirtual 152, 3) := dk_182 0 152 (dk_at dksX2_isNeeded_1 12 rfl rfl)
theorem dX2_isNeeded_38 : decode cX2_isNeeded 38 = .ok (.isub, 1) := dk_100 (dk_at dksX2_isNeeded_1 15 rfl rfl)
theorem dX2_isNeeded_39 : decode cX2_isNeeded 39 = .ok (.istore 4, 2) := dk_54 4 (dk_at dksX2_isNeeded_1 16 rfl rfl)
theorem dX2_isNeeded_41 : decode cX2_isNeeded 41 = .ok (.iload 4, 2) := dk_21 4 (dk_at dksX2_isNeeded_1 18 rfl rfl)
theorem dX2_isNeeded_43 : decode cX2_isNeeded 43 = .ok (.ifCond .gt 13, 3) := dk_157 0 13 (dk_at dksX2_isNeeded_1 20 rfl rfl)
theorem dX2_isNeeded_46 : decode cX2_isNeeded 46 = .ok (.iload 4, 2) := dk_21 4 (dk_at dksX2_isNeeded_2 0 rfl rfl)
theorem dX2_isNeeded_48 : decode cX2_isNeeded 48 = .ok (.ifCond .ne 12, 3) := dk_154 0 12 (dk_at dksX2_isNeeded_2 2 rfl rfl)
theorem dX2_isNeeded_51 : decode cX2_isNeeded 51 = .ok (.iload_n 1, 1) := dk_27 (dk_at dksX2_isNeeded_2 5 rfl rfl)
theorem dX2_isNeeded_52 : decode cX2_isNeeded 52 = .ok (.iload_n 2, 1) := dk_28 (dk_at dksX2_isNeeded_2 6 rfl rfl)
theorem dX2_isNeeded_53 : decode cX2_isNeeded 53 = .ok (.if_icmp .ge 7, 3) := dk_162 0 7 (dk_at dksX2_isNeeded_2 7 rfl rfl)
theorem dX2_isNeeded_56 : decode cX2_isNeeded 56 = .ok (.iconst 1, 1) := dk_4 (dk_at dksX2_isNeeded_2 10 rfl rfl)
theorem dX2_isNeeded_57 : decode cX2_isNeeded 57 = .ok (.goto 4, 3) := dk_167 0 4 (dk_at dksX2_isNeeded_2 11 rfl rfl)
theorem dX2_isNeeded_60 : decode cX2_isNeeded 60 = .ok (.iconst 0, 1) := dk_3 (dk_at dksX2_isNeeded_2 14 rfl rfl)
theorem dX2_isNeeded_61 : decode cX2_isNeeded 61 = .ok (.ireturn, 1) := dk_172 (dk_at dksX2_isNeeded_2 15 rfl rfl)
abbrev cX2_ranked : ByteArray := prog_12_method_54_code
def yX2_ranked : MethodName := ⟨RX2, "ranked", "(I)I"⟩
def dkwX2_ranked_3 : List UInt8 := [167, 255, 215, 29, 27, 160, 0, 5, 28, 172, 132, 2, 1, 167, 255, 176, 16, 245, 172]
abbrev dktX2_ranked_3 : List UInt8 := dkwX2_ranked_3 ++ []
def dkwX2_ranked_2 : List UInt8 := [153, 0, 17, 42, 21, 4, 28, 182, 0, 172, 153, 0, 7, 4, 167, 0, 4, 3, 96, 62, 132, 4, 1]
abbrev dktX2_ranked_2 : List UInt8 := dkwX2_ranked_2 ++ dktX2_ranked_3
def dkwX2_ranked_1 : List UInt8 := [62, 3, 54, 4, 21, 4, 42, 180, 0, 7, 3, 46, 162, 0, 36, 29, 42, 21, 4, 182, 0, 133]
abbrev dktX2_ranked_1 : List UInt8 := dkwX2_ranked_1 ++ dktX2_ranked_2
def dkwX2_ranked_0 : List UInt8 := [3, 61, 28, 42, 180, 0, 7, 3, 46, 162, 0, 76, 42, 28, 182, 0, 133, 154, 0, 6, 167, 0, 59, 3]
abbrev dktX2_ranked_0 : List UInt8 := dkwX2_ranked_0 ++ dktX2_ranked_1
theorem dksX2_ranked_0 : cX2_ranked.data.toList.drop 0 = dktX2_ranked_0 := by decide +kernel
theorem dksX2_ranked_1 : cX2_ranked.data.toList.drop 24 = dktX2_ranked_1 := dk_seg dksX2_ranked_0 24 rfl rfl
theorem dksX2_ranked_2 : cX2_ranked.data.toList.drop 46 = dktX2_ranked_2 := dk_seg dksX2_ranked_1 22 rfl rfl
theorem dksX2_ranked_3 : cX2_ranked.data.toList.drop 69 = dktX2_ranked_3 := dk_seg dksX2_ranked_2 23 rfl rfl
theorem dX2_ranked_0 : decode cX2_ranked 0 = .ok (.iconst 0, 1) := dk_3 (dk_at dksX2_ranked_0 0 rfl rfl)
theorem dX2_ranked_1 : decode cX2_ranked 1 = .ok (.istore_n 2, 1) := dk_61 (dk_at dksX2_ranked_0 1 rfl rfl)
theorem dX2_ranked_2 : decode cX2_ranked 2 = .ok (.iload_n 2, 1) := dk_28 (dk_at dksX2_ranked_0 2 rfl rfl)
theorem dX2_ranked_3 : decode cX2_ranked 3 = .ok (.aload_n 0, 1) := dk_42 (dk_at dksX2_ranked_0 3 rfl rfl)
theorem dX2_ranked_4 : decode cX2_ranked 4 = .ok (.getfield 7, 3) := dk_180 0 7 (dk_at dksX2_ranked_0 4 rfl rfl)
theorem dX2_ranked_7 : decode cX2_ranked 7 = .ok (.iconst 0, 1) := dk_3 (dk_at dksX2_ranked_0 7 rfl rfl)
theorem dX2_ranked_8 : decode cX2_ranked 8 = .ok (.iaload, 1) := dk_46 (dk_at dksX2_ranked_0 8 rfl rfl)
theorem dX2_ranked_9 : decode cX2_ranked 9 = .ok (.if_icmp .ge 76, 3) := dk_162 0 76 (dk_at dksX2_ranked_0 9 rfl rfl)
theorem dX2_ranked_12 : decode cX2_ranked 12 = .ok (.aload_n 0, 1) := dk_42 (dk_at dksX2_ranked_0 12 rfl rfl)
theorem dX2_ranked_13 : decode cX2_ranked 13 = .ok (.iload_n 2, 1) := dk_28 (dk_at dksX2_ranked_0 13 rfl rfl)
theorem dX2_ranked_14 : decode cX2_ranked 14 = .ok (.invokevirtual 133, 3) := dk_182 0 133 (dk_at dksX2_ranked_0 14 rfl rfl)
theorem dX2_ranked_17 : decode cX2_ranked 17 = .ok (.ifCond .ne 6, 3) := dk_154 0 6 (dk_at dksX2_ranked_0 17 rfl rfl)
theorem dX2_ranked_20 : decode cX2_ranked 20 = .ok (.goto 59, 3) := dk_167 0 59 (dk_at dksX2_ranked_0 20 rfl rfl)
theorem dX2_ranked_23 : decode cX2_ranked 23 = .ok (.iconst 0, 1) := dk_3 (dk_at dksX2_ranked_0 23 rfl rfl)
theorem dX2_ranked_24 : decode cX2_ranked 24 = .ok (.istore_n 3, 1) := dk_62 (dk_at dksX2_ranked_1 0 rfl rfl)
theorem dX2_ranked_25 : decode cX2_ranked 25 = .ok (.iconst 0, 1) := dk_3 (dk_at dksX2_ranked_1 1 rfl rfl)
theorem dX2_ranked_26 : decode cX2_ranked 26 = .ok (.istore 4, 2) := dk_54 4 (dk_at dksX2_ranked_1 2 rfl rfl)
theorem dX2_ranked_28 : decode cX2_ranked 28 = .ok (.iload 4, 2) := dk_21 4 (dk_at dksX2_ranked_1 4 rfl rfl)
theorem dX2_ranked_30 : decode cX2_ranked 30 = .ok (.aload_n 0, 1) := dk_42 (dk_at dksX2_ranked_1 6 rfl rfl)
theorem dX2_ranked_31 : decode cX2_ranked 31 = .ok (.getfield 7, 3) := dk_180 0 7 (dk_at dksX2_ranked_1 7 rfl rfl)
theorem dX2_ranked_34 : decode cX2_ranked 34 = .ok (.iconst 0, 1) := dk_3 (dk_at dksX2_ranked_1 10 rfl rfl)
theorem dX2_ranked_35 : decode cX2_ranked 35 = .ok (.iaload, 1) := dk_46 (dk_at dksX2_ranked_1 11 rfl rfl)
theorem dX2_ranked_36 : decode cX2_ranked 36 = .ok (.if_icmp .ge 36, 3) := dk_162 0 36 (dk_at dksX2_ranked_1 12 rfl rfl)
theorem dX2_ranked_39 : decode cX2_ranked 39 = .ok (.iload_n 3, 1) := dk_29 (dk_at dksX2_ranked_1 15 rfl rfl)
theorem dX2_ranked_40 : decode cX2_ranked 40 = .ok (.aload_n 0, 1) := dk_42 (dk_at dksX2_ranked_1 16 rfl rfl)
theorem dX2_ranked_41 : decode cX2_ranked 41 = .ok (.iload 4, 2) := dk_21 4 (dk_at dksX2_ranked_1 17 rfl rfl)
theorem dX2_ranked_43 : decode cX2_ranked 43 = .ok (.invokevirtual 133, 3) := dk_182 0 133 (dk_at dksX2_ranked_1 19 rfl rfl)
theorem dX2_ranked_46 : decode cX2_ranked 46 = .ok (.ifCond .eq 17, 3) := dk_153 0 17 (dk_at dksX2_ranked_2 0 rfl rfl)
theorem dX2_ranked_49 : decode cX2_ranked 49 = .ok (.aload_n 0, 1) := dk_42 (dk_at dksX2_ranked_2 3 rfl rfl)
theorem dX2_ranked_50 : decode cX2_ranked 50 = .ok (.iload 4, 2) := dk_21 4 (dk_at dksX2_ranked_2 4 rfl rfl)
theorem dX2_ranked_52 : decode cX2_ranked 52 = .ok (.iload_n 2, 1) := dk_28 (dk_at dksX2_ranked_2 6 rfl rfl)
theorem dX2_ranked_53 : decode cX2_ranked 53 = .ok (.invokevirtual 172, 3) := dk_182 0 172 (dk_at dksX2_ranked_2 7 rfl rfl)
theorem dX2_ranked_56 : decode cX2_ranked 56 = .ok (.ifCond .eq 7, 3) := dk_153 0 7 (dk_at dksX2_ranked_2 10 rfl rfl)
theorem dX2_ranked_59 : decode cX2_ranked 59 = .ok (.iconst 1, 1) := dk_4 (dk_at dksX2_ranked_2 13 rfl rfl)
theorem dX2_ranked_60 : decode cX2_ranked 60 = .ok (.goto 4, 3) := dk_167 0 4 (dk_at dksX2_ranked_2 14 rfl rfl)
theorem dX2_ranked_63 : decode cX2_ranked 63 = .ok (.iconst 0, 1) := dk_3 (dk_at dksX2_ranked_2 17 rfl rfl)
theorem dX2_ranked_64 : decode cX2_ranked 64 = .ok (.iadd, 1) := dk_96 (dk_at dksX2_ranked_2 18 rfl rfl)
theorem dX2_ranked_65 : decode cX2_ranked 65 = .ok (.istore_n 3, 1) := dk_62 (dk_at dksX2_ranked_2 19 rfl rfl)
theorem dX2_ranked_66 : decode cX2_ranked 66 = .ok (.iinc 4 1, 3) := dk_132 4 1 (dk_at dksX2_ranked_2 20 rfl rfl)
theorem dX2_ranked_69 : decode cX2_ranked 69 = .ok (.goto (-41), 3) := dk_167 255 215 (dk_at dksX2_ranked_3 0 rfl rfl)
theorem dX2_ranked_72 : decode cX2_ranked 72 = .ok (.iload_n 3, 1) := dk_29 (dk_at dksX2_ranked_3 3 rfl rfl)
theorem dX2_ranked_73 : decode cX2_ranked 73 = .ok (.iload_n 1, 1) := dk_27 (dk_at dksX2_ranked_3 4 rfl rfl)
theorem dX2_ranked_74 : decode cX2_ranked 74 = .ok (.if_icmp .ne 5, 3) := dk_160 0 5 (dk_at dksX2_ranked_3 5 rfl rfl)
theorem dX2_ranked_77 : decode cX2_ranked 77 = .ok (.iload_n 2, 1) := dk_28 (dk_at dksX2_ranked_3 8 rfl rfl)
theorem dX2_ranked_78 : decode cX2_ranked 78 = .ok (.ireturn, 1) := dk_172 (dk_at dksX2_ranked_3 9 rfl rfl)
theorem dX2_ranked_79 : decode cX2_ranked 79 = .ok (.iinc 2 1, 3) := dk_132 2 1 (dk_at dksX2_ranked_3 10 rfl rfl)
theorem dX2_ranked_82 : decode cX2_ranked 82 = .ok (.goto (-80), 3) := dk_167 255 176 (dk_at dksX2_ranked_3 13 rfl rfl)
theorem dX2_ranked_85 : decode cX2_ranked 85 = .ok (.bipush (-11), 2) := dk_16 245 (dk_at dksX2_ranked_3 16 rfl rfl)
theorem dX2_ranked_87 : decode cX2_ranked 87 = .ok (.ireturn, 1) := dk_172 (dk_at dksX2_ranked_3 18 rfl rfl)
abbrev cX2_isAhead : ByteArray := prog_12_method_53_code
def yX2_isAhead : MethodName := ⟨RX2, "isAhead", "(II)Z"⟩
def dkwX2_isAhead_3 : List UInt8 := [4, 167, 0, 4, 3, 172]
abbrev dktX2_isAhead_3 : List UInt8 := dkwX2_isAhead_3 ++ []
def dkwX2_isAhead_2 : List UInt8 := [182, 0, 57, 156, 0, 7, 4, 167, 0, 4, 3, 159, 0, 8, 21, 4, 167, 0, 13, 27, 28, 164, 0, 7]
abbrev dktX2_isAhead_2 : List UInt8 := dkwX2_isAhead_2 ++ dktX2_isAhead_3
def dkwX2_isAhead_1 : List UInt8 := [3, 172, 42, 27, 4, 182, 0, 57, 156, 0, 7, 4, 167, 0, 4, 3, 54, 4, 21, 4, 42, 28, 4]
abbrev dktX2_isAhead_1 : List UInt8 := dkwX2_isAhead_1 ++ dktX2_isAhead_2
def dkwX2_isAhead_0 : List UInt8 := [42, 27, 182, 0, 146, 42, 28, 182, 0, 146, 100, 62, 29, 153, 0, 13, 29, 158, 0, 7, 4, 167, 0, 4]
abbrev dktX2_isAhead_0 : List UInt8 := dkwX2_isAhead_0 ++ dktX2_isAhead_1
theorem dksX2_isAhead_0 : cX2_isAhead.data.toList.drop 0 = dktX2_isAhead_0 := by decide +kernel
theorem dksX2_isAhead_1 : cX2_isAhead.data.toList.drop 24 = dktX2_isAhead_1 := dk_seg dksX2_isAhead_0 24 rfl rfl
theorem dksX2_isAhead_2 : cX2_isAhead.data.toList.drop 47 = dktX2_isAhead_2 := dk_seg dksX2_isAhead_1 23 rfl rfl
theorem dksX2_isAhead_3 : cX2_isAhead.data.toList.drop 71 = dktX2_isAhead_3 := dk_seg dksX2_isAhead_2 24 rfl rfl
theorem dX2_isAhead_0 : decode cX2_isAhead 0 = .ok (.aload_n 0, 1) := dk_42 (dk_at dksX2_isAhead_0 0 rfl rfl)
theorem dX2_isAhead_1 : decode cX2_isAhead 1 = .ok (.iload_n 1, 1) := dk_27 (dk_at dksX2_isAhead_0 1 rfl rfl)
theorem dX2_isAhead_2 : decode cX2_isAhead 2 = .ok (.invokevirtual 146, 3) := dk_182 0 146 (dk_at dksX2_isAhead_0 2 rfl rfl)
theorem dX2_isAhead_5 : decode cX2_isAhead 5 = .ok (.aload_n 0, 1) := dk_42 (dk_at dksX2_isAhead_0 5 rfl rfl)
theorem dX2_isAhead_6 : decode cX2_isAhead 6 = .ok (.iload_n 2, 1) := dk_28 (dk_at dksX2_isAhead_0 6 rfl rfl)
theorem dX2_isAhead_7 : decode cX2_isAhead 7 = .ok (.invokevirtual 146, 3) := dk_182 0 146 (dk_at dksX2_isAhead_0 7 rfl rfl)
theorem dX2_isAhead_10 : decode cX2_isAhead 10 = .ok (.isub, 1) := dk_100 (dk_at dksX2_isAhead_0 10 rfl rfl)
theorem dX2_isAhead_11 : decode cX2_isAhead 11 = .ok (.istore_n 3, 1) := dk_62 (dk_at dksX2_isAhead_0 11 rfl rfl)
theorem dX2_isAhead_12 : decode cX2_isAhead 12 = .ok (.iload_n 3, 1) := dk_29 (dk_at dksX2_isAhead_0 12 rfl rfl)
theorem dX2_isAhead_13 : decode cX2_isAhead 13 = .ok (.ifCond .eq 13, 3) := dk_153 0 13 (dk_at dksX2_isAhead_0 13 rfl rfl)
theorem dX2_isAhead_16 : decode cX2_isAhead 16 = .ok (.iload_n 3, 1) := dk_29 (dk_at dksX2_isAhead_0 16 rfl rfl)
theorem dX2_isAhead_17 : decode cX2_isAhead 17 = .ok (.ifCond .le 7, 3) := dk_158 0 7 (dk_at dksX2_isAhead_0 17 rfl rfl)
theorem dX2_isAhead_20 : decode cX2_isAhead 20 = .ok (.iconst 1, 1) := dk_4 (dk_at dksX2_isAhead_0 20 rfl rfl)
theorem dX2_isAhead_21 : decode cX2_isAhead 21 = .ok (.goto 4, 3) := dk_167 0 4 (dk_at dksX2_isAhead_0 21 rfl rfl)
theorem dX2_isAhead_24 : decode cX2_isAhead 24 = .ok (.iconst 0, 1) := dk_3 (dk_at dksX2_isAhead_1 0 rfl rfl)
theorem dX2_isAhead_25 : decode cX2_isAhead 25 = .ok (.ireturn, 1) := dk_172 (dk_at dksX2_isAhead_1 1 rfl rfl)
theorem dX2_isAhead_26 : decode cX2_isAhead 26 = .ok (.aload_n 0, 1) := dk_42 (dk_at dksX2_isAhead_1 2 rfl rfl)
theorem dX2_isAhead_27 : decode cX2_isAhead 27 = .ok (.iload_n 1, 1) := dk_27 (dk_at dksX2_isAhead_1 3 rfl rfl)
theorem dX2_isAhead_28 : decode cX2_isAhead 28 = .ok (.iconst 1, 1) := dk_4 (dk_at dksX2_isAhead_1 4 rfl rfl)
theorem dX2_isAhead_29 : decode cX2_isAhead 29 = .ok (.invokevirtual 57, 3) := dk_182 0 57 (dk_at dksX2_isAhead_1 5 rfl rfl)
theorem dX2_isAhead_32 : decode cX2_isAhead 32 = .ok (.ifCond .ge 7, 3) := dk_156 0 7 (dk_at dksX2_isAhead_1 8 rfl rfl)
theorem dX2_isAhead_35 : decode cX2_isAhead 35 = .ok (.iconst 1, 1) := dk_4 (dk_at dksX2_isAhead_1 11 rfl rfl)
theorem dX2_isAhead_36 : decode cX2_isAhead 36 = .ok (.goto 4, 3) := dk_167 0 4 (dk_at dksX2_isAhead_1 12 rfl rfl)
theorem dX2_isAhead_39 : decode cX2_isAhead 39 = .ok (.iconst 0, 1) := dk_3 (dk_at dksX2_isAhead_1 15 rfl rfl)
theorem dX2_isAhead_40 : decode cX2_isAhead 40 = .ok (.istore 4, 2) := dk_54 4 (dk_at dksX2_isAhead_1 16 rfl rfl)
theorem dX2_isAhead_42 : decode cX2_isAhead 42 = .ok (.iload 4, 2) := dk_21 4 (dk_at dksX2_isAhead_1 18 rfl rfl)
theorem dX2_isAhead_44 : decode cX2_isAhead 44 = .ok (.aload_n 0, 1) := dk_42 (dk_at dksX2_isAhead_1 20 rfl rfl)
theorem dX2_isAhead_45 : decode cX2_isAhead 45 = .ok (.iload_n 2, 1) := dk_28 (dk_at dksX2_isAhead_1 21 rfl rfl)
theorem dX2_isAhead_46 : decode cX2_isAhead 46 = .ok (.iconst 1, 1) := dk_4 (dk_at dksX2_isAhead_1 22 rfl rfl)
theorem dX2_isAhead_47 : decode cX2_isAhead 47 = .ok (.invokevirtual 57, 3) := dk_182 0 57 (dk_at dksX2_isAhead_2 0 rfl rfl)
theorem dX2_isAhead_50 : decode cX2_isAhead 50 = .ok (.ifCond .ge 7, 3) := dk_156 0 7 (dk_at dksX2_isAhead_2 3 rfl rfl)
theorem dX2_isAhead_53 : decode cX2_isAhead 53 = .ok (.iconst 1, 1) := dk_4 (dk_at dksX2_isAhead_2 6 rfl rfl)
theorem dX2_isAhead_54 : decode cX2_isAhead 54 = .ok (.goto 4, 3) := dk_167 0 4 (dk_at dksX2_isAhead_2 7 rfl rfl)
theorem dX2_isAhead_57 : decode cX2_isAhead 57 = .ok (.iconst 0, 1) := dk_3 (dk_at dksX2_isAhead_2 10 rfl rfl)
theorem dX2_isAhead_58 : decode cX2_isAhead 58 = .ok (.if_icmp .eq 8, 3) := dk_159 0 8 (dk_at dksX2_isAhead_2 11 rfl rfl)
theorem dX2_isAhead_61 : decode cX2_isAhead 61 = .ok (.iload 4, 2) := dk_21 4 (dk_at dksX2_isAhead_2 14 rfl rfl)
theorem dX2_isAhead_63 : decode cX2_isAhead 63 = .ok (.goto 13, 3) := dk_167 0 13 (dk_at dksX2_isAhead_2 16 rfl rfl)
theorem dX2_isAhead_66 : decode cX2_isAhead 66 = .ok (.iload_n 1, 1) := dk_27 (dk_at dksX2_isAhead_2 19 rfl rfl)
theorem dX2_isAhead_67 : decode cX2_isAhead 67 = .ok (.iload_n 2, 1) := dk_28 (dk_at dksX2_isAhead_2 20 rfl rfl)
theorem dX2_isAhead_68 : decode cX2_isAhead 68 = .ok (.if_icmp .le 7, 3) := dk_164 0 7 (dk_at dksX2_isAhead_2 21 rfl rfl)
theorem dX2_isAhead_71 : decode cX2_isAhead 71 = .ok (.iconst 1, 1) := dk_4 (dk_at dksX2_isAhead_3 0 rfl rfl)
theorem dX2_isAhead_72 : decode cX2_isAhead 72 = .ok (.goto 4, 3) := dk_167 0 4 (dk_at dksX2_isAhead_3 1 rfl rfl)
theorem dX2_isAhead_75 : decode cX2_isAhead 75 = .ok (.iconst 0, 1) := dk_3 (dk_at dksX2_isAhead_3 4 rfl rfl)
theorem dX2_isAhead_76 : decode cX2_isAhead 76 = .ok (.ireturn, 1) := dk_172 (dk_at dksX2_isAhead_3 5 rfl rfl)
abbrev cX2_append : ByteArray := prog_12_method_55_code
def yX2_append : MethodName := ⟨RX2, "append", "(I)I"⟩
def dkwX2_append_2 : List UInt8 := [180, 0, 175, 172]
abbrev dktX2_append_2 : List UInt8 := dkwX2_append_2 ++ []
def dkwX2_append_1 : List UInt8 := [16, 243, 172, 42, 180, 0, 25, 42, 180, 0, 175, 27, 79, 42, 89, 180, 0, 175, 4, 96, 181, 0, 175, 42]
abbrev dktX2_append_1 : List UInt8 := dkwX2_append_1 ++ dktX2_append_2
def dkwX2_append_0 : List UInt8 := [27, 16, 32, 16, 126, 184, 0, 53, 154, 0, 6, 16, 244, 172, 42, 180, 0, 175, 16, 60, 160, 0, 6]
abbrev dktX2_append_0 : List UInt8 := dkwX2_append_0 ++ dktX2_append_1
theorem dksX2_append_0 : cX2_append.data.toList.drop 0 = dktX2_append_0 := by decide +kernel
theorem dksX2_append_1 : cX2_append.data.toList.drop 23 = dktX2_append_1 := dk_seg dksX2_append_0 23 rfl rfl
theorem dksX2_append_2 : cX2_append.data.toList.drop 47 = dktX2_append_2 := dk_seg dksX2_append_1 24 rfl rfl
theorem dX2_append_0 : decode cX2_append 0 = .ok (.iload_n 1, 1) := dk_27 (dk_at dksX2_append_0 0 rfl rfl)
theorem dX2_append_1 : decode cX2_append 1 = .ok (.bipush 32, 2) := dk_16 32 (dk_at dksX2_append_0 1 rfl rfl)
theorem dX2_append_3 : decode cX2_append 3 = .ok (.bipush 126, 2) := dk_16 126 (dk_at dksX2_append_0 3 rfl rfl)
theorem dX2_append_5 : decode cX2_append 5 = .ok (.invokestatic 53, 3) := dk_184 0 53 (dk_at dksX2_append_0 5 rfl rfl)
theorem dX2_append_8 : decode cX2_append 8 = .ok (.ifCond .ne 6, 3) := dk_154 0 6 (dk_at dksX2_append_0 8 rfl rfl)
theorem dX2_append_11 : decode cX2_append 11 = .ok (.bipush (-12), 2) := dk_16 244 (dk_at dksX2_append_0 11 rfl rfl)
theorem dX2_append_13 : decode cX2_append 13 = .ok (.ireturn, 1) := dk_172 (dk_at dksX2_append_0 13 rfl rfl)
theorem dX2_append_14 : decode cX2_append 14 = .ok (.aload_n 0, 1) := dk_42 (dk_at dksX2_append_0 14 rfl rfl)
theorem dX2_append_15 : decode cX2_append 15 = .ok (.getfield 175, 3) := dk_180 0 175 (dk_at dksX2_append_0 15 rfl rfl)
theorem dX2_append_18 : decode cX2_append 18 = .ok (.bipush 60, 2) := dk_16 60 (dk_at dksX2_append_0 18 rfl rfl)
theorem dX2_append_20 : decode cX2_append 20 = .ok (.if_icmp .ne 6, 3) := dk_160 0 6 (dk_at dksX2_append_0 20 rfl rfl)
theorem dX2_append_23 : decode cX2_append 23 = .ok (.bipush (-13), 2) := dk_16 243 (dk_at dksX2_append_1 0 rfl rfl)
theorem dX2_append_25 : decode cX2_append 25 = .ok (.ireturn, 1) := dk_172 (dk_at dksX2_append_1 2 rfl rfl)
theorem dX2_append_26 : decode cX2_append 26 = .ok (.aload_n 0, 1) := dk_42 (dk_at dksX2_append_1 3 rfl rfl)
theorem dX2_append_27 : decode cX2_append 27 = .ok (.getfield 25, 3) := dk_180 0 25 (dk_at dksX2_append_1 4 rfl rfl)
theorem dX2_append_30 : decode cX2_append 30 = .ok (.aload_n 0, 1) := dk_42 (dk_at dksX2_append_1 7 rfl rfl)
theorem dX2_append_31 : decode cX2_append 31 = .ok (.getfield 175, 3) := dk_180 0 175 (dk_at dksX2_append_1 8 rfl rfl)
theorem dX2_append_34 : decode cX2_append 34 = .ok (.iload_n 1, 1) := dk_27 (dk_at dksX2_append_1 11 rfl rfl)
theorem dX2_append_35 : decode cX2_append 35 = .ok (.iastore, 1) := dk_79 (dk_at dksX2_append_1 12 rfl rfl)
theorem dX2_append_36 : decode cX2_append 36 = .ok (.aload_n 0, 1) := dk_42 (dk_at dksX2_append_1 13 rfl rfl)
theorem dX2_append_37 : decode cX2_append 37 = .ok (.dup, 1) := dk_89 (dk_at dksX2_append_1 14 rfl rfl)
theorem dX2_append_38 : decode cX2_append 38 = .ok (.getfield 175, 3) := dk_180 0 175 (dk_at dksX2_append_1 15 rfl rfl)
theorem dX2_append_41 : decode cX2_append 41 = .ok (.iconst 1, 1) := dk_4 (dk_at dksX2_append_1 18 rfl rfl)
theorem dX2_append_42 : decode cX2_append 42 = .ok (.iadd, 1) := dk_96 (dk_at dksX2_append_1 19 rfl rfl)
theorem dX2_append_43 : decode cX2_append 43 = .ok (.putfield 175, 3) := dk_181 0 175 (dk_at dksX2_append_1 20 rfl rfl)
theorem dX2_append_46 : decode cX2_append 46 = .ok (.aload_n 0, 1) := dk_42 (dk_at dksX2_append_1 23 rfl rfl)
theorem dX2_append_47 : decode cX2_append 47 = .ok (.getfield 175, 3) := dk_180 0 175 (dk_at dksX2_append_2 0 rfl rfl)
theorem dX2_append_50 : decode cX2_append 50 = .ok (.ireturn, 1) := dk_172 (dk_at dksX2_append_2 3 rfl rfl)
abbrev cX2_run : ByteArray := prog_12_method_63_code
def yX2_run : MethodName := ⟨RX2, "run", "()I"⟩
def dkwX2_run_4 : List UInt8 := [182, 0, 61, 172, 42, 42, 180, 0, 19, 182, 0, 68, 42, 180, 0, 195, 172]
abbrev dktX2_run_4 : List UInt8 := dkwX2_run_4 ++ []
def dkwX2_run_3 : List UInt8 := [28, 42, 180, 0, 195, 162, 0, 23, 42, 180, 0, 19, 3, 42, 180, 0, 7, 3, 184, 0, 49, 42, 8, 28]
abbrev dktX2_run_3 : List UInt8 := dkwX2_run_3 ++ dktX2_run_4
def dkwX2_run_2 : List UInt8 := [162, 0, 19, 42, 6, 28, 104, 182, 0, 225, 155, 0, 9, 132, 2, 1, 167, 255, 235, 42, 3, 181, 0, 42]
abbrev dktX2_run_2 : List UInt8 := dkwX2_run_2 ++ dktX2_run_3
def dkwX2_run_1 : List UInt8 := [180, 0, 7, 3, 42, 180, 0, 19, 3, 184, 0, 49, 42, 4, 181, 0, 42, 3, 61, 28, 42, 180, 0, 195]
abbrev dktX2_run_1 : List UInt8 := dkwX2_run_1 ++ dktX2_run_2
def dkwX2_run_0 : List UInt8 := [42, 182, 0, 222, 60, 42, 3, 181, 0, 175, 27, 154, 0, 12, 17, 252, 24, 42, 180, 0, 178, 100, 172, 42]
abbrev dktX2_run_0 : List UInt8 := dkwX2_run_0 ++ dktX2_run_1
theorem dksX2_run_0 : cX2_run.data.toList.drop 0 = dktX2_run_0 := by decide +kernel
theorem dksX2_run_1 : cX2_run.data.toList.drop 24 = dktX2_run_1 := dk_seg dksX2_run_0 24 rfl rfl
theorem dksX2_run_2 : cX2_run.data.toList.drop 48 = dktX2_run_2 := dk_seg dksX2_run_1 24 rfl rfl
theorem dksX2_run_3 : cX2_run.data.toList.drop 72 = dktX2_run_3 := dk_seg dksX2_run_2 24 rfl rfl
theorem dksX2_run_4 : cX2_run.data.toList.drop 96 = dktX2_run_4 := dk_seg dksX2_run_3 24 rfl rfl
theorem dX2_run_0 : decode cX2_run 0 = .ok (.aload_n 0, 1) := dk_42 (dk_at dksX2_run_0 0 rfl rfl)
theorem dX2_run_1 : decode cX2_run 1 = .ok (.invokevirtual 222, 3) := dk_182 0 222 (dk_at dksX2_run_0 1 rfl rfl)
theorem dX2_run_4 : decode cX2_run 4 = .ok (.istore_n 1, 1) := dk_60 (dk_at dksX2_run_0 4 rfl rfl)
theorem dX2_run_5 : decode cX2_run 5 = .ok (.aload_n 0, 1) := dk_42 (dk_at dksX2_run_0 5 rfl rfl)
theorem dX2_run_6 : decode cX2_run 6 = .ok (.iconst 0, 1) := dk_3 (dk_at dksX2_run_0 6 rfl rfl)
theorem dX2_run_7 : decode cX2_run 7 = .ok (.putfield 175, 3) := dk_181 0 175 (dk_at dksX2_run_0 7 rfl rfl)
theorem dX2_run_10 : decode cX2_run 10 = .ok (.iload_n 1, 1) := dk_27 (dk_at dksX2_run_0 10 rfl rfl)
theorem dX2_run_11 : decode cX2_run 11 = .ok (.ifCond .ne 12, 3) := dk_154 0 12 (dk_at dksX2_run_0 11 rfl rfl)
theorem dX2_run_14 : decode cX2_run 14 = .ok (.sipush (-1000), 3) := dk_17 252 24 (dk_at dksX2_run_0 14 rfl rfl)
theorem dX2_run_17 : decode cX2_run 17 = .ok (.aload_n 0, 1) := dk_42 (dk_at dksX2_run_0 17 rfl rfl)
theorem dX2_run_18 : decode cX2_run 18 = .ok (.getfield 178, 3) := dk_180 0 178 (dk_at dksX2_run_0 18 rfl rfl)
theorem dX2_run_21 : decode cX2_run 21 = .ok (.isub, 1) := dk_100 (dk_at dksX2_run_0 21 rfl rfl)
theorem dX2_run_22 : decode cX2_run 22 = .ok (.ireturn, 1) := dk_172 (dk_at dksX2_run_0 22 rfl rfl)
theorem dX2_run_23 : decode cX2_run 23 = .ok (.aload_n 0, 1) := dk_42 (dk_at dksX2_run_0 23 rfl rfl)
theorem dX2_run_24 : decode cX2_run 24 = .ok (.getfield 7, 3) := dk_180 0 7 (dk_at dksX2_run_1 0 rfl rfl)
theorem dX2_run_27 : decode cX2_run 27 = .ok (.iconst 0, 1) := dk_3 (dk_at dksX2_run_1 3 rfl rfl)
theorem dX2_run_28 : decode cX2_run 28 = .ok (.aload_n 0, 1) := dk_42 (dk_at dksX2_run_1 4 rfl rfl)
theorem dX2_run_29 : decode cX2_run 29 = .ok (.getfield 19, 3) := dk_180 0 19 (dk_at dksX2_run_1 5 rfl rfl)
theorem dX2_run_32 : decode cX2_run 32 = .ok (.iconst 0, 1) := dk_3 (dk_at dksX2_run_1 8 rfl rfl)
theorem dX2_run_33 : decode cX2_run 33 = .ok (.invokestatic 49, 3) := dk_184 0 49 (dk_at dksX2_run_1 9 rfl rfl)
theorem dX2_run_36 : decode cX2_run 36 = .ok (.aload_n 0, 1) := dk_42 (dk_at dksX2_run_1 12 rfl rfl)
theorem dX2_run_37 : decode cX2_run 37 = .ok (.iconst 1, 1) := dk_4 (dk_at dksX2_run_1 13 rfl rfl)
theorem dX2_run_38 : decode cX2_run 38 = .ok (.putfield 42, 3) := dk_181 0 42 (dk_at dksX2_run_1 14 rfl rfl)
theorem dX2_run_41 : decode cX2_run 41 = .ok (.iconst 0, 1) := dk_3 (dk_at dksX2_run_1 17 rfl rfl)
theorem dX2_run_42 : decode cX2_run 42 = .ok (.istore_n 2, 1) := dk_61 (dk_at dksX2_run_1 18 rfl rfl)
theorem dX2_run_43 : decode cX2_run 43 = .ok (.iload_n 2, 1) := dk_28 (dk_at dksX2_run_1 19 rfl rfl)
theorem dX2_run_44 : decode cX2_run 44 = .ok (.aload_n 0, 1) := dk_42 (dk_at dksX2_run_1 20 rfl rfl)
theorem dX2_run_45 : decode cX2_run 45 = .ok (.getfield 195, 3) := dk_180 0 195 (dk_at dksX2_run_1 21 rfl rfl)
theorem dX2_run_48 : decode cX2_run 48 = .ok (.if_icmp .ge 19, 3) := dk_162 0 19 (dk_at dksX2_run_2 0 rfl rfl)
theorem dX2_run_51 : decode cX2_run 51 = .ok (.aload_n 0, 1) := dk_42 (dk_at dksX2_run_2 3 rfl rfl)
theorem dX2_run_52 : decode cX2_run 52 = .ok (.iconst 3, 1) := dk_6 (dk_at dksX2_run_2 4 rfl rfl)
theorem dX2_run_53 : decode cX2_run 53 = .ok (.iload_n 2, 1) := dk_28 (dk_at dksX2_run_2 5 rfl rfl)
theorem dX2_run_54 : decode cX2_run 54 = .ok (.imul, 1) := dk_104 (dk_at dksX2_run_2 6 rfl rfl)
theorem dX2_run_55 : decode cX2_run 55 = .ok (.invokevirtual 225, 3) := dk_182 0 225 (dk_at dksX2_run_2 7 rfl rfl)
theorem dX2_run_58 : decode cX2_run 58 = .ok (.ifCond .lt 9, 3) := dk_155 0 9 (dk_at dksX2_run_2 10 rfl rfl)
theorem dX2_run_61 : decode cX2_run 61 = .ok (.iinc 2 1, 3) := dk_132 2 1 (dk_at dksX2_run_2 13 rfl rfl)
theorem dX2_run_64 : decode cX2_run 64 = .ok (.goto (-21), 3) := dk_167 255 235 (dk_at dksX2_run_2 16 rfl rfl)
theorem dX2_run_67 : decode cX2_run 67 = .ok (.aload_n 0, 1) := dk_42 (dk_at dksX2_run_2 19 rfl rfl)
theorem dX2_run_68 : decode cX2_run 68 = .ok (.iconst 0, 1) := dk_3 (dk_at dksX2_run_2 20 rfl rfl)
theorem dX2_run_69 : decode cX2_run 69 = .ok (.putfield 42, 3) := dk_181 0 42 (dk_at dksX2_run_2 21 rfl rfl)
theorem dX2_run_72 : decode cX2_run 72 = .ok (.iload_n 2, 1) := dk_28 (dk_at dksX2_run_3 0 rfl rfl)
theorem dX2_run_73 : decode cX2_run 73 = .ok (.aload_n 0, 1) := dk_42 (dk_at dksX2_run_3 1 rfl rfl)
theorem dX2_run_74 : decode cX2_run 74 = .ok (.getfield 195, 3) := dk_180 0 195 (dk_at dksX2_run_3 2 rfl rfl)
theorem dX2_run_77 : decode cX2_run 77 = .ok (.if_icmp .ge 23, 3) := dk_162 0 23 (dk_at dksX2_run_3 5 rfl rfl)
theorem dX2_run_80 : decode cX2_run 80 = .ok (.aload_n 0, 1) := dk_42 (dk_at dksX2_run_3 8 rfl rfl)
theorem dX2_run_81 : decode cX2_run 81 = .ok (.getfield 19, 3) := dk_180 0 19 (dk_at dksX2_run_3 9 rfl rfl)
theorem dX2_run_84 : decode cX2_run 84 = .ok (.iconst 0, 1) := dk_3 (dk_at dksX2_run_3 12 rfl rfl)
theorem dX2_run_85 : decode cX2_run 85 = .ok (.aload_n 0, 1) := dk_42 (dk_at dksX2_run_3 13 rfl rfl)
theorem dX2_run_86 : decode cX2_run 86 = .ok (.getfield 7, 3) := dk_180 0 7 (dk_at dksX2_run_3 14 rfl rfl)
theorem dX2_run_89 : decode cX2_run 89 = .ok (.iconst 0, 1) := dk_3 (dk_at dksX2_run_3 17 rfl rfl)
theorem dX2_run_90 : decode cX2_run 90 = .ok (.invokestatic 49, 3) := dk_184 0 49 (dk_at dksX2_run_3 18 rfl rfl)
theorem dX2_run_93 : decode cX2_run 93 = .ok (.aload_n 0, 1) := dk_42 (dk_at dksX2_run_3 21 rfl rfl)
theorem dX2_run_94 : decode cX2_run 94 = .ok (.iconst 5, 1) := dk_8 (dk_at dksX2_run_3 22 rfl rfl)
theorem dX2_run_95 : decode cX2_run 95 = .ok (.iload_n 2, 1) := dk_28 (dk_at dksX2_run_3 23 rfl rfl)
theorem dX2_run_96 : decode cX2_run 96 = .ok (.invokevirtual 61, 3) := dk_182 0 61 (dk_at dksX2_run_4 0 rfl rfl)
theorem dX2_run_99 : decode cX2_run 99 = .ok (.ireturn, 1) := dk_172 (dk_at dksX2_run_4 3 rfl rfl)
theorem dX2_run_100 : decode cX2_run 100 = .ok (.aload_n 0, 1) := dk_42 (dk_at dksX2_run_4 4 rfl rfl)
theorem dX2_run_101 : decode cX2_run 101 = .ok (.aload_n 0, 1) := dk_42 (dk_at dksX2_run_4 5 rfl rfl)
theorem dX2_run_102 : decode cX2_run 102 = .ok (.getfield 19, 3) := dk_180 0 19 (dk_at dksX2_run_4 6 rfl rfl)
theorem dX2_run_105 : decode cX2_run 105 = .ok (.invokevirtual 68, 3) := dk_182 0 68 (dk_at dksX2_run_4 9 rfl rfl)
theorem dX2_run_108 : decode cX2_run 108 = .ok (.aload_n 0, 1) := dk_42 (dk_at dksX2_run_4 12 rfl rfl)
theorem dX2_run_109 : decode cX2_run 109 = .ok (.getfield 195, 3) := dk_180 0 195 (dk_at dksX2_run_4 13 rfl rfl)
theorem dX2_run_112 : decode cX2_run 112 = .ok (.ireturn, 1) := dk_172 (dk_at dksX2_run_4 16 rfl rfl)
abbrev cX2_isText : ByteArray := prog_12_method_61_code
def yX2_isText : MethodName := ⟨RX2, "isText", "()Z"⟩
def dkwX2_isText_2 : List UInt8 := [160, 0, 7, 4, 167, 0, 4, 3, 172]
abbrev dktX2_isText_2 : List UInt8 := dkwX2_isText_2 ++ []
def dkwX2_isText_1 : List UInt8 := [4, 96, 181, 0, 195, 42, 16, 59, 182, 0, 192, 154, 255, 231, 42, 180, 0, 178, 42, 180, 0, 175]
abbrev dktX2_isText_1 : List UInt8 := dkwX2_isText_1 ++ dktX2_isText_2
def dkwX2_isText_0 : List UInt8 := [42, 3, 181, 0, 178, 42, 3, 181, 0, 195, 42, 182, 0, 207, 154, 0, 5, 3, 172, 42, 89, 180, 0, 195]
abbrev dktX2_isText_0 : List UInt8 := dkwX2_isText_0 ++ dktX2_isText_1
theorem dksX2_isText_0 : cX2_isText.data.toList.drop 0 = dktX2_isText_0 := by decide +kernel
theorem dksX2_isText_1 : cX2_isText.data.toList.drop 24 = dktX2_isText_1 := dk_seg dksX2_isText_0 24 rfl rfl
theorem dksX2_isText_2 : cX2_isText.data.toList.drop 46 = dktX2_isText_2 := dk_seg dksX2_isText_1 22 rfl rfl
theorem dX2_isText_0 : decode cX2_isText 0 = .ok (.aload_n 0, 1) := dk_42 (dk_at dksX2_isText_0 0 rfl rfl)
theorem dX2_isText_1 : decode cX2_isText 1 = .ok (.iconst 0, 1) := dk_3 (dk_at dksX2_isText_0 1 rfl rfl)
theorem dX2_isText_2 : decode cX2_isText 2 = .ok (.putfield 178, 3) := dk_181 0 178 (dk_at dksX2_isText_0 2 rfl rfl)
theorem dX2_isText_5 : decode cX2_isText 5 = .ok (.aload_n 0, 1) := dk_42 (dk_at dksX2_isText_0 5 rfl rfl)
theorem dX2_isText_6 : decode cX2_isText 6 = .ok (.iconst 0, 1) := dk_3 (dk_at dksX2_isText_0 6 rfl rfl)
theorem dX2_isText_7 : decode cX2_isText 7 = .ok (.putfield 195, 3) := dk_181 0 195 (dk_at dksX2_isText_0 7 rfl rfl)
theorem dX2_isText_10 : decode cX2_isText 10 = .ok (.aload_n 0, 1) := dk_42 (dk_at dksX2_isText_0 10 rfl rfl)
theorem dX2_isText_11 : decode cX2_isText 11 = .ok (.invokevirtual 207, 3) := dk_182 0 207 (dk_at dksX2_isText_0 11 rfl rfl)
theorem dX2_isText_14 : decode cX2_isText 14 = .ok (.ifCond .ne 5, 3) := dk_154 0 5 (dk_at dksX2_isText_0 14 rfl rfl)
theorem dX2_isText_17 : decode cX2_isText 17 = .ok (.iconst 0, 1) := dk_3 (dk_at dksX2_isText_0 17 rfl rfl)
theorem dX2_isText_18 : decode cX2_isText 18 = .ok (.ireturn, 1) := dk_172 (dk_at dksX2_isText_0 18 rfl rfl)
theorem dX2_isText_19 : decode cX2_isText 19 = .ok (.aload_n 0, 1) := dk_42 (dk_at dksX2_isText_0 19 rfl rfl)
theorem dX2_isText_20 : decode cX2_isText 20 = .ok (.dup, 1) := dk_89 (dk_at dksX2_isText_0 20 rfl rfl)
theorem dX2_isText_21 : decode cX2_isText 21 = .ok (.getfield 195, 3) := dk_180 0 195 (dk_at dksX2_isText_0 21 rfl rfl)
theorem dX2_isText_24 : decode cX2_isText 24 = .ok (.iconst 1, 1) := dk_4 (dk_at dksX2_isText_1 0 rfl rfl)
theorem dX2_isText_25 : decode cX2_isText 25 = .ok (.iadd, 1) := dk_96 (dk_at dksX2_isText_1 1 rfl rfl)
theorem dX2_isText_26 : decode cX2_isText 26 = .ok (.putfield 195, 3) := dk_181 0 195 (dk_at dksX2_isText_1 2 rfl rfl)
theorem dX2_isText_29 : decode cX2_isText 29 = .ok (.aload_n 0, 1) := dk_42 (dk_at dksX2_isText_1 5 rfl rfl)
theorem dX2_isText_30 : decode cX2_isText 30 = .ok (.bipush 59, 2) := dk_16 59 (dk_at dksX2_isText_1 6 rfl rfl)
theorem dX2_isText_32 : decode cX2_isText 32 = .ok (.invokevirtual 192, 3) := dk_182 0 192 (dk_at dksX2_isText_1 8 rfl rfl)
theorem dX2_isText_35 : decode cX2_isText 35 = .ok (.ifCond .ne (-25), 3) := dk_154 255 231 (dk_at dksX2_isText_1 11 rfl rfl)
theorem dX2_isText_38 : decode cX2_isText 38 = .ok (.aload_n 0, 1) := dk_42 (dk_at dksX2_isText_1 14 rfl rfl)
theorem dX2_isText_39 : decode cX2_isText 39 = .ok (.getfield 178, 3) := dk_180 0 178 (dk_at dksX2_isText_1 15 rfl rfl)
theorem dX2_isText_42 : decode cX2_isText 42 = .ok (.aload_n 0, 1) := dk_42 (dk_at dksX2_isText_1 18 rfl rfl)
theorem dX2_isText_43 : decode cX2_isText 43 = .ok (.getfield 175, 3) := dk_180 0 175 (dk_at dksX2_isText_1 19 rfl rfl)
theorem dX2_isText_46 : decode cX2_isText 46 = .ok (.if_icmp .ne 7, 3) := dk_160 0 7 (dk_at dksX2_isText_2 0 rfl rfl)
theorem dX2_isText_49 : decode cX2_isText 49 = .ok (.iconst 1, 1) := dk_4 (dk_at dksX2_isText_2 3 rfl rfl)
theorem dX2_isText_50 : decode cX2_isText 50 = .ok (.goto 4, 3) := dk_167 0 4 (dk_at dksX2_isText_2 4 rfl rfl)
theorem dX2_isText_53 : decode cX2_isText 53 = .ok (.iconst 0, 1) := dk_3 (dk_at dksX2_isText_2 7 rfl rfl)
theorem dX2_isText_54 : decode cX2_isText 54 = .ok (.ireturn, 1) := dk_172 (dk_at dksX2_isText_2 8 rfl rfl)
abbrev cX2_orderHere : ByteArray := prog_12_method_60_code
def yX2_orderHere : MethodName := ⟨RX2, "orderHere", "()Z"⟩
def dkwX2_orderHere_4 : List UInt8 := [96, 4, 182, 0, 204, 153, 0, 7, 4, 167, 0, 4, 3, 172]
abbrev dktX2_orderHere_4 : List UInt8 := dkwX2_orderHere_4 ++ []
def dkwX2_orderHere_3 : List UInt8 := [154, 0, 21, 42, 16, 120, 182, 0, 192, 154, 0, 12, 42, 16, 45, 182, 0, 192, 153, 0, 18, 42, 27, 5]
abbrev dktX2_orderHere_3 : List UInt8 := dkwX2_orderHere_3 ++ dktX2_orderHere_4
def dkwX2_orderHere_2 : List UInt8 := [27, 42, 182, 0, 181, 79, 42, 16, 46, 182, 0, 192, 153, 0, 5, 4, 172, 42, 16, 115, 182, 0, 192]
abbrev dktX2_orderHere_2 : List UInt8 := dkwX2_orderHere_2 ++ dktX2_orderHere_3
def dkwX2_orderHere_1 : List UInt8 := [42, 18, 198, 182, 0, 200, 172, 42, 27, 4, 96, 5, 182, 0, 204, 154, 0, 5, 3, 172, 42, 180, 0, 32]
abbrev dktX2_orderHere_1 : List UInt8 := dkwX2_orderHere_1 ++ dktX2_orderHere_2
def dkwX2_orderHere_0 : List UInt8 := [6, 42, 180, 0, 195, 104, 60, 42, 180, 0, 32, 27, 16, 109, 79, 42, 182, 0, 181, 16, 109, 160, 0, 10]
abbrev dktX2_orderHere_0 : List UInt8 := dkwX2_orderHere_0 ++ dktX2_orderHere_1
theorem dksX2_orderHere_0 : cX2_orderHere.data.toList.drop 0 = dktX2_orderHere_0 := by decide +kernel
theorem dksX2_orderHere_1 : cX2_orderHere.data.toList.drop 24 = dktX2_orderHere_1 := dk_seg dksX2_orderHere_0 24 rfl rfl
theorem dksX2_orderHere_2 : cX2_orderHere.data.toList.drop 48 = dktX2_orderHere_2 := dk_seg dksX2_orderHere_1 24 rfl rfl
theorem dksX2_orderHere_3 : cX2_orderHere.data.toList.drop 71 = dktX2_orderHere_3 := dk_seg dksX2_orderHere_2 23 rfl rfl
theorem dksX2_orderHere_4 : cX2_orderHere.data.toList.drop 95 = dktX2_orderHere_4 := dk_seg dksX2_orderHere_3 24 rfl rfl
theorem dX2_orderHere_0 : decode cX2_orderHere 0 = .ok (.iconst 3, 1) := dk_6 (dk_at dksX2_orderHere_0 0 rfl rfl)
theorem dX2_orderHere_1 : decode cX2_orderHere 1 = .ok (.aload_n 0, 1) := dk_42 (dk_at dksX2_orderHere_0 1 rfl rfl)
theorem dX2_orderHere_2 : decode cX2_orderHere 2 = .ok (.getfield 195, 3) := dk_180 0 195 (dk_at dksX2_orderHere_0 2 rfl rfl)
theorem dX2_orderHere_5 : decode cX2_orderHere 5 = .ok (.imul, 1) := dk_104 (dk_at dksX2_orderHere_0 5 rfl rfl)
theorem dX2_orderHere_6 : decode cX2_orderHere 6 = .ok (.istore_n 1, 1) := dk_60 (dk_at dksX2_orderHere_0 6 rfl rfl)
theorem dX2_orderHere_7 : decode cX2_orderHere 7 = .ok (.aload_n 0, 1) := dk_42 (dk_at dksX2_orderHere_0 7 rfl rfl)
theorem dX2_orderHere_8 : decode cX2_orderHere 8 = .ok (.getfield 32, 3) := dk_180 0 32 (dk_at dksX2_orderHere_0 8 rfl rfl)
theorem dX2_orderHere_11 : decode cX2_orderHere 11 = .ok (.iload_n 1, 1) := dk_27 (dk_at dksX2_orderHere_0 11 rfl rfl)
theorem dX2_orderHere_12 : decode cX2_orderHere 12 = .ok (.bipush 109, 2) := dk_16 109 (dk_at dksX2_orderHere_0 12 rfl rfl)
theorem dX2_orderHere_14 : decode cX2_orderHere 14 = .ok (.iastore, 1) := dk_79 (dk_at dksX2_orderHere_0 14 rfl rfl)
theorem dX2_orderHere_15 : decode cX2_orderHere 15 = .ok (.aload_n 0, 1) := dk_42 (dk_at dksX2_orderHere_0 15 rfl rfl)
theorem dX2_orderHere_16 : decode cX2_orderHere 16 = .ok (.invokevirtual 181, 3) := dk_182 0 181 (dk_at dksX2_orderHere_0 16 rfl rfl)
theorem dX2_orderHere_19 : decode cX2_orderHere 19 = .ok (.bipush 109, 2) := dk_16 109 (dk_at dksX2_orderHere_0 19 rfl rfl)
theorem dX2_orderHere_21 : decode cX2_orderHere 21 = .ok (.if_icmp .ne 10, 3) := dk_160 0 10 (dk_at dksX2_orderHere_0 21 rfl rfl)
theorem dX2_orderHere_24 : decode cX2_orderHere 24 = .ok (.aload_n 0, 1) := dk_42 (dk_at dksX2_orderHere_1 0 rfl rfl)
theorem dX2_orderHere_25 : decode cX2_orderHere 25 = .ok (.ldc 198, 2) := dk_18 198 (dk_at dksX2_orderHere_1 1 rfl rfl)
theorem dX2_orderHere_27 : decode cX2_orderHere 27 = .ok (.invokevirtual 200, 3) := dk_182 0 200 (dk_at dksX2_orderHere_1 3 rfl rfl)
theorem dX2_orderHere_30 : decode cX2_orderHere 30 = .ok (.ireturn, 1) := dk_172 (dk_at dksX2_orderHere_1 6 rfl rfl)
theorem dX2_orderHere_31 : decode cX2_orderHere 31 = .ok (.aload_n 0, 1) := dk_42 (dk_at dksX2_orderHere_1 7 rfl rfl)
theorem dX2_orderHere_32 : decode cX2_orderHere 32 = .ok (.iload_n 1, 1) := dk_27 (dk_at dksX2_orderHere_1 8 rfl rfl)
theorem dX2_orderHere_33 : decode cX2_orderHere 33 = .ok (.iconst 1, 1) := dk_4 (dk_at dksX2_orderHere_1 9 rfl rfl)
theorem dX2_orderHere_34 : decode cX2_orderHere 34 = .ok (.iadd, 1) := dk_96 (dk_at dksX2_orderHere_1 10 rfl rfl)
theorem dX2_orderHere_35 : decode cX2_orderHere 35 = .ok (.iconst 2, 1) := dk_5 (dk_at dksX2_orderHere_1 11 rfl rfl)
theorem dX2_orderHere_36 : decode cX2_orderHere 36 = .ok (.invokevirtual 204, 3) := dk_182 0 204 (dk_at dksX2_orderHere_1 12 rfl rfl)
theorem dX2_orderHere_39 : decode cX2_orderHere 39 = .ok (.ifCond .ne 5, 3) := dk_154 0 5 (dk_at dksX2_orderHere_1 15 rfl rfl)
theorem dX2_orderHere_42 : decode cX2_orderHere 42 = .ok (.iconst 0, 1) := dk_3 (dk_at dksX2_orderHere_1 18 rfl rfl)
theorem dX2_orderHere_43 : decode cX2_orderHere 43 = .ok (.ireturn, 1) := dk_172 (dk_at dksX2_orderHere_1 19 rfl rfl)
theorem dX2_orderHere_44 : decode cX2_orderHere 44 = .ok (.aload_n 0, 1) := dk_42 (dk_at dksX2_orderHere_1 20 rfl rfl)
theorem dX2_orderHere_45 : decode cX2_orderHere 45 = .ok (.getfield 32, 3) := dk_180 0 32 (dk_at dksX2_orderHere_1 21 rfl rfl)
theorem dX2_orderHere_48 : decode cX2_orderHere 48 = .ok (.iload_n 1, 1) := dk_27 (dk_at dksX2_orderHere_2 0 rfl rfl)
theorem dX2_orderHere_49 : decode cX2_orderHere 49 = .ok (.aload_n 0, 1) := dk_42 (dk_at dksX2_orderHere_2 1 rfl rfl)
theorem dX2_orderHere_50 : decode cX2_orderHere 50 = .ok (.invokevirtual 181, 3) := dk_182 0 181 (dk_at dksX2_orderHere_2 2 rfl rfl)
theorem dX2_orderHere_53 : decode cX2_orderHere 53 = .ok (.iastore, 1) := dk_79 (dk_at dksX2_orderHere_2 5 rfl rfl)
theorem dX2_orderHere_54 : decode cX2_orderHere 54 = .ok (.aload_n 0, 1) := dk_42 (dk_at dksX2_orderHere_2 6 rfl rfl)
theorem dX2_orderHere_55 : decode cX2_orderHere 55 = .ok (.bipush 46, 2) := dk_16 46 (dk_at dksX2_orderHere_2 7 rfl rfl)
theorem dX2_orderHere_57 : decode cX2_orderHere 57 = .ok (.invokevirtual 192, 3) := dk_182 0 192 (dk_at dksX2_orderHere_2 9 rfl rfl)
theorem dX2_orderHere_60 : decode cX2_orderHere 60 = .ok (.ifCond .eq 5, 3) := dk_153 0 5 (dk_at dksX2_orderHere_2 12 rfl rfl)
theorem dX2_orderHere_63 : decode cX2_orderHere 63 = .ok (.iconst 1, 1) := dk_4 (dk_at dksX2_orderHere_2 15 rfl rfl)
theorem dX2_orderHere_64 : decode cX2_orderHere 64 = .ok (.ireturn, 1) := dk_172 (dk_at dksX2_orderHere_2 16 rfl rfl)
theorem dX2_orderHere_65 : decode cX2_orderHere 65 = .ok (.aload_n 0, 1) := dk_42 (dk_at dksX2_orderHere_2 17 rfl rfl)
theorem dX2_orderHere_66 : decode cX2_orderHere 66 = .ok (.bipush 115, 2) := dk_16 115 (dk_at dksX2_orderHere_2 18 rfl rfl)
theorem dX2_orderHere_68 : decode cX2_orderHere 68 = .ok (.invokevirtual 192, 3) := dk_182 0 192 (dk_at dksX2_orderHere_2 20 rfl rfl)
theorem dX2_orderHere_71 : decode cX2_orderHere 71 = .ok (.ifCond .ne 21, 3) := dk_154 0 21 (dk_at dksX2_orderHere_3 0 rfl rfl)
theorem dX2_orderHere_74 : decode cX2_orderHere 74 = .ok (.aload_n 0, 1) := dk_42 (dk_at dksX2_orderHere_3 3 rfl rfl)
theorem dX2_orderHere_75 : decode cX2_orderHere 75 = .ok (.bipush 120, 2) := dk_16 120 (dk_at dksX2_orderHere_3 4 rfl rfl)
theorem dX2_orderHere_77 : decode cX2_orderHere 77 = .ok (.invokevirtual 192, 3) := dk_182 0 192 (dk_at dksX2_orderHere_3 6 rfl rfl)
theorem dX2_orderHere_80 : decode cX2_orderHere 80 = .ok (.ifCond .ne 12, 3) := dk_154 0 12 (dk_at dksX2_orderHere_3 9 rfl rfl)
theorem dX2_orderHere_83 : decode cX2_orderHere 83 = .ok (.aload_n 0, 1) := dk_42 (dk_at dksX2_orderHere_3 12 rfl rfl)
theorem dX2_orderHere_84 : decode cX2_orderHere 84 = .ok (.bipush 45, 2) := dk_16 45 (dk_at dksX2_orderHere_3 13 rfl rfl)
theorem dX2_orderHere_86 : decode cX2_orderHere 86 = .ok (.invokevirtual 192, 3) := dk_182 0 192 (dk_at dksX2_orderHere_3 15 rfl rfl)
theorem dX2_orderHere_89 : decode cX2_orderHere 89 = .ok (.ifCond .eq 18, 3) := dk_153 0 18 (dk_at dksX2_orderHere_3 18 rfl rfl)
theorem dX2_orderHere_92 : decode cX2_orderHere 92 = .ok (.aload_n 0, 1) := dk_42 (dk_at dksX2_orderHere_3 21 rfl rfl)
theorem dX2_orderHere_93 : decode cX2_orderHere 93 = .ok (.iload_n 1, 1) := dk_27 (dk_at dksX2_orderHere_3 22 rfl rfl)
theorem dX2_orderHere_94 : decode cX2_orderHere 94 = .ok (.iconst 2, 1) := dk_5 (dk_at dksX2_orderHere_3 23 rfl rfl)
theorem dX2_orderHere_95 : decode cX2_orderHere 95 = .ok (.iadd, 1) := dk_96 (dk_at dksX2_orderHere_4 0 rfl rfl)
theorem dX2_orderHere_96 : decode cX2_orderHere 96 = .ok (.iconst 1, 1) := dk_4 (dk_at dksX2_orderHere_4 1 rfl rfl)
theorem dX2_orderHere_97 : decode cX2_orderHere 97 = .ok (.invokevirtual 204, 3) := dk_182 0 204 (dk_at dksX2_orderHere_4 2 rfl rfl)
theorem dX2_orderHere_100 : decode cX2_orderHere 100 = .ok (.ifCond .eq 7, 3) := dk_153 0 7 (dk_at dksX2_orderHere_4 5 rfl rfl)
theorem dX2_orderHere_103 : decode cX2_orderHere 103 = .ok (.iconst 1, 1) := dk_4 (dk_at dksX2_orderHere_4 8 rfl rfl)
theorem dX2_orderHere_104 : decode cX2_orderHere 104 = .ok (.goto 4, 3) := dk_167 0 4 (dk_at dksX2_orderHere_4 9 rfl rfl)
theorem dX2_orderHere_107 : decode cX2_orderHere 107 = .ok (.iconst 0, 1) := dk_3 (dk_at dksX2_orderHere_4 12 rfl rfl)
theorem dX2_orderHere_108 : decode cX2_orderHere 108 = .ok (.ireturn, 1) := dk_172 (dk_at dksX2_orderHere_4 13 rfl rfl)
abbrev cX2_here : ByteArray := prog_12_method_56_code
def yX2_here : MethodName := ⟨RX2, "here", "()I"⟩
def dkwX2_here_1 : List UInt8 := [172]
abbrev dktX2_here_1 : List UInt8 := dkwX2_here_1 ++ []
def dkwX2_here_0 : List UInt8 := [42, 180, 0, 178, 42, 180, 0, 175, 162, 0, 15, 42, 180, 0, 25, 42, 180, 0, 178, 46, 167, 0, 4, 2]
abbrev dktX2_here_0 : List UInt8 := dkwX2_here_0 ++ dktX2_here_1
theorem dksX2_here_0 : cX2_here.data.toList.drop 0 = dktX2_here_0 := by decide +kernel
theorem dksX2_here_1 : cX2_here.data.toList.drop 24 = dktX2_here_1 := dk_seg dksX2_here_0 24 rfl rfl
theorem dX2_here_0 : decode cX2_here 0 = .ok (.aload_n 0, 1) := dk_42 (dk_at dksX2_here_0 0 rfl rfl)
theorem dX2_here_1 : decode cX2_here 1 = .ok (.getfield 178, 3) := dk_180 0 178 (dk_at dksX2_here_0 1 rfl rfl)
theorem dX2_here_4 : decode cX2_here 4 = .ok (.aload_n 0, 1) := dk_42 (dk_at dksX2_here_0 4 rfl rfl)
theorem dX2_here_5 : decode cX2_here 5 = .ok (.getfield 175, 3) := dk_180 0 175 (dk_at dksX2_here_0 5 rfl rfl)
theorem dX2_here_8 : decode cX2_here 8 = .ok (.if_icmp .ge 15, 3) := dk_162 0 15 (dk_at dksX2_here_0 8 rfl rfl)
theorem dX2_here_11 : decode cX2_here 11 = .ok (.aload_n 0, 1) := dk_42 (dk_at dksX2_here_0 11 rfl rfl)
theorem dX2_here_12 : decode cX2_here 12 = .ok (.getfield 25, 3) := dk_180 0 25 (dk_at dksX2_here_0 12 rfl rfl)
theorem dX2_here_15 : decode cX2_here 15 = .ok (.aload_n 0, 1) := dk_42 (dk_at dksX2_here_0 15 rfl rfl)
theorem dX2_here_16 : decode cX2_here 16 = .ok (.getfield 178, 3) := dk_180 0 178 (dk_at dksX2_here_0 16 rfl rfl)
theorem dX2_here_19 : decode cX2_here 19 = .ok (.iaload, 1) := dk_46 (dk_at dksX2_here_0 19 rfl rfl)
theorem dX2_here_20 : decode cX2_here 20 = .ok (.goto 4, 3) := dk_167 0 4 (dk_at dksX2_here_0 20 rfl rfl)
theorem dX2_here_23 : decode cX2_here 23 = .ok (.iconst (-1), 1) := dk_2 (dk_at dksX2_here_0 23 rfl rfl)
theorem dX2_here_24 : decode cX2_here 24 = .ok (.ireturn, 1) := dk_172 (dk_at dksX2_here_1 0 rfl rfl)
abbrev cX2_word : ByteArray := prog_12_method_58_code
def yX2_word : MethodName := ⟨RX2, "word", "(Ljava/lang/String;)Z"⟩
def dkwX2_word_1 : List UInt8 := [132, 2, 1, 167, 255, 231, 4, 172]
abbrev dktX2_word_1 : List UInt8 := dkwX2_word_1 ++ []
def dkwX2_word_0 : List UInt8 := [3, 61, 28, 43, 182, 0, 184, 162, 0, 23, 42, 43, 28, 182, 0, 188, 182, 0, 192, 154, 0, 5, 3, 172]
abbrev dktX2_word_0 : List UInt8 := dkwX2_word_0 ++ dktX2_word_1
theorem dksX2_word_0 : cX2_word.data.toList.drop 0 = dktX2_word_0 := by decide +kernel
theorem dksX2_word_1 : cX2_word.data.toList.drop 24 = dktX2_word_1 := dk_seg dksX2_word_0 24 rfl rfl
theorem dX2_word_0 : decode cX2_word 0 = .ok (.iconst 0, 1) := dk_3 (dk_at dksX2_word_0 0 rfl rfl)
theorem dX2_word_1 : decode cX2_word 1 = .ok (.istore_n 2, 1) := dk_61 (dk_at dksX2_word_0 1 rfl rfl)
theorem dX2_word_2 : decode cX2_word 2 = .ok (.iload_n 2, 1) := dk_28 (dk_at dksX2_word_0 2 rfl rfl)
theorem dX2_word_3 : decode cX2_word 3 = .ok (.aload_n 1, 1) := dk_43 (dk_at dksX2_word_0 3 rfl rfl)
theorem dX2_word_4 : decode cX2_word 4 = .ok (.invokevirtual 184, 3) := dk_182 0 184 (dk_at dksX2_word_0 4 rfl rfl)
theorem dX2_word_7 : decode cX2_word 7 = .ok (.if_icmp .ge 23, 3) := dk_162 0 23 (dk_at dksX2_word_0 7 rfl rfl)
theorem dX2_word_10 : decode cX2_word 10 = .ok (.aload_n 0, 1) := dk_42 (dk_at dksX2_word_0 10 rfl rfl)
theorem dX2_word_11 : decode cX2_word 11 = .ok (.aload_n 1, 1) := dk_43 (dk_at dksX2_word_0 11 rfl rfl)
theorem dX2_word_12 : decode cX2_word 12 = .ok (.iload_n 2, 1) := dk_28 (dk_at dksX2_word_0 12 rfl rfl)
theorem dX2_word_13 : decode cX2_word 13 = .ok (.invokevirtual 188, 3) := dk_182 0 188 (dk_at dksX2_word_0 13 rfl rfl)
theorem dX2_word_16 : decode cX2_word 16 = .ok (.invokevirtual 192, 3) := dk_182 0 192 (dk_at dksX2_word_0 16 rfl rfl)
theorem dX2_word_19 : decode cX2_word 19 = .ok (.ifCond .ne 5, 3) := dk_154 0 5 (dk_at dksX2_word_0 19 rfl rfl)
theorem dX2_word_22 : decode cX2_word 22 = .ok (.iconst 0, 1) := dk_3 (dk_at dksX2_word_0 22 rfl rfl)
theorem dX2_word_23 : decode cX2_word 23 = .ok (.ireturn, 1) := dk_172 (dk_at dksX2_word_0 23 rfl rfl)
theorem dX2_word_24 : decode cX2_word 24 = .ok (.iinc 2 1, 3) := dk_132 2 1 (dk_at dksX2_word_1 0 rfl rfl)
theorem dX2_word_27 : decode cX2_word 27 = .ok (.goto (-25), 3) := dk_167 255 231 (dk_at dksX2_word_1 3 rfl rfl)
theorem dX2_word_30 : decode cX2_word 30 = .ok (.iconst 1, 1) := dk_4 (dk_at dksX2_word_1 6 rfl rfl)
theorem dX2_word_31 : decode cX2_word 31 = .ok (.ireturn, 1) := dk_172 (dk_at dksX2_word_1 7 rfl rfl)
abbrev cX2_skips : ByteArray := prog_12_method_57_code
def yX2_skips : MethodName := ⟨RX2, "skips", "(I)Z"⟩
def dkwX2_skips_0 : List UInt8 := [42, 182, 0, 181, 27, 159, 0, 5, 3, 172, 42, 89, 180, 0, 178, 4, 96, 181, 0, 178, 4, 172]
abbrev dktX2_skips_0 : List UInt8 := dkwX2_skips_0 ++ []
theorem dksX2_skips_0 : cX2_skips.data.toList.drop 0 = dktX2_skips_0 := by decide +kernel
theorem dX2_skips_0 : decode cX2_skips 0 = .ok (.aload_n 0, 1) := dk_42 (dk_at dksX2_skips_0 0 rfl rfl)
theorem dX2_skips_1 : decode cX2_skips 1 = .ok (.invokevirtual 181, 3) := dk_182 0 181 (dk_at dksX2_skips_0 1 rfl rfl)
theorem dX2_skips_4 : decode cX2_skips 4 = .ok (.iload_n 1, 1) := dk_27 (dk_at dksX2_skips_0 4 rfl rfl)
theorem dX2_skips_5 : decode cX2_skips 5 = .ok (.if_icmp .eq 5, 3) := dk_159 0 5 (dk_at dksX2_skips_0 5 rfl rfl)
theorem dX2_skips_8 : decode cX2_skips 8 = .ok (.iconst 0, 1) := dk_3 (dk_at dksX2_skips_0 8 rfl rfl)
theorem dX2_skips_9 : decode cX2_skips 9 = .ok (.ireturn, 1) := dk_172 (dk_at dksX2_skips_0 9 rfl rfl)
theorem dX2_skips_10 : decode cX2_skips 10 = .ok (.aload_n 0, 1) := dk_42 (dk_at dksX2_skips_0 10 rfl rfl)
theorem dX2_skips_11 : decode cX2_skips 11 = .ok (.dup, 1) := dk_89 (dk_at dksX2_skips_0 11 rfl rfl)
theorem dX2_skips_12 : decode cX2_skips 12 = .ok (.getfield 178, 3) := dk_180 0 178 (dk_at dksX2_skips_0 12 rfl rfl)
theorem dX2_skips_15 : decode cX2_skips 15 = .ok (.iconst 1, 1) := dk_4 (dk_at dksX2_skips_0 15 rfl rfl)
theorem dX2_skips_16 : decode cX2_skips 16 = .ok (.iadd, 1) := dk_96 (dk_at dksX2_skips_0 16 rfl rfl)
theorem dX2_skips_17 : decode cX2_skips 17 = .ok (.putfield 178, 3) := dk_181 0 178 (dk_at dksX2_skips_0 17 rfl rfl)
theorem dX2_skips_20 : decode cX2_skips 20 = .ok (.iconst 1, 1) := dk_4 (dk_at dksX2_skips_0 20 rfl rfl)
theorem dX2_skips_21 : decode cX2_skips 21 = .ok (.ireturn, 1) := dk_172 (dk_at dksX2_skips_0 21 rfl rfl)
abbrev cX2_figures : ByteArray := prog_12_method_59_code
def yX2_figures : MethodName := ⟨RX2, "figures", "(II)Z"⟩
def dkwX2_figures_3 : List UInt8 := [4, 96, 181, 0, 178, 132, 3, 1, 167, 255, 201, 4, 172]
abbrev dktX2_figures_3 : List UInt8 := dkwX2_figures_3 ++ []
def dkwX2_figures_2 : List UInt8 := [27, 16, 10, 42, 180, 0, 32, 27, 46, 104, 42, 182, 0, 181, 96, 16, 48, 100, 79, 42, 89, 180, 0, 178]
abbrev dktX2_figures_2 : List UInt8 := dkwX2_figures_2 ++ dktX2_figures_3
def dkwX2_figures_1 : List UInt8 := [62, 29, 28, 162, 0, 56, 42, 182, 0, 181, 16, 48, 16, 57, 184, 0, 53, 153, 0, 42, 42, 180, 0, 32]
abbrev dktX2_figures_1 : List UInt8 := dkwX2_figures_1 ++ dktX2_figures_2
def dkwX2_figures_0 : List UInt8 := [42, 182, 0, 181, 16, 48, 16, 57, 184, 0, 53, 154, 0, 5, 3, 172, 42, 180, 0, 32, 27, 3, 79, 3]
abbrev dktX2_figures_0 : List UInt8 := dkwX2_figures_0 ++ dktX2_figures_1
theorem dksX2_figures_0 : cX2_figures.data.toList.drop 0 = dktX2_figures_0 := by decide +kernel
theorem dksX2_figures_1 : cX2_figures.data.toList.drop 24 = dktX2_figures_1 := dk_seg dksX2_figures_0 24 rfl rfl
theorem dksX2_figures_2 : cX2_figures.data.toList.drop 48 = dktX2_figures_2 := dk_seg dksX2_figures_1 24 rfl rfl
theorem dksX2_figures_3 : cX2_figures.data.toList.drop 72 = dktX2_figures_3 := dk_seg dksX2_figures_2 24 rfl rfl
theorem dX2_figures_0 : decode cX2_figures 0 = .ok (.aload_n 0, 1) := dk_42 (dk_at dksX2_figures_0 0 rfl rfl)
theorem dX2_figures_1 : decode cX2_figures 1 = .ok (.invokevirtual 181, 3) := dk_182 0 181 (dk_at dksX2_figures_0 1 rfl rfl)
theorem dX2_figures_4 : decode cX2_figures 4 = .ok (.bipush 48, 2) := dk_16 48 (dk_at dksX2_figures_0 4 rfl rfl)
theorem dX2_figures_6 : decode cX2_figures 6 = .ok (.bipush 57, 2) := dk_16 57 (dk_at dksX2_figures_0 6 rfl rfl)
theorem dX2_figures_8 : decode cX2_figures 8 = .ok (.invokestatic 53, 3) := dk_184 0 53 (dk_at dksX2_figures_0 8 rfl rfl)
theorem dX2_figures_11 : decode cX2_figures 11 = .ok (.ifCond .ne 5, 3) := dk_154 0 5 (dk_at dksX2_figures_0 11 rfl rfl)
theorem dX2_figures_14 : decode cX2_figures 14 = .ok (.iconst 0, 1) := dk_3 (dk_at dksX2_figures_0 14 rfl rfl)
theorem dX2_figures_15 : decode cX2_figures 15 = .ok (.ireturn, 1) := dk_172 (dk_at dksX2_figures_0 15 rfl rfl)
theorem dX2_figures_16 : decode cX2_figures 16 = .ok (.aload_n 0, 1) := dk_42 (dk_at dksX2_figures_0 16 rfl rfl)
theorem dX2_figures_17 : decode cX2_figures 17 = .ok (.getfield 32, 3) := dk_180 0 32 (dk_at dksX2_figures_0 17 rfl rfl)
theorem dX2_figures_20 : decode cX2_figures 20 = .ok (.iload_n 1, 1) := dk_27 (dk_at dksX2_figures_0 20 rfl rfl)
theorem dX2_figures_21 : decode cX2_figures 21 = .ok (.iconst 0, 1) := dk_3 (dk_at dksX2_figures_0 21 rfl rfl)
theorem dX2_figures_22 : decode cX2_figures 22 = .ok (.iastore, 1) := dk_79 (dk_at dksX2_figures_0 22 rfl rfl)
theorem dX2_figures_23 : decode cX2_figures 23 = .ok (.iconst 0, 1) := dk_3 (dk_at dksX2_figures_0 23 rfl rfl)
theorem dX2_figures_24 : decode cX2_figures 24 = .ok (.istore_n 3, 1) := dk_62 (dk_at dksX2_figures_1 0 rfl rfl)
theorem dX2_figures_25 : decode cX2_figures 25 = .ok (.iload_n 3, 1) := dk_29 (dk_at dksX2_figures_1 1 rfl rfl)
theorem dX2_figures_26 : decode cX2_figures 26 = .ok (.iload_n 2, 1) := dk_28 (dk_at dksX2_figures_1 2 rfl rfl)
theorem dX2_figures_27 : decode cX2_figures 27 = .ok (.if_icmp .ge 56, 3) := dk_162 0 56 (dk_at dksX2_figures_1 3 rfl rfl)
theorem dX2_figures_30 : decode cX2_figures 30 = .ok (.aload_n 0, 1) := dk_42 (dk_at dksX2_figures_1 6 rfl rfl)
theorem dX2_figures_31 : decode cX2_figures 31 = .ok (.invokevirtual 181, 3) := dk_182 0 181 (dk_at dksX2_figures_1 7 rfl rfl)
theorem dX2_figures_34 : decode cX2_figures 34 = .ok (.bipush 48, 2) := dk_16 48 (dk_at dksX2_figures_1 10 rfl rfl)
theorem dX2_figures_36 : decode cX2_figures 36 = .ok (.bipush 57, 2) := dk_16 57 (dk_at dksX2_figures_1 12 rfl rfl)
theorem dX2_figures_38 : decode cX2_figures 38 = .ok (.invokestatic 53, 3) := dk_184 0 53 (dk_at dksX2_figures_1 14 rfl rfl)
theorem dX2_figures_41 : decode cX2_figures 41 = .ok (.ifCond .eq 42, 3) := dk_153 0 42 (dk_at dksX2_figures_1 17 rfl rfl)
theorem dX2_figures_44 : decode cX2_figures 44 = .ok (.aload_n 0, 1) := dk_42 (dk_at dksX2_figures_1 20 rfl rfl)
theorem dX2_figures_45 : decode cX2_figures 45 = .ok (.getfield 32, 3) := dk_180 0 32 (dk_at dksX2_figures_1 21 rfl rfl)
theorem dX2_figures_48 : decode cX2_figures 48 = .ok (.iload_n 1, 1) := dk_27 (dk_at dksX2_figures_2 0 rfl rfl)
theorem dX2_figures_49 : decode cX2_figures 49 = .ok (.bipush 10, 2) := dk_16 10 (dk_at dksX2_figures_2 1 rfl rfl)
theorem dX2_figures_51 : decode cX2_figures 51 = .ok (.aload_n 0, 1) := dk_42 (dk_at dksX2_figures_2 3 rfl rfl)
theorem dX2_figures_52 : decode cX2_figures 52 = .ok (.getfield 32, 3) := dk_180 0 32 (dk_at dksX2_figures_2 4 rfl rfl)
theorem dX2_figures_55 : decode cX2_figures 55 = .ok (.iload_n 1, 1) := dk_27 (dk_at dksX2_figures_2 7 rfl rfl)
theorem dX2_figures_56 : decode cX2_figures 56 = .ok (.iaload, 1) := dk_46 (dk_at dksX2_figures_2 8 rfl rfl)
theorem dX2_figures_57 : decode cX2_figures 57 = .ok (.imul, 1) := dk_104 (dk_at dksX2_figures_2 9 rfl rfl)
theorem dX2_figures_58 : decode cX2_figures 58 = .ok (.aload_n 0, 1) := dk_42 (dk_at dksX2_figures_2 10 rfl rfl)
theorem dX2_figures_59 : decode cX2_figures 59 = .ok (.invokevirtual 181, 3) := dk_182 0 181 (dk_at dksX2_figures_2 11 rfl rfl)
theorem dX2_figures_62 : decode cX2_figures 62 = .ok (.iadd, 1) := dk_96 (dk_at dksX2_figures_2 14 rfl rfl)
theorem dX2_figures_63 : decode cX2_figures 63 = .ok (.bipush 48, 2) := dk_16 48 (dk_at dksX2_figures_2 15 rfl rfl)
theorem dX2_figures_65 : decode cX2_figures 65 = .ok (.isub, 1) := dk_100 (dk_at dksX2_figures_2 17 rfl rfl)
theorem dX2_figures_66 : decode cX2_figures 66 = .ok (.iastore, 1) := dk_79 (dk_at dksX2_figures_2 18 rfl rfl)
theorem dX2_figures_67 : decode cX2_figures 67 = .ok (.aload_n 0, 1) := dk_42 (dk_at dksX2_figures_2 19 rfl rfl)
theorem dX2_figures_68 : decode cX2_figures 68 = .ok (.dup, 1) := dk_89 (dk_at dksX2_figures_2 20 rfl rfl)
theorem dX2_figures_69 : decode cX2_figures 69 = .ok (.getfield 178, 3) := dk_180 0 178 (dk_at dksX2_figures_2 21 rfl rfl)
theorem dX2_figures_72 : decode cX2_figures 72 = .ok (.iconst 1, 1) := dk_4 (dk_at dksX2_figures_3 0 rfl rfl)
theorem dX2_figures_73 : decode cX2_figures 73 = .ok (.iadd, 1) := dk_96 (dk_at dksX2_figures_3 1 rfl rfl)
theorem dX2_figures_74 : decode cX2_figures 74 = .ok (.putfield 178, 3) := dk_181 0 178 (dk_at dksX2_figures_3 2 rfl rfl)
theorem dX2_figures_77 : decode cX2_figures 77 = .ok (.iinc 3 1, 3) := dk_132 3 1 (dk_at dksX2_figures_3 5 rfl rfl)
theorem dX2_figures_80 : decode cX2_figures 80 = .ok (.goto (-55), 3) := dk_167 255 201 (dk_at dksX2_figures_3 8 rfl rfl)
theorem dX2_figures_83 : decode cX2_figures 83 = .ok (.iconst 1, 1) := dk_4 (dk_at dksX2_figures_3 11 rfl rfl)
theorem dX2_figures_84 : decode cX2_figures 84 = .ok (.ireturn, 1) := dk_172 (dk_at dksX2_figures_3 12 rfl rfl)
abbrev cX2_carries : ByteArray := prog_12_method_62_code
def yX2_carries : MethodName := ⟨RX2, "carries", "(I)I"⟩
def dkwX2_carries_5 : List UInt8 := [182, 0, 219, 172]
abbrev dktX2_carries_5 : List UInt8 := dkwX2_carries_5 ++ []
def dkwX2_carries_4 : List UInt8 := [42, 180, 0, 32, 27, 5, 96, 46, 42, 180, 0, 32, 27, 46, 16, 120, 160, 0, 7, 4, 167, 0, 4, 3]
abbrev dktX2_carries_4 : List UInt8 := dkwX2_carries_4 ++ dktX2_carries_5
def dkwX2_carries_3 : List UInt8 := [4, 96, 46, 42, 180, 0, 32, 27, 5, 96, 46, 182, 0, 216, 172, 42, 42, 180, 0, 32, 27, 4, 96, 46]
abbrev dktX2_carries_3 : List UInt8 := dkwX2_carries_3 ++ dktX2_carries_4
def dkwX2_carries_2 : List UInt8 := [42, 182, 0, 211, 172, 42, 42, 180, 0, 32, 27, 4, 96, 46, 182, 0, 213, 172, 42, 42, 180, 0, 32, 27]
abbrev dktX2_carries_2 : List UInt8 := dkwX2_carries_2 ++ dktX2_carries_3
def dkwX2_carries_1 : List UInt8 := [171, 0, 0, 0, 0, 73, 0, 0, 0, 3, 0, 0, 0, 45, 0, 0, 0, 52, 0, 0, 0, 46, 0, 0, 0, 39, 0, 0, 0, 109, 0, 0, 0, 34]
abbrev dktX2_carries_1 : List UInt8 := dkwX2_carries_1 ++ dktX2_carries_2
def dkwX2_carries_0 : List UInt8 := [42, 180, 0, 32, 27, 46]
abbrev dktX2_carries_0 : List UInt8 := dkwX2_carries_0 ++ dktX2_carries_1
theorem dksX2_carries_0 : cX2_carries.data.toList.drop 0 = dktX2_carries_0 := by decide +kernel
theorem dksX2_carries_1 : cX2_carries.data.toList.drop 6 = dktX2_carries_1 := dk_seg dksX2_carries_0 6 rfl rfl
theorem dksX2_carries_2 : cX2_carries.data.toList.drop 40 = dktX2_carries_2 := dk_seg dksX2_carries_1 34 rfl rfl
theorem dksX2_carries_3 : cX2_carries.data.toList.drop 64 = dktX2_carries_3 := dk_seg dksX2_carries_2 24 rfl rfl
theorem dksX2_carries_4 : cX2_carries.data.toList.drop 88 = dktX2_carries_4 := dk_seg dksX2_carries_3 24 rfl rfl
theorem dksX2_carries_5 : cX2_carries.data.toList.drop 112 = dktX2_carries_5 := dk_seg dksX2_carries_4 24 rfl rfl
theorem dX2_carries_0 : decode cX2_carries 0 = .ok (.aload_n 0, 1) := dk_42 (dk_at dksX2_carries_0 0 rfl rfl)
theorem dX2_carries_1 : decode cX2_carries 1 = .ok (.getfield 32, 3) := dk_180 0 32 (dk_at dksX2_carries_0 1 rfl rfl)
theorem dX2_carries_4 : decode cX2_carries 4 = .ok (.iload_n 1, 1) := dk_27 (dk_at dksX2_carries_0 4 rfl rfl)
theorem dX2_carries_5 : decode cX2_carries 5 = .ok (.iaload, 1) := dk_46 (dk_at dksX2_carries_0 5 rfl rfl)
theorem dX2_carries_6 : decode cX2_carries 6 = .ok (.lookupswitch 73 #[(45, 52), (46, 39), (109, 34)], 34) := by decide +kernel
theorem dX2_carries_40 : decode cX2_carries 40 = .ok (.aload_n 0, 1) := dk_42 (dk_at dksX2_carries_2 0 rfl rfl)
theorem dX2_carries_41 : decode cX2_carries 41 = .ok (.invokevirtual 211, 3) := dk_182 0 211 (dk_at dksX2_carries_2 1 rfl rfl)
theorem dX2_carries_44 : decode cX2_carries 44 = .ok (.ireturn, 1) := dk_172 (dk_at dksX2_carries_2 4 rfl rfl)
theorem dX2_carries_45 : decode cX2_carries 45 = .ok (.aload_n 0, 1) := dk_42 (dk_at dksX2_carries_2 5 rfl rfl)
theorem dX2_carries_46 : decode cX2_carries 46 = .ok (.aload_n 0, 1) := dk_42 (dk_at dksX2_carries_2 6 rfl rfl)
theorem dX2_carries_47 : decode cX2_carries 47 = .ok (.getfield 32, 3) := dk_180 0 32 (dk_at dksX2_carries_2 7 rfl rfl)
theorem dX2_carries_50 : decode cX2_carries 50 = .ok (.iload_n 1, 1) := dk_27 (dk_at dksX2_carries_2 10 rfl rfl)
theorem dX2_carries_51 : decode cX2_carries 51 = .ok (.iconst 1, 1) := dk_4 (dk_at dksX2_carries_2 11 rfl rfl)
theorem dX2_carries_52 : decode cX2_carries 52 = .ok (.iadd, 1) := dk_96 (dk_at dksX2_carries_2 12 rfl rfl)
theorem dX2_carries_53 : decode cX2_carries 53 = .ok (.iaload, 1) := dk_46 (dk_at dksX2_carries_2 13 rfl rfl)
theorem dX2_carries_54 : decode cX2_carries 54 = .ok (.invokevirtual 213, 3) := dk_182 0 213 (dk_at dksX2_carries_2 14 rfl rfl)
theorem dX2_carries_57 : decode cX2_carries 57 = .ok (.ireturn, 1) := dk_172 (dk_at dksX2_carries_2 17 rfl rfl)
theorem dX2_carries_58 : decode cX2_carries 58 = .ok (.aload_n 0, 1) := dk_42 (dk_at dksX2_carries_2 18 rfl rfl)
theorem dX2_carries_59 : decode cX2_carries 59 = .ok (.aload_n 0, 1) := dk_42 (dk_at dksX2_carries_2 19 rfl rfl)
theorem dX2_carries_60 : decode cX2_carries 60 = .ok (.getfield 32, 3) := dk_180 0 32 (dk_at dksX2_carries_2 20 rfl rfl)
theorem dX2_carries_63 : decode cX2_carries 63 = .ok (.iload_n 1, 1) := dk_27 (dk_at dksX2_carries_2 23 rfl rfl)
theorem dX2_carries_64 : decode cX2_carries 64 = .ok (.iconst 1, 1) := dk_4 (dk_at dksX2_carries_3 0 rfl rfl)
theorem dX2_carries_65 : decode cX2_carries 65 = .ok (.iadd, 1) := dk_96 (dk_at dksX2_carries_3 1 rfl rfl)
theorem dX2_carries_66 : decode cX2_carries 66 = .ok (.iaload, 1) := dk_46 (dk_at dksX2_carries_3 2 rfl rfl)
theorem dX2_carries_67 : decode cX2_carries 67 = .ok (.aload_n 0, 1) := dk_42 (dk_at dksX2_carries_3 3 rfl rfl)
theorem dX2_carries_68 : decode cX2_carries 68 = .ok (.getfield 32, 3) := dk_180 0 32 (dk_at dksX2_carries_3 4 rfl rfl)
theorem dX2_carries_71 : decode cX2_carries 71 = .ok (.iload_n 1, 1) := dk_27 (dk_at dksX2_carries_3 7 rfl rfl)
theorem dX2_carries_72 : decode cX2_carries 72 = .ok (.iconst 2, 1) := dk_5 (dk_at dksX2_carries_3 8 rfl rfl)
theorem dX2_carries_73 : decode cX2_carries 73 = .ok (.iadd, 1) := dk_96 (dk_at dksX2_carries_3 9 rfl rfl)
theorem dX2_carries_74 : decode cX2_carries 74 = .ok (.iaload, 1) := dk_46 (dk_at dksX2_carries_3 10 rfl rfl)
theorem dX2_carries_75 : decode cX2_carries 75 = .ok (.invokevirtual 216, 3) := dk_182 0 216 (dk_at dksX2_carries_3 11 rfl rfl)
theorem dX2_carries_78 : decode cX2_carries 78 = .ok (.ireturn, 1) := dk_172 (dk_at dksX2_carries_3 14 rfl rfl)
theorem dX2_carries_79 : decode cX2_carries 79 = .ok (.aload_n 0, 1) := dk_42 (dk_at dksX2_carries_3 15 rfl rfl)
theorem dX2_carries_80 : decode cX2_carries 80 = .ok (.aload_n 0, 1) := dk_42 (dk_at dksX2_carries_3 16 rfl rfl)
theorem dX2_carries_81 : decode cX2_carries 81 = .ok (.getfield 32, 3) := dk_180 0 32 (dk_at dksX2_carries_3 17 rfl rfl)
theorem dX2_carries_84 : decode cX2_carries 84 = .ok (.iload_n 1, 1) := dk_27 (dk_at dksX2_carries_3 20 rfl rfl)
theorem dX2_carries_85 : decode cX2_carries 85 = .ok (.iconst 1, 1) := dk_4 (dk_at dksX2_carries_3 21 rfl rfl)
theorem dX2_carries_86 : decode cX2_carries 86 = .ok (.iadd, 1) := dk_96 (dk_at dksX2_carries_3 22 rfl rfl)
theorem dX2_carries_87 : decode cX2_carries 87 = .ok (.iaload, 1) := dk_46 (dk_at dksX2_carries_3 23 rfl rfl)
theorem dX2_carries_88 : decode cX2_carries 88 = .ok (.aload_n 0, 1) := dk_42 (dk_at dksX2_carries_4 0 rfl rfl)
theorem dX2_carries_89 : decode cX2_carries 89 = .ok (.getfield 32, 3) := dk_180 0 32 (dk_at dksX2_carries_4 1 rfl rfl)
theorem dX2_carries_92 : decode cX2_carries 92 = .ok (.iload_n 1, 1) := dk_27 (dk_at dksX2_carries_4 4 rfl rfl)
theorem dX2_carries_93 : decode cX2_carries 93 = .ok (.iconst 2, 1) := dk_5 (dk_at dksX2_carries_4 5 rfl rfl)
theorem dX2_carries_94 : decode cX2_carries 94 = .ok (.iadd, 1) := dk_96 (dk_at dksX2_carries_4 6 rfl rfl)
theorem dX2_carries_95 : decode cX2_carries 95 = .ok (.iaload, 1) := dk_46 (dk_at dksX2_carries_4 7 rfl rfl)
theorem dX2_carries_96 : decode cX2_carries 96 = .ok (.aload_n 0, 1) := dk_42 (dk_at dksX2_carries_4 8 rfl rfl)
theorem dX2_carries_97 : decode cX2_carries 97 = .ok (.getfield 32, 3) := dk_180 0 32 (dk_at dksX2_carries_4 9 rfl rfl)
theorem dX2_carries_100 : decode cX2_carries 100 = .ok (.iload_n 1, 1) := dk_27 (dk_at dksX2_carries_4 12 rfl rfl)
theorem dX2_carries_101 : decode cX2_carries 101 = .ok (.iaload, 1) := dk_46 (dk_at dksX2_carries_4 13 rfl rfl)
theorem dX2_carries_102 : decode cX2_carries 102 = .ok (.bipush 120, 2) := dk_16 120 (dk_at dksX2_carries_4 14 rfl rfl)
theorem dX2_carries_104 : decode cX2_carries 104 = .ok (.if_icmp .ne 7, 3) := dk_160 0 7 (dk_at dksX2_carries_4 16 rfl rfl)
theorem dX2_carries_107 : decode cX2_carries 107 = .ok (.iconst 1, 1) := dk_4 (dk_at dksX2_carries_4 19 rfl rfl)
theorem dX2_carries_108 : decode cX2_carries 108 = .ok (.goto 4, 3) := dk_167 0 4 (dk_at dksX2_carries_4 20 rfl rfl)
theorem dX2_carries_111 : decode cX2_carries 111 = .ok (.iconst 0, 1) := dk_3 (dk_at dksX2_carries_4 23 rfl rfl)
theorem dX2_carries_112 : decode cX2_carries 112 = .ok (.invokevirtual 219, 3) := dk_182 0 219 (dk_at dksX2_carries_5 0 rfl rfl)
theorem dX2_carries_115 : decode cX2_carries 115 = .ok (.ireturn, 1) := dk_172 (dk_at dksX2_carries_5 3 rfl rfl)
abbrev cX2_tell : ByteArray := prog_12_method_66_code
def yX2_tell : MethodName := ⟨RX2, "tell", "(I)I"⟩
def dkwX2_tell_7 : List UInt8 := [167, 255, 190, 42, 180, 0, 228, 172]
abbrev dktX2_tell_7 : List UInt8 := dkwX2_tell_7 ++ []
def dkwX2_tell_6 : List UInt8 := [42, 21, 4, 5, 182, 0, 57, 4, 160, 0, 8, 16, 115, 167, 0, 5, 16, 120, 182, 0, 231, 132, 3, 1]
abbrev dktX2_tell_6 : List UInt8 := dkwX2_tell_6 ++ dktX2_tell_7
def dkwX2_tell_5 : List UInt8 := [54, 4, 42, 29, 154, 0, 8, 16, 60, 167, 0, 5, 16, 44, 182, 0, 231, 42, 21, 4, 182, 0, 234, 42]
abbrev dktX2_tell_5 : List UInt8 := dkwX2_tell_5 ++ dktX2_tell_6
def dkwX2_tell_4 : List UInt8 := [167, 255, 193, 3, 62, 29, 42, 27, 5, 182, 0, 82, 162, 0, 62, 42, 27, 6, 29, 96, 182, 0, 82]
abbrev dktX2_tell_4 : List UInt8 := dkwX2_tell_4 ++ dktX2_tell_5
def dkwX2_tell_3 : List UInt8 := [42, 29, 27, 182, 0, 76, 4, 160, 0, 8, 16, 115, 167, 0, 5, 16, 120, 182, 0, 231, 132, 3, 1]
abbrev dktX2_tell_3 : List UInt8 := dkwX2_tell_3 ++ dktX2_tell_4
def dkwX2_tell_2 : List UInt8 := [154, 0, 6, 167, 0, 41, 28, 154, 0, 9, 42, 16, 44, 182, 0, 231, 3, 61, 42, 29, 182, 0, 234, 42]
abbrev dktX2_tell_2 : List UInt8 := dkwX2_tell_2 ++ dktX2_tell_3
def dkwX2_tell_1 : List UInt8 := [182, 0, 231, 4, 61, 3, 62, 29, 42, 180, 0, 7, 3, 46, 162, 0, 59, 42, 29, 27, 182, 0, 76]
abbrev dktX2_tell_1 : List UInt8 := dkwX2_tell_1 ++ dktX2_tell_2
def dkwX2_tell_0 : List UInt8 := [27, 184, 0, 136, 154, 0, 6, 16, 245, 172, 42, 3, 181, 0, 228, 42, 27, 182, 0, 234, 42, 16, 58]
abbrev dktX2_tell_0 : List UInt8 := dkwX2_tell_0 ++ dktX2_tell_1
theorem dksX2_tell_0 : cX2_tell.data.toList.drop 0 = dktX2_tell_0 := by decide +kernel
theorem dksX2_tell_1 : cX2_tell.data.toList.drop 23 = dktX2_tell_1 := dk_seg dksX2_tell_0 23 rfl rfl
theorem dksX2_tell_2 : cX2_tell.data.toList.drop 46 = dktX2_tell_2 := dk_seg dksX2_tell_1 23 rfl rfl
theorem dksX2_tell_3 : cX2_tell.data.toList.drop 70 = dktX2_tell_3 := dk_seg dksX2_tell_2 24 rfl rfl
theorem dksX2_tell_4 : cX2_tell.data.toList.drop 93 = dktX2_tell_4 := dk_seg dksX2_tell_3 23 rfl rfl
theorem dksX2_tell_5 : cX2_tell.data.toList.drop 116 = dktX2_tell_5 := dk_seg dksX2_tell_4 23 rfl rfl
theorem dksX2_tell_6 : cX2_tell.data.toList.drop 140 = dktX2_tell_6 := dk_seg dksX2_tell_5 24 rfl rfl
theorem dksX2_tell_7 : cX2_tell.data.toList.drop 164 = dktX2_tell_7 := dk_seg dksX2_tell_6 24 rfl rfl
theorem dX2_tell_0 : decode cX2_tell 0 = .ok (.iload_n 1, 1) := dk_27 (dk_at dksX2_tell_0 0 rfl rfl)
theorem dX2_tell_1 : decode cX2_tell 1 = .ok (.invokestatic 136, 3) := dk_184 0 136 (dk_at dksX2_tell_0 1 rfl rfl)
theorem dX2_tell_4 : decode cX2_tell 4 = .ok (.ifCond .ne 6, 3) := dk_154 0 6 (dk_at dksX2_tell_0 4 rfl rfl)
theorem dX2_tell_7 : decode cX2_tell 7 = .ok (.bipush (-11), 2) := dk_16 245 (dk_at dksX2_tell_0 7 rfl rfl)
theorem dX2_tell_9 : decode cX2_tell 9 = .ok (.ireturn, 1) := dk_172 (dk_at dksX2_tell_0 9 rfl rfl)
theorem dX2_tell_10 : decode cX2_tell 10 = .ok (.aload_n 0, 1) := dk_42 (dk_at dksX2_tell_0 10 rfl rfl)
theorem dX2_tell_11 : decode cX2_tell 11 = .ok (.iconst 0, 1) := dk_3 (dk_at dksX2_tell_0 11 rfl rfl)
theorem dX2_tell_12 : decode cX2_tell 12 = .ok (.putfield 228, 3) := dk_181 0 228 (dk_at dksX2_tell_0 12 rfl rfl)
theorem dX2_tell_15 : decode cX2_tell 15 = .ok (.aload_n 0, 1) := dk_42 (dk_at dksX2_tell_0 15 rfl rfl)
theorem dX2_tell_16 : decode cX2_tell 16 = .ok (.iload_n 1, 1) := dk_27 (dk_at dksX2_tell_0 16 rfl rfl)
theorem dX2_tell_17 : decode cX2_tell 17 = .ok (.invokevirtual 234, 3) := dk_182 0 234 (dk_at dksX2_tell_0 17 rfl rfl)
theorem dX2_tell_20 : decode cX2_tell 20 = .ok (.aload_n 0, 1) := dk_42 (dk_at dksX2_tell_0 20 rfl rfl)
theorem dX2_tell_21 : decode cX2_tell 21 = .ok (.bipush 58, 2) := dk_16 58 (dk_at dksX2_tell_0 21 rfl rfl)
theorem dX2_tell_23 : decode cX2_tell 23 = .ok (.invokevirtual 231, 3) := dk_182 0 231 (dk_at dksX2_tell_1 0 rfl rfl)
theorem dX2_tell_26 : decode cX2_tell 26 = .ok (.iconst 1, 1) := dk_4 (dk_at dksX2_tell_1 3 rfl rfl)
theorem dX2_tell_27 : decode cX2_tell 27 = .ok (.istore_n 2, 1) := dk_61 (dk_at dksX2_tell_1 4 rfl rfl)
theorem dX2_tell_28 : decode cX2_tell 28 = .ok (.iconst 0, 1) := dk_3 (dk_at dksX2_tell_1 5 rfl rfl)
theorem dX2_tell_29 : decode cX2_tell 29 = .ok (.istore_n 3, 1) := dk_62 (dk_at dksX2_tell_1 6 rfl rfl)
theorem dX2_tell_30 : decode cX2_tell 30 = .ok (.iload_n 3, 1) := dk_29 (dk_at dksX2_tell_1 7 rfl rfl)
theorem dX2_tell_31 : decode cX2_tell 31 = .ok (.aload_n 0, 1) := dk_42 (dk_at dksX2_tell_1 8 rfl rfl)
theorem dX2_tell_32 : decode cX2_tell 32 = .ok (.getfield 7, 3) := dk_180 0 7 (dk_at dksX2_tell_1 9 rfl rfl)
theorem dX2_tell_35 : decode cX2_tell 35 = .ok (.iconst 0, 1) := dk_3 (dk_at dksX2_tell_1 12 rfl rfl)
theorem dX2_tell_36 : decode cX2_tell 36 = .ok (.iaload, 1) := dk_46 (dk_at dksX2_tell_1 13 rfl rfl)
theorem dX2_tell_37 : decode cX2_tell 37 = .ok (.if_icmp .ge 59, 3) := dk_162 0 59 (dk_at dksX2_tell_1 14 rfl rfl)
theorem dX2_tell_40 : decode cX2_tell 40 = .ok (.aload_n 0, 1) := dk_42 (dk_at dksX2_tell_1 17 rfl rfl)
theorem dX2_tell_41 : decode cX2_tell 41 = .ok (.iload_n 3, 1) := dk_29 (dk_at dksX2_tell_1 18 rfl rfl)
theorem dX2_tell_42 : decode cX2_tell 42 = .ok (.iload_n 1, 1) := dk_27 (dk_at dksX2_tell_1 19 rfl rfl)
theorem dX2_tell_43 : decode cX2_tell 43 = .ok (.invokevirtual 76, 3) := dk_182 0 76 (dk_at dksX2_tell_1 20 rfl rfl)
theorem dX2_tell_46 : decode cX2_tell 46 = .ok (.ifCond .ne 6, 3) := dk_154 0 6 (dk_at dksX2_tell_2 0 rfl rfl)
theorem dX2_tell_49 : decode cX2_tell 49 = .ok (.goto 41, 3) := dk_167 0 41 (dk_at dksX2_tell_2 3 rfl rfl)
theorem dX2_tell_52 : decode cX2_tell 52 = .ok (.iload_n 2, 1) := dk_28 (dk_at dksX2_tell_2 6 rfl rfl)
theorem dX2_tell_53 : decode cX2_tell 53 = .ok (.ifCond .ne 9, 3) := dk_154 0 9 (dk_at dksX2_tell_2 7 rfl rfl)
theorem dX2_tell_56 : decode cX2_tell 56 = .ok (.aload_n 0, 1) := dk_42 (dk_at dksX2_tell_2 10 rfl rfl)
theorem dX2_tell_57 : decode cX2_tell 57 = .ok (.bipush 44, 2) := dk_16 44 (dk_at dksX2_tell_2 11 rfl rfl)
theorem dX2_tell_59 : decode cX2_tell 59 = .ok (.invokevirtual 231, 3) := dk_182 0 231 (dk_at dksX2_tell_2 13 rfl rfl)
theorem dX2_tell_62 : decode cX2_tell 62 = .ok (.iconst 0, 1) := dk_3 (dk_at dksX2_tell_2 16 rfl rfl)
theorem dX2_tell_63 : decode cX2_tell 63 = .ok (.istore_n 2, 1) := dk_61 (dk_at dksX2_tell_2 17 rfl rfl)
theorem dX2_tell_64 : decode cX2_tell 64 = .ok (.aload_n 0, 1) := dk_42 (dk_at dksX2_tell_2 18 rfl rfl)
theorem dX2_tell_65 : decode cX2_tell 65 = .ok (.iload_n 3, 1) := dk_29 (dk_at dksX2_tell_2 19 rfl rfl)
theorem dX2_tell_66 : decode cX2_tell 66 = .ok (.invokevirtual 234, 3) := dk_182 0 234 (dk_at dksX2_tell_2 20 rfl rfl)
theorem dX2_tell_69 : decode cX2_tell 69 = .ok (.aload_n 0, 1) := dk_42 (dk_at dksX2_tell_2 23 rfl rfl)
theorem dX2_tell_70 : decode cX2_tell 70 = .ok (.aload_n 0, 1) := dk_42 (dk_at dksX2_tell_3 0 rfl rfl)
theorem dX2_tell_71 : decode cX2_tell 71 = .ok (.iload_n 3, 1) := dk_29 (dk_at dksX2_tell_3 1 rfl rfl)
theorem dX2_tell_72 : decode cX2_tell 72 = .ok (.iload_n 1, 1) := dk_27 (dk_at dksX2_tell_3 2 rfl rfl)
theorem dX2_tell_73 : decode cX2_tell 73 = .ok (.invokevirtual 76, 3) := dk_182 0 76 (dk_at dksX2_tell_3 3 rfl rfl)
theorem dX2_tell_76 : decode cX2_tell 76 = .ok (.iconst 1, 1) := dk_4 (dk_at dksX2_tell_3 6 rfl rfl)
theorem dX2_tell_77 : decode cX2_tell 77 = .ok (.if_icmp .ne 8, 3) := dk_160 0 8 (dk_at dksX2_tell_3 7 rfl rfl)
theorem dX2_tell_80 : decode cX2_tell 80 = .ok (.bipush 115, 2) := dk_16 115 (dk_at dksX2_tell_3 10 rfl rfl)
theorem dX2_tell_82 : decode cX2_tell 82 = .ok (.goto 5, 3) := dk_167 0 5 (dk_at dksX2_tell_3 12 rfl rfl)
theorem dX2_tell_85 : decode cX2_tell 85 = .ok (.bipush 120, 2) := dk_16 120 (dk_at dksX2_tell_3 15 rfl rfl)
theorem dX2_tell_87 : decode cX2_tell 87 = .ok (.invokevirtual 231, 3) := dk_182 0 231 (dk_at dksX2_tell_3 17 rfl rfl)
theorem dX2_tell_90 : decode cX2_tell 90 = .ok (.iinc 3 1, 3) := dk_132 3 1 (dk_at dksX2_tell_3 20 rfl rfl)
theorem dX2_tell_93 : decode cX2_tell 93 = .ok (.goto (-63), 3) := dk_167 255 193 (dk_at dksX2_tell_4 0 rfl rfl)
theorem dX2_tell_96 : decode cX2_tell 96 = .ok (.iconst 0, 1) := dk_3 (dk_at dksX2_tell_4 3 rfl rfl)
theorem dX2_tell_97 : decode cX2_tell 97 = .ok (.istore_n 3, 1) := dk_62 (dk_at dksX2_tell_4 4 rfl rfl)
theorem dX2_tell_98 : decode cX2_tell 98 = .ok (.iload_n 3, 1) := dk_29 (dk_at dksX2_tell_4 5 rfl rfl)
theorem dX2_tell_99 : decode cX2_tell 99 = .ok (.aload_n 0, 1) := dk_42 (dk_at dksX2_tell_4 6 rfl rfl)
theorem dX2_tell_100 : decode cX2_tell 100 = .ok (.iload_n 1, 1) := dk_27 (dk_at dksX2_tell_4 7 rfl rfl)
theorem dX2_tell_101 : decode cX2_tell 101 = .ok (.iconst 2, 1) := dk_5 (dk_at dksX2_tell_4 8 rfl rfl)
theorem dX2_tell_102 : decode cX2_tell 102 = .ok (.invokevirtual 82, 3) := dk_182 0 82 (dk_at dksX2_tell_4 9 rfl rfl)
theorem dX2_tell_105 : decode cX2_tell 105 = .ok (.if_icmp .ge 62, 3) := dk_162 0 62 (dk_at dksX2_tell_4 12 rfl rfl)
theorem dX2_tell_108 : decode cX2_tell 108 = .ok (.aload_n 0, 1) := dk_42 (dk_at dksX2_tell_4 15 rfl rfl)
theorem dX2_tell_109 : decode cX2_tell 109 = .ok (.iload_n 1, 1) := dk_27 (dk_at dksX2_tell_4 16 rfl rfl)
theorem dX2_tell_110 : decode cX2_tell 110 = .ok (.iconst 3, 1) := dk_6 (dk_at dksX2_tell_4 17 rfl rfl)
theorem dX2_tell_111 : decode cX2_tell 111 = .ok (.iload_n 3, 1) := dk_29 (dk_at dksX2_tell_4 18 rfl rfl)
theorem dX2_tell_112 : decode cX2_tell 112 = .ok (.iadd, 1) := dk_96 (dk_at dksX2_tell_4 19 rfl rfl)
theorem dX2_tell_113 : decode cX2_tell 113 = .ok (.invokevirtual 82, 3) := dk_182 0 82 (dk_at dksX2_tell_4 20 rfl rfl)
theorem dX2_tell_116 : decode cX2_tell 116 = .ok (.istore 4, 2) := dk_54 4 (dk_at dksX2_tell_5 0 rfl rfl)
theorem dX2_tell_118 : decode cX2_tell 118 = .ok (.aload_n 0, 1) := dk_42 (dk_at dksX2_tell_5 2 rfl rfl)
theorem dX2_tell_119 : decode cX2_tell 119 = .ok (.iload_n 3, 1) := dk_29 (dk_at dksX2_tell_5 3 rfl rfl)
theorem dX2_tell_120 : decode cX2_tell 120 = .ok (.ifCond .ne 8, 3) := dk_154 0 8 (dk_at dksX2_tell_5 4 rfl rfl)
theorem dX2_tell_123 : decode cX2_tell 123 = .ok (.bipush 60, 2) := dk_16 60 (dk_at dksX2_tell_5 7 rfl rfl)
theorem dX2_tell_125 : decode cX2_tell 125 = .ok (.goto 5, 3) := dk_167 0 5 (dk_at dksX2_tell_5 9 rfl rfl)
theorem dX2_tell_128 : decode cX2_tell 128 = .ok (.bipush 44, 2) := dk_16 44 (dk_at dksX2_tell_5 12 rfl rfl)
theorem dX2_tell_130 : decode cX2_tell 130 = .ok (.invokevirtual 231, 3) := dk_182 0 231 (dk_at dksX2_tell_5 14 rfl rfl)
theorem dX2_tell_133 : decode cX2_tell 133 = .ok (.aload_n 0, 1) := dk_42 (dk_at dksX2_tell_5 17 rfl rfl)
theorem dX2_tell_134 : decode cX2_tell 134 = .ok (.iload 4, 2) := dk_21 4 (dk_at dksX2_tell_5 18 rfl rfl)
theorem dX2_tell_136 : decode cX2_tell 136 = .ok (.invokevirtual 234, 3) := dk_182 0 234 (dk_at dksX2_tell_5 20 rfl rfl)
theorem dX2_tell_139 : decode cX2_tell 139 = .ok (.aload_n 0, 1) := dk_42 (dk_at dksX2_tell_5 23 rfl rfl)
theorem dX2_tell_140 : decode cX2_tell 140 = .ok (.aload_n 0, 1) := dk_42 (dk_at dksX2_tell_6 0 rfl rfl)
theorem dX2_tell_141 : decode cX2_tell 141 = .ok (.iload 4, 2) := dk_21 4 (dk_at dksX2_tell_6 1 rfl rfl)
theorem dX2_tell_143 : decode cX2_tell 143 = .ok (.iconst 2, 1) := dk_5 (dk_at dksX2_tell_6 3 rfl rfl)
theorem dX2_tell_144 : decode cX2_tell 144 = .ok (.invokevirtual 57, 3) := dk_182 0 57 (dk_at dksX2_tell_6 4 rfl rfl)
theorem dX2_tell_147 : decode cX2_tell 147 = .ok (.iconst 1, 1) := dk_4 (dk_at dksX2_tell_6 7 rfl rfl)
theorem dX2_tell_148 : decode cX2_tell 148 = .ok (.if_icmp .ne 8, 3) := dk_160 0 8 (dk_at dksX2_tell_6 8 rfl rfl)
theorem dX2_tell_151 : decode cX2_tell 151 = .ok (.bipush 115, 2) := dk_16 115 (dk_at dksX2_tell_6 11 rfl rfl)
theorem dX2_tell_153 : decode cX2_tell 153 = .ok (.goto 5, 3) := dk_167 0 5 (dk_at dksX2_tell_6 13 rfl rfl)
theorem dX2_tell_156 : decode cX2_tell 156 = .ok (.bipush 120, 2) := dk_16 120 (dk_at dksX2_tell_6 16 rfl rfl)
theorem dX2_tell_158 : decode cX2_tell 158 = .ok (.invokevirtual 231, 3) := dk_182 0 231 (dk_at dksX2_tell_6 18 rfl rfl)
theorem dX2_tell_161 : decode cX2_tell 161 = .ok (.iinc 3 1, 3) := dk_132 3 1 (dk_at dksX2_tell_6 21 rfl rfl)
theorem dX2_tell_164 : decode cX2_tell 164 = .ok (.goto (-66), 3) := dk_167 255 190 (dk_at dksX2_tell_7 0 rfl rfl)
theorem dX2_tell_167 : decode cX2_tell 167 = .ok (.aload_n 0, 1) := dk_42 (dk_at dksX2_tell_7 3 rfl rfl)
theorem dX2_tell_168 : decode cX2_tell 168 = .ok (.getfield 228, 3) := dk_180 0 228 (dk_at dksX2_tell_7 4 rfl rfl)
theorem dX2_tell_171 : decode cX2_tell 171 = .ok (.ireturn, 1) := dk_172 (dk_at dksX2_tell_7 7 rfl rfl)
abbrev cX2_writesNumber : ByteArray := prog_12_method_65_code
def yX2_writesNumber : MethodName := ⟨RX2, "writesNumber", "(I)V"⟩
def dkwX2_writesNumber_1 : List UInt8 := [96, 182, 0, 231, 177]
abbrev dktX2_writesNumber_1 : List UInt8 := dkwX2_writesNumber_1 ++ []
def dkwX2_writesNumber_0 : List UInt8 := [27, 16, 9, 164, 0, 14, 42, 16, 48, 27, 16, 10, 108, 96, 182, 0, 231, 42, 16, 48, 27, 16, 10, 112]
abbrev dktX2_writesNumber_0 : List UInt8 := dkwX2_writesNumber_0 ++ dktX2_writesNumber_1
theorem dksX2_writesNumber_0 : cX2_writesNumber.data.toList.drop 0 = dktX2_writesNumber_0 := by decide +kernel
theorem dksX2_writesNumber_1 : cX2_writesNumber.data.toList.drop 24 = dktX2_writesNumber_1 := dk_seg dksX2_writesNumber_0 24 rfl rfl
theorem dX2_writesNumber_0 : decode cX2_writesNumber 0 = .ok (.iload_n 1, 1) := dk_27 (dk_at dksX2_writesNumber_0 0 rfl rfl)
theorem dX2_writesNumber_1 : decode cX2_writesNumber 1 = .ok (.bipush 9, 2) := dk_16 9 (dk_at dksX2_writesNumber_0 1 rfl rfl)
theorem dX2_writesNumber_3 : decode cX2_writesNumber 3 = .ok (.if_icmp .le 14, 3) := dk_164 0 14 (dk_at dksX2_writesNumber_0 3 rfl rfl)
theorem dX2_writesNumber_6 : decode cX2_writesNumber 6 = .ok (.aload_n 0, 1) := dk_42 (dk_at dksX2_writesNumber_0 6 rfl rfl)
theorem dX2_writesNumber_7 : decode cX2_writesNumber 7 = .ok (.bipush 48, 2) := dk_16 48 (dk_at dksX2_writesNumber_0 7 rfl rfl)
theorem dX2_writesNumber_9 : decode cX2_writesNumber 9 = .ok (.iload_n 1, 1) := dk_27 (dk_at dksX2_writesNumber_0 9 rfl rfl)
theorem dX2_writesNumber_10 : decode cX2_writesNumber 10 = .ok (.bipush 10, 2) := dk_16 10 (dk_at dksX2_writesNumber_0 10 rfl rfl)
theorem dX2_writesNumber_12 : decode cX2_writesNumber 12 = .ok (.idiv, 1) := dk_108 (dk_at dksX2_writesNumber_0 12 rfl rfl)
theorem dX2_writesNumber_13 : decode cX2_writesNumber 13 = .ok (.iadd, 1) := dk_96 (dk_at dksX2_writesNumber_0 13 rfl rfl)
theorem dX2_writesNumber_14 : decode cX2_writesNumber 14 = .ok (.invokevirtual 231, 3) := dk_182 0 231 (dk_at dksX2_writesNumber_0 14 rfl rfl)
theorem dX2_writesNumber_17 : decode cX2_writesNumber 17 = .ok (.aload_n 0, 1) := dk_42 (dk_at dksX2_writesNumber_0 17 rfl rfl)
theorem dX2_writesNumber_18 : decode cX2_writesNumber 18 = .ok (.bipush 48, 2) := dk_16 48 (dk_at dksX2_writesNumber_0 18 rfl rfl)
theorem dX2_writesNumber_20 : decode cX2_writesNumber 20 = .ok (.iload_n 1, 1) := dk_27 (dk_at dksX2_writesNumber_0 20 rfl rfl)
theorem dX2_writesNumber_21 : decode cX2_writesNumber 21 = .ok (.bipush 10, 2) := dk_16 10 (dk_at dksX2_writesNumber_0 21 rfl rfl)
theorem dX2_writesNumber_23 : decode cX2_writesNumber 23 = .ok (.irem, 1) := dk_112 (dk_at dksX2_writesNumber_0 23 rfl rfl)
theorem dX2_writesNumber_24 : decode cX2_writesNumber 24 = .ok (.iadd, 1) := dk_96 (dk_at dksX2_writesNumber_1 0 rfl rfl)
theorem dX2_writesNumber_25 : decode cX2_writesNumber 25 = .ok (.invokevirtual 231, 3) := dk_182 0 231 (dk_at dksX2_writesNumber_1 1 rfl rfl)
theorem dX2_writesNumber_28 : decode cX2_writesNumber 28 = .ok (.return_, 1) := dk_177 (dk_at dksX2_writesNumber_1 4 rfl rfl)
abbrev cX2_writes : ByteArray := prog_12_method_64_code
def yX2_writes : MethodName := ⟨RX2, "writes", "(I)V"⟩
def dkwX2_writes_0 : List UInt8 := [42, 180, 0, 28, 42, 180, 0, 228, 27, 146, 85, 42, 89, 180, 0, 228, 4, 96, 181, 0, 228, 177]
abbrev dktX2_writes_0 : List UInt8 := dkwX2_writes_0 ++ []
theorem dksX2_writes_0 : cX2_writes.data.toList.drop 0 = dktX2_writes_0 := by decide +kernel
theorem dX2_writes_0 : decode cX2_writes 0 = .ok (.aload_n 0, 1) := dk_42 (dk_at dksX2_writes_0 0 rfl rfl)
theorem dX2_writes_1 : decode cX2_writes 1 = .ok (.getfield 28, 3) := dk_180 0 28 (dk_at dksX2_writes_0 1 rfl rfl)
theorem dX2_writes_4 : decode cX2_writes 4 = .ok (.aload_n 0, 1) := dk_42 (dk_at dksX2_writes_0 4 rfl rfl)
theorem dX2_writes_5 : decode cX2_writes 5 = .ok (.getfield 228, 3) := dk_180 0 228 (dk_at dksX2_writes_0 5 rfl rfl)
theorem dX2_writes_8 : decode cX2_writes 8 = .ok (.iload_n 1, 1) := dk_27 (dk_at dksX2_writes_0 8 rfl rfl)
theorem dX2_writes_9 : decode cX2_writes 9 = .ok (.i2c, 1) := dk_146 (dk_at dksX2_writes_0 9 rfl rfl)
theorem dX2_writes_10 : decode cX2_writes 10 = .ok (.castore, 1) := dk_85 (dk_at dksX2_writes_0 10 rfl rfl)
theorem dX2_writes_11 : decode cX2_writes 11 = .ok (.aload_n 0, 1) := dk_42 (dk_at dksX2_writes_0 11 rfl rfl)
theorem dX2_writes_12 : decode cX2_writes 12 = .ok (.dup, 1) := dk_89 (dk_at dksX2_writes_0 12 rfl rfl)
theorem dX2_writes_13 : decode cX2_writes 13 = .ok (.getfield 228, 3) := dk_180 0 228 (dk_at dksX2_writes_0 13 rfl rfl)
theorem dX2_writes_16 : decode cX2_writes 16 = .ok (.iconst 1, 1) := dk_4 (dk_at dksX2_writes_0 16 rfl rfl)
theorem dX2_writes_17 : decode cX2_writes 17 = .ok (.iadd, 1) := dk_96 (dk_at dksX2_writes_0 17 rfl rfl)
theorem dX2_writes_18 : decode cX2_writes 18 = .ok (.putfield 228, 3) := dk_181 0 228 (dk_at dksX2_writes_0 18 rfl rfl)
theorem dX2_writes_21 : decode cX2_writes 21 = .ok (.return_, 1) := dk_177 (dk_at dksX2_writes_0 21 rfl rfl)
abbrev cX2_tellMaid : ByteArray := prog_12_method_67_code
def yX2_tellMaid : MethodName := ⟨RX2, "tellMaid", "(I)I"⟩
def dkwX2_tellMaid_5 : List UInt8 := [160, 0, 8, 16, 115, 167, 0, 5, 16, 120, 182, 0, 231, 42, 180, 0, 228, 172]
abbrev dktX2_tellMaid_5 : List UInt8 := dkwX2_tellMaid_5 ++ []
def dkwX2_tellMaid_4 : List UInt8 := [16, 63, 182, 0, 231, 42, 42, 27, 4, 182, 0, 57, 182, 0, 234, 42, 42, 27, 5, 182, 0, 57, 4]
abbrev dktX2_tellMaid_4 : List UInt8 := dkwX2_tellMaid_4 ++ dktX2_tellMaid_5
def dkwX2_tellMaid_3 : List UInt8 := [182, 0, 231, 132, 2, 1, 167, 255, 209, 42, 27, 4, 182, 0, 57, 156, 0, 8, 42, 180, 0, 228, 172, 42]
abbrev dktX2_tellMaid_3 : List UInt8 := dkwX2_tellMaid_3 ++ dktX2_tellMaid_4
def dkwX2_tellMaid_2 : List UInt8 := [28, 182, 0, 234, 42, 42, 27, 28, 182, 0, 76, 4, 160, 0, 8, 16, 115, 167, 0, 5, 16, 120]
abbrev dktX2_tellMaid_2 : List UInt8 := dkwX2_tellMaid_2 ++ dktX2_tellMaid_3
def dkwX2_tellMaid_1 : List UInt8 := [182, 0, 231, 3, 61, 28, 16, 8, 162, 0, 47, 42, 27, 28, 182, 0, 76, 154, 0, 6, 167, 0, 29, 42]
abbrev dktX2_tellMaid_1 : List UInt8 := dkwX2_tellMaid_1 ++ dktX2_tellMaid_2
def dkwX2_tellMaid_0 : List UInt8 := [42, 27, 182, 0, 133, 154, 0, 6, 16, 245, 172, 42, 3, 181, 0, 228, 42, 27, 182, 0, 234, 42, 16, 61]
abbrev dktX2_tellMaid_0 : List UInt8 := dkwX2_tellMaid_0 ++ dktX2_tellMaid_1
theorem dksX2_tellMaid_0 : cX2_tellMaid.data.toList.drop 0 = dktX2_tellMaid_0 := by decide +kernel
theorem dksX2_tellMaid_1 : cX2_tellMaid.data.toList.drop 24 = dktX2_tellMaid_1 := dk_seg dksX2_tellMaid_0 24 rfl rfl
theorem dksX2_tellMaid_2 : cX2_tellMaid.data.toList.drop 48 = dktX2_tellMaid_2 := dk_seg dksX2_tellMaid_1 24 rfl rfl
theorem dksX2_tellMaid_3 : cX2_tellMaid.data.toList.drop 70 = dktX2_tellMaid_3 := dk_seg dksX2_tellMaid_2 22 rfl rfl
theorem dksX2_tellMaid_4 : cX2_tellMaid.data.toList.drop 94 = dktX2_tellMaid_4 := dk_seg dksX2_tellMaid_3 24 rfl rfl
theorem dksX2_tellMaid_5 : cX2_tellMaid.data.toList.drop 117 = dktX2_tellMaid_5 := dk_seg dksX2_tellMaid_4 23 rfl rfl
theorem dX2_tellMaid_0 : decode cX2_tellMaid 0 = .ok (.aload_n 0, 1) := dk_42 (dk_at dksX2_tellMaid_0 0 rfl rfl)
theorem dX2_tellMaid_1 : decode cX2_tellMaid 1 = .ok (.iload_n 1, 1) := dk_27 (dk_at dksX2_tellMaid_0 1 rfl rfl)
theorem dX2_tellMaid_2 : decode cX2_tellMaid 2 = .ok (.invokevirtual 133, 3) := dk_182 0 133 (dk_at dksX2_tellMaid_0 2 rfl rfl)
theorem dX2_tellMaid_5 : decode cX2_tellMaid 5 = .ok (.ifCond .ne 6, 3) := dk_154 0 6 (dk_at dksX2_tellMaid_0 5 rfl rfl)
theorem dX2_tellMaid_8 : decode cX2_tellMaid 8 = .ok (.bipush (-11), 2) := dk_16 245 (dk_at dksX2_tellMaid_0 8 rfl rfl)
theorem dX2_tellMaid_10 : decode cX2_tellMaid 10 = .ok (.ireturn, 1) := dk_172 (dk_at dksX2_tellMaid_0 10 rfl rfl)
theorem dX2_tellMaid_11 : decode cX2_tellMaid 11 = .ok (.aload_n 0, 1) := dk_42 (dk_at dksX2_tellMaid_0 11 rfl rfl)
theorem dX2_tellMaid_12 : decode cX2_tellMaid 12 = .ok (.iconst 0, 1) := dk_3 (dk_at dksX2_tellMaid_0 12 rfl rfl)
theorem dX2_tellMaid_13 : decode cX2_tellMaid 13 = .ok (.putfield 228, 3) := dk_181 0 228 (dk_at dksX2_tellMaid_0 13 rfl rfl)
theorem dX2_tellMaid_16 : decode cX2_tellMaid 16 = .ok (.aload_n 0, 1) := dk_42 (dk_at dksX2_tellMaid_0 16 rfl rfl)
theorem dX2_tellMaid_17 : decode cX2_tellMaid 17 = .ok (.iload_n 1, 1) := dk_27 (dk_at dksX2_tellMaid_0 17 rfl rfl)
theorem dX2_tellMaid_18 : decode cX2_tellMaid 18 = .ok (.invokevirtual 234, 3) := dk_182 0 234 (dk_at dksX2_tellMaid_0 18 rfl rfl)
theorem dX2_tellMaid_21 : decode cX2_tellMaid 21 = .ok (.aload_n 0, 1) := dk_42 (dk_at dksX2_tellMaid_0 21 rfl rfl)
theorem dX2_tellMaid_22 : decode cX2_tellMaid 22 = .ok (.bipush 61, 2) := dk_16 61 (dk_at dksX2_tellMaid_0 22 rfl rfl)
theorem dX2_tellMaid_24 : decode cX2_tellMaid 24 = .ok (.invokevirtual 231, 3) := dk_182 0 231 (dk_at dksX2_tellMaid_1 0 rfl rfl)
theorem dX2_tellMaid_27 : decode cX2_tellMaid 27 = .ok (.iconst 0, 1) := dk_3 (dk_at dksX2_tellMaid_1 3 rfl rfl)
theorem dX2_tellMaid_28 : decode cX2_tellMaid 28 = .ok (.istore_n 2, 1) := dk_61 (dk_at dksX2_tellMaid_1 4 rfl rfl)
theorem dX2_tellMaid_29 : decode cX2_tellMaid 29 = .ok (.iload_n 2, 1) := dk_28 (dk_at dksX2_tellMaid_1 5 rfl rfl)
theorem dX2_tellMaid_30 : decode cX2_tellMaid 30 = .ok (.bipush 8, 2) := dk_16 8 (dk_at dksX2_tellMaid_1 6 rfl rfl)
theorem dX2_tellMaid_32 : decode cX2_tellMaid 32 = .ok (.if_icmp .ge 47, 3) := dk_162 0 47 (dk_at dksX2_tellMaid_1 8 rfl rfl)
theorem dX2_tellMaid_35 : decode cX2_tellMaid 35 = .ok (.aload_n 0, 1) := dk_42 (dk_at dksX2_tellMaid_1 11 rfl rfl)
theorem dX2_tellMaid_36 : decode cX2_tellMaid 36 = .ok (.iload_n 1, 1) := dk_27 (dk_at dksX2_tellMaid_1 12 rfl rfl)
theorem dX2_tellMaid_37 : decode cX2_tellMaid 37 = .ok (.iload_n 2, 1) := dk_28 (dk_at dksX2_tellMaid_1 13 rfl rfl)
theorem dX2_tellMaid_38 : decode cX2_tellMaid 38 = .ok (.invokevirtual 76, 3) := dk_182 0 76 (dk_at dksX2_tellMaid_1 14 rfl rfl)
theorem dX2_tellMaid_41 : decode cX2_tellMaid 41 = .ok (.ifCond .ne 6, 3) := dk_154 0 6 (dk_at dksX2_tellMaid_1 17 rfl rfl)
theorem dX2_tellMaid_44 : decode cX2_tellMaid 44 = .ok (.goto 29, 3) := dk_167 0 29 (dk_at dksX2_tellMaid_1 20 rfl rfl)
theorem dX2_tellMaid_47 : decode cX2_tellMaid 47 = .ok (.aload_n 0, 1) := dk_42 (dk_at dksX2_tellMaid_1 23 rfl rfl)
theorem dX2_tellMaid_48 : decode cX2_tellMaid 48 = .ok (.iload_n 2, 1) := dk_28 (dk_at dksX2_tellMaid_2 0 rfl rfl)
theorem dX2_tellMaid_49 : decode cX2_tellMaid 49 = .ok (.invokevirtual 234, 3) := dk_182 0 234 (dk_at dksX2_tellMaid_2 1 rfl rfl)
theorem dX2_tellMaid_52 : decode cX2_tellMaid 52 = .ok (.aload_n 0, 1) := dk_42 (dk_at dksX2_tellMaid_2 4 rfl rfl)
theorem dX2_tellMaid_53 : decode cX2_tellMaid 53 = .ok (.aload_n 0, 1) := dk_42 (dk_at dksX2_tellMaid_2 5 rfl rfl)
theorem dX2_tellMaid_54 : decode cX2_tellMaid 54 = .ok (.iload_n 1, 1) := dk_27 (dk_at dksX2_tellMaid_2 6 rfl rfl)
theorem dX2_tellMaid_55 : decode cX2_tellMaid 55 = .ok (.iload_n 2, 1) := dk_28 (dk_at dksX2_tellMaid_2 7 rfl rfl)
theorem dX2_tellMaid_56 : decode cX2_tellMaid 56 = .ok (.invokevirtual 76, 3) := dk_182 0 76 (dk_at dksX2_tellMaid_2 8 rfl rfl)
theorem dX2_tellMaid_59 : decode cX2_tellMaid 59 = .ok (.iconst 1, 1) := dk_4 (dk_at dksX2_tellMaid_2 11 rfl rfl)
theorem dX2_tellMaid_60 : decode cX2_tellMaid 60 = .ok (.if_icmp .ne 8, 3) := dk_160 0 8 (dk_at dksX2_tellMaid_2 12 rfl rfl)
theorem dX2_tellMaid_63 : decode cX2_tellMaid 63 = .ok (.bipush 115, 2) := dk_16 115 (dk_at dksX2_tellMaid_2 15 rfl rfl)
theorem dX2_tellMaid_65 : decode cX2_tellMaid 65 = .ok (.goto 5, 3) := dk_167 0 5 (dk_at dksX2_tellMaid_2 17 rfl rfl)
theorem dX2_tellMaid_68 : decode cX2_tellMaid 68 = .ok (.bipush 120, 2) := dk_16 120 (dk_at dksX2_tellMaid_2 20 rfl rfl)
theorem dX2_tellMaid_70 : decode cX2_tellMaid 70 = .ok (.invokevirtual 231, 3) := dk_182 0 231 (dk_at dksX2_tellMaid_3 0 rfl rfl)
theorem dX2_tellMaid_73 : decode cX2_tellMaid 73 = .ok (.iinc 2 1, 3) := dk_132 2 1 (dk_at dksX2_tellMaid_3 3 rfl rfl)
theorem dX2_tellMaid_76 : decode cX2_tellMaid 76 = .ok (.goto (-47), 3) := dk_167 255 209 (dk_at dksX2_tellMaid_3 6 rfl rfl)
theorem dX2_tellMaid_79 : decode cX2_tellMaid 79 = .ok (.aload_n 0, 1) := dk_42 (dk_at dksX2_tellMaid_3 9 rfl rfl)
theorem dX2_tellMaid_80 : decode cX2_tellMaid 80 = .ok (.iload_n 1, 1) := dk_27 (dk_at dksX2_tellMaid_3 10 rfl rfl)
theorem dX2_tellMaid_81 : decode cX2_tellMaid 81 = .ok (.iconst 1, 1) := dk_4 (dk_at dksX2_tellMaid_3 11 rfl rfl)
theorem dX2_tellMaid_82 : decode cX2_tellMaid 82 = .ok (.invokevirtual 57, 3) := dk_182 0 57 (dk_at dksX2_tellMaid_3 12 rfl rfl)
theorem dX2_tellMaid_85 : decode cX2_tellMaid 85 = .ok (.ifCond .ge 8, 3) := dk_156 0 8 (dk_at dksX2_tellMaid_3 15 rfl rfl)
theorem dX2_tellMaid_88 : decode cX2_tellMaid 88 = .ok (.aload_n 0, 1) := dk_42 (dk_at dksX2_tellMaid_3 18 rfl rfl)
theorem dX2_tellMaid_89 : decode cX2_tellMaid 89 = .ok (.getfield 228, 3) := dk_180 0 228 (dk_at dksX2_tellMaid_3 19 rfl rfl)
theorem dX2_tellMaid_92 : decode cX2_tellMaid 92 = .ok (.ireturn, 1) := dk_172 (dk_at dksX2_tellMaid_3 22 rfl rfl)
theorem dX2_tellMaid_93 : decode cX2_tellMaid 93 = .ok (.aload_n 0, 1) := dk_42 (dk_at dksX2_tellMaid_3 23 rfl rfl)
theorem dX2_tellMaid_94 : decode cX2_tellMaid 94 = .ok (.bipush 63, 2) := dk_16 63 (dk_at dksX2_tellMaid_4 0 rfl rfl)
theorem dX2_tellMaid_96 : decode cX2_tellMaid 96 = .ok (.invokevirtual 231, 3) := dk_182 0 231 (dk_at dksX2_tellMaid_4 2 rfl rfl)
theorem dX2_tellMaid_99 : decode cX2_tellMaid 99 = .ok (.aload_n 0, 1) := dk_42 (dk_at dksX2_tellMaid_4 5 rfl rfl)
theorem dX2_tellMaid_100 : decode cX2_tellMaid 100 = .ok (.aload_n 0, 1) := dk_42 (dk_at dksX2_tellMaid_4 6 rfl rfl)
theorem dX2_tellMaid_101 : decode cX2_tellMaid 101 = .ok (.iload_n 1, 1) := dk_27 (dk_at dksX2_tellMaid_4 7 rfl rfl)
theorem dX2_tellMaid_102 : decode cX2_tellMaid 102 = .ok (.iconst 1, 1) := dk_4 (dk_at dksX2_tellMaid_4 8 rfl rfl)
theorem dX2_tellMaid_103 : decode cX2_tellMaid 103 = .ok (.invokevirtual 57, 3) := dk_182 0 57 (dk_at dksX2_tellMaid_4 9 rfl rfl)
theorem dX2_tellMaid_106 : decode cX2_tellMaid 106 = .ok (.invokevirtual 234, 3) := dk_182 0 234 (dk_at dksX2_tellMaid_4 12 rfl rfl)
theorem dX2_tellMaid_109 : decode cX2_tellMaid 109 = .ok (.aload_n 0, 1) := dk_42 (dk_at dksX2_tellMaid_4 15 rfl rfl)
theorem dX2_tellMaid_110 : decode cX2_tellMaid 110 = .ok (.aload_n 0, 1) := dk_42 (dk_at dksX2_tellMaid_4 16 rfl rfl)
theorem dX2_tellMaid_111 : decode cX2_tellMaid 111 = .ok (.iload_n 1, 1) := dk_27 (dk_at dksX2_tellMaid_4 17 rfl rfl)
theorem dX2_tellMaid_112 : decode cX2_tellMaid 112 = .ok (.iconst 2, 1) := dk_5 (dk_at dksX2_tellMaid_4 18 rfl rfl)
theorem dX2_tellMaid_113 : decode cX2_tellMaid 113 = .ok (.invokevirtual 57, 3) := dk_182 0 57 (dk_at dksX2_tellMaid_4 19 rfl rfl)
theorem dX2_tellMaid_116 : decode cX2_tellMaid 116 = .ok (.iconst 1, 1) := dk_4 (dk_at dksX2_tellMaid_4 22 rfl rfl)
theorem dX2_tellMaid_117 : decode cX2_tellMaid 117 = .ok (.if_icmp .ne 8, 3) := dk_160 0 8 (dk_at dksX2_tellMaid_5 0 rfl rfl)
theorem dX2_tellMaid_120 : decode cX2_tellMaid 120 = .ok (.bipush 115, 2) := dk_16 115 (dk_at dksX2_tellMaid_5 3 rfl rfl)
theorem dX2_tellMaid_122 : decode cX2_tellMaid 122 = .ok (.goto 5, 3) := dk_167 0 5 (dk_at dksX2_tellMaid_5 5 rfl rfl)
theorem dX2_tellMaid_125 : decode cX2_tellMaid 125 = .ok (.bipush 120, 2) := dk_16 120 (dk_at dksX2_tellMaid_5 8 rfl rfl)
theorem dX2_tellMaid_127 : decode cX2_tellMaid 127 = .ok (.invokevirtual 231, 3) := dk_182 0 231 (dk_at dksX2_tellMaid_5 10 rfl rfl)
theorem dX2_tellMaid_130 : decode cX2_tellMaid 130 = .ok (.aload_n 0, 1) := dk_42 (dk_at dksX2_tellMaid_5 13 rfl rfl)
theorem dX2_tellMaid_131 : decode cX2_tellMaid 131 = .ok (.getfield 228, 3) := dk_180 0 228 (dk_at dksX2_tellMaid_5 14 rfl rfl)
theorem dX2_tellMaid_134 : decode cX2_tellMaid 134 = .ok (.ireturn, 1) := dk_172 (dk_at dksX2_tellMaid_5 17 rfl rfl)
abbrev cX2_character : ByteArray := prog_12_method_68_code
def yX2_character : MethodName := ⟨RX2, "character", "(I)I"⟩
def dkwX2_character_1 : List UInt8 := [16, 245, 172]
abbrev dktX2_character_1 : List UInt8 := dkwX2_character_1 ++ []
def dkwX2_character_0 : List UInt8 := [27, 3, 42, 180, 0, 228, 4, 100, 184, 0, 53, 153, 0, 12, 42, 180, 0, 28, 27, 52, 167, 0, 5]
abbrev dktX2_character_0 : List UInt8 := dkwX2_character_0 ++ dktX2_character_1
theorem dksX2_character_0 : cX2_character.data.toList.drop 0 = dktX2_character_0 := by decide +kernel
theorem dksX2_character_1 : cX2_character.data.toList.drop 23 = dktX2_character_1 := dk_seg dksX2_character_0 23 rfl rfl
theorem dX2_character_0 : decode cX2_character 0 = .ok (.iload_n 1, 1) := dk_27 (dk_at dksX2_character_0 0 rfl rfl)
theorem dX2_character_1 : decode cX2_character 1 = .ok (.iconst 0, 1) := dk_3 (dk_at dksX2_character_0 1 rfl rfl)
theorem dX2_character_2 : decode cX2_character 2 = .ok (.aload_n 0, 1) := dk_42 (dk_at dksX2_character_0 2 rfl rfl)
theorem dX2_character_3 : decode cX2_character 3 = .ok (.getfield 228, 3) := dk_180 0 228 (dk_at dksX2_character_0 3 rfl rfl)
theorem dX2_character_6 : decode cX2_character 6 = .ok (.iconst 1, 1) := dk_4 (dk_at dksX2_character_0 6 rfl rfl)
theorem dX2_character_7 : decode cX2_character 7 = .ok (.isub, 1) := dk_100 (dk_at dksX2_character_0 7 rfl rfl)
theorem dX2_character_8 : decode cX2_character 8 = .ok (.invokestatic 53, 3) := dk_184 0 53 (dk_at dksX2_character_0 8 rfl rfl)
theorem dX2_character_11 : decode cX2_character 11 = .ok (.ifCond .eq 12, 3) := dk_153 0 12 (dk_at dksX2_character_0 11 rfl rfl)
theorem dX2_character_14 : decode cX2_character 14 = .ok (.aload_n 0, 1) := dk_42 (dk_at dksX2_character_0 14 rfl rfl)
theorem dX2_character_15 : decode cX2_character 15 = .ok (.getfield 28, 3) := dk_180 0 28 (dk_at dksX2_character_0 15 rfl rfl)
theorem dX2_character_18 : decode cX2_character 18 = .ok (.iload_n 1, 1) := dk_27 (dk_at dksX2_character_0 18 rfl rfl)
theorem dX2_character_19 : decode cX2_character 19 = .ok (.caload, 1) := dk_52 (dk_at dksX2_character_0 19 rfl rfl)
theorem dX2_character_20 : decode cX2_character 20 = .ok (.goto 5, 3) := dk_167 0 5 (dk_at dksX2_character_0 20 rfl rfl)
theorem dX2_character_23 : decode cX2_character 23 = .ok (.bipush (-11), 2) := dk_16 245 (dk_at dksX2_character_1 0 rfl rfl)
theorem dX2_character_25 : decode cX2_character 25 = .ok (.ireturn, 1) := dk_172 (dk_at dksX2_character_1 2 rfl rfl)
abbrev cX2_reason : ByteArray := prog_12_method_69_code
def yX2_reason : MethodName := ⟨RX2, "reason", "(Z)I"⟩
def dkwX2_reason_1 : List UInt8 := [180, 0, 35, 172]
abbrev dktX2_reason_1 : List UInt8 := dkwX2_reason_1 ++ []
def dkwX2_reason_0 : List UInt8 := [42, 180, 0, 35, 154, 0, 8, 16, 241, 167, 0, 18, 27, 153, 0, 10, 42, 180, 0, 39, 167, 0, 7, 42]
abbrev dktX2_reason_0 : List UInt8 := dkwX2_reason_0 ++ dktX2_reason_1
theorem dksX2_reason_0 : cX2_reason.data.toList.drop 0 = dktX2_reason_0 := by decide +kernel
theorem dksX2_reason_1 : cX2_reason.data.toList.drop 24 = dktX2_reason_1 := dk_seg dksX2_reason_0 24 rfl rfl
theorem dX2_reason_0 : decode cX2_reason 0 = .ok (.aload_n 0, 1) := dk_42 (dk_at dksX2_reason_0 0 rfl rfl)
theorem dX2_reason_1 : decode cX2_reason 1 = .ok (.getfield 35, 3) := dk_180 0 35 (dk_at dksX2_reason_0 1 rfl rfl)
theorem dX2_reason_4 : decode cX2_reason 4 = .ok (.ifCond .ne 8, 3) := dk_154 0 8 (dk_at dksX2_reason_0 4 rfl rfl)
theorem dX2_reason_7 : decode cX2_reason 7 = .ok (.bipush (-15), 2) := dk_16 241 (dk_at dksX2_reason_0 7 rfl rfl)
theorem dX2_reason_9 : decode cX2_reason 9 = .ok (.goto 18, 3) := dk_167 0 18 (dk_at dksX2_reason_0 9 rfl rfl)
theorem dX2_reason_12 : decode cX2_reason 12 = .ok (.iload_n 1, 1) := dk_27 (dk_at dksX2_reason_0 12 rfl rfl)
theorem dX2_reason_13 : decode cX2_reason 13 = .ok (.ifCond .eq 10, 3) := dk_153 0 10 (dk_at dksX2_reason_0 13 rfl rfl)
theorem dX2_reason_16 : decode cX2_reason 16 = .ok (.aload_n 0, 1) := dk_42 (dk_at dksX2_reason_0 16 rfl rfl)
theorem dX2_reason_17 : decode cX2_reason 17 = .ok (.getfield 39, 3) := dk_180 0 39 (dk_at dksX2_reason_0 17 rfl rfl)
theorem dX2_reason_20 : decode cX2_reason 20 = .ok (.goto 7, 3) := dk_167 0 7 (dk_at dksX2_reason_0 20 rfl rfl)
theorem dX2_reason_23 : decode cX2_reason 23 = .ok (.aload_n 0, 1) := dk_42 (dk_at dksX2_reason_0 23 rfl rfl)
theorem dX2_reason_24 : decode cX2_reason 24 = .ok (.getfield 35, 3) := dk_180 0 35 (dk_at dksX2_reason_1 0 rfl rfl)
theorem dX2_reason_27 : decode cX2_reason 27 = .ok (.ireturn, 1) := dk_172 (dk_at dksX2_reason_1 3 rfl rfl)
abbrev cX2_account : ByteArray := prog_12_method_73_code
def yX2_account : MethodName := ⟨RX2, "account", "(I)I"⟩
def dkwX2_account_5 : List UInt8 := [16, 244, 172]
abbrev dktX2_account_5 : List UInt8 := dkwX2_account_5 ++ []
def dkwX2_account_4 : List UInt8 := [46, 172, 42, 180, 0, 7, 4, 46, 172, 42, 182, 0, 243, 172, 42, 180, 0, 175, 172, 42, 180, 0, 46, 172]
abbrev dktX2_account_4 : List UInt8 := dkwX2_account_4 ++ dktX2_account_5
def dkwX2_account_3 : List UInt8 := [5, 182, 0, 240, 172, 42, 180, 0, 7, 5, 46, 172, 42, 180, 0, 7, 6, 46, 172, 42, 180, 0, 7, 7]
abbrev dktX2_account_3 : List UInt8 := dkwX2_account_3 ++ dktX2_account_4
def dkwX2_account_2 : List UInt8 := [42, 182, 0, 64, 172, 42, 180, 0, 7, 3, 46, 172, 42, 182, 0, 237, 172, 42, 4, 182, 0, 240, 172, 42]
abbrev dktX2_account_2 : List UInt8 := dkwX2_account_2 ++ dktX2_account_3
def dkwX2_account_1 : List UInt8 := [170, 0, 0, 0, 0, 0, 135, 0, 0, 0, 0, 0, 0, 0, 11, 0, 0, 0, 63, 0, 0, 0, 68, 0, 0, 0, 75, 0, 0, 0, 80, 0, 0, 0, 86, 0, 0, 0, 92, 0, 0, 0, 99, 0, 0, 0, 106, 0, 0, 0, 113, 0, 0, 0, 120, 0, 0, 0, 125, 0, 0, 0, 130]
abbrev dktX2_account_1 : List UInt8 := dkwX2_account_1 ++ dktX2_account_2
def dkwX2_account_0 : List UInt8 := [27]
abbrev dktX2_account_0 : List UInt8 := dkwX2_account_0 ++ dktX2_account_1
theorem dksX2_account_0 : cX2_account.data.toList.drop 0 = dktX2_account_0 := by decide +kernel
theorem dksX2_account_1 : cX2_account.data.toList.drop 1 = dktX2_account_1 := dk_seg dksX2_account_0 1 rfl rfl
theorem dksX2_account_2 : cX2_account.data.toList.drop 64 = dktX2_account_2 := dk_seg dksX2_account_1 63 rfl rfl
theorem dksX2_account_3 : cX2_account.data.toList.drop 88 = dktX2_account_3 := dk_seg dksX2_account_2 24 rfl rfl
theorem dksX2_account_4 : cX2_account.data.toList.drop 112 = dktX2_account_4 := dk_seg dksX2_account_3 24 rfl rfl
theorem dksX2_account_5 : cX2_account.data.toList.drop 136 = dktX2_account_5 := dk_seg dksX2_account_4 24 rfl rfl
theorem dX2_account_0 : decode cX2_account 0 = .ok (.iload_n 1, 1) := dk_27 (dk_at dksX2_account_0 0 rfl rfl)
theorem dX2_account_1 : decode cX2_account 1 = .ok (.tableswitch 135 0 11 #[63, 68, 75, 80, 86, 92, 99, 106, 113, 120, 125, 130], 63) := by decide +kernel
theorem dX2_account_64 : decode cX2_account 64 = .ok (.aload_n 0, 1) := dk_42 (dk_at dksX2_account_2 0 rfl rfl)
theorem dX2_account_65 : decode cX2_account 65 = .ok (.invokevirtual 64, 3) := dk_182 0 64 (dk_at dksX2_account_2 1 rfl rfl)
theorem dX2_account_68 : decode cX2_account 68 = .ok (.ireturn, 1) := dk_172 (dk_at dksX2_account_2 4 rfl rfl)
theorem dX2_account_69 : decode cX2_account 69 = .ok (.aload_n 0, 1) := dk_42 (dk_at dksX2_account_2 5 rfl rfl)
theorem dX2_account_70 : decode cX2_account 70 = .ok (.getfield 7, 3) := dk_180 0 7 (dk_at dksX2_account_2 6 rfl rfl)
theorem dX2_account_73 : decode cX2_account 73 = .ok (.iconst 0, 1) := dk_3 (dk_at dksX2_account_2 9 rfl rfl)
theorem dX2_account_74 : decode cX2_account 74 = .ok (.iaload, 1) := dk_46 (dk_at dksX2_account_2 10 rfl rfl)
theorem dX2_account_75 : decode cX2_account 75 = .ok (.ireturn, 1) := dk_172 (dk_at dksX2_account_2 11 rfl rfl)
theorem dX2_account_76 : decode cX2_account 76 = .ok (.aload_n 0, 1) := dk_42 (dk_at dksX2_account_2 12 rfl rfl)
theorem dX2_account_77 : decode cX2_account 77 = .ok (.invokevirtual 237, 3) := dk_182 0 237 (dk_at dksX2_account_2 13 rfl rfl)
theorem dX2_account_80 : decode cX2_account 80 = .ok (.ireturn, 1) := dk_172 (dk_at dksX2_account_2 16 rfl rfl)
theorem dX2_account_81 : decode cX2_account 81 = .ok (.aload_n 0, 1) := dk_42 (dk_at dksX2_account_2 17 rfl rfl)
theorem dX2_account_82 : decode cX2_account 82 = .ok (.iconst 1, 1) := dk_4 (dk_at dksX2_account_2 18 rfl rfl)
theorem dX2_account_83 : decode cX2_account 83 = .ok (.invokevirtual 240, 3) := dk_182 0 240 (dk_at dksX2_account_2 19 rfl rfl)
theorem dX2_account_86 : decode cX2_account 86 = .ok (.ireturn, 1) := dk_172 (dk_at dksX2_account_2 22 rfl rfl)
theorem dX2_account_87 : decode cX2_account 87 = .ok (.aload_n 0, 1) := dk_42 (dk_at dksX2_account_2 23 rfl rfl)
theorem dX2_account_88 : decode cX2_account 88 = .ok (.iconst 2, 1) := dk_5 (dk_at dksX2_account_3 0 rfl rfl)
theorem dX2_account_89 : decode cX2_account 89 = .ok (.invokevirtual 240, 3) := dk_182 0 240 (dk_at dksX2_account_3 1 rfl rfl)
theorem dX2_account_92 : decode cX2_account 92 = .ok (.ireturn, 1) := dk_172 (dk_at dksX2_account_3 4 rfl rfl)
theorem dX2_account_93 : decode cX2_account 93 = .ok (.aload_n 0, 1) := dk_42 (dk_at dksX2_account_3 5 rfl rfl)
theorem dX2_account_94 : decode cX2_account 94 = .ok (.getfield 7, 3) := dk_180 0 7 (dk_at dksX2_account_3 6 rfl rfl)
theorem dX2_account_97 : decode cX2_account 97 = .ok (.iconst 2, 1) := dk_5 (dk_at dksX2_account_3 9 rfl rfl)
theorem dX2_account_98 : decode cX2_account 98 = .ok (.iaload, 1) := dk_46 (dk_at dksX2_account_3 10 rfl rfl)
theorem dX2_account_99 : decode cX2_account 99 = .ok (.ireturn, 1) := dk_172 (dk_at dksX2_account_3 11 rfl rfl)
theorem dX2_account_100 : decode cX2_account 100 = .ok (.aload_n 0, 1) := dk_42 (dk_at dksX2_account_3 12 rfl rfl)
theorem dX2_account_101 : decode cX2_account 101 = .ok (.getfield 7, 3) := dk_180 0 7 (dk_at dksX2_account_3 13 rfl rfl)
theorem dX2_account_104 : decode cX2_account 104 = .ok (.iconst 3, 1) := dk_6 (dk_at dksX2_account_3 16 rfl rfl)
theorem dX2_account_105 : decode cX2_account 105 = .ok (.iaload, 1) := dk_46 (dk_at dksX2_account_3 17 rfl rfl)
theorem dX2_account_106 : decode cX2_account 106 = .ok (.ireturn, 1) := dk_172 (dk_at dksX2_account_3 18 rfl rfl)
theorem dX2_account_107 : decode cX2_account 107 = .ok (.aload_n 0, 1) := dk_42 (dk_at dksX2_account_3 19 rfl rfl)
theorem dX2_account_108 : decode cX2_account 108 = .ok (.getfield 7, 3) := dk_180 0 7 (dk_at dksX2_account_3 20 rfl rfl)
theorem dX2_account_111 : decode cX2_account 111 = .ok (.iconst 4, 1) := dk_7 (dk_at dksX2_account_3 23 rfl rfl)
theorem dX2_account_112 : decode cX2_account 112 = .ok (.iaload, 1) := dk_46 (dk_at dksX2_account_4 0 rfl rfl)
theorem dX2_account_113 : decode cX2_account 113 = .ok (.ireturn, 1) := dk_172 (dk_at dksX2_account_4 1 rfl rfl)
theorem dX2_account_114 : decode cX2_account 114 = .ok (.aload_n 0, 1) := dk_42 (dk_at dksX2_account_4 2 rfl rfl)
theorem dX2_account_115 : decode cX2_account 115 = .ok (.getfield 7, 3) := dk_180 0 7 (dk_at dksX2_account_4 3 rfl rfl)
theorem dX2_account_118 : decode cX2_account 118 = .ok (.iconst 1, 1) := dk_4 (dk_at dksX2_account_4 6 rfl rfl)
theorem dX2_account_119 : decode cX2_account 119 = .ok (.iaload, 1) := dk_46 (dk_at dksX2_account_4 7 rfl rfl)
theorem dX2_account_120 : decode cX2_account 120 = .ok (.ireturn, 1) := dk_172 (dk_at dksX2_account_4 8 rfl rfl)
theorem dX2_account_121 : decode cX2_account 121 = .ok (.aload_n 0, 1) := dk_42 (dk_at dksX2_account_4 9 rfl rfl)
theorem dX2_account_122 : decode cX2_account 122 = .ok (.invokevirtual 243, 3) := dk_182 0 243 (dk_at dksX2_account_4 10 rfl rfl)
theorem dX2_account_125 : decode cX2_account 125 = .ok (.ireturn, 1) := dk_172 (dk_at dksX2_account_4 13 rfl rfl)
theorem dX2_account_126 : decode cX2_account 126 = .ok (.aload_n 0, 1) := dk_42 (dk_at dksX2_account_4 14 rfl rfl)
theorem dX2_account_127 : decode cX2_account 127 = .ok (.getfield 175, 3) := dk_180 0 175 (dk_at dksX2_account_4 15 rfl rfl)
theorem dX2_account_130 : decode cX2_account 130 = .ok (.ireturn, 1) := dk_172 (dk_at dksX2_account_4 18 rfl rfl)
theorem dX2_account_131 : decode cX2_account 131 = .ok (.aload_n 0, 1) := dk_42 (dk_at dksX2_account_4 19 rfl rfl)
theorem dX2_account_132 : decode cX2_account 132 = .ok (.getfield 46, 3) := dk_180 0 46 (dk_at dksX2_account_4 20 rfl rfl)
theorem dX2_account_135 : decode cX2_account 135 = .ok (.ireturn, 1) := dk_172 (dk_at dksX2_account_4 23 rfl rfl)
theorem dX2_account_136 : decode cX2_account 136 = .ok (.bipush (-12), 2) := dk_16 244 (dk_at dksX2_account_5 0 rfl rfl)
theorem dX2_account_138 : decode cX2_account 138 = .ok (.ireturn, 1) := dk_172 (dk_at dksX2_account_5 2 rfl rfl)
abbrev cX2_waiting : ByteArray := prog_12_method_70_code
def yX2_waiting : MethodName := ⟨RX2, "waiting", "()I"⟩
def dkwX2_waiting_1 : List UInt8 := [167, 255, 238, 27, 172]
abbrev dktX2_waiting_1 : List UInt8 := dkwX2_waiting_1 ++ []
def dkwX2_waiting_0 : List UInt8 := [3, 60, 3, 61, 28, 16, 8, 162, 0, 18, 27, 42, 28, 5, 182, 0, 82, 96, 60, 132, 2, 1]
abbrev dktX2_waiting_0 : List UInt8 := dkwX2_waiting_0 ++ dktX2_waiting_1
theorem dksX2_waiting_0 : cX2_waiting.data.toList.drop 0 = dktX2_waiting_0 := by decide +kernel
theorem dksX2_waiting_1 : cX2_waiting.data.toList.drop 22 = dktX2_waiting_1 := dk_seg dksX2_waiting_0 22 rfl rfl
theorem dX2_waiting_0 : decode cX2_waiting 0 = .ok (.iconst 0, 1) := dk_3 (dk_at dksX2_waiting_0 0 rfl rfl)
theorem dX2_waiting_1 : decode cX2_waiting 1 = .ok (.istore_n 1, 1) := dk_60 (dk_at dksX2_waiting_0 1 rfl rfl)
theorem dX2_waiting_2 : decode cX2_waiting 2 = .ok (.iconst 0, 1) := dk_3 (dk_at dksX2_waiting_0 2 rfl rfl)
theorem dX2_waiting_3 : decode cX2_waiting 3 = .ok (.istore_n 2, 1) := dk_61 (dk_at dksX2_waiting_0 3 rfl rfl)
theorem dX2_waiting_4 : decode cX2_waiting 4 = .ok (.iload_n 2, 1) := dk_28 (dk_at dksX2_waiting_0 4 rfl rfl)
theorem dX2_waiting_5 : decode cX2_waiting 5 = .ok (.bipush 8, 2) := dk_16 8 (dk_at dksX2_waiting_0 5 rfl rfl)
theorem dX2_waiting_7 : decode cX2_waiting 7 = .ok (.if_icmp .ge 18, 3) := dk_162 0 18 (dk_at dksX2_waiting_0 7 rfl rfl)
theorem dX2_waiting_10 : decode cX2_waiting 10 = .ok (.iload_n 1, 1) := dk_27 (dk_at dksX2_waiting_0 10 rfl rfl)
theorem dX2_waiting_11 : decode cX2_waiting 11 = .ok (.aload_n 0, 1) := dk_42 (dk_at dksX2_waiting_0 11 rfl rfl)
theorem dX2_waiting_12 : decode cX2_waiting 12 = .ok (.iload_n 2, 1) := dk_28 (dk_at dksX2_waiting_0 12 rfl rfl)
theorem dX2_waiting_13 : decode cX2_waiting 13 = .ok (.iconst 2, 1) := dk_5 (dk_at dksX2_waiting_0 13 rfl rfl)
theorem dX2_waiting_14 : decode cX2_waiting 14 = .ok (.invokevirtual 82, 3) := dk_182 0 82 (dk_at dksX2_waiting_0 14 rfl rfl)
theorem dX2_waiting_17 : decode cX2_waiting 17 = .ok (.iadd, 1) := dk_96 (dk_at dksX2_waiting_0 17 rfl rfl)
theorem dX2_waiting_18 : decode cX2_waiting 18 = .ok (.istore_n 1, 1) := dk_60 (dk_at dksX2_waiting_0 18 rfl rfl)
theorem dX2_waiting_19 : decode cX2_waiting 19 = .ok (.iinc 2 1, 3) := dk_132 2 1 (dk_at dksX2_waiting_0 19 rfl rfl)
theorem dX2_waiting_22 : decode cX2_waiting 22 = .ok (.goto (-18), 3) := dk_167 255 238 (dk_at dksX2_waiting_1 0 rfl rfl)
theorem dX2_waiting_25 : decode cX2_waiting 25 = .ok (.iload_n 1, 1) := dk_27 (dk_at dksX2_waiting_1 3 rfl rfl)
theorem dX2_waiting_26 : decode cX2_waiting 26 = .ok (.ireturn, 1) := dk_172 (dk_at dksX2_waiting_1 4 rfl rfl)
abbrev cX2_locksThat : ByteArray := prog_12_method_71_code
def yX2_locksThat : MethodName := ⟨RX2, "locksThat", "(I)I"⟩
def dkwX2_locksThat_1 : List UInt8 := [161, 0, 7, 4, 167, 0, 4, 3, 96, 61, 132, 3, 1, 167, 255, 224, 28, 172]
abbrev dktX2_locksThat_1 : List UInt8 := dkwX2_locksThat_1 ++ []
def dkwX2_locksThat_0 : List UInt8 := [3, 61, 3, 62, 29, 17, 0, 192, 162, 0, 31, 28, 42, 180, 0, 7, 17, 0, 149, 29, 96, 46, 27]
abbrev dktX2_locksThat_0 : List UInt8 := dkwX2_locksThat_0 ++ dktX2_locksThat_1
theorem dksX2_locksThat_0 : cX2_locksThat.data.toList.drop 0 = dktX2_locksThat_0 := by decide +kernel
theorem dksX2_locksThat_1 : cX2_locksThat.data.toList.drop 23 = dktX2_locksThat_1 := dk_seg dksX2_locksThat_0 23 rfl rfl
theorem dX2_locksThat_0 : decode cX2_locksThat 0 = .ok (.iconst 0, 1) := dk_3 (dk_at dksX2_locksThat_0 0 rfl rfl)
theorem dX2_locksThat_1 : decode cX2_locksThat 1 = .ok (.istore_n 2, 1) := dk_61 (dk_at dksX2_locksThat_0 1 rfl rfl)
theorem dX2_locksThat_2 : decode cX2_locksThat 2 = .ok (.iconst 0, 1) := dk_3 (dk_at dksX2_locksThat_0 2 rfl rfl)
theorem dX2_locksThat_3 : decode cX2_locksThat 3 = .ok (.istore_n 3, 1) := dk_62 (dk_at dksX2_locksThat_0 3 rfl rfl)
theorem dX2_locksThat_4 : decode cX2_locksThat 4 = .ok (.iload_n 3, 1) := dk_29 (dk_at dksX2_locksThat_0 4 rfl rfl)
theorem dX2_locksThat_5 : decode cX2_locksThat 5 = .ok (.sipush 192, 3) := dk_17 0 192 (dk_at dksX2_locksThat_0 5 rfl rfl)
theorem dX2_locksThat_8 : decode cX2_locksThat 8 = .ok (.if_icmp .ge 31, 3) := dk_162 0 31 (dk_at dksX2_locksThat_0 8 rfl rfl)
theorem dX2_locksThat_11 : decode cX2_locksThat 11 = .ok (.iload_n 2, 1) := dk_28 (dk_at dksX2_locksThat_0 11 rfl rfl)
theorem dX2_locksThat_12 : decode cX2_locksThat 12 = .ok (.aload_n 0, 1) := dk_42 (dk_at dksX2_locksThat_0 12 rfl rfl)
theorem dX2_locksThat_13 : decode cX2_locksThat 13 = .ok (.getfield 7, 3) := dk_180 0 7 (dk_at dksX2_locksThat_0 13 rfl rfl)
theorem dX2_locksThat_16 : decode cX2_locksThat 16 = .ok (.sipush 149, 3) := dk_17 0 149 (dk_at dksX2_locksThat_0 16 rfl rfl)
theorem dX2_locksThat_19 : decode cX2_locksThat 19 = .ok (.iload_n 3, 1) := dk_29 (dk_at dksX2_locksThat_0 19 rfl rfl)
theorem dX2_locksThat_20 : decode cX2_locksThat 20 = .ok (.iadd, 1) := dk_96 (dk_at dksX2_locksThat_0 20 rfl rfl)
theorem dX2_locksThat_21 : decode cX2_locksThat 21 = .ok (.iaload, 1) := dk_46 (dk_at dksX2_locksThat_0 21 rfl rfl)
theorem dX2_locksThat_22 : decode cX2_locksThat 22 = .ok (.iload_n 1, 1) := dk_27 (dk_at dksX2_locksThat_0 22 rfl rfl)
theorem dX2_locksThat_23 : decode cX2_locksThat 23 = .ok (.if_icmp .lt 7, 3) := dk_161 0 7 (dk_at dksX2_locksThat_1 0 rfl rfl)
theorem dX2_locksThat_26 : decode cX2_locksThat 26 = .ok (.iconst 1, 1) := dk_4 (dk_at dksX2_locksThat_1 3 rfl rfl)
theorem dX2_locksThat_27 : decode cX2_locksThat 27 = .ok (.goto 4, 3) := dk_167 0 4 (dk_at dksX2_locksThat_1 4 rfl rfl)
theorem dX2_locksThat_30 : decode cX2_locksThat 30 = .ok (.iconst 0, 1) := dk_3 (dk_at dksX2_locksThat_1 7 rfl rfl)
theorem dX2_locksThat_31 : decode cX2_locksThat 31 = .ok (.iadd, 1) := dk_96 (dk_at dksX2_locksThat_1 8 rfl rfl)
theorem dX2_locksThat_32 : decode cX2_locksThat 32 = .ok (.istore_n 2, 1) := dk_61 (dk_at dksX2_locksThat_1 9 rfl rfl)
theorem dX2_locksThat_33 : decode cX2_locksThat 33 = .ok (.iinc 3 1, 3) := dk_132 3 1 (dk_at dksX2_locksThat_1 10 rfl rfl)
theorem dX2_locksThat_36 : decode cX2_locksThat 36 = .ok (.goto (-32), 3) := dk_167 255 224 (dk_at dksX2_locksThat_1 13 rfl rfl)
theorem dX2_locksThat_39 : decode cX2_locksThat 39 = .ok (.iload_n 2, 1) := dk_28 (dk_at dksX2_locksThat_1 16 rfl rfl)
theorem dX2_locksThat_40 : decode cX2_locksThat 40 = .ok (.ireturn, 1) := dk_172 (dk_at dksX2_locksThat_1 17 rfl rfl)
abbrev cX2_bare : ByteArray := prog_12_method_72_code
def yX2_bare : MethodName := ⟨RX2, "bare", "()I"⟩
def dkwX2_bare_1 : List UInt8 := [96, 60, 132, 2, 1, 167, 255, 231, 27, 172]
abbrev dktX2_bare_1 : List UInt8 := dkwX2_bare_1 ++ []
def dkwX2_bare_0 : List UInt8 := [3, 60, 3, 61, 28, 16, 8, 162, 0, 25, 27, 42, 28, 182, 0, 152, 154, 0, 7, 4, 167, 0, 4, 3]
abbrev dktX2_bare_0 : List UInt8 := dkwX2_bare_0 ++ dktX2_bare_1
theorem dksX2_bare_0 : cX2_bare.data.toList.drop 0 = dktX2_bare_0 := by decide +kernel
theorem dksX2_bare_1 : cX2_bare.data.toList.drop 24 = dktX2_bare_1 := dk_seg dksX2_bare_0 24 rfl rfl
theorem dX2_bare_0 : decode cX2_bare 0 = .ok (.iconst 0, 1) := dk_3 (dk_at dksX2_bare_0 0 rfl rfl)
theorem dX2_bare_1 : decode cX2_bare 1 = .ok (.istore_n 1, 1) := dk_60 (dk_at dksX2_bare_0 1 rfl rfl)
theorem dX2_bare_2 : decode cX2_bare 2 = .ok (.iconst 0, 1) := dk_3 (dk_at dksX2_bare_0 2 rfl rfl)
theorem dX2_bare_3 : decode cX2_bare 3 = .ok (.istore_n 2, 1) := dk_61 (dk_at dksX2_bare_0 3 rfl rfl)
theorem dX2_bare_4 : decode cX2_bare 4 = .ok (.iload_n 2, 1) := dk_28 (dk_at dksX2_bare_0 4 rfl rfl)
theorem dX2_bare_5 : decode cX2_bare 5 = .ok (.bipush 8, 2) := dk_16 8 (dk_at dksX2_bare_0 5 rfl rfl)
theorem dX2_bare_7 : decode cX2_bare 7 = .ok (.if_icmp .ge 25, 3) := dk_162 0 25 (dk_at dksX2_bare_0 7 rfl rfl)
theorem dX2_bare_10 : decode cX2_bare 10 = .ok (.iload_n 1, 1) := dk_27 (dk_at dksX2_bare_0 10 rfl rfl)
theorem dX2_bare_11 : decode cX2_bare 11 = .ok (.aload_n 0, 1) := dk_42 (dk_at dksX2_bare_0 11 rfl rfl)
theorem dX2_bare_12 : decode cX2_bare 12 = .ok (.iload_n 2, 1) := dk_28 (dk_at dksX2_bare_0 12 rfl rfl)
theorem dX2_bare_13 : decode cX2_bare 13 = .ok (.invokevirtual 152, 3) := dk_182 0 152 (dk_at dksX2_bare_0 13 rfl rfl)
theorem dX2_bare_16 : decode cX2_bare 16 = .ok (.ifCond .ne 7, 3) := dk_154 0 7 (dk_at dksX2_bare_0 16 rfl rfl)
theorem dX2_bare_19 : decode cX2_bare 19 = .ok (.iconst 1, 1) := dk_4 (dk_at dksX2_bare_0 19 rfl rfl)
theorem dX2_bare_20 : decode cX2_bare 20 = .ok (.goto 4, 3) := dk_167 0 4 (dk_at dksX2_bare_0 20 rfl rfl)
theorem dX2_bare_23 : decode cX2_bare 23 = .ok (.iconst 0, 1) := dk_3 (dk_at dksX2_bare_0 23 rfl rfl)
theorem dX2_bare_24 : decode cX2_bare 24 = .ok (.iadd, 1) := dk_96 (dk_at dksX2_bare_1 0 rfl rfl)
theorem dX2_bare_25 : decode cX2_bare 25 = .ok (.istore_n 1, 1) := dk_60 (dk_at dksX2_bare_1 1 rfl rfl)
theorem dX2_bare_26 : decode cX2_bare 26 = .ok (.iinc 2 1, 3) := dk_132 2 1 (dk_at dksX2_bare_1 2 rfl rfl)
theorem dX2_bare_29 : decode cX2_bare 29 = .ok (.goto (-25), 3) := dk_167 255 231 (dk_at dksX2_bare_1 5 rfl rfl)
theorem dX2_bare_32 : decode cX2_bare 32 = .ok (.iload_n 1, 1) := dk_27 (dk_at dksX2_bare_1 8 rfl rfl)
theorem dX2_bare_33 : decode cX2_bare 33 = .ok (.ireturn, 1) := dk_172 (dk_at dksX2_bare_1 9 rfl rfl)
abbrev cX2_isBalanced : ByteArray := prog_12_method_74_code
def yX2_isBalanced : MethodName := ⟨RX2, "isBalanced", "()I"⟩
def dkwX2_isBalanced_3 : List UInt8 := [182, 0, 112, 156, 0, 7, 4, 167, 0, 4, 3, 172]
abbrev dktX2_isBalanced_3 : List UInt8 := dkwX2_isBalanced_3 ++ []
def dkwX2_isBalanced_2 : List UInt8 := [182, 0, 82, 5, 182, 0, 57, 182, 0, 88, 153, 0, 5, 3, 172, 132, 1, 1, 167, 255, 193, 42]
abbrev dktX2_isBalanced_2 : List UInt8 := dkwX2_isBalanced_2 ++ dktX2_isBalanced_3
def dkwX2_isBalanced_1 : List UInt8 := [163, 0, 37, 42, 27, 5, 182, 0, 82, 158, 0, 30, 42, 42, 27, 6, 182, 0, 82, 27, 42, 42, 27, 6]
abbrev dktX2_isBalanced_1 : List UInt8 := dkwX2_isBalanced_1 ++ dktX2_isBalanced_2
def dkwX2_isBalanced_0 : List UInt8 := [3, 60, 27, 16, 8, 162, 0, 63, 42, 27, 182, 0, 155, 5, 160, 0, 12, 42, 27, 182, 0, 152, 4]
abbrev dktX2_isBalanced_0 : List UInt8 := dkwX2_isBalanced_0 ++ dktX2_isBalanced_1
theorem dksX2_isBalanced_0 : cX2_isBalanced.data.toList.drop 0 = dktX2_isBalanced_0 := by decide +kernel
theorem dksX2_isBalanced_1 : cX2_isBalanced.data.toList.drop 23 = dktX2_isBalanced_1 := dk_seg dksX2_isBalanced_0 23 rfl rfl
theorem dksX2_isBalanced_2 : cX2_isBalanced.data.toList.drop 47 = dktX2_isBalanced_2 := dk_seg dksX2_isBalanced_1 24 rfl rfl
theorem dksX2_isBalanced_3 : cX2_isBalanced.data.toList.drop 69 = dktX2_isBalanced_3 := dk_seg dksX2_isBalanced_2 22 rfl rfl
theorem dX2_isBalanced_0 : decode cX2_isBalanced 0 = .ok (.iconst 0, 1) := dk_3 (dk_at dksX2_isBalanced_0 0 rfl rfl)
theorem dX2_isBalanced_1 : decode cX2_isBalanced 1 = .ok (.istore_n 1, 1) := dk_60 (dk_at dksX2_isBalanced_0 1 rfl rfl)
theorem dX2_isBalanced_2 : decode cX2_isBalanced 2 = .ok (.iload_n 1, 1) := dk_27 (dk_at dksX2_isBalanced_0 2 rfl rfl)
theorem dX2_isBalanced_3 : decode cX2_isBalanced 3 = .ok (.bipush 8, 2) := dk_16 8 (dk_at dksX2_isBalanced_0 3 rfl rfl)
theorem dX2_isBalanced_5 : decode cX2_isBalanced 5 = .ok (.if_icmp .ge 63, 3) := dk_162 0 63 (dk_at dksX2_isBalanced_0 5 rfl rfl)
theorem dX2_isBalanced_8 : decode cX2_isBalanced 8 = .ok (.aload_n 0, 1) := dk_42 (dk_at dksX2_isBalanced_0 8 rfl rfl)
theorem dX2_isBalanced_9 : decode cX2_isBalanced 9 = .ok (.iload_n 1, 1) := dk_27 (dk_at dksX2_isBalanced_0 9 rfl rfl)
theorem dX2_isBalanced_10 : decode cX2_isBalanced 10 = .ok (.invokevirtual 155, 3) := dk_182 0 155 (dk_at dksX2_isBalanced_0 10 rfl rfl)
theorem dX2_isBalanced_13 : decode cX2_isBalanced 13 = .ok (.iconst 2, 1) := dk_5 (dk_at dksX2_isBalanced_0 13 rfl rfl)
theorem dX2_isBalanced_14 : decode cX2_isBalanced 14 = .ok (.if_icmp .ne 12, 3) := dk_160 0 12 (dk_at dksX2_isBalanced_0 14 rfl rfl)
theorem dX2_isBalanced_17 : decode cX2_isBalanced 17 = .ok (.aload_n 0, 1) := dk_42 (dk_at dksX2_isBalanced_0 17 rfl rfl)
theorem dX2_isBalanced_18 : decode cX2_isBalanced 18 = .ok (.iload_n 1, 1) := dk_27 (dk_at dksX2_isBalanced_0 18 rfl rfl)
theorem dX2_isBalanced_19 : decode cX2_isBalanced 19 = .ok (.invokevirtual 152, 3) := dk_182 0 152 (dk_at dksX2_isBalanced_0 19 rfl rfl)
theorem dX2_isBalanced_22 : decode cX2_isBalanced 22 = .ok (.iconst 1, 1) := dk_4 (dk_at dksX2_isBalanced_0 22 rfl rfl)
theorem dX2_isBalanced_23 : decode cX2_isBalanced 23 = .ok (.if_icmp .gt 37, 3) := dk_163 0 37 (dk_at dksX2_isBalanced_1 0 rfl rfl)
theorem dX2_isBalanced_26 : decode cX2_isBalanced 26 = .ok (.aload_n 0, 1) := dk_42 (dk_at dksX2_isBalanced_1 3 rfl rfl)
theorem dX2_isBalanced_27 : decode cX2_isBalanced 27 = .ok (.iload_n 1, 1) := dk_27 (dk_at dksX2_isBalanced_1 4 rfl rfl)
theorem dX2_isBalanced_28 : decode cX2_isBalanced 28 = .ok (.iconst 2, 1) := dk_5 (dk_at dksX2_isBalanced_1 5 rfl rfl)
theorem dX2_isBalanced_29 : decode cX2_isBalanced 29 = .ok (.invokevirtual 82, 3) := dk_182 0 82 (dk_at dksX2_isBalanced_1 6 rfl rfl)
theorem dX2_isBalanced_32 : decode cX2_isBalanced 32 = .ok (.ifCond .le 30, 3) := dk_158 0 30 (dk_at dksX2_isBalanced_1 9 rfl rfl)
theorem dX2_isBalanced_35 : decode cX2_isBalanced 35 = .ok (.aload_n 0, 1) := dk_42 (dk_at dksX2_isBalanced_1 12 rfl rfl)
theorem dX2_isBalanced_36 : decode cX2_isBalanced 36 = .ok (.aload_n 0, 1) := dk_42 (dk_at dksX2_isBalanced_1 13 rfl rfl)
theorem dX2_isBalanced_37 : decode cX2_isBalanced 37 = .ok (.iload_n 1, 1) := dk_27 (dk_at dksX2_isBalanced_1 14 rfl rfl)
theorem dX2_isBalanced_38 : decode cX2_isBalanced 38 = .ok (.iconst 3, 1) := dk_6 (dk_at dksX2_isBalanced_1 15 rfl rfl)
theorem dX2_isBalanced_39 : decode cX2_isBalanced 39 = .ok (.invokevirtual 82, 3) := dk_182 0 82 (dk_at dksX2_isBalanced_1 16 rfl rfl)
theorem dX2_isBalanced_42 : decode cX2_isBalanced 42 = .ok (.iload_n 1, 1) := dk_27 (dk_at dksX2_isBalanced_1 19 rfl rfl)
theorem dX2_isBalanced_43 : decode cX2_isBalanced 43 = .ok (.aload_n 0, 1) := dk_42 (dk_at dksX2_isBalanced_1 20 rfl rfl)
theorem dX2_isBalanced_44 : decode cX2_isBalanced 44 = .ok (.aload_n 0, 1) := dk_42 (dk_at dksX2_isBalanced_1 21 rfl rfl)
theorem dX2_isBalanced_45 : decode cX2_isBalanced 45 = .ok (.iload_n 1, 1) := dk_27 (dk_at dksX2_isBalanced_1 22 rfl rfl)
theorem dX2_isBalanced_46 : decode cX2_isBalanced 46 = .ok (.iconst 3, 1) := dk_6 (dk_at dksX2_isBalanced_1 23 rfl rfl)
theorem dX2_isBalanced_47 : decode cX2_isBalanced 47 = .ok (.invokevirtual 82, 3) := dk_182 0 82 (dk_at dksX2_isBalanced_2 0 rfl rfl)
theorem dX2_isBalanced_50 : decode cX2_isBalanced 50 = .ok (.iconst 2, 1) := dk_5 (dk_at dksX2_isBalanced_2 3 rfl rfl)
theorem dX2_isBalanced_51 : decode cX2_isBalanced 51 = .ok (.invokevirtual 57, 3) := dk_182 0 57 (dk_at dksX2_isBalanced_2 4 rfl rfl)
theorem dX2_isBalanced_54 : decode cX2_isBalanced 54 = .ok (.invokevirtual 88, 3) := dk_182 0 88 (dk_at dksX2_isBalanced_2 7 rfl rfl)
theorem dX2_isBalanced_57 : decode cX2_isBalanced 57 = .ok (.ifCond .eq 5, 3) := dk_153 0 5 (dk_at dksX2_isBalanced_2 10 rfl rfl)
theorem dX2_isBalanced_60 : decode cX2_isBalanced 60 = .ok (.iconst 0, 1) := dk_3 (dk_at dksX2_isBalanced_2 13 rfl rfl)
theorem dX2_isBalanced_61 : decode cX2_isBalanced 61 = .ok (.ireturn, 1) := dk_172 (dk_at dksX2_isBalanced_2 14 rfl rfl)
theorem dX2_isBalanced_62 : decode cX2_isBalanced 62 = .ok (.iinc 1 1, 3) := dk_132 1 1 (dk_at dksX2_isBalanced_2 15 rfl rfl)
theorem dX2_isBalanced_65 : decode cX2_isBalanced 65 = .ok (.goto (-63), 3) := dk_167 255 193 (dk_at dksX2_isBalanced_2 18 rfl rfl)
theorem dX2_isBalanced_68 : decode cX2_isBalanced 68 = .ok (.aload_n 0, 1) := dk_42 (dk_at dksX2_isBalanced_2 21 rfl rfl)
theorem dX2_isBalanced_69 : decode cX2_isBalanced 69 = .ok (.invokevirtual 112, 3) := dk_182 0 112 (dk_at dksX2_isBalanced_3 0 rfl rfl)
theorem dX2_isBalanced_72 : decode cX2_isBalanced 72 = .ok (.ifCond .ge 7, 3) := dk_156 0 7 (dk_at dksX2_isBalanced_3 3 rfl rfl)
theorem dX2_isBalanced_75 : decode cX2_isBalanced 75 = .ok (.iconst 1, 1) := dk_4 (dk_at dksX2_isBalanced_3 6 rfl rfl)
theorem dX2_isBalanced_76 : decode cX2_isBalanced 76 = .ok (.goto 4, 3) := dk_167 0 4 (dk_at dksX2_isBalanced_3 7 rfl rfl)
theorem dX2_isBalanced_79 : decode cX2_isBalanced 79 = .ok (.iconst 0, 1) := dk_3 (dk_at dksX2_isBalanced_3 10 rfl rfl)
theorem dX2_isBalanced_80 : decode cX2_isBalanced 80 = .ok (.ireturn, 1) := dk_172 (dk_at dksX2_isBalanced_3 11 rfl rfl)
abbrev cX2_meanHeld : ByteArray := prog_12_method_75_code
def yX2_meanHeld : MethodName := ⟨RX2, "meanHeld", "()D"⟩
def dkwX2_meanHeld_0 : List UInt8 := [42, 182, 0, 64, 154, 0, 7, 14, 167, 0, 15, 42, 4, 182, 0, 240, 135, 42, 182, 0, 64, 135, 111, 175]
abbrev dktX2_meanHeld_0 : List UInt8 := dkwX2_meanHeld_0 ++ []
theorem dksX2_meanHeld_0 : cX2_meanHeld.data.toList.drop 0 = dktX2_meanHeld_0 := by decide +kernel
theorem dX2_meanHeld_0 : decode cX2_meanHeld 0 = .ok (.aload_n 0, 1) := dk_42 (dk_at dksX2_meanHeld_0 0 rfl rfl)
theorem dX2_meanHeld_1 : decode cX2_meanHeld 1 = .ok (.invokevirtual 64, 3) := dk_182 0 64 (dk_at dksX2_meanHeld_0 1 rfl rfl)
theorem dX2_meanHeld_4 : decode cX2_meanHeld 4 = .ok (.ifCond .ne 7, 3) := dk_154 0 7 (dk_at dksX2_meanHeld_0 4 rfl rfl)
theorem dX2_meanHeld_7 : decode cX2_meanHeld 7 = .ok (.dconst 0, 1) := dk_14 (dk_at dksX2_meanHeld_0 7 rfl rfl)
theorem dX2_meanHeld_8 : decode cX2_meanHeld 8 = .ok (.goto 15, 3) := dk_167 0 15 (dk_at dksX2_meanHeld_0 8 rfl rfl)
theorem dX2_meanHeld_11 : decode cX2_meanHeld 11 = .ok (.aload_n 0, 1) := dk_42 (dk_at dksX2_meanHeld_0 11 rfl rfl)
theorem dX2_meanHeld_12 : decode cX2_meanHeld 12 = .ok (.iconst 1, 1) := dk_4 (dk_at dksX2_meanHeld_0 12 rfl rfl)
theorem dX2_meanHeld_13 : decode cX2_meanHeld 13 = .ok (.invokevirtual 240, 3) := dk_182 0 240 (dk_at dksX2_meanHeld_0 13 rfl rfl)
theorem dX2_meanHeld_16 : decode cX2_meanHeld 16 = .ok (.i2d, 1) := dk_135 (dk_at dksX2_meanHeld_0 16 rfl rfl)
theorem dX2_meanHeld_17 : decode cX2_meanHeld 17 = .ok (.aload_n 0, 1) := dk_42 (dk_at dksX2_meanHeld_0 17 rfl rfl)
theorem dX2_meanHeld_18 : decode cX2_meanHeld 18 = .ok (.invokevirtual 64, 3) := dk_182 0 64 (dk_at dksX2_meanHeld_0 18 rfl rfl)
theorem dX2_meanHeld_21 : decode cX2_meanHeld 21 = .ok (.i2d, 1) := dk_135 (dk_at dksX2_meanHeld_0 21 rfl rfl)
theorem dX2_meanHeld_22 : decode cX2_meanHeld 22 = .ok (.ddiv, 1) := dk_111 (dk_at dksX2_meanHeld_0 22 rfl rfl)
theorem dX2_meanHeld_23 : decode cX2_meanHeld 23 = .ok (.dreturn, 1) := dk_175 (dk_at dksX2_meanHeld_0 23 rfl rfl)
abbrev cX2_waitingShare : ByteArray := prog_12_method_76_code
def yX2_waitingShare : MethodName := ⟨RX2, "waitingShare", "()F"⟩
def dkwX2_waitingShare_0 : List UInt8 := [42, 182, 0, 64, 154, 0, 7, 11, 167, 0, 14, 42, 182, 0, 237, 134, 42, 182, 0, 64, 134, 110, 174]
abbrev dktX2_waitingShare_0 : List UInt8 := dkwX2_waitingShare_0 ++ []
theorem dksX2_waitingShare_0 : cX2_waitingShare.data.toList.drop 0 = dktX2_waitingShare_0 := by decide +kernel
theorem dX2_waitingShare_0 : decode cX2_waitingShare 0 = .ok (.aload_n 0, 1) := dk_42 (dk_at dksX2_waitingShare_0 0 rfl rfl)
theorem dX2_waitingShare_1 : decode cX2_waitingShare 1 = .ok (.invokevirtual 64, 3) := dk_182 0 64 (dk_at dksX2_waitingShare_0 1 rfl rfl)
theorem dX2_waitingShare_4 : decode cX2_waitingShare 4 = .ok (.ifCond .ne 7, 3) := dk_154 0 7 (dk_at dksX2_waitingShare_0 4 rfl rfl)
theorem dX2_waitingShare_7 : decode cX2_waitingShare 7 = .ok (.fconst 0, 1) := dk_11 (dk_at dksX2_waitingShare_0 7 rfl rfl)
theorem dX2_waitingShare_8 : decode cX2_waitingShare 8 = .ok (.goto 14, 3) := dk_167 0 14 (dk_at dksX2_waitingShare_0 8 rfl rfl)
theorem dX2_waitingShare_11 : decode cX2_waitingShare 11 = .ok (.aload_n 0, 1) := dk_42 (dk_at dksX2_waitingShare_0 11 rfl rfl)
theorem dX2_waitingShare_12 : decode cX2_waitingShare 12 = .ok (.invokevirtual 237, 3) := dk_182 0 237 (dk_at dksX2_waitingShare_0 12 rfl rfl)
theorem dX2_waitingShare_15 : decode cX2_waitingShare 15 = .ok (.i2f, 1) := dk_134 (dk_at dksX2_waitingShare_0 15 rfl rfl)
theorem dX2_waitingShare_16 : decode cX2_waitingShare 16 = .ok (.aload_n 0, 1) := dk_42 (dk_at dksX2_waitingShare_0 16 rfl rfl)
theorem dX2_waitingShare_17 : decode cX2_waitingShare 17 = .ok (.invokevirtual 64, 3) := dk_182 0 64 (dk_at dksX2_waitingShare_0 17 rfl rfl)
theorem dX2_waitingShare_20 : decode cX2_waitingShare 20 = .ok (.i2f, 1) := dk_134 (dk_at dksX2_waitingShare_0 20 rfl rfl)
theorem dX2_waitingShare_21 : decode cX2_waitingShare 21 = .ok (.fdiv, 1) := dk_110 (dk_at dksX2_waitingShare_0 21 rfl rfl)
theorem dX2_waitingShare_22 : decode cX2_waitingShare 22 = .ok (.freturn, 1) := dk_174 (dk_at dksX2_waitingShare_0 22 rfl rfl)
abbrev cX2_undo : ByteArray := prog_12_method_77_code
def yX2_undo : MethodName := ⟨RX2, "undo", "()I"⟩
def dkwX2_undo_1 : List UInt8 := [17, 1, 173, 42, 180, 0, 46, 104, 42, 180, 0, 7, 3, 184, 0, 49, 42, 180, 0, 46, 172]
abbrev dktX2_undo_1 : List UInt8 := dkwX2_undo_1 ++ []
def dkwX2_undo_0 : List UInt8 := [42, 180, 0, 46, 154, 0, 6, 16, 241, 172, 42, 89, 180, 0, 46, 4, 100, 181, 0, 46, 42, 180, 0, 13]
abbrev dktX2_undo_0 : List UInt8 := dkwX2_undo_0 ++ dktX2_undo_1
theorem dksX2_undo_0 : cX2_undo.data.toList.drop 0 = dktX2_undo_0 := by decide +kernel
theorem dksX2_undo_1 : cX2_undo.data.toList.drop 24 = dktX2_undo_1 := dk_seg dksX2_undo_0 24 rfl rfl
theorem dX2_undo_0 : decode cX2_undo 0 = .ok (.aload_n 0, 1) := dk_42 (dk_at dksX2_undo_0 0 rfl rfl)
theorem dX2_undo_1 : decode cX2_undo 1 = .ok (.getfield 46, 3) := dk_180 0 46 (dk_at dksX2_undo_0 1 rfl rfl)
theorem dX2_undo_4 : decode cX2_undo 4 = .ok (.ifCond .ne 6, 3) := dk_154 0 6 (dk_at dksX2_undo_0 4 rfl rfl)
theorem dX2_undo_7 : decode cX2_undo 7 = .ok (.bipush (-15), 2) := dk_16 241 (dk_at dksX2_undo_0 7 rfl rfl)
theorem dX2_undo_9 : decode cX2_undo 9 = .ok (.ireturn, 1) := dk_172 (dk_at dksX2_undo_0 9 rfl rfl)
theorem dX2_undo_10 : decode cX2_undo 10 = .ok (.aload_n 0, 1) := dk_42 (dk_at dksX2_undo_0 10 rfl rfl)
theorem dX2_undo_11 : decode cX2_undo 11 = .ok (.dup, 1) := dk_89 (dk_at dksX2_undo_0 11 rfl rfl)
theorem dX2_undo_12 : decode cX2_undo 12 = .ok (.getfield 46, 3) := dk_180 0 46 (dk_at dksX2_undo_0 12 rfl rfl)
theorem dX2_undo_15 : decode cX2_undo 15 = .ok (.iconst 1, 1) := dk_4 (dk_at dksX2_undo_0 15 rfl rfl)
theorem dX2_undo_16 : decode cX2_undo 16 = .ok (.isub, 1) := dk_100 (dk_at dksX2_undo_0 16 rfl rfl)
theorem dX2_undo_17 : decode cX2_undo 17 = .ok (.putfield 46, 3) := dk_181 0 46 (dk_at dksX2_undo_0 17 rfl rfl)
theorem dX2_undo_20 : decode cX2_undo 20 = .ok (.aload_n 0, 1) := dk_42 (dk_at dksX2_undo_0 20 rfl rfl)
theorem dX2_undo_21 : decode cX2_undo 21 = .ok (.getfield 13, 3) := dk_180 0 13 (dk_at dksX2_undo_0 21 rfl rfl)
theorem dX2_undo_24 : decode cX2_undo 24 = .ok (.sipush 429, 3) := dk_17 1 173 (dk_at dksX2_undo_1 0 rfl rfl)
theorem dX2_undo_27 : decode cX2_undo 27 = .ok (.aload_n 0, 1) := dk_42 (dk_at dksX2_undo_1 3 rfl rfl)
theorem dX2_undo_28 : decode cX2_undo 28 = .ok (.getfield 46, 3) := dk_180 0 46 (dk_at dksX2_undo_1 4 rfl rfl)
theorem dX2_undo_31 : decode cX2_undo 31 = .ok (.imul, 1) := dk_104 (dk_at dksX2_undo_1 7 rfl rfl)
theorem dX2_undo_32 : decode cX2_undo 32 = .ok (.aload_n 0, 1) := dk_42 (dk_at dksX2_undo_1 8 rfl rfl)
theorem dX2_undo_33 : decode cX2_undo 33 = .ok (.getfield 7, 3) := dk_180 0 7 (dk_at dksX2_undo_1 9 rfl rfl)
theorem dX2_undo_36 : decode cX2_undo 36 = .ok (.iconst 0, 1) := dk_3 (dk_at dksX2_undo_1 12 rfl rfl)
theorem dX2_undo_37 : decode cX2_undo 37 = .ok (.invokestatic 49, 3) := dk_184 0 49 (dk_at dksX2_undo_1 13 rfl rfl)
theorem dX2_undo_40 : decode cX2_undo 40 = .ok (.aload_n 0, 1) := dk_42 (dk_at dksX2_undo_1 16 rfl rfl)
theorem dX2_undo_41 : decode cX2_undo 41 = .ok (.getfield 46, 3) := dk_180 0 46 (dk_at dksX2_undo_1 17 rfl rfl)
theorem dX2_undo_44 : decode cX2_undo 44 = .ok (.ireturn, 1) := dk_172 (dk_at dksX2_undo_1 20 rfl rfl)
abbrev cX2_save : ByteArray := prog_12_method_78_code
def yX2_save : MethodName := ⟨RX2, "save", "()I"⟩
def dkwX2_save_0 : List UInt8 := [42, 4, 181, 0, 246, 42, 180, 0, 7, 3, 42, 180, 0, 16, 3, 184, 0, 49, 42, 182, 0, 64, 172]
abbrev dktX2_save_0 : List UInt8 := dkwX2_save_0 ++ []
theorem dksX2_save_0 : cX2_save.data.toList.drop 0 = dktX2_save_0 := by decide +kernel
theorem dX2_save_0 : decode cX2_save 0 = .ok (.aload_n 0, 1) := dk_42 (dk_at dksX2_save_0 0 rfl rfl)
theorem dX2_save_1 : decode cX2_save 1 = .ok (.iconst 1, 1) := dk_4 (dk_at dksX2_save_0 1 rfl rfl)
theorem dX2_save_2 : decode cX2_save 2 = .ok (.putfield 246, 3) := dk_181 0 246 (dk_at dksX2_save_0 2 rfl rfl)
theorem dX2_save_5 : decode cX2_save 5 = .ok (.aload_n 0, 1) := dk_42 (dk_at dksX2_save_0 5 rfl rfl)
theorem dX2_save_6 : decode cX2_save 6 = .ok (.getfield 7, 3) := dk_180 0 7 (dk_at dksX2_save_0 6 rfl rfl)
theorem dX2_save_9 : decode cX2_save 9 = .ok (.iconst 0, 1) := dk_3 (dk_at dksX2_save_0 9 rfl rfl)
theorem dX2_save_10 : decode cX2_save 10 = .ok (.aload_n 0, 1) := dk_42 (dk_at dksX2_save_0 10 rfl rfl)
theorem dX2_save_11 : decode cX2_save 11 = .ok (.getfield 16, 3) := dk_180 0 16 (dk_at dksX2_save_0 11 rfl rfl)
theorem dX2_save_14 : decode cX2_save 14 = .ok (.iconst 0, 1) := dk_3 (dk_at dksX2_save_0 14 rfl rfl)
theorem dX2_save_15 : decode cX2_save 15 = .ok (.invokestatic 49, 3) := dk_184 0 49 (dk_at dksX2_save_0 15 rfl rfl)
theorem dX2_save_18 : decode cX2_save 18 = .ok (.aload_n 0, 1) := dk_42 (dk_at dksX2_save_0 18 rfl rfl)
theorem dX2_save_19 : decode cX2_save 19 = .ok (.invokevirtual 64, 3) := dk_182 0 64 (dk_at dksX2_save_0 19 rfl rfl)
theorem dX2_save_22 : decode cX2_save 22 = .ok (.ireturn, 1) := dk_172 (dk_at dksX2_save_0 22 rfl rfl)
abbrev cX2_restore : ByteArray := prog_12_method_79_code
def yX2_restore : MethodName := ⟨RX2, "restore", "()I"⟩
def dkwX2_restore_1 : List UInt8 := [3, 181, 0, 46, 42, 182, 0, 64, 172]
abbrev dktX2_restore_1 : List UInt8 := dkwX2_restore_1 ++ []
def dkwX2_restore_0 : List UInt8 := [42, 180, 0, 246, 154, 0, 6, 16, 241, 172, 42, 180, 0, 16, 3, 42, 180, 0, 7, 3, 184, 0, 49, 42]
abbrev dktX2_restore_0 : List UInt8 := dkwX2_restore_0 ++ dktX2_restore_1
theorem dksX2_restore_0 : cX2_restore.data.toList.drop 0 = dktX2_restore_0 := by decide +kernel
theorem dksX2_restore_1 : cX2_restore.data.toList.drop 24 = dktX2_restore_1 := dk_seg dksX2_restore_0 24 rfl rfl
theorem dX2_restore_0 : decode cX2_restore 0 = .ok (.aload_n 0, 1) := dk_42 (dk_at dksX2_restore_0 0 rfl rfl)
theorem dX2_restore_1 : decode cX2_restore 1 = .ok (.getfield 246, 3) := dk_180 0 246 (dk_at dksX2_restore_0 1 rfl rfl)
theorem dX2_restore_4 : decode cX2_restore 4 = .ok (.ifCond .ne 6, 3) := dk_154 0 6 (dk_at dksX2_restore_0 4 rfl rfl)
theorem dX2_restore_7 : decode cX2_restore 7 = .ok (.bipush (-15), 2) := dk_16 241 (dk_at dksX2_restore_0 7 rfl rfl)
theorem dX2_restore_9 : decode cX2_restore 9 = .ok (.ireturn, 1) := dk_172 (dk_at dksX2_restore_0 9 rfl rfl)
theorem dX2_restore_10 : decode cX2_restore 10 = .ok (.aload_n 0, 1) := dk_42 (dk_at dksX2_restore_0 10 rfl rfl)
theorem dX2_restore_11 : decode cX2_restore 11 = .ok (.getfield 16, 3) := dk_180 0 16 (dk_at dksX2_restore_0 11 rfl rfl)
theorem dX2_restore_14 : decode cX2_restore 14 = .ok (.iconst 0, 1) := dk_3 (dk_at dksX2_restore_0 14 rfl rfl)
theorem dX2_restore_15 : decode cX2_restore 15 = .ok (.aload_n 0, 1) := dk_42 (dk_at dksX2_restore_0 15 rfl rfl)
theorem dX2_restore_16 : decode cX2_restore 16 = .ok (.getfield 7, 3) := dk_180 0 7 (dk_at dksX2_restore_0 16 rfl rfl)
theorem dX2_restore_19 : decode cX2_restore 19 = .ok (.iconst 0, 1) := dk_3 (dk_at dksX2_restore_0 19 rfl rfl)
theorem dX2_restore_20 : decode cX2_restore 20 = .ok (.invokestatic 49, 3) := dk_184 0 49 (dk_at dksX2_restore_0 20 rfl rfl)
theorem dX2_restore_23 : decode cX2_restore 23 = .ok (.aload_n 0, 1) := dk_42 (dk_at dksX2_restore_0 23 rfl rfl)
theorem dX2_restore_24 : decode cX2_restore 24 = .ok (.iconst 0, 1) := dk_3 (dk_at dksX2_restore_1 0 rfl rfl)
theorem dX2_restore_25 : decode cX2_restore 25 = .ok (.putfield 46, 3) := dk_181 0 46 (dk_at dksX2_restore_1 1 rfl rfl)
theorem dX2_restore_28 : decode cX2_restore 28 = .ok (.aload_n 0, 1) := dk_42 (dk_at dksX2_restore_1 4 rfl rfl)
theorem dX2_restore_29 : decode cX2_restore 29 = .ok (.invokevirtual 64, 3) := dk_182 0 64 (dk_at dksX2_restore_1 5 rfl rfl)
theorem dX2_restore_32 : decode cX2_restore 32 = .ok (.ireturn, 1) := dk_172 (dk_at dksX2_restore_1 8 rfl rfl)
theorem q101 : (Jvm.Cond.initialized "LarderLocksModel") ∈ lw_all := lw_g (lw_at lw_m1 17 rfl) rfl
theorem q248 : (Jvm.Cond.selects "LarderLocksModel" ({ cls := "java/lang/Object", name := "getClass", desc := "()Ljava/lang/Class;" } : Jvm.MethodName) ({ cls := "java/lang/Object", name := "getClass", desc := "()Ljava/lang/Class;" } : Jvm.MethodName)) ∈ lw_all := lw_g (lw_at lw_m1 164 rfl) rfl
theorem q1871 : (Jvm.Cond.instantiable "LarderLocksModel" (18 : Nat)) ∈ lw_all := lw_g (lw_at lw_m8 107 rfl) rfl
theorem q1873 : (Jvm.Cond.instanceMethod ({ cls := "LarderLocksModel", name := "<init>", desc := "()V" } : Jvm.MethodName)) ∈ lw_all := lw_g (lw_at lw_m8 109 rfl) rfl
theorem q1874 : (Jvm.Cond.code ({ cls := "LarderLocksModel", name := "<init>", desc := "()V" } : Jvm.MethodName) prog_12_method_1_code (1 : Nat) (Option.none : Option Jvm.ClassFile.FieldType)) ∈ lw_all := lw_g (lw_at lw_m8 110 rfl) rfl
theorem q1875 : (Jvm.Cond.methodLink "LarderLocksModel" (1 : Nat) ({ cls := "java/lang/Object", name := "<init>", desc := "()V" } : Jvm.MethodName)) ∈ lw_all := lw_g (lw_at lw_m8 111 rfl) rfl
theorem q1876 : (Jvm.Cond.fieldLink "LarderLocksModel" (7 : Nat) "LarderLocksModel" "g" "[I") ∈ lw_all := lw_g (lw_at lw_m8 112 rfl) rfl
theorem q1877 : (Jvm.Cond.fieldLink "LarderLocksModel" (13 : Nat) "LarderLocksModel" "kept" "[I") ∈ lw_all := lw_g (lw_at lw_m8 113 rfl) rfl
theorem q1878 : (Jvm.Cond.fieldLink "LarderLocksModel" (16 : Nat) "LarderLocksModel" "saved" "[I") ∈ lw_all := lw_g (lw_at lw_m8 114 rfl) rfl
theorem q1879 : (Jvm.Cond.fieldLink "LarderLocksModel" (19 : Nat) "LarderLocksModel" "before" "[I") ∈ lw_all := lw_g (lw_at lw_m8 115 rfl) rfl
theorem q1880 : (Jvm.Cond.fieldLink "LarderLocksModel" (22 : Nat) "LarderLocksModel" "spare" "[I") ∈ lw_all := lw_g (lw_at lw_m8 116 rfl) rfl
theorem q1881 : (Jvm.Cond.fieldLink "LarderLocksModel" (246 : Nat) "LarderLocksModel" "isSaved" "Z") ∈ lw_all := lw_g (lw_at lw_m8 117 rfl) rfl
theorem q1882 : (Jvm.Cond.fieldLink "LarderLocksModel" (46 : Nat) "LarderLocksModel" "changes" "I") ∈ lw_all := lw_g (lw_at lw_m8 118 rfl) rfl
theorem q1883 : (Jvm.Cond.fieldLink "LarderLocksModel" (42 : Nat) "LarderLocksModel" "isWithin" "Z") ∈ lw_all := lw_g (lw_at lw_m8 119 rfl) rfl
theorem q1884 : (Jvm.Cond.fieldLink "LarderLocksModel" (35 : Nat) "LarderLocksModel" "why" "I") ∈ lw_all := lw_g (lw_at lw_m8 120 rfl) rfl
theorem q1885 : (Jvm.Cond.fieldLink "LarderLocksModel" (39 : Nat) "LarderLocksModel" "detail" "I") ∈ lw_all := lw_g (lw_at lw_m8 121 rfl) rfl
theorem q1886 : (Jvm.Cond.fieldLink "LarderLocksModel" (25 : Nat) "LarderLocksModel" "text" "[I") ∈ lw_all := lw_g (lw_at lw_m8 122 rfl) rfl
theorem q1887 : (Jvm.Cond.fieldLink "LarderLocksModel" (175 : Nat) "LarderLocksModel" "length" "I") ∈ lw_all := lw_g (lw_at lw_m8 123 rfl) rfl
theorem q1888 : (Jvm.Cond.fieldLink "LarderLocksModel" (28 : Nat) "LarderLocksModel" "signs" "[C") ∈ lw_all := lw_g (lw_at lw_m8 124 rfl) rfl
theorem q1889 : (Jvm.Cond.fieldLink "LarderLocksModel" (228 : Nat) "LarderLocksModel" "signMany" "I") ∈ lw_all := lw_g (lw_at lw_m8 125 rfl) rfl
theorem q1890 : (Jvm.Cond.fieldLink "LarderLocksModel" (118 : Nat) "LarderLocksModel" "barredBy" "I") ∈ lw_all := lw_g (lw_at lw_m8 126 rfl) rfl
theorem q1891 : (Jvm.Cond.fieldLink "LarderLocksModel" (178 : Nat) "LarderLocksModel" "spot" "I") ∈ lw_all := lw_g (lw_at lw_m8 127 rfl) rfl
theorem q1892 : (Jvm.Cond.fieldLink "LarderLocksModel" (32 : Nat) "LarderLocksModel" "told" "[I") ∈ lw_all := lw_g (lw_at lw_m8 128 rfl) rfl
theorem q1893 : (Jvm.Cond.fieldLink "LarderLocksModel" (195 : Nat) "LarderLocksModel" "toldMany" "I") ∈ lw_all := lw_g (lw_at lw_m8 129 rfl) rfl
theorem q1894 : (Jvm.Cond.laysFinal "LarderLocksModel" "LarderLocksModel" "g" "[I") ∈ lw_all := lw_g (lw_at lw_m8 130 rfl) rfl
theorem q1895 : (Jvm.Cond.soleField "LarderLocksModel" "g") ∈ lw_all := lw_g (lw_at lw_m8 131 rfl) rfl
theorem q1896 : (Jvm.Cond.laysFinal "LarderLocksModel" "LarderLocksModel" "kept" "[I") ∈ lw_all := lw_g (lw_at lw_m8 132 rfl) rfl
theorem q1897 : (Jvm.Cond.soleField "LarderLocksModel" "kept") ∈ lw_all := lw_g (lw_at lw_m8 133 rfl) rfl
theorem q1898 : (Jvm.Cond.laysFinal "LarderLocksModel" "LarderLocksModel" "saved" "[I") ∈ lw_all := lw_g (lw_at lw_m8 134 rfl) rfl
theorem q1899 : (Jvm.Cond.soleField "LarderLocksModel" "saved") ∈ lw_all := lw_g (lw_at lw_m8 135 rfl) rfl
theorem q1900 : (Jvm.Cond.laysFinal "LarderLocksModel" "LarderLocksModel" "before" "[I") ∈ lw_all := lw_g (lw_at lw_m8 136 rfl) rfl
theorem q1901 : (Jvm.Cond.soleField "LarderLocksModel" "before") ∈ lw_all := lw_g (lw_at lw_m8 137 rfl) rfl
theorem q1902 : (Jvm.Cond.laysFinal "LarderLocksModel" "LarderLocksModel" "spare" "[I") ∈ lw_all := lw_g (lw_at lw_m8 138 rfl) rfl
theorem q1903 : (Jvm.Cond.soleField "LarderLocksModel" "spare") ∈ lw_all := lw_g (lw_at lw_m8 139 rfl) rfl
theorem q1904 : (Jvm.Cond.lays "LarderLocksModel" "LarderLocksModel" "isSaved" "Z") ∈ lw_all := lw_g (lw_at lw_m8 140 rfl) rfl
theorem q1905 : (Jvm.Cond.soleField "LarderLocksModel" "isSaved") ∈ lw_all := lw_g (lw_at lw_m8 141 rfl) rfl
theorem q1906 : (Jvm.Cond.lays "LarderLocksModel" "LarderLocksModel" "changes" "I") ∈ lw_all := lw_g (lw_at lw_m8 142 rfl) rfl
theorem q1907 : (Jvm.Cond.soleField "LarderLocksModel" "changes") ∈ lw_all := lw_g (lw_at lw_m8 143 rfl) rfl
theorem q1908 : (Jvm.Cond.lays "LarderLocksModel" "LarderLocksModel" "isWithin" "Z") ∈ lw_all := lw_g (lw_at lw_m8 144 rfl) rfl
theorem q1909 : (Jvm.Cond.soleField "LarderLocksModel" "isWithin") ∈ lw_all := lw_g (lw_at lw_m8 145 rfl) rfl
theorem q1910 : (Jvm.Cond.lays "LarderLocksModel" "LarderLocksModel" "why" "I") ∈ lw_all := lw_g (lw_at lw_m8 146 rfl) rfl
theorem q1911 : (Jvm.Cond.soleField "LarderLocksModel" "why") ∈ lw_all := lw_g (lw_at lw_m8 147 rfl) rfl
theorem q1912 : (Jvm.Cond.lays "LarderLocksModel" "LarderLocksModel" "detail" "I") ∈ lw_all := lw_g (lw_at lw_m8 148 rfl) rfl
theorem q1913 : (Jvm.Cond.soleField "LarderLocksModel" "detail") ∈ lw_all := lw_g (lw_at lw_m8 149 rfl) rfl
theorem q1914 : (Jvm.Cond.laysFinal "LarderLocksModel" "LarderLocksModel" "text" "[I") ∈ lw_all := lw_g (lw_at lw_m8 150 rfl) rfl
theorem q1915 : (Jvm.Cond.soleField "LarderLocksModel" "text") ∈ lw_all := lw_g (lw_at lw_m8 151 rfl) rfl
theorem q1916 : (Jvm.Cond.lays "LarderLocksModel" "LarderLocksModel" "length" "I") ∈ lw_all := lw_g (lw_at lw_m8 152 rfl) rfl
theorem q1917 : (Jvm.Cond.soleField "LarderLocksModel" "length") ∈ lw_all := lw_g (lw_at lw_m8 153 rfl) rfl
theorem q1918 : (Jvm.Cond.laysFinal "LarderLocksModel" "LarderLocksModel" "signs" "[C") ∈ lw_all := lw_g (lw_at lw_m8 154 rfl) rfl
theorem q1919 : (Jvm.Cond.soleField "LarderLocksModel" "signs") ∈ lw_all := lw_g (lw_at lw_m8 155 rfl) rfl
theorem q1920 : (Jvm.Cond.lays "LarderLocksModel" "LarderLocksModel" "signMany" "I") ∈ lw_all := lw_g (lw_at lw_m8 156 rfl) rfl
theorem q1921 : (Jvm.Cond.soleField "LarderLocksModel" "signMany") ∈ lw_all := lw_g (lw_at lw_m8 157 rfl) rfl
theorem q1922 : (Jvm.Cond.lays "LarderLocksModel" "LarderLocksModel" "barredBy" "I") ∈ lw_all := lw_g (lw_at lw_m8 158 rfl) rfl
theorem q1923 : (Jvm.Cond.soleField "LarderLocksModel" "barredBy") ∈ lw_all := lw_g (lw_at lw_m8 159 rfl) rfl
theorem q1924 : (Jvm.Cond.lays "LarderLocksModel" "LarderLocksModel" "spot" "I") ∈ lw_all := lw_g (lw_at lw_m8 160 rfl) rfl
theorem q1925 : (Jvm.Cond.soleField "LarderLocksModel" "spot") ∈ lw_all := lw_g (lw_at lw_m8 161 rfl) rfl
theorem q1926 : (Jvm.Cond.laysFinal "LarderLocksModel" "LarderLocksModel" "told" "[I") ∈ lw_all := lw_g (lw_at lw_m8 162 rfl) rfl
theorem q1927 : (Jvm.Cond.soleField "LarderLocksModel" "told") ∈ lw_all := lw_g (lw_at lw_m8 163 rfl) rfl
theorem q1928 : (Jvm.Cond.lays "LarderLocksModel" "LarderLocksModel" "toldMany" "I") ∈ lw_all := lw_g (lw_at lw_m8 164 rfl) rfl
theorem q1929 : (Jvm.Cond.soleField "LarderLocksModel" "toldMany") ∈ lw_all := lw_g (lw_at lw_m8 165 rfl) rfl
theorem q1930 : (Jvm.Cond.superclass "LarderLocksModel" "java/lang/Object") ∈ lw_all := lw_g (lw_at lw_m8 166 rfl) rfl
theorem q1933 : (Jvm.Cond.instanceMethod ({ cls := "LarderLocksModel", name := "maid", desc := "()I" } : Jvm.MethodName)) ∈ lw_all := lw_g (lw_at lw_m8 169 rfl) rfl
theorem q1934 : (Jvm.Cond.selects "LarderLocksModel" ({ cls := "LarderLocksModel", name := "maid", desc := "()I" } : Jvm.MethodName) ({ cls := "LarderLocksModel", name := "maid", desc := "()I" } : Jvm.MethodName)) ∈ lw_all := lw_g (lw_at lw_m8 170 rfl) rfl
theorem q1935 : (Jvm.Cond.code ({ cls := "LarderLocksModel", name := "maid", desc := "()I" } : Jvm.MethodName) prog_12_method_15_code (2 : Nat) (Option.some Jvm.ClassFile.FieldType.int)) ∈ lw_all := lw_g (lw_at lw_m8 171 rfl) rfl
theorem q1936 : (Jvm.Cond.methodLink "LarderLocksModel" (61 : Nat) ({ cls := "LarderLocksModel", name := "refuses", desc := "(II)I" } : Jvm.MethodName)) ∈ lw_all := lw_g (lw_at lw_m8 172 rfl) rfl
theorem q1937 : (Jvm.Cond.privateMethod ({ cls := "LarderLocksModel", name := "refuses", desc := "(II)I" } : Jvm.MethodName)) ∈ lw_tbl := lw_at lw_m8 173 rfl
theorem q1938 : (Jvm.Cond.instanceMethod ({ cls := "LarderLocksModel", name := "refuses", desc := "(II)I" } : Jvm.MethodName)) ∈ lw_all := lw_g (lw_at lw_m8 174 rfl) rfl
theorem q1939 : (Jvm.Cond.code ({ cls := "LarderLocksModel", name := "refuses", desc := "(II)I" } : Jvm.MethodName) prog_12_method_3_code (3 : Nat) (Option.some Jvm.ClassFile.FieldType.int)) ∈ lw_all := lw_g (lw_at lw_m8 175 rfl) rfl
theorem q1940 : (Jvm.Cond.methodLink "LarderLocksModel" (64 : Nat) ({ cls := "LarderLocksModel", name := "there", desc := "()I" } : Jvm.MethodName)) ∈ lw_all := lw_g (lw_at lw_m8 176 rfl) rfl
theorem q1941 : (Jvm.Cond.privateMethod ({ cls := "LarderLocksModel", name := "there", desc := "()I" } : Jvm.MethodName)) ∈ lw_tbl := lw_at lw_m8 177 rfl
theorem q1942 : (Jvm.Cond.instanceMethod ({ cls := "LarderLocksModel", name := "there", desc := "()I" } : Jvm.MethodName)) ∈ lw_all := lw_g (lw_at lw_m8 178 rfl) rfl
theorem q1943 : (Jvm.Cond.code ({ cls := "LarderLocksModel", name := "there", desc := "()I" } : Jvm.MethodName) prog_12_method_14_code (1 : Nat) (Option.some Jvm.ClassFile.FieldType.int)) ∈ lw_all := lw_g (lw_at lw_m8 179 rfl) rfl
theorem q1944 : (Jvm.Cond.methodLink "LarderLocksModel" (68 : Nat) ({ cls := "LarderLocksModel", name := "keeps", desc := "([I)V" } : Jvm.MethodName)) ∈ lw_all := lw_g (lw_at lw_m8 180 rfl) rfl
theorem q1945 : (Jvm.Cond.privateMethod ({ cls := "LarderLocksModel", name := "keeps", desc := "([I)V" } : Jvm.MethodName)) ∈ lw_tbl := lw_at lw_m8 181 rfl
theorem q1946 : (Jvm.Cond.instanceMethod ({ cls := "LarderLocksModel", name := "keeps", desc := "([I)V" } : Jvm.MethodName)) ∈ lw_all := lw_g (lw_at lw_m8 182 rfl) rfl
theorem q1947 : (Jvm.Cond.code ({ cls := "LarderLocksModel", name := "keeps", desc := "([I)V" } : Jvm.MethodName) prog_12_method_5_code (3 : Nat) (Option.none : Option Jvm.ClassFile.FieldType)) ∈ lw_all := lw_g (lw_at lw_m8 183 rfl) rfl
theorem q1948 : (Jvm.Cond.methodLink "LarderLocksModel" (49 : Nat) ({ cls := "LarderLocksModel", name := "copies", desc := "([II[II)V" } : Jvm.MethodName)) ∈ lw_all := lw_g (lw_at lw_m8 184 rfl) rfl
theorem q1949 : (Jvm.Cond.static ({ cls := "LarderLocksModel", name := "copies", desc := "([II[II)V" } : Jvm.MethodName)) ∈ lw_all := lw_g (lw_at lw_m8 185 rfl) rfl
theorem q1950 : (Jvm.Cond.code ({ cls := "LarderLocksModel", name := "copies", desc := "([II[II)V" } : Jvm.MethodName) prog_12_method_4_code (5 : Nat) (Option.none : Option Jvm.ClassFile.FieldType)) ∈ lw_all := lw_g (lw_at lw_m8 186 rfl) rfl
theorem q1951 : (Jvm.Cond.methodLink "LarderLocksModel" (72 : Nat) ({ cls := "LarderLocksModel", name := "lays", desc := "(III)V" } : Jvm.MethodName)) ∈ lw_all := lw_g (lw_at lw_m8 187 rfl) rfl
theorem q1952 : (Jvm.Cond.privateMethod ({ cls := "LarderLocksModel", name := "lays", desc := "(III)V" } : Jvm.MethodName)) ∈ lw_tbl := lw_at lw_m8 188 rfl
theorem q1953 : (Jvm.Cond.instanceMethod ({ cls := "LarderLocksModel", name := "lays", desc := "(III)V" } : Jvm.MethodName)) ∈ lw_all := lw_g (lw_at lw_m8 189 rfl) rfl
theorem q1954 : (Jvm.Cond.code ({ cls := "LarderLocksModel", name := "lays", desc := "(III)V" } : Jvm.MethodName) prog_12_method_7_code (4 : Nat) (Option.none : Option Jvm.ClassFile.FieldType)) ∈ lw_all := lw_g (lw_at lw_m8 190 rfl) rfl
theorem q1956 : (Jvm.Cond.instanceMethod ({ cls := "LarderLocksModel", name := "want", desc := "(IIZ)I" } : Jvm.MethodName)) ∈ lw_all := lw_g (lw_at lw_m8 192 rfl) rfl
theorem q1957 : (Jvm.Cond.selects "LarderLocksModel" ({ cls := "LarderLocksModel", name := "want", desc := "(IIZ)I" } : Jvm.MethodName) ({ cls := "LarderLocksModel", name := "want", desc := "(IIZ)I" } : Jvm.MethodName)) ∈ lw_all := lw_g (lw_at lw_m8 193 rfl) rfl
theorem q1958 : (Jvm.Cond.code ({ cls := "LarderLocksModel", name := "want", desc := "(IIZ)I" } : Jvm.MethodName) prog_12_method_31_code (6 : Nat) (Option.some Jvm.ClassFile.FieldType.int)) ∈ lw_all := lw_g (lw_at lw_m8 194 rfl) rfl
theorem q1959 : (Jvm.Cond.methodLink "LarderLocksModel" (133 : Nat) ({ cls := "LarderLocksModel", name := "isMaid", desc := "(I)Z" } : Jvm.MethodName)) ∈ lw_all := lw_g (lw_at lw_m8 195 rfl) rfl
theorem q1960 : (Jvm.Cond.privateMethod ({ cls := "LarderLocksModel", name := "isMaid", desc := "(I)Z" } : Jvm.MethodName)) ∈ lw_tbl := lw_at lw_m8 196 rfl
theorem q1961 : (Jvm.Cond.instanceMethod ({ cls := "LarderLocksModel", name := "isMaid", desc := "(I)Z" } : Jvm.MethodName)) ∈ lw_all := lw_g (lw_at lw_m8 197 rfl) rfl
theorem q1962 : (Jvm.Cond.code ({ cls := "LarderLocksModel", name := "isMaid", desc := "(I)Z" } : Jvm.MethodName) prog_12_method_8_code (2 : Nat) (Option.some Jvm.ClassFile.FieldType.boolean)) ∈ lw_all := lw_g (lw_at lw_m8 198 rfl) rfl
theorem q1963 : (Jvm.Cond.methodLink "LarderLocksModel" (53 : Nat) ({ cls := "LarderLocksModel", name := "in", desc := "(III)Z" } : Jvm.MethodName)) ∈ lw_all := lw_g (lw_at lw_m8 199 rfl) rfl
theorem q1964 : (Jvm.Cond.static ({ cls := "LarderLocksModel", name := "in", desc := "(III)Z" } : Jvm.MethodName)) ∈ lw_all := lw_g (lw_at lw_m8 200 rfl) rfl
theorem q1965 : (Jvm.Cond.code ({ cls := "LarderLocksModel", name := "in", desc := "(III)Z" } : Jvm.MethodName) prog_12_method_2_code (3 : Nat) (Option.some Jvm.ClassFile.FieldType.boolean)) ∈ lw_all := lw_g (lw_at lw_m8 201 rfl) rfl
theorem q1966 : (Jvm.Cond.methodLink "LarderLocksModel" (57 : Nat) ({ cls := "LarderLocksModel", name := "of", desc := "(II)I" } : Jvm.MethodName)) ∈ lw_all := lw_g (lw_at lw_m8 202 rfl) rfl
theorem q1967 : (Jvm.Cond.privateMethod ({ cls := "LarderLocksModel", name := "of", desc := "(II)I" } : Jvm.MethodName)) ∈ lw_tbl := lw_at lw_m8 203 rfl
theorem q1968 : (Jvm.Cond.instanceMethod ({ cls := "LarderLocksModel", name := "of", desc := "(II)I" } : Jvm.MethodName)) ∈ lw_all := lw_g (lw_at lw_m8 204 rfl) rfl
theorem q1969 : (Jvm.Cond.code ({ cls := "LarderLocksModel", name := "of", desc := "(II)I" } : Jvm.MethodName) prog_12_method_6_code (3 : Nat) (Option.some Jvm.ClassFile.FieldType.int)) ∈ lw_all := lw_g (lw_at lw_m8 205 rfl) rfl
theorem q1970 : (Jvm.Cond.methodLink "LarderLocksModel" (136 : Nat) ({ cls := "LarderLocksModel", name := "isShelf", desc := "(I)Z" } : Jvm.MethodName)) ∈ lw_all := lw_g (lw_at lw_m8 206 rfl) rfl
theorem q1971 : (Jvm.Cond.static ({ cls := "LarderLocksModel", name := "isShelf", desc := "(I)Z" } : Jvm.MethodName)) ∈ lw_all := lw_g (lw_at lw_m8 207 rfl) rfl
theorem q1972 : (Jvm.Cond.code ({ cls := "LarderLocksModel", name := "isShelf", desc := "(I)Z" } : Jvm.MethodName) prog_12_method_9_code (1 : Nat) (Option.some Jvm.ClassFile.FieldType.boolean)) ∈ lw_all := lw_g (lw_at lw_m8 208 rfl) rfl
theorem q1973 : (Jvm.Cond.methodLink "LarderLocksModel" (139 : Nat) ({ cls := "LarderLocksModel", name := "bars", desc := "(III)I" } : Jvm.MethodName)) ∈ lw_all := lw_g (lw_at lw_m8 209 rfl) rfl
theorem q1974 : (Jvm.Cond.privateMethod ({ cls := "LarderLocksModel", name := "bars", desc := "(III)I" } : Jvm.MethodName)) ∈ lw_tbl := lw_at lw_m8 210 rfl
theorem q1975 : (Jvm.Cond.instanceMethod ({ cls := "LarderLocksModel", name := "bars", desc := "(III)I" } : Jvm.MethodName)) ∈ lw_all := lw_g (lw_at lw_m8 211 rfl) rfl
theorem q1976 : (Jvm.Cond.code ({ cls := "LarderLocksModel", name := "bars", desc := "(III)I" } : Jvm.MethodName) prog_12_method_28_code (4 : Nat) (Option.some Jvm.ClassFile.FieldType.int)) ∈ lw_all := lw_g (lw_at lw_m8 212 rfl) rfl
theorem q1977 : (Jvm.Cond.methodLink "LarderLocksModel" (76 : Nat) ({ cls := "LarderLocksModel", name := "lock", desc := "(II)I" } : Jvm.MethodName)) ∈ lw_all := lw_g (lw_at lw_m8 213 rfl) rfl
theorem q1978 : (Jvm.Cond.privateMethod ({ cls := "LarderLocksModel", name := "lock", desc := "(II)I" } : Jvm.MethodName)) ∈ lw_tbl := lw_at lw_m8 214 rfl
theorem q1979 : (Jvm.Cond.instanceMethod ({ cls := "LarderLocksModel", name := "lock", desc := "(II)I" } : Jvm.MethodName)) ∈ lw_all := lw_g (lw_at lw_m8 215 rfl) rfl
theorem q1980 : (Jvm.Cond.code ({ cls := "LarderLocksModel", name := "lock", desc := "(II)I" } : Jvm.MethodName) prog_12_method_10_code (3 : Nat) (Option.some Jvm.ClassFile.FieldType.int)) ∈ lw_all := lw_g (lw_at lw_m8 216 rfl) rfl
theorem q1981 : (Jvm.Cond.methodLink "LarderLocksModel" (143 : Nat) ({ cls := "LarderLocksModel", name := "wants", desc := "(III)I" } : Jvm.MethodName)) ∈ lw_all := lw_g (lw_at lw_m8 217 rfl) rfl
theorem q1982 : (Jvm.Cond.privateMethod ({ cls := "LarderLocksModel", name := "wants", desc := "(III)I" } : Jvm.MethodName)) ∈ lw_tbl := lw_at lw_m8 218 rfl
theorem q1983 : (Jvm.Cond.instanceMethod ({ cls := "LarderLocksModel", name := "wants", desc := "(III)I" } : Jvm.MethodName)) ∈ lw_all := lw_g (lw_at lw_m8 219 rfl) rfl
theorem q1984 : (Jvm.Cond.code ({ cls := "LarderLocksModel", name := "wants", desc := "(III)I" } : Jvm.MethodName) prog_12_method_30_code (4 : Nat) (Option.some Jvm.ClassFile.FieldType.int)) ∈ lw_all := lw_g (lw_at lw_m8 220 rfl) rfl
theorem q1985 : (Jvm.Cond.methodLink "LarderLocksModel" (121 : Nat) ({ cls := "LarderLocksModel", name := "isAtOnce", desc := "(III)Z" } : Jvm.MethodName)) ∈ lw_all := lw_g (lw_at lw_m8 221 rfl) rfl
theorem q1986 : (Jvm.Cond.privateMethod ({ cls := "LarderLocksModel", name := "isAtOnce", desc := "(III)Z" } : Jvm.MethodName)) ∈ lw_tbl := lw_at lw_m8 222 rfl
theorem q1987 : (Jvm.Cond.instanceMethod ({ cls := "LarderLocksModel", name := "isAtOnce", desc := "(III)Z" } : Jvm.MethodName)) ∈ lw_all := lw_g (lw_at lw_m8 223 rfl) rfl
theorem q1988 : (Jvm.Cond.code ({ cls := "LarderLocksModel", name := "isAtOnce", desc := "(III)Z" } : Jvm.MethodName) prog_12_method_29_code (4 : Nat) (Option.some Jvm.ClassFile.FieldType.boolean)) ∈ lw_all := lw_g (lw_at lw_m8 224 rfl) rfl
theorem q1989 : (Jvm.Cond.methodLink "LarderLocksModel" (82 : Nat) ({ cls := "LarderLocksModel", name := "shelf", desc := "(II)I" } : Jvm.MethodName)) ∈ lw_all := lw_g (lw_at lw_m8 225 rfl) rfl
theorem q1990 : (Jvm.Cond.privateMethod ({ cls := "LarderLocksModel", name := "shelf", desc := "(II)I" } : Jvm.MethodName)) ∈ lw_tbl := lw_at lw_m8 226 rfl
theorem q1991 : (Jvm.Cond.instanceMethod ({ cls := "LarderLocksModel", name := "shelf", desc := "(II)I" } : Jvm.MethodName)) ∈ lw_all := lw_g (lw_at lw_m8 227 rfl) rfl
theorem q1992 : (Jvm.Cond.code ({ cls := "LarderLocksModel", name := "shelf", desc := "(II)I" } : Jvm.MethodName) prog_12_method_12_code (3 : Nat) (Option.some Jvm.ClassFile.FieldType.int)) ∈ lw_all := lw_g (lw_at lw_m8 228 rfl) rfl
theorem q1993 : (Jvm.Cond.methodLink "LarderLocksModel" (88 : Nat) ({ cls := "LarderLocksModel", name := "can", desc := "(III)Z" } : Jvm.MethodName)) ∈ lw_all := lw_g (lw_at lw_m8 229 rfl) rfl
theorem q1994 : (Jvm.Cond.privateMethod ({ cls := "LarderLocksModel", name := "can", desc := "(III)Z" } : Jvm.MethodName)) ∈ lw_tbl := lw_at lw_m8 230 rfl
theorem q1995 : (Jvm.Cond.instanceMethod ({ cls := "LarderLocksModel", name := "can", desc := "(III)Z" } : Jvm.MethodName)) ∈ lw_all := lw_g (lw_at lw_m8 231 rfl) rfl
theorem q1996 : (Jvm.Cond.code ({ cls := "LarderLocksModel", name := "can", desc := "(III)Z" } : Jvm.MethodName) prog_12_method_16_code (5 : Nat) (Option.some Jvm.ClassFile.FieldType.boolean)) ∈ lw_all := lw_g (lw_at lw_m8 232 rfl) rfl
theorem q1997 : (Jvm.Cond.methodLink "LarderLocksModel" (95 : Nat) ({ cls := "LarderLocksModel", name := "has", desc := "(III)V" } : Jvm.MethodName)) ∈ lw_all := lw_g (lw_at lw_m8 233 rfl) rfl
theorem q1998 : (Jvm.Cond.privateMethod ({ cls := "LarderLocksModel", name := "has", desc := "(III)V" } : Jvm.MethodName)) ∈ lw_tbl := lw_at lw_m8 234 rfl
theorem q1999 : (Jvm.Cond.instanceMethod ({ cls := "LarderLocksModel", name := "has", desc := "(III)V" } : Jvm.MethodName)) ∈ lw_all := lw_g (lw_at lw_m8 235 rfl) rfl
theorem q2000 : (Jvm.Cond.code ({ cls := "LarderLocksModel", name := "has", desc := "(III)V" } : Jvm.MethodName) prog_12_method_17_code (4 : Nat) (Option.none : Option Jvm.ClassFile.FieldType)) ∈ lw_all := lw_g (lw_at lw_m8 236 rfl) rfl
theorem q2001 : (Jvm.Cond.methodLink "LarderLocksModel" (79 : Nat) ({ cls := "LarderLocksModel", name := "locks", desc := "(III)V" } : Jvm.MethodName)) ∈ lw_all := lw_g (lw_at lw_m8 237 rfl) rfl
theorem q2002 : (Jvm.Cond.privateMethod ({ cls := "LarderLocksModel", name := "locks", desc := "(III)V" } : Jvm.MethodName)) ∈ lw_tbl := lw_at lw_m8 238 rfl
theorem q2003 : (Jvm.Cond.instanceMethod ({ cls := "LarderLocksModel", name := "locks", desc := "(III)V" } : Jvm.MethodName)) ∈ lw_all := lw_g (lw_at lw_m8 239 rfl) rfl
theorem q2004 : (Jvm.Cond.code ({ cls := "LarderLocksModel", name := "locks", desc := "(III)V" } : Jvm.MethodName) prog_12_method_11_code (4 : Nat) (Option.none : Option Jvm.ClassFile.FieldType)) ∈ lw_all := lw_g (lw_at lw_m9 0 rfl) rfl
theorem q2005 : (Jvm.Cond.methodLink "LarderLocksModel" (85 : Nat) ({ cls := "LarderLocksModel", name := "shelves", desc := "(III)V" } : Jvm.MethodName)) ∈ lw_all := lw_g (lw_at lw_m9 1 rfl) rfl
theorem q2006 : (Jvm.Cond.privateMethod ({ cls := "LarderLocksModel", name := "shelves", desc := "(III)V" } : Jvm.MethodName)) ∈ lw_tbl := lw_at lw_m9 2 rfl
theorem q2007 : (Jvm.Cond.instanceMethod ({ cls := "LarderLocksModel", name := "shelves", desc := "(III)V" } : Jvm.MethodName)) ∈ lw_all := lw_g (lw_at lw_m9 3 rfl) rfl
theorem q2008 : (Jvm.Cond.code ({ cls := "LarderLocksModel", name := "shelves", desc := "(III)V" } : Jvm.MethodName) prog_12_method_13_code (4 : Nat) (Option.none : Option Jvm.ClassFile.FieldType)) ∈ lw_all := lw_g (lw_at lw_m9 4 rfl) rfl
theorem q2009 : (Jvm.Cond.methodLink "LarderLocksModel" (124 : Nat) ({ cls := "LarderLocksModel", name := "comesToWait", desc := "(III)V" } : Jvm.MethodName)) ∈ lw_all := lw_g (lw_at lw_m9 5 rfl) rfl
theorem q2010 : (Jvm.Cond.privateMethod ({ cls := "LarderLocksModel", name := "comesToWait", desc := "(III)V" } : Jvm.MethodName)) ∈ lw_tbl := lw_at lw_m9 6 rfl
theorem q2011 : (Jvm.Cond.instanceMethod ({ cls := "LarderLocksModel", name := "comesToWait", desc := "(III)V" } : Jvm.MethodName)) ∈ lw_all := lw_g (lw_at lw_m9 7 rfl) rfl
theorem q2012 : (Jvm.Cond.code ({ cls := "LarderLocksModel", name := "comesToWait", desc := "(III)V" } : Jvm.MethodName) prog_12_method_20_code (6 : Nat) (Option.none : Option Jvm.ClassFile.FieldType)) ∈ lw_all := lw_g (lw_at lw_m9 8 rfl) rfl
theorem q2013 : (Jvm.Cond.methodLink "LarderLocksModel" (127 : Nat) ({ cls := "LarderLocksModel", name := "breaks", desc := "()V" } : Jvm.MethodName)) ∈ lw_all := lw_g (lw_at lw_m9 9 rfl) rfl
theorem q2014 : (Jvm.Cond.privateMethod ({ cls := "LarderLocksModel", name := "breaks", desc := "()V" } : Jvm.MethodName)) ∈ lw_tbl := lw_at lw_m9 10 rfl
theorem q2015 : (Jvm.Cond.instanceMethod ({ cls := "LarderLocksModel", name := "breaks", desc := "()V" } : Jvm.MethodName)) ∈ lw_all := lw_g (lw_at lw_m9 11 rfl) rfl
theorem q2016 : (Jvm.Cond.code ({ cls := "LarderLocksModel", name := "breaks", desc := "()V" } : Jvm.MethodName) prog_12_method_26_code (2 : Nat) (Option.none : Option Jvm.ClassFile.FieldType)) ∈ lw_all := lw_g (lw_at lw_m9 12 rfl) rfl
theorem q2017 : (Jvm.Cond.methodLink "LarderLocksModel" (112 : Nat) ({ cls := "LarderLocksModel", name := "youngestInRing", desc := "()I" } : Jvm.MethodName)) ∈ lw_all := lw_g (lw_at lw_m9 13 rfl) rfl
theorem q2018 : (Jvm.Cond.privateMethod ({ cls := "LarderLocksModel", name := "youngestInRing", desc := "()I" } : Jvm.MethodName)) ∈ lw_tbl := lw_at lw_m9 14 rfl
theorem q2019 : (Jvm.Cond.instanceMethod ({ cls := "LarderLocksModel", name := "youngestInRing", desc := "()I" } : Jvm.MethodName)) ∈ lw_all := lw_g (lw_at lw_m9 15 rfl) rfl
theorem q2020 : (Jvm.Cond.code ({ cls := "LarderLocksModel", name := "youngestInRing", desc := "()I" } : Jvm.MethodName) prog_12_method_25_code (2 : Nat) (Option.some Jvm.ClassFile.FieldType.int)) ∈ lw_all := lw_g (lw_at lw_m9 16 rfl) rfl
theorem q2021 : (Jvm.Cond.methodLink "LarderLocksModel" (108 : Nat) ({ cls := "LarderLocksModel", name := "isInRing", desc := "(I)Z" } : Jvm.MethodName)) ∈ lw_all := lw_g (lw_at lw_m9 17 rfl) rfl
theorem q2022 : (Jvm.Cond.privateMethod ({ cls := "LarderLocksModel", name := "isInRing", desc := "(I)Z" } : Jvm.MethodName)) ∈ lw_tbl := lw_at lw_m9 18 rfl
theorem q2023 : (Jvm.Cond.instanceMethod ({ cls := "LarderLocksModel", name := "isInRing", desc := "(I)Z" } : Jvm.MethodName)) ∈ lw_all := lw_g (lw_at lw_m9 19 rfl) rfl
theorem q2024 : (Jvm.Cond.code ({ cls := "LarderLocksModel", name := "isInRing", desc := "(I)Z" } : Jvm.MethodName) prog_12_method_23_code (2 : Nat) (Option.some Jvm.ClassFile.FieldType.boolean)) ∈ lw_all := lw_g (lw_at lw_m9 20 rfl) rfl
theorem q2025 : (Jvm.Cond.methodLink "LarderLocksModel" (102 : Nat) ({ cls := "LarderLocksModel", name := "reaches", desc := "(I)I" } : Jvm.MethodName)) ∈ lw_all := lw_g (lw_at lw_m9 21 rfl) rfl
theorem q2026 : (Jvm.Cond.privateMethod ({ cls := "LarderLocksModel", name := "reaches", desc := "(I)I" } : Jvm.MethodName)) ∈ lw_tbl := lw_at lw_m9 22 rfl
theorem q2027 : (Jvm.Cond.instanceMethod ({ cls := "LarderLocksModel", name := "reaches", desc := "(I)I" } : Jvm.MethodName)) ∈ lw_all := lw_g (lw_at lw_m9 23 rfl) rfl
theorem q2028 : (Jvm.Cond.code ({ cls := "LarderLocksModel", name := "reaches", desc := "(I)I" } : Jvm.MethodName) prog_12_method_22_code (5 : Nat) (Option.some Jvm.ClassFile.FieldType.int)) ∈ lw_all := lw_g (lw_at lw_m9 24 rfl) rfl
theorem q2029 : (Jvm.Cond.methodLink "LarderLocksModel" (98 : Nat) ({ cls := "LarderLocksModel", name := "waitsFor", desc := "(I)I" } : Jvm.MethodName)) ∈ lw_all := lw_g (lw_at lw_m9 25 rfl) rfl
theorem q2030 : (Jvm.Cond.privateMethod ({ cls := "LarderLocksModel", name := "waitsFor", desc := "(I)I" } : Jvm.MethodName)) ∈ lw_tbl := lw_at lw_m9 26 rfl
theorem q2031 : (Jvm.Cond.instanceMethod ({ cls := "LarderLocksModel", name := "waitsFor", desc := "(I)I" } : Jvm.MethodName)) ∈ lw_all := lw_g (lw_at lw_m9 27 rfl) rfl
theorem q2032 : (Jvm.Cond.code ({ cls := "LarderLocksModel", name := "waitsFor", desc := "(I)I" } : Jvm.MethodName) prog_12_method_21_code (5 : Nat) (Option.some Jvm.ClassFile.FieldType.int)) ∈ lw_all := lw_g (lw_at lw_m9 28 rfl) rfl
theorem q2033 : (Jvm.Cond.methodLink "LarderLocksModel" (115 : Nat) ({ cls := "LarderLocksModel", name := "letsAll", desc := "(I)I" } : Jvm.MethodName)) ∈ lw_all := lw_g (lw_at lw_m9 29 rfl) rfl
theorem q2034 : (Jvm.Cond.privateMethod ({ cls := "LarderLocksModel", name := "letsAll", desc := "(I)I" } : Jvm.MethodName)) ∈ lw_tbl := lw_at lw_m9 30 rfl
theorem q2035 : (Jvm.Cond.instanceMethod ({ cls := "LarderLocksModel", name := "letsAll", desc := "(I)I" } : Jvm.MethodName)) ∈ lw_all := lw_g (lw_at lw_m9 31 rfl) rfl
theorem q2036 : (Jvm.Cond.code ({ cls := "LarderLocksModel", name := "letsAll", desc := "(I)I" } : Jvm.MethodName) prog_12_method_24_code (6 : Nat) (Option.some Jvm.ClassFile.FieldType.int)) ∈ lw_all := lw_g (lw_at lw_m9 32 rfl) rfl
theorem q2037 : (Jvm.Cond.methodLink "LarderLocksModel" (91 : Nat) ({ cls := "LarderLocksModel", name := "leaves", desc := "(I)V" } : Jvm.MethodName)) ∈ lw_all := lw_g (lw_at lw_m9 33 rfl) rfl
theorem q2038 : (Jvm.Cond.privateMethod ({ cls := "LarderLocksModel", name := "leaves", desc := "(I)V" } : Jvm.MethodName)) ∈ lw_tbl := lw_at lw_m9 34 rfl
theorem q2039 : (Jvm.Cond.instanceMethod ({ cls := "LarderLocksModel", name := "leaves", desc := "(I)V" } : Jvm.MethodName)) ∈ lw_all := lw_g (lw_at lw_m9 35 rfl) rfl
theorem q2040 : (Jvm.Cond.code ({ cls := "LarderLocksModel", name := "leaves", desc := "(I)V" } : Jvm.MethodName) prog_12_method_18_code (7 : Nat) (Option.none : Option Jvm.ClassFile.FieldType)) ∈ lw_all := lw_g (lw_at lw_m9 36 rfl) rfl
theorem q2041 : (Jvm.Cond.methodLink "LarderLocksModel" (105 : Nat) ({ cls := "LarderLocksModel", name := "gives", desc := "(I)I" } : Jvm.MethodName)) ∈ lw_all := lw_g (lw_at lw_m9 37 rfl) rfl
theorem q2042 : (Jvm.Cond.privateMethod ({ cls := "LarderLocksModel", name := "gives", desc := "(I)I" } : Jvm.MethodName)) ∈ lw_tbl := lw_at lw_m9 38 rfl
theorem q2043 : (Jvm.Cond.instanceMethod ({ cls := "LarderLocksModel", name := "gives", desc := "(I)I" } : Jvm.MethodName)) ∈ lw_all := lw_g (lw_at lw_m9 39 rfl) rfl
theorem q2044 : (Jvm.Cond.code ({ cls := "LarderLocksModel", name := "gives", desc := "(I)I" } : Jvm.MethodName) prog_12_method_19_code (5 : Nat) (Option.some Jvm.ClassFile.FieldType.int)) ∈ lw_all := lw_g (lw_at lw_m9 40 rfl) rfl
theorem q2045 : (Jvm.Cond.methodLink "LarderLocksModel" (130 : Nat) ({ cls := "LarderLocksModel", name := "counts", desc := "()V" } : Jvm.MethodName)) ∈ lw_all := lw_g (lw_at lw_m9 41 rfl) rfl
theorem q2046 : (Jvm.Cond.privateMethod ({ cls := "LarderLocksModel", name := "counts", desc := "()V" } : Jvm.MethodName)) ∈ lw_tbl := lw_at lw_m9 42 rfl
theorem q2047 : (Jvm.Cond.instanceMethod ({ cls := "LarderLocksModel", name := "counts", desc := "()V" } : Jvm.MethodName)) ∈ lw_all := lw_g (lw_at lw_m9 43 rfl) rfl
theorem q2048 : (Jvm.Cond.code ({ cls := "LarderLocksModel", name := "counts", desc := "()V" } : Jvm.MethodName) prog_12_method_27_code (2 : Nat) (Option.none : Option Jvm.ClassFile.FieldType)) ∈ lw_all := lw_g (lw_at lw_m9 44 rfl) rfl
theorem q2050 : (Jvm.Cond.instanceMethod ({ cls := "LarderLocksModel", name := "free", desc := "(II)I" } : Jvm.MethodName)) ∈ lw_all := lw_g (lw_at lw_m9 46 rfl) rfl
theorem q2051 : (Jvm.Cond.selects "LarderLocksModel" ({ cls := "LarderLocksModel", name := "free", desc := "(II)I" } : Jvm.MethodName) ({ cls := "LarderLocksModel", name := "free", desc := "(II)I" } : Jvm.MethodName)) ∈ lw_all := lw_g (lw_at lw_m9 47 rfl) rfl
theorem q2052 : (Jvm.Cond.code ({ cls := "LarderLocksModel", name := "free", desc := "(II)I" } : Jvm.MethodName) prog_12_method_32_code (3 : Nat) (Option.some Jvm.ClassFile.FieldType.int)) ∈ lw_all := lw_g (lw_at lw_m9 48 rfl) rfl
theorem q2054 : (Jvm.Cond.instanceMethod ({ cls := "LarderLocksModel", name := "end", desc := "(I)I" } : Jvm.MethodName)) ∈ lw_all := lw_g (lw_at lw_m9 50 rfl) rfl
theorem q2055 : (Jvm.Cond.selects "LarderLocksModel" ({ cls := "LarderLocksModel", name := "end", desc := "(I)I" } : Jvm.MethodName) ({ cls := "LarderLocksModel", name := "end", desc := "(I)I" } : Jvm.MethodName)) ∈ lw_all := lw_g (lw_at lw_m9 51 rfl) rfl
theorem q2056 : (Jvm.Cond.code ({ cls := "LarderLocksModel", name := "end", desc := "(I)I" } : Jvm.MethodName) prog_12_method_33_code (3 : Nat) (Option.some Jvm.ClassFile.FieldType.int)) ∈ lw_all := lw_g (lw_at lw_m9 52 rfl) rfl
theorem q2058 : (Jvm.Cond.instanceMethod ({ cls := "LarderLocksModel", name := "holds", desc := "(II)I" } : Jvm.MethodName)) ∈ lw_all := lw_g (lw_at lw_m9 54 rfl) rfl
theorem q2059 : (Jvm.Cond.selects "LarderLocksModel" ({ cls := "LarderLocksModel", name := "holds", desc := "(II)I" } : Jvm.MethodName) ({ cls := "LarderLocksModel", name := "holds", desc := "(II)I" } : Jvm.MethodName)) ∈ lw_all := lw_g (lw_at lw_m9 55 rfl) rfl
theorem q2060 : (Jvm.Cond.code ({ cls := "LarderLocksModel", name := "holds", desc := "(II)I" } : Jvm.MethodName) prog_12_method_34_code (3 : Nat) (Option.some Jvm.ClassFile.FieldType.int)) ∈ lw_all := lw_g (lw_at lw_m9 56 rfl) rfl
theorem q2062 : (Jvm.Cond.instanceMethod ({ cls := "LarderLocksModel", name := "maidOf", desc := "(II)I" } : Jvm.MethodName)) ∈ lw_all := lw_g (lw_at lw_m9 58 rfl) rfl
theorem q2063 : (Jvm.Cond.selects "LarderLocksModel" ({ cls := "LarderLocksModel", name := "maidOf", desc := "(II)I" } : Jvm.MethodName) ({ cls := "LarderLocksModel", name := "maidOf", desc := "(II)I" } : Jvm.MethodName)) ∈ lw_all := lw_g (lw_at lw_m9 59 rfl) rfl
theorem q2064 : (Jvm.Cond.code ({ cls := "LarderLocksModel", name := "maidOf", desc := "(II)I" } : Jvm.MethodName) prog_12_method_37_code (3 : Nat) (Option.some Jvm.ClassFile.FieldType.int)) ∈ lw_all := lw_g (lw_at lw_m9 60 rfl) rfl
theorem q2065 : (Jvm.Cond.methodLink "LarderLocksModel" (146 : Nat) ({ cls := "LarderLocksModel", name := "locksOf", desc := "(I)I" } : Jvm.MethodName)) ∈ lw_all := lw_g (lw_at lw_m9 61 rfl) rfl
theorem q2066 : (Jvm.Cond.privateMethod ({ cls := "LarderLocksModel", name := "locksOf", desc := "(I)I" } : Jvm.MethodName)) ∈ lw_tbl := lw_at lw_m9 62 rfl
theorem q2067 : (Jvm.Cond.instanceMethod ({ cls := "LarderLocksModel", name := "locksOf", desc := "(I)I" } : Jvm.MethodName)) ∈ lw_all := lw_g (lw_at lw_m9 63 rfl) rfl
theorem q2068 : (Jvm.Cond.code ({ cls := "LarderLocksModel", name := "locksOf", desc := "(I)I" } : Jvm.MethodName) prog_12_method_35_code (4 : Nat) (Option.some Jvm.ClassFile.FieldType.int)) ∈ lw_all := lw_g (lw_at lw_m9 64 rfl) rfl
theorem q2069 : (Jvm.Cond.methodLink "LarderLocksModel" (149 : Nat) ({ cls := "LarderLocksModel", name := "ahead", desc := "(I)I" } : Jvm.MethodName)) ∈ lw_all := lw_g (lw_at lw_m9 65 rfl) rfl
theorem q2070 : (Jvm.Cond.privateMethod ({ cls := "LarderLocksModel", name := "ahead", desc := "(I)I" } : Jvm.MethodName)) ∈ lw_tbl := lw_at lw_m9 66 rfl
theorem q2071 : (Jvm.Cond.instanceMethod ({ cls := "LarderLocksModel", name := "ahead", desc := "(I)I" } : Jvm.MethodName)) ∈ lw_all := lw_g (lw_at lw_m9 67 rfl) rfl
theorem q2072 : (Jvm.Cond.code ({ cls := "LarderLocksModel", name := "ahead", desc := "(I)I" } : Jvm.MethodName) prog_12_method_36_code (4 : Nat) (Option.some Jvm.ClassFile.FieldType.int)) ∈ lw_all := lw_g (lw_at lw_m9 68 rfl) rfl
theorem q2074 : (Jvm.Cond.instanceMethod ({ cls := "LarderLocksModel", name := "heldBy", desc := "(II)I" } : Jvm.MethodName)) ∈ lw_all := lw_g (lw_at lw_m9 70 rfl) rfl
theorem q2075 : (Jvm.Cond.selects "LarderLocksModel" ({ cls := "LarderLocksModel", name := "heldBy", desc := "(II)I" } : Jvm.MethodName) ({ cls := "LarderLocksModel", name := "heldBy", desc := "(II)I" } : Jvm.MethodName)) ∈ lw_all := lw_g (lw_at lw_m9 71 rfl) rfl
theorem q2076 : (Jvm.Cond.code ({ cls := "LarderLocksModel", name := "heldBy", desc := "(II)I" } : Jvm.MethodName) prog_12_method_38_code (5 : Nat) (Option.some Jvm.ClassFile.FieldType.int)) ∈ lw_all := lw_g (lw_at lw_m9 72 rfl) rfl
theorem q2078 : (Jvm.Cond.instanceMethod ({ cls := "LarderLocksModel", name := "shelfOf", desc := "(II)I" } : Jvm.MethodName)) ∈ lw_all := lw_g (lw_at lw_m9 74 rfl) rfl
theorem q2079 : (Jvm.Cond.selects "LarderLocksModel" ({ cls := "LarderLocksModel", name := "shelfOf", desc := "(II)I" } : Jvm.MethodName) ({ cls := "LarderLocksModel", name := "shelfOf", desc := "(II)I" } : Jvm.MethodName)) ∈ lw_all := lw_g (lw_at lw_m9 75 rfl) rfl
theorem q2080 : (Jvm.Cond.code ({ cls := "LarderLocksModel", name := "shelfOf", desc := "(II)I" } : Jvm.MethodName) prog_12_method_42_code (3 : Nat) (Option.some Jvm.ClassFile.FieldType.int)) ∈ lw_all := lw_g (lw_at lw_m9 76 rfl) rfl
theorem q2081 : (Jvm.Cond.methodLink "LarderLocksModel" (152 : Nat) ({ cls := "LarderLocksModel", name := "holders", desc := "(I)I" } : Jvm.MethodName)) ∈ lw_all := lw_g (lw_at lw_m9 77 rfl) rfl
theorem q2082 : (Jvm.Cond.privateMethod ({ cls := "LarderLocksModel", name := "holders", desc := "(I)I" } : Jvm.MethodName)) ∈ lw_tbl := lw_at lw_m9 78 rfl
theorem q2083 : (Jvm.Cond.instanceMethod ({ cls := "LarderLocksModel", name := "holders", desc := "(I)I" } : Jvm.MethodName)) ∈ lw_all := lw_g (lw_at lw_m9 79 rfl) rfl
theorem q2084 : (Jvm.Cond.code ({ cls := "LarderLocksModel", name := "holders", desc := "(I)I" } : Jvm.MethodName) prog_12_method_39_code (4 : Nat) (Option.some Jvm.ClassFile.FieldType.int)) ∈ lw_all := lw_g (lw_at lw_m9 80 rfl) rfl
theorem q2085 : (Jvm.Cond.methodLink "LarderLocksModel" (155 : Nat) ({ cls := "LarderLocksModel", name := "howHeld", desc := "(I)I" } : Jvm.MethodName)) ∈ lw_all := lw_g (lw_at lw_m9 81 rfl) rfl
theorem q2086 : (Jvm.Cond.privateMethod ({ cls := "LarderLocksModel", name := "howHeld", desc := "(I)I" } : Jvm.MethodName)) ∈ lw_tbl := lw_at lw_m9 82 rfl
theorem q2087 : (Jvm.Cond.instanceMethod ({ cls := "LarderLocksModel", name := "howHeld", desc := "(I)I" } : Jvm.MethodName)) ∈ lw_all := lw_g (lw_at lw_m9 83 rfl) rfl
theorem q2088 : (Jvm.Cond.code ({ cls := "LarderLocksModel", name := "howHeld", desc := "(I)I" } : Jvm.MethodName) prog_12_method_40_code (4 : Nat) (Option.some Jvm.ClassFile.FieldType.int)) ∈ lw_all := lw_g (lw_at lw_m9 84 rfl) rfl
theorem q2089 : (Jvm.Cond.methodLink "LarderLocksModel" (158 : Nat) ({ cls := "LarderLocksModel", name := "soleWaiters", desc := "(I)I" } : Jvm.MethodName)) ∈ lw_all := lw_g (lw_at lw_m9 85 rfl) rfl
theorem q2090 : (Jvm.Cond.privateMethod ({ cls := "LarderLocksModel", name := "soleWaiters", desc := "(I)I" } : Jvm.MethodName)) ∈ lw_tbl := lw_at lw_m9 86 rfl
theorem q2091 : (Jvm.Cond.instanceMethod ({ cls := "LarderLocksModel", name := "soleWaiters", desc := "(I)I" } : Jvm.MethodName)) ∈ lw_all := lw_g (lw_at lw_m9 87 rfl) rfl
theorem q2092 : (Jvm.Cond.code ({ cls := "LarderLocksModel", name := "soleWaiters", desc := "(I)I" } : Jvm.MethodName) prog_12_method_41_code (4 : Nat) (Option.some Jvm.ClassFile.FieldType.int)) ∈ lw_all := lw_g (lw_at lw_m9 88 rfl) rfl
theorem q2094 : (Jvm.Cond.instanceMethod ({ cls := "LarderLocksModel", name := "holder", desc := "(II)I" } : Jvm.MethodName)) ∈ lw_all := lw_g (lw_at lw_m9 90 rfl) rfl
theorem q2095 : (Jvm.Cond.selects "LarderLocksModel" ({ cls := "LarderLocksModel", name := "holder", desc := "(II)I" } : Jvm.MethodName) ({ cls := "LarderLocksModel", name := "holder", desc := "(II)I" } : Jvm.MethodName)) ∈ lw_all := lw_g (lw_at lw_m9 91 rfl) rfl
theorem q2096 : (Jvm.Cond.code ({ cls := "LarderLocksModel", name := "holder", desc := "(II)I" } : Jvm.MethodName) prog_12_method_43_code (5 : Nat) (Option.some Jvm.ClassFile.FieldType.int)) ∈ lw_all := lw_g (lw_at lw_m9 92 rfl) rfl
theorem q2098 : (Jvm.Cond.instanceMethod ({ cls := "LarderLocksModel", name := "waiter", desc := "(II)I" } : Jvm.MethodName)) ∈ lw_all := lw_g (lw_at lw_m9 94 rfl) rfl
theorem q2099 : (Jvm.Cond.selects "LarderLocksModel" ({ cls := "LarderLocksModel", name := "waiter", desc := "(II)I" } : Jvm.MethodName) ({ cls := "LarderLocksModel", name := "waiter", desc := "(II)I" } : Jvm.MethodName)) ∈ lw_all := lw_g (lw_at lw_m9 95 rfl) rfl
theorem q2100 : (Jvm.Cond.code ({ cls := "LarderLocksModel", name := "waiter", desc := "(II)I" } : Jvm.MethodName) prog_12_method_44_code (3 : Nat) (Option.some Jvm.ClassFile.FieldType.int)) ∈ lw_all := lw_g (lw_at lw_m9 96 rfl) rfl
theorem q2102 : (Jvm.Cond.instanceMethod ({ cls := "LarderLocksModel", name := "wouldRing", desc := "(IIZ)I" } : Jvm.MethodName)) ∈ lw_all := lw_g (lw_at lw_m9 98 rfl) rfl
theorem q2103 : (Jvm.Cond.selects "LarderLocksModel" ({ cls := "LarderLocksModel", name := "wouldRing", desc := "(IIZ)I" } : Jvm.MethodName) ({ cls := "LarderLocksModel", name := "wouldRing", desc := "(IIZ)I" } : Jvm.MethodName)) ∈ lw_all := lw_g (lw_at lw_m9 99 rfl) rfl
theorem q2104 : (Jvm.Cond.code ({ cls := "LarderLocksModel", name := "wouldRing", desc := "(IIZ)I" } : Jvm.MethodName) prog_12_method_45_code (6 : Nat) (Option.some Jvm.ClassFile.FieldType.int)) ∈ lw_all := lw_g (lw_at lw_m9 100 rfl) rfl
theorem q2106 : (Jvm.Cond.instanceMethod ({ cls := "LarderLocksModel", name := "wouldRingAgain", desc := "(IIZ)I" } : Jvm.MethodName)) ∈ lw_all := lw_g (lw_at lw_m9 102 rfl) rfl
theorem q2107 : (Jvm.Cond.selects "LarderLocksModel" ({ cls := "LarderLocksModel", name := "wouldRingAgain", desc := "(IIZ)I" } : Jvm.MethodName) ({ cls := "LarderLocksModel", name := "wouldRingAgain", desc := "(IIZ)I" } : Jvm.MethodName)) ∈ lw_all := lw_g (lw_at lw_m9 103 rfl) rfl
theorem q2108 : (Jvm.Cond.code ({ cls := "LarderLocksModel", name := "wouldRingAgain", desc := "(IIZ)I" } : Jvm.MethodName) prog_12_method_46_code (4 : Nat) (Option.some Jvm.ClassFile.FieldType.int)) ∈ lw_all := lw_g (lw_at lw_m9 104 rfl) rfl
theorem q2109 : (Jvm.Cond.methodLink "LarderLocksModel" (161 : Nat) ({ cls := "LarderLocksModel", name := "wouldRing", desc := "(IIZ)I" } : Jvm.MethodName)) ∈ lw_all := lw_g (lw_at lw_m9 105 rfl) rfl
theorem q2111 : (Jvm.Cond.instanceMethod ({ cls := "LarderLocksModel", name := "would", desc := "(IIZ)I" } : Jvm.MethodName)) ∈ lw_all := lw_g (lw_at lw_m9 107 rfl) rfl
theorem q2112 : (Jvm.Cond.selects "LarderLocksModel" ({ cls := "LarderLocksModel", name := "would", desc := "(IIZ)I" } : Jvm.MethodName) ({ cls := "LarderLocksModel", name := "would", desc := "(IIZ)I" } : Jvm.MethodName)) ∈ lw_all := lw_g (lw_at lw_m9 108 rfl) rfl
theorem q2113 : (Jvm.Cond.code ({ cls := "LarderLocksModel", name := "would", desc := "(IIZ)I" } : Jvm.MethodName) prog_12_method_47_code (6 : Nat) (Option.some Jvm.ClassFile.FieldType.int)) ∈ lw_all := lw_g (lw_at lw_m9 109 rfl) rfl
theorem q2115 : (Jvm.Cond.instanceMethod ({ cls := "LarderLocksModel", name := "chain", desc := "(I)I" } : Jvm.MethodName)) ∈ lw_all := lw_g (lw_at lw_m9 111 rfl) rfl
theorem q2116 : (Jvm.Cond.selects "LarderLocksModel" ({ cls := "LarderLocksModel", name := "chain", desc := "(I)I" } : Jvm.MethodName) ({ cls := "LarderLocksModel", name := "chain", desc := "(I)I" } : Jvm.MethodName)) ∈ lw_all := lw_g (lw_at lw_m9 112 rfl) rfl
theorem q2117 : (Jvm.Cond.code ({ cls := "LarderLocksModel", name := "chain", desc := "(I)I" } : Jvm.MethodName) prog_12_method_49_code (2 : Nat) (Option.some Jvm.ClassFile.FieldType.int)) ∈ lw_all := lw_g (lw_at lw_m9 113 rfl) rfl
theorem q2118 : (Jvm.Cond.methodLink "LarderLocksModel" (165 : Nat) ({ cls := "LarderLocksModel", name := "chainFrom", desc := "(I)I" } : Jvm.MethodName)) ∈ lw_all := lw_g (lw_at lw_m9 114 rfl) rfl
theorem q2119 : (Jvm.Cond.privateMethod ({ cls := "LarderLocksModel", name := "chainFrom", desc := "(I)I" } : Jvm.MethodName)) ∈ lw_tbl := lw_at lw_m9 115 rfl
theorem q2120 : (Jvm.Cond.instanceMethod ({ cls := "LarderLocksModel", name := "chainFrom", desc := "(I)I" } : Jvm.MethodName)) ∈ lw_all := lw_g (lw_at lw_m9 116 rfl) rfl
theorem q2121 : (Jvm.Cond.code ({ cls := "LarderLocksModel", name := "chainFrom", desc := "(I)I" } : Jvm.MethodName) prog_12_method_48_code (6 : Nat) (Option.some Jvm.ClassFile.FieldType.int)) ∈ lw_all := lw_g (lw_at lw_m9 117 rfl) rfl
theorem q2123 : (Jvm.Cond.instanceMethod ({ cls := "LarderLocksModel", name := "waitedFor", desc := "(I)I" } : Jvm.MethodName)) ∈ lw_all := lw_g (lw_at lw_m9 119 rfl) rfl
theorem q2124 : (Jvm.Cond.selects "LarderLocksModel" ({ cls := "LarderLocksModel", name := "waitedFor", desc := "(I)I" } : Jvm.MethodName) ({ cls := "LarderLocksModel", name := "waitedFor", desc := "(I)I" } : Jvm.MethodName)) ∈ lw_all := lw_g (lw_at lw_m9 120 rfl) rfl
theorem q2125 : (Jvm.Cond.code ({ cls := "LarderLocksModel", name := "waitedFor", desc := "(I)I" } : Jvm.MethodName) prog_12_method_50_code (4 : Nat) (Option.some Jvm.ClassFile.FieldType.int)) ∈ lw_all := lw_g (lw_at lw_m9 121 rfl) rfl
theorem q2127 : (Jvm.Cond.instanceMethod ({ cls := "LarderLocksModel", name := "needed", desc := "(I)I" } : Jvm.MethodName)) ∈ lw_all := lw_g (lw_at lw_m9 123 rfl) rfl
theorem q2128 : (Jvm.Cond.selects "LarderLocksModel" ({ cls := "LarderLocksModel", name := "needed", desc := "(I)I" } : Jvm.MethodName) ({ cls := "LarderLocksModel", name := "needed", desc := "(I)I" } : Jvm.MethodName)) ∈ lw_all := lw_g (lw_at lw_m9 124 rfl) rfl
theorem q2129 : (Jvm.Cond.code ({ cls := "LarderLocksModel", name := "needed", desc := "(I)I" } : Jvm.MethodName) prog_12_method_52_code (5 : Nat) (Option.some Jvm.ClassFile.FieldType.int)) ∈ lw_all := lw_g (lw_at lw_m9 125 rfl) rfl
theorem q2130 : (Jvm.Cond.methodLink "LarderLocksModel" (168 : Nat) ({ cls := "LarderLocksModel", name := "isNeeded", desc := "(II)Z" } : Jvm.MethodName)) ∈ lw_all := lw_g (lw_at lw_m9 126 rfl) rfl
theorem q2131 : (Jvm.Cond.privateMethod ({ cls := "LarderLocksModel", name := "isNeeded", desc := "(II)Z" } : Jvm.MethodName)) ∈ lw_tbl := lw_at lw_m9 127 rfl
theorem q2132 : (Jvm.Cond.instanceMethod ({ cls := "LarderLocksModel", name := "isNeeded", desc := "(II)Z" } : Jvm.MethodName)) ∈ lw_all := lw_g (lw_at lw_m9 128 rfl) rfl
theorem q2133 : (Jvm.Cond.code ({ cls := "LarderLocksModel", name := "isNeeded", desc := "(II)Z" } : Jvm.MethodName) prog_12_method_51_code (5 : Nat) (Option.some Jvm.ClassFile.FieldType.boolean)) ∈ lw_all := lw_g (lw_at lw_m9 129 rfl) rfl
theorem q2135 : (Jvm.Cond.instanceMethod ({ cls := "LarderLocksModel", name := "ranked", desc := "(I)I" } : Jvm.MethodName)) ∈ lw_all := lw_g (lw_at lw_m9 131 rfl) rfl
theorem q2136 : (Jvm.Cond.selects "LarderLocksModel" ({ cls := "LarderLocksModel", name := "ranked", desc := "(I)I" } : Jvm.MethodName) ({ cls := "LarderLocksModel", name := "ranked", desc := "(I)I" } : Jvm.MethodName)) ∈ lw_all := lw_g (lw_at lw_m9 132 rfl) rfl
theorem q2137 : (Jvm.Cond.code ({ cls := "LarderLocksModel", name := "ranked", desc := "(I)I" } : Jvm.MethodName) prog_12_method_54_code (5 : Nat) (Option.some Jvm.ClassFile.FieldType.int)) ∈ lw_all := lw_g (lw_at lw_m9 133 rfl) rfl
theorem q2138 : (Jvm.Cond.methodLink "LarderLocksModel" (172 : Nat) ({ cls := "LarderLocksModel", name := "isAhead", desc := "(II)Z" } : Jvm.MethodName)) ∈ lw_all := lw_g (lw_at lw_m9 134 rfl) rfl
theorem q2139 : (Jvm.Cond.privateMethod ({ cls := "LarderLocksModel", name := "isAhead", desc := "(II)Z" } : Jvm.MethodName)) ∈ lw_tbl := lw_at lw_m9 135 rfl
theorem q2140 : (Jvm.Cond.instanceMethod ({ cls := "LarderLocksModel", name := "isAhead", desc := "(II)Z" } : Jvm.MethodName)) ∈ lw_all := lw_g (lw_at lw_m9 136 rfl) rfl
theorem q2141 : (Jvm.Cond.code ({ cls := "LarderLocksModel", name := "isAhead", desc := "(II)Z" } : Jvm.MethodName) prog_12_method_53_code (5 : Nat) (Option.some Jvm.ClassFile.FieldType.boolean)) ∈ lw_all := lw_g (lw_at lw_m9 137 rfl) rfl
theorem q2143 : (Jvm.Cond.instanceMethod ({ cls := "LarderLocksModel", name := "append", desc := "(I)I" } : Jvm.MethodName)) ∈ lw_all := lw_g (lw_at lw_m9 139 rfl) rfl
theorem q2144 : (Jvm.Cond.selects "LarderLocksModel" ({ cls := "LarderLocksModel", name := "append", desc := "(I)I" } : Jvm.MethodName) ({ cls := "LarderLocksModel", name := "append", desc := "(I)I" } : Jvm.MethodName)) ∈ lw_all := lw_g (lw_at lw_m9 140 rfl) rfl
theorem q2145 : (Jvm.Cond.code ({ cls := "LarderLocksModel", name := "append", desc := "(I)I" } : Jvm.MethodName) prog_12_method_55_code (2 : Nat) (Option.some Jvm.ClassFile.FieldType.int)) ∈ lw_all := lw_g (lw_at lw_m9 141 rfl) rfl
theorem q2147 : (Jvm.Cond.instanceMethod ({ cls := "LarderLocksModel", name := "run", desc := "()I" } : Jvm.MethodName)) ∈ lw_all := lw_g (lw_at lw_m9 143 rfl) rfl
theorem q2148 : (Jvm.Cond.selects "LarderLocksModel" ({ cls := "LarderLocksModel", name := "run", desc := "()I" } : Jvm.MethodName) ({ cls := "LarderLocksModel", name := "run", desc := "()I" } : Jvm.MethodName)) ∈ lw_all := lw_g (lw_at lw_m9 144 rfl) rfl
theorem q2149 : (Jvm.Cond.code ({ cls := "LarderLocksModel", name := "run", desc := "()I" } : Jvm.MethodName) prog_12_method_63_code (3 : Nat) (Option.some Jvm.ClassFile.FieldType.int)) ∈ lw_all := lw_g (lw_at lw_m9 145 rfl) rfl
theorem q2150 : (Jvm.Cond.methodLink "LarderLocksModel" (222 : Nat) ({ cls := "LarderLocksModel", name := "isText", desc := "()Z" } : Jvm.MethodName)) ∈ lw_all := lw_g (lw_at lw_m9 146 rfl) rfl
theorem q2151 : (Jvm.Cond.privateMethod ({ cls := "LarderLocksModel", name := "isText", desc := "()Z" } : Jvm.MethodName)) ∈ lw_tbl := lw_at lw_m9 147 rfl
theorem q2152 : (Jvm.Cond.instanceMethod ({ cls := "LarderLocksModel", name := "isText", desc := "()Z" } : Jvm.MethodName)) ∈ lw_all := lw_g (lw_at lw_m9 148 rfl) rfl
theorem q2153 : (Jvm.Cond.code ({ cls := "LarderLocksModel", name := "isText", desc := "()Z" } : Jvm.MethodName) prog_12_method_61_code (1 : Nat) (Option.some Jvm.ClassFile.FieldType.boolean)) ∈ lw_all := lw_g (lw_at lw_m9 149 rfl) rfl
theorem q2154 : (Jvm.Cond.methodLink "LarderLocksModel" (207 : Nat) ({ cls := "LarderLocksModel", name := "orderHere", desc := "()Z" } : Jvm.MethodName)) ∈ lw_all := lw_g (lw_at lw_m9 150 rfl) rfl
theorem q2155 : (Jvm.Cond.privateMethod ({ cls := "LarderLocksModel", name := "orderHere", desc := "()Z" } : Jvm.MethodName)) ∈ lw_tbl := lw_at lw_m9 151 rfl
theorem q2156 : (Jvm.Cond.instanceMethod ({ cls := "LarderLocksModel", name := "orderHere", desc := "()Z" } : Jvm.MethodName)) ∈ lw_all := lw_g (lw_at lw_m9 152 rfl) rfl
theorem q2157 : (Jvm.Cond.code ({ cls := "LarderLocksModel", name := "orderHere", desc := "()Z" } : Jvm.MethodName) prog_12_method_60_code (2 : Nat) (Option.some Jvm.ClassFile.FieldType.boolean)) ∈ lw_all := lw_g (lw_at lw_m9 153 rfl) rfl
theorem q2158 : (Jvm.Cond.methodLink "LarderLocksModel" (181 : Nat) ({ cls := "LarderLocksModel", name := "here", desc := "()I" } : Jvm.MethodName)) ∈ lw_all := lw_g (lw_at lw_m9 154 rfl) rfl
theorem q2159 : (Jvm.Cond.privateMethod ({ cls := "LarderLocksModel", name := "here", desc := "()I" } : Jvm.MethodName)) ∈ lw_tbl := lw_at lw_m9 155 rfl
theorem q2160 : (Jvm.Cond.instanceMethod ({ cls := "LarderLocksModel", name := "here", desc := "()I" } : Jvm.MethodName)) ∈ lw_all := lw_g (lw_at lw_m9 156 rfl) rfl
theorem q2161 : (Jvm.Cond.code ({ cls := "LarderLocksModel", name := "here", desc := "()I" } : Jvm.MethodName) prog_12_method_56_code (1 : Nat) (Option.some Jvm.ClassFile.FieldType.int)) ∈ lw_all := lw_g (lw_at lw_m9 157 rfl) rfl
theorem q2162 : (Jvm.Cond.stringRef "LarderLocksModel" (198 : Nat) "maid") ∈ lw_tbl := lw_at lw_m9 158 rfl
theorem q2163 : (Jvm.Cond.methodLink "LarderLocksModel" (200 : Nat) ({ cls := "LarderLocksModel", name := "word", desc := "(Ljava/lang/String;)Z" } : Jvm.MethodName)) ∈ lw_all := lw_g (lw_at lw_m9 159 rfl) rfl
theorem q2164 : (Jvm.Cond.privateMethod ({ cls := "LarderLocksModel", name := "word", desc := "(Ljava/lang/String;)Z" } : Jvm.MethodName)) ∈ lw_tbl := lw_at lw_m9 160 rfl
theorem q2165 : (Jvm.Cond.instanceMethod ({ cls := "LarderLocksModel", name := "word", desc := "(Ljava/lang/String;)Z" } : Jvm.MethodName)) ∈ lw_all := lw_g (lw_at lw_m9 161 rfl) rfl
theorem q2166 : (Jvm.Cond.code ({ cls := "LarderLocksModel", name := "word", desc := "(Ljava/lang/String;)Z" } : Jvm.MethodName) prog_12_method_58_code (3 : Nat) (Option.some Jvm.ClassFile.FieldType.boolean)) ∈ lw_all := lw_g (lw_at lw_m9 162 rfl) rfl
theorem q2167 : (Jvm.Cond.methodLink "LarderLocksModel" (184 : Nat) ({ cls := "java/lang/String", name := "length", desc := "()I" } : Jvm.MethodName)) ∈ lw_all := lw_g (lw_at lw_m9 163 rfl) rfl
theorem q2168 : (Jvm.Cond.methodLink "LarderLocksModel" (188 : Nat) ({ cls := "java/lang/String", name := "charAt", desc := "(I)C" } : Jvm.MethodName)) ∈ lw_all := lw_g (lw_at lw_m9 164 rfl) rfl
theorem q2169 : (Jvm.Cond.methodLink "LarderLocksModel" (192 : Nat) ({ cls := "LarderLocksModel", name := "skips", desc := "(I)Z" } : Jvm.MethodName)) ∈ lw_all := lw_g (lw_at lw_m9 165 rfl) rfl
theorem q2170 : (Jvm.Cond.privateMethod ({ cls := "LarderLocksModel", name := "skips", desc := "(I)Z" } : Jvm.MethodName)) ∈ lw_tbl := lw_at lw_m9 166 rfl
theorem q2171 : (Jvm.Cond.instanceMethod ({ cls := "LarderLocksModel", name := "skips", desc := "(I)Z" } : Jvm.MethodName)) ∈ lw_all := lw_g (lw_at lw_m9 167 rfl) rfl
theorem q2172 : (Jvm.Cond.code ({ cls := "LarderLocksModel", name := "skips", desc := "(I)Z" } : Jvm.MethodName) prog_12_method_57_code (2 : Nat) (Option.some Jvm.ClassFile.FieldType.boolean)) ∈ lw_all := lw_g (lw_at lw_m9 168 rfl) rfl
theorem q2173 : (Jvm.Cond.methodLink "LarderLocksModel" (204 : Nat) ({ cls := "LarderLocksModel", name := "figures", desc := "(II)Z" } : Jvm.MethodName)) ∈ lw_all := lw_g (lw_at lw_m9 169 rfl) rfl
theorem q2174 : (Jvm.Cond.privateMethod ({ cls := "LarderLocksModel", name := "figures", desc := "(II)Z" } : Jvm.MethodName)) ∈ lw_tbl := lw_at lw_m9 170 rfl
theorem q2175 : (Jvm.Cond.instanceMethod ({ cls := "LarderLocksModel", name := "figures", desc := "(II)Z" } : Jvm.MethodName)) ∈ lw_all := lw_g (lw_at lw_m9 171 rfl) rfl
theorem q2176 : (Jvm.Cond.code ({ cls := "LarderLocksModel", name := "figures", desc := "(II)Z" } : Jvm.MethodName) prog_12_method_59_code (4 : Nat) (Option.some Jvm.ClassFile.FieldType.boolean)) ∈ lw_all := lw_g (lw_at lw_m9 172 rfl) rfl
theorem q2177 : (Jvm.Cond.methodLink "LarderLocksModel" (225 : Nat) ({ cls := "LarderLocksModel", name := "carries", desc := "(I)I" } : Jvm.MethodName)) ∈ lw_all := lw_g (lw_at lw_m9 173 rfl) rfl
theorem q2178 : (Jvm.Cond.privateMethod ({ cls := "LarderLocksModel", name := "carries", desc := "(I)I" } : Jvm.MethodName)) ∈ lw_tbl := lw_at lw_m9 174 rfl
theorem q2179 : (Jvm.Cond.instanceMethod ({ cls := "LarderLocksModel", name := "carries", desc := "(I)I" } : Jvm.MethodName)) ∈ lw_all := lw_g (lw_at lw_m9 175 rfl) rfl
theorem q2180 : (Jvm.Cond.code ({ cls := "LarderLocksModel", name := "carries", desc := "(I)I" } : Jvm.MethodName) prog_12_method_62_code (2 : Nat) (Option.some Jvm.ClassFile.FieldType.int)) ∈ lw_all := lw_g (lw_at lw_m9 176 rfl) rfl
theorem q2181 : (Jvm.Cond.methodLink "LarderLocksModel" (211 : Nat) ({ cls := "LarderLocksModel", name := "maid", desc := "()I" } : Jvm.MethodName)) ∈ lw_all := lw_g (lw_at lw_m9 177 rfl) rfl
theorem q2182 : (Jvm.Cond.methodLink "LarderLocksModel" (213 : Nat) ({ cls := "LarderLocksModel", name := "end", desc := "(I)I" } : Jvm.MethodName)) ∈ lw_all := lw_g (lw_at lw_m9 178 rfl) rfl
theorem q2183 : (Jvm.Cond.methodLink "LarderLocksModel" (216 : Nat) ({ cls := "LarderLocksModel", name := "free", desc := "(II)I" } : Jvm.MethodName)) ∈ lw_all := lw_g (lw_at lw_m9 179 rfl) rfl
theorem q2184 : (Jvm.Cond.methodLink "LarderLocksModel" (219 : Nat) ({ cls := "LarderLocksModel", name := "want", desc := "(IIZ)I" } : Jvm.MethodName)) ∈ lw_all := lw_g (lw_at lw_m9 180 rfl) rfl
theorem q2186 : (Jvm.Cond.instanceMethod ({ cls := "LarderLocksModel", name := "tell", desc := "(I)I" } : Jvm.MethodName)) ∈ lw_all := lw_g (lw_at lw_m9 182 rfl) rfl
theorem q2187 : (Jvm.Cond.selects "LarderLocksModel" ({ cls := "LarderLocksModel", name := "tell", desc := "(I)I" } : Jvm.MethodName) ({ cls := "LarderLocksModel", name := "tell", desc := "(I)I" } : Jvm.MethodName)) ∈ lw_all := lw_g (lw_at lw_m9 183 rfl) rfl
theorem q2188 : (Jvm.Cond.code ({ cls := "LarderLocksModel", name := "tell", desc := "(I)I" } : Jvm.MethodName) prog_12_method_66_code (5 : Nat) (Option.some Jvm.ClassFile.FieldType.int)) ∈ lw_all := lw_g (lw_at lw_m9 184 rfl) rfl
theorem q2189 : (Jvm.Cond.methodLink "LarderLocksModel" (234 : Nat) ({ cls := "LarderLocksModel", name := "writesNumber", desc := "(I)V" } : Jvm.MethodName)) ∈ lw_all := lw_g (lw_at lw_m9 185 rfl) rfl
theorem q2190 : (Jvm.Cond.privateMethod ({ cls := "LarderLocksModel", name := "writesNumber", desc := "(I)V" } : Jvm.MethodName)) ∈ lw_tbl := lw_at lw_m9 186 rfl
theorem q2191 : (Jvm.Cond.instanceMethod ({ cls := "LarderLocksModel", name := "writesNumber", desc := "(I)V" } : Jvm.MethodName)) ∈ lw_all := lw_g (lw_at lw_m9 187 rfl) rfl
theorem q2192 : (Jvm.Cond.code ({ cls := "LarderLocksModel", name := "writesNumber", desc := "(I)V" } : Jvm.MethodName) prog_12_method_65_code (2 : Nat) (Option.none : Option Jvm.ClassFile.FieldType)) ∈ lw_all := lw_g (lw_at lw_m9 188 rfl) rfl
theorem q2193 : (Jvm.Cond.methodLink "LarderLocksModel" (231 : Nat) ({ cls := "LarderLocksModel", name := "writes", desc := "(I)V" } : Jvm.MethodName)) ∈ lw_all := lw_g (lw_at lw_m9 189 rfl) rfl
theorem q2194 : (Jvm.Cond.privateMethod ({ cls := "LarderLocksModel", name := "writes", desc := "(I)V" } : Jvm.MethodName)) ∈ lw_tbl := lw_at lw_m9 190 rfl
theorem q2195 : (Jvm.Cond.instanceMethod ({ cls := "LarderLocksModel", name := "writes", desc := "(I)V" } : Jvm.MethodName)) ∈ lw_all := lw_g (lw_at lw_m9 191 rfl) rfl
theorem q2196 : (Jvm.Cond.code ({ cls := "LarderLocksModel", name := "writes", desc := "(I)V" } : Jvm.MethodName) prog_12_method_64_code (2 : Nat) (Option.none : Option Jvm.ClassFile.FieldType)) ∈ lw_all := lw_g (lw_at lw_m9 192 rfl) rfl
theorem q2198 : (Jvm.Cond.instanceMethod ({ cls := "LarderLocksModel", name := "tellMaid", desc := "(I)I" } : Jvm.MethodName)) ∈ lw_all := lw_g (lw_at lw_m9 194 rfl) rfl
theorem q2199 : (Jvm.Cond.selects "LarderLocksModel" ({ cls := "LarderLocksModel", name := "tellMaid", desc := "(I)I" } : Jvm.MethodName) ({ cls := "LarderLocksModel", name := "tellMaid", desc := "(I)I" } : Jvm.MethodName)) ∈ lw_all := lw_g (lw_at lw_m9 195 rfl) rfl
theorem q2200 : (Jvm.Cond.code ({ cls := "LarderLocksModel", name := "tellMaid", desc := "(I)I" } : Jvm.MethodName) prog_12_method_67_code (3 : Nat) (Option.some Jvm.ClassFile.FieldType.int)) ∈ lw_all := lw_g (lw_at lw_m9 196 rfl) rfl
theorem q2202 : (Jvm.Cond.instanceMethod ({ cls := "LarderLocksModel", name := "character", desc := "(I)I" } : Jvm.MethodName)) ∈ lw_all := lw_g (lw_at lw_m9 198 rfl) rfl
theorem q2203 : (Jvm.Cond.selects "LarderLocksModel" ({ cls := "LarderLocksModel", name := "character", desc := "(I)I" } : Jvm.MethodName) ({ cls := "LarderLocksModel", name := "character", desc := "(I)I" } : Jvm.MethodName)) ∈ lw_all := lw_g (lw_at lw_m9 199 rfl) rfl
theorem q2204 : (Jvm.Cond.code ({ cls := "LarderLocksModel", name := "character", desc := "(I)I" } : Jvm.MethodName) prog_12_method_68_code (2 : Nat) (Option.some Jvm.ClassFile.FieldType.int)) ∈ lw_all := lw_g (lw_at lw_m9 200 rfl) rfl
theorem q2206 : (Jvm.Cond.instanceMethod ({ cls := "LarderLocksModel", name := "reason", desc := "(Z)I" } : Jvm.MethodName)) ∈ lw_all := lw_g (lw_at lw_m9 202 rfl) rfl
theorem q2207 : (Jvm.Cond.selects "LarderLocksModel" ({ cls := "LarderLocksModel", name := "reason", desc := "(Z)I" } : Jvm.MethodName) ({ cls := "LarderLocksModel", name := "reason", desc := "(Z)I" } : Jvm.MethodName)) ∈ lw_all := lw_g (lw_at lw_m9 203 rfl) rfl
theorem q2208 : (Jvm.Cond.code ({ cls := "LarderLocksModel", name := "reason", desc := "(Z)I" } : Jvm.MethodName) prog_12_method_69_code (2 : Nat) (Option.some Jvm.ClassFile.FieldType.int)) ∈ lw_all := lw_g (lw_at lw_m9 204 rfl) rfl
theorem q2210 : (Jvm.Cond.instanceMethod ({ cls := "LarderLocksModel", name := "account", desc := "(I)I" } : Jvm.MethodName)) ∈ lw_all := lw_g (lw_at lw_m9 206 rfl) rfl
theorem q2211 : (Jvm.Cond.selects "LarderLocksModel" ({ cls := "LarderLocksModel", name := "account", desc := "(I)I" } : Jvm.MethodName) ({ cls := "LarderLocksModel", name := "account", desc := "(I)I" } : Jvm.MethodName)) ∈ lw_all := lw_g (lw_at lw_m9 207 rfl) rfl
theorem q2212 : (Jvm.Cond.code ({ cls := "LarderLocksModel", name := "account", desc := "(I)I" } : Jvm.MethodName) prog_12_method_73_code (2 : Nat) (Option.some Jvm.ClassFile.FieldType.int)) ∈ lw_all := lw_g (lw_at lw_m9 208 rfl) rfl
theorem q2213 : (Jvm.Cond.methodLink "LarderLocksModel" (237 : Nat) ({ cls := "LarderLocksModel", name := "waiting", desc := "()I" } : Jvm.MethodName)) ∈ lw_all := lw_g (lw_at lw_m9 209 rfl) rfl
theorem q2214 : (Jvm.Cond.privateMethod ({ cls := "LarderLocksModel", name := "waiting", desc := "()I" } : Jvm.MethodName)) ∈ lw_tbl := lw_at lw_m9 210 rfl
theorem q2215 : (Jvm.Cond.instanceMethod ({ cls := "LarderLocksModel", name := "waiting", desc := "()I" } : Jvm.MethodName)) ∈ lw_all := lw_g (lw_at lw_m9 211 rfl) rfl
theorem q2216 : (Jvm.Cond.code ({ cls := "LarderLocksModel", name := "waiting", desc := "()I" } : Jvm.MethodName) prog_12_method_70_code (3 : Nat) (Option.some Jvm.ClassFile.FieldType.int)) ∈ lw_all := lw_g (lw_at lw_m9 212 rfl) rfl
theorem q2217 : (Jvm.Cond.methodLink "LarderLocksModel" (240 : Nat) ({ cls := "LarderLocksModel", name := "locksThat", desc := "(I)I" } : Jvm.MethodName)) ∈ lw_all := lw_g (lw_at lw_m9 213 rfl) rfl
theorem q2218 : (Jvm.Cond.privateMethod ({ cls := "LarderLocksModel", name := "locksThat", desc := "(I)I" } : Jvm.MethodName)) ∈ lw_tbl := lw_at lw_m9 214 rfl
theorem q2219 : (Jvm.Cond.instanceMethod ({ cls := "LarderLocksModel", name := "locksThat", desc := "(I)I" } : Jvm.MethodName)) ∈ lw_all := lw_g (lw_at lw_m9 215 rfl) rfl
theorem q2220 : (Jvm.Cond.code ({ cls := "LarderLocksModel", name := "locksThat", desc := "(I)I" } : Jvm.MethodName) prog_12_method_71_code (4 : Nat) (Option.some Jvm.ClassFile.FieldType.int)) ∈ lw_all := lw_g (lw_at lw_m9 216 rfl) rfl
theorem q2221 : (Jvm.Cond.methodLink "LarderLocksModel" (243 : Nat) ({ cls := "LarderLocksModel", name := "bare", desc := "()I" } : Jvm.MethodName)) ∈ lw_all := lw_g (lw_at lw_m9 217 rfl) rfl
theorem q2222 : (Jvm.Cond.privateMethod ({ cls := "LarderLocksModel", name := "bare", desc := "()I" } : Jvm.MethodName)) ∈ lw_tbl := lw_at lw_m9 218 rfl
theorem q2223 : (Jvm.Cond.instanceMethod ({ cls := "LarderLocksModel", name := "bare", desc := "()I" } : Jvm.MethodName)) ∈ lw_all := lw_g (lw_at lw_m9 219 rfl) rfl
theorem q2224 : (Jvm.Cond.code ({ cls := "LarderLocksModel", name := "bare", desc := "()I" } : Jvm.MethodName) prog_12_method_72_code (3 : Nat) (Option.some Jvm.ClassFile.FieldType.int)) ∈ lw_all := lw_g (lw_at lw_m9 220 rfl) rfl
theorem q2226 : (Jvm.Cond.instanceMethod ({ cls := "LarderLocksModel", name := "isBalanced", desc := "()I" } : Jvm.MethodName)) ∈ lw_all := lw_g (lw_at lw_m9 222 rfl) rfl
theorem q2227 : (Jvm.Cond.selects "LarderLocksModel" ({ cls := "LarderLocksModel", name := "isBalanced", desc := "()I" } : Jvm.MethodName) ({ cls := "LarderLocksModel", name := "isBalanced", desc := "()I" } : Jvm.MethodName)) ∈ lw_all := lw_g (lw_at lw_m9 223 rfl) rfl
theorem q2228 : (Jvm.Cond.code ({ cls := "LarderLocksModel", name := "isBalanced", desc := "()I" } : Jvm.MethodName) prog_12_method_74_code (2 : Nat) (Option.some Jvm.ClassFile.FieldType.int)) ∈ lw_all := lw_g (lw_at lw_m9 224 rfl) rfl
theorem q2230 : (Jvm.Cond.instanceMethod ({ cls := "LarderLocksModel", name := "meanHeld", desc := "()D" } : Jvm.MethodName)) ∈ lw_all := lw_g (lw_at lw_m9 226 rfl) rfl
theorem q2231 : (Jvm.Cond.selects "LarderLocksModel" ({ cls := "LarderLocksModel", name := "meanHeld", desc := "()D" } : Jvm.MethodName) ({ cls := "LarderLocksModel", name := "meanHeld", desc := "()D" } : Jvm.MethodName)) ∈ lw_all := lw_g (lw_at lw_m9 227 rfl) rfl
theorem q2232 : (Jvm.Cond.code ({ cls := "LarderLocksModel", name := "meanHeld", desc := "()D" } : Jvm.MethodName) prog_12_method_75_code (1 : Nat) (Option.some Jvm.ClassFile.FieldType.double)) ∈ lw_all := lw_g (lw_at lw_m9 228 rfl) rfl
theorem q2234 : (Jvm.Cond.instanceMethod ({ cls := "LarderLocksModel", name := "waitingShare", desc := "()F" } : Jvm.MethodName)) ∈ lw_all := lw_g (lw_at lw_m9 230 rfl) rfl
theorem q2235 : (Jvm.Cond.selects "LarderLocksModel" ({ cls := "LarderLocksModel", name := "waitingShare", desc := "()F" } : Jvm.MethodName) ({ cls := "LarderLocksModel", name := "waitingShare", desc := "()F" } : Jvm.MethodName)) ∈ lw_all := lw_g (lw_at lw_m9 231 rfl) rfl
theorem q2236 : (Jvm.Cond.code ({ cls := "LarderLocksModel", name := "waitingShare", desc := "()F" } : Jvm.MethodName) prog_12_method_76_code (1 : Nat) (Option.some Jvm.ClassFile.FieldType.float)) ∈ lw_all := lw_g (lw_at lw_m9 232 rfl) rfl
theorem q2238 : (Jvm.Cond.instanceMethod ({ cls := "LarderLocksModel", name := "undo", desc := "()I" } : Jvm.MethodName)) ∈ lw_all := lw_g (lw_at lw_m9 234 rfl) rfl
theorem q2239 : (Jvm.Cond.selects "LarderLocksModel" ({ cls := "LarderLocksModel", name := "undo", desc := "()I" } : Jvm.MethodName) ({ cls := "LarderLocksModel", name := "undo", desc := "()I" } : Jvm.MethodName)) ∈ lw_all := lw_g (lw_at lw_m9 235 rfl) rfl
theorem q2240 : (Jvm.Cond.code ({ cls := "LarderLocksModel", name := "undo", desc := "()I" } : Jvm.MethodName) prog_12_method_77_code (1 : Nat) (Option.some Jvm.ClassFile.FieldType.int)) ∈ lw_all := lw_g (lw_at lw_m9 236 rfl) rfl
theorem q2242 : (Jvm.Cond.instanceMethod ({ cls := "LarderLocksModel", name := "save", desc := "()I" } : Jvm.MethodName)) ∈ lw_all := lw_g (lw_at lw_m9 238 rfl) rfl
theorem q2243 : (Jvm.Cond.selects "LarderLocksModel" ({ cls := "LarderLocksModel", name := "save", desc := "()I" } : Jvm.MethodName) ({ cls := "LarderLocksModel", name := "save", desc := "()I" } : Jvm.MethodName)) ∈ lw_all := lw_g (lw_at lw_m9 239 rfl) rfl
theorem q2244 : (Jvm.Cond.code ({ cls := "LarderLocksModel", name := "save", desc := "()I" } : Jvm.MethodName) prog_12_method_78_code (1 : Nat) (Option.some Jvm.ClassFile.FieldType.int)) ∈ lw_all := lw_g (lw_at lw_m10 0 rfl) rfl
theorem q2246 : (Jvm.Cond.instanceMethod ({ cls := "LarderLocksModel", name := "restore", desc := "()I" } : Jvm.MethodName)) ∈ lw_all := lw_g (lw_at lw_m10 2 rfl) rfl
theorem q2247 : (Jvm.Cond.selects "LarderLocksModel" ({ cls := "LarderLocksModel", name := "restore", desc := "()I" } : Jvm.MethodName) ({ cls := "LarderLocksModel", name := "restore", desc := "()I" } : Jvm.MethodName)) ∈ lw_all := lw_g (lw_at lw_m10 3 rfl) rfl
theorem q2248 : (Jvm.Cond.code ({ cls := "LarderLocksModel", name := "restore", desc := "()I" } : Jvm.MethodName) prog_12_method_79_code (1 : Nat) (Option.some Jvm.ClassFile.FieldType.int)) ∈ lw_all := lw_g (lw_at lw_m10 4 rfl) rfl
theorem q2279 : (Jvm.Cond.castable "LarderLocksModel" "java/lang/Object") ∈ lw_tbl := lw_at lw_m10 35 rfl
theorem in_X2 : ∀ w ∈ wsX20, w ∈ lw_all := lw_in wsX20 [1894, 1896, 1898, 1900, 1902, 1904, 1906, 1908, 1910, 1912, 1914, 1916, 1918, 1920, 1922, 1924, 1926, 1928] (by decide +kernel) (by decide +kernel)
