/-! LarderLocks$Refused -/
set_option maxRecDepth 100000
def RX3 : String := "LarderLocks$Refused"
def TX3 : u_T := fun k => match k with
  | 0 => ("java/lang/Throwable", "cause", "Ljava/lang/Throwable;", false)
  | 1 => ("java/lang/Throwable", "stackTrace", "[Ljava/lang/StackTraceElement;", false)
  | 2 => ("java/lang/Throwable", "suppressedExceptions", "Ljava/util/List;", false)
  | 3 => ("java/lang/Throwable", "detailMessage", "Ljava/lang/String;", false)
  | 4 => ("java/lang/Throwable", "backtrace", "Ljava/lang/Object;", false)
  | 5 => ("java/lang/Throwable", "depth", "I", false)
  | 6 => ("LarderLocks$Refused", "reason", "I", true)
  | _ => ("LarderLocks$Refused", "detail", "I", true)
def tyX3 : Nat → FieldType := fun k => match k with
  | 0 => .object "java/lang/Throwable"
  | 1 => .array (.object "java/lang/StackTraceElement")
  | 2 => .object "java/util/List"
  | 3 => .object "java/lang/String"
  | 4 => .object "java/lang/Object"
  | 5 => .int
  | 6 => .int
  | _ => .int
abbrev wsX30 : List Cond := u_ws RX3 TX3 8
theorem nmX3 : ∀ a, a < 8 → ∀ b, b < 8 → a ≠ b → (TX3 a).2.1 ≠ (TX3 b).2.1 := by decide +kernel
theorem tyX3_ok : ∀ k, k < 8 → parseFieldDescriptor (TX3 k).2.2.1 = some (tyX3 k) := by decide +kernel
abbrev cX3_init : ByteArray := prog_8_method_1_code
def yX3_init : MethodName := ⟨RX3, "<init>", "(II)V"⟩
def dkwX3_init_0 : List UInt8 := [42, 1, 1, 3, 3, 183, 0, 1, 42, 27, 181, 0, 7, 42, 28, 181, 0, 13, 177]
abbrev dktX3_init_0 : List UInt8 := dkwX3_init_0 ++ []
theorem dksX3_init_0 : cX3_init.data.toList.drop 0 = dktX3_init_0 := by decide +kernel
theorem dX3_init_0 : decode cX3_init 0 = .ok (.aload_n 0, 1) := dk_42 (dk_at dksX3_init_0 0 rfl rfl)
theorem dX3_init_1 : decode cX3_init 1 = .ok (.aconst_null, 1) := dk_1 (dk_at dksX3_init_0 1 rfl rfl)
theorem dX3_init_2 : decode cX3_init 2 = .ok (.aconst_null, 1) := dk_1 (dk_at dksX3_init_0 2 rfl rfl)
theorem dX3_init_3 : decode cX3_init 3 = .ok (.iconst 0, 1) := dk_3 (dk_at dksX3_init_0 3 rfl rfl)
theorem dX3_init_4 : decode cX3_init 4 = .ok (.iconst 0, 1) := dk_3 (dk_at dksX3_init_0 4 rfl rfl)
theorem dX3_init_5 : decode cX3_init 5 = .ok (.invokespecial 1, 3) := dk_183 0 1 (dk_at dksX3_init_0 5 rfl rfl)
theorem dX3_init_8 : decode cX3_init 8 = .ok (.aload_n 0, 1) := dk_42 (dk_at dksX3_init_0 8 rfl rfl)
theorem dX3_init_9 : decode cX3_init 9 = .ok (.iload_n 1, 1) := dk_27 (dk_at dksX3_init_0 9 rfl rfl)
theorem dX3_init_10 : decode cX3_init 10 = .ok (.putfield 7, 3) := dk_181 0 7 (dk_at dksX3_init_0 10 rfl rfl)
theorem dX3_init_13 : decode cX3_init 13 = .ok (.aload_n 0, 1) := dk_42 (dk_at dksX3_init_0 13 rfl rfl)
theorem dX3_init_14 : decode cX3_init 14 = .ok (.iload_n 2, 1) := dk_28 (dk_at dksX3_init_0 14 rfl rfl)
theorem dX3_init_15 : decode cX3_init 15 = .ok (.putfield 13, 3) := dk_181 0 13 (dk_at dksX3_init_0 15 rfl rfl)
theorem dX3_init_18 : decode cX3_init 18 = .ok (.return_, 1) := dk_177 (dk_at dksX3_init_0 18 rfl rfl)
theorem q118 : (Jvm.Cond.initialized "LarderLocks$Refused") ∈ lw_all := lw_g (lw_at lw_m1 34 rfl) rfl
theorem q245 : (Jvm.Cond.selects "LarderLocks$Refused" ({ cls := "java/lang/Object", name := "getClass", desc := "()Ljava/lang/Class;" } : Jvm.MethodName) ({ cls := "java/lang/Object", name := "getClass", desc := "()Ljava/lang/Class;" } : Jvm.MethodName)) ∈ lw_all := lw_g (lw_at lw_m1 161 rfl) rfl
theorem q650 : (Jvm.Cond.selects "LarderLocks$Refused" ({ cls := "java/lang/Throwable", name := "fillInStackTrace", desc := "()Ljava/lang/Throwable;" } : Jvm.MethodName) ({ cls := "java/lang/Throwable", name := "fillInStackTrace", desc := "()Ljava/lang/Throwable;" } : Jvm.MethodName)) ∈ lw_all := lw_g (lw_at lw_m3 86 rfl) rfl
theorem q675 : (Jvm.Cond.selects "LarderLocks$Refused" ({ cls := "java/lang/Throwable", name := "toString", desc := "()Ljava/lang/String;" } : Jvm.MethodName) ({ cls := "java/lang/Throwable", name := "toString", desc := "()Ljava/lang/String;" } : Jvm.MethodName)) ∈ lw_all := lw_g (lw_at lw_m3 111 rfl) rfl
theorem q685 : (Jvm.Cond.selects "LarderLocks$Refused" ({ cls := "java/lang/Throwable", name := "getLocalizedMessage", desc := "()Ljava/lang/String;" } : Jvm.MethodName) ({ cls := "java/lang/Throwable", name := "getLocalizedMessage", desc := "()Ljava/lang/String;" } : Jvm.MethodName)) ∈ lw_all := lw_g (lw_at lw_m3 121 rfl) rfl
theorem q694 : (Jvm.Cond.selects "LarderLocks$Refused" ({ cls := "java/lang/Throwable", name := "getMessage", desc := "()Ljava/lang/String;" } : Jvm.MethodName) ({ cls := "java/lang/Throwable", name := "getMessage", desc := "()Ljava/lang/String;" } : Jvm.MethodName)) ∈ lw_all := lw_g (lw_at lw_m3 130 rfl) rfl
theorem q962 : (Jvm.Cond.instantiable "LarderLocks$Refused" (8 : Nat)) ∈ lw_all := lw_g (lw_at lw_m4 158 rfl) rfl
theorem q963 : (Jvm.Cond.castable "LarderLocks$Refused" "LarderLocks$Refused") ∈ lw_tbl := lw_at lw_m4 159 rfl
theorem q964 : (Jvm.Cond.selects "LarderLocks$Refused" ({ cls := "java/lang/Throwable", name := "fillInStackTrace", desc := "(I)Ljava/lang/Throwable;" } : Jvm.MethodName) ({ cls := "java/lang/Throwable", name := "fillInStackTrace", desc := "(I)Ljava/lang/Throwable;" } : Jvm.MethodName)) ∈ lw_all := lw_g (lw_at lw_m4 160 rfl) rfl
theorem q965 : (Jvm.Cond.lays "LarderLocks$Refused" "java/lang/Throwable" "cause" "Ljava/lang/Throwable;") ∈ lw_all := lw_g (lw_at lw_m4 161 rfl) rfl
theorem q966 : (Jvm.Cond.lays "LarderLocks$Refused" "java/lang/Throwable" "stackTrace" "[Ljava/lang/StackTraceElement;") ∈ lw_all := lw_g (lw_at lw_m4 162 rfl) rfl
theorem q967 : (Jvm.Cond.lays "LarderLocks$Refused" "java/lang/Throwable" "suppressedExceptions" "Ljava/util/List;") ∈ lw_all := lw_g (lw_at lw_m4 163 rfl) rfl
theorem q968 : (Jvm.Cond.lays "LarderLocks$Refused" "java/lang/Throwable" "detailMessage" "Ljava/lang/String;") ∈ lw_all := lw_g (lw_at lw_m4 164 rfl) rfl
theorem q969 : (Jvm.Cond.lays "LarderLocks$Refused" "java/lang/Throwable" "backtrace" "Ljava/lang/Object;") ∈ lw_all := lw_g (lw_at lw_m4 165 rfl) rfl
theorem q971 : (Jvm.Cond.instanceMethod ({ cls := "LarderLocks$Refused", name := "<init>", desc := "(II)V" } : Jvm.MethodName)) ∈ lw_all := lw_g (lw_at lw_m4 167 rfl) rfl
theorem q972 : (Jvm.Cond.code ({ cls := "LarderLocks$Refused", name := "<init>", desc := "(II)V" } : Jvm.MethodName) prog_8_method_1_code (3 : Nat) (Option.none : Option Jvm.ClassFile.FieldType)) ∈ lw_all := lw_g (lw_at lw_m4 168 rfl) rfl
theorem q973 : (Jvm.Cond.methodLink "LarderLocks$Refused" (1 : Nat) ({ cls := "java/lang/Exception", name := "<init>", desc := "(Ljava/lang/String;Ljava/lang/Throwable;ZZ)V" } : Jvm.MethodName)) ∈ lw_all := lw_g (lw_at lw_m4 169 rfl) rfl
theorem q979 : (Jvm.Cond.fieldLink "LarderLocks$Refused" (7 : Nat) "LarderLocks$Refused" "reason" "I") ∈ lw_all := lw_g (lw_at lw_m4 175 rfl) rfl
theorem q981 : (Jvm.Cond.fieldLink "LarderLocks$Refused" (13 : Nat) "LarderLocks$Refused" "detail" "I") ∈ lw_all := lw_g (lw_at lw_m4 177 rfl) rfl
theorem q983 : (Jvm.Cond.laysFinal "LarderLocks$Refused" "LarderLocks$Refused" "reason" "I") ∈ lw_all := lw_g (lw_at lw_m4 179 rfl) rfl
theorem q984 : (Jvm.Cond.soleField "LarderLocks$Refused" "reason") ∈ lw_all := lw_g (lw_at lw_m4 180 rfl) rfl
theorem q985 : (Jvm.Cond.laysFinal "LarderLocks$Refused" "LarderLocks$Refused" "detail" "I") ∈ lw_all := lw_g (lw_at lw_m4 181 rfl) rfl
theorem q986 : (Jvm.Cond.soleField "LarderLocks$Refused" "detail") ∈ lw_all := lw_g (lw_at lw_m4 182 rfl) rfl
theorem q987 : (Jvm.Cond.lays "LarderLocks$Refused" "java/lang/Throwable" "depth" "I") ∈ lw_all := lw_g (lw_at lw_m4 183 rfl) rfl
theorem q988 : (Jvm.Cond.superclass "LarderLocks$Refused" "java/lang/Exception") ∈ lw_all := lw_g (lw_at lw_m4 184 rfl) rfl
theorem q2286 : (Jvm.Cond.castable "LarderLocks$Refused" "java/lang/Object") ∈ lw_tbl := lw_at lw_m10 42 rfl
theorem in_X3 : ∀ w ∈ wsX30, w ∈ lw_all := lw_in wsX30 [965, 966, 967, 968, 969, 987, 983, 985] (by decide +kernel) (by decide +kernel)

/-! LarderLocks$Wish -/
set_option maxRecDepth 100000
def RX4 : String := "LarderLocks$Wish"
def TX4 : u_T := fun k => match k with
  | 0 => ("LarderLocks$Wish", "maid", "I", true)
  | 1 => ("LarderLocks$Wish", "kind", "I", true)
  | _ => ("LarderLocks$Wish", "isStronger", "Z", true)
def tyX4 : Nat → FieldType := fun k => match k with
  | 0 => .int
  | 1 => .int
  | _ => .boolean
abbrev wsX40 : List Cond := u_ws RX4 TX4 3
theorem nmX4 : ∀ a, a < 3 → ∀ b, b < 3 → a ≠ b → (TX4 a).2.1 ≠ (TX4 b).2.1 := by decide +kernel
theorem tyX4_ok : ∀ k, k < 3 → parseFieldDescriptor (TX4 k).2.2.1 = some (tyX4 k) := by decide +kernel
abbrev cX4_init : ByteArray := prog_9_method_1_code
def yX4_init : MethodName := ⟨RX4, "<init>", "(IIZ)V"⟩
def dkwX4_init_0 : List UInt8 := [42, 183, 0, 1, 42, 27, 181, 0, 7, 42, 28, 181, 0, 13, 42, 29, 181, 0, 16, 177]
abbrev dktX4_init_0 : List UInt8 := dkwX4_init_0 ++ []
theorem dksX4_init_0 : cX4_init.data.toList.drop 0 = dktX4_init_0 := by decide +kernel
theorem dX4_init_0 : decode cX4_init 0 = .ok (.aload_n 0, 1) := dk_42 (dk_at dksX4_init_0 0 rfl rfl)
theorem dX4_init_1 : decode cX4_init 1 = .ok (.invokespecial 1, 3) := dk_183 0 1 (dk_at dksX4_init_0 1 rfl rfl)
theorem dX4_init_4 : decode cX4_init 4 = .ok (.aload_n 0, 1) := dk_42 (dk_at dksX4_init_0 4 rfl rfl)
theorem dX4_init_5 : decode cX4_init 5 = .ok (.iload_n 1, 1) := dk_27 (dk_at dksX4_init_0 5 rfl rfl)
theorem dX4_init_6 : decode cX4_init 6 = .ok (.putfield 7, 3) := dk_181 0 7 (dk_at dksX4_init_0 6 rfl rfl)
theorem dX4_init_9 : decode cX4_init 9 = .ok (.aload_n 0, 1) := dk_42 (dk_at dksX4_init_0 9 rfl rfl)
theorem dX4_init_10 : decode cX4_init 10 = .ok (.iload_n 2, 1) := dk_28 (dk_at dksX4_init_0 10 rfl rfl)
theorem dX4_init_11 : decode cX4_init 11 = .ok (.putfield 13, 3) := dk_181 0 13 (dk_at dksX4_init_0 11 rfl rfl)
theorem dX4_init_14 : decode cX4_init 14 = .ok (.aload_n 0, 1) := dk_42 (dk_at dksX4_init_0 14 rfl rfl)
theorem dX4_init_15 : decode cX4_init 15 = .ok (.iload_n 3, 1) := dk_29 (dk_at dksX4_init_0 15 rfl rfl)
theorem dX4_init_16 : decode cX4_init 16 = .ok (.putfield 16, 3) := dk_181 0 16 (dk_at dksX4_init_0 16 rfl rfl)
theorem dX4_init_19 : decode cX4_init 19 = .ok (.return_, 1) := dk_177 (dk_at dksX4_init_0 19 rfl rfl)
theorem q119 : (Jvm.Cond.initialized "LarderLocks$Wish") ∈ lw_all := lw_g (lw_at lw_m1 35 rfl) rfl
theorem q246 : (Jvm.Cond.selects "LarderLocks$Wish" ({ cls := "java/lang/Object", name := "getClass", desc := "()Ljava/lang/Class;" } : Jvm.MethodName) ({ cls := "java/lang/Object", name := "getClass", desc := "()Ljava/lang/Class;" } : Jvm.MethodName)) ∈ lw_all := lw_g (lw_at lw_m1 162 rfl) rfl
theorem q1072 : (Jvm.Cond.instantiable "LarderLocks$Wish" (3 : Nat)) ∈ lw_all := lw_g (lw_at lw_m5 28 rfl) rfl
theorem q1074 : (Jvm.Cond.instanceMethod ({ cls := "LarderLocks$Wish", name := "<init>", desc := "(IIZ)V" } : Jvm.MethodName)) ∈ lw_all := lw_g (lw_at lw_m5 30 rfl) rfl
theorem q1075 : (Jvm.Cond.code ({ cls := "LarderLocks$Wish", name := "<init>", desc := "(IIZ)V" } : Jvm.MethodName) prog_9_method_1_code (4 : Nat) (Option.none : Option Jvm.ClassFile.FieldType)) ∈ lw_all := lw_g (lw_at lw_m5 31 rfl) rfl
theorem q1076 : (Jvm.Cond.methodLink "LarderLocks$Wish" (1 : Nat) ({ cls := "java/lang/Object", name := "<init>", desc := "()V" } : Jvm.MethodName)) ∈ lw_all := lw_g (lw_at lw_m5 32 rfl) rfl
theorem q1077 : (Jvm.Cond.fieldLink "LarderLocks$Wish" (7 : Nat) "LarderLocks$Wish" "maid" "I") ∈ lw_all := lw_g (lw_at lw_m5 33 rfl) rfl
theorem q1080 : (Jvm.Cond.fieldLink "LarderLocks$Wish" (13 : Nat) "LarderLocks$Wish" "kind" "I") ∈ lw_all := lw_g (lw_at lw_m5 36 rfl) rfl
theorem q1082 : (Jvm.Cond.fieldLink "LarderLocks$Wish" (16 : Nat) "LarderLocks$Wish" "isStronger" "Z") ∈ lw_all := lw_g (lw_at lw_m5 38 rfl) rfl
theorem q1084 : (Jvm.Cond.laysFinal "LarderLocks$Wish" "LarderLocks$Wish" "maid" "I") ∈ lw_all := lw_g (lw_at lw_m5 40 rfl) rfl
theorem q1085 : (Jvm.Cond.soleField "LarderLocks$Wish" "maid") ∈ lw_all := lw_g (lw_at lw_m5 41 rfl) rfl
theorem q1086 : (Jvm.Cond.laysFinal "LarderLocks$Wish" "LarderLocks$Wish" "kind" "I") ∈ lw_all := lw_g (lw_at lw_m5 42 rfl) rfl
theorem q1087 : (Jvm.Cond.soleField "LarderLocks$Wish" "kind") ∈ lw_all := lw_g (lw_at lw_m5 43 rfl) rfl
theorem q1088 : (Jvm.Cond.laysFinal "LarderLocks$Wish" "LarderLocks$Wish" "isStronger" "Z") ∈ lw_all := lw_g (lw_at lw_m5 44 rfl) rfl
theorem q1089 : (Jvm.Cond.soleField "LarderLocks$Wish" "isStronger") ∈ lw_all := lw_g (lw_at lw_m5 45 rfl) rfl
theorem q1090 : (Jvm.Cond.superclass "LarderLocks$Wish" "java/lang/Object") ∈ lw_all := lw_g (lw_at lw_m5 46 rfl) rfl
theorem q2287 : (Jvm.Cond.castable "LarderLocks$Wish" "java/lang/Object") ∈ lw_tbl := lw_at lw_m10 43 rfl
theorem in_X4 : ∀ w ∈ wsX40, w ∈ lw_all := lw_in wsX40 [1084, 1086, 1088] (by decide +kernel) (by decide +kernel)

/-! LarderLocks$Larder$1 -/
set_option maxRecDepth 100000
def RX5 : String := "LarderLocks$Larder$1"
def TX5 : u_T := fun k => match k with
  | 0 => ("LarderLocks$Larder$1", "val$set", "I", true)
  | _ => ("LarderLocks$Larder$1", "this$0", "LLarderLocks$Larder;", true)
def tyX5 : Nat → FieldType := fun k => match k with
  | 0 => .int
  | _ => .object "LarderLocks$Larder"
abbrev wsX50 : List Cond := u_ws RX5 TX5 2
theorem nmX5 : ∀ a, a < 2 → ∀ b, b < 2 → a ≠ b → (TX5 a).2.1 ≠ (TX5 b).2.1 := by decide +kernel
theorem tyX5_ok : ∀ k, k < 2 → parseFieldDescriptor (TX5 k).2.2.1 = some (tyX5 k) := by decide +kernel
abbrev cX5_init : ByteArray := prog_6_method_1_code
def yX5_init : MethodName := ⟨RX5, "<init>", "(LLarderLocks$Larder;I)V"⟩
def dkwX5_init_0 : List UInt8 := [42, 43, 181, 0, 1, 42, 28, 181, 0, 7, 42, 183, 0, 11, 177]
abbrev dktX5_init_0 : List UInt8 := dkwX5_init_0 ++ []
theorem dksX5_init_0 : cX5_init.data.toList.drop 0 = dktX5_init_0 := by decide +kernel
theorem dX5_init_0 : decode cX5_init 0 = .ok (.aload_n 0, 1) := dk_42 (dk_at dksX5_init_0 0 rfl rfl)
theorem dX5_init_1 : decode cX5_init 1 = .ok (.aload_n 1, 1) := dk_43 (dk_at dksX5_init_0 1 rfl rfl)
theorem dX5_init_2 : decode cX5_init 2 = .ok (.putfield 1, 3) := dk_181 0 1 (dk_at dksX5_init_0 2 rfl rfl)
theorem dX5_init_5 : decode cX5_init 5 = .ok (.aload_n 0, 1) := dk_42 (dk_at dksX5_init_0 5 rfl rfl)
theorem dX5_init_6 : decode cX5_init 6 = .ok (.iload_n 2, 1) := dk_28 (dk_at dksX5_init_0 6 rfl rfl)
theorem dX5_init_7 : decode cX5_init 7 = .ok (.putfield 7, 3) := dk_181 0 7 (dk_at dksX5_init_0 7 rfl rfl)
theorem dX5_init_10 : decode cX5_init 10 = .ok (.aload_n 0, 1) := dk_42 (dk_at dksX5_init_0 10 rfl rfl)
theorem dX5_init_11 : decode cX5_init 11 = .ok (.invokespecial 11, 3) := dk_183 0 11 (dk_at dksX5_init_0 11 rfl rfl)
theorem dX5_init_14 : decode cX5_init 14 = .ok (.return_, 1) := dk_177 (dk_at dksX5_init_0 14 rfl rfl)
abbrev cX5_iterator : ByteArray := prog_6_method_2_code
def yX5_iterator : MethodName := ⟨RX5, "iterator", "()Ljava/util/Iterator;"⟩
def dkwX5_iterator_0 : List UInt8 := [187, 0, 17, 89, 42, 180, 0, 7, 183, 0, 19, 176]
abbrev dktX5_iterator_0 : List UInt8 := dkwX5_iterator_0 ++ []
theorem dksX5_iterator_0 : cX5_iterator.data.toList.drop 0 = dktX5_iterator_0 := by decide +kernel
theorem dX5_iterator_0 : decode cX5_iterator 0 = .ok (.new 17, 3) := dk_187 0 17 (dk_at dksX5_iterator_0 0 rfl rfl)
theorem dX5_iterator_3 : decode cX5_iterator 3 = .ok (.dup, 1) := dk_89 (dk_at dksX5_iterator_0 3 rfl rfl)
theorem dX5_iterator_4 : decode cX5_iterator 4 = .ok (.aload_n 0, 1) := dk_42 (dk_at dksX5_iterator_0 4 rfl rfl)
theorem dX5_iterator_5 : decode cX5_iterator 5 = .ok (.getfield 7, 3) := dk_180 0 7 (dk_at dksX5_iterator_0 5 rfl rfl)
theorem dX5_iterator_8 : decode cX5_iterator 8 = .ok (.invokespecial 19, 3) := dk_183 0 19 (dk_at dksX5_iterator_0 8 rfl rfl)
theorem dX5_iterator_11 : decode cX5_iterator 11 = .ok (.areturn, 1) := dk_176 (dk_at dksX5_iterator_0 11 rfl rfl)
theorem q120 : (Jvm.Cond.initialized "LarderLocks$Larder$1") ∈ lw_all := lw_g (lw_at lw_m1 36 rfl) rfl
theorem q243 : (Jvm.Cond.selects "LarderLocks$Larder$1" ({ cls := "java/lang/Object", name := "getClass", desc := "()Ljava/lang/Class;" } : Jvm.MethodName) ({ cls := "java/lang/Object", name := "getClass", desc := "()Ljava/lang/Class;" } : Jvm.MethodName)) ∈ lw_all := lw_g (lw_at lw_m1 159 rfl) rfl
theorem q1135 : (Jvm.Cond.instantiable "LarderLocks$Larder$1" (2 : Nat)) ∈ lw_all := lw_g (lw_at lw_m5 91 rfl) rfl
theorem q1137 : (Jvm.Cond.instanceMethod ({ cls := "LarderLocks$Larder$1", name := "<init>", desc := "(LLarderLocks$Larder;I)V" } : Jvm.MethodName)) ∈ lw_all := lw_g (lw_at lw_m5 93 rfl) rfl
theorem q1138 : (Jvm.Cond.code ({ cls := "LarderLocks$Larder$1", name := "<init>", desc := "(LLarderLocks$Larder;I)V" } : Jvm.MethodName) prog_6_method_1_code (3 : Nat) (Option.none : Option Jvm.ClassFile.FieldType)) ∈ lw_all := lw_g (lw_at lw_m5 94 rfl) rfl
theorem q1139 : (Jvm.Cond.methodLink "LarderLocks$Larder$1" (11 : Nat) ({ cls := "java/lang/Object", name := "<init>", desc := "()V" } : Jvm.MethodName)) ∈ lw_all := lw_g (lw_at lw_m5 95 rfl) rfl
theorem q1140 : (Jvm.Cond.fieldLink "LarderLocks$Larder$1" (7 : Nat) "LarderLocks$Larder$1" "val$set" "I") ∈ lw_all := lw_g (lw_at lw_m5 96 rfl) rfl
theorem q1141 : (Jvm.Cond.fieldLink "LarderLocks$Larder$1" (1 : Nat) "LarderLocks$Larder$1" "this$0" "LLarderLocks$Larder;") ∈ lw_all := lw_g (lw_at lw_m5 97 rfl) rfl
theorem q1142 : (Jvm.Cond.laysFinal "LarderLocks$Larder$1" "LarderLocks$Larder$1" "val$set" "I") ∈ lw_all := lw_g (lw_at lw_m5 98 rfl) rfl
theorem q1143 : (Jvm.Cond.soleField "LarderLocks$Larder$1" "val$set") ∈ lw_all := lw_g (lw_at lw_m5 99 rfl) rfl
theorem q1144 : (Jvm.Cond.laysFinal "LarderLocks$Larder$1" "LarderLocks$Larder$1" "this$0" "LLarderLocks$Larder;") ∈ lw_all := lw_g (lw_at lw_m5 100 rfl) rfl
theorem q1145 : (Jvm.Cond.soleField "LarderLocks$Larder$1" "this$0") ∈ lw_all := lw_g (lw_at lw_m5 101 rfl) rfl
theorem q1146 : (Jvm.Cond.superclass "LarderLocks$Larder$1" "java/lang/Object") ∈ lw_all := lw_g (lw_at lw_m5 102 rfl) rfl
theorem q1151 : (Jvm.Cond.castable "LarderLocks$Larder$1" "java/lang/Iterable") ∈ lw_tbl := lw_at lw_m5 107 rfl
theorem q1152 : (Jvm.Cond.selects "LarderLocks$Larder$1" ({ cls := "java/lang/Iterable", name := "iterator", desc := "()Ljava/util/Iterator;" } : Jvm.MethodName) ({ cls := "LarderLocks$Larder$1", name := "iterator", desc := "()Ljava/util/Iterator;" } : Jvm.MethodName)) ∈ lw_all := lw_g (lw_at lw_m5 108 rfl) rfl
theorem q1153 : (Jvm.Cond.unhidden "LarderLocks$Larder$1" "iterator" "()Ljava/util/Iterator;") ∈ lw_tbl := lw_at lw_m5 109 rfl
theorem q1154 : (Jvm.Cond.instanceMethod ({ cls := "LarderLocks$Larder$1", name := "iterator", desc := "()Ljava/util/Iterator;" } : Jvm.MethodName)) ∈ lw_all := lw_g (lw_at lw_m5 110 rfl) rfl
theorem q1155 : (Jvm.Cond.publicMethod ({ cls := "LarderLocks$Larder$1", name := "iterator", desc := "()Ljava/util/Iterator;" } : Jvm.MethodName)) ∈ lw_tbl := lw_at lw_m5 111 rfl
theorem q1156 : (Jvm.Cond.code ({ cls := "LarderLocks$Larder$1", name := "iterator", desc := "()Ljava/util/Iterator;" } : Jvm.MethodName) prog_6_method_2_code (1 : Nat) (Option.some (Jvm.ClassFile.FieldType.object "java/util/Iterator"))) ∈ lw_all := lw_g (lw_at lw_m5 112 rfl) rfl
theorem q1157 : (Jvm.Cond.classLink "LarderLocks$Larder$1" (17 : Nat) "LarderLocks$Bits") ∈ lw_all := lw_g (lw_at lw_m5 113 rfl) rfl
theorem q1159 : (Jvm.Cond.methodLink "LarderLocks$Larder$1" (19 : Nat) ({ cls := "LarderLocks$Bits", name := "<init>", desc := "(I)V" } : Jvm.MethodName)) ∈ lw_all := lw_g (lw_at lw_m5 115 rfl) rfl
theorem q2288 : (Jvm.Cond.castable "LarderLocks$Larder$1" "java/lang/Object") ∈ lw_tbl := lw_at lw_m10 44 rfl
theorem in_X5 : ∀ w ∈ wsX50, w ∈ lw_all := lw_in wsX50 [1142, 1144] (by decide +kernel) (by decide +kernel)

/-! LarderLocks$Bits -/
set_option maxRecDepth 100000
def RX6 : String := "LarderLocks$Bits"
def TX6 : u_T := fun k => match k with
  | _ => ("LarderLocks$Bits", "left", "I", false)
def tyX6 : Nat → FieldType := fun k => match k with
  | _ => .int
abbrev wsX60 : List Cond := u_ws RX6 TX6 1
theorem nmX6 : ∀ a, a < 1 → ∀ b, b < 1 → a ≠ b → (TX6 a).2.1 ≠ (TX6 b).2.1 := by decide +kernel
theorem tyX6_ok : ∀ k, k < 1 → parseFieldDescriptor (TX6 k).2.2.1 = some (tyX6 k) := by decide +kernel
abbrev cX6_hasNext : ByteArray := prog_2_method_2_code
def yX6_hasNext : MethodName := ⟨RX6, "hasNext", "()Z"⟩
def dkwX6_hasNext_0 : List UInt8 := [42, 180, 0, 7, 153, 0, 7, 4, 167, 0, 4, 3, 172]
abbrev dktX6_hasNext_0 : List UInt8 := dkwX6_hasNext_0 ++ []
theorem dksX6_hasNext_0 : cX6_hasNext.data.toList.drop 0 = dktX6_hasNext_0 := by decide +kernel
theorem dX6_hasNext_0 : decode cX6_hasNext 0 = .ok (.aload_n 0, 1) := dk_42 (dk_at dksX6_hasNext_0 0 rfl rfl)
theorem dX6_hasNext_1 : decode cX6_hasNext 1 = .ok (.getfield 7, 3) := dk_180 0 7 (dk_at dksX6_hasNext_0 1 rfl rfl)
theorem dX6_hasNext_4 : decode cX6_hasNext 4 = .ok (.ifCond .eq 7, 3) := dk_153 0 7 (dk_at dksX6_hasNext_0 4 rfl rfl)
theorem dX6_hasNext_7 : decode cX6_hasNext 7 = .ok (.iconst 1, 1) := dk_4 (dk_at dksX6_hasNext_0 7 rfl rfl)
theorem dX6_hasNext_8 : decode cX6_hasNext 8 = .ok (.goto 4, 3) := dk_167 0 4 (dk_at dksX6_hasNext_0 8 rfl rfl)
theorem dX6_hasNext_11 : decode cX6_hasNext 11 = .ok (.iconst 0, 1) := dk_3 (dk_at dksX6_hasNext_0 11 rfl rfl)
theorem dX6_hasNext_12 : decode cX6_hasNext 12 = .ok (.ireturn, 1) := dk_172 (dk_at dksX6_hasNext_0 12 rfl rfl)
abbrev cX6_next : ByteArray := prog_2_method_4_code
def yX6_next : MethodName := ⟨RX6, "next", "()Ljava/lang/Object;"⟩
theorem dX6_next_0 : decode cX6_next 0 = .ok (.aload_n 0, 1) := by decide +kernel
theorem dX6_next_1 : decode cX6_next 1 = .ok (.invokevirtual 23, 3) := by decide +kernel
theorem dX6_next_4 : decode cX6_next 4 = .ok (.areturn, 1) := by decide +kernel
abbrev cX6_next_2 : ByteArray := prog_2_method_3_code
def yX6_next_2 : MethodName := ⟨RX6, "next", "()Ljava/lang/Integer;"⟩
def dkwX6_next_2_1 : List UInt8 := [184, 0, 19, 176]
abbrev dktX6_next_2_1 : List UInt8 := dkwX6_next_2_1 ++ []
def dkwX6_next_2_0 : List UInt8 := [42, 180, 0, 7, 184, 0, 13, 60, 42, 89, 180, 0, 7, 42, 180, 0, 7, 4, 100, 126, 181, 0, 7, 27]
abbrev dktX6_next_2_0 : List UInt8 := dkwX6_next_2_0 ++ dktX6_next_2_1
theorem dksX6_next_2_0 : cX6_next_2.data.toList.drop 0 = dktX6_next_2_0 := by decide +kernel
theorem dksX6_next_2_1 : cX6_next_2.data.toList.drop 24 = dktX6_next_2_1 := dk_seg dksX6_next_2_0 24 rfl rfl
theorem dX6_next_2_0 : decode cX6_next_2 0 = .ok (.aload_n 0, 1) := dk_42 (dk_at dksX6_next_2_0 0 rfl rfl)
theorem dX6_next_2_1 : decode cX6_next_2 1 = .ok (.getfield 7, 3) := dk_180 0 7 (dk_at dksX6_next_2_0 1 rfl rfl)
theorem dX6_next_2_4 : decode cX6_next_2 4 = .ok (.invokestatic 13, 3) := dk_184 0 13 (dk_at dksX6_next_2_0 4 rfl rfl)
theorem dX6_next_2_7 : decode cX6_next_2 7 = .ok (.istore_n 1, 1) := dk_60 (dk_at dksX6_next_2_0 7 rfl rfl)
theorem dX6_next_2_8 : decode cX6_next_2 8 = .ok (.aload_n 0, 1) := dk_42 (dk_at dksX6_next_2_0 8 rfl rfl)
theorem dX6_next_2_9 : decode cX6_next_2 9 = .ok (.dup, 1) := dk_89 (dk_at dksX6_next_2_0 9 rfl rfl)
theorem dX6_next_2_10 : decode cX6_next_2 10 = .ok (.getfield 7, 3) := dk_180 0 7 (dk_at dksX6_next_2_0 10 rfl rfl)
theorem dX6_next_2_13 : decode cX6_next_2 13 = .ok (.aload_n 0, 1) := dk_42 (dk_at dksX6_next_2_0 13 rfl rfl)
theorem dX6_next_2_14 : decode cX6_next_2 14 = .ok (.getfield 7, 3) := dk_180 0 7 (dk_at dksX6_next_2_0 14 rfl rfl)
theorem dX6_next_2_17 : decode cX6_next_2 17 = .ok (.iconst 1, 1) := dk_4 (dk_at dksX6_next_2_0 17 rfl rfl)
theorem dX6_next_2_18 : decode cX6_next_2 18 = .ok (.isub, 1) := dk_100 (dk_at dksX6_next_2_0 18 rfl rfl)
theorem dX6_next_2_19 : decode cX6_next_2 19 = .ok (.iand, 1) := dk_126 (dk_at dksX6_next_2_0 19 rfl rfl)
theorem dX6_next_2_20 : decode cX6_next_2 20 = .ok (.putfield 7, 3) := dk_181 0 7 (dk_at dksX6_next_2_0 20 rfl rfl)
theorem dX6_next_2_23 : decode cX6_next_2 23 = .ok (.iload_n 1, 1) := dk_27 (dk_at dksX6_next_2_0 23 rfl rfl)
theorem dX6_next_2_24 : decode cX6_next_2 24 = .ok (.invokestatic 19, 3) := dk_184 0 19 (dk_at dksX6_next_2_1 0 rfl rfl)
theorem dX6_next_2_27 : decode cX6_next_2 27 = .ok (.areturn, 1) := dk_176 (dk_at dksX6_next_2_1 3 rfl rfl)
abbrev cX6_init : ByteArray := prog_2_method_1_code
def yX6_init : MethodName := ⟨RX6, "<init>", "(I)V"⟩
def dkwX6_init_0 : List UInt8 := [42, 183, 0, 1, 42, 27, 181, 0, 7, 177]
abbrev dktX6_init_0 : List UInt8 := dkwX6_init_0 ++ []
theorem dksX6_init_0 : cX6_init.data.toList.drop 0 = dktX6_init_0 := by decide +kernel
theorem dX6_init_0 : decode cX6_init 0 = .ok (.aload_n 0, 1) := dk_42 (dk_at dksX6_init_0 0 rfl rfl)
theorem dX6_init_1 : decode cX6_init 1 = .ok (.invokespecial 1, 3) := dk_183 0 1 (dk_at dksX6_init_0 1 rfl rfl)
theorem dX6_init_4 : decode cX6_init 4 = .ok (.aload_n 0, 1) := dk_42 (dk_at dksX6_init_0 4 rfl rfl)
theorem dX6_init_5 : decode cX6_init 5 = .ok (.iload_n 1, 1) := dk_27 (dk_at dksX6_init_0 5 rfl rfl)
theorem dX6_init_6 : decode cX6_init 6 = .ok (.putfield 7, 3) := dk_181 0 7 (dk_at dksX6_init_0 6 rfl rfl)
theorem dX6_init_9 : decode cX6_init 9 = .ok (.return_, 1) := dk_177 (dk_at dksX6_init_0 9 rfl rfl)
theorem q121 : (Jvm.Cond.initialized "LarderLocks$Bits") ∈ lw_all := lw_g (lw_at lw_m1 37 rfl) rfl
theorem q240 : (Jvm.Cond.selects "LarderLocks$Bits" ({ cls := "java/lang/Object", name := "getClass", desc := "()Ljava/lang/Class;" } : Jvm.MethodName) ({ cls := "java/lang/Object", name := "getClass", desc := "()Ljava/lang/Class;" } : Jvm.MethodName)) ∈ lw_all := lw_g (lw_at lw_m1 156 rfl) rfl
theorem q512 : (Jvm.Cond.castable "LarderLocks$Bits" "java/util/Iterator") ∈ lw_tbl := lw_at lw_m2 188 rfl
theorem q513 : (Jvm.Cond.selects "LarderLocks$Bits" ({ cls := "java/util/Iterator", name := "hasNext", desc := "()Z" } : Jvm.MethodName) ({ cls := "LarderLocks$Bits", name := "hasNext", desc := "()Z" } : Jvm.MethodName)) ∈ lw_all := lw_g (lw_at lw_m2 189 rfl) rfl
theorem q514 : (Jvm.Cond.unhidden "LarderLocks$Bits" "hasNext" "()Z") ∈ lw_tbl := lw_at lw_m2 190 rfl
theorem q515 : (Jvm.Cond.instanceMethod ({ cls := "LarderLocks$Bits", name := "hasNext", desc := "()Z" } : Jvm.MethodName)) ∈ lw_all := lw_g (lw_at lw_m2 191 rfl) rfl
theorem q516 : (Jvm.Cond.publicMethod ({ cls := "LarderLocks$Bits", name := "hasNext", desc := "()Z" } : Jvm.MethodName)) ∈ lw_tbl := lw_at lw_m2 192 rfl
theorem q517 : (Jvm.Cond.code ({ cls := "LarderLocks$Bits", name := "hasNext", desc := "()Z" } : Jvm.MethodName) prog_2_method_2_code (1 : Nat) (Option.some Jvm.ClassFile.FieldType.boolean)) ∈ lw_all := lw_g (lw_at lw_m2 193 rfl) rfl
theorem q558 : (Jvm.Cond.selects "LarderLocks$Bits" ({ cls := "java/util/Iterator", name := "next", desc := "()Ljava/lang/Object;" } : Jvm.MethodName) ({ cls := "LarderLocks$Bits", name := "next", desc := "()Ljava/lang/Object;" } : Jvm.MethodName)) ∈ lw_all := lw_g (lw_at lw_m2 234 rfl) rfl
theorem q559 : (Jvm.Cond.unhidden "LarderLocks$Bits" "next" "()Ljava/lang/Object;") ∈ lw_tbl := lw_at lw_m2 235 rfl
theorem q560 : (Jvm.Cond.instanceMethod ({ cls := "LarderLocks$Bits", name := "next", desc := "()Ljava/lang/Object;" } : Jvm.MethodName)) ∈ lw_all := lw_g (lw_at lw_m2 236 rfl) rfl
theorem q561 : (Jvm.Cond.publicMethod ({ cls := "LarderLocks$Bits", name := "next", desc := "()Ljava/lang/Object;" } : Jvm.MethodName)) ∈ lw_tbl := lw_at lw_m2 237 rfl
theorem q562 : (Jvm.Cond.code ({ cls := "LarderLocks$Bits", name := "next", desc := "()Ljava/lang/Object;" } : Jvm.MethodName) prog_2_method_4_code (1 : Nat) (Option.some (Jvm.ClassFile.FieldType.object "java/lang/Object"))) ∈ lw_all := lw_g (lw_at lw_m2 238 rfl) rfl
theorem q563 : (Jvm.Cond.methodLink "LarderLocks$Bits" (23 : Nat) ({ cls := "LarderLocks$Bits", name := "next", desc := "()Ljava/lang/Integer;" } : Jvm.MethodName)) ∈ lw_all := lw_g (lw_at lw_m2 239 rfl) rfl
theorem q564 : (Jvm.Cond.instanceMethod ({ cls := "LarderLocks$Bits", name := "next", desc := "()Ljava/lang/Integer;" } : Jvm.MethodName)) ∈ lw_all := lw_g (lw_at lw_m3 0 rfl) rfl
theorem q565 : (Jvm.Cond.selects "LarderLocks$Bits" ({ cls := "LarderLocks$Bits", name := "next", desc := "()Ljava/lang/Integer;" } : Jvm.MethodName) ({ cls := "LarderLocks$Bits", name := "next", desc := "()Ljava/lang/Integer;" } : Jvm.MethodName)) ∈ lw_all := lw_g (lw_at lw_m3 1 rfl) rfl
theorem q566 : (Jvm.Cond.code ({ cls := "LarderLocks$Bits", name := "next", desc := "()Ljava/lang/Integer;" } : Jvm.MethodName) prog_2_method_3_code (2 : Nat) (Option.some (Jvm.ClassFile.FieldType.object "java/lang/Integer"))) ∈ lw_all := lw_g (lw_at lw_m3 2 rfl) rfl
theorem q567 : (Jvm.Cond.methodLink "LarderLocks$Bits" (13 : Nat) ({ cls := "java/lang/Integer", name := "numberOfTrailingZeros", desc := "(I)I" } : Jvm.MethodName)) ∈ lw_all := lw_g (lw_at lw_m3 3 rfl) rfl
theorem q571 : (Jvm.Cond.methodLink "LarderLocks$Bits" (19 : Nat) ({ cls := "java/lang/Integer", name := "valueOf", desc := "(I)Ljava/lang/Integer;" } : Jvm.MethodName)) ∈ lw_all := lw_g (lw_at lw_m3 7 rfl) rfl
theorem q1158 : (Jvm.Cond.instantiable "LarderLocks$Bits" (1 : Nat)) ∈ lw_all := lw_g (lw_at lw_m5 114 rfl) rfl
theorem q1160 : (Jvm.Cond.instanceMethod ({ cls := "LarderLocks$Bits", name := "<init>", desc := "(I)V" } : Jvm.MethodName)) ∈ lw_all := lw_g (lw_at lw_m5 116 rfl) rfl
theorem q1161 : (Jvm.Cond.code ({ cls := "LarderLocks$Bits", name := "<init>", desc := "(I)V" } : Jvm.MethodName) prog_2_method_1_code (2 : Nat) (Option.none : Option Jvm.ClassFile.FieldType)) ∈ lw_all := lw_g (lw_at lw_m5 117 rfl) rfl
theorem q1162 : (Jvm.Cond.methodLink "LarderLocks$Bits" (1 : Nat) ({ cls := "java/lang/Object", name := "<init>", desc := "()V" } : Jvm.MethodName)) ∈ lw_all := lw_g (lw_at lw_m5 118 rfl) rfl
theorem q1163 : (Jvm.Cond.fieldLink "LarderLocks$Bits" (7 : Nat) "LarderLocks$Bits" "left" "I") ∈ lw_all := lw_g (lw_at lw_m5 119 rfl) rfl
theorem q1164 : (Jvm.Cond.lays "LarderLocks$Bits" "LarderLocks$Bits" "left" "I") ∈ lw_all := lw_g (lw_at lw_m5 120 rfl) rfl
theorem q1165 : (Jvm.Cond.soleField "LarderLocks$Bits" "left") ∈ lw_all := lw_g (lw_at lw_m5 121 rfl) rfl
theorem q1166 : (Jvm.Cond.superclass "LarderLocks$Bits" "java/lang/Object") ∈ lw_all := lw_g (lw_at lw_m5 122 rfl) rfl
theorem q1240 : (Jvm.Cond.unhidden "LarderLocks$Bits" "remove" "()V") ∈ lw_tbl := lw_at lw_m5 196 rfl
theorem q2289 : (Jvm.Cond.castable "LarderLocks$Bits" "java/lang/Object") ∈ lw_tbl := lw_at lw_m10 45 rfl
theorem in_X6 : ∀ w ∈ wsX60, w ∈ lw_all := lw_in wsX60 [1164] (by decide +kernel) (by decide +kernel)

/-! LarderLocks$Reader -/
set_option maxRecDepth 100000
def RX7 : String := "LarderLocks$Reader"
def TX7 : u_T := fun k => match k with
  | 0 => ("LarderLocks$Reader", "at", "I", false)
  | _ => ("LarderLocks$Reader", "this$0", "LLarderLocks;", true)
def tyX7 : Nat → FieldType := fun k => match k with
  | 0 => .int
  | _ => .object "LarderLocks"
abbrev wsX70 : List Cond := u_ws RX7 TX7 2
theorem nmX7 : ∀ a, a < 2 → ∀ b, b < 2 → a ≠ b → (TX7 a).2.1 ≠ (TX7 b).2.1 := by decide +kernel
theorem tyX7_ok : ∀ k, k < 2 → parseFieldDescriptor (TX7 k).2.2.1 = some (tyX7 k) := by decide +kernel
abbrev cX7_init : ByteArray := prog_7_method_1_code
def yX7_init : MethodName := ⟨RX7, "<init>", "(LLarderLocks;)V"⟩
def dkwX7_init_0 : List UInt8 := [42, 43, 181, 0, 3, 42, 183, 0, 9, 177]
abbrev dktX7_init_0 : List UInt8 := dkwX7_init_0 ++ []
theorem dksX7_init_0 : cX7_init.data.toList.drop 0 = dktX7_init_0 := by decide +kernel
theorem dX7_init_0 : decode cX7_init 0 = .ok (.aload_n 0, 1) := dk_42 (dk_at dksX7_init_0 0 rfl rfl)
theorem dX7_init_1 : decode cX7_init 1 = .ok (.aload_n 1, 1) := dk_43 (dk_at dksX7_init_0 1 rfl rfl)
theorem dX7_init_2 : decode cX7_init 2 = .ok (.putfield 3, 3) := dk_181 0 3 (dk_at dksX7_init_0 2 rfl rfl)
theorem dX7_init_5 : decode cX7_init 5 = .ok (.aload_n 0, 1) := dk_42 (dk_at dksX7_init_0 5 rfl rfl)
theorem dX7_init_6 : decode cX7_init 6 = .ok (.invokespecial 9, 3) := dk_183 0 9 (dk_at dksX7_init_0 6 rfl rfl)
theorem dX7_init_9 : decode cX7_init 9 = .ok (.return_, 1) := dk_177 (dk_at dksX7_init_0 9 rfl rfl)
abbrev cX7_commands : ByteArray := prog_7_method_8_code
def yX7_commands : MethodName := ⟨RX7, "commands", "()Ljava/util/LinkedList;"⟩
def dkwX7_commands_2 : List UInt8 := [180, 0, 19, 182, 0, 23, 160, 0, 7, 4, 167, 0, 4, 3, 182, 0, 45, 43, 176]
abbrev dktX7_commands_2 : List UInt8 := dkwX7_commands_2 ++ []
def dkwX7_commands_1 : List UInt8 := [153, 0, 14, 43, 42, 182, 0, 89, 182, 0, 92, 167, 255, 239, 42, 42, 180, 0, 15, 42, 180, 0, 3]
abbrev dktX7_commands_1 : List UInt8 := dkwX7_commands_1 ++ dktX7_commands_2
def dkwX7_commands_0 : List UInt8 := [187, 0, 86, 89, 183, 0, 88, 76, 43, 42, 182, 0, 89, 182, 0, 92, 42, 16, 59, 182, 0, 55]
abbrev dktX7_commands_0 : List UInt8 := dkwX7_commands_0 ++ dktX7_commands_1
theorem dksX7_commands_0 : cX7_commands.data.toList.drop 0 = dktX7_commands_0 := by decide +kernel
theorem dksX7_commands_1 : cX7_commands.data.toList.drop 22 = dktX7_commands_1 := dk_seg dksX7_commands_0 22 rfl rfl
theorem dksX7_commands_2 : cX7_commands.data.toList.drop 45 = dktX7_commands_2 := dk_seg dksX7_commands_1 23 rfl rfl
theorem dX7_commands_0 : decode cX7_commands 0 = .ok (.new 86, 3) := dk_187 0 86 (dk_at dksX7_commands_0 0 rfl rfl)
theorem dX7_commands_3 : decode cX7_commands 3 = .ok (.dup, 1) := dk_89 (dk_at dksX7_commands_0 3 rfl rfl)
theorem dX7_commands_4 : decode cX7_commands 4 = .ok (.invokespecial 88, 3) := dk_183 0 88 (dk_at dksX7_commands_0 4 rfl rfl)
theorem dX7_commands_7 : decode cX7_commands 7 = .ok (.astore_n 1, 1) := dk_76 (dk_at dksX7_commands_0 7 rfl rfl)
theorem dX7_commands_8 : decode cX7_commands 8 = .ok (.aload_n 1, 1) := dk_43 (dk_at dksX7_commands_0 8 rfl rfl)
theorem dX7_commands_9 : decode cX7_commands 9 = .ok (.aload_n 0, 1) := dk_42 (dk_at dksX7_commands_0 9 rfl rfl)
theorem dX7_commands_10 : decode cX7_commands 10 = .ok (.invokevirtual 89, 3) := dk_182 0 89 (dk_at dksX7_commands_0 10 rfl rfl)
theorem dX7_commands_13 : decode cX7_commands 13 = .ok (.invokevirtual 92, 3) := dk_182 0 92 (dk_at dksX7_commands_0 13 rfl rfl)
theorem dX7_commands_16 : decode cX7_commands 16 = .ok (.aload_n 0, 1) := dk_42 (dk_at dksX7_commands_0 16 rfl rfl)
theorem dX7_commands_17 : decode cX7_commands 17 = .ok (.bipush 59, 2) := dk_16 59 (dk_at dksX7_commands_0 17 rfl rfl)
theorem dX7_commands_19 : decode cX7_commands 19 = .ok (.invokevirtual 55, 3) := dk_182 0 55 (dk_at dksX7_commands_0 19 rfl rfl)
theorem dX7_commands_22 : decode cX7_commands 22 = .ok (.ifCond .eq 14, 3) := dk_153 0 14 (dk_at dksX7_commands_1 0 rfl rfl)
theorem dX7_commands_25 : decode cX7_commands 25 = .ok (.aload_n 1, 1) := dk_43 (dk_at dksX7_commands_1 3 rfl rfl)
theorem dX7_commands_26 : decode cX7_commands 26 = .ok (.aload_n 0, 1) := dk_42 (dk_at dksX7_commands_1 4 rfl rfl)
theorem dX7_commands_27 : decode cX7_commands 27 = .ok (.invokevirtual 89, 3) := dk_182 0 89 (dk_at dksX7_commands_1 5 rfl rfl)
theorem dX7_commands_30 : decode cX7_commands 30 = .ok (.invokevirtual 92, 3) := dk_182 0 92 (dk_at dksX7_commands_1 8 rfl rfl)
theorem dX7_commands_33 : decode cX7_commands 33 = .ok (.goto (-17), 3) := dk_167 255 239 (dk_at dksX7_commands_1 11 rfl rfl)
theorem dX7_commands_36 : decode cX7_commands 36 = .ok (.aload_n 0, 1) := dk_42 (dk_at dksX7_commands_1 14 rfl rfl)
theorem dX7_commands_37 : decode cX7_commands 37 = .ok (.aload_n 0, 1) := dk_42 (dk_at dksX7_commands_1 15 rfl rfl)
theorem dX7_commands_38 : decode cX7_commands 38 = .ok (.getfield 15, 3) := dk_180 0 15 (dk_at dksX7_commands_1 16 rfl rfl)
theorem dX7_commands_41 : decode cX7_commands 41 = .ok (.aload_n 0, 1) := dk_42 (dk_at dksX7_commands_1 19 rfl rfl)
theorem dX7_commands_42 : decode cX7_commands 42 = .ok (.getfield 3, 3) := dk_180 0 3 (dk_at dksX7_commands_1 20 rfl rfl)
theorem dX7_commands_45 : decode cX7_commands 45 = .ok (.getfield 19, 3) := dk_180 0 19 (dk_at dksX7_commands_2 0 rfl rfl)
theorem dX7_commands_48 : decode cX7_commands 48 = .ok (.invokevirtual 23, 3) := dk_182 0 23 (dk_at dksX7_commands_2 3 rfl rfl)
theorem dX7_commands_51 : decode cX7_commands 51 = .ok (.if_icmp .ne 7, 3) := dk_160 0 7 (dk_at dksX7_commands_2 6 rfl rfl)
theorem dX7_commands_54 : decode cX7_commands 54 = .ok (.iconst 1, 1) := dk_4 (dk_at dksX7_commands_2 9 rfl rfl)
theorem dX7_commands_55 : decode cX7_commands 55 = .ok (.goto 4, 3) := dk_167 0 4 (dk_at dksX7_commands_2 10 rfl rfl)
theorem dX7_commands_58 : decode cX7_commands 58 = .ok (.iconst 0, 1) := dk_3 (dk_at dksX7_commands_2 13 rfl rfl)
theorem dX7_commands_59 : decode cX7_commands 59 = .ok (.invokevirtual 45, 3) := dk_182 0 45 (dk_at dksX7_commands_2 14 rfl rfl)
theorem dX7_commands_62 : decode cX7_commands 62 = .ok (.aload_n 1, 1) := dk_43 (dk_at dksX7_commands_2 17 rfl rfl)
theorem dX7_commands_63 : decode cX7_commands 63 = .ok (.areturn, 1) := dk_176 (dk_at dksX7_commands_2 18 rfl rfl)
abbrev cX7_command : ByteArray := prog_7_method_7_code
def yX7_command : MethodName := ⟨RX7, "command", "()LLarderLocks$Command;"⟩
def dkwX7_command_4 : List UInt8 := [182, 0, 68, 181, 0, 83, 44, 176]
abbrev dktX7_command_4 : List UInt8 := dkwX7_command_4 ++ []
def dkwX7_command_3 : List UInt8 := [181, 0, 15, 44, 27, 181, 0, 77, 44, 44, 180, 0, 79, 16, 46, 160, 0, 7, 3, 167, 0, 8, 42, 4]
abbrev dktX7_command_3 : List UInt8 := dkwX7_command_3 ++ dktX7_command_4
def dkwX7_command_2 : List UInt8 := [180, 0, 3, 180, 0, 19, 42, 180, 0, 15, 182, 0, 29, 183, 0, 61, 77, 42, 89, 180, 0, 15, 4, 96]
abbrev dktX7_command_2 : List UInt8 := dkwX7_command_2 ++ dktX7_command_3
def dkwX7_command_1 : List UInt8 := [182, 0, 38, 146, 182, 0, 74, 155, 0, 7, 4, 167, 0, 4, 3, 182, 0, 45, 187, 0, 59, 89, 42]
abbrev dktX7_command_1 : List UInt8 := dkwX7_command_1 ++ dktX7_command_2
def dkwX7_command_0 : List UInt8 := [42, 182, 0, 38, 16, 109, 160, 0, 8, 42, 182, 0, 64, 176, 42, 5, 182, 0, 68, 60, 42, 18, 72, 42]
abbrev dktX7_command_0 : List UInt8 := dkwX7_command_0 ++ dktX7_command_1
theorem dksX7_command_0 : cX7_command.data.toList.drop 0 = dktX7_command_0 := by decide +kernel
theorem dksX7_command_1 : cX7_command.data.toList.drop 24 = dktX7_command_1 := dk_seg dksX7_command_0 24 rfl rfl
theorem dksX7_command_2 : cX7_command.data.toList.drop 47 = dktX7_command_2 := dk_seg dksX7_command_1 23 rfl rfl
theorem dksX7_command_3 : cX7_command.data.toList.drop 71 = dktX7_command_3 := dk_seg dksX7_command_2 24 rfl rfl
theorem dksX7_command_4 : cX7_command.data.toList.drop 95 = dktX7_command_4 := dk_seg dksX7_command_3 24 rfl rfl
theorem dX7_command_0 : decode cX7_command 0 = .ok (.aload_n 0, 1) := dk_42 (dk_at dksX7_command_0 0 rfl rfl)
theorem dX7_command_1 : decode cX7_command 1 = .ok (.invokevirtual 38, 3) := dk_182 0 38 (dk_at dksX7_command_0 1 rfl rfl)
theorem dX7_command_4 : decode cX7_command 4 = .ok (.bipush 109, 2) := dk_16 109 (dk_at dksX7_command_0 4 rfl rfl)
theorem dX7_command_6 : decode cX7_command 6 = .ok (.if_icmp .ne 8, 3) := dk_160 0 8 (dk_at dksX7_command_0 6 rfl rfl)
theorem dX7_command_9 : decode cX7_command 9 = .ok (.aload_n 0, 1) := dk_42 (dk_at dksX7_command_0 9 rfl rfl)
theorem dX7_command_10 : decode cX7_command 10 = .ok (.invokevirtual 64, 3) := dk_182 0 64 (dk_at dksX7_command_0 10 rfl rfl)
theorem dX7_command_13 : decode cX7_command 13 = .ok (.areturn, 1) := dk_176 (dk_at dksX7_command_0 13 rfl rfl)
theorem dX7_command_14 : decode cX7_command 14 = .ok (.aload_n 0, 1) := dk_42 (dk_at dksX7_command_0 14 rfl rfl)
theorem dX7_command_15 : decode cX7_command 15 = .ok (.iconst 2, 1) := dk_5 (dk_at dksX7_command_0 15 rfl rfl)
theorem dX7_command_16 : decode cX7_command 16 = .ok (.invokevirtual 68, 3) := dk_182 0 68 (dk_at dksX7_command_0 16 rfl rfl)
theorem dX7_command_19 : decode cX7_command 19 = .ok (.istore_n 1, 1) := dk_60 (dk_at dksX7_command_0 19 rfl rfl)
theorem dX7_command_20 : decode cX7_command 20 = .ok (.aload_n 0, 1) := dk_42 (dk_at dksX7_command_0 20 rfl rfl)
theorem dX7_command_21 : decode cX7_command 21 = .ok (.ldc 72, 2) := dk_18 72 (dk_at dksX7_command_0 21 rfl rfl)
theorem dX7_command_23 : decode cX7_command 23 = .ok (.aload_n 0, 1) := dk_42 (dk_at dksX7_command_0 23 rfl rfl)
theorem dX7_command_24 : decode cX7_command 24 = .ok (.invokevirtual 38, 3) := dk_182 0 38 (dk_at dksX7_command_1 0 rfl rfl)
theorem dX7_command_27 : decode cX7_command 27 = .ok (.i2c, 1) := dk_146 (dk_at dksX7_command_1 3 rfl rfl)
theorem dX7_command_28 : decode cX7_command 28 = .ok (.invokevirtual 74, 3) := dk_182 0 74 (dk_at dksX7_command_1 4 rfl rfl)
theorem dX7_command_31 : decode cX7_command 31 = .ok (.ifCond .lt 7, 3) := dk_155 0 7 (dk_at dksX7_command_1 7 rfl rfl)
theorem dX7_command_34 : decode cX7_command 34 = .ok (.iconst 1, 1) := dk_4 (dk_at dksX7_command_1 10 rfl rfl)
theorem dX7_command_35 : decode cX7_command 35 = .ok (.goto 4, 3) := dk_167 0 4 (dk_at dksX7_command_1 11 rfl rfl)
theorem dX7_command_38 : decode cX7_command 38 = .ok (.iconst 0, 1) := dk_3 (dk_at dksX7_command_1 14 rfl rfl)
theorem dX7_command_39 : decode cX7_command 39 = .ok (.invokevirtual 45, 3) := dk_182 0 45 (dk_at dksX7_command_1 15 rfl rfl)
theorem dX7_command_42 : decode cX7_command 42 = .ok (.new 59, 3) := dk_187 0 59 (dk_at dksX7_command_1 18 rfl rfl)
theorem dX7_command_45 : decode cX7_command 45 = .ok (.dup, 1) := dk_89 (dk_at dksX7_command_1 21 rfl rfl)
theorem dX7_command_46 : decode cX7_command 46 = .ok (.aload_n 0, 1) := dk_42 (dk_at dksX7_command_1 22 rfl rfl)
theorem dX7_command_47 : decode cX7_command 47 = .ok (.getfield 3, 3) := dk_180 0 3 (dk_at dksX7_command_2 0 rfl rfl)
theorem dX7_command_50 : decode cX7_command 50 = .ok (.getfield 19, 3) := dk_180 0 19 (dk_at dksX7_command_2 3 rfl rfl)
theorem dX7_command_53 : decode cX7_command 53 = .ok (.aload_n 0, 1) := dk_42 (dk_at dksX7_command_2 6 rfl rfl)
theorem dX7_command_54 : decode cX7_command 54 = .ok (.getfield 15, 3) := dk_180 0 15 (dk_at dksX7_command_2 7 rfl rfl)
theorem dX7_command_57 : decode cX7_command 57 = .ok (.invokevirtual 29, 3) := dk_182 0 29 (dk_at dksX7_command_2 10 rfl rfl)
theorem dX7_command_60 : decode cX7_command 60 = .ok (.invokespecial 61, 3) := dk_183 0 61 (dk_at dksX7_command_2 13 rfl rfl)
theorem dX7_command_63 : decode cX7_command 63 = .ok (.astore_n 2, 1) := dk_77 (dk_at dksX7_command_2 16 rfl rfl)
theorem dX7_command_64 : decode cX7_command 64 = .ok (.aload_n 0, 1) := dk_42 (dk_at dksX7_command_2 17 rfl rfl)
theorem dX7_command_65 : decode cX7_command 65 = .ok (.dup, 1) := dk_89 (dk_at dksX7_command_2 18 rfl rfl)
theorem dX7_command_66 : decode cX7_command 66 = .ok (.getfield 15, 3) := dk_180 0 15 (dk_at dksX7_command_2 19 rfl rfl)
theorem dX7_command_69 : decode cX7_command 69 = .ok (.iconst 1, 1) := dk_4 (dk_at dksX7_command_2 22 rfl rfl)
theorem dX7_command_70 : decode cX7_command 70 = .ok (.iadd, 1) := dk_96 (dk_at dksX7_command_2 23 rfl rfl)
theorem dX7_command_71 : decode cX7_command 71 = .ok (.putfield 15, 3) := dk_181 0 15 (dk_at dksX7_command_3 0 rfl rfl)
theorem dX7_command_74 : decode cX7_command 74 = .ok (.aload_n 2, 1) := dk_44 (dk_at dksX7_command_3 3 rfl rfl)
theorem dX7_command_75 : decode cX7_command 75 = .ok (.iload_n 1, 1) := dk_27 (dk_at dksX7_command_3 4 rfl rfl)
theorem dX7_command_76 : decode cX7_command 76 = .ok (.putfield 77, 3) := dk_181 0 77 (dk_at dksX7_command_3 5 rfl rfl)
theorem dX7_command_79 : decode cX7_command 79 = .ok (.aload_n 2, 1) := dk_44 (dk_at dksX7_command_3 8 rfl rfl)
theorem dX7_command_80 : decode cX7_command 80 = .ok (.aload_n 2, 1) := dk_44 (dk_at dksX7_command_3 9 rfl rfl)
theorem dX7_command_81 : decode cX7_command 81 = .ok (.getfield 79, 3) := dk_180 0 79 (dk_at dksX7_command_3 10 rfl rfl)
theorem dX7_command_84 : decode cX7_command 84 = .ok (.bipush 46, 2) := dk_16 46 (dk_at dksX7_command_3 13 rfl rfl)
theorem dX7_command_86 : decode cX7_command 86 = .ok (.if_icmp .ne 7, 3) := dk_160 0 7 (dk_at dksX7_command_3 15 rfl rfl)
theorem dX7_command_89 : decode cX7_command 89 = .ok (.iconst 0, 1) := dk_3 (dk_at dksX7_command_3 18 rfl rfl)
theorem dX7_command_90 : decode cX7_command 90 = .ok (.goto 8, 3) := dk_167 0 8 (dk_at dksX7_command_3 19 rfl rfl)
theorem dX7_command_93 : decode cX7_command 93 = .ok (.aload_n 0, 1) := dk_42 (dk_at dksX7_command_3 22 rfl rfl)
theorem dX7_command_94 : decode cX7_command 94 = .ok (.iconst 1, 1) := dk_4 (dk_at dksX7_command_3 23 rfl rfl)
theorem dX7_command_95 : decode cX7_command 95 = .ok (.invokevirtual 68, 3) := dk_182 0 68 (dk_at dksX7_command_4 0 rfl rfl)
theorem dX7_command_98 : decode cX7_command 98 = .ok (.putfield 83, 3) := dk_181 0 83 (dk_at dksX7_command_4 3 rfl rfl)
theorem dX7_command_101 : decode cX7_command 101 = .ok (.aload_n 2, 1) := dk_44 (dk_at dksX7_command_4 6 rfl rfl)
theorem dX7_command_102 : decode cX7_command 102 = .ok (.areturn, 1) := dk_176 (dk_at dksX7_command_4 7 rfl rfl)
abbrev cX7_here : ByteArray := prog_7_method_2_code
def yX7_here : MethodName := ⟨RX7, "here", "()I"⟩
def dkwX7_here_1 : List UInt8 := [42, 180, 0, 15, 182, 0, 29, 167, 0, 5, 16, 245, 172]
abbrev dktX7_here_1 : List UInt8 := dkwX7_here_1 ++ []
def dkwX7_here_0 : List UInt8 := [42, 180, 0, 15, 42, 180, 0, 3, 180, 0, 19, 182, 0, 23, 162, 0, 20, 42, 180, 0, 3, 180, 0, 19]
abbrev dktX7_here_0 : List UInt8 := dkwX7_here_0 ++ dktX7_here_1
theorem dksX7_here_0 : cX7_here.data.toList.drop 0 = dktX7_here_0 := by decide +kernel
theorem dksX7_here_1 : cX7_here.data.toList.drop 24 = dktX7_here_1 := dk_seg dksX7_here_0 24 rfl rfl
theorem dX7_here_0 : decode cX7_here 0 = .ok (.aload_n 0, 1) := dk_42 (dk_at dksX7_here_0 0 rfl rfl)
theorem dX7_here_1 : decode cX7_here 1 = .ok (.getfield 15, 3) := dk_180 0 15 (dk_at dksX7_here_0 1 rfl rfl)
theorem dX7_here_4 : decode cX7_here 4 = .ok (.aload_n 0, 1) := dk_42 (dk_at dksX7_here_0 4 rfl rfl)
theorem dX7_here_5 : decode cX7_here 5 = .ok (.getfield 3, 3) := dk_180 0 3 (dk_at dksX7_here_0 5 rfl rfl)
theorem dX7_here_8 : decode cX7_here 8 = .ok (.getfield 19, 3) := dk_180 0 19 (dk_at dksX7_here_0 8 rfl rfl)
theorem dX7_here_11 : decode cX7_here 11 = .ok (.invokevirtual 23, 3) := dk_182 0 23 (dk_at dksX7_here_0 11 rfl rfl)
theorem dX7_here_14 : decode cX7_here 14 = .ok (.if_icmp .ge 20, 3) := dk_162 0 20 (dk_at dksX7_here_0 14 rfl rfl)
theorem dX7_here_17 : decode cX7_here 17 = .ok (.aload_n 0, 1) := dk_42 (dk_at dksX7_here_0 17 rfl rfl)
theorem dX7_here_18 : decode cX7_here 18 = .ok (.getfield 3, 3) := dk_180 0 3 (dk_at dksX7_here_0 18 rfl rfl)
theorem dX7_here_21 : decode cX7_here 21 = .ok (.getfield 19, 3) := dk_180 0 19 (dk_at dksX7_here_0 21 rfl rfl)
theorem dX7_here_24 : decode cX7_here 24 = .ok (.aload_n 0, 1) := dk_42 (dk_at dksX7_here_1 0 rfl rfl)
theorem dX7_here_25 : decode cX7_here 25 = .ok (.getfield 15, 3) := dk_180 0 15 (dk_at dksX7_here_1 1 rfl rfl)
theorem dX7_here_28 : decode cX7_here 28 = .ok (.invokevirtual 29, 3) := dk_182 0 29 (dk_at dksX7_here_1 4 rfl rfl)
theorem dX7_here_31 : decode cX7_here 31 = .ok (.goto 5, 3) := dk_167 0 5 (dk_at dksX7_here_1 7 rfl rfl)
theorem dX7_here_34 : decode cX7_here 34 = .ok (.bipush (-11), 2) := dk_16 245 (dk_at dksX7_here_1 10 rfl rfl)
theorem dX7_here_36 : decode cX7_here 36 = .ok (.ireturn, 1) := dk_172 (dk_at dksX7_here_1 12 rfl rfl)
abbrev cX7_coming : ByteArray := prog_7_method_6_code
def yX7_coming : MethodName := ⟨RX7, "coming", "()LLarderLocks$Command;"⟩
def dkwX7_coming_1 : List UInt8 := [182, 0, 45, 132, 2, 1, 167, 255, 232, 187, 0, 59, 89, 16, 109, 183, 0, 61, 176]
abbrev dktX7_coming_1 : List UInt8 := dkwX7_coming_1 ++ []
def dkwX7_coming_0 : List UInt8 := [18, 49, 76, 3, 61, 28, 43, 182, 0, 51, 162, 0, 22, 42, 42, 43, 28, 182, 0, 54, 182, 0, 55]
abbrev dktX7_coming_0 : List UInt8 := dkwX7_coming_0 ++ dktX7_coming_1
theorem dksX7_coming_0 : cX7_coming.data.toList.drop 0 = dktX7_coming_0 := by decide +kernel
theorem dksX7_coming_1 : cX7_coming.data.toList.drop 23 = dktX7_coming_1 := dk_seg dksX7_coming_0 23 rfl rfl
theorem dX7_coming_0 : decode cX7_coming 0 = .ok (.ldc 49, 2) := dk_18 49 (dk_at dksX7_coming_0 0 rfl rfl)
theorem dX7_coming_2 : decode cX7_coming 2 = .ok (.astore_n 1, 1) := dk_76 (dk_at dksX7_coming_0 2 rfl rfl)
theorem dX7_coming_3 : decode cX7_coming 3 = .ok (.iconst 0, 1) := dk_3 (dk_at dksX7_coming_0 3 rfl rfl)
theorem dX7_coming_4 : decode cX7_coming 4 = .ok (.istore_n 2, 1) := dk_61 (dk_at dksX7_coming_0 4 rfl rfl)
theorem dX7_coming_5 : decode cX7_coming 5 = .ok (.iload_n 2, 1) := dk_28 (dk_at dksX7_coming_0 5 rfl rfl)
theorem dX7_coming_6 : decode cX7_coming 6 = .ok (.aload_n 1, 1) := dk_43 (dk_at dksX7_coming_0 6 rfl rfl)
theorem dX7_coming_7 : decode cX7_coming 7 = .ok (.invokevirtual 51, 3) := dk_182 0 51 (dk_at dksX7_coming_0 7 rfl rfl)
theorem dX7_coming_10 : decode cX7_coming 10 = .ok (.if_icmp .ge 22, 3) := dk_162 0 22 (dk_at dksX7_coming_0 10 rfl rfl)
theorem dX7_coming_13 : decode cX7_coming 13 = .ok (.aload_n 0, 1) := dk_42 (dk_at dksX7_coming_0 13 rfl rfl)
theorem dX7_coming_14 : decode cX7_coming 14 = .ok (.aload_n 0, 1) := dk_42 (dk_at dksX7_coming_0 14 rfl rfl)
theorem dX7_coming_15 : decode cX7_coming 15 = .ok (.aload_n 1, 1) := dk_43 (dk_at dksX7_coming_0 15 rfl rfl)
theorem dX7_coming_16 : decode cX7_coming 16 = .ok (.iload_n 2, 1) := dk_28 (dk_at dksX7_coming_0 16 rfl rfl)
theorem dX7_coming_17 : decode cX7_coming 17 = .ok (.invokevirtual 54, 3) := dk_182 0 54 (dk_at dksX7_coming_0 17 rfl rfl)
theorem dX7_coming_20 : decode cX7_coming 20 = .ok (.invokevirtual 55, 3) := dk_182 0 55 (dk_at dksX7_coming_0 20 rfl rfl)
theorem dX7_coming_23 : decode cX7_coming 23 = .ok (.invokevirtual 45, 3) := dk_182 0 45 (dk_at dksX7_coming_1 0 rfl rfl)
theorem dX7_coming_26 : decode cX7_coming 26 = .ok (.iinc 2 1, 3) := dk_132 2 1 (dk_at dksX7_coming_1 3 rfl rfl)
theorem dX7_coming_29 : decode cX7_coming 29 = .ok (.goto (-24), 3) := dk_167 255 232 (dk_at dksX7_coming_1 6 rfl rfl)
theorem dX7_coming_32 : decode cX7_coming 32 = .ok (.new 59, 3) := dk_187 0 59 (dk_at dksX7_coming_1 9 rfl rfl)
theorem dX7_coming_35 : decode cX7_coming 35 = .ok (.dup, 1) := dk_89 (dk_at dksX7_coming_1 12 rfl rfl)
theorem dX7_coming_36 : decode cX7_coming 36 = .ok (.bipush 109, 2) := dk_16 109 (dk_at dksX7_coming_1 13 rfl rfl)
theorem dX7_coming_38 : decode cX7_coming 38 = .ok (.invokespecial 61, 3) := dk_183 0 61 (dk_at dksX7_coming_1 15 rfl rfl)
theorem dX7_coming_41 : decode cX7_coming 41 = .ok (.areturn, 1) := dk_176 (dk_at dksX7_coming_1 18 rfl rfl)
abbrev cX7_takes : ByteArray := prog_7_method_4_code
def yX7_takes : MethodName := ⟨RX7, "takes", "(I)Z"⟩
def dkwX7_takes_1 : List UInt8 := [167, 0, 4, 3, 96, 181, 0, 15, 28, 172]
abbrev dktX7_takes_1 : List UInt8 := dkwX7_takes_1 ++ []
def dkwX7_takes_0 : List UInt8 := [42, 182, 0, 38, 27, 160, 0, 7, 4, 167, 0, 4, 3, 61, 42, 89, 180, 0, 15, 28, 153, 0, 7, 4]
abbrev dktX7_takes_0 : List UInt8 := dkwX7_takes_0 ++ dktX7_takes_1
theorem dksX7_takes_0 : cX7_takes.data.toList.drop 0 = dktX7_takes_0 := by decide +kernel
theorem dksX7_takes_1 : cX7_takes.data.toList.drop 24 = dktX7_takes_1 := dk_seg dksX7_takes_0 24 rfl rfl
theorem dX7_takes_0 : decode cX7_takes 0 = .ok (.aload_n 0, 1) := dk_42 (dk_at dksX7_takes_0 0 rfl rfl)
theorem dX7_takes_1 : decode cX7_takes 1 = .ok (.invokevirtual 38, 3) := dk_182 0 38 (dk_at dksX7_takes_0 1 rfl rfl)
theorem dX7_takes_4 : decode cX7_takes 4 = .ok (.iload_n 1, 1) := dk_27 (dk_at dksX7_takes_0 4 rfl rfl)
theorem dX7_takes_5 : decode cX7_takes 5 = .ok (.if_icmp .ne 7, 3) := dk_160 0 7 (dk_at dksX7_takes_0 5 rfl rfl)
theorem dX7_takes_8 : decode cX7_takes 8 = .ok (.iconst 1, 1) := dk_4 (dk_at dksX7_takes_0 8 rfl rfl)
theorem dX7_takes_9 : decode cX7_takes 9 = .ok (.goto 4, 3) := dk_167 0 4 (dk_at dksX7_takes_0 9 rfl rfl)
theorem dX7_takes_12 : decode cX7_takes 12 = .ok (.iconst 0, 1) := dk_3 (dk_at dksX7_takes_0 12 rfl rfl)
theorem dX7_takes_13 : decode cX7_takes 13 = .ok (.istore_n 2, 1) := dk_61 (dk_at dksX7_takes_0 13 rfl rfl)
theorem dX7_takes_14 : decode cX7_takes 14 = .ok (.aload_n 0, 1) := dk_42 (dk_at dksX7_takes_0 14 rfl rfl)
theorem dX7_takes_15 : decode cX7_takes 15 = .ok (.dup, 1) := dk_89 (dk_at dksX7_takes_0 15 rfl rfl)
theorem dX7_takes_16 : decode cX7_takes 16 = .ok (.getfield 15, 3) := dk_180 0 15 (dk_at dksX7_takes_0 16 rfl rfl)
theorem dX7_takes_19 : decode cX7_takes 19 = .ok (.iload_n 2, 1) := dk_28 (dk_at dksX7_takes_0 19 rfl rfl)
theorem dX7_takes_20 : decode cX7_takes 20 = .ok (.ifCond .eq 7, 3) := dk_153 0 7 (dk_at dksX7_takes_0 20 rfl rfl)
theorem dX7_takes_23 : decode cX7_takes 23 = .ok (.iconst 1, 1) := dk_4 (dk_at dksX7_takes_0 23 rfl rfl)
theorem dX7_takes_24 : decode cX7_takes 24 = .ok (.goto 4, 3) := dk_167 0 4 (dk_at dksX7_takes_1 0 rfl rfl)
theorem dX7_takes_27 : decode cX7_takes 27 = .ok (.iconst 0, 1) := dk_3 (dk_at dksX7_takes_1 3 rfl rfl)
theorem dX7_takes_28 : decode cX7_takes 28 = .ok (.iadd, 1) := dk_96 (dk_at dksX7_takes_1 4 rfl rfl)
theorem dX7_takes_29 : decode cX7_takes 29 = .ok (.putfield 15, 3) := dk_181 0 15 (dk_at dksX7_takes_1 5 rfl rfl)
theorem dX7_takes_32 : decode cX7_takes 32 = .ok (.iload_n 2, 1) := dk_28 (dk_at dksX7_takes_1 8 rfl rfl)
theorem dX7_takes_33 : decode cX7_takes 33 = .ok (.ireturn, 1) := dk_172 (dk_at dksX7_takes_1 9 rfl rfl)
abbrev cX7_needs : ByteArray := prog_7_method_3_code
def yX7_needs : MethodName := ⟨RX7, "needs", "(Z)V"⟩
def dkwX7_needs_0 : List UInt8 := [27, 154, 0, 15, 187, 0, 33, 89, 42, 180, 0, 15, 183, 0, 35, 191, 177]
abbrev dktX7_needs_0 : List UInt8 := dkwX7_needs_0 ++ []
theorem dksX7_needs_0 : cX7_needs.data.toList.drop 0 = dktX7_needs_0 := by decide +kernel
theorem dX7_needs_0 : decode cX7_needs 0 = .ok (.iload_n 1, 1) := dk_27 (dk_at dksX7_needs_0 0 rfl rfl)
theorem dX7_needs_1 : decode cX7_needs 1 = .ok (.ifCond .ne 15, 3) := dk_154 0 15 (dk_at dksX7_needs_0 1 rfl rfl)
theorem dX7_needs_4 : decode cX7_needs 4 = .ok (.new 33, 3) := dk_187 0 33 (dk_at dksX7_needs_0 4 rfl rfl)
theorem dX7_needs_7 : decode cX7_needs 7 = .ok (.dup, 1) := dk_89 (dk_at dksX7_needs_0 7 rfl rfl)
theorem dX7_needs_8 : decode cX7_needs 8 = .ok (.aload_n 0, 1) := dk_42 (dk_at dksX7_needs_0 8 rfl rfl)
theorem dX7_needs_9 : decode cX7_needs 9 = .ok (.getfield 15, 3) := dk_180 0 15 (dk_at dksX7_needs_0 9 rfl rfl)
theorem dX7_needs_12 : decode cX7_needs 12 = .ok (.invokespecial 35, 3) := dk_183 0 35 (dk_at dksX7_needs_0 12 rfl rfl)
theorem dX7_needs_15 : decode cX7_needs 15 = .ok (.athrow, 1) := dk_191 (dk_at dksX7_needs_0 15 rfl rfl)
theorem dX7_needs_16 : decode cX7_needs 16 = .ok (.return_, 1) := dk_177 (dk_at dksX7_needs_0 16 rfl rfl)
abbrev cX7_number : ByteArray := prog_7_method_5_code
def yX7_number : MethodName := ⟨RX7, "number", "(I)I"⟩
def dkwX7_number_2 : List UInt8 := [16, 48, 100, 61, 42, 89, 180, 0, 15, 4, 96, 181, 0, 15, 132, 3, 1, 167, 255, 211, 28, 172]
abbrev dktX7_number_2 : List UInt8 := dkwX7_number_2 ++ []
def dkwX7_number_1 : List UInt8 := [42, 182, 0, 38, 16, 48, 16, 57, 184, 0, 41, 153, 0, 32, 16, 10, 28, 104, 42, 182, 0, 38, 96]
abbrev dktX7_number_1 : List UInt8 := dkwX7_number_1 ++ dktX7_number_2
def dkwX7_number_0 : List UInt8 := [42, 42, 182, 0, 38, 16, 48, 16, 57, 184, 0, 41, 182, 0, 45, 3, 61, 3, 62, 29, 27, 162, 0, 46]
abbrev dktX7_number_0 : List UInt8 := dkwX7_number_0 ++ dktX7_number_1
theorem dksX7_number_0 : cX7_number.data.toList.drop 0 = dktX7_number_0 := by decide +kernel
theorem dksX7_number_1 : cX7_number.data.toList.drop 24 = dktX7_number_1 := dk_seg dksX7_number_0 24 rfl rfl
theorem dksX7_number_2 : cX7_number.data.toList.drop 47 = dktX7_number_2 := dk_seg dksX7_number_1 23 rfl rfl
theorem dX7_number_0 : decode cX7_number 0 = .ok (.aload_n 0, 1) := dk_42 (dk_at dksX7_number_0 0 rfl rfl)
theorem dX7_number_1 : decode cX7_number 1 = .ok (.aload_n 0, 1) := dk_42 (dk_at dksX7_number_0 1 rfl rfl)
theorem dX7_number_2 : decode cX7_number 2 = .ok (.invokevirtual 38, 3) := dk_182 0 38 (dk_at dksX7_number_0 2 rfl rfl)
theorem dX7_number_5 : decode cX7_number 5 = .ok (.bipush 48, 2) := dk_16 48 (dk_at dksX7_number_0 5 rfl rfl)
theorem dX7_number_7 : decode cX7_number 7 = .ok (.bipush 57, 2) := dk_16 57 (dk_at dksX7_number_0 7 rfl rfl)
theorem dX7_number_9 : decode cX7_number 9 = .ok (.invokestatic 41, 3) := dk_184 0 41 (dk_at dksX7_number_0 9 rfl rfl)
theorem dX7_number_12 : decode cX7_number 12 = .ok (.invokevirtual 45, 3) := dk_182 0 45 (dk_at dksX7_number_0 12 rfl rfl)
theorem dX7_number_15 : decode cX7_number 15 = .ok (.iconst 0, 1) := dk_3 (dk_at dksX7_number_0 15 rfl rfl)
theorem dX7_number_16 : decode cX7_number 16 = .ok (.istore_n 2, 1) := dk_61 (dk_at dksX7_number_0 16 rfl rfl)
theorem dX7_number_17 : decode cX7_number 17 = .ok (.iconst 0, 1) := dk_3 (dk_at dksX7_number_0 17 rfl rfl)
theorem dX7_number_18 : decode cX7_number 18 = .ok (.istore_n 3, 1) := dk_62 (dk_at dksX7_number_0 18 rfl rfl)
theorem dX7_number_19 : decode cX7_number 19 = .ok (.iload_n 3, 1) := dk_29 (dk_at dksX7_number_0 19 rfl rfl)
theorem dX7_number_20 : decode cX7_number 20 = .ok (.iload_n 1, 1) := dk_27 (dk_at dksX7_number_0 20 rfl rfl)
theorem dX7_number_21 : decode cX7_number 21 = .ok (.if_icmp .ge 46, 3) := dk_162 0 46 (dk_at dksX7_number_0 21 rfl rfl)
theorem dX7_number_24 : decode cX7_number 24 = .ok (.aload_n 0, 1) := dk_42 (dk_at dksX7_number_1 0 rfl rfl)
theorem dX7_number_25 : decode cX7_number 25 = .ok (.invokevirtual 38, 3) := dk_182 0 38 (dk_at dksX7_number_1 1 rfl rfl)
theorem dX7_number_28 : decode cX7_number 28 = .ok (.bipush 48, 2) := dk_16 48 (dk_at dksX7_number_1 4 rfl rfl)
theorem dX7_number_30 : decode cX7_number 30 = .ok (.bipush 57, 2) := dk_16 57 (dk_at dksX7_number_1 6 rfl rfl)
theorem dX7_number_32 : decode cX7_number 32 = .ok (.invokestatic 41, 3) := dk_184 0 41 (dk_at dksX7_number_1 8 rfl rfl)
theorem dX7_number_35 : decode cX7_number 35 = .ok (.ifCond .eq 32, 3) := dk_153 0 32 (dk_at dksX7_number_1 11 rfl rfl)
theorem dX7_number_38 : decode cX7_number 38 = .ok (.bipush 10, 2) := dk_16 10 (dk_at dksX7_number_1 14 rfl rfl)
theorem dX7_number_40 : decode cX7_number 40 = .ok (.iload_n 2, 1) := dk_28 (dk_at dksX7_number_1 16 rfl rfl)
theorem dX7_number_41 : decode cX7_number 41 = .ok (.imul, 1) := dk_104 (dk_at dksX7_number_1 17 rfl rfl)
theorem dX7_number_42 : decode cX7_number 42 = .ok (.aload_n 0, 1) := dk_42 (dk_at dksX7_number_1 18 rfl rfl)
theorem dX7_number_43 : decode cX7_number 43 = .ok (.invokevirtual 38, 3) := dk_182 0 38 (dk_at dksX7_number_1 19 rfl rfl)
theorem dX7_number_46 : decode cX7_number 46 = .ok (.iadd, 1) := dk_96 (dk_at dksX7_number_1 22 rfl rfl)
theorem dX7_number_47 : decode cX7_number 47 = .ok (.bipush 48, 2) := dk_16 48 (dk_at dksX7_number_2 0 rfl rfl)
theorem dX7_number_49 : decode cX7_number 49 = .ok (.isub, 1) := dk_100 (dk_at dksX7_number_2 2 rfl rfl)
theorem dX7_number_50 : decode cX7_number 50 = .ok (.istore_n 2, 1) := dk_61 (dk_at dksX7_number_2 3 rfl rfl)
theorem dX7_number_51 : decode cX7_number 51 = .ok (.aload_n 0, 1) := dk_42 (dk_at dksX7_number_2 4 rfl rfl)
theorem dX7_number_52 : decode cX7_number 52 = .ok (.dup, 1) := dk_89 (dk_at dksX7_number_2 5 rfl rfl)
theorem dX7_number_53 : decode cX7_number 53 = .ok (.getfield 15, 3) := dk_180 0 15 (dk_at dksX7_number_2 6 rfl rfl)
theorem dX7_number_56 : decode cX7_number 56 = .ok (.iconst 1, 1) := dk_4 (dk_at dksX7_number_2 9 rfl rfl)
theorem dX7_number_57 : decode cX7_number 57 = .ok (.iadd, 1) := dk_96 (dk_at dksX7_number_2 10 rfl rfl)
theorem dX7_number_58 : decode cX7_number 58 = .ok (.putfield 15, 3) := dk_181 0 15 (dk_at dksX7_number_2 11 rfl rfl)
theorem dX7_number_61 : decode cX7_number 61 = .ok (.iinc 3 1, 3) := dk_132 3 1 (dk_at dksX7_number_2 14 rfl rfl)
theorem dX7_number_64 : decode cX7_number 64 = .ok (.goto (-45), 3) := dk_167 255 211 (dk_at dksX7_number_2 17 rfl rfl)
theorem dX7_number_67 : decode cX7_number 67 = .ok (.iload_n 2, 1) := dk_28 (dk_at dksX7_number_2 20 rfl rfl)
theorem dX7_number_68 : decode cX7_number 68 = .ok (.ireturn, 1) := dk_172 (dk_at dksX7_number_2 21 rfl rfl)
abbrev cX7_empties : ByteArray := prog_7_method_9_code
def yX7_empties : MethodName := ⟨RX7, "empties", "()V"⟩
def dkwX7_empties_0 : List UInt8 := [42, 180, 0, 3, 180, 0, 19, 3, 182, 0, 96, 177]
abbrev dktX7_empties_0 : List UInt8 := dkwX7_empties_0 ++ []
theorem dksX7_empties_0 : cX7_empties.data.toList.drop 0 = dktX7_empties_0 := by decide +kernel
theorem dX7_empties_0 : decode cX7_empties 0 = .ok (.aload_n 0, 1) := dk_42 (dk_at dksX7_empties_0 0 rfl rfl)
theorem dX7_empties_1 : decode cX7_empties 1 = .ok (.getfield 3, 3) := dk_180 0 3 (dk_at dksX7_empties_0 1 rfl rfl)
theorem dX7_empties_4 : decode cX7_empties 4 = .ok (.getfield 19, 3) := dk_180 0 19 (dk_at dksX7_empties_0 4 rfl rfl)
theorem dX7_empties_7 : decode cX7_empties 7 = .ok (.iconst 0, 1) := dk_3 (dk_at dksX7_empties_0 7 rfl rfl)
theorem dX7_empties_8 : decode cX7_empties 8 = .ok (.invokevirtual 96, 3) := dk_182 0 96 (dk_at dksX7_empties_0 8 rfl rfl)
theorem dX7_empties_11 : decode cX7_empties 11 = .ok (.return_, 1) := dk_177 (dk_at dksX7_empties_0 11 rfl rfl)
theorem q125 : (Jvm.Cond.initialized "LarderLocks$Reader") ∈ lw_all := lw_g (lw_at lw_m1 41 rfl) rfl
theorem q244 : (Jvm.Cond.selects "LarderLocks$Reader" ({ cls := "java/lang/Object", name := "getClass", desc := "()Ljava/lang/Class;" } : Jvm.MethodName) ({ cls := "java/lang/Object", name := "getClass", desc := "()Ljava/lang/Class;" } : Jvm.MethodName)) ∈ lw_all := lw_g (lw_at lw_m1 160 rfl) rfl
theorem q377 : (Jvm.Cond.fieldLinkNest "LarderLocks$Reader" (19 : Nat) "LarderLocks" "text" "Ljava/lang/StringBuilder;" "LarderLocks") ∈ lw_tbl := lw_at lw_m2 53 rfl
theorem q1535 : (Jvm.Cond.instantiable "LarderLocks$Reader" (2 : Nat)) ∈ lw_all := lw_g (lw_at lw_m7 11 rfl) rfl
theorem q1537 : (Jvm.Cond.instanceMethod ({ cls := "LarderLocks$Reader", name := "<init>", desc := "(LLarderLocks;)V" } : Jvm.MethodName)) ∈ lw_all := lw_g (lw_at lw_m7 13 rfl) rfl
theorem q1538 : (Jvm.Cond.code ({ cls := "LarderLocks$Reader", name := "<init>", desc := "(LLarderLocks;)V" } : Jvm.MethodName) prog_7_method_1_code (2 : Nat) (Option.none : Option Jvm.ClassFile.FieldType)) ∈ lw_all := lw_g (lw_at lw_m7 14 rfl) rfl
theorem q1539 : (Jvm.Cond.methodLink "LarderLocks$Reader" (9 : Nat) ({ cls := "java/lang/Object", name := "<init>", desc := "()V" } : Jvm.MethodName)) ∈ lw_all := lw_g (lw_at lw_m7 15 rfl) rfl
theorem q1540 : (Jvm.Cond.fieldLink "LarderLocks$Reader" (15 : Nat) "LarderLocks$Reader" "at" "I") ∈ lw_all := lw_g (lw_at lw_m7 16 rfl) rfl
theorem q1541 : (Jvm.Cond.fieldLink "LarderLocks$Reader" (3 : Nat) "LarderLocks$Reader" "this$0" "LLarderLocks;") ∈ lw_all := lw_g (lw_at lw_m7 17 rfl) rfl
theorem q1542 : (Jvm.Cond.lays "LarderLocks$Reader" "LarderLocks$Reader" "at" "I") ∈ lw_all := lw_g (lw_at lw_m7 18 rfl) rfl
theorem q1543 : (Jvm.Cond.soleField "LarderLocks$Reader" "at") ∈ lw_all := lw_g (lw_at lw_m7 19 rfl) rfl
theorem q1544 : (Jvm.Cond.laysFinal "LarderLocks$Reader" "LarderLocks$Reader" "this$0" "LLarderLocks;") ∈ lw_all := lw_g (lw_at lw_m7 20 rfl) rfl
theorem q1545 : (Jvm.Cond.soleField "LarderLocks$Reader" "this$0") ∈ lw_all := lw_g (lw_at lw_m7 21 rfl) rfl
theorem q1546 : (Jvm.Cond.superclass "LarderLocks$Reader" "java/lang/Object") ∈ lw_all := lw_g (lw_at lw_m7 22 rfl) rfl
theorem q1548 : (Jvm.Cond.instanceMethod ({ cls := "LarderLocks$Reader", name := "commands", desc := "()Ljava/util/LinkedList;" } : Jvm.MethodName)) ∈ lw_all := lw_g (lw_at lw_m7 24 rfl) rfl
theorem q1549 : (Jvm.Cond.selects "LarderLocks$Reader" ({ cls := "LarderLocks$Reader", name := "commands", desc := "()Ljava/util/LinkedList;" } : Jvm.MethodName) ({ cls := "LarderLocks$Reader", name := "commands", desc := "()Ljava/util/LinkedList;" } : Jvm.MethodName)) ∈ lw_all := lw_g (lw_at lw_m7 25 rfl) rfl
theorem q1550 : (Jvm.Cond.code ({ cls := "LarderLocks$Reader", name := "commands", desc := "()Ljava/util/LinkedList;" } : Jvm.MethodName) prog_7_method_8_code (2 : Nat) (Option.some (Jvm.ClassFile.FieldType.object "java/util/LinkedList"))) ∈ lw_all := lw_g (lw_at lw_m7 26 rfl) rfl
theorem q1551 : (Jvm.Cond.classLink "LarderLocks$Reader" (86 : Nat) "java/util/LinkedList") ∈ lw_all := lw_g (lw_at lw_m7 27 rfl) rfl
theorem q1552 : (Jvm.Cond.methodLink "LarderLocks$Reader" (88 : Nat) ({ cls := "java/util/LinkedList", name := "<init>", desc := "()V" } : Jvm.MethodName)) ∈ lw_all := lw_g (lw_at lw_m7 28 rfl) rfl
theorem q1553 : (Jvm.Cond.methodLink "LarderLocks$Reader" (89 : Nat) ({ cls := "LarderLocks$Reader", name := "command", desc := "()LLarderLocks$Command;" } : Jvm.MethodName)) ∈ lw_all := lw_g (lw_at lw_m7 29 rfl) rfl
theorem q1554 : (Jvm.Cond.privateMethod ({ cls := "LarderLocks$Reader", name := "command", desc := "()LLarderLocks$Command;" } : Jvm.MethodName)) ∈ lw_tbl := lw_at lw_m7 30 rfl
theorem q1555 : (Jvm.Cond.instanceMethod ({ cls := "LarderLocks$Reader", name := "command", desc := "()LLarderLocks$Command;" } : Jvm.MethodName)) ∈ lw_all := lw_g (lw_at lw_m7 31 rfl) rfl
theorem q1556 : (Jvm.Cond.code ({ cls := "LarderLocks$Reader", name := "command", desc := "()LLarderLocks$Command;" } : Jvm.MethodName) prog_7_method_7_code (3 : Nat) (Option.some (Jvm.ClassFile.FieldType.object "LarderLocks$Command"))) ∈ lw_all := lw_g (lw_at lw_m7 32 rfl) rfl
theorem q1557 : (Jvm.Cond.methodLink "LarderLocks$Reader" (38 : Nat) ({ cls := "LarderLocks$Reader", name := "here", desc := "()I" } : Jvm.MethodName)) ∈ lw_all := lw_g (lw_at lw_m7 33 rfl) rfl
theorem q1558 : (Jvm.Cond.privateMethod ({ cls := "LarderLocks$Reader", name := "here", desc := "()I" } : Jvm.MethodName)) ∈ lw_tbl := lw_at lw_m7 34 rfl
theorem q1559 : (Jvm.Cond.instanceMethod ({ cls := "LarderLocks$Reader", name := "here", desc := "()I" } : Jvm.MethodName)) ∈ lw_all := lw_g (lw_at lw_m7 35 rfl) rfl
theorem q1560 : (Jvm.Cond.code ({ cls := "LarderLocks$Reader", name := "here", desc := "()I" } : Jvm.MethodName) prog_7_method_2_code (1 : Nat) (Option.some Jvm.ClassFile.FieldType.int)) ∈ lw_all := lw_g (lw_at lw_m7 36 rfl) rfl
theorem q1561 : (Jvm.Cond.methodLink "LarderLocks$Reader" (23 : Nat) ({ cls := "java/lang/StringBuilder", name := "length", desc := "()I" } : Jvm.MethodName)) ∈ lw_all := lw_g (lw_at lw_m7 37 rfl) rfl
theorem q1562 : (Jvm.Cond.methodLink "LarderLocks$Reader" (29 : Nat) ({ cls := "java/lang/StringBuilder", name := "charAt", desc := "(I)C" } : Jvm.MethodName)) ∈ lw_all := lw_g (lw_at lw_m7 38 rfl) rfl
theorem q1572 : (Jvm.Cond.methodLink "LarderLocks$Reader" (64 : Nat) ({ cls := "LarderLocks$Reader", name := "coming", desc := "()LLarderLocks$Command;" } : Jvm.MethodName)) ∈ lw_all := lw_g (lw_at lw_m7 48 rfl) rfl
theorem q1573 : (Jvm.Cond.privateMethod ({ cls := "LarderLocks$Reader", name := "coming", desc := "()LLarderLocks$Command;" } : Jvm.MethodName)) ∈ lw_tbl := lw_at lw_m7 49 rfl
theorem q1574 : (Jvm.Cond.instanceMethod ({ cls := "LarderLocks$Reader", name := "coming", desc := "()LLarderLocks$Command;" } : Jvm.MethodName)) ∈ lw_all := lw_g (lw_at lw_m7 50 rfl) rfl
theorem q1575 : (Jvm.Cond.code ({ cls := "LarderLocks$Reader", name := "coming", desc := "()LLarderLocks$Command;" } : Jvm.MethodName) prog_7_method_6_code (3 : Nat) (Option.some (Jvm.ClassFile.FieldType.object "LarderLocks$Command"))) ∈ lw_all := lw_g (lw_at lw_m7 51 rfl) rfl
theorem q1576 : (Jvm.Cond.stringRef "LarderLocks$Reader" (49 : Nat) "maid") ∈ lw_tbl := lw_at lw_m7 52 rfl
theorem q1577 : (Jvm.Cond.methodLink "LarderLocks$Reader" (51 : Nat) ({ cls := "java/lang/String", name := "length", desc := "()I" } : Jvm.MethodName)) ∈ lw_all := lw_g (lw_at lw_m7 53 rfl) rfl
theorem q1578 : (Jvm.Cond.methodLink "LarderLocks$Reader" (54 : Nat) ({ cls := "java/lang/String", name := "charAt", desc := "(I)C" } : Jvm.MethodName)) ∈ lw_all := lw_g (lw_at lw_m7 54 rfl) rfl
theorem q1593 : (Jvm.Cond.methodLink "LarderLocks$Reader" (55 : Nat) ({ cls := "LarderLocks$Reader", name := "takes", desc := "(I)Z" } : Jvm.MethodName)) ∈ lw_all := lw_g (lw_at lw_m7 69 rfl) rfl
theorem q1594 : (Jvm.Cond.privateMethod ({ cls := "LarderLocks$Reader", name := "takes", desc := "(I)Z" } : Jvm.MethodName)) ∈ lw_tbl := lw_at lw_m7 70 rfl
theorem q1595 : (Jvm.Cond.instanceMethod ({ cls := "LarderLocks$Reader", name := "takes", desc := "(I)Z" } : Jvm.MethodName)) ∈ lw_all := lw_g (lw_at lw_m7 71 rfl) rfl
theorem q1596 : (Jvm.Cond.code ({ cls := "LarderLocks$Reader", name := "takes", desc := "(I)Z" } : Jvm.MethodName) prog_7_method_4_code (3 : Nat) (Option.some Jvm.ClassFile.FieldType.boolean)) ∈ lw_all := lw_g (lw_at lw_m7 72 rfl) rfl
theorem q1597 : (Jvm.Cond.methodLink "LarderLocks$Reader" (45 : Nat) ({ cls := "LarderLocks$Reader", name := "needs", desc := "(Z)V" } : Jvm.MethodName)) ∈ lw_all := lw_g (lw_at lw_m7 73 rfl) rfl
theorem q1598 : (Jvm.Cond.privateMethod ({ cls := "LarderLocks$Reader", name := "needs", desc := "(Z)V" } : Jvm.MethodName)) ∈ lw_tbl := lw_at lw_m7 74 rfl
theorem q1599 : (Jvm.Cond.instanceMethod ({ cls := "LarderLocks$Reader", name := "needs", desc := "(Z)V" } : Jvm.MethodName)) ∈ lw_all := lw_g (lw_at lw_m7 75 rfl) rfl
theorem q1600 : (Jvm.Cond.code ({ cls := "LarderLocks$Reader", name := "needs", desc := "(Z)V" } : Jvm.MethodName) prog_7_method_3_code (2 : Nat) (Option.none : Option Jvm.ClassFile.FieldType)) ∈ lw_all := lw_g (lw_at lw_m7 76 rfl) rfl
theorem q1601 : (Jvm.Cond.classLink "LarderLocks$Reader" (33 : Nat) "LarderLocks$Wrong") ∈ lw_all := lw_g (lw_at lw_m7 77 rfl) rfl
theorem q1610 : (Jvm.Cond.methodLink "LarderLocks$Reader" (35 : Nat) ({ cls := "LarderLocks$Wrong", name := "<init>", desc := "(I)V" } : Jvm.MethodName)) ∈ lw_all := lw_g (lw_at lw_m7 86 rfl) rfl
theorem q1620 : (Jvm.Cond.classLink "LarderLocks$Reader" (59 : Nat) "LarderLocks$Command") ∈ lw_all := lw_g (lw_at lw_m7 96 rfl) rfl
theorem q1622 : (Jvm.Cond.methodLink "LarderLocks$Reader" (61 : Nat) ({ cls := "LarderLocks$Command", name := "<init>", desc := "(C)V" } : Jvm.MethodName)) ∈ lw_all := lw_g (lw_at lw_m7 98 rfl) rfl
theorem q1627 : (Jvm.Cond.fieldLinkNest "LarderLocks$Reader" (79 : Nat) "LarderLocks$Command" "sign" "C" "LarderLocks") ∈ lw_tbl := lw_at lw_m7 103 rfl
theorem q1629 : (Jvm.Cond.fieldLinkNest "LarderLocks$Reader" (77 : Nat) "LarderLocks$Command" "maid" "I" "LarderLocks") ∈ lw_tbl := lw_at lw_m7 105 rfl
theorem q1631 : (Jvm.Cond.fieldLinkNest "LarderLocks$Reader" (83 : Nat) "LarderLocks$Command" "shelf" "I" "LarderLocks") ∈ lw_tbl := lw_at lw_m7 107 rfl
theorem q1639 : (Jvm.Cond.methodLink "LarderLocks$Reader" (68 : Nat) ({ cls := "LarderLocks$Reader", name := "number", desc := "(I)I" } : Jvm.MethodName)) ∈ lw_all := lw_g (lw_at lw_m7 115 rfl) rfl
theorem q1640 : (Jvm.Cond.privateMethod ({ cls := "LarderLocks$Reader", name := "number", desc := "(I)I" } : Jvm.MethodName)) ∈ lw_tbl := lw_at lw_m7 116 rfl
theorem q1641 : (Jvm.Cond.instanceMethod ({ cls := "LarderLocks$Reader", name := "number", desc := "(I)I" } : Jvm.MethodName)) ∈ lw_all := lw_g (lw_at lw_m7 117 rfl) rfl
theorem q1642 : (Jvm.Cond.code ({ cls := "LarderLocks$Reader", name := "number", desc := "(I)I" } : Jvm.MethodName) prog_7_method_5_code (4 : Nat) (Option.some Jvm.ClassFile.FieldType.int)) ∈ lw_all := lw_g (lw_at lw_m7 118 rfl) rfl
theorem q1643 : (Jvm.Cond.methodLinkNest "LarderLocks$Reader" (41 : Nat) ({ cls := "LarderLocks", name := "isIn", desc := "(III)Z" } : Jvm.MethodName) "LarderLocks") ∈ lw_tbl := lw_at lw_m7 119 rfl
theorem q1644 : (Jvm.Cond.stringRef "LarderLocks$Reader" (72 : Nat) "sx-.") ∈ lw_tbl := lw_at lw_m7 120 rfl
theorem q1645 : (Jvm.Cond.methodLink "LarderLocks$Reader" (74 : Nat) ({ cls := "java/lang/String", name := "indexOf", desc := "(I)I" } : Jvm.MethodName)) ∈ lw_all := lw_g (lw_at lw_m7 121 rfl) rfl
theorem q1691 : (Jvm.Cond.methodLink "LarderLocks$Reader" (92 : Nat) ({ cls := "java/util/LinkedList", name := "addLast", desc := "(Ljava/lang/Object;)V" } : Jvm.MethodName)) ∈ lw_all := lw_g (lw_at lw_m7 167 rfl) rfl
theorem q1712 : (Jvm.Cond.instanceMethod ({ cls := "LarderLocks$Reader", name := "empties", desc := "()V" } : Jvm.MethodName)) ∈ lw_all := lw_g (lw_at lw_m7 188 rfl) rfl
theorem q1713 : (Jvm.Cond.selects "LarderLocks$Reader" ({ cls := "LarderLocks$Reader", name := "empties", desc := "()V" } : Jvm.MethodName) ({ cls := "LarderLocks$Reader", name := "empties", desc := "()V" } : Jvm.MethodName)) ∈ lw_all := lw_g (lw_at lw_m7 189 rfl) rfl
theorem q1714 : (Jvm.Cond.code ({ cls := "LarderLocks$Reader", name := "empties", desc := "()V" } : Jvm.MethodName) prog_7_method_9_code (1 : Nat) (Option.none : Option Jvm.ClassFile.FieldType)) ∈ lw_all := lw_g (lw_at lw_m7 190 rfl) rfl
theorem q1715 : (Jvm.Cond.methodLink "LarderLocks$Reader" (96 : Nat) ({ cls := "java/lang/StringBuilder", name := "setLength", desc := "(I)V" } : Jvm.MethodName)) ∈ lw_all := lw_g (lw_at lw_m7 191 rfl) rfl
theorem q2295 : (Jvm.Cond.castable "LarderLocks$Reader" "java/lang/Object") ∈ lw_tbl := lw_at lw_m10 51 rfl
theorem in_X7 : ∀ w ∈ wsX70, w ∈ lw_all := lw_in wsX70 [1542, 1544] (by decide +kernel) (by decide +kernel)

/-! LarderLocks$Wrong -/
set_option maxRecDepth 100000
def RX8 : String := "LarderLocks$Wrong"
def TX8 : u_T := fun k => match k with
  | 0 => ("java/lang/Throwable", "cause", "Ljava/lang/Throwable;", false)
  | 1 => ("java/lang/Throwable", "stackTrace", "[Ljava/lang/StackTraceElement;", false)
  | 2 => ("java/lang/Throwable", "suppressedExceptions", "Ljava/util/List;", false)
  | 3 => ("java/lang/Throwable", "detailMessage", "Ljava/lang/String;", false)
  | 4 => ("java/lang/Throwable", "backtrace", "Ljava/lang/Object;", false)
  | 5 => ("java/lang/Throwable", "depth", "I", false)
  | _ => ("LarderLocks$Wrong", "at", "I", true)
def tyX8 : Nat → FieldType := fun k => match k with
  | 0 => .object "java/lang/Throwable"
  | 1 => .array (.object "java/lang/StackTraceElement")
  | 2 => .object "java/util/List"
  | 3 => .object "java/lang/String"
  | 4 => .object "java/lang/Object"
  | 5 => .int
  | _ => .int
abbrev wsX80 : List Cond := u_ws RX8 TX8 7
theorem nmX8 : ∀ a, a < 7 → ∀ b, b < 7 → a ≠ b → (TX8 a).2.1 ≠ (TX8 b).2.1 := by decide +kernel
theorem tyX8_ok : ∀ k, k < 7 → parseFieldDescriptor (TX8 k).2.2.1 = some (tyX8 k) := by decide +kernel
abbrev cX8_init : ByteArray := prog_10_method_1_code
def yX8_init : MethodName := ⟨RX8, "<init>", "(I)V"⟩
def dkwX8_init_0 : List UInt8 := [42, 1, 1, 3, 3, 183, 0, 1, 42, 27, 181, 0, 7, 177]
abbrev dktX8_init_0 : List UInt8 := dkwX8_init_0 ++ []
theorem dksX8_init_0 : cX8_init.data.toList.drop 0 = dktX8_init_0 := by decide +kernel
theorem dX8_init_0 : decode cX8_init 0 = .ok (.aload_n 0, 1) := dk_42 (dk_at dksX8_init_0 0 rfl rfl)
theorem dX8_init_1 : decode cX8_init 1 = .ok (.aconst_null, 1) := dk_1 (dk_at dksX8_init_0 1 rfl rfl)
theorem dX8_init_2 : decode cX8_init 2 = .ok (.aconst_null, 1) := dk_1 (dk_at dksX8_init_0 2 rfl rfl)
theorem dX8_init_3 : decode cX8_init 3 = .ok (.iconst 0, 1) := dk_3 (dk_at dksX8_init_0 3 rfl rfl)
theorem dX8_init_4 : decode cX8_init 4 = .ok (.iconst 0, 1) := dk_3 (dk_at dksX8_init_0 4 rfl rfl)
theorem dX8_init_5 : decode cX8_init 5 = .ok (.invokespecial 1, 3) := dk_183 0 1 (dk_at dksX8_init_0 5 rfl rfl)
theorem dX8_init_8 : decode cX8_init 8 = .ok (.aload_n 0, 1) := dk_42 (dk_at dksX8_init_0 8 rfl rfl)
theorem dX8_init_9 : decode cX8_init 9 = .ok (.iload_n 1, 1) := dk_27 (dk_at dksX8_init_0 9 rfl rfl)
theorem dX8_init_10 : decode cX8_init 10 = .ok (.putfield 7, 3) := dk_181 0 7 (dk_at dksX8_init_0 10 rfl rfl)
theorem dX8_init_13 : decode cX8_init 13 = .ok (.return_, 1) := dk_177 (dk_at dksX8_init_0 13 rfl rfl)
theorem q126 : (Jvm.Cond.initialized "LarderLocks$Wrong") ∈ lw_all := lw_g (lw_at lw_m1 42 rfl) rfl
theorem q247 : (Jvm.Cond.selects "LarderLocks$Wrong" ({ cls := "java/lang/Object", name := "getClass", desc := "()Ljava/lang/Class;" } : Jvm.MethodName) ({ cls := "java/lang/Object", name := "getClass", desc := "()Ljava/lang/Class;" } : Jvm.MethodName)) ∈ lw_all := lw_g (lw_at lw_m1 163 rfl) rfl
theorem q651 : (Jvm.Cond.selects "LarderLocks$Wrong" ({ cls := "java/lang/Throwable", name := "fillInStackTrace", desc := "()Ljava/lang/Throwable;" } : Jvm.MethodName) ({ cls := "java/lang/Throwable", name := "fillInStackTrace", desc := "()Ljava/lang/Throwable;" } : Jvm.MethodName)) ∈ lw_all := lw_g (lw_at lw_m3 87 rfl) rfl
theorem q676 : (Jvm.Cond.selects "LarderLocks$Wrong" ({ cls := "java/lang/Throwable", name := "toString", desc := "()Ljava/lang/String;" } : Jvm.MethodName) ({ cls := "java/lang/Throwable", name := "toString", desc := "()Ljava/lang/String;" } : Jvm.MethodName)) ∈ lw_all := lw_g (lw_at lw_m3 112 rfl) rfl
theorem q686 : (Jvm.Cond.selects "LarderLocks$Wrong" ({ cls := "java/lang/Throwable", name := "getLocalizedMessage", desc := "()Ljava/lang/String;" } : Jvm.MethodName) ({ cls := "java/lang/Throwable", name := "getLocalizedMessage", desc := "()Ljava/lang/String;" } : Jvm.MethodName)) ∈ lw_all := lw_g (lw_at lw_m3 122 rfl) rfl
theorem q695 : (Jvm.Cond.selects "LarderLocks$Wrong" ({ cls := "java/lang/Throwable", name := "getMessage", desc := "()Ljava/lang/String;" } : Jvm.MethodName) ({ cls := "java/lang/Throwable", name := "getMessage", desc := "()Ljava/lang/String;" } : Jvm.MethodName)) ∈ lw_all := lw_g (lw_at lw_m3 131 rfl) rfl
theorem q1602 : (Jvm.Cond.instantiable "LarderLocks$Wrong" (7 : Nat)) ∈ lw_all := lw_g (lw_at lw_m7 78 rfl) rfl
theorem q1603 : (Jvm.Cond.castable "LarderLocks$Wrong" "LarderLocks$Wrong") ∈ lw_tbl := lw_at lw_m7 79 rfl
theorem q1604 : (Jvm.Cond.selects "LarderLocks$Wrong" ({ cls := "java/lang/Throwable", name := "fillInStackTrace", desc := "(I)Ljava/lang/Throwable;" } : Jvm.MethodName) ({ cls := "java/lang/Throwable", name := "fillInStackTrace", desc := "(I)Ljava/lang/Throwable;" } : Jvm.MethodName)) ∈ lw_all := lw_g (lw_at lw_m7 80 rfl) rfl
theorem q1605 : (Jvm.Cond.lays "LarderLocks$Wrong" "java/lang/Throwable" "cause" "Ljava/lang/Throwable;") ∈ lw_all := lw_g (lw_at lw_m7 81 rfl) rfl
theorem q1606 : (Jvm.Cond.lays "LarderLocks$Wrong" "java/lang/Throwable" "stackTrace" "[Ljava/lang/StackTraceElement;") ∈ lw_all := lw_g (lw_at lw_m7 82 rfl) rfl
theorem q1607 : (Jvm.Cond.lays "LarderLocks$Wrong" "java/lang/Throwable" "suppressedExceptions" "Ljava/util/List;") ∈ lw_all := lw_g (lw_at lw_m7 83 rfl) rfl
theorem q1608 : (Jvm.Cond.lays "LarderLocks$Wrong" "java/lang/Throwable" "detailMessage" "Ljava/lang/String;") ∈ lw_all := lw_g (lw_at lw_m7 84 rfl) rfl
theorem q1609 : (Jvm.Cond.lays "LarderLocks$Wrong" "java/lang/Throwable" "backtrace" "Ljava/lang/Object;") ∈ lw_all := lw_g (lw_at lw_m7 85 rfl) rfl
theorem q1611 : (Jvm.Cond.instanceMethod ({ cls := "LarderLocks$Wrong", name := "<init>", desc := "(I)V" } : Jvm.MethodName)) ∈ lw_all := lw_g (lw_at lw_m7 87 rfl) rfl
theorem q1612 : (Jvm.Cond.code ({ cls := "LarderLocks$Wrong", name := "<init>", desc := "(I)V" } : Jvm.MethodName) prog_10_method_1_code (2 : Nat) (Option.none : Option Jvm.ClassFile.FieldType)) ∈ lw_all := lw_g (lw_at lw_m7 88 rfl) rfl
theorem q1613 : (Jvm.Cond.methodLink "LarderLocks$Wrong" (1 : Nat) ({ cls := "java/lang/Exception", name := "<init>", desc := "(Ljava/lang/String;Ljava/lang/Throwable;ZZ)V" } : Jvm.MethodName)) ∈ lw_all := lw_g (lw_at lw_m7 89 rfl) rfl
theorem q1614 : (Jvm.Cond.fieldLink "LarderLocks$Wrong" (7 : Nat) "LarderLocks$Wrong" "at" "I") ∈ lw_all := lw_g (lw_at lw_m7 90 rfl) rfl
theorem q1616 : (Jvm.Cond.laysFinal "LarderLocks$Wrong" "LarderLocks$Wrong" "at" "I") ∈ lw_all := lw_g (lw_at lw_m7 92 rfl) rfl
theorem q1617 : (Jvm.Cond.soleField "LarderLocks$Wrong" "at") ∈ lw_all := lw_g (lw_at lw_m7 93 rfl) rfl
theorem q1618 : (Jvm.Cond.lays "LarderLocks$Wrong" "java/lang/Throwable" "depth" "I") ∈ lw_all := lw_g (lw_at lw_m7 94 rfl) rfl
theorem q1619 : (Jvm.Cond.superclass "LarderLocks$Wrong" "java/lang/Exception") ∈ lw_all := lw_g (lw_at lw_m7 95 rfl) rfl
theorem q2296 : (Jvm.Cond.castable "LarderLocks$Wrong" "java/lang/Object") ∈ lw_tbl := lw_at lw_m10 52 rfl
theorem in_X8 : ∀ w ∈ wsX80, w ∈ lw_all := lw_in wsX80 [1605, 1606, 1607, 1608, 1609, 1618, 1616] (by decide +kernel) (by decide +kernel)

/-! LarderLocks$Command -/
set_option maxRecDepth 100000
def RX9 : String := "LarderLocks$Command"
def TX9 : u_T := fun k => match k with
  | 0 => ("LarderLocks$Command", "sign", "C", true)
  | 1 => ("LarderLocks$Command", "maid", "I", false)
  | _ => ("LarderLocks$Command", "shelf", "I", false)
def tyX9 : Nat → FieldType := fun k => match k with
  | 0 => .char
  | 1 => .int
  | _ => .int
abbrev wsX90 : List Cond := u_ws RX9 TX9 3
theorem nmX9 : ∀ a, a < 3 → ∀ b, b < 3 → a ≠ b → (TX9 a).2.1 ≠ (TX9 b).2.1 := by decide +kernel
theorem tyX9_ok : ∀ k, k < 3 → parseFieldDescriptor (TX9 k).2.2.1 = some (tyX9 k) := by decide +kernel
abbrev cX9_init : ByteArray := prog_3_method_1_code
def yX9_init : MethodName := ⟨RX9, "<init>", "(C)V"⟩
def dkwX9_init_0 : List UInt8 := [42, 183, 0, 1, 42, 27, 181, 0, 7, 177]
abbrev dktX9_init_0 : List UInt8 := dkwX9_init_0 ++ []
theorem dksX9_init_0 : cX9_init.data.toList.drop 0 = dktX9_init_0 := by decide +kernel
theorem dX9_init_0 : decode cX9_init 0 = .ok (.aload_n 0, 1) := dk_42 (dk_at dksX9_init_0 0 rfl rfl)
theorem dX9_init_1 : decode cX9_init 1 = .ok (.invokespecial 1, 3) := dk_183 0 1 (dk_at dksX9_init_0 1 rfl rfl)
theorem dX9_init_4 : decode cX9_init 4 = .ok (.aload_n 0, 1) := dk_42 (dk_at dksX9_init_0 4 rfl rfl)
theorem dX9_init_5 : decode cX9_init 5 = .ok (.iload_n 1, 1) := dk_27 (dk_at dksX9_init_0 5 rfl rfl)
theorem dX9_init_6 : decode cX9_init 6 = .ok (.putfield 7, 3) := dk_181 0 7 (dk_at dksX9_init_0 6 rfl rfl)
theorem dX9_init_9 : decode cX9_init 9 = .ok (.return_, 1) := dk_177 (dk_at dksX9_init_0 9 rfl rfl)
abbrev cX9_isCarriedOut : ByteArray := prog_3_method_3_code
def yX9_isCarriedOut : MethodName := ⟨RX9, "isCarriedOut", "(LLarderLocks$Larder;[LLarderLocks$Fit;)Z"⟩
def dkwX9_isCarriedOut_0 : List UInt8 := [42, 43, 44, 182, 0, 47, 172, 78, 3, 172]
abbrev dktX9_isCarriedOut_0 : List UInt8 := dkwX9_isCarriedOut_0 ++ []
theorem dksX9_isCarriedOut_0 : cX9_isCarriedOut.data.toList.drop 0 = dktX9_isCarriedOut_0 := by decide +kernel
theorem dX9_isCarriedOut_0 : decode cX9_isCarriedOut 0 = .ok (.aload_n 0, 1) := dk_42 (dk_at dksX9_isCarriedOut_0 0 rfl rfl)
theorem dX9_isCarriedOut_1 : decode cX9_isCarriedOut 1 = .ok (.aload_n 1, 1) := dk_43 (dk_at dksX9_isCarriedOut_0 1 rfl rfl)
theorem dX9_isCarriedOut_2 : decode cX9_isCarriedOut 2 = .ok (.aload_n 2, 1) := dk_44 (dk_at dksX9_isCarriedOut_0 2 rfl rfl)
theorem dX9_isCarriedOut_3 : decode cX9_isCarriedOut 3 = .ok (.invokevirtual 47, 3) := dk_182 0 47 (dk_at dksX9_isCarriedOut_0 3 rfl rfl)
theorem dX9_isCarriedOut_6 : decode cX9_isCarriedOut 6 = .ok (.ireturn, 1) := dk_172 (dk_at dksX9_isCarriedOut_0 6 rfl rfl)
theorem dX9_isCarriedOut_7 : decode cX9_isCarriedOut 7 = .ok (.astore_n 3, 1) := dk_78 (dk_at dksX9_isCarriedOut_0 7 rfl rfl)
theorem dX9_isCarriedOut_8 : decode cX9_isCarriedOut 8 = .ok (.iconst 0, 1) := dk_3 (dk_at dksX9_isCarriedOut_0 8 rfl rfl)
theorem dX9_isCarriedOut_9 : decode cX9_isCarriedOut 9 = .ok (.ireturn, 1) := dk_172 (dk_at dksX9_isCarriedOut_0 9 rfl rfl)
abbrev cX9_isDone : ByteArray := prog_3_method_2_code
def yX9_isDone : MethodName := ⟨RX9, "isDone", "(LLarderLocks$Larder;[LLarderLocks$Fit;)Z"⟩
def dkwX9_isDone_7 : List UInt8 := [4, 167, 0, 4, 3, 172]
abbrev dktX9_isDone_7 : List UInt8 := dkwX9_isDone_7 ++ []
def dkwX9_isDone_6 : List UInt8 := [182, 0, 39, 155, 0, 7, 4, 167, 0, 4, 3, 172, 43, 42, 180, 0, 19, 44, 182, 0, 43, 155, 0, 7]
abbrev dktX9_isDone_6 : List UInt8 := dkwX9_isDone_6 ++ dktX9_isDone_7
def dkwX9_isDone_5 : List UInt8 := [182, 0, 35, 155, 0, 7, 4, 167, 0, 4, 3, 172, 43, 42, 180, 0, 19, 42, 180, 0, 27, 44]
abbrev dktX9_isDone_5 : List UInt8 := dkwX9_isDone_5 ++ dktX9_isDone_6
def dkwX9_isDone_4 : List UInt8 := [43, 42, 180, 0, 19, 42, 180, 0, 27, 42, 180, 0, 7, 16, 120, 160, 0, 7, 4, 167, 0, 4, 3, 44]
abbrev dktX9_isDone_4 : List UInt8 := dkwX9_isDone_4 ++ dktX9_isDone_5
def dkwX9_isDone_3 : List UInt8 := [171, 0, 0, 0, 0, 0, 93, 0, 0, 0, 3, 0, 0, 0, 45, 0, 0, 0, 71, 0, 0, 0, 115, 0, 0, 0, 35, 0, 0, 0, 120, 0, 0, 0, 35]
abbrev dktX9_isDone_3 : List UInt8 := dkwX9_isDone_3 ++ dktX9_isDone_4
def dkwX9_isDone_2 : List UInt8 := [180, 0, 7]
abbrev dktX9_isDone_2 : List UInt8 := dkwX9_isDone_2 ++ dktX9_isDone_3
def dkwX9_isDone_1 : List UInt8 := [180, 0, 19, 182, 0, 23, 153, 0, 13, 42, 180, 0, 27, 184, 0, 30, 154, 0, 5, 3, 172, 42]
abbrev dktX9_isDone_1 : List UInt8 := dkwX9_isDone_1 ++ dktX9_isDone_2
def dkwX9_isDone_0 : List UInt8 := [42, 180, 0, 7, 16, 109, 160, 0, 16, 43, 182, 0, 13, 155, 0, 7, 4, 167, 0, 4, 3, 172, 43, 42]
abbrev dktX9_isDone_0 : List UInt8 := dkwX9_isDone_0 ++ dktX9_isDone_1
theorem dksX9_isDone_0 : cX9_isDone.data.toList.drop 0 = dktX9_isDone_0 := by decide +kernel
theorem dksX9_isDone_1 : cX9_isDone.data.toList.drop 24 = dktX9_isDone_1 := dk_seg dksX9_isDone_0 24 rfl rfl
theorem dksX9_isDone_2 : cX9_isDone.data.toList.drop 46 = dktX9_isDone_2 := dk_seg dksX9_isDone_1 22 rfl rfl
theorem dksX9_isDone_3 : cX9_isDone.data.toList.drop 49 = dktX9_isDone_3 := dk_seg dksX9_isDone_2 3 rfl rfl
theorem dksX9_isDone_4 : cX9_isDone.data.toList.drop 84 = dktX9_isDone_4 := dk_seg dksX9_isDone_3 35 rfl rfl
theorem dksX9_isDone_5 : cX9_isDone.data.toList.drop 108 = dktX9_isDone_5 := dk_seg dksX9_isDone_4 24 rfl rfl
theorem dksX9_isDone_6 : cX9_isDone.data.toList.drop 130 = dktX9_isDone_6 := dk_seg dksX9_isDone_5 22 rfl rfl
theorem dksX9_isDone_7 : cX9_isDone.data.toList.drop 154 = dktX9_isDone_7 := dk_seg dksX9_isDone_6 24 rfl rfl
theorem dX9_isDone_0 : decode cX9_isDone 0 = .ok (.aload_n 0, 1) := dk_42 (dk_at dksX9_isDone_0 0 rfl rfl)
theorem dX9_isDone_1 : decode cX9_isDone 1 = .ok (.getfield 7, 3) := dk_180 0 7 (dk_at dksX9_isDone_0 1 rfl rfl)
theorem dX9_isDone_4 : decode cX9_isDone 4 = .ok (.bipush 109, 2) := dk_16 109 (dk_at dksX9_isDone_0 4 rfl rfl)
theorem dX9_isDone_6 : decode cX9_isDone 6 = .ok (.if_icmp .ne 16, 3) := dk_160 0 16 (dk_at dksX9_isDone_0 6 rfl rfl)
theorem dX9_isDone_9 : decode cX9_isDone 9 = .ok (.aload_n 1, 1) := dk_43 (dk_at dksX9_isDone_0 9 rfl rfl)
theorem dX9_isDone_10 : decode cX9_isDone 10 = .ok (.invokevirtual 13, 3) := dk_182 0 13 (dk_at dksX9_isDone_0 10 rfl rfl)
theorem dX9_isDone_13 : decode cX9_isDone 13 = .ok (.ifCond .lt 7, 3) := dk_155 0 7 (dk_at dksX9_isDone_0 13 rfl rfl)
theorem dX9_isDone_16 : decode cX9_isDone 16 = .ok (.iconst 1, 1) := dk_4 (dk_at dksX9_isDone_0 16 rfl rfl)
theorem dX9_isDone_17 : decode cX9_isDone 17 = .ok (.goto 4, 3) := dk_167 0 4 (dk_at dksX9_isDone_0 17 rfl rfl)
theorem dX9_isDone_20 : decode cX9_isDone 20 = .ok (.iconst 0, 1) := dk_3 (dk_at dksX9_isDone_0 20 rfl rfl)
theorem dX9_isDone_21 : decode cX9_isDone 21 = .ok (.ireturn, 1) := dk_172 (dk_at dksX9_isDone_0 21 rfl rfl)
theorem dX9_isDone_22 : decode cX9_isDone 22 = .ok (.aload_n 1, 1) := dk_43 (dk_at dksX9_isDone_0 22 rfl rfl)
theorem dX9_isDone_23 : decode cX9_isDone 23 = .ok (.aload_n 0, 1) := dk_42 (dk_at dksX9_isDone_0 23 rfl rfl)
theorem dX9_isDone_24 : decode cX9_isDone 24 = .ok (.getfield 19, 3) := dk_180 0 19 (dk_at dksX9_isDone_1 0 rfl rfl)
theorem dX9_isDone_27 : decode cX9_isDone 27 = .ok (.invokevirtual 23, 3) := dk_182 0 23 (dk_at dksX9_isDone_1 3 rfl rfl)
theorem dX9_isDone_30 : decode cX9_isDone 30 = .ok (.ifCond .eq 13, 3) := dk_153 0 13 (dk_at dksX9_isDone_1 6 rfl rfl)
theorem dX9_isDone_33 : decode cX9_isDone 33 = .ok (.aload_n 0, 1) := dk_42 (dk_at dksX9_isDone_1 9 rfl rfl)
theorem dX9_isDone_34 : decode cX9_isDone 34 = .ok (.getfield 27, 3) := dk_180 0 27 (dk_at dksX9_isDone_1 10 rfl rfl)
theorem dX9_isDone_37 : decode cX9_isDone 37 = .ok (.invokestatic 30, 3) := dk_184 0 30 (dk_at dksX9_isDone_1 13 rfl rfl)
theorem dX9_isDone_40 : decode cX9_isDone 40 = .ok (.ifCond .ne 5, 3) := dk_154 0 5 (dk_at dksX9_isDone_1 16 rfl rfl)
theorem dX9_isDone_43 : decode cX9_isDone 43 = .ok (.iconst 0, 1) := dk_3 (dk_at dksX9_isDone_1 19 rfl rfl)
theorem dX9_isDone_44 : decode cX9_isDone 44 = .ok (.ireturn, 1) := dk_172 (dk_at dksX9_isDone_1 20 rfl rfl)
theorem dX9_isDone_45 : decode cX9_isDone 45 = .ok (.aload_n 0, 1) := dk_42 (dk_at dksX9_isDone_1 21 rfl rfl)
theorem dX9_isDone_46 : decode cX9_isDone 46 = .ok (.getfield 7, 3) := dk_180 0 7 (dk_at dksX9_isDone_2 0 rfl rfl)
theorem dX9_isDone_49 : decode cX9_isDone 49 = .ok (.lookupswitch 93 #[(45, 71), (115, 35), (120, 35)], 35) := by decide +kernel
theorem dX9_isDone_84 : decode cX9_isDone 84 = .ok (.aload_n 1, 1) := dk_43 (dk_at dksX9_isDone_4 0 rfl rfl)
theorem dX9_isDone_85 : decode cX9_isDone 85 = .ok (.aload_n 0, 1) := dk_42 (dk_at dksX9_isDone_4 1 rfl rfl)
theorem dX9_isDone_86 : decode cX9_isDone 86 = .ok (.getfield 19, 3) := dk_180 0 19 (dk_at dksX9_isDone_4 2 rfl rfl)
theorem dX9_isDone_89 : decode cX9_isDone 89 = .ok (.aload_n 0, 1) := dk_42 (dk_at dksX9_isDone_4 5 rfl rfl)
theorem dX9_isDone_90 : decode cX9_isDone 90 = .ok (.getfield 27, 3) := dk_180 0 27 (dk_at dksX9_isDone_4 6 rfl rfl)
theorem dX9_isDone_93 : decode cX9_isDone 93 = .ok (.aload_n 0, 1) := dk_42 (dk_at dksX9_isDone_4 9 rfl rfl)
theorem dX9_isDone_94 : decode cX9_isDone 94 = .ok (.getfield 7, 3) := dk_180 0 7 (dk_at dksX9_isDone_4 10 rfl rfl)
theorem dX9_isDone_97 : decode cX9_isDone 97 = .ok (.bipush 120, 2) := dk_16 120 (dk_at dksX9_isDone_4 13 rfl rfl)
theorem dX9_isDone_99 : decode cX9_isDone 99 = .ok (.if_icmp .ne 7, 3) := dk_160 0 7 (dk_at dksX9_isDone_4 15 rfl rfl)
theorem dX9_isDone_102 : decode cX9_isDone 102 = .ok (.iconst 1, 1) := dk_4 (dk_at dksX9_isDone_4 18 rfl rfl)
theorem dX9_isDone_103 : decode cX9_isDone 103 = .ok (.goto 4, 3) := dk_167 0 4 (dk_at dksX9_isDone_4 19 rfl rfl)
theorem dX9_isDone_106 : decode cX9_isDone 106 = .ok (.iconst 0, 1) := dk_3 (dk_at dksX9_isDone_4 22 rfl rfl)
theorem dX9_isDone_107 : decode cX9_isDone 107 = .ok (.aload_n 2, 1) := dk_44 (dk_at dksX9_isDone_4 23 rfl rfl)
theorem dX9_isDone_108 : decode cX9_isDone 108 = .ok (.invokevirtual 35, 3) := dk_182 0 35 (dk_at dksX9_isDone_5 0 rfl rfl)
theorem dX9_isDone_111 : decode cX9_isDone 111 = .ok (.ifCond .lt 7, 3) := dk_155 0 7 (dk_at dksX9_isDone_5 3 rfl rfl)
theorem dX9_isDone_114 : decode cX9_isDone 114 = .ok (.iconst 1, 1) := dk_4 (dk_at dksX9_isDone_5 6 rfl rfl)
theorem dX9_isDone_115 : decode cX9_isDone 115 = .ok (.goto 4, 3) := dk_167 0 4 (dk_at dksX9_isDone_5 7 rfl rfl)
theorem dX9_isDone_118 : decode cX9_isDone 118 = .ok (.iconst 0, 1) := dk_3 (dk_at dksX9_isDone_5 10 rfl rfl)
theorem dX9_isDone_119 : decode cX9_isDone 119 = .ok (.ireturn, 1) := dk_172 (dk_at dksX9_isDone_5 11 rfl rfl)
theorem dX9_isDone_120 : decode cX9_isDone 120 = .ok (.aload_n 1, 1) := dk_43 (dk_at dksX9_isDone_5 12 rfl rfl)
theorem dX9_isDone_121 : decode cX9_isDone 121 = .ok (.aload_n 0, 1) := dk_42 (dk_at dksX9_isDone_5 13 rfl rfl)
theorem dX9_isDone_122 : decode cX9_isDone 122 = .ok (.getfield 19, 3) := dk_180 0 19 (dk_at dksX9_isDone_5 14 rfl rfl)
theorem dX9_isDone_125 : decode cX9_isDone 125 = .ok (.aload_n 0, 1) := dk_42 (dk_at dksX9_isDone_5 17 rfl rfl)
theorem dX9_isDone_126 : decode cX9_isDone 126 = .ok (.getfield 27, 3) := dk_180 0 27 (dk_at dksX9_isDone_5 18 rfl rfl)
theorem dX9_isDone_129 : decode cX9_isDone 129 = .ok (.aload_n 2, 1) := dk_44 (dk_at dksX9_isDone_5 21 rfl rfl)
theorem dX9_isDone_130 : decode cX9_isDone 130 = .ok (.invokevirtual 39, 3) := dk_182 0 39 (dk_at dksX9_isDone_6 0 rfl rfl)
theorem dX9_isDone_133 : decode cX9_isDone 133 = .ok (.ifCond .lt 7, 3) := dk_155 0 7 (dk_at dksX9_isDone_6 3 rfl rfl)
theorem dX9_isDone_136 : decode cX9_isDone 136 = .ok (.iconst 1, 1) := dk_4 (dk_at dksX9_isDone_6 6 rfl rfl)
theorem dX9_isDone_137 : decode cX9_isDone 137 = .ok (.goto 4, 3) := dk_167 0 4 (dk_at dksX9_isDone_6 7 rfl rfl)
theorem dX9_isDone_140 : decode cX9_isDone 140 = .ok (.iconst 0, 1) := dk_3 (dk_at dksX9_isDone_6 10 rfl rfl)
theorem dX9_isDone_141 : decode cX9_isDone 141 = .ok (.ireturn, 1) := dk_172 (dk_at dksX9_isDone_6 11 rfl rfl)
theorem dX9_isDone_142 : decode cX9_isDone 142 = .ok (.aload_n 1, 1) := dk_43 (dk_at dksX9_isDone_6 12 rfl rfl)
theorem dX9_isDone_143 : decode cX9_isDone 143 = .ok (.aload_n 0, 1) := dk_42 (dk_at dksX9_isDone_6 13 rfl rfl)
theorem dX9_isDone_144 : decode cX9_isDone 144 = .ok (.getfield 19, 3) := dk_180 0 19 (dk_at dksX9_isDone_6 14 rfl rfl)
theorem dX9_isDone_147 : decode cX9_isDone 147 = .ok (.aload_n 2, 1) := dk_44 (dk_at dksX9_isDone_6 17 rfl rfl)
theorem dX9_isDone_148 : decode cX9_isDone 148 = .ok (.invokevirtual 43, 3) := dk_182 0 43 (dk_at dksX9_isDone_6 18 rfl rfl)
theorem dX9_isDone_151 : decode cX9_isDone 151 = .ok (.ifCond .lt 7, 3) := dk_155 0 7 (dk_at dksX9_isDone_6 21 rfl rfl)
theorem dX9_isDone_154 : decode cX9_isDone 154 = .ok (.iconst 1, 1) := dk_4 (dk_at dksX9_isDone_7 0 rfl rfl)
theorem dX9_isDone_155 : decode cX9_isDone 155 = .ok (.goto 4, 3) := dk_167 0 4 (dk_at dksX9_isDone_7 1 rfl rfl)
theorem dX9_isDone_158 : decode cX9_isDone 158 = .ok (.iconst 0, 1) := dk_3 (dk_at dksX9_isDone_7 4 rfl rfl)
theorem dX9_isDone_159 : decode cX9_isDone 159 = .ok (.ireturn, 1) := dk_172 (dk_at dksX9_isDone_7 5 rfl rfl)
theorem q127 : (Jvm.Cond.initialized "LarderLocks$Command") ∈ lw_all := lw_g (lw_at lw_m1 43 rfl) rfl
theorem q241 : (Jvm.Cond.selects "LarderLocks$Command" ({ cls := "java/lang/Object", name := "getClass", desc := "()Ljava/lang/Class;" } : Jvm.MethodName) ({ cls := "java/lang/Object", name := "getClass", desc := "()Ljava/lang/Class;" } : Jvm.MethodName)) ∈ lw_all := lw_g (lw_at lw_m1 157 rfl) rfl
theorem q1621 : (Jvm.Cond.instantiable "LarderLocks$Command" (3 : Nat)) ∈ lw_all := lw_g (lw_at lw_m7 97 rfl) rfl
theorem q1623 : (Jvm.Cond.instanceMethod ({ cls := "LarderLocks$Command", name := "<init>", desc := "(C)V" } : Jvm.MethodName)) ∈ lw_all := lw_g (lw_at lw_m7 99 rfl) rfl
theorem q1624 : (Jvm.Cond.code ({ cls := "LarderLocks$Command", name := "<init>", desc := "(C)V" } : Jvm.MethodName) prog_3_method_1_code (2 : Nat) (Option.none : Option Jvm.ClassFile.FieldType)) ∈ lw_all := lw_g (lw_at lw_m7 100 rfl) rfl
theorem q1625 : (Jvm.Cond.methodLink "LarderLocks$Command" (1 : Nat) ({ cls := "java/lang/Object", name := "<init>", desc := "()V" } : Jvm.MethodName)) ∈ lw_all := lw_g (lw_at lw_m7 101 rfl) rfl
theorem q1626 : (Jvm.Cond.fieldLink "LarderLocks$Command" (7 : Nat) "LarderLocks$Command" "sign" "C") ∈ lw_all := lw_g (lw_at lw_m7 102 rfl) rfl
theorem q1628 : (Jvm.Cond.fieldLink "LarderLocks$Command" (19 : Nat) "LarderLocks$Command" "maid" "I") ∈ lw_all := lw_g (lw_at lw_m7 104 rfl) rfl
theorem q1630 : (Jvm.Cond.fieldLink "LarderLocks$Command" (27 : Nat) "LarderLocks$Command" "shelf" "I") ∈ lw_all := lw_g (lw_at lw_m7 106 rfl) rfl
theorem q1632 : (Jvm.Cond.laysFinal "LarderLocks$Command" "LarderLocks$Command" "sign" "C") ∈ lw_all := lw_g (lw_at lw_m7 108 rfl) rfl
theorem q1633 : (Jvm.Cond.soleField "LarderLocks$Command" "sign") ∈ lw_all := lw_g (lw_at lw_m7 109 rfl) rfl
theorem q1634 : (Jvm.Cond.lays "LarderLocks$Command" "LarderLocks$Command" "maid" "I") ∈ lw_all := lw_g (lw_at lw_m7 110 rfl) rfl
theorem q1635 : (Jvm.Cond.soleField "LarderLocks$Command" "maid") ∈ lw_all := lw_g (lw_at lw_m7 111 rfl) rfl
theorem q1636 : (Jvm.Cond.lays "LarderLocks$Command" "LarderLocks$Command" "shelf" "I") ∈ lw_all := lw_g (lw_at lw_m7 112 rfl) rfl
theorem q1637 : (Jvm.Cond.soleField "LarderLocks$Command" "shelf") ∈ lw_all := lw_g (lw_at lw_m7 113 rfl) rfl
theorem q1638 : (Jvm.Cond.superclass "LarderLocks$Command" "java/lang/Object") ∈ lw_all := lw_g (lw_at lw_m7 114 rfl) rfl
theorem q1696 : (Jvm.Cond.instanceMethod ({ cls := "LarderLocks$Command", name := "isCarriedOut", desc := "(LLarderLocks$Larder;[LLarderLocks$Fit;)Z" } : Jvm.MethodName)) ∈ lw_all := lw_g (lw_at lw_m7 172 rfl) rfl
theorem q1697 : (Jvm.Cond.selects "LarderLocks$Command" ({ cls := "LarderLocks$Command", name := "isCarriedOut", desc := "(LLarderLocks$Larder;[LLarderLocks$Fit;)Z" } : Jvm.MethodName) ({ cls := "LarderLocks$Command", name := "isCarriedOut", desc := "(LLarderLocks$Larder;[LLarderLocks$Fit;)Z" } : Jvm.MethodName)) ∈ lw_all := lw_g (lw_at lw_m7 173 rfl) rfl
theorem q1698 : (Jvm.Cond.codeWith ({ cls := "LarderLocks$Command", name := "isCarriedOut", desc := "(LLarderLocks$Larder;[LLarderLocks$Fit;)Z" } : Jvm.MethodName) prog_3_method_3_code (4 : Nat) (Option.some Jvm.ClassFile.FieldType.boolean) [((0 : Nat), (6 : Nat), (7 : Nat), (51 : Nat))]) ∈ lw_all := lw_g (lw_at lw_m7 174 rfl) rfl
theorem q1699 : (Jvm.Cond.classLink "LarderLocks$Command" (51 : Nat) "LarderLocks$Refused") ∈ lw_all := lw_g (lw_at lw_m7 175 rfl) rfl
theorem q1700 : (Jvm.Cond.methodLink "LarderLocks$Command" (47 : Nat) ({ cls := "LarderLocks$Command", name := "isDone", desc := "(LLarderLocks$Larder;[LLarderLocks$Fit;)Z" } : Jvm.MethodName)) ∈ lw_all := lw_g (lw_at lw_m7 176 rfl) rfl
theorem q1701 : (Jvm.Cond.privateMethod ({ cls := "LarderLocks$Command", name := "isDone", desc := "(LLarderLocks$Larder;[LLarderLocks$Fit;)Z" } : Jvm.MethodName)) ∈ lw_tbl := lw_at lw_m7 177 rfl
theorem q1702 : (Jvm.Cond.instanceMethod ({ cls := "LarderLocks$Command", name := "isDone", desc := "(LLarderLocks$Larder;[LLarderLocks$Fit;)Z" } : Jvm.MethodName)) ∈ lw_all := lw_g (lw_at lw_m7 178 rfl) rfl
theorem q1703 : (Jvm.Cond.code ({ cls := "LarderLocks$Command", name := "isDone", desc := "(LLarderLocks$Larder;[LLarderLocks$Fit;)Z" } : Jvm.MethodName) prog_3_method_2_code (3 : Nat) (Option.some Jvm.ClassFile.FieldType.boolean)) ∈ lw_all := lw_g (lw_at lw_m7 179 rfl) rfl
theorem q1704 : (Jvm.Cond.methodLink "LarderLocks$Command" (13 : Nat) ({ cls := "LarderLocks$Larder", name := "comes", desc := "()I" } : Jvm.MethodName)) ∈ lw_all := lw_g (lw_at lw_m7 180 rfl) rfl
theorem q1705 : (Jvm.Cond.methodLink "LarderLocks$Command" (23 : Nat) ({ cls := "LarderLocks$Larder", name := "isThere", desc := "(I)Z" } : Jvm.MethodName)) ∈ lw_all := lw_g (lw_at lw_m7 181 rfl) rfl
theorem q1706 : (Jvm.Cond.methodLinkNest "LarderLocks$Command" (30 : Nat) ({ cls := "LarderLocks", name := "isShelf", desc := "(I)Z" } : Jvm.MethodName) "LarderLocks") ∈ lw_tbl := lw_at lw_m7 182 rfl
theorem q1707 : (Jvm.Cond.methodLink "LarderLocks$Command" (35 : Nat) ({ cls := "LarderLocks$Larder", name := "wants", desc := "(IIZ[LLarderLocks$Fit;)I" } : Jvm.MethodName)) ∈ lw_all := lw_g (lw_at lw_m7 183 rfl) rfl
theorem q1708 : (Jvm.Cond.methodLink "LarderLocks$Command" (39 : Nat) ({ cls := "LarderLocks$Larder", name := "frees", desc := "(II[LLarderLocks$Fit;)I" } : Jvm.MethodName)) ∈ lw_all := lw_g (lw_at lw_m7 184 rfl) rfl
theorem q1709 : (Jvm.Cond.methodLink "LarderLocks$Command" (43 : Nat) ({ cls := "LarderLocks$Larder", name := "ends", desc := "(I[LLarderLocks$Fit;)I" } : Jvm.MethodName)) ∈ lw_all := lw_g (lw_at lw_m7 185 rfl) rfl
theorem q2297 : (Jvm.Cond.castable "LarderLocks$Command" "java/lang/Object") ∈ lw_tbl := lw_at lw_m10 53 rfl
theorem in_X9 : ∀ w ∈ wsX90, w ∈ lw_all := lw_in wsX90 [1632, 1634, 1636] (by decide +kernel) (by decide +kernel)

/-! java/util/AbstractCollection -/
set_option maxRecDepth 100000
def RJ0 : String := "java/util/AbstractCollection"
abbrev cJ0_init : ByteArray := prog_36_method_1_code
def yJ0_init : MethodName := ⟨RJ0, "<init>", "()V"⟩
theorem dJ0_init_0 : decode cJ0_init 0 = .ok (.aload_n 0, 1) := by decide +kernel
theorem dJ0_init_1 : decode cJ0_init 1 = .ok (.invokespecial 1, 3) := by decide +kernel
theorem dJ0_init_4 : decode cJ0_init 4 = .ok (.return_, 1) := by decide +kernel
abbrev cJ0_isEmpty : ByteArray := prog_36_method_4_code
def yJ0_isEmpty : MethodName := ⟨RJ0, "isEmpty", "()Z"⟩
def dkwJ0_isEmpty_0 : List UInt8 := [42, 182, 0, 7, 154, 0, 7, 4, 167, 0, 4, 3, 172]
abbrev dktJ0_isEmpty_0 : List UInt8 := dkwJ0_isEmpty_0 ++ []
theorem dksJ0_isEmpty_0 : cJ0_isEmpty.data.toList.drop 0 = dktJ0_isEmpty_0 := by decide +kernel
theorem dJ0_isEmpty_0 : decode cJ0_isEmpty 0 = .ok (.aload_n 0, 1) := dk_42 (dk_at dksJ0_isEmpty_0 0 rfl rfl)
theorem dJ0_isEmpty_1 : decode cJ0_isEmpty 1 = .ok (.invokevirtual 7, 3) := dk_182 0 7 (dk_at dksJ0_isEmpty_0 1 rfl rfl)
theorem dJ0_isEmpty_4 : decode cJ0_isEmpty 4 = .ok (.ifCond .ne 7, 3) := dk_154 0 7 (dk_at dksJ0_isEmpty_0 4 rfl rfl)
theorem dJ0_isEmpty_7 : decode cJ0_isEmpty 7 = .ok (.iconst 1, 1) := dk_4 (dk_at dksJ0_isEmpty_0 7 rfl rfl)
theorem dJ0_isEmpty_8 : decode cJ0_isEmpty 8 = .ok (.goto 4, 3) := dk_167 0 4 (dk_at dksJ0_isEmpty_0 8 rfl rfl)
theorem dJ0_isEmpty_11 : decode cJ0_isEmpty 11 = .ok (.iconst 0, 1) := dk_3 (dk_at dksJ0_isEmpty_0 11 rfl rfl)
theorem dJ0_isEmpty_12 : decode cJ0_isEmpty 12 = .ok (.ireturn, 1) := dk_172 (dk_at dksJ0_isEmpty_0 12 rfl rfl)
theorem q87 : (Jvm.Cond.initialized "java/util/AbstractCollection") ∈ lw_all := lw_g (lw_at lw_m1 3 rfl) rfl
theorem q156 : (Jvm.Cond.instanceMethod ({ cls := "java/util/AbstractCollection", name := "<init>", desc := "()V" } : Jvm.MethodName)) ∈ lw_all := lw_g (lw_at lw_m1 72 rfl) rfl
theorem q157 : (Jvm.Cond.code ({ cls := "java/util/AbstractCollection", name := "<init>", desc := "()V" } : Jvm.MethodName) prog_36_method_1_code (1 : Nat) (Option.none : Option Jvm.ClassFile.FieldType)) ∈ lw_all := lw_g (lw_at lw_m1 73 rfl) rfl
theorem q158 : (Jvm.Cond.methodLink "java/util/AbstractCollection" (1 : Nat) ({ cls := "java/lang/Object", name := "<init>", desc := "()V" } : Jvm.MethodName)) ∈ lw_all := lw_g (lw_at lw_m1 74 rfl) rfl
theorem q526 : (Jvm.Cond.declares ({ cls := "java/util/AbstractCollection", name := "size", desc := "()I" } : Jvm.MethodName)) ∈ lw_tbl := lw_at lw_m2 202 rfl
theorem q1093 : (Jvm.Cond.declares ({ cls := "java/util/AbstractCollection", name := "isEmpty", desc := "()Z" } : Jvm.MethodName)) ∈ lw_tbl := lw_at lw_m5 49 rfl
theorem q1095 : (Jvm.Cond.instanceMethod ({ cls := "java/util/AbstractCollection", name := "isEmpty", desc := "()Z" } : Jvm.MethodName)) ∈ lw_all := lw_g (lw_at lw_m5 51 rfl) rfl
theorem q1096 : (Jvm.Cond.code ({ cls := "java/util/AbstractCollection", name := "isEmpty", desc := "()Z" } : Jvm.MethodName) prog_36_method_4_code (1 : Nat) (Option.some Jvm.ClassFile.FieldType.boolean)) ∈ lw_all := lw_g (lw_at lw_m5 52 rfl) rfl
theorem q1097 : (Jvm.Cond.methodLink "java/util/AbstractCollection" (7 : Nat) ({ cls := "java/util/AbstractCollection", name := "size", desc := "()I" } : Jvm.MethodName)) ∈ lw_all := lw_g (lw_at lw_m5 53 rfl) rfl
theorem q2259 : (Jvm.Cond.sameMethod "java/util/AbstractCollection" "java/util/AbstractCollection" "size" "()I") ∈ lw_all := lw_g (lw_at lw_m10 15 rfl) rfl

/-! java/util/AbstractList -/
set_option maxRecDepth 100000
def RJ1 : String := "java/util/AbstractList"
abbrev cJ1_init : ByteArray := prog_37_method_1_code
def yJ1_init : MethodName := ⟨RJ1, "<init>", "()V"⟩
def dkwJ1_init_0 : List UInt8 := [42, 183, 0, 1, 42, 3, 181, 0, 7, 177]
abbrev dktJ1_init_0 : List UInt8 := dkwJ1_init_0 ++ []
theorem dksJ1_init_0 : cJ1_init.data.toList.drop 0 = dktJ1_init_0 := by decide +kernel
theorem dJ1_init_0 : decode cJ1_init 0 = .ok (.aload_n 0, 1) := dk_42 (dk_at dksJ1_init_0 0 rfl rfl)
theorem dJ1_init_1 : decode cJ1_init 1 = .ok (.invokespecial 1, 3) := dk_183 0 1 (dk_at dksJ1_init_0 1 rfl rfl)
theorem dJ1_init_4 : decode cJ1_init 4 = .ok (.aload_n 0, 1) := dk_42 (dk_at dksJ1_init_0 4 rfl rfl)
theorem dJ1_init_5 : decode cJ1_init 5 = .ok (.iconst 0, 1) := dk_3 (dk_at dksJ1_init_0 5 rfl rfl)
theorem dJ1_init_6 : decode cJ1_init 6 = .ok (.putfield 7, 3) := dk_181 0 7 (dk_at dksJ1_init_0 6 rfl rfl)
theorem dJ1_init_9 : decode cJ1_init 9 = .ok (.return_, 1) := dk_177 (dk_at dksJ1_init_0 9 rfl rfl)
abbrev cJ1_listIterator : ByteArray := prog_37_method_12_code
def yJ1_listIterator : MethodName := ⟨RJ1, "listIterator", "()Ljava/util/ListIterator;"⟩
def dkwJ1_listIterator_0 : List UInt8 := [42, 3, 182, 0, 47, 176]
abbrev dktJ1_listIterator_0 : List UInt8 := dkwJ1_listIterator_0 ++ []
theorem dksJ1_listIterator_0 : cJ1_listIterator.data.toList.drop 0 = dktJ1_listIterator_0 := by decide +kernel
theorem dJ1_listIterator_0 : decode cJ1_listIterator 0 = .ok (.aload_n 0, 1) := dk_42 (dk_at dksJ1_listIterator_0 0 rfl rfl)
theorem dJ1_listIterator_1 : decode cJ1_listIterator 1 = .ok (.iconst 0, 1) := dk_3 (dk_at dksJ1_listIterator_0 1 rfl rfl)
theorem dJ1_listIterator_2 : decode cJ1_listIterator 2 = .ok (.invokevirtual 47, 3) := dk_182 0 47 (dk_at dksJ1_listIterator_0 2 rfl rfl)
theorem dJ1_listIterator_5 : decode cJ1_listIterator 5 = .ok (.areturn, 1) := dk_176 (dk_at dksJ1_listIterator_0 5 rfl rfl)
theorem q88 : (Jvm.Cond.initialized "java/util/AbstractList") ∈ lw_all := lw_g (lw_at lw_m1 4 rfl) rfl
theorem q153 : (Jvm.Cond.instanceMethod ({ cls := "java/util/AbstractList", name := "<init>", desc := "()V" } : Jvm.MethodName)) ∈ lw_all := lw_g (lw_at lw_m1 69 rfl) rfl
theorem q154 : (Jvm.Cond.code ({ cls := "java/util/AbstractList", name := "<init>", desc := "()V" } : Jvm.MethodName) prog_37_method_1_code (1 : Nat) (Option.none : Option Jvm.ClassFile.FieldType)) ∈ lw_all := lw_g (lw_at lw_m1 70 rfl) rfl
theorem q155 : (Jvm.Cond.methodLink "java/util/AbstractList" (1 : Nat) ({ cls := "java/util/AbstractCollection", name := "<init>", desc := "()V" } : Jvm.MethodName)) ∈ lw_all := lw_g (lw_at lw_m1 71 rfl) rfl
theorem q167 : (Jvm.Cond.fieldLink "java/util/AbstractList" (7 : Nat) "java/util/AbstractList" "modCount" "I") ∈ lw_all := lw_g (lw_at lw_m1 83 rfl) rfl
theorem q180 : (Jvm.Cond.soleField "java/util/AbstractList" "modCount") ∈ lw_all := lw_g (lw_at lw_m1 96 rfl) rfl
theorem q429 : (Jvm.Cond.declares ({ cls := "java/util/AbstractList", name := "listIterator", desc := "()Ljava/util/ListIterator;" } : Jvm.MethodName)) ∈ lw_tbl := lw_at lw_m2 105 rfl
theorem q431 : (Jvm.Cond.instanceMethod ({ cls := "java/util/AbstractList", name := "listIterator", desc := "()Ljava/util/ListIterator;" } : Jvm.MethodName)) ∈ lw_all := lw_g (lw_at lw_m2 107 rfl) rfl
theorem q432 : (Jvm.Cond.code ({ cls := "java/util/AbstractList", name := "listIterator", desc := "()Ljava/util/ListIterator;" } : Jvm.MethodName) prog_37_method_12_code (1 : Nat) (Option.some (Jvm.ClassFile.FieldType.object "java/util/ListIterator"))) ∈ lw_all := lw_g (lw_at lw_m2 108 rfl) rfl
theorem q433 : (Jvm.Cond.methodLink "java/util/AbstractList" (47 : Nat) ({ cls := "java/util/AbstractList", name := "listIterator", desc := "(I)Ljava/util/ListIterator;" } : Jvm.MethodName)) ∈ lw_all := lw_g (lw_at lw_m2 109 rfl) rfl
theorem q434 : (Jvm.Cond.instanceMethod ({ cls := "java/util/AbstractList", name := "listIterator", desc := "(I)Ljava/util/ListIterator;" } : Jvm.MethodName)) ∈ lw_all := lw_g (lw_at lw_m2 110 rfl) rfl
theorem q435 : (Jvm.Cond.sameMethod "java/util/AbstractList" "java/util/AbstractList" "listIterator" "(I)Ljava/util/ListIterator;") ∈ lw_all := lw_g (lw_at lw_m2 111 rfl) rfl
theorem q507 : (Jvm.Cond.declares ({ cls := "java/util/AbstractList", name := "listIterator", desc := "(I)Ljava/util/ListIterator;" } : Jvm.MethodName)) ∈ lw_tbl := lw_at lw_m2 183 rfl
theorem q525 : (Jvm.Cond.sameMethod "java/util/AbstractList" "java/util/AbstractCollection" "size" "()I") ∈ lw_all := lw_g (lw_at lw_m2 201 rfl) rfl
theorem q602 : (Jvm.Cond.declares ({ cls := "java/util/AbstractList", name := "get", desc := "(I)Ljava/lang/Object;" } : Jvm.MethodName)) ∈ lw_tbl := lw_at lw_m3 38 rfl
theorem q603 : (Jvm.Cond.sameMethod "java/util/AbstractList" "java/util/AbstractList" "get" "(I)Ljava/lang/Object;") ∈ lw_all := lw_g (lw_at lw_m3 39 rfl) rfl
theorem q1271 : (Jvm.Cond.instanceMethod ({ cls := "java/util/AbstractList", name := "remove", desc := "(I)Ljava/lang/Object;" } : Jvm.MethodName)) ∈ lw_all := lw_g (lw_at lw_m5 227 rfl) rfl
theorem q1272 : (Jvm.Cond.sameMethod "java/util/AbstractList" "java/util/AbstractList" "remove" "(I)Ljava/lang/Object;") ∈ lw_all := lw_g (lw_at lw_m5 228 rfl) rfl
theorem q1288 : (Jvm.Cond.declares ({ cls := "java/util/AbstractList", name := "remove", desc := "(I)Ljava/lang/Object;" } : Jvm.MethodName)) ∈ lw_tbl := lw_at lw_m6 4 rfl

/-! java/util/ArrayList -/
set_option maxRecDepth 100000
def RJ2 : String := "java/util/ArrayList"
def TJ2 : u_T := fun k => match k with
  | 0 => ("java/util/AbstractList", "modCount", "I", false)
  | 1 => ("java/util/ArrayList", "elementData", "[Ljava/lang/Object;", false)
  | _ => ("java/util/ArrayList", "size", "I", false)
def tyJ2 : Nat → FieldType := fun k => match k with
  | 0 => .int
  | 1 => .array (.object "java/lang/Object")
  | _ => .int
abbrev wsJ20 : List Cond := u_ws RJ2 TJ2 3
theorem nmJ2 : ∀ a, a < 3 → ∀ b, b < 3 → a ≠ b → (TJ2 a).2.1 ≠ (TJ2 b).2.1 := by decide +kernel
theorem tyJ2_ok : ∀ k, k < 3 → parseFieldDescriptor (TJ2 k).2.2.1 = some (tyJ2 k) := by decide +kernel
abbrev cJ2_init : ByteArray := prog_43_method_1_code
def yJ2_init : MethodName := ⟨RJ2, "<init>", "(I)V"⟩
def dkwJ2_init_2 : List UInt8 := [182, 0, 25, 27, 182, 0, 29, 182, 0, 32, 183, 0, 36, 191, 177]
abbrev dktJ2_init_2 : List UInt8 := dkwJ2_init_2 ++ []
def dkwJ2_init_1 : List UInt8 := [178, 0, 15, 181, 0, 9, 167, 0, 30, 187, 0, 18, 89, 187, 0, 20, 89, 183, 0, 22, 18, 23]
abbrev dktJ2_init_1 : List UInt8 := dkwJ2_init_1 ++ dktJ2_init_2
def dkwJ2_init_0 : List UInt8 := [42, 183, 0, 1, 27, 158, 0, 14, 42, 27, 189, 0, 7, 181, 0, 9, 167, 0, 44, 27, 154, 0, 13, 42]
abbrev dktJ2_init_0 : List UInt8 := dkwJ2_init_0 ++ dktJ2_init_1
theorem dksJ2_init_0 : cJ2_init.data.toList.drop 0 = dktJ2_init_0 := by decide +kernel
theorem dksJ2_init_1 : cJ2_init.data.toList.drop 24 = dktJ2_init_1 := dk_seg dksJ2_init_0 24 rfl rfl
theorem dksJ2_init_2 : cJ2_init.data.toList.drop 46 = dktJ2_init_2 := dk_seg dksJ2_init_1 22 rfl rfl
theorem dJ2_init_0 : decode cJ2_init 0 = .ok (.aload_n 0, 1) := dk_42 (dk_at dksJ2_init_0 0 rfl rfl)
theorem dJ2_init_1 : decode cJ2_init 1 = .ok (.invokespecial 1, 3) := dk_183 0 1 (dk_at dksJ2_init_0 1 rfl rfl)
theorem dJ2_init_4 : decode cJ2_init 4 = .ok (.iload_n 1, 1) := dk_27 (dk_at dksJ2_init_0 4 rfl rfl)
theorem dJ2_init_5 : decode cJ2_init 5 = .ok (.ifCond .le 14, 3) := dk_158 0 14 (dk_at dksJ2_init_0 5 rfl rfl)
theorem dJ2_init_8 : decode cJ2_init 8 = .ok (.aload_n 0, 1) := dk_42 (dk_at dksJ2_init_0 8 rfl rfl)
theorem dJ2_init_9 : decode cJ2_init 9 = .ok (.iload_n 1, 1) := dk_27 (dk_at dksJ2_init_0 9 rfl rfl)
theorem dJ2_init_10 : decode cJ2_init 10 = .ok (.anewarray 7, 3) := dk_189 0 7 (dk_at dksJ2_init_0 10 rfl rfl)
theorem dJ2_init_13 : decode cJ2_init 13 = .ok (.putfield 9, 3) := dk_181 0 9 (dk_at dksJ2_init_0 13 rfl rfl)
theorem dJ2_init_16 : decode cJ2_init 16 = .ok (.goto 44, 3) := dk_167 0 44 (dk_at dksJ2_init_0 16 rfl rfl)
theorem dJ2_init_19 : decode cJ2_init 19 = .ok (.iload_n 1, 1) := dk_27 (dk_at dksJ2_init_0 19 rfl rfl)
theorem dJ2_init_20 : decode cJ2_init 20 = .ok (.ifCond .ne 13, 3) := dk_154 0 13 (dk_at dksJ2_init_0 20 rfl rfl)
theorem dJ2_init_23 : decode cJ2_init 23 = .ok (.aload_n 0, 1) := dk_42 (dk_at dksJ2_init_0 23 rfl rfl)
theorem dJ2_init_24 : decode cJ2_init 24 = .ok (.getstatic 15, 3) := dk_178 0 15 (dk_at dksJ2_init_1 0 rfl rfl)
theorem dJ2_init_27 : decode cJ2_init 27 = .ok (.putfield 9, 3) := dk_181 0 9 (dk_at dksJ2_init_1 3 rfl rfl)
theorem dJ2_init_30 : decode cJ2_init 30 = .ok (.goto 30, 3) := dk_167 0 30 (dk_at dksJ2_init_1 6 rfl rfl)
theorem dJ2_init_33 : decode cJ2_init 33 = .ok (.new 18, 3) := dk_187 0 18 (dk_at dksJ2_init_1 9 rfl rfl)
theorem dJ2_init_36 : decode cJ2_init 36 = .ok (.dup, 1) := dk_89 (dk_at dksJ2_init_1 12 rfl rfl)
theorem dJ2_init_37 : decode cJ2_init 37 = .ok (.new 20, 3) := dk_187 0 20 (dk_at dksJ2_init_1 13 rfl rfl)
theorem dJ2_init_40 : decode cJ2_init 40 = .ok (.dup, 1) := dk_89 (dk_at dksJ2_init_1 16 rfl rfl)
theorem dJ2_init_41 : decode cJ2_init 41 = .ok (.invokespecial 22, 3) := dk_183 0 22 (dk_at dksJ2_init_1 17 rfl rfl)
theorem dJ2_init_44 : decode cJ2_init 44 = .ok (.ldc 23, 2) := dk_18 23 (dk_at dksJ2_init_1 20 rfl rfl)
theorem dJ2_init_46 : decode cJ2_init 46 = .ok (.invokevirtual 25, 3) := dk_182 0 25 (dk_at dksJ2_init_2 0 rfl rfl)
theorem dJ2_init_49 : decode cJ2_init 49 = .ok (.iload_n 1, 1) := dk_27 (dk_at dksJ2_init_2 3 rfl rfl)
theorem dJ2_init_50 : decode cJ2_init 50 = .ok (.invokevirtual 29, 3) := dk_182 0 29 (dk_at dksJ2_init_2 4 rfl rfl)
theorem dJ2_init_53 : decode cJ2_init 53 = .ok (.invokevirtual 32, 3) := dk_182 0 32 (dk_at dksJ2_init_2 7 rfl rfl)
theorem dJ2_init_56 : decode cJ2_init 56 = .ok (.invokespecial 36, 3) := dk_183 0 36 (dk_at dksJ2_init_2 10 rfl rfl)
theorem dJ2_init_59 : decode cJ2_init 59 = .ok (.athrow, 1) := dk_191 (dk_at dksJ2_init_2 13 rfl rfl)
theorem dJ2_init_60 : decode cJ2_init 60 = .ok (.return_, 1) := dk_177 (dk_at dksJ2_init_2 14 rfl rfl)
abbrev cJ2_add : ByteArray := prog_43_method_25_code
def yJ2_add : MethodName := ⟨RJ2, "add", "(Ljava/lang/Object;)Z"⟩
def dkwJ2_add_1 : List UInt8 := [172]
abbrev dktJ2_add_1 : List UInt8 := dkwJ2_add_1 ++ []
def dkwJ2_add_0 : List UInt8 := [42, 89, 180, 0, 63, 4, 96, 181, 0, 63, 42, 43, 42, 180, 0, 9, 42, 180, 0, 48, 182, 0, 131, 4]
abbrev dktJ2_add_0 : List UInt8 := dkwJ2_add_0 ++ dktJ2_add_1
theorem dksJ2_add_0 : cJ2_add.data.toList.drop 0 = dktJ2_add_0 := by decide +kernel
theorem dksJ2_add_1 : cJ2_add.data.toList.drop 24 = dktJ2_add_1 := dk_seg dksJ2_add_0 24 rfl rfl
theorem dJ2_add_0 : decode cJ2_add 0 = .ok (.aload_n 0, 1) := dk_42 (dk_at dksJ2_add_0 0 rfl rfl)
theorem dJ2_add_1 : decode cJ2_add 1 = .ok (.dup, 1) := dk_89 (dk_at dksJ2_add_0 1 rfl rfl)
theorem dJ2_add_2 : decode cJ2_add 2 = .ok (.getfield 63, 3) := dk_180 0 63 (dk_at dksJ2_add_0 2 rfl rfl)
theorem dJ2_add_5 : decode cJ2_add 5 = .ok (.iconst 1, 1) := dk_4 (dk_at dksJ2_add_0 5 rfl rfl)
theorem dJ2_add_6 : decode cJ2_add 6 = .ok (.iadd, 1) := dk_96 (dk_at dksJ2_add_0 6 rfl rfl)
theorem dJ2_add_7 : decode cJ2_add 7 = .ok (.putfield 63, 3) := dk_181 0 63 (dk_at dksJ2_add_0 7 rfl rfl)
theorem dJ2_add_10 : decode cJ2_add 10 = .ok (.aload_n 0, 1) := dk_42 (dk_at dksJ2_add_0 10 rfl rfl)
theorem dJ2_add_11 : decode cJ2_add 11 = .ok (.aload_n 1, 1) := dk_43 (dk_at dksJ2_add_0 11 rfl rfl)
theorem dJ2_add_12 : decode cJ2_add 12 = .ok (.aload_n 0, 1) := dk_42 (dk_at dksJ2_add_0 12 rfl rfl)
theorem dJ2_add_13 : decode cJ2_add 13 = .ok (.getfield 9, 3) := dk_180 0 9 (dk_at dksJ2_add_0 13 rfl rfl)
theorem dJ2_add_16 : decode cJ2_add 16 = .ok (.aload_n 0, 1) := dk_42 (dk_at dksJ2_add_0 16 rfl rfl)
theorem dJ2_add_17 : decode cJ2_add 17 = .ok (.getfield 48, 3) := dk_180 0 48 (dk_at dksJ2_add_0 17 rfl rfl)
theorem dJ2_add_20 : decode cJ2_add 20 = .ok (.invokevirtual 131, 3) := dk_182 0 131 (dk_at dksJ2_add_0 20 rfl rfl)
theorem dJ2_add_23 : decode cJ2_add 23 = .ok (.iconst 1, 1) := dk_4 (dk_at dksJ2_add_0 23 rfl rfl)
theorem dJ2_add_24 : decode cJ2_add 24 = .ok (.ireturn, 1) := dk_172 (dk_at dksJ2_add_1 0 rfl rfl)
abbrev cJ2_add_2 : ByteArray := prog_43_method_24_code
def yJ2_add_2 : MethodName := ⟨RJ2, "add", "(Ljava/lang/Object;[Ljava/lang/Object;I)V"⟩
def dkwJ2_add_2_0 : List UInt8 := [29, 44, 190, 160, 0, 8, 42, 182, 0, 129, 77, 44, 29, 43, 83, 42, 29, 4, 96, 181, 0, 48, 177]
abbrev dktJ2_add_2_0 : List UInt8 := dkwJ2_add_2_0 ++ []
theorem dksJ2_add_2_0 : cJ2_add_2.data.toList.drop 0 = dktJ2_add_2_0 := by decide +kernel
theorem dJ2_add_2_0 : decode cJ2_add_2 0 = .ok (.iload_n 3, 1) := dk_29 (dk_at dksJ2_add_2_0 0 rfl rfl)
theorem dJ2_add_2_1 : decode cJ2_add_2 1 = .ok (.aload_n 2, 1) := dk_44 (dk_at dksJ2_add_2_0 1 rfl rfl)
theorem dJ2_add_2_2 : decode cJ2_add_2 2 = .ok (.arraylength, 1) := dk_190 (dk_at dksJ2_add_2_0 2 rfl rfl)
theorem dJ2_add_2_3 : decode cJ2_add_2 3 = .ok (.if_icmp .ne 8, 3) := dk_160 0 8 (dk_at dksJ2_add_2_0 3 rfl rfl)
theorem dJ2_add_2_6 : decode cJ2_add_2 6 = .ok (.aload_n 0, 1) := dk_42 (dk_at dksJ2_add_2_0 6 rfl rfl)
theorem dJ2_add_2_7 : decode cJ2_add_2 7 = .ok (.invokevirtual 129, 3) := dk_182 0 129 (dk_at dksJ2_add_2_0 7 rfl rfl)
theorem dJ2_add_2_10 : decode cJ2_add_2 10 = .ok (.astore_n 2, 1) := dk_77 (dk_at dksJ2_add_2_0 10 rfl rfl)
theorem dJ2_add_2_11 : decode cJ2_add_2 11 = .ok (.aload_n 2, 1) := dk_44 (dk_at dksJ2_add_2_0 11 rfl rfl)
theorem dJ2_add_2_12 : decode cJ2_add_2 12 = .ok (.iload_n 3, 1) := dk_29 (dk_at dksJ2_add_2_0 12 rfl rfl)
theorem dJ2_add_2_13 : decode cJ2_add_2 13 = .ok (.aload_n 1, 1) := dk_43 (dk_at dksJ2_add_2_0 13 rfl rfl)
theorem dJ2_add_2_14 : decode cJ2_add_2 14 = .ok (.aastore, 1) := dk_83 (dk_at dksJ2_add_2_0 14 rfl rfl)
theorem dJ2_add_2_15 : decode cJ2_add_2 15 = .ok (.aload_n 0, 1) := dk_42 (dk_at dksJ2_add_2_0 15 rfl rfl)
theorem dJ2_add_2_16 : decode cJ2_add_2 16 = .ok (.iload_n 3, 1) := dk_29 (dk_at dksJ2_add_2_0 16 rfl rfl)
theorem dJ2_add_2_17 : decode cJ2_add_2 17 = .ok (.iconst 1, 1) := dk_4 (dk_at dksJ2_add_2_0 17 rfl rfl)
theorem dJ2_add_2_18 : decode cJ2_add_2 18 = .ok (.iadd, 1) := dk_96 (dk_at dksJ2_add_2_0 18 rfl rfl)
theorem dJ2_add_2_19 : decode cJ2_add_2 19 = .ok (.putfield 48, 3) := dk_181 0 48 (dk_at dksJ2_add_2_0 19 rfl rfl)
theorem dJ2_add_2_22 : decode cJ2_add_2 22 = .ok (.return_, 1) := dk_177 (dk_at dksJ2_add_2_0 22 rfl rfl)
abbrev cJ2_grow : ByteArray := prog_43_method_7_code
def yJ2_grow : MethodName := ⟨RJ2, "grow", "()[Ljava/lang/Object;"⟩
def dkwJ2_grow_0 : List UInt8 := [42, 42, 180, 0, 48, 4, 96, 182, 0, 69, 176]
abbrev dktJ2_grow_0 : List UInt8 := dkwJ2_grow_0 ++ []
theorem dksJ2_grow_0 : cJ2_grow.data.toList.drop 0 = dktJ2_grow_0 := by decide +kernel
theorem dJ2_grow_0 : decode cJ2_grow 0 = .ok (.aload_n 0, 1) := dk_42 (dk_at dksJ2_grow_0 0 rfl rfl)
theorem dJ2_grow_1 : decode cJ2_grow 1 = .ok (.aload_n 0, 1) := dk_42 (dk_at dksJ2_grow_0 1 rfl rfl)
theorem dJ2_grow_2 : decode cJ2_grow 2 = .ok (.getfield 48, 3) := dk_180 0 48 (dk_at dksJ2_grow_0 2 rfl rfl)
theorem dJ2_grow_5 : decode cJ2_grow 5 = .ok (.iconst 1, 1) := dk_4 (dk_at dksJ2_grow_0 5 rfl rfl)
theorem dJ2_grow_6 : decode cJ2_grow 6 = .ok (.iadd, 1) := dk_96 (dk_at dksJ2_grow_0 6 rfl rfl)
theorem dJ2_grow_7 : decode cJ2_grow 7 = .ok (.invokevirtual 69, 3) := dk_182 0 69 (dk_at dksJ2_grow_0 7 rfl rfl)
theorem dJ2_grow_10 : decode cJ2_grow 10 = .ok (.areturn, 1) := dk_176 (dk_at dksJ2_grow_0 10 rfl rfl)
abbrev cJ2_grow_2 : ByteArray := prog_43_method_6_code
def yJ2_grow_2 : MethodName := ⟨RJ2, "grow", "(I)[Ljava/lang/Object;"⟩
def dkwJ2_grow_2_2 : List UInt8 := [27, 184, 0, 79, 189, 0, 7, 90, 181, 0, 9, 176]
abbrev dktJ2_grow_2_2 : List UInt8 := dkwJ2_grow_2_2 ++ []
def dkwJ2_grow_2_1 : List UInt8 := [28, 4, 122, 184, 0, 73, 62, 42, 42, 180, 0, 9, 29, 184, 0, 66, 90, 181, 0, 9, 176, 42, 16, 10]
abbrev dktJ2_grow_2_1 : List UInt8 := dkwJ2_grow_2_1 ++ dktJ2_grow_2_2
def dkwJ2_grow_2_0 : List UInt8 := [42, 180, 0, 9, 190, 61, 28, 157, 0, 13, 42, 180, 0, 9, 178, 0, 39, 165, 0, 28, 28, 27, 28, 100]
abbrev dktJ2_grow_2_0 : List UInt8 := dkwJ2_grow_2_0 ++ dktJ2_grow_2_1
theorem dksJ2_grow_2_0 : cJ2_grow_2.data.toList.drop 0 = dktJ2_grow_2_0 := by decide +kernel
theorem dksJ2_grow_2_1 : cJ2_grow_2.data.toList.drop 24 = dktJ2_grow_2_1 := dk_seg dksJ2_grow_2_0 24 rfl rfl
theorem dksJ2_grow_2_2 : cJ2_grow_2.data.toList.drop 48 = dktJ2_grow_2_2 := dk_seg dksJ2_grow_2_1 24 rfl rfl
theorem dJ2_grow_2_0 : decode cJ2_grow_2 0 = .ok (.aload_n 0, 1) := dk_42 (dk_at dksJ2_grow_2_0 0 rfl rfl)
theorem dJ2_grow_2_1 : decode cJ2_grow_2 1 = .ok (.getfield 9, 3) := dk_180 0 9 (dk_at dksJ2_grow_2_0 1 rfl rfl)
theorem dJ2_grow_2_4 : decode cJ2_grow_2 4 = .ok (.arraylength, 1) := dk_190 (dk_at dksJ2_grow_2_0 4 rfl rfl)
theorem dJ2_grow_2_5 : decode cJ2_grow_2 5 = .ok (.istore_n 2, 1) := dk_61 (dk_at dksJ2_grow_2_0 5 rfl rfl)
theorem dJ2_grow_2_6 : decode cJ2_grow_2 6 = .ok (.iload_n 2, 1) := dk_28 (dk_at dksJ2_grow_2_0 6 rfl rfl)
theorem dJ2_grow_2_7 : decode cJ2_grow_2 7 = .ok (.ifCond .gt 13, 3) := dk_157 0 13 (dk_at dksJ2_grow_2_0 7 rfl rfl)
theorem dJ2_grow_2_10 : decode cJ2_grow_2 10 = .ok (.aload_n 0, 1) := dk_42 (dk_at dksJ2_grow_2_0 10 rfl rfl)
theorem dJ2_grow_2_11 : decode cJ2_grow_2 11 = .ok (.getfield 9, 3) := dk_180 0 9 (dk_at dksJ2_grow_2_0 11 rfl rfl)
theorem dJ2_grow_2_14 : decode cJ2_grow_2 14 = .ok (.getstatic 39, 3) := dk_178 0 39 (dk_at dksJ2_grow_2_0 14 rfl rfl)
theorem dJ2_grow_2_17 : decode cJ2_grow_2 17 = .ok (.if_acmp .eq 28, 3) := dk_165 0 28 (dk_at dksJ2_grow_2_0 17 rfl rfl)
theorem dJ2_grow_2_20 : decode cJ2_grow_2 20 = .ok (.iload_n 2, 1) := dk_28 (dk_at dksJ2_grow_2_0 20 rfl rfl)
theorem dJ2_grow_2_21 : decode cJ2_grow_2 21 = .ok (.iload_n 1, 1) := dk_27 (dk_at dksJ2_grow_2_0 21 rfl rfl)
theorem dJ2_grow_2_22 : decode cJ2_grow_2 22 = .ok (.iload_n 2, 1) := dk_28 (dk_at dksJ2_grow_2_0 22 rfl rfl)
theorem dJ2_grow_2_23 : decode cJ2_grow_2 23 = .ok (.isub, 1) := dk_100 (dk_at dksJ2_grow_2_0 23 rfl rfl)
theorem dJ2_grow_2_24 : decode cJ2_grow_2 24 = .ok (.iload_n 2, 1) := dk_28 (dk_at dksJ2_grow_2_1 0 rfl rfl)
theorem dJ2_grow_2_25 : decode cJ2_grow_2 25 = .ok (.iconst 1, 1) := dk_4 (dk_at dksJ2_grow_2_1 1 rfl rfl)
theorem dJ2_grow_2_26 : decode cJ2_grow_2 26 = .ok (.ishr, 1) := dk_122 (dk_at dksJ2_grow_2_1 2 rfl rfl)
theorem dJ2_grow_2_27 : decode cJ2_grow_2 27 = .ok (.invokestatic 73, 3) := dk_184 0 73 (dk_at dksJ2_grow_2_1 3 rfl rfl)
theorem dJ2_grow_2_30 : decode cJ2_grow_2 30 = .ok (.istore_n 3, 1) := dk_62 (dk_at dksJ2_grow_2_1 6 rfl rfl)
theorem dJ2_grow_2_31 : decode cJ2_grow_2 31 = .ok (.aload_n 0, 1) := dk_42 (dk_at dksJ2_grow_2_1 7 rfl rfl)
theorem dJ2_grow_2_32 : decode cJ2_grow_2 32 = .ok (.aload_n 0, 1) := dk_42 (dk_at dksJ2_grow_2_1 8 rfl rfl)
theorem dJ2_grow_2_33 : decode cJ2_grow_2 33 = .ok (.getfield 9, 3) := dk_180 0 9 (dk_at dksJ2_grow_2_1 9 rfl rfl)
theorem dJ2_grow_2_36 : decode cJ2_grow_2 36 = .ok (.iload_n 3, 1) := dk_29 (dk_at dksJ2_grow_2_1 12 rfl rfl)
theorem dJ2_grow_2_37 : decode cJ2_grow_2 37 = .ok (.invokestatic 66, 3) := dk_184 0 66 (dk_at dksJ2_grow_2_1 13 rfl rfl)
theorem dJ2_grow_2_40 : decode cJ2_grow_2 40 = .ok (.dup_x1, 1) := dk_90 (dk_at dksJ2_grow_2_1 16 rfl rfl)
theorem dJ2_grow_2_41 : decode cJ2_grow_2 41 = .ok (.putfield 9, 3) := dk_181 0 9 (dk_at dksJ2_grow_2_1 17 rfl rfl)
theorem dJ2_grow_2_44 : decode cJ2_grow_2 44 = .ok (.areturn, 1) := dk_176 (dk_at dksJ2_grow_2_1 20 rfl rfl)
theorem dJ2_grow_2_45 : decode cJ2_grow_2 45 = .ok (.aload_n 0, 1) := dk_42 (dk_at dksJ2_grow_2_1 21 rfl rfl)
theorem dJ2_grow_2_46 : decode cJ2_grow_2 46 = .ok (.bipush 10, 2) := dk_16 10 (dk_at dksJ2_grow_2_1 22 rfl rfl)
theorem dJ2_grow_2_48 : decode cJ2_grow_2 48 = .ok (.iload_n 1, 1) := dk_27 (dk_at dksJ2_grow_2_2 0 rfl rfl)
theorem dJ2_grow_2_49 : decode cJ2_grow_2 49 = .ok (.invokestatic 79, 3) := dk_184 0 79 (dk_at dksJ2_grow_2_2 1 rfl rfl)
theorem dJ2_grow_2_52 : decode cJ2_grow_2 52 = .ok (.anewarray 7, 3) := dk_189 0 7 (dk_at dksJ2_grow_2_2 4 rfl rfl)
theorem dJ2_grow_2_55 : decode cJ2_grow_2 55 = .ok (.dup_x1, 1) := dk_90 (dk_at dksJ2_grow_2_2 7 rfl rfl)
theorem dJ2_grow_2_56 : decode cJ2_grow_2 56 = .ok (.putfield 9, 3) := dk_181 0 9 (dk_at dksJ2_grow_2_2 8 rfl rfl)
theorem dJ2_grow_2_59 : decode cJ2_grow_2 59 = .ok (.areturn, 1) := dk_176 (dk_at dksJ2_grow_2_2 11 rfl rfl)
abbrev cJ2_get : ByteArray := prog_43_method_20_code
def yJ2_get : MethodName := ⟨RJ2, "get", "(I)Ljava/lang/Object;"⟩
def dkwJ2_get_0 : List UInt8 := [27, 42, 180, 0, 48, 184, 0, 118, 87, 42, 27, 182, 0, 123, 176]
abbrev dktJ2_get_0 : List UInt8 := dkwJ2_get_0 ++ []
theorem dksJ2_get_0 : cJ2_get.data.toList.drop 0 = dktJ2_get_0 := by decide +kernel
theorem dJ2_get_0 : decode cJ2_get 0 = .ok (.iload_n 1, 1) := dk_27 (dk_at dksJ2_get_0 0 rfl rfl)
theorem dJ2_get_1 : decode cJ2_get 1 = .ok (.aload_n 0, 1) := dk_42 (dk_at dksJ2_get_0 1 rfl rfl)
theorem dJ2_get_2 : decode cJ2_get 2 = .ok (.getfield 48, 3) := dk_180 0 48 (dk_at dksJ2_get_0 2 rfl rfl)
theorem dJ2_get_5 : decode cJ2_get 5 = .ok (.invokestatic 118, 3) := dk_184 0 118 (dk_at dksJ2_get_0 5 rfl rfl)
theorem dJ2_get_8 : decode cJ2_get 8 = .ok (.pop, 1) := dk_87 (dk_at dksJ2_get_0 8 rfl rfl)
theorem dJ2_get_9 : decode cJ2_get 9 = .ok (.aload_n 0, 1) := dk_42 (dk_at dksJ2_get_0 9 rfl rfl)
theorem dJ2_get_10 : decode cJ2_get 10 = .ok (.iload_n 1, 1) := dk_27 (dk_at dksJ2_get_0 10 rfl rfl)
theorem dJ2_get_11 : decode cJ2_get 11 = .ok (.invokevirtual 123, 3) := dk_182 0 123 (dk_at dksJ2_get_0 11 rfl rfl)
theorem dJ2_get_14 : decode cJ2_get 14 = .ok (.areturn, 1) := dk_176 (dk_at dksJ2_get_0 14 rfl rfl)
abbrev cJ2_elementData : ByteArray := prog_43_method_18_code
def yJ2_elementData : MethodName := ⟨RJ2, "elementData", "(I)Ljava/lang/Object;"⟩
def dkwJ2_elementData_0 : List UInt8 := [42, 180, 0, 9, 27, 50, 176]
abbrev dktJ2_elementData_0 : List UInt8 := dkwJ2_elementData_0 ++ []
theorem dksJ2_elementData_0 : cJ2_elementData.data.toList.drop 0 = dktJ2_elementData_0 := by decide +kernel
theorem dJ2_elementData_0 : decode cJ2_elementData 0 = .ok (.aload_n 0, 1) := dk_42 (dk_at dksJ2_elementData_0 0 rfl rfl)
theorem dJ2_elementData_1 : decode cJ2_elementData 1 = .ok (.getfield 9, 3) := dk_180 0 9 (dk_at dksJ2_elementData_0 1 rfl rfl)
theorem dJ2_elementData_4 : decode cJ2_elementData 4 = .ok (.iload_n 1, 1) := dk_27 (dk_at dksJ2_elementData_0 4 rfl rfl)
theorem dJ2_elementData_5 : decode cJ2_elementData 5 = .ok (.aaload, 1) := dk_50 (dk_at dksJ2_elementData_0 5 rfl rfl)
theorem dJ2_elementData_6 : decode cJ2_elementData 6 = .ok (.areturn, 1) := dk_176 (dk_at dksJ2_elementData_0 6 rfl rfl)
abbrev cJ2_listIterator : ByteArray := prog_43_method_53_code
def yJ2_listIterator : MethodName := ⟨RJ2, "listIterator", "(I)Ljava/util/ListIterator;"⟩
def dkwJ2_listIterator_0 : List UInt8 := [42, 27, 182, 0, 135, 187, 1, 6, 89, 42, 27, 183, 1, 8, 176]
abbrev dktJ2_listIterator_0 : List UInt8 := dkwJ2_listIterator_0 ++ []
theorem dksJ2_listIterator_0 : cJ2_listIterator.data.toList.drop 0 = dktJ2_listIterator_0 := by decide +kernel
theorem dJ2_listIterator_0 : decode cJ2_listIterator 0 = .ok (.aload_n 0, 1) := dk_42 (dk_at dksJ2_listIterator_0 0 rfl rfl)
theorem dJ2_listIterator_1 : decode cJ2_listIterator 1 = .ok (.iload_n 1, 1) := dk_27 (dk_at dksJ2_listIterator_0 1 rfl rfl)
theorem dJ2_listIterator_2 : decode cJ2_listIterator 2 = .ok (.invokevirtual 135, 3) := dk_182 0 135 (dk_at dksJ2_listIterator_0 2 rfl rfl)
theorem dJ2_listIterator_5 : decode cJ2_listIterator 5 = .ok (.new 262, 3) := dk_187 1 6 (dk_at dksJ2_listIterator_0 5 rfl rfl)
theorem dJ2_listIterator_8 : decode cJ2_listIterator 8 = .ok (.dup, 1) := dk_89 (dk_at dksJ2_listIterator_0 8 rfl rfl)
theorem dJ2_listIterator_9 : decode cJ2_listIterator 9 = .ok (.aload_n 0, 1) := dk_42 (dk_at dksJ2_listIterator_0 9 rfl rfl)
theorem dJ2_listIterator_10 : decode cJ2_listIterator 10 = .ok (.iload_n 1, 1) := dk_27 (dk_at dksJ2_listIterator_0 10 rfl rfl)
theorem dJ2_listIterator_11 : decode cJ2_listIterator 11 = .ok (.invokespecial 264, 3) := dk_183 1 8 (dk_at dksJ2_listIterator_0 11 rfl rfl)
theorem dJ2_listIterator_14 : decode cJ2_listIterator 14 = .ok (.areturn, 1) := dk_176 (dk_at dksJ2_listIterator_0 14 rfl rfl)
abbrev cJ2_rangeCheckForAdd : ByteArray := prog_43_method_45_code
def yJ2_rangeCheckForAdd : MethodName := ⟨RJ2, "rangeCheckForAdd", "(I)V"⟩
def dkwJ2_rangeCheckForAdd_1 : List UInt8 := [191, 177]
abbrev dktJ2_rangeCheckForAdd_1 : List UInt8 := dkwJ2_rangeCheckForAdd_1 ++ []
def dkwJ2_rangeCheckForAdd_0 : List UInt8 := [27, 42, 180, 0, 48, 163, 0, 7, 27, 156, 0, 16, 187, 0, 187, 89, 42, 27, 182, 0, 198, 183, 0, 193]
abbrev dktJ2_rangeCheckForAdd_0 : List UInt8 := dkwJ2_rangeCheckForAdd_0 ++ dktJ2_rangeCheckForAdd_1
theorem dksJ2_rangeCheckForAdd_0 : cJ2_rangeCheckForAdd.data.toList.drop 0 = dktJ2_rangeCheckForAdd_0 := by decide +kernel
theorem dksJ2_rangeCheckForAdd_1 : cJ2_rangeCheckForAdd.data.toList.drop 24 = dktJ2_rangeCheckForAdd_1 := dk_seg dksJ2_rangeCheckForAdd_0 24 rfl rfl
theorem dJ2_rangeCheckForAdd_0 : decode cJ2_rangeCheckForAdd 0 = .ok (.iload_n 1, 1) := dk_27 (dk_at dksJ2_rangeCheckForAdd_0 0 rfl rfl)
theorem dJ2_rangeCheckForAdd_1 : decode cJ2_rangeCheckForAdd 1 = .ok (.aload_n 0, 1) := dk_42 (dk_at dksJ2_rangeCheckForAdd_0 1 rfl rfl)
theorem dJ2_rangeCheckForAdd_2 : decode cJ2_rangeCheckForAdd 2 = .ok (.getfield 48, 3) := dk_180 0 48 (dk_at dksJ2_rangeCheckForAdd_0 2 rfl rfl)
theorem dJ2_rangeCheckForAdd_5 : decode cJ2_rangeCheckForAdd 5 = .ok (.if_icmp .gt 7, 3) := dk_163 0 7 (dk_at dksJ2_rangeCheckForAdd_0 5 rfl rfl)
theorem dJ2_rangeCheckForAdd_8 : decode cJ2_rangeCheckForAdd 8 = .ok (.iload_n 1, 1) := dk_27 (dk_at dksJ2_rangeCheckForAdd_0 8 rfl rfl)
theorem dJ2_rangeCheckForAdd_9 : decode cJ2_rangeCheckForAdd 9 = .ok (.ifCond .ge 16, 3) := dk_156 0 16 (dk_at dksJ2_rangeCheckForAdd_0 9 rfl rfl)
theorem dJ2_rangeCheckForAdd_12 : decode cJ2_rangeCheckForAdd 12 = .ok (.new 187, 3) := dk_187 0 187 (dk_at dksJ2_rangeCheckForAdd_0 12 rfl rfl)
theorem dJ2_rangeCheckForAdd_15 : decode cJ2_rangeCheckForAdd 15 = .ok (.dup, 1) := dk_89 (dk_at dksJ2_rangeCheckForAdd_0 15 rfl rfl)
theorem dJ2_rangeCheckForAdd_16 : decode cJ2_rangeCheckForAdd 16 = .ok (.aload_n 0, 1) := dk_42 (dk_at dksJ2_rangeCheckForAdd_0 16 rfl rfl)
theorem dJ2_rangeCheckForAdd_17 : decode cJ2_rangeCheckForAdd 17 = .ok (.iload_n 1, 1) := dk_27 (dk_at dksJ2_rangeCheckForAdd_0 17 rfl rfl)
theorem dJ2_rangeCheckForAdd_18 : decode cJ2_rangeCheckForAdd 18 = .ok (.invokevirtual 198, 3) := dk_182 0 198 (dk_at dksJ2_rangeCheckForAdd_0 18 rfl rfl)
theorem dJ2_rangeCheckForAdd_21 : decode cJ2_rangeCheckForAdd 21 = .ok (.invokespecial 193, 3) := dk_183 0 193 (dk_at dksJ2_rangeCheckForAdd_0 21 rfl rfl)
theorem dJ2_rangeCheckForAdd_24 : decode cJ2_rangeCheckForAdd 24 = .ok (.athrow, 1) := dk_191 (dk_at dksJ2_rangeCheckForAdd_1 0 rfl rfl)
theorem dJ2_rangeCheckForAdd_25 : decode cJ2_rangeCheckForAdd 25 = .ok (.return_, 1) := dk_177 (dk_at dksJ2_rangeCheckForAdd_1 1 rfl rfl)
abbrev cJ2_size : ByteArray := prog_43_method_8_code
def yJ2_size : MethodName := ⟨RJ2, "size", "()I"⟩
theorem dJ2_size_0 : decode cJ2_size 0 = .ok (.aload_n 0, 1) := by decide +kernel
theorem dJ2_size_1 : decode cJ2_size 1 = .ok (.getfield 48, 3) := by decide +kernel
theorem dJ2_size_4 : decode cJ2_size 4 = .ok (.ireturn, 1) := by decide +kernel
abbrev cJ2_iterator : ByteArray := prog_43_method_55_code
def yJ2_iterator : MethodName := ⟨RJ2, "iterator", "()Ljava/util/Iterator;"⟩
def dkwJ2_iterator_0 : List UInt8 := [187, 1, 11, 89, 42, 183, 1, 13, 176]
abbrev dktJ2_iterator_0 : List UInt8 := dkwJ2_iterator_0 ++ []
theorem dksJ2_iterator_0 : cJ2_iterator.data.toList.drop 0 = dktJ2_iterator_0 := by decide +kernel
theorem dJ2_iterator_0 : decode cJ2_iterator 0 = .ok (.new 267, 3) := dk_187 1 11 (dk_at dksJ2_iterator_0 0 rfl rfl)
theorem dJ2_iterator_3 : decode cJ2_iterator 3 = .ok (.dup, 1) := dk_89 (dk_at dksJ2_iterator_0 3 rfl rfl)
theorem dJ2_iterator_4 : decode cJ2_iterator 4 = .ok (.aload_n 0, 1) := dk_42 (dk_at dksJ2_iterator_0 4 rfl rfl)
theorem dJ2_iterator_5 : decode cJ2_iterator 5 = .ok (.invokespecial 269, 3) := dk_183 1 13 (dk_at dksJ2_iterator_0 5 rfl rfl)
theorem dJ2_iterator_8 : decode cJ2_iterator 8 = .ok (.areturn, 1) := dk_176 (dk_at dksJ2_iterator_0 8 rfl rfl)
abbrev cJ2_remove : ByteArray := prog_43_method_29_code
def yJ2_remove : MethodName := ⟨RJ2, "remove", "(I)Ljava/lang/Object;"⟩
def dkwJ2_remove_1 : List UInt8 := [45, 176]
abbrev dktJ2_remove_1 : List UInt8 := dkwJ2_remove_1 ++ []
def dkwJ2_remove_0 : List UInt8 := [27, 42, 180, 0, 48, 184, 0, 118, 87, 42, 180, 0, 9, 77, 44, 27, 50, 78, 42, 44, 27, 182, 0, 144]
abbrev dktJ2_remove_0 : List UInt8 := dkwJ2_remove_0 ++ dktJ2_remove_1
theorem dksJ2_remove_0 : cJ2_remove.data.toList.drop 0 = dktJ2_remove_0 := by decide +kernel
theorem dksJ2_remove_1 : cJ2_remove.data.toList.drop 24 = dktJ2_remove_1 := dk_seg dksJ2_remove_0 24 rfl rfl
theorem dJ2_remove_0 : decode cJ2_remove 0 = .ok (.iload_n 1, 1) := dk_27 (dk_at dksJ2_remove_0 0 rfl rfl)
theorem dJ2_remove_1 : decode cJ2_remove 1 = .ok (.aload_n 0, 1) := dk_42 (dk_at dksJ2_remove_0 1 rfl rfl)
theorem dJ2_remove_2 : decode cJ2_remove 2 = .ok (.getfield 48, 3) := dk_180 0 48 (dk_at dksJ2_remove_0 2 rfl rfl)
theorem dJ2_remove_5 : decode cJ2_remove 5 = .ok (.invokestatic 118, 3) := dk_184 0 118 (dk_at dksJ2_remove_0 5 rfl rfl)
theorem dJ2_remove_8 : decode cJ2_remove 8 = .ok (.pop, 1) := dk_87 (dk_at dksJ2_remove_0 8 rfl rfl)
theorem dJ2_remove_9 : decode cJ2_remove 9 = .ok (.aload_n 0, 1) := dk_42 (dk_at dksJ2_remove_0 9 rfl rfl)
theorem dJ2_remove_10 : decode cJ2_remove 10 = .ok (.getfield 9, 3) := dk_180 0 9 (dk_at dksJ2_remove_0 10 rfl rfl)
theorem dJ2_remove_13 : decode cJ2_remove 13 = .ok (.astore_n 2, 1) := dk_77 (dk_at dksJ2_remove_0 13 rfl rfl)
theorem dJ2_remove_14 : decode cJ2_remove 14 = .ok (.aload_n 2, 1) := dk_44 (dk_at dksJ2_remove_0 14 rfl rfl)
theorem dJ2_remove_15 : decode cJ2_remove 15 = .ok (.iload_n 1, 1) := dk_27 (dk_at dksJ2_remove_0 15 rfl rfl)
theorem dJ2_remove_16 : decode cJ2_remove 16 = .ok (.aaload, 1) := dk_50 (dk_at dksJ2_remove_0 16 rfl rfl)
theorem dJ2_remove_17 : decode cJ2_remove 17 = .ok (.astore_n 3, 1) := dk_78 (dk_at dksJ2_remove_0 17 rfl rfl)
theorem dJ2_remove_18 : decode cJ2_remove 18 = .ok (.aload_n 0, 1) := dk_42 (dk_at dksJ2_remove_0 18 rfl rfl)
theorem dJ2_remove_19 : decode cJ2_remove 19 = .ok (.aload_n 2, 1) := dk_44 (dk_at dksJ2_remove_0 19 rfl rfl)
theorem dJ2_remove_20 : decode cJ2_remove 20 = .ok (.iload_n 1, 1) := dk_27 (dk_at dksJ2_remove_0 20 rfl rfl)
theorem dJ2_remove_21 : decode cJ2_remove 21 = .ok (.invokevirtual 144, 3) := dk_182 0 144 (dk_at dksJ2_remove_0 21 rfl rfl)
theorem dJ2_remove_24 : decode cJ2_remove 24 = .ok (.aload_n 3, 1) := dk_45 (dk_at dksJ2_remove_1 0 rfl rfl)
theorem dJ2_remove_25 : decode cJ2_remove 25 = .ok (.areturn, 1) := dk_176 (dk_at dksJ2_remove_1 1 rfl rfl)
abbrev cJ2_fastRemove : ByteArray := prog_43_method_39_code
def yJ2_fastRemove : MethodName := ⟨RJ2, "fastRemove", "([Ljava/lang/Object;I)V"⟩
def dkwJ2_fastRemove_1 : List UInt8 := [4, 96, 43, 28, 29, 28, 100, 184, 0, 112, 43, 42, 29, 90, 181, 0, 48, 1, 83, 177]
abbrev dktJ2_fastRemove_1 : List UInt8 := dkwJ2_fastRemove_1 ++ []
def dkwJ2_fastRemove_0 : List UInt8 := [42, 89, 180, 0, 63, 4, 96, 181, 0, 63, 42, 180, 0, 48, 4, 100, 89, 62, 28, 164, 0, 15, 43, 28]
abbrev dktJ2_fastRemove_0 : List UInt8 := dkwJ2_fastRemove_0 ++ dktJ2_fastRemove_1
theorem dksJ2_fastRemove_0 : cJ2_fastRemove.data.toList.drop 0 = dktJ2_fastRemove_0 := by decide +kernel
theorem dksJ2_fastRemove_1 : cJ2_fastRemove.data.toList.drop 24 = dktJ2_fastRemove_1 := dk_seg dksJ2_fastRemove_0 24 rfl rfl
theorem dJ2_fastRemove_0 : decode cJ2_fastRemove 0 = .ok (.aload_n 0, 1) := dk_42 (dk_at dksJ2_fastRemove_0 0 rfl rfl)
theorem dJ2_fastRemove_1 : decode cJ2_fastRemove 1 = .ok (.dup, 1) := dk_89 (dk_at dksJ2_fastRemove_0 1 rfl rfl)
theorem dJ2_fastRemove_2 : decode cJ2_fastRemove 2 = .ok (.getfield 63, 3) := dk_180 0 63 (dk_at dksJ2_fastRemove_0 2 rfl rfl)
theorem dJ2_fastRemove_5 : decode cJ2_fastRemove 5 = .ok (.iconst 1, 1) := dk_4 (dk_at dksJ2_fastRemove_0 5 rfl rfl)
theorem dJ2_fastRemove_6 : decode cJ2_fastRemove 6 = .ok (.iadd, 1) := dk_96 (dk_at dksJ2_fastRemove_0 6 rfl rfl)
theorem dJ2_fastRemove_7 : decode cJ2_fastRemove 7 = .ok (.putfield 63, 3) := dk_181 0 63 (dk_at dksJ2_fastRemove_0 7 rfl rfl)
theorem dJ2_fastRemove_10 : decode cJ2_fastRemove 10 = .ok (.aload_n 0, 1) := dk_42 (dk_at dksJ2_fastRemove_0 10 rfl rfl)
theorem dJ2_fastRemove_11 : decode cJ2_fastRemove 11 = .ok (.getfield 48, 3) := dk_180 0 48 (dk_at dksJ2_fastRemove_0 11 rfl rfl)
theorem dJ2_fastRemove_14 : decode cJ2_fastRemove 14 = .ok (.iconst 1, 1) := dk_4 (dk_at dksJ2_fastRemove_0 14 rfl rfl)
theorem dJ2_fastRemove_15 : decode cJ2_fastRemove 15 = .ok (.isub, 1) := dk_100 (dk_at dksJ2_fastRemove_0 15 rfl rfl)
theorem dJ2_fastRemove_16 : decode cJ2_fastRemove 16 = .ok (.dup, 1) := dk_89 (dk_at dksJ2_fastRemove_0 16 rfl rfl)
theorem dJ2_fastRemove_17 : decode cJ2_fastRemove 17 = .ok (.istore_n 3, 1) := dk_62 (dk_at dksJ2_fastRemove_0 17 rfl rfl)
theorem dJ2_fastRemove_18 : decode cJ2_fastRemove 18 = .ok (.iload_n 2, 1) := dk_28 (dk_at dksJ2_fastRemove_0 18 rfl rfl)
theorem dJ2_fastRemove_19 : decode cJ2_fastRemove 19 = .ok (.if_icmp .le 15, 3) := dk_164 0 15 (dk_at dksJ2_fastRemove_0 19 rfl rfl)
theorem dJ2_fastRemove_22 : decode cJ2_fastRemove 22 = .ok (.aload_n 1, 1) := dk_43 (dk_at dksJ2_fastRemove_0 22 rfl rfl)
theorem dJ2_fastRemove_23 : decode cJ2_fastRemove 23 = .ok (.iload_n 2, 1) := dk_28 (dk_at dksJ2_fastRemove_0 23 rfl rfl)
theorem dJ2_fastRemove_24 : decode cJ2_fastRemove 24 = .ok (.iconst 1, 1) := dk_4 (dk_at dksJ2_fastRemove_1 0 rfl rfl)
theorem dJ2_fastRemove_25 : decode cJ2_fastRemove 25 = .ok (.iadd, 1) := dk_96 (dk_at dksJ2_fastRemove_1 1 rfl rfl)
theorem dJ2_fastRemove_26 : decode cJ2_fastRemove 26 = .ok (.aload_n 1, 1) := dk_43 (dk_at dksJ2_fastRemove_1 2 rfl rfl)
theorem dJ2_fastRemove_27 : decode cJ2_fastRemove 27 = .ok (.iload_n 2, 1) := dk_28 (dk_at dksJ2_fastRemove_1 3 rfl rfl)
theorem dJ2_fastRemove_28 : decode cJ2_fastRemove 28 = .ok (.iload_n 3, 1) := dk_29 (dk_at dksJ2_fastRemove_1 4 rfl rfl)
theorem dJ2_fastRemove_29 : decode cJ2_fastRemove 29 = .ok (.iload_n 2, 1) := dk_28 (dk_at dksJ2_fastRemove_1 5 rfl rfl)
theorem dJ2_fastRemove_30 : decode cJ2_fastRemove 30 = .ok (.isub, 1) := dk_100 (dk_at dksJ2_fastRemove_1 6 rfl rfl)
theorem dJ2_fastRemove_31 : decode cJ2_fastRemove 31 = .ok (.invokestatic 112, 3) := dk_184 0 112 (dk_at dksJ2_fastRemove_1 7 rfl rfl)
theorem dJ2_fastRemove_34 : decode cJ2_fastRemove 34 = .ok (.aload_n 1, 1) := dk_43 (dk_at dksJ2_fastRemove_1 10 rfl rfl)
theorem dJ2_fastRemove_35 : decode cJ2_fastRemove 35 = .ok (.aload_n 0, 1) := dk_42 (dk_at dksJ2_fastRemove_1 11 rfl rfl)
theorem dJ2_fastRemove_36 : decode cJ2_fastRemove 36 = .ok (.iload_n 3, 1) := dk_29 (dk_at dksJ2_fastRemove_1 12 rfl rfl)
theorem dJ2_fastRemove_37 : decode cJ2_fastRemove 37 = .ok (.dup_x1, 1) := dk_90 (dk_at dksJ2_fastRemove_1 13 rfl rfl)
theorem dJ2_fastRemove_38 : decode cJ2_fastRemove 38 = .ok (.putfield 48, 3) := dk_181 0 48 (dk_at dksJ2_fastRemove_1 14 rfl rfl)
theorem dJ2_fastRemove_41 : decode cJ2_fastRemove 41 = .ok (.aconst_null, 1) := dk_1 (dk_at dksJ2_fastRemove_1 17 rfl rfl)
theorem dJ2_fastRemove_42 : decode cJ2_fastRemove 42 = .ok (.aastore, 1) := dk_83 (dk_at dksJ2_fastRemove_1 18 rfl rfl)
theorem dJ2_fastRemove_43 : decode cJ2_fastRemove 43 = .ok (.return_, 1) := dk_177 (dk_at dksJ2_fastRemove_1 19 rfl rfl)
theorem q89 : (Jvm.Cond.initialized "java/util/ArrayList") ∈ lw_all := lw_g (lw_at lw_m1 5 rfl) rfl
theorem q148 : (Jvm.Cond.instantiable "java/util/ArrayList" (3 : Nat)) ∈ lw_all := lw_g (lw_at lw_m1 64 rfl) rfl
theorem q150 : (Jvm.Cond.instanceMethod ({ cls := "java/util/ArrayList", name := "<init>", desc := "(I)V" } : Jvm.MethodName)) ∈ lw_all := lw_g (lw_at lw_m1 66 rfl) rfl
theorem q151 : (Jvm.Cond.code ({ cls := "java/util/ArrayList", name := "<init>", desc := "(I)V" } : Jvm.MethodName) prog_43_method_1_code (2 : Nat) (Option.none : Option Jvm.ClassFile.FieldType)) ∈ lw_all := lw_g (lw_at lw_m1 67 rfl) rfl
theorem q152 : (Jvm.Cond.methodLink "java/util/ArrayList" (1 : Nat) ({ cls := "java/util/AbstractList", name := "<init>", desc := "()V" } : Jvm.MethodName)) ∈ lw_all := lw_g (lw_at lw_m1 68 rfl) rfl
theorem q159 : (Jvm.Cond.classLink "java/util/ArrayList" (7 : Nat) "java/lang/Object") ∈ lw_all := lw_g (lw_at lw_m1 75 rfl) rfl
theorem q161 : (Jvm.Cond.fieldLink "java/util/ArrayList" (15 : Nat) "java/util/ArrayList" "EMPTY_ELEMENTDATA" "[Ljava/lang/Object;") ∈ lw_all := lw_g (lw_at lw_m1 77 rfl) rfl
theorem q162 : (Jvm.Cond.laysStatic "java/util/ArrayList" "EMPTY_ELEMENTDATA" "[Ljava/lang/Object;") ∈ lw_tbl := lw_at lw_m1 78 rfl
theorem q163 : (Jvm.Cond.fieldLink "java/util/ArrayList" (9 : Nat) "java/util/ArrayList" "elementData" "[Ljava/lang/Object;") ∈ lw_all := lw_g (lw_at lw_m1 79 rfl) rfl
theorem q166 : (Jvm.Cond.fieldLink "java/util/ArrayList" (48 : Nat) "java/util/ArrayList" "size" "I") ∈ lw_all := lw_g (lw_at lw_m1 82 rfl) rfl
theorem q171 : (Jvm.Cond.sameField "java/util/ArrayList" "java/util/AbstractList" "modCount" "I") ∈ lw_all := lw_g (lw_at lw_m1 87 rfl) rfl
theorem q174 : (Jvm.Cond.fieldLink "java/util/ArrayList" (63 : Nat) "java/util/ArrayList" "modCount" "I") ∈ lw_all := lw_g (lw_at lw_m1 90 rfl) rfl
theorem q175 : (Jvm.Cond.lays "java/util/ArrayList" "java/util/ArrayList" "elementData" "[Ljava/lang/Object;") ∈ lw_all := lw_g (lw_at lw_m1 91 rfl) rfl
theorem q176 : (Jvm.Cond.soleField "java/util/ArrayList" "elementData") ∈ lw_all := lw_g (lw_at lw_m1 92 rfl) rfl
theorem q177 : (Jvm.Cond.lays "java/util/ArrayList" "java/util/ArrayList" "size" "I") ∈ lw_all := lw_g (lw_at lw_m1 93 rfl) rfl
theorem q178 : (Jvm.Cond.soleField "java/util/ArrayList" "size") ∈ lw_all := lw_g (lw_at lw_m1 94 rfl) rfl
theorem q179 : (Jvm.Cond.lays "java/util/ArrayList" "java/util/AbstractList" "modCount" "I") ∈ lw_all := lw_g (lw_at lw_m1 95 rfl) rfl
theorem q181 : (Jvm.Cond.superclass "java/util/ArrayList" "java/util/AbstractList") ∈ lw_all := lw_g (lw_at lw_m1 97 rfl) rfl
theorem q206 : (Jvm.Cond.instanceMethod ({ cls := "java/util/ArrayList", name := "add", desc := "(Ljava/lang/Object;)Z" } : Jvm.MethodName)) ∈ lw_all := lw_g (lw_at lw_m1 122 rfl) rfl
theorem q207 : (Jvm.Cond.selects "java/util/ArrayList" ({ cls := "java/util/ArrayList", name := "add", desc := "(Ljava/lang/Object;)Z" } : Jvm.MethodName) ({ cls := "java/util/ArrayList", name := "add", desc := "(Ljava/lang/Object;)Z" } : Jvm.MethodName)) ∈ lw_all := lw_g (lw_at lw_m1 123 rfl) rfl
theorem q208 : (Jvm.Cond.code ({ cls := "java/util/ArrayList", name := "add", desc := "(Ljava/lang/Object;)Z" } : Jvm.MethodName) prog_43_method_25_code (2 : Nat) (Option.some Jvm.ClassFile.FieldType.boolean)) ∈ lw_all := lw_g (lw_at lw_m1 124 rfl) rfl
theorem q209 : (Jvm.Cond.methodLink "java/util/ArrayList" (131 : Nat) ({ cls := "java/util/ArrayList", name := "add", desc := "(Ljava/lang/Object;[Ljava/lang/Object;I)V" } : Jvm.MethodName)) ∈ lw_all := lw_g (lw_at lw_m1 125 rfl) rfl
theorem q210 : (Jvm.Cond.privateMethod ({ cls := "java/util/ArrayList", name := "add", desc := "(Ljava/lang/Object;[Ljava/lang/Object;I)V" } : Jvm.MethodName)) ∈ lw_tbl := lw_at lw_m1 126 rfl
theorem q211 : (Jvm.Cond.instanceMethod ({ cls := "java/util/ArrayList", name := "add", desc := "(Ljava/lang/Object;[Ljava/lang/Object;I)V" } : Jvm.MethodName)) ∈ lw_all := lw_g (lw_at lw_m1 127 rfl) rfl
theorem q212 : (Jvm.Cond.code ({ cls := "java/util/ArrayList", name := "add", desc := "(Ljava/lang/Object;[Ljava/lang/Object;I)V" } : Jvm.MethodName) prog_43_method_24_code (4 : Nat) (Option.none : Option Jvm.ClassFile.FieldType)) ∈ lw_all := lw_g (lw_at lw_m1 128 rfl) rfl
theorem q213 : (Jvm.Cond.methodLink "java/util/ArrayList" (129 : Nat) ({ cls := "java/util/ArrayList", name := "grow", desc := "()[Ljava/lang/Object;" } : Jvm.MethodName)) ∈ lw_all := lw_g (lw_at lw_m1 129 rfl) rfl
theorem q214 : (Jvm.Cond.privateMethod ({ cls := "java/util/ArrayList", name := "grow", desc := "()[Ljava/lang/Object;" } : Jvm.MethodName)) ∈ lw_tbl := lw_at lw_m1 130 rfl
theorem q215 : (Jvm.Cond.instanceMethod ({ cls := "java/util/ArrayList", name := "grow", desc := "()[Ljava/lang/Object;" } : Jvm.MethodName)) ∈ lw_all := lw_g (lw_at lw_m1 131 rfl) rfl
theorem q216 : (Jvm.Cond.code ({ cls := "java/util/ArrayList", name := "grow", desc := "()[Ljava/lang/Object;" } : Jvm.MethodName) prog_43_method_7_code (1 : Nat) (Option.some (Jvm.ClassFile.FieldType.array (Jvm.ClassFile.FieldType.object "java/lang/Object")))) ∈ lw_all := lw_g (lw_at lw_m1 132 rfl) rfl
theorem q217 : (Jvm.Cond.methodLink "java/util/ArrayList" (69 : Nat) ({ cls := "java/util/ArrayList", name := "grow", desc := "(I)[Ljava/lang/Object;" } : Jvm.MethodName)) ∈ lw_all := lw_g (lw_at lw_m1 133 rfl) rfl
theorem q218 : (Jvm.Cond.privateMethod ({ cls := "java/util/ArrayList", name := "grow", desc := "(I)[Ljava/lang/Object;" } : Jvm.MethodName)) ∈ lw_tbl := lw_at lw_m1 134 rfl
theorem q219 : (Jvm.Cond.instanceMethod ({ cls := "java/util/ArrayList", name := "grow", desc := "(I)[Ljava/lang/Object;" } : Jvm.MethodName)) ∈ lw_all := lw_g (lw_at lw_m1 135 rfl) rfl
theorem q220 : (Jvm.Cond.code ({ cls := "java/util/ArrayList", name := "grow", desc := "(I)[Ljava/lang/Object;" } : Jvm.MethodName) prog_43_method_6_code (4 : Nat) (Option.some (Jvm.ClassFile.FieldType.array (Jvm.ClassFile.FieldType.object "java/lang/Object")))) ∈ lw_all := lw_g (lw_at lw_m1 136 rfl) rfl
theorem q221 : (Jvm.Cond.fieldLink "java/util/ArrayList" (39 : Nat) "java/util/ArrayList" "DEFAULTCAPACITY_EMPTY_ELEMENTDATA" "[Ljava/lang/Object;") ∈ lw_all := lw_g (lw_at lw_m1 137 rfl) rfl
theorem q222 : (Jvm.Cond.laysStatic "java/util/ArrayList" "DEFAULTCAPACITY_EMPTY_ELEMENTDATA" "[Ljava/lang/Object;") ∈ lw_tbl := lw_at lw_m1 138 rfl
theorem q223 : (Jvm.Cond.methodLink "java/util/ArrayList" (73 : Nat) ({ cls := "jdk/internal/util/ArraysSupport", name := "newLength", desc := "(III)I" } : Jvm.MethodName)) ∈ lw_all := lw_g (lw_at lw_m1 139 rfl) rfl
theorem q233 : (Jvm.Cond.methodLink "java/util/ArrayList" (66 : Nat) ({ cls := "java/util/Arrays", name := "copyOf", desc := "([Ljava/lang/Object;I)[Ljava/lang/Object;" } : Jvm.MethodName)) ∈ lw_all := lw_g (lw_at lw_m1 149 rfl) rfl
theorem q256 : (Jvm.Cond.selects "java/util/ArrayList" ({ cls := "java/lang/Object", name := "getClass", desc := "()Ljava/lang/Class;" } : Jvm.MethodName) ({ cls := "java/lang/Object", name := "getClass", desc := "()Ljava/lang/Class;" } : Jvm.MethodName)) ∈ lw_all := lw_g (lw_at lw_m1 172 rfl) rfl
theorem q276 : (Jvm.Cond.methodLink "java/util/ArrayList" (79 : Nat) ({ cls := "java/lang/Math", name := "max", desc := "(II)I" } : Jvm.MethodName)) ∈ lw_all := lw_g (lw_at lw_m1 192 rfl) rfl
theorem q408 : (Jvm.Cond.instanceMethod ({ cls := "java/util/ArrayList", name := "get", desc := "(I)Ljava/lang/Object;" } : Jvm.MethodName)) ∈ lw_all := lw_g (lw_at lw_m2 84 rfl) rfl
theorem q409 : (Jvm.Cond.selects "java/util/ArrayList" ({ cls := "java/util/ArrayList", name := "get", desc := "(I)Ljava/lang/Object;" } : Jvm.MethodName) ({ cls := "java/util/ArrayList", name := "get", desc := "(I)Ljava/lang/Object;" } : Jvm.MethodName)) ∈ lw_all := lw_g (lw_at lw_m2 85 rfl) rfl
theorem q410 : (Jvm.Cond.code ({ cls := "java/util/ArrayList", name := "get", desc := "(I)Ljava/lang/Object;" } : Jvm.MethodName) prog_43_method_20_code (2 : Nat) (Option.some (Jvm.ClassFile.FieldType.object "java/lang/Object"))) ∈ lw_all := lw_g (lw_at lw_m2 86 rfl) rfl
theorem q411 : (Jvm.Cond.methodLink "java/util/ArrayList" (118 : Nat) ({ cls := "java/util/Objects", name := "checkIndex", desc := "(II)I" } : Jvm.MethodName)) ∈ lw_all := lw_g (lw_at lw_m2 87 rfl) rfl
theorem q417 : (Jvm.Cond.methodLink "java/util/ArrayList" (123 : Nat) ({ cls := "java/util/ArrayList", name := "elementData", desc := "(I)Ljava/lang/Object;" } : Jvm.MethodName)) ∈ lw_all := lw_g (lw_at lw_m2 93 rfl) rfl
theorem q418 : (Jvm.Cond.instanceMethod ({ cls := "java/util/ArrayList", name := "elementData", desc := "(I)Ljava/lang/Object;" } : Jvm.MethodName)) ∈ lw_all := lw_g (lw_at lw_m2 94 rfl) rfl
theorem q419 : (Jvm.Cond.selects "java/util/ArrayList" ({ cls := "java/util/ArrayList", name := "elementData", desc := "(I)Ljava/lang/Object;" } : Jvm.MethodName) ({ cls := "java/util/ArrayList", name := "elementData", desc := "(I)Ljava/lang/Object;" } : Jvm.MethodName)) ∈ lw_all := lw_g (lw_at lw_m2 95 rfl) rfl
theorem q420 : (Jvm.Cond.code ({ cls := "java/util/ArrayList", name := "elementData", desc := "(I)Ljava/lang/Object;" } : Jvm.MethodName) prog_43_method_18_code (2 : Nat) (Option.some (Jvm.ClassFile.FieldType.object "java/lang/Object"))) ∈ lw_all := lw_g (lw_at lw_m2 96 rfl) rfl
theorem q436 : (Jvm.Cond.selects "java/util/ArrayList" ({ cls := "java/util/AbstractList", name := "listIterator", desc := "(I)Ljava/util/ListIterator;" } : Jvm.MethodName) ({ cls := "java/util/ArrayList", name := "listIterator", desc := "(I)Ljava/util/ListIterator;" } : Jvm.MethodName)) ∈ lw_all := lw_g (lw_at lw_m2 112 rfl) rfl
theorem q437 : (Jvm.Cond.instanceMethod ({ cls := "java/util/ArrayList", name := "listIterator", desc := "(I)Ljava/util/ListIterator;" } : Jvm.MethodName)) ∈ lw_all := lw_g (lw_at lw_m2 113 rfl) rfl
theorem q438 : (Jvm.Cond.code ({ cls := "java/util/ArrayList", name := "listIterator", desc := "(I)Ljava/util/ListIterator;" } : Jvm.MethodName) prog_43_method_53_code (2 : Nat) (Option.some (Jvm.ClassFile.FieldType.object "java/util/ListIterator"))) ∈ lw_all := lw_g (lw_at lw_m2 114 rfl) rfl
theorem q439 : (Jvm.Cond.methodLink "java/util/ArrayList" (135 : Nat) ({ cls := "java/util/ArrayList", name := "rangeCheckForAdd", desc := "(I)V" } : Jvm.MethodName)) ∈ lw_all := lw_g (lw_at lw_m2 115 rfl) rfl
theorem q440 : (Jvm.Cond.privateMethod ({ cls := "java/util/ArrayList", name := "rangeCheckForAdd", desc := "(I)V" } : Jvm.MethodName)) ∈ lw_tbl := lw_at lw_m2 116 rfl
theorem q441 : (Jvm.Cond.instanceMethod ({ cls := "java/util/ArrayList", name := "rangeCheckForAdd", desc := "(I)V" } : Jvm.MethodName)) ∈ lw_all := lw_g (lw_at lw_m2 117 rfl) rfl
theorem q442 : (Jvm.Cond.code ({ cls := "java/util/ArrayList", name := "rangeCheckForAdd", desc := "(I)V" } : Jvm.MethodName) prog_43_method_45_code (2 : Nat) (Option.none : Option Jvm.ClassFile.FieldType)) ∈ lw_all := lw_g (lw_at lw_m2 118 rfl) rfl
theorem q443 : (Jvm.Cond.classLink "java/util/ArrayList" (262 : Nat) "java/util/ArrayList$ListItr") ∈ lw_all := lw_g (lw_at lw_m2 119 rfl) rfl
theorem q445 : (Jvm.Cond.methodLink "java/util/ArrayList" (264 : Nat) ({ cls := "java/util/ArrayList$ListItr", name := "<init>", desc := "(Ljava/util/ArrayList;I)V" } : Jvm.MethodName)) ∈ lw_all := lw_g (lw_at lw_m2 121 rfl) rfl
theorem q527 : (Jvm.Cond.selects "java/util/ArrayList" ({ cls := "java/util/AbstractList", name := "size", desc := "()I" } : Jvm.MethodName) ({ cls := "java/util/ArrayList", name := "size", desc := "()I" } : Jvm.MethodName)) ∈ lw_all := lw_g (lw_at lw_m2 203 rfl) rfl
theorem q528 : (Jvm.Cond.instanceMethod ({ cls := "java/util/ArrayList", name := "size", desc := "()I" } : Jvm.MethodName)) ∈ lw_all := lw_g (lw_at lw_m2 204 rfl) rfl
theorem q529 : (Jvm.Cond.code ({ cls := "java/util/ArrayList", name := "size", desc := "()I" } : Jvm.MethodName) prog_43_method_8_code (1 : Nat) (Option.some Jvm.ClassFile.FieldType.int)) ∈ lw_all := lw_g (lw_at lw_m2 205 rfl) rfl
theorem q604 : (Jvm.Cond.selects "java/util/ArrayList" ({ cls := "java/util/AbstractList", name := "get", desc := "(I)Ljava/lang/Object;" } : Jvm.MethodName) ({ cls := "java/util/ArrayList", name := "get", desc := "(I)Ljava/lang/Object;" } : Jvm.MethodName)) ∈ lw_all := lw_g (lw_at lw_m3 40 rfl) rfl
theorem q1193 : (Jvm.Cond.castable "java/util/ArrayList" "java/lang/Iterable") ∈ lw_tbl := lw_at lw_m5 149 rfl
theorem q1194 : (Jvm.Cond.selects "java/util/ArrayList" ({ cls := "java/lang/Iterable", name := "iterator", desc := "()Ljava/util/Iterator;" } : Jvm.MethodName) ({ cls := "java/util/ArrayList", name := "iterator", desc := "()Ljava/util/Iterator;" } : Jvm.MethodName)) ∈ lw_all := lw_g (lw_at lw_m5 150 rfl) rfl
theorem q1195 : (Jvm.Cond.unhidden "java/util/ArrayList" "iterator" "()Ljava/util/Iterator;") ∈ lw_tbl := lw_at lw_m5 151 rfl
theorem q1196 : (Jvm.Cond.instanceMethod ({ cls := "java/util/ArrayList", name := "iterator", desc := "()Ljava/util/Iterator;" } : Jvm.MethodName)) ∈ lw_all := lw_g (lw_at lw_m5 152 rfl) rfl
theorem q1197 : (Jvm.Cond.publicMethod ({ cls := "java/util/ArrayList", name := "iterator", desc := "()Ljava/util/Iterator;" } : Jvm.MethodName)) ∈ lw_tbl := lw_at lw_m5 153 rfl
theorem q1198 : (Jvm.Cond.code ({ cls := "java/util/ArrayList", name := "iterator", desc := "()Ljava/util/Iterator;" } : Jvm.MethodName) prog_43_method_55_code (1 : Nat) (Option.some (Jvm.ClassFile.FieldType.object "java/util/Iterator"))) ∈ lw_all := lw_g (lw_at lw_m5 154 rfl) rfl
theorem q1199 : (Jvm.Cond.classLink "java/util/ArrayList" (267 : Nat) "java/util/ArrayList$Itr") ∈ lw_all := lw_g (lw_at lw_m5 155 rfl) rfl
theorem q1201 : (Jvm.Cond.methodLink "java/util/ArrayList" (269 : Nat) ({ cls := "java/util/ArrayList$Itr", name := "<init>", desc := "(Ljava/util/ArrayList;)V" } : Jvm.MethodName)) ∈ lw_all := lw_g (lw_at lw_m5 157 rfl) rfl
theorem q1273 : (Jvm.Cond.selects "java/util/ArrayList" ({ cls := "java/util/AbstractList", name := "remove", desc := "(I)Ljava/lang/Object;" } : Jvm.MethodName) ({ cls := "java/util/ArrayList", name := "remove", desc := "(I)Ljava/lang/Object;" } : Jvm.MethodName)) ∈ lw_all := lw_g (lw_at lw_m5 229 rfl) rfl
theorem q1274 : (Jvm.Cond.instanceMethod ({ cls := "java/util/ArrayList", name := "remove", desc := "(I)Ljava/lang/Object;" } : Jvm.MethodName)) ∈ lw_all := lw_g (lw_at lw_m5 230 rfl) rfl
theorem q1275 : (Jvm.Cond.code ({ cls := "java/util/ArrayList", name := "remove", desc := "(I)Ljava/lang/Object;" } : Jvm.MethodName) prog_43_method_29_code (4 : Nat) (Option.some (Jvm.ClassFile.FieldType.object "java/lang/Object"))) ∈ lw_all := lw_g (lw_at lw_m5 231 rfl) rfl
theorem q1276 : (Jvm.Cond.methodLink "java/util/ArrayList" (144 : Nat) ({ cls := "java/util/ArrayList", name := "fastRemove", desc := "([Ljava/lang/Object;I)V" } : Jvm.MethodName)) ∈ lw_all := lw_g (lw_at lw_m5 232 rfl) rfl
theorem q1277 : (Jvm.Cond.privateMethod ({ cls := "java/util/ArrayList", name := "fastRemove", desc := "([Ljava/lang/Object;I)V" } : Jvm.MethodName)) ∈ lw_tbl := lw_at lw_m5 233 rfl
theorem q1278 : (Jvm.Cond.instanceMethod ({ cls := "java/util/ArrayList", name := "fastRemove", desc := "([Ljava/lang/Object;I)V" } : Jvm.MethodName)) ∈ lw_all := lw_g (lw_at lw_m5 234 rfl) rfl
theorem q1279 : (Jvm.Cond.code ({ cls := "java/util/ArrayList", name := "fastRemove", desc := "([Ljava/lang/Object;I)V" } : Jvm.MethodName) prog_43_method_39_code (4 : Nat) (Option.none : Option Jvm.ClassFile.FieldType)) ∈ lw_all := lw_g (lw_at lw_m5 235 rfl) rfl
theorem q1280 : (Jvm.Cond.methodLink "java/util/ArrayList" (112 : Nat) ({ cls := "java/lang/System", name := "arraycopy", desc := "(Ljava/lang/Object;ILjava/lang/Object;II)V" } : Jvm.MethodName)) ∈ lw_all := lw_g (lw_at lw_m5 236 rfl) rfl
theorem q2261 : (Jvm.Cond.selects "java/util/ArrayList" ({ cls := "java/util/AbstractCollection", name := "size", desc := "()I" } : Jvm.MethodName) ({ cls := "java/util/ArrayList", name := "size", desc := "()I" } : Jvm.MethodName)) ∈ lw_all := lw_g (lw_at lw_m10 17 rfl) rfl
theorem q2263 : (Jvm.Cond.selects "java/util/ArrayList" ({ cls := "java/util/ArrayList", name := "remove", desc := "(I)Ljava/lang/Object;" } : Jvm.MethodName) ({ cls := "java/util/ArrayList", name := "remove", desc := "(I)Ljava/lang/Object;" } : Jvm.MethodName)) ∈ lw_all := lw_g (lw_at lw_m10 19 rfl) rfl
theorem q2270 : (Jvm.Cond.selects "java/util/ArrayList" ({ cls := "java/util/ArrayList", name := "iterator", desc := "()Ljava/util/Iterator;" } : Jvm.MethodName) ({ cls := "java/util/ArrayList", name := "iterator", desc := "()Ljava/util/Iterator;" } : Jvm.MethodName)) ∈ lw_all := lw_g (lw_at lw_m10 26 rfl) rfl
theorem q2275 : (Jvm.Cond.castable "java/util/ArrayList" "java/lang/Object") ∈ lw_tbl := lw_at lw_m10 31 rfl
theorem in_J2 : ∀ w ∈ wsJ20, w ∈ lw_all := lw_in wsJ20 [179, 175, 177] (by decide +kernel) (by decide +kernel)

/-! java/util/AbstractSequentialList -/
set_option maxRecDepth 100000
def RJ3 : String := "java/util/AbstractSequentialList"
abbrev cJ3_init : ByteArray := prog_40_method_1_code
def yJ3_init : MethodName := ⟨RJ3, "<init>", "()V"⟩
theorem dJ3_init_0 : decode cJ3_init 0 = .ok (.aload_n 0, 1) := by decide +kernel
theorem dJ3_init_1 : decode cJ3_init 1 = .ok (.invokespecial 1, 3) := by decide +kernel
theorem dJ3_init_4 : decode cJ3_init 4 = .ok (.return_, 1) := by decide +kernel
abbrev cJ3_iterator : ByteArray := prog_40_method_7_code
def yJ3_iterator : MethodName := ⟨RJ3, "iterator", "()Ljava/util/Iterator;"⟩
theorem dJ3_iterator_0 : decode cJ3_iterator 0 = .ok (.aload_n 0, 1) := by decide +kernel
theorem dJ3_iterator_1 : decode cJ3_iterator 1 = .ok (.invokevirtual 65, 3) := by decide +kernel
theorem dJ3_iterator_4 : decode cJ3_iterator 4 = .ok (.areturn, 1) := by decide +kernel
theorem q90 : (Jvm.Cond.initialized "java/util/AbstractSequentialList") ∈ lw_all := lw_g (lw_at lw_m1 6 rfl) rfl
theorem q189 : (Jvm.Cond.instanceMethod ({ cls := "java/util/AbstractSequentialList", name := "<init>", desc := "()V" } : Jvm.MethodName)) ∈ lw_all := lw_g (lw_at lw_m1 105 rfl) rfl
theorem q190 : (Jvm.Cond.code ({ cls := "java/util/AbstractSequentialList", name := "<init>", desc := "()V" } : Jvm.MethodName) prog_40_method_1_code (1 : Nat) (Option.none : Option Jvm.ClassFile.FieldType)) ∈ lw_all := lw_g (lw_at lw_m1 106 rfl) rfl
theorem q191 : (Jvm.Cond.methodLink "java/util/AbstractSequentialList" (1 : Nat) ({ cls := "java/util/AbstractList", name := "<init>", desc := "()V" } : Jvm.MethodName)) ∈ lw_all := lw_g (lw_at lw_m1 107 rfl) rfl
theorem q423 : (Jvm.Cond.declares ({ cls := "java/util/AbstractSequentialList", name := "iterator", desc := "()Ljava/util/Iterator;" } : Jvm.MethodName)) ∈ lw_tbl := lw_at lw_m2 99 rfl
theorem q425 : (Jvm.Cond.instanceMethod ({ cls := "java/util/AbstractSequentialList", name := "iterator", desc := "()Ljava/util/Iterator;" } : Jvm.MethodName)) ∈ lw_all := lw_g (lw_at lw_m2 101 rfl) rfl
theorem q426 : (Jvm.Cond.code ({ cls := "java/util/AbstractSequentialList", name := "iterator", desc := "()Ljava/util/Iterator;" } : Jvm.MethodName) prog_40_method_7_code (1 : Nat) (Option.some (Jvm.ClassFile.FieldType.object "java/util/Iterator"))) ∈ lw_all := lw_g (lw_at lw_m2 102 rfl) rfl
theorem q427 : (Jvm.Cond.methodLink "java/util/AbstractSequentialList" (65 : Nat) ({ cls := "java/util/AbstractSequentialList", name := "listIterator", desc := "()Ljava/util/ListIterator;" } : Jvm.MethodName)) ∈ lw_all := lw_g (lw_at lw_m2 103 rfl) rfl
theorem q428 : (Jvm.Cond.sameMethod "java/util/AbstractSequentialList" "java/util/AbstractList" "listIterator" "()Ljava/util/ListIterator;") ∈ lw_all := lw_g (lw_at lw_m2 104 rfl) rfl
theorem q1210 : (Jvm.Cond.publicMethod ({ cls := "java/util/AbstractSequentialList", name := "iterator", desc := "()Ljava/util/Iterator;" } : Jvm.MethodName)) ∈ lw_tbl := lw_at lw_m5 166 rfl

/-! java/util/LinkedList -/
set_option maxRecDepth 100000
def RJ4 : String := "java/util/LinkedList"
def TJ4 : u_T := fun k => match k with
  | 0 => ("java/util/AbstractList", "modCount", "I", false)
  | 1 => ("java/util/LinkedList", "size", "I", false)
  | 2 => ("java/util/LinkedList", "first", "Ljava/util/LinkedList$Node;", false)
  | _ => ("java/util/LinkedList", "last", "Ljava/util/LinkedList$Node;", false)
def tyJ4 : Nat → FieldType := fun k => match k with
  | 0 => .int
  | 1 => .int
  | 2 => .object "java/util/LinkedList$Node"
  | _ => .object "java/util/LinkedList$Node"
abbrev wsJ40 : List Cond := u_ws RJ4 TJ4 4
theorem nmJ4 : ∀ a, a < 4 → ∀ b, b < 4 → a ≠ b → (TJ4 a).2.1 ≠ (TJ4 b).2.1 := by decide +kernel
theorem tyJ4_ok : ∀ k, k < 4 → parseFieldDescriptor (TJ4 k).2.2.1 = some (tyJ4 k) := by decide +kernel
abbrev cJ4_init : ByteArray := prog_51_method_1_code
def yJ4_init : MethodName := ⟨RJ4, "<init>", "()V"⟩
def dkwJ4_init_0 : List UInt8 := [42, 183, 0, 1, 42, 3, 181, 0, 7, 177]
abbrev dktJ4_init_0 : List UInt8 := dkwJ4_init_0 ++ []
theorem dksJ4_init_0 : cJ4_init.data.toList.drop 0 = dktJ4_init_0 := by decide +kernel
theorem dJ4_init_0 : decode cJ4_init 0 = .ok (.aload_n 0, 1) := dk_42 (dk_at dksJ4_init_0 0 rfl rfl)
theorem dJ4_init_1 : decode cJ4_init 1 = .ok (.invokespecial 1, 3) := dk_183 0 1 (dk_at dksJ4_init_0 1 rfl rfl)
theorem dJ4_init_4 : decode cJ4_init 4 = .ok (.aload_n 0, 1) := dk_42 (dk_at dksJ4_init_0 4 rfl rfl)
theorem dJ4_init_5 : decode cJ4_init 5 = .ok (.iconst 0, 1) := dk_3 (dk_at dksJ4_init_0 5 rfl rfl)
theorem dJ4_init_6 : decode cJ4_init 6 = .ok (.putfield 7, 3) := dk_181 0 7 (dk_at dksJ4_init_0 6 rfl rfl)
theorem dJ4_init_9 : decode cJ4_init 9 = .ok (.return_, 1) := dk_177 (dk_at dksJ4_init_0 9 rfl rfl)
abbrev cJ4_listIterator : ByteArray := prog_51_method_49_code
def yJ4_listIterator : MethodName := ⟨RJ4, "listIterator", "(I)Ljava/util/ListIterator;"⟩
def dkwJ4_listIterator_0 : List UInt8 := [42, 27, 182, 0, 76, 187, 0, 150, 89, 42, 27, 183, 0, 152, 176]
abbrev dktJ4_listIterator_0 : List UInt8 := dkwJ4_listIterator_0 ++ []
theorem dksJ4_listIterator_0 : cJ4_listIterator.data.toList.drop 0 = dktJ4_listIterator_0 := by decide +kernel
theorem dJ4_listIterator_0 : decode cJ4_listIterator 0 = .ok (.aload_n 0, 1) := dk_42 (dk_at dksJ4_listIterator_0 0 rfl rfl)
theorem dJ4_listIterator_1 : decode cJ4_listIterator 1 = .ok (.iload_n 1, 1) := dk_27 (dk_at dksJ4_listIterator_0 1 rfl rfl)
theorem dJ4_listIterator_2 : decode cJ4_listIterator 2 = .ok (.invokevirtual 76, 3) := dk_182 0 76 (dk_at dksJ4_listIterator_0 2 rfl rfl)
theorem dJ4_listIterator_5 : decode cJ4_listIterator 5 = .ok (.new 150, 3) := dk_187 0 150 (dk_at dksJ4_listIterator_0 5 rfl rfl)
theorem dJ4_listIterator_8 : decode cJ4_listIterator 8 = .ok (.dup, 1) := dk_89 (dk_at dksJ4_listIterator_0 8 rfl rfl)
theorem dJ4_listIterator_9 : decode cJ4_listIterator 9 = .ok (.aload_n 0, 1) := dk_42 (dk_at dksJ4_listIterator_0 9 rfl rfl)
theorem dJ4_listIterator_10 : decode cJ4_listIterator 10 = .ok (.iload_n 1, 1) := dk_27 (dk_at dksJ4_listIterator_0 10 rfl rfl)
theorem dJ4_listIterator_11 : decode cJ4_listIterator 11 = .ok (.invokespecial 152, 3) := dk_183 0 152 (dk_at dksJ4_listIterator_0 11 rfl rfl)
theorem dJ4_listIterator_14 : decode cJ4_listIterator 14 = .ok (.areturn, 1) := dk_176 (dk_at dksJ4_listIterator_0 14 rfl rfl)
abbrev cJ4_checkPositionIndex : ByteArray := prog_51_method_30_code
def yJ4_checkPositionIndex : MethodName := ⟨RJ4, "checkPositionIndex", "(I)V"⟩
def dkwJ4_checkPositionIndex_0 : List UInt8 := [42, 27, 182, 0, 128, 154, 0, 16, 187, 0, 119, 89, 42, 27, 182, 0, 121, 183, 0, 125, 191, 177]
abbrev dktJ4_checkPositionIndex_0 : List UInt8 := dkwJ4_checkPositionIndex_0 ++ []
theorem dksJ4_checkPositionIndex_0 : cJ4_checkPositionIndex.data.toList.drop 0 = dktJ4_checkPositionIndex_0 := by decide +kernel
theorem dJ4_checkPositionIndex_0 : decode cJ4_checkPositionIndex 0 = .ok (.aload_n 0, 1) := dk_42 (dk_at dksJ4_checkPositionIndex_0 0 rfl rfl)
theorem dJ4_checkPositionIndex_1 : decode cJ4_checkPositionIndex 1 = .ok (.iload_n 1, 1) := dk_27 (dk_at dksJ4_checkPositionIndex_0 1 rfl rfl)
theorem dJ4_checkPositionIndex_2 : decode cJ4_checkPositionIndex 2 = .ok (.invokevirtual 128, 3) := dk_182 0 128 (dk_at dksJ4_checkPositionIndex_0 2 rfl rfl)
theorem dJ4_checkPositionIndex_5 : decode cJ4_checkPositionIndex 5 = .ok (.ifCond .ne 16, 3) := dk_154 0 16 (dk_at dksJ4_checkPositionIndex_0 5 rfl rfl)
theorem dJ4_checkPositionIndex_8 : decode cJ4_checkPositionIndex 8 = .ok (.new 119, 3) := dk_187 0 119 (dk_at dksJ4_checkPositionIndex_0 8 rfl rfl)
theorem dJ4_checkPositionIndex_11 : decode cJ4_checkPositionIndex 11 = .ok (.dup, 1) := dk_89 (dk_at dksJ4_checkPositionIndex_0 11 rfl rfl)
theorem dJ4_checkPositionIndex_12 : decode cJ4_checkPositionIndex 12 = .ok (.aload_n 0, 1) := dk_42 (dk_at dksJ4_checkPositionIndex_0 12 rfl rfl)
theorem dJ4_checkPositionIndex_13 : decode cJ4_checkPositionIndex 13 = .ok (.iload_n 1, 1) := dk_27 (dk_at dksJ4_checkPositionIndex_0 13 rfl rfl)
theorem dJ4_checkPositionIndex_14 : decode cJ4_checkPositionIndex 14 = .ok (.invokevirtual 121, 3) := dk_182 0 121 (dk_at dksJ4_checkPositionIndex_0 14 rfl rfl)
theorem dJ4_checkPositionIndex_17 : decode cJ4_checkPositionIndex 17 = .ok (.invokespecial 125, 3) := dk_183 0 125 (dk_at dksJ4_checkPositionIndex_0 17 rfl rfl)
theorem dJ4_checkPositionIndex_20 : decode cJ4_checkPositionIndex 20 = .ok (.athrow, 1) := dk_191 (dk_at dksJ4_checkPositionIndex_0 20 rfl rfl)
theorem dJ4_checkPositionIndex_21 : decode cJ4_checkPositionIndex 21 = .ok (.return_, 1) := dk_177 (dk_at dksJ4_checkPositionIndex_0 21 rfl rfl)
abbrev cJ4_isPositionIndex : ByteArray := prog_51_method_27_code
def yJ4_isPositionIndex : MethodName := ⟨RJ4, "isPositionIndex", "(I)Z"⟩
def dkwJ4_isPositionIndex_0 : List UInt8 := [27, 155, 0, 15, 27, 42, 180, 0, 7, 163, 0, 7, 4, 167, 0, 4, 3, 172]
abbrev dktJ4_isPositionIndex_0 : List UInt8 := dkwJ4_isPositionIndex_0 ++ []
theorem dksJ4_isPositionIndex_0 : cJ4_isPositionIndex.data.toList.drop 0 = dktJ4_isPositionIndex_0 := by decide +kernel
theorem dJ4_isPositionIndex_0 : decode cJ4_isPositionIndex 0 = .ok (.iload_n 1, 1) := dk_27 (dk_at dksJ4_isPositionIndex_0 0 rfl rfl)
theorem dJ4_isPositionIndex_1 : decode cJ4_isPositionIndex 1 = .ok (.ifCond .lt 15, 3) := dk_155 0 15 (dk_at dksJ4_isPositionIndex_0 1 rfl rfl)
theorem dJ4_isPositionIndex_4 : decode cJ4_isPositionIndex 4 = .ok (.iload_n 1, 1) := dk_27 (dk_at dksJ4_isPositionIndex_0 4 rfl rfl)
theorem dJ4_isPositionIndex_5 : decode cJ4_isPositionIndex 5 = .ok (.aload_n 0, 1) := dk_42 (dk_at dksJ4_isPositionIndex_0 5 rfl rfl)
theorem dJ4_isPositionIndex_6 : decode cJ4_isPositionIndex 6 = .ok (.getfield 7, 3) := dk_180 0 7 (dk_at dksJ4_isPositionIndex_0 6 rfl rfl)
theorem dJ4_isPositionIndex_9 : decode cJ4_isPositionIndex 9 = .ok (.if_icmp .gt 7, 3) := dk_163 0 7 (dk_at dksJ4_isPositionIndex_0 9 rfl rfl)
theorem dJ4_isPositionIndex_12 : decode cJ4_isPositionIndex 12 = .ok (.iconst 1, 1) := dk_4 (dk_at dksJ4_isPositionIndex_0 12 rfl rfl)
theorem dJ4_isPositionIndex_13 : decode cJ4_isPositionIndex 13 = .ok (.goto 4, 3) := dk_167 0 4 (dk_at dksJ4_isPositionIndex_0 13 rfl rfl)
theorem dJ4_isPositionIndex_16 : decode cJ4_isPositionIndex 16 = .ok (.iconst 0, 1) := dk_3 (dk_at dksJ4_isPositionIndex_0 16 rfl rfl)
theorem dJ4_isPositionIndex_17 : decode cJ4_isPositionIndex 17 = .ok (.ireturn, 1) := dk_172 (dk_at dksJ4_isPositionIndex_0 17 rfl rfl)
abbrev cJ4_node : ByteArray := prog_51_method_31_code
def yJ4_node : MethodName := ⟨RJ4, "node", "(I)Ljava/util/LinkedList$Node;"⟩
def dkwJ4_node_2 : List UInt8 := [29, 27, 164, 0, 14, 44, 180, 0, 30, 77, 132, 3, 255, 167, 255, 243, 44, 176]
abbrev dktJ4_node_2 : List UInt8 := dkwJ4_node_2 ++ []
def dkwJ4_node_1 : List UInt8 := [180, 0, 36, 77, 132, 3, 1, 167, 255, 243, 44, 176, 42, 180, 0, 27, 77, 42, 180, 0, 7, 4, 100, 62]
abbrev dktJ4_node_1 : List UInt8 := dkwJ4_node_1 ++ dktJ4_node_2
def dkwJ4_node_0 : List UInt8 := [27, 42, 180, 0, 7, 4, 122, 162, 0, 28, 42, 180, 0, 18, 77, 3, 62, 29, 27, 162, 0, 14, 44]
abbrev dktJ4_node_0 : List UInt8 := dkwJ4_node_0 ++ dktJ4_node_1
theorem dksJ4_node_0 : cJ4_node.data.toList.drop 0 = dktJ4_node_0 := by decide +kernel
theorem dksJ4_node_1 : cJ4_node.data.toList.drop 23 = dktJ4_node_1 := dk_seg dksJ4_node_0 23 rfl rfl
theorem dksJ4_node_2 : cJ4_node.data.toList.drop 47 = dktJ4_node_2 := dk_seg dksJ4_node_1 24 rfl rfl
theorem dJ4_node_0 : decode cJ4_node 0 = .ok (.iload_n 1, 1) := dk_27 (dk_at dksJ4_node_0 0 rfl rfl)
theorem dJ4_node_1 : decode cJ4_node 1 = .ok (.aload_n 0, 1) := dk_42 (dk_at dksJ4_node_0 1 rfl rfl)
theorem dJ4_node_2 : decode cJ4_node 2 = .ok (.getfield 7, 3) := dk_180 0 7 (dk_at dksJ4_node_0 2 rfl rfl)
theorem dJ4_node_5 : decode cJ4_node 5 = .ok (.iconst 1, 1) := dk_4 (dk_at dksJ4_node_0 5 rfl rfl)
theorem dJ4_node_6 : decode cJ4_node 6 = .ok (.ishr, 1) := dk_122 (dk_at dksJ4_node_0 6 rfl rfl)
theorem dJ4_node_7 : decode cJ4_node 7 = .ok (.if_icmp .ge 28, 3) := dk_162 0 28 (dk_at dksJ4_node_0 7 rfl rfl)
theorem dJ4_node_10 : decode cJ4_node 10 = .ok (.aload_n 0, 1) := dk_42 (dk_at dksJ4_node_0 10 rfl rfl)
theorem dJ4_node_11 : decode cJ4_node 11 = .ok (.getfield 18, 3) := dk_180 0 18 (dk_at dksJ4_node_0 11 rfl rfl)
theorem dJ4_node_14 : decode cJ4_node 14 = .ok (.astore_n 2, 1) := dk_77 (dk_at dksJ4_node_0 14 rfl rfl)
theorem dJ4_node_15 : decode cJ4_node 15 = .ok (.iconst 0, 1) := dk_3 (dk_at dksJ4_node_0 15 rfl rfl)
theorem dJ4_node_16 : decode cJ4_node 16 = .ok (.istore_n 3, 1) := dk_62 (dk_at dksJ4_node_0 16 rfl rfl)
theorem dJ4_node_17 : decode cJ4_node 17 = .ok (.iload_n 3, 1) := dk_29 (dk_at dksJ4_node_0 17 rfl rfl)
theorem dJ4_node_18 : decode cJ4_node 18 = .ok (.iload_n 1, 1) := dk_27 (dk_at dksJ4_node_0 18 rfl rfl)
theorem dJ4_node_19 : decode cJ4_node 19 = .ok (.if_icmp .ge 14, 3) := dk_162 0 14 (dk_at dksJ4_node_0 19 rfl rfl)
theorem dJ4_node_22 : decode cJ4_node 22 = .ok (.aload_n 2, 1) := dk_44 (dk_at dksJ4_node_0 22 rfl rfl)
theorem dJ4_node_23 : decode cJ4_node 23 = .ok (.getfield 36, 3) := dk_180 0 36 (dk_at dksJ4_node_1 0 rfl rfl)
theorem dJ4_node_26 : decode cJ4_node 26 = .ok (.astore_n 2, 1) := dk_77 (dk_at dksJ4_node_1 3 rfl rfl)
theorem dJ4_node_27 : decode cJ4_node 27 = .ok (.iinc 3 1, 3) := dk_132 3 1 (dk_at dksJ4_node_1 4 rfl rfl)
theorem dJ4_node_30 : decode cJ4_node 30 = .ok (.goto (-13), 3) := dk_167 255 243 (dk_at dksJ4_node_1 7 rfl rfl)
theorem dJ4_node_33 : decode cJ4_node 33 = .ok (.aload_n 2, 1) := dk_44 (dk_at dksJ4_node_1 10 rfl rfl)
theorem dJ4_node_34 : decode cJ4_node 34 = .ok (.areturn, 1) := dk_176 (dk_at dksJ4_node_1 11 rfl rfl)
theorem dJ4_node_35 : decode cJ4_node 35 = .ok (.aload_n 0, 1) := dk_42 (dk_at dksJ4_node_1 12 rfl rfl)
theorem dJ4_node_36 : decode cJ4_node 36 = .ok (.getfield 27, 3) := dk_180 0 27 (dk_at dksJ4_node_1 13 rfl rfl)
theorem dJ4_node_39 : decode cJ4_node 39 = .ok (.astore_n 2, 1) := dk_77 (dk_at dksJ4_node_1 16 rfl rfl)
theorem dJ4_node_40 : decode cJ4_node 40 = .ok (.aload_n 0, 1) := dk_42 (dk_at dksJ4_node_1 17 rfl rfl)
theorem dJ4_node_41 : decode cJ4_node 41 = .ok (.getfield 7, 3) := dk_180 0 7 (dk_at dksJ4_node_1 18 rfl rfl)
theorem dJ4_node_44 : decode cJ4_node 44 = .ok (.iconst 1, 1) := dk_4 (dk_at dksJ4_node_1 21 rfl rfl)
theorem dJ4_node_45 : decode cJ4_node 45 = .ok (.isub, 1) := dk_100 (dk_at dksJ4_node_1 22 rfl rfl)
theorem dJ4_node_46 : decode cJ4_node 46 = .ok (.istore_n 3, 1) := dk_62 (dk_at dksJ4_node_1 23 rfl rfl)
theorem dJ4_node_47 : decode cJ4_node 47 = .ok (.iload_n 3, 1) := dk_29 (dk_at dksJ4_node_2 0 rfl rfl)
theorem dJ4_node_48 : decode cJ4_node 48 = .ok (.iload_n 1, 1) := dk_27 (dk_at dksJ4_node_2 1 rfl rfl)
theorem dJ4_node_49 : decode cJ4_node 49 = .ok (.if_icmp .le 14, 3) := dk_164 0 14 (dk_at dksJ4_node_2 2 rfl rfl)
theorem dJ4_node_52 : decode cJ4_node 52 = .ok (.aload_n 2, 1) := dk_44 (dk_at dksJ4_node_2 5 rfl rfl)
theorem dJ4_node_53 : decode cJ4_node 53 = .ok (.getfield 30, 3) := dk_180 0 30 (dk_at dksJ4_node_2 6 rfl rfl)
theorem dJ4_node_56 : decode cJ4_node 56 = .ok (.astore_n 2, 1) := dk_77 (dk_at dksJ4_node_2 9 rfl rfl)
theorem dJ4_node_57 : decode cJ4_node 57 = .ok (.iinc 3 (-1), 3) := dk_132 3 255 (dk_at dksJ4_node_2 10 rfl rfl)
theorem dJ4_node_60 : decode cJ4_node 60 = .ok (.goto (-13), 3) := dk_167 255 243 (dk_at dksJ4_node_2 13 rfl rfl)
theorem dJ4_node_63 : decode cJ4_node 63 = .ok (.aload_n 2, 1) := dk_44 (dk_at dksJ4_node_2 16 rfl rfl)
theorem dJ4_node_64 : decode cJ4_node 64 = .ok (.areturn, 1) := dk_176 (dk_at dksJ4_node_2 17 rfl rfl)
abbrev cJ4_size : ByteArray := prog_51_method_16_code
def yJ4_size : MethodName := ⟨RJ4, "size", "()I"⟩
theorem dJ4_size_0 : decode cJ4_size 0 = .ok (.aload_n 0, 1) := by decide +kernel
theorem dJ4_size_1 : decode cJ4_size 1 = .ok (.getfield 7, 3) := by decide +kernel
theorem dJ4_size_4 : decode cJ4_size 4 = .ok (.ireturn, 1) := by decide +kernel
abbrev cJ4_get : ByteArray := prog_51_method_22_code
def yJ4_get : MethodName := ⟨RJ4, "get", "(I)Ljava/lang/Object;"⟩
def dkwJ4_get_0 : List UInt8 := [42, 27, 182, 0, 90, 42, 27, 182, 0, 86, 180, 0, 39, 176]
abbrev dktJ4_get_0 : List UInt8 := dkwJ4_get_0 ++ []
theorem dksJ4_get_0 : cJ4_get.data.toList.drop 0 = dktJ4_get_0 := by decide +kernel
theorem dJ4_get_0 : decode cJ4_get 0 = .ok (.aload_n 0, 1) := dk_42 (dk_at dksJ4_get_0 0 rfl rfl)
theorem dJ4_get_1 : decode cJ4_get 1 = .ok (.iload_n 1, 1) := dk_27 (dk_at dksJ4_get_0 1 rfl rfl)
theorem dJ4_get_2 : decode cJ4_get 2 = .ok (.invokevirtual 90, 3) := dk_182 0 90 (dk_at dksJ4_get_0 2 rfl rfl)
theorem dJ4_get_5 : decode cJ4_get 5 = .ok (.aload_n 0, 1) := dk_42 (dk_at dksJ4_get_0 5 rfl rfl)
theorem dJ4_get_6 : decode cJ4_get 6 = .ok (.iload_n 1, 1) := dk_27 (dk_at dksJ4_get_0 6 rfl rfl)
theorem dJ4_get_7 : decode cJ4_get 7 = .ok (.invokevirtual 86, 3) := dk_182 0 86 (dk_at dksJ4_get_0 7 rfl rfl)
theorem dJ4_get_10 : decode cJ4_get 10 = .ok (.getfield 39, 3) := dk_180 0 39 (dk_at dksJ4_get_0 10 rfl rfl)
theorem dJ4_get_13 : decode cJ4_get 13 = .ok (.areturn, 1) := dk_176 (dk_at dksJ4_get_0 13 rfl rfl)
abbrev cJ4_checkElementIndex : ByteArray := prog_51_method_29_code
def yJ4_checkElementIndex : MethodName := ⟨RJ4, "checkElementIndex", "(I)V"⟩
def dkwJ4_checkElementIndex_0 : List UInt8 := [42, 27, 182, 0, 115, 154, 0, 16, 187, 0, 119, 89, 42, 27, 182, 0, 121, 183, 0, 125, 191, 177]
abbrev dktJ4_checkElementIndex_0 : List UInt8 := dkwJ4_checkElementIndex_0 ++ []
theorem dksJ4_checkElementIndex_0 : cJ4_checkElementIndex.data.toList.drop 0 = dktJ4_checkElementIndex_0 := by decide +kernel
theorem dJ4_checkElementIndex_0 : decode cJ4_checkElementIndex 0 = .ok (.aload_n 0, 1) := dk_42 (dk_at dksJ4_checkElementIndex_0 0 rfl rfl)
theorem dJ4_checkElementIndex_1 : decode cJ4_checkElementIndex 1 = .ok (.iload_n 1, 1) := dk_27 (dk_at dksJ4_checkElementIndex_0 1 rfl rfl)
theorem dJ4_checkElementIndex_2 : decode cJ4_checkElementIndex 2 = .ok (.invokevirtual 115, 3) := dk_182 0 115 (dk_at dksJ4_checkElementIndex_0 2 rfl rfl)
theorem dJ4_checkElementIndex_5 : decode cJ4_checkElementIndex 5 = .ok (.ifCond .ne 16, 3) := dk_154 0 16 (dk_at dksJ4_checkElementIndex_0 5 rfl rfl)
theorem dJ4_checkElementIndex_8 : decode cJ4_checkElementIndex 8 = .ok (.new 119, 3) := dk_187 0 119 (dk_at dksJ4_checkElementIndex_0 8 rfl rfl)
theorem dJ4_checkElementIndex_11 : decode cJ4_checkElementIndex 11 = .ok (.dup, 1) := dk_89 (dk_at dksJ4_checkElementIndex_0 11 rfl rfl)
theorem dJ4_checkElementIndex_12 : decode cJ4_checkElementIndex 12 = .ok (.aload_n 0, 1) := dk_42 (dk_at dksJ4_checkElementIndex_0 12 rfl rfl)
theorem dJ4_checkElementIndex_13 : decode cJ4_checkElementIndex 13 = .ok (.iload_n 1, 1) := dk_27 (dk_at dksJ4_checkElementIndex_0 13 rfl rfl)
theorem dJ4_checkElementIndex_14 : decode cJ4_checkElementIndex 14 = .ok (.invokevirtual 121, 3) := dk_182 0 121 (dk_at dksJ4_checkElementIndex_0 14 rfl rfl)
theorem dJ4_checkElementIndex_17 : decode cJ4_checkElementIndex 17 = .ok (.invokespecial 125, 3) := dk_183 0 125 (dk_at dksJ4_checkElementIndex_0 17 rfl rfl)
theorem dJ4_checkElementIndex_20 : decode cJ4_checkElementIndex 20 = .ok (.athrow, 1) := dk_191 (dk_at dksJ4_checkElementIndex_0 20 rfl rfl)
theorem dJ4_checkElementIndex_21 : decode cJ4_checkElementIndex 21 = .ok (.return_, 1) := dk_177 (dk_at dksJ4_checkElementIndex_0 21 rfl rfl)
abbrev cJ4_isElementIndex : ByteArray := prog_51_method_26_code
def yJ4_isElementIndex : MethodName := ⟨RJ4, "isElementIndex", "(I)Z"⟩
def dkwJ4_isElementIndex_0 : List UInt8 := [27, 155, 0, 15, 27, 42, 180, 0, 7, 162, 0, 7, 4, 167, 0, 4, 3, 172]
abbrev dktJ4_isElementIndex_0 : List UInt8 := dkwJ4_isElementIndex_0 ++ []
theorem dksJ4_isElementIndex_0 : cJ4_isElementIndex.data.toList.drop 0 = dktJ4_isElementIndex_0 := by decide +kernel
theorem dJ4_isElementIndex_0 : decode cJ4_isElementIndex 0 = .ok (.iload_n 1, 1) := dk_27 (dk_at dksJ4_isElementIndex_0 0 rfl rfl)
theorem dJ4_isElementIndex_1 : decode cJ4_isElementIndex 1 = .ok (.ifCond .lt 15, 3) := dk_155 0 15 (dk_at dksJ4_isElementIndex_0 1 rfl rfl)
theorem dJ4_isElementIndex_4 : decode cJ4_isElementIndex 4 = .ok (.iload_n 1, 1) := dk_27 (dk_at dksJ4_isElementIndex_0 4 rfl rfl)
theorem dJ4_isElementIndex_5 : decode cJ4_isElementIndex 5 = .ok (.aload_n 0, 1) := dk_42 (dk_at dksJ4_isElementIndex_0 5 rfl rfl)
theorem dJ4_isElementIndex_6 : decode cJ4_isElementIndex 6 = .ok (.getfield 7, 3) := dk_180 0 7 (dk_at dksJ4_isElementIndex_0 6 rfl rfl)
theorem dJ4_isElementIndex_9 : decode cJ4_isElementIndex 9 = .ok (.if_icmp .ge 7, 3) := dk_162 0 7 (dk_at dksJ4_isElementIndex_0 9 rfl rfl)
theorem dJ4_isElementIndex_12 : decode cJ4_isElementIndex 12 = .ok (.iconst 1, 1) := dk_4 (dk_at dksJ4_isElementIndex_0 12 rfl rfl)
theorem dJ4_isElementIndex_13 : decode cJ4_isElementIndex 13 = .ok (.goto 4, 3) := dk_167 0 4 (dk_at dksJ4_isElementIndex_0 13 rfl rfl)
theorem dJ4_isElementIndex_16 : decode cJ4_isElementIndex 16 = .ok (.iconst 0, 1) := dk_3 (dk_at dksJ4_isElementIndex_0 16 rfl rfl)
theorem dJ4_isElementIndex_17 : decode cJ4_isElementIndex 17 = .ok (.ireturn, 1) := dk_172 (dk_at dksJ4_isElementIndex_0 17 rfl rfl)
abbrev cJ4_addLast : ByteArray := prog_51_method_14_code
def yJ4_addLast : MethodName := ⟨RJ4, "addLast", "(Ljava/lang/Object;)V"⟩
def dkwJ4_addLast_0 : List UInt8 := [42, 43, 182, 0, 57, 177]
abbrev dktJ4_addLast_0 : List UInt8 := dkwJ4_addLast_0 ++ []
theorem dksJ4_addLast_0 : cJ4_addLast.data.toList.drop 0 = dktJ4_addLast_0 := by decide +kernel
theorem dJ4_addLast_0 : decode cJ4_addLast 0 = .ok (.aload_n 0, 1) := dk_42 (dk_at dksJ4_addLast_0 0 rfl rfl)
theorem dJ4_addLast_1 : decode cJ4_addLast 1 = .ok (.aload_n 1, 1) := dk_43 (dk_at dksJ4_addLast_0 1 rfl rfl)
theorem dJ4_addLast_2 : decode cJ4_addLast 2 = .ok (.invokevirtual 57, 3) := dk_182 0 57 (dk_at dksJ4_addLast_0 2 rfl rfl)
theorem dJ4_addLast_5 : decode cJ4_addLast 5 = .ok (.return_, 1) := dk_177 (dk_at dksJ4_addLast_0 5 rfl rfl)
abbrev cJ4_linkLast : ByteArray := prog_51_method_4_code
def yJ4_linkLast : MethodName := ⟨RJ4, "linkLast", "(Ljava/lang/Object;)V"⟩
def dkwJ4_linkLast_2 : List UInt8 := [181, 0, 7, 42, 89, 180, 0, 33, 4, 96, 181, 0, 33, 177]
abbrev dktJ4_linkLast_2 : List UInt8 := dkwJ4_linkLast_2 ++ []
def dkwJ4_linkLast_1 : List UInt8 := [199, 0, 11, 42, 45, 181, 0, 18, 167, 0, 8, 44, 45, 181, 0, 36, 42, 89, 180, 0, 7, 4, 96]
abbrev dktJ4_linkLast_1 : List UInt8 := dkwJ4_linkLast_1 ++ dktJ4_linkLast_2
def dkwJ4_linkLast_0 : List UInt8 := [42, 180, 0, 27, 77, 187, 0, 22, 89, 44, 43, 1, 183, 0, 24, 78, 42, 45, 181, 0, 27, 44]
abbrev dktJ4_linkLast_0 : List UInt8 := dkwJ4_linkLast_0 ++ dktJ4_linkLast_1
theorem dksJ4_linkLast_0 : cJ4_linkLast.data.toList.drop 0 = dktJ4_linkLast_0 := by decide +kernel
theorem dksJ4_linkLast_1 : cJ4_linkLast.data.toList.drop 22 = dktJ4_linkLast_1 := dk_seg dksJ4_linkLast_0 22 rfl rfl
theorem dksJ4_linkLast_2 : cJ4_linkLast.data.toList.drop 45 = dktJ4_linkLast_2 := dk_seg dksJ4_linkLast_1 23 rfl rfl
theorem dJ4_linkLast_0 : decode cJ4_linkLast 0 = .ok (.aload_n 0, 1) := dk_42 (dk_at dksJ4_linkLast_0 0 rfl rfl)
theorem dJ4_linkLast_1 : decode cJ4_linkLast 1 = .ok (.getfield 27, 3) := dk_180 0 27 (dk_at dksJ4_linkLast_0 1 rfl rfl)
theorem dJ4_linkLast_4 : decode cJ4_linkLast 4 = .ok (.astore_n 2, 1) := dk_77 (dk_at dksJ4_linkLast_0 4 rfl rfl)
theorem dJ4_linkLast_5 : decode cJ4_linkLast 5 = .ok (.new 22, 3) := dk_187 0 22 (dk_at dksJ4_linkLast_0 5 rfl rfl)
theorem dJ4_linkLast_8 : decode cJ4_linkLast 8 = .ok (.dup, 1) := dk_89 (dk_at dksJ4_linkLast_0 8 rfl rfl)
theorem dJ4_linkLast_9 : decode cJ4_linkLast 9 = .ok (.aload_n 2, 1) := dk_44 (dk_at dksJ4_linkLast_0 9 rfl rfl)
theorem dJ4_linkLast_10 : decode cJ4_linkLast 10 = .ok (.aload_n 1, 1) := dk_43 (dk_at dksJ4_linkLast_0 10 rfl rfl)
theorem dJ4_linkLast_11 : decode cJ4_linkLast 11 = .ok (.aconst_null, 1) := dk_1 (dk_at dksJ4_linkLast_0 11 rfl rfl)
theorem dJ4_linkLast_12 : decode cJ4_linkLast 12 = .ok (.invokespecial 24, 3) := dk_183 0 24 (dk_at dksJ4_linkLast_0 12 rfl rfl)
theorem dJ4_linkLast_15 : decode cJ4_linkLast 15 = .ok (.astore_n 3, 1) := dk_78 (dk_at dksJ4_linkLast_0 15 rfl rfl)
theorem dJ4_linkLast_16 : decode cJ4_linkLast 16 = .ok (.aload_n 0, 1) := dk_42 (dk_at dksJ4_linkLast_0 16 rfl rfl)
theorem dJ4_linkLast_17 : decode cJ4_linkLast 17 = .ok (.aload_n 3, 1) := dk_45 (dk_at dksJ4_linkLast_0 17 rfl rfl)
theorem dJ4_linkLast_18 : decode cJ4_linkLast 18 = .ok (.putfield 27, 3) := dk_181 0 27 (dk_at dksJ4_linkLast_0 18 rfl rfl)
theorem dJ4_linkLast_21 : decode cJ4_linkLast 21 = .ok (.aload_n 2, 1) := dk_44 (dk_at dksJ4_linkLast_0 21 rfl rfl)
theorem dJ4_linkLast_22 : decode cJ4_linkLast 22 = .ok (.ifnonnull 11, 3) := dk_199 0 11 (dk_at dksJ4_linkLast_1 0 rfl rfl)
theorem dJ4_linkLast_25 : decode cJ4_linkLast 25 = .ok (.aload_n 0, 1) := dk_42 (dk_at dksJ4_linkLast_1 3 rfl rfl)
theorem dJ4_linkLast_26 : decode cJ4_linkLast 26 = .ok (.aload_n 3, 1) := dk_45 (dk_at dksJ4_linkLast_1 4 rfl rfl)
theorem dJ4_linkLast_27 : decode cJ4_linkLast 27 = .ok (.putfield 18, 3) := dk_181 0 18 (dk_at dksJ4_linkLast_1 5 rfl rfl)
theorem dJ4_linkLast_30 : decode cJ4_linkLast 30 = .ok (.goto 8, 3) := dk_167 0 8 (dk_at dksJ4_linkLast_1 8 rfl rfl)
theorem dJ4_linkLast_33 : decode cJ4_linkLast 33 = .ok (.aload_n 2, 1) := dk_44 (dk_at dksJ4_linkLast_1 11 rfl rfl)
theorem dJ4_linkLast_34 : decode cJ4_linkLast 34 = .ok (.aload_n 3, 1) := dk_45 (dk_at dksJ4_linkLast_1 12 rfl rfl)
theorem dJ4_linkLast_35 : decode cJ4_linkLast 35 = .ok (.putfield 36, 3) := dk_181 0 36 (dk_at dksJ4_linkLast_1 13 rfl rfl)
theorem dJ4_linkLast_38 : decode cJ4_linkLast 38 = .ok (.aload_n 0, 1) := dk_42 (dk_at dksJ4_linkLast_1 16 rfl rfl)
theorem dJ4_linkLast_39 : decode cJ4_linkLast 39 = .ok (.dup, 1) := dk_89 (dk_at dksJ4_linkLast_1 17 rfl rfl)
theorem dJ4_linkLast_40 : decode cJ4_linkLast 40 = .ok (.getfield 7, 3) := dk_180 0 7 (dk_at dksJ4_linkLast_1 18 rfl rfl)
theorem dJ4_linkLast_43 : decode cJ4_linkLast 43 = .ok (.iconst 1, 1) := dk_4 (dk_at dksJ4_linkLast_1 21 rfl rfl)
theorem dJ4_linkLast_44 : decode cJ4_linkLast 44 = .ok (.iadd, 1) := dk_96 (dk_at dksJ4_linkLast_1 22 rfl rfl)
theorem dJ4_linkLast_45 : decode cJ4_linkLast 45 = .ok (.putfield 7, 3) := dk_181 0 7 (dk_at dksJ4_linkLast_2 0 rfl rfl)
theorem dJ4_linkLast_48 : decode cJ4_linkLast 48 = .ok (.aload_n 0, 1) := dk_42 (dk_at dksJ4_linkLast_2 3 rfl rfl)
theorem dJ4_linkLast_49 : decode cJ4_linkLast 49 = .ok (.dup, 1) := dk_89 (dk_at dksJ4_linkLast_2 4 rfl rfl)
theorem dJ4_linkLast_50 : decode cJ4_linkLast 50 = .ok (.getfield 33, 3) := dk_180 0 33 (dk_at dksJ4_linkLast_2 5 rfl rfl)
theorem dJ4_linkLast_53 : decode cJ4_linkLast 53 = .ok (.iconst 1, 1) := dk_4 (dk_at dksJ4_linkLast_2 8 rfl rfl)
theorem dJ4_linkLast_54 : decode cJ4_linkLast 54 = .ok (.iadd, 1) := dk_96 (dk_at dksJ4_linkLast_2 9 rfl rfl)
theorem dJ4_linkLast_55 : decode cJ4_linkLast 55 = .ok (.putfield 33, 3) := dk_181 0 33 (dk_at dksJ4_linkLast_2 10 rfl rfl)
theorem dJ4_linkLast_58 : decode cJ4_linkLast 58 = .ok (.return_, 1) := dk_177 (dk_at dksJ4_linkLast_2 13 rfl rfl)
abbrev cJ4_add : ByteArray := prog_51_method_24_code
def yJ4_add : MethodName := ⟨RJ4, "add", "(ILjava/lang/Object;)V"⟩
def dkwJ4_add_1 : List UInt8 := [27, 182, 0, 86, 182, 0, 93, 177]
abbrev dktJ4_add_1 : List UInt8 := dkwJ4_add_1 ++ []
def dkwJ4_add_0 : List UInt8 := [42, 27, 182, 0, 76, 27, 42, 180, 0, 7, 160, 0, 11, 42, 44, 182, 0, 57, 167, 0, 13, 42, 44, 42]
abbrev dktJ4_add_0 : List UInt8 := dkwJ4_add_0 ++ dktJ4_add_1
theorem dksJ4_add_0 : cJ4_add.data.toList.drop 0 = dktJ4_add_0 := by decide +kernel
theorem dksJ4_add_1 : cJ4_add.data.toList.drop 24 = dktJ4_add_1 := dk_seg dksJ4_add_0 24 rfl rfl
theorem dJ4_add_0 : decode cJ4_add 0 = .ok (.aload_n 0, 1) := dk_42 (dk_at dksJ4_add_0 0 rfl rfl)
theorem dJ4_add_1 : decode cJ4_add 1 = .ok (.iload_n 1, 1) := dk_27 (dk_at dksJ4_add_0 1 rfl rfl)
theorem dJ4_add_2 : decode cJ4_add 2 = .ok (.invokevirtual 76, 3) := dk_182 0 76 (dk_at dksJ4_add_0 2 rfl rfl)
theorem dJ4_add_5 : decode cJ4_add 5 = .ok (.iload_n 1, 1) := dk_27 (dk_at dksJ4_add_0 5 rfl rfl)
theorem dJ4_add_6 : decode cJ4_add 6 = .ok (.aload_n 0, 1) := dk_42 (dk_at dksJ4_add_0 6 rfl rfl)
theorem dJ4_add_7 : decode cJ4_add 7 = .ok (.getfield 7, 3) := dk_180 0 7 (dk_at dksJ4_add_0 7 rfl rfl)
theorem dJ4_add_10 : decode cJ4_add 10 = .ok (.if_icmp .ne 11, 3) := dk_160 0 11 (dk_at dksJ4_add_0 10 rfl rfl)
theorem dJ4_add_13 : decode cJ4_add 13 = .ok (.aload_n 0, 1) := dk_42 (dk_at dksJ4_add_0 13 rfl rfl)
theorem dJ4_add_14 : decode cJ4_add 14 = .ok (.aload_n 2, 1) := dk_44 (dk_at dksJ4_add_0 14 rfl rfl)
theorem dJ4_add_15 : decode cJ4_add 15 = .ok (.invokevirtual 57, 3) := dk_182 0 57 (dk_at dksJ4_add_0 15 rfl rfl)
theorem dJ4_add_18 : decode cJ4_add 18 = .ok (.goto 13, 3) := dk_167 0 13 (dk_at dksJ4_add_0 18 rfl rfl)
theorem dJ4_add_21 : decode cJ4_add 21 = .ok (.aload_n 0, 1) := dk_42 (dk_at dksJ4_add_0 21 rfl rfl)
theorem dJ4_add_22 : decode cJ4_add 22 = .ok (.aload_n 2, 1) := dk_44 (dk_at dksJ4_add_0 22 rfl rfl)
theorem dJ4_add_23 : decode cJ4_add 23 = .ok (.aload_n 0, 1) := dk_42 (dk_at dksJ4_add_0 23 rfl rfl)
theorem dJ4_add_24 : decode cJ4_add 24 = .ok (.iload_n 1, 1) := dk_27 (dk_at dksJ4_add_1 0 rfl rfl)
theorem dJ4_add_25 : decode cJ4_add 25 = .ok (.invokevirtual 86, 3) := dk_182 0 86 (dk_at dksJ4_add_1 1 rfl rfl)
theorem dJ4_add_28 : decode cJ4_add 28 = .ok (.invokevirtual 93, 3) := dk_182 0 93 (dk_at dksJ4_add_1 4 rfl rfl)
theorem dJ4_add_31 : decode cJ4_add 31 = .ok (.return_, 1) := dk_177 (dk_at dksJ4_add_1 7 rfl rfl)
abbrev cJ4_linkBefore : ByteArray := prog_51_method_5_code
def yJ4_linkBefore : MethodName := ⟨RJ4, "linkBefore", "(Ljava/lang/Object;Ljava/util/LinkedList$Node;)V"⟩
def dkwJ4_linkBefore_2 : List UInt8 := [96, 181, 0, 7, 42, 89, 180, 0, 33, 4, 96, 181, 0, 33, 177]
abbrev dktJ4_linkBefore_2 : List UInt8 := dkwJ4_linkBefore_2 ++ []
def dkwJ4_linkBefore_1 : List UInt8 := [199, 0, 12, 42, 25, 4, 181, 0, 18, 167, 0, 9, 45, 25, 4, 181, 0, 36, 42, 89, 180, 0, 7, 4]
abbrev dktJ4_linkBefore_1 : List UInt8 := dkwJ4_linkBefore_1 ++ dktJ4_linkBefore_2
def dkwJ4_linkBefore_0 : List UInt8 := [44, 180, 0, 30, 78, 187, 0, 22, 89, 45, 43, 44, 183, 0, 24, 58, 4, 44, 25, 4, 181, 0, 30, 45]
abbrev dktJ4_linkBefore_0 : List UInt8 := dkwJ4_linkBefore_0 ++ dktJ4_linkBefore_1
theorem dksJ4_linkBefore_0 : cJ4_linkBefore.data.toList.drop 0 = dktJ4_linkBefore_0 := by decide +kernel
theorem dksJ4_linkBefore_1 : cJ4_linkBefore.data.toList.drop 24 = dktJ4_linkBefore_1 := dk_seg dksJ4_linkBefore_0 24 rfl rfl
theorem dksJ4_linkBefore_2 : cJ4_linkBefore.data.toList.drop 48 = dktJ4_linkBefore_2 := dk_seg dksJ4_linkBefore_1 24 rfl rfl
theorem dJ4_linkBefore_0 : decode cJ4_linkBefore 0 = .ok (.aload_n 2, 1) := dk_44 (dk_at dksJ4_linkBefore_0 0 rfl rfl)
theorem dJ4_linkBefore_1 : decode cJ4_linkBefore 1 = .ok (.getfield 30, 3) := dk_180 0 30 (dk_at dksJ4_linkBefore_0 1 rfl rfl)
theorem dJ4_linkBefore_4 : decode cJ4_linkBefore 4 = .ok (.astore_n 3, 1) := dk_78 (dk_at dksJ4_linkBefore_0 4 rfl rfl)
theorem dJ4_linkBefore_5 : decode cJ4_linkBefore 5 = .ok (.new 22, 3) := dk_187 0 22 (dk_at dksJ4_linkBefore_0 5 rfl rfl)
theorem dJ4_linkBefore_8 : decode cJ4_linkBefore 8 = .ok (.dup, 1) := dk_89 (dk_at dksJ4_linkBefore_0 8 rfl rfl)
theorem dJ4_linkBefore_9 : decode cJ4_linkBefore 9 = .ok (.aload_n 3, 1) := dk_45 (dk_at dksJ4_linkBefore_0 9 rfl rfl)
theorem dJ4_linkBefore_10 : decode cJ4_linkBefore 10 = .ok (.aload_n 1, 1) := dk_43 (dk_at dksJ4_linkBefore_0 10 rfl rfl)
theorem dJ4_linkBefore_11 : decode cJ4_linkBefore 11 = .ok (.aload_n 2, 1) := dk_44 (dk_at dksJ4_linkBefore_0 11 rfl rfl)
theorem dJ4_linkBefore_12 : decode cJ4_linkBefore 12 = .ok (.invokespecial 24, 3) := dk_183 0 24 (dk_at dksJ4_linkBefore_0 12 rfl rfl)
theorem dJ4_linkBefore_15 : decode cJ4_linkBefore 15 = .ok (.astore 4, 2) := dk_58 4 (dk_at dksJ4_linkBefore_0 15 rfl rfl)
theorem dJ4_linkBefore_17 : decode cJ4_linkBefore 17 = .ok (.aload_n 2, 1) := dk_44 (dk_at dksJ4_linkBefore_0 17 rfl rfl)
theorem dJ4_linkBefore_18 : decode cJ4_linkBefore 18 = .ok (.aload 4, 2) := dk_25 4 (dk_at dksJ4_linkBefore_0 18 rfl rfl)
theorem dJ4_linkBefore_20 : decode cJ4_linkBefore 20 = .ok (.putfield 30, 3) := dk_181 0 30 (dk_at dksJ4_linkBefore_0 20 rfl rfl)
theorem dJ4_linkBefore_23 : decode cJ4_linkBefore 23 = .ok (.aload_n 3, 1) := dk_45 (dk_at dksJ4_linkBefore_0 23 rfl rfl)
theorem dJ4_linkBefore_24 : decode cJ4_linkBefore 24 = .ok (.ifnonnull 12, 3) := dk_199 0 12 (dk_at dksJ4_linkBefore_1 0 rfl rfl)
theorem dJ4_linkBefore_27 : decode cJ4_linkBefore 27 = .ok (.aload_n 0, 1) := dk_42 (dk_at dksJ4_linkBefore_1 3 rfl rfl)
theorem dJ4_linkBefore_28 : decode cJ4_linkBefore 28 = .ok (.aload 4, 2) := dk_25 4 (dk_at dksJ4_linkBefore_1 4 rfl rfl)
theorem dJ4_linkBefore_30 : decode cJ4_linkBefore 30 = .ok (.putfield 18, 3) := dk_181 0 18 (dk_at dksJ4_linkBefore_1 6 rfl rfl)
theorem dJ4_linkBefore_33 : decode cJ4_linkBefore 33 = .ok (.goto 9, 3) := dk_167 0 9 (dk_at dksJ4_linkBefore_1 9 rfl rfl)
theorem dJ4_linkBefore_36 : decode cJ4_linkBefore 36 = .ok (.aload_n 3, 1) := dk_45 (dk_at dksJ4_linkBefore_1 12 rfl rfl)
theorem dJ4_linkBefore_37 : decode cJ4_linkBefore 37 = .ok (.aload 4, 2) := dk_25 4 (dk_at dksJ4_linkBefore_1 13 rfl rfl)
theorem dJ4_linkBefore_39 : decode cJ4_linkBefore 39 = .ok (.putfield 36, 3) := dk_181 0 36 (dk_at dksJ4_linkBefore_1 15 rfl rfl)
theorem dJ4_linkBefore_42 : decode cJ4_linkBefore 42 = .ok (.aload_n 0, 1) := dk_42 (dk_at dksJ4_linkBefore_1 18 rfl rfl)
theorem dJ4_linkBefore_43 : decode cJ4_linkBefore 43 = .ok (.dup, 1) := dk_89 (dk_at dksJ4_linkBefore_1 19 rfl rfl)
theorem dJ4_linkBefore_44 : decode cJ4_linkBefore 44 = .ok (.getfield 7, 3) := dk_180 0 7 (dk_at dksJ4_linkBefore_1 20 rfl rfl)
theorem dJ4_linkBefore_47 : decode cJ4_linkBefore 47 = .ok (.iconst 1, 1) := dk_4 (dk_at dksJ4_linkBefore_1 23 rfl rfl)
theorem dJ4_linkBefore_48 : decode cJ4_linkBefore 48 = .ok (.iadd, 1) := dk_96 (dk_at dksJ4_linkBefore_2 0 rfl rfl)
theorem dJ4_linkBefore_49 : decode cJ4_linkBefore 49 = .ok (.putfield 7, 3) := dk_181 0 7 (dk_at dksJ4_linkBefore_2 1 rfl rfl)
theorem dJ4_linkBefore_52 : decode cJ4_linkBefore 52 = .ok (.aload_n 0, 1) := dk_42 (dk_at dksJ4_linkBefore_2 4 rfl rfl)
theorem dJ4_linkBefore_53 : decode cJ4_linkBefore 53 = .ok (.dup, 1) := dk_89 (dk_at dksJ4_linkBefore_2 5 rfl rfl)
theorem dJ4_linkBefore_54 : decode cJ4_linkBefore 54 = .ok (.getfield 33, 3) := dk_180 0 33 (dk_at dksJ4_linkBefore_2 6 rfl rfl)
theorem dJ4_linkBefore_57 : decode cJ4_linkBefore 57 = .ok (.iconst 1, 1) := dk_4 (dk_at dksJ4_linkBefore_2 9 rfl rfl)
theorem dJ4_linkBefore_58 : decode cJ4_linkBefore 58 = .ok (.iadd, 1) := dk_96 (dk_at dksJ4_linkBefore_2 10 rfl rfl)
theorem dJ4_linkBefore_59 : decode cJ4_linkBefore 59 = .ok (.putfield 33, 3) := dk_181 0 33 (dk_at dksJ4_linkBefore_2 11 rfl rfl)
theorem dJ4_linkBefore_62 : decode cJ4_linkBefore 62 = .ok (.return_, 1) := dk_177 (dk_at dksJ4_linkBefore_2 14 rfl rfl)
abbrev cJ4_remove : ByteArray := prog_51_method_25_code
def yJ4_remove : MethodName := ⟨RJ4, "remove", "(I)Ljava/lang/Object;"⟩
def dkwJ4_remove_0 : List UInt8 := [42, 27, 182, 0, 90, 42, 42, 27, 182, 0, 86, 182, 0, 64, 176]
abbrev dktJ4_remove_0 : List UInt8 := dkwJ4_remove_0 ++ []
theorem dksJ4_remove_0 : cJ4_remove.data.toList.drop 0 = dktJ4_remove_0 := by decide +kernel
theorem dJ4_remove_0 : decode cJ4_remove 0 = .ok (.aload_n 0, 1) := dk_42 (dk_at dksJ4_remove_0 0 rfl rfl)
theorem dJ4_remove_1 : decode cJ4_remove 1 = .ok (.iload_n 1, 1) := dk_27 (dk_at dksJ4_remove_0 1 rfl rfl)
theorem dJ4_remove_2 : decode cJ4_remove 2 = .ok (.invokevirtual 90, 3) := dk_182 0 90 (dk_at dksJ4_remove_0 2 rfl rfl)
theorem dJ4_remove_5 : decode cJ4_remove 5 = .ok (.aload_n 0, 1) := dk_42 (dk_at dksJ4_remove_0 5 rfl rfl)
theorem dJ4_remove_6 : decode cJ4_remove 6 = .ok (.aload_n 0, 1) := dk_42 (dk_at dksJ4_remove_0 6 rfl rfl)
theorem dJ4_remove_7 : decode cJ4_remove 7 = .ok (.iload_n 1, 1) := dk_27 (dk_at dksJ4_remove_0 7 rfl rfl)
theorem dJ4_remove_8 : decode cJ4_remove 8 = .ok (.invokevirtual 86, 3) := dk_182 0 86 (dk_at dksJ4_remove_0 8 rfl rfl)
theorem dJ4_remove_11 : decode cJ4_remove 11 = .ok (.invokevirtual 64, 3) := dk_182 0 64 (dk_at dksJ4_remove_0 11 rfl rfl)
theorem dJ4_remove_14 : decode cJ4_remove 14 = .ok (.areturn, 1) := dk_176 (dk_at dksJ4_remove_0 14 rfl rfl)
abbrev cJ4_unlink : ByteArray := prog_51_method_8_code
def yJ4_unlink : MethodName := ⟨RJ4, "unlink", "(Ljava/util/LinkedList$Node;)Ljava/lang/Object;"⟩
def dkwJ4_unlink_3 : List UInt8 := [180, 0, 7, 4, 100, 181, 0, 7, 42, 89, 180, 0, 33, 4, 96, 181, 0, 33, 44, 176]
abbrev dktJ4_unlink_3 : List UInt8 := dkwJ4_unlink_3 ++ []
def dkwJ4_unlink_2 : List UInt8 := [181, 0, 27, 167, 0, 14, 45, 25, 4, 181, 0, 30, 43, 1, 181, 0, 36, 43, 1, 181, 0, 39, 42, 89]
abbrev dktJ4_unlink_2 : List UInt8 := dkwJ4_unlink_2 ++ dktJ4_unlink_3
def dkwJ4_unlink_1 : List UInt8 := [181, 0, 18, 167, 0, 14, 25, 4, 45, 181, 0, 36, 43, 1, 181, 0, 30, 45, 199, 0, 12, 42, 25, 4]
abbrev dktJ4_unlink_1 : List UInt8 := dkwJ4_unlink_1 ++ dktJ4_unlink_2
def dkwJ4_unlink_0 : List UInt8 := [43, 180, 0, 39, 77, 43, 180, 0, 36, 78, 43, 180, 0, 30, 58, 4, 25, 4, 199, 0, 11, 42, 45]
abbrev dktJ4_unlink_0 : List UInt8 := dkwJ4_unlink_0 ++ dktJ4_unlink_1
theorem dksJ4_unlink_0 : cJ4_unlink.data.toList.drop 0 = dktJ4_unlink_0 := by decide +kernel
theorem dksJ4_unlink_1 : cJ4_unlink.data.toList.drop 23 = dktJ4_unlink_1 := dk_seg dksJ4_unlink_0 23 rfl rfl
theorem dksJ4_unlink_2 : cJ4_unlink.data.toList.drop 47 = dktJ4_unlink_2 := dk_seg dksJ4_unlink_1 24 rfl rfl
theorem dksJ4_unlink_3 : cJ4_unlink.data.toList.drop 71 = dktJ4_unlink_3 := dk_seg dksJ4_unlink_2 24 rfl rfl
theorem dJ4_unlink_0 : decode cJ4_unlink 0 = .ok (.aload_n 1, 1) := dk_43 (dk_at dksJ4_unlink_0 0 rfl rfl)
theorem dJ4_unlink_1 : decode cJ4_unlink 1 = .ok (.getfield 39, 3) := dk_180 0 39 (dk_at dksJ4_unlink_0 1 rfl rfl)
theorem dJ4_unlink_4 : decode cJ4_unlink 4 = .ok (.astore_n 2, 1) := dk_77 (dk_at dksJ4_unlink_0 4 rfl rfl)
theorem dJ4_unlink_5 : decode cJ4_unlink 5 = .ok (.aload_n 1, 1) := dk_43 (dk_at dksJ4_unlink_0 5 rfl rfl)
theorem dJ4_unlink_6 : decode cJ4_unlink 6 = .ok (.getfield 36, 3) := dk_180 0 36 (dk_at dksJ4_unlink_0 6 rfl rfl)
theorem dJ4_unlink_9 : decode cJ4_unlink 9 = .ok (.astore_n 3, 1) := dk_78 (dk_at dksJ4_unlink_0 9 rfl rfl)
theorem dJ4_unlink_10 : decode cJ4_unlink 10 = .ok (.aload_n 1, 1) := dk_43 (dk_at dksJ4_unlink_0 10 rfl rfl)
theorem dJ4_unlink_11 : decode cJ4_unlink 11 = .ok (.getfield 30, 3) := dk_180 0 30 (dk_at dksJ4_unlink_0 11 rfl rfl)
theorem dJ4_unlink_14 : decode cJ4_unlink 14 = .ok (.astore 4, 2) := dk_58 4 (dk_at dksJ4_unlink_0 14 rfl rfl)
theorem dJ4_unlink_16 : decode cJ4_unlink 16 = .ok (.aload 4, 2) := dk_25 4 (dk_at dksJ4_unlink_0 16 rfl rfl)
theorem dJ4_unlink_18 : decode cJ4_unlink 18 = .ok (.ifnonnull 11, 3) := dk_199 0 11 (dk_at dksJ4_unlink_0 18 rfl rfl)
theorem dJ4_unlink_21 : decode cJ4_unlink 21 = .ok (.aload_n 0, 1) := dk_42 (dk_at dksJ4_unlink_0 21 rfl rfl)
theorem dJ4_unlink_22 : decode cJ4_unlink 22 = .ok (.aload_n 3, 1) := dk_45 (dk_at dksJ4_unlink_0 22 rfl rfl)
theorem dJ4_unlink_23 : decode cJ4_unlink 23 = .ok (.putfield 18, 3) := dk_181 0 18 (dk_at dksJ4_unlink_1 0 rfl rfl)
theorem dJ4_unlink_26 : decode cJ4_unlink 26 = .ok (.goto 14, 3) := dk_167 0 14 (dk_at dksJ4_unlink_1 3 rfl rfl)
theorem dJ4_unlink_29 : decode cJ4_unlink 29 = .ok (.aload 4, 2) := dk_25 4 (dk_at dksJ4_unlink_1 6 rfl rfl)
theorem dJ4_unlink_31 : decode cJ4_unlink 31 = .ok (.aload_n 3, 1) := dk_45 (dk_at dksJ4_unlink_1 8 rfl rfl)
theorem dJ4_unlink_32 : decode cJ4_unlink 32 = .ok (.putfield 36, 3) := dk_181 0 36 (dk_at dksJ4_unlink_1 9 rfl rfl)
theorem dJ4_unlink_35 : decode cJ4_unlink 35 = .ok (.aload_n 1, 1) := dk_43 (dk_at dksJ4_unlink_1 12 rfl rfl)
theorem dJ4_unlink_36 : decode cJ4_unlink 36 = .ok (.aconst_null, 1) := dk_1 (dk_at dksJ4_unlink_1 13 rfl rfl)
theorem dJ4_unlink_37 : decode cJ4_unlink 37 = .ok (.putfield 30, 3) := dk_181 0 30 (dk_at dksJ4_unlink_1 14 rfl rfl)
theorem dJ4_unlink_40 : decode cJ4_unlink 40 = .ok (.aload_n 3, 1) := dk_45 (dk_at dksJ4_unlink_1 17 rfl rfl)
theorem dJ4_unlink_41 : decode cJ4_unlink 41 = .ok (.ifnonnull 12, 3) := dk_199 0 12 (dk_at dksJ4_unlink_1 18 rfl rfl)
theorem dJ4_unlink_44 : decode cJ4_unlink 44 = .ok (.aload_n 0, 1) := dk_42 (dk_at dksJ4_unlink_1 21 rfl rfl)
theorem dJ4_unlink_45 : decode cJ4_unlink 45 = .ok (.aload 4, 2) := dk_25 4 (dk_at dksJ4_unlink_1 22 rfl rfl)
theorem dJ4_unlink_47 : decode cJ4_unlink 47 = .ok (.putfield 27, 3) := dk_181 0 27 (dk_at dksJ4_unlink_2 0 rfl rfl)
theorem dJ4_unlink_50 : decode cJ4_unlink 50 = .ok (.goto 14, 3) := dk_167 0 14 (dk_at dksJ4_unlink_2 3 rfl rfl)
theorem dJ4_unlink_53 : decode cJ4_unlink 53 = .ok (.aload_n 3, 1) := dk_45 (dk_at dksJ4_unlink_2 6 rfl rfl)
theorem dJ4_unlink_54 : decode cJ4_unlink 54 = .ok (.aload 4, 2) := dk_25 4 (dk_at dksJ4_unlink_2 7 rfl rfl)
theorem dJ4_unlink_56 : decode cJ4_unlink 56 = .ok (.putfield 30, 3) := dk_181 0 30 (dk_at dksJ4_unlink_2 9 rfl rfl)
theorem dJ4_unlink_59 : decode cJ4_unlink 59 = .ok (.aload_n 1, 1) := dk_43 (dk_at dksJ4_unlink_2 12 rfl rfl)
theorem dJ4_unlink_60 : decode cJ4_unlink 60 = .ok (.aconst_null, 1) := dk_1 (dk_at dksJ4_unlink_2 13 rfl rfl)
theorem dJ4_unlink_61 : decode cJ4_unlink 61 = .ok (.putfield 36, 3) := dk_181 0 36 (dk_at dksJ4_unlink_2 14 rfl rfl)
theorem dJ4_unlink_64 : decode cJ4_unlink 64 = .ok (.aload_n 1, 1) := dk_43 (dk_at dksJ4_unlink_2 17 rfl rfl)
theorem dJ4_unlink_65 : decode cJ4_unlink 65 = .ok (.aconst_null, 1) := dk_1 (dk_at dksJ4_unlink_2 18 rfl rfl)
theorem dJ4_unlink_66 : decode cJ4_unlink 66 = .ok (.putfield 39, 3) := dk_181 0 39 (dk_at dksJ4_unlink_2 19 rfl rfl)
theorem dJ4_unlink_69 : decode cJ4_unlink 69 = .ok (.aload_n 0, 1) := dk_42 (dk_at dksJ4_unlink_2 22 rfl rfl)
theorem dJ4_unlink_70 : decode cJ4_unlink 70 = .ok (.dup, 1) := dk_89 (dk_at dksJ4_unlink_2 23 rfl rfl)
theorem dJ4_unlink_71 : decode cJ4_unlink 71 = .ok (.getfield 7, 3) := dk_180 0 7 (dk_at dksJ4_unlink_3 0 rfl rfl)
theorem dJ4_unlink_74 : decode cJ4_unlink 74 = .ok (.iconst 1, 1) := dk_4 (dk_at dksJ4_unlink_3 3 rfl rfl)
theorem dJ4_unlink_75 : decode cJ4_unlink 75 = .ok (.isub, 1) := dk_100 (dk_at dksJ4_unlink_3 4 rfl rfl)
theorem dJ4_unlink_76 : decode cJ4_unlink 76 = .ok (.putfield 7, 3) := dk_181 0 7 (dk_at dksJ4_unlink_3 5 rfl rfl)
theorem dJ4_unlink_79 : decode cJ4_unlink 79 = .ok (.aload_n 0, 1) := dk_42 (dk_at dksJ4_unlink_3 8 rfl rfl)
theorem dJ4_unlink_80 : decode cJ4_unlink 80 = .ok (.dup, 1) := dk_89 (dk_at dksJ4_unlink_3 9 rfl rfl)
theorem dJ4_unlink_81 : decode cJ4_unlink 81 = .ok (.getfield 33, 3) := dk_180 0 33 (dk_at dksJ4_unlink_3 10 rfl rfl)
theorem dJ4_unlink_84 : decode cJ4_unlink 84 = .ok (.iconst 1, 1) := dk_4 (dk_at dksJ4_unlink_3 13 rfl rfl)
theorem dJ4_unlink_85 : decode cJ4_unlink 85 = .ok (.iadd, 1) := dk_96 (dk_at dksJ4_unlink_3 14 rfl rfl)
theorem dJ4_unlink_86 : decode cJ4_unlink 86 = .ok (.putfield 33, 3) := dk_181 0 33 (dk_at dksJ4_unlink_3 15 rfl rfl)
theorem dJ4_unlink_89 : decode cJ4_unlink 89 = .ok (.aload_n 2, 1) := dk_44 (dk_at dksJ4_unlink_3 18 rfl rfl)
theorem dJ4_unlink_90 : decode cJ4_unlink 90 = .ok (.areturn, 1) := dk_176 (dk_at dksJ4_unlink_3 19 rfl rfl)
abbrev cJ4_getFirst : ByteArray := prog_51_method_9_code
def yJ4_getFirst : MethodName := ⟨RJ4, "getFirst", "()Ljava/lang/Object;"⟩
def dkwJ4_getFirst_0 : List UInt8 := [42, 180, 0, 18, 76, 43, 199, 0, 11, 187, 0, 43, 89, 183, 0, 45, 191, 43, 180, 0, 39, 176]
abbrev dktJ4_getFirst_0 : List UInt8 := dkwJ4_getFirst_0 ++ []
theorem dksJ4_getFirst_0 : cJ4_getFirst.data.toList.drop 0 = dktJ4_getFirst_0 := by decide +kernel
theorem dJ4_getFirst_0 : decode cJ4_getFirst 0 = .ok (.aload_n 0, 1) := dk_42 (dk_at dksJ4_getFirst_0 0 rfl rfl)
theorem dJ4_getFirst_1 : decode cJ4_getFirst 1 = .ok (.getfield 18, 3) := dk_180 0 18 (dk_at dksJ4_getFirst_0 1 rfl rfl)
theorem dJ4_getFirst_4 : decode cJ4_getFirst 4 = .ok (.astore_n 1, 1) := dk_76 (dk_at dksJ4_getFirst_0 4 rfl rfl)
theorem dJ4_getFirst_5 : decode cJ4_getFirst 5 = .ok (.aload_n 1, 1) := dk_43 (dk_at dksJ4_getFirst_0 5 rfl rfl)
theorem dJ4_getFirst_6 : decode cJ4_getFirst 6 = .ok (.ifnonnull 11, 3) := dk_199 0 11 (dk_at dksJ4_getFirst_0 6 rfl rfl)
theorem dJ4_getFirst_9 : decode cJ4_getFirst 9 = .ok (.new 43, 3) := dk_187 0 43 (dk_at dksJ4_getFirst_0 9 rfl rfl)
theorem dJ4_getFirst_12 : decode cJ4_getFirst 12 = .ok (.dup, 1) := dk_89 (dk_at dksJ4_getFirst_0 12 rfl rfl)
theorem dJ4_getFirst_13 : decode cJ4_getFirst 13 = .ok (.invokespecial 45, 3) := dk_183 0 45 (dk_at dksJ4_getFirst_0 13 rfl rfl)
theorem dJ4_getFirst_16 : decode cJ4_getFirst 16 = .ok (.athrow, 1) := dk_191 (dk_at dksJ4_getFirst_0 16 rfl rfl)
theorem dJ4_getFirst_17 : decode cJ4_getFirst 17 = .ok (.aload_n 1, 1) := dk_43 (dk_at dksJ4_getFirst_0 17 rfl rfl)
theorem dJ4_getFirst_18 : decode cJ4_getFirst 18 = .ok (.getfield 39, 3) := dk_180 0 39 (dk_at dksJ4_getFirst_0 18 rfl rfl)
theorem dJ4_getFirst_21 : decode cJ4_getFirst 21 = .ok (.areturn, 1) := dk_176 (dk_at dksJ4_getFirst_0 21 rfl rfl)
abbrev cJ4_removeFirst : ByteArray := prog_51_method_11_code
def yJ4_removeFirst : MethodName := ⟨RJ4, "removeFirst", "()Ljava/lang/Object;"⟩
def dkwJ4_removeFirst_0 : List UInt8 := [42, 180, 0, 18, 76, 43, 199, 0, 11, 187, 0, 43, 89, 183, 0, 45, 191, 42, 43, 182, 0, 46, 176]
abbrev dktJ4_removeFirst_0 : List UInt8 := dkwJ4_removeFirst_0 ++ []
theorem dksJ4_removeFirst_0 : cJ4_removeFirst.data.toList.drop 0 = dktJ4_removeFirst_0 := by decide +kernel
theorem dJ4_removeFirst_0 : decode cJ4_removeFirst 0 = .ok (.aload_n 0, 1) := dk_42 (dk_at dksJ4_removeFirst_0 0 rfl rfl)
theorem dJ4_removeFirst_1 : decode cJ4_removeFirst 1 = .ok (.getfield 18, 3) := dk_180 0 18 (dk_at dksJ4_removeFirst_0 1 rfl rfl)
theorem dJ4_removeFirst_4 : decode cJ4_removeFirst 4 = .ok (.astore_n 1, 1) := dk_76 (dk_at dksJ4_removeFirst_0 4 rfl rfl)
theorem dJ4_removeFirst_5 : decode cJ4_removeFirst 5 = .ok (.aload_n 1, 1) := dk_43 (dk_at dksJ4_removeFirst_0 5 rfl rfl)
theorem dJ4_removeFirst_6 : decode cJ4_removeFirst 6 = .ok (.ifnonnull 11, 3) := dk_199 0 11 (dk_at dksJ4_removeFirst_0 6 rfl rfl)
theorem dJ4_removeFirst_9 : decode cJ4_removeFirst 9 = .ok (.new 43, 3) := dk_187 0 43 (dk_at dksJ4_removeFirst_0 9 rfl rfl)
theorem dJ4_removeFirst_12 : decode cJ4_removeFirst 12 = .ok (.dup, 1) := dk_89 (dk_at dksJ4_removeFirst_0 12 rfl rfl)
theorem dJ4_removeFirst_13 : decode cJ4_removeFirst 13 = .ok (.invokespecial 45, 3) := dk_183 0 45 (dk_at dksJ4_removeFirst_0 13 rfl rfl)
theorem dJ4_removeFirst_16 : decode cJ4_removeFirst 16 = .ok (.athrow, 1) := dk_191 (dk_at dksJ4_removeFirst_0 16 rfl rfl)
theorem dJ4_removeFirst_17 : decode cJ4_removeFirst 17 = .ok (.aload_n 0, 1) := dk_42 (dk_at dksJ4_removeFirst_0 17 rfl rfl)
theorem dJ4_removeFirst_18 : decode cJ4_removeFirst 18 = .ok (.aload_n 1, 1) := dk_43 (dk_at dksJ4_removeFirst_0 18 rfl rfl)
theorem dJ4_removeFirst_19 : decode cJ4_removeFirst 19 = .ok (.invokevirtual 46, 3) := dk_182 0 46 (dk_at dksJ4_removeFirst_0 19 rfl rfl)
theorem dJ4_removeFirst_22 : decode cJ4_removeFirst 22 = .ok (.areturn, 1) := dk_176 (dk_at dksJ4_removeFirst_0 22 rfl rfl)
abbrev cJ4_unlinkFirst : ByteArray := prog_51_method_6_code
def yJ4_unlinkFirst : MethodName := ⟨RJ4, "unlinkFirst", "(Ljava/util/LinkedList$Node;)Ljava/lang/Object;"⟩
def dkwJ4_unlinkFirst_2 : List UInt8 := [180, 0, 7, 4, 100, 181, 0, 7, 42, 89, 180, 0, 33, 4, 96, 181, 0, 33, 44, 176]
abbrev dktJ4_unlinkFirst_2 : List UInt8 := dkwJ4_unlinkFirst_2 ++ []
def dkwJ4_unlinkFirst_1 : List UInt8 := [181, 0, 18, 45, 199, 0, 11, 42, 1, 181, 0, 27, 167, 0, 8, 45, 1, 181, 0, 30, 42, 89]
abbrev dktJ4_unlinkFirst_1 : List UInt8 := dkwJ4_unlinkFirst_1 ++ dktJ4_unlinkFirst_2
def dkwJ4_unlinkFirst_0 : List UInt8 := [43, 180, 0, 39, 77, 43, 180, 0, 36, 78, 43, 1, 181, 0, 39, 43, 1, 181, 0, 36, 42, 45]
abbrev dktJ4_unlinkFirst_0 : List UInt8 := dkwJ4_unlinkFirst_0 ++ dktJ4_unlinkFirst_1
theorem dksJ4_unlinkFirst_0 : cJ4_unlinkFirst.data.toList.drop 0 = dktJ4_unlinkFirst_0 := by decide +kernel
theorem dksJ4_unlinkFirst_1 : cJ4_unlinkFirst.data.toList.drop 22 = dktJ4_unlinkFirst_1 := dk_seg dksJ4_unlinkFirst_0 22 rfl rfl
theorem dksJ4_unlinkFirst_2 : cJ4_unlinkFirst.data.toList.drop 44 = dktJ4_unlinkFirst_2 := dk_seg dksJ4_unlinkFirst_1 22 rfl rfl
theorem dJ4_unlinkFirst_0 : decode cJ4_unlinkFirst 0 = .ok (.aload_n 1, 1) := dk_43 (dk_at dksJ4_unlinkFirst_0 0 rfl rfl)
theorem dJ4_unlinkFirst_1 : decode cJ4_unlinkFirst 1 = .ok (.getfield 39, 3) := dk_180 0 39 (dk_at dksJ4_unlinkFirst_0 1 rfl rfl)
theorem dJ4_unlinkFirst_4 : decode cJ4_unlinkFirst 4 = .ok (.astore_n 2, 1) := dk_77 (dk_at dksJ4_unlinkFirst_0 4 rfl rfl)
theorem dJ4_unlinkFirst_5 : decode cJ4_unlinkFirst 5 = .ok (.aload_n 1, 1) := dk_43 (dk_at dksJ4_unlinkFirst_0 5 rfl rfl)
theorem dJ4_unlinkFirst_6 : decode cJ4_unlinkFirst 6 = .ok (.getfield 36, 3) := dk_180 0 36 (dk_at dksJ4_unlinkFirst_0 6 rfl rfl)
theorem dJ4_unlinkFirst_9 : decode cJ4_unlinkFirst 9 = .ok (.astore_n 3, 1) := dk_78 (dk_at dksJ4_unlinkFirst_0 9 rfl rfl)
theorem dJ4_unlinkFirst_10 : decode cJ4_unlinkFirst 10 = .ok (.aload_n 1, 1) := dk_43 (dk_at dksJ4_unlinkFirst_0 10 rfl rfl)
theorem dJ4_unlinkFirst_11 : decode cJ4_unlinkFirst 11 = .ok (.aconst_null, 1) := dk_1 (dk_at dksJ4_unlinkFirst_0 11 rfl rfl)
theorem dJ4_unlinkFirst_12 : decode cJ4_unlinkFirst 12 = .ok (.putfield 39, 3) := dk_181 0 39 (dk_at dksJ4_unlinkFirst_0 12 rfl rfl)
theorem dJ4_unlinkFirst_15 : decode cJ4_unlinkFirst 15 = .ok (.aload_n 1, 1) := dk_43 (dk_at dksJ4_unlinkFirst_0 15 rfl rfl)
theorem dJ4_unlinkFirst_16 : decode cJ4_unlinkFirst 16 = .ok (.aconst_null, 1) := dk_1 (dk_at dksJ4_unlinkFirst_0 16 rfl rfl)
theorem dJ4_unlinkFirst_17 : decode cJ4_unlinkFirst 17 = .ok (.putfield 36, 3) := dk_181 0 36 (dk_at dksJ4_unlinkFirst_0 17 rfl rfl)
theorem dJ4_unlinkFirst_20 : decode cJ4_unlinkFirst 20 = .ok (.aload_n 0, 1) := dk_42 (dk_at dksJ4_unlinkFirst_0 20 rfl rfl)
theorem dJ4_unlinkFirst_21 : decode cJ4_unlinkFirst 21 = .ok (.aload_n 3, 1) := dk_45 (dk_at dksJ4_unlinkFirst_0 21 rfl rfl)
theorem dJ4_unlinkFirst_22 : decode cJ4_unlinkFirst 22 = .ok (.putfield 18, 3) := dk_181 0 18 (dk_at dksJ4_unlinkFirst_1 0 rfl rfl)
theorem dJ4_unlinkFirst_25 : decode cJ4_unlinkFirst 25 = .ok (.aload_n 3, 1) := dk_45 (dk_at dksJ4_unlinkFirst_1 3 rfl rfl)
theorem dJ4_unlinkFirst_26 : decode cJ4_unlinkFirst 26 = .ok (.ifnonnull 11, 3) := dk_199 0 11 (dk_at dksJ4_unlinkFirst_1 4 rfl rfl)
theorem dJ4_unlinkFirst_29 : decode cJ4_unlinkFirst 29 = .ok (.aload_n 0, 1) := dk_42 (dk_at dksJ4_unlinkFirst_1 7 rfl rfl)
theorem dJ4_unlinkFirst_30 : decode cJ4_unlinkFirst 30 = .ok (.aconst_null, 1) := dk_1 (dk_at dksJ4_unlinkFirst_1 8 rfl rfl)
theorem dJ4_unlinkFirst_31 : decode cJ4_unlinkFirst 31 = .ok (.putfield 27, 3) := dk_181 0 27 (dk_at dksJ4_unlinkFirst_1 9 rfl rfl)
theorem dJ4_unlinkFirst_34 : decode cJ4_unlinkFirst 34 = .ok (.goto 8, 3) := dk_167 0 8 (dk_at dksJ4_unlinkFirst_1 12 rfl rfl)
theorem dJ4_unlinkFirst_37 : decode cJ4_unlinkFirst 37 = .ok (.aload_n 3, 1) := dk_45 (dk_at dksJ4_unlinkFirst_1 15 rfl rfl)
theorem dJ4_unlinkFirst_38 : decode cJ4_unlinkFirst 38 = .ok (.aconst_null, 1) := dk_1 (dk_at dksJ4_unlinkFirst_1 16 rfl rfl)
theorem dJ4_unlinkFirst_39 : decode cJ4_unlinkFirst 39 = .ok (.putfield 30, 3) := dk_181 0 30 (dk_at dksJ4_unlinkFirst_1 17 rfl rfl)
theorem dJ4_unlinkFirst_42 : decode cJ4_unlinkFirst 42 = .ok (.aload_n 0, 1) := dk_42 (dk_at dksJ4_unlinkFirst_1 20 rfl rfl)
theorem dJ4_unlinkFirst_43 : decode cJ4_unlinkFirst 43 = .ok (.dup, 1) := dk_89 (dk_at dksJ4_unlinkFirst_1 21 rfl rfl)
theorem dJ4_unlinkFirst_44 : decode cJ4_unlinkFirst 44 = .ok (.getfield 7, 3) := dk_180 0 7 (dk_at dksJ4_unlinkFirst_2 0 rfl rfl)
theorem dJ4_unlinkFirst_47 : decode cJ4_unlinkFirst 47 = .ok (.iconst 1, 1) := dk_4 (dk_at dksJ4_unlinkFirst_2 3 rfl rfl)
theorem dJ4_unlinkFirst_48 : decode cJ4_unlinkFirst 48 = .ok (.isub, 1) := dk_100 (dk_at dksJ4_unlinkFirst_2 4 rfl rfl)
theorem dJ4_unlinkFirst_49 : decode cJ4_unlinkFirst 49 = .ok (.putfield 7, 3) := dk_181 0 7 (dk_at dksJ4_unlinkFirst_2 5 rfl rfl)
theorem dJ4_unlinkFirst_52 : decode cJ4_unlinkFirst 52 = .ok (.aload_n 0, 1) := dk_42 (dk_at dksJ4_unlinkFirst_2 8 rfl rfl)
theorem dJ4_unlinkFirst_53 : decode cJ4_unlinkFirst 53 = .ok (.dup, 1) := dk_89 (dk_at dksJ4_unlinkFirst_2 9 rfl rfl)
theorem dJ4_unlinkFirst_54 : decode cJ4_unlinkFirst 54 = .ok (.getfield 33, 3) := dk_180 0 33 (dk_at dksJ4_unlinkFirst_2 10 rfl rfl)
theorem dJ4_unlinkFirst_57 : decode cJ4_unlinkFirst 57 = .ok (.iconst 1, 1) := dk_4 (dk_at dksJ4_unlinkFirst_2 13 rfl rfl)
theorem dJ4_unlinkFirst_58 : decode cJ4_unlinkFirst 58 = .ok (.iadd, 1) := dk_96 (dk_at dksJ4_unlinkFirst_2 14 rfl rfl)
theorem dJ4_unlinkFirst_59 : decode cJ4_unlinkFirst 59 = .ok (.putfield 33, 3) := dk_181 0 33 (dk_at dksJ4_unlinkFirst_2 15 rfl rfl)
theorem dJ4_unlinkFirst_62 : decode cJ4_unlinkFirst 62 = .ok (.aload_n 2, 1) := dk_44 (dk_at dksJ4_unlinkFirst_2 18 rfl rfl)
theorem dJ4_unlinkFirst_63 : decode cJ4_unlinkFirst 63 = .ok (.areturn, 1) := dk_176 (dk_at dksJ4_unlinkFirst_2 19 rfl rfl)
theorem q91 : (Jvm.Cond.initialized "java/util/LinkedList") ∈ lw_all := lw_g (lw_at lw_m1 7 rfl) rfl
theorem q169 : (Jvm.Cond.sameField "java/util/LinkedList" "java/util/AbstractList" "modCount" "I") ∈ lw_all := lw_g (lw_at lw_m1 85 rfl) rfl
theorem q173 : (Jvm.Cond.fieldLink "java/util/LinkedList" (33 : Nat) "java/util/LinkedList" "modCount" "I") ∈ lw_all := lw_g (lw_at lw_m1 89 rfl) rfl
theorem q184 : (Jvm.Cond.instantiable "java/util/LinkedList" (4 : Nat)) ∈ lw_all := lw_g (lw_at lw_m1 100 rfl) rfl
theorem q186 : (Jvm.Cond.instanceMethod ({ cls := "java/util/LinkedList", name := "<init>", desc := "()V" } : Jvm.MethodName)) ∈ lw_all := lw_g (lw_at lw_m1 102 rfl) rfl
theorem q187 : (Jvm.Cond.code ({ cls := "java/util/LinkedList", name := "<init>", desc := "()V" } : Jvm.MethodName) prog_51_method_1_code (1 : Nat) (Option.none : Option Jvm.ClassFile.FieldType)) ∈ lw_all := lw_g (lw_at lw_m1 103 rfl) rfl
theorem q188 : (Jvm.Cond.methodLink "java/util/LinkedList" (1 : Nat) ({ cls := "java/util/AbstractSequentialList", name := "<init>", desc := "()V" } : Jvm.MethodName)) ∈ lw_all := lw_g (lw_at lw_m1 104 rfl) rfl
theorem q192 : (Jvm.Cond.fieldLink "java/util/LinkedList" (7 : Nat) "java/util/LinkedList" "size" "I") ∈ lw_all := lw_g (lw_at lw_m1 108 rfl) rfl
theorem q194 : (Jvm.Cond.fieldLink "java/util/LinkedList" (18 : Nat) "java/util/LinkedList" "first" "Ljava/util/LinkedList$Node;") ∈ lw_all := lw_g (lw_at lw_m1 110 rfl) rfl
theorem q195 : (Jvm.Cond.fieldLink "java/util/LinkedList" (27 : Nat) "java/util/LinkedList" "last" "Ljava/util/LinkedList$Node;") ∈ lw_all := lw_g (lw_at lw_m1 111 rfl) rfl
theorem q196 : (Jvm.Cond.lays "java/util/LinkedList" "java/util/LinkedList" "size" "I") ∈ lw_all := lw_g (lw_at lw_m1 112 rfl) rfl
theorem q197 : (Jvm.Cond.soleField "java/util/LinkedList" "size") ∈ lw_all := lw_g (lw_at lw_m1 113 rfl) rfl
theorem q198 : (Jvm.Cond.lays "java/util/LinkedList" "java/util/LinkedList" "first" "Ljava/util/LinkedList$Node;") ∈ lw_all := lw_g (lw_at lw_m1 114 rfl) rfl
theorem q199 : (Jvm.Cond.soleField "java/util/LinkedList" "first") ∈ lw_all := lw_g (lw_at lw_m1 115 rfl) rfl
theorem q200 : (Jvm.Cond.lays "java/util/LinkedList" "java/util/LinkedList" "last" "Ljava/util/LinkedList$Node;") ∈ lw_all := lw_g (lw_at lw_m1 116 rfl) rfl
theorem q201 : (Jvm.Cond.soleField "java/util/LinkedList" "last") ∈ lw_all := lw_g (lw_at lw_m1 117 rfl) rfl
theorem q202 : (Jvm.Cond.lays "java/util/LinkedList" "java/util/AbstractList" "modCount" "I") ∈ lw_all := lw_g (lw_at lw_m1 118 rfl) rfl
theorem q203 : (Jvm.Cond.superclass "java/util/LinkedList" "java/util/AbstractSequentialList") ∈ lw_all := lw_g (lw_at lw_m1 119 rfl) rfl
theorem q260 : (Jvm.Cond.selects "java/util/LinkedList" ({ cls := "java/lang/Object", name := "getClass", desc := "()Ljava/lang/Class;" } : Jvm.MethodName) ({ cls := "java/lang/Object", name := "getClass", desc := "()Ljava/lang/Class;" } : Jvm.MethodName)) ∈ lw_all := lw_g (lw_at lw_m1 176 rfl) rfl
theorem q422 : (Jvm.Cond.sameMethod "java/util/LinkedList" "java/util/AbstractSequentialList" "iterator" "()Ljava/util/Iterator;") ∈ lw_all := lw_g (lw_at lw_m2 98 rfl) rfl
theorem q424 : (Jvm.Cond.selects "java/util/LinkedList" ({ cls := "java/util/LinkedList", name := "iterator", desc := "()Ljava/util/Iterator;" } : Jvm.MethodName) ({ cls := "java/util/AbstractSequentialList", name := "iterator", desc := "()Ljava/util/Iterator;" } : Jvm.MethodName)) ∈ lw_all := lw_g (lw_at lw_m2 100 rfl) rfl
theorem q430 : (Jvm.Cond.selects "java/util/LinkedList" ({ cls := "java/util/AbstractSequentialList", name := "listIterator", desc := "()Ljava/util/ListIterator;" } : Jvm.MethodName) ({ cls := "java/util/AbstractList", name := "listIterator", desc := "()Ljava/util/ListIterator;" } : Jvm.MethodName)) ∈ lw_all := lw_g (lw_at lw_m2 106 rfl) rfl
theorem q470 : (Jvm.Cond.selects "java/util/LinkedList" ({ cls := "java/util/AbstractList", name := "listIterator", desc := "(I)Ljava/util/ListIterator;" } : Jvm.MethodName) ({ cls := "java/util/LinkedList", name := "listIterator", desc := "(I)Ljava/util/ListIterator;" } : Jvm.MethodName)) ∈ lw_all := lw_g (lw_at lw_m2 146 rfl) rfl
theorem q471 : (Jvm.Cond.instanceMethod ({ cls := "java/util/LinkedList", name := "listIterator", desc := "(I)Ljava/util/ListIterator;" } : Jvm.MethodName)) ∈ lw_all := lw_g (lw_at lw_m2 147 rfl) rfl
theorem q472 : (Jvm.Cond.code ({ cls := "java/util/LinkedList", name := "listIterator", desc := "(I)Ljava/util/ListIterator;" } : Jvm.MethodName) prog_51_method_49_code (2 : Nat) (Option.some (Jvm.ClassFile.FieldType.object "java/util/ListIterator"))) ∈ lw_all := lw_g (lw_at lw_m2 148 rfl) rfl
theorem q473 : (Jvm.Cond.methodLink "java/util/LinkedList" (76 : Nat) ({ cls := "java/util/LinkedList", name := "checkPositionIndex", desc := "(I)V" } : Jvm.MethodName)) ∈ lw_all := lw_g (lw_at lw_m2 149 rfl) rfl
theorem q474 : (Jvm.Cond.privateMethod ({ cls := "java/util/LinkedList", name := "checkPositionIndex", desc := "(I)V" } : Jvm.MethodName)) ∈ lw_tbl := lw_at lw_m2 150 rfl
theorem q475 : (Jvm.Cond.instanceMethod ({ cls := "java/util/LinkedList", name := "checkPositionIndex", desc := "(I)V" } : Jvm.MethodName)) ∈ lw_all := lw_g (lw_at lw_m2 151 rfl) rfl
theorem q476 : (Jvm.Cond.code ({ cls := "java/util/LinkedList", name := "checkPositionIndex", desc := "(I)V" } : Jvm.MethodName) prog_51_method_30_code (2 : Nat) (Option.none : Option Jvm.ClassFile.FieldType)) ∈ lw_all := lw_g (lw_at lw_m2 152 rfl) rfl
theorem q477 : (Jvm.Cond.methodLink "java/util/LinkedList" (128 : Nat) ({ cls := "java/util/LinkedList", name := "isPositionIndex", desc := "(I)Z" } : Jvm.MethodName)) ∈ lw_all := lw_g (lw_at lw_m2 153 rfl) rfl
theorem q478 : (Jvm.Cond.privateMethod ({ cls := "java/util/LinkedList", name := "isPositionIndex", desc := "(I)Z" } : Jvm.MethodName)) ∈ lw_tbl := lw_at lw_m2 154 rfl
theorem q479 : (Jvm.Cond.instanceMethod ({ cls := "java/util/LinkedList", name := "isPositionIndex", desc := "(I)Z" } : Jvm.MethodName)) ∈ lw_all := lw_g (lw_at lw_m2 155 rfl) rfl
theorem q480 : (Jvm.Cond.code ({ cls := "java/util/LinkedList", name := "isPositionIndex", desc := "(I)Z" } : Jvm.MethodName) prog_51_method_27_code (2 : Nat) (Option.some Jvm.ClassFile.FieldType.boolean)) ∈ lw_all := lw_g (lw_at lw_m2 156 rfl) rfl
theorem q481 : (Jvm.Cond.classLink "java/util/LinkedList" (150 : Nat) "java/util/LinkedList$ListItr") ∈ lw_all := lw_g (lw_at lw_m2 157 rfl) rfl
theorem q483 : (Jvm.Cond.methodLink "java/util/LinkedList" (152 : Nat) ({ cls := "java/util/LinkedList$ListItr", name := "<init>", desc := "(Ljava/util/LinkedList;I)V" } : Jvm.MethodName)) ∈ lw_all := lw_g (lw_at lw_m2 159 rfl) rfl
theorem q488 : (Jvm.Cond.instanceMethod ({ cls := "java/util/LinkedList", name := "node", desc := "(I)Ljava/util/LinkedList$Node;" } : Jvm.MethodName)) ∈ lw_all := lw_g (lw_at lw_m2 164 rfl) rfl
theorem q489 : (Jvm.Cond.selects "java/util/LinkedList" ({ cls := "java/util/LinkedList", name := "node", desc := "(I)Ljava/util/LinkedList$Node;" } : Jvm.MethodName) ({ cls := "java/util/LinkedList", name := "node", desc := "(I)Ljava/util/LinkedList$Node;" } : Jvm.MethodName)) ∈ lw_all := lw_g (lw_at lw_m2 165 rfl) rfl
theorem q490 : (Jvm.Cond.code ({ cls := "java/util/LinkedList", name := "node", desc := "(I)Ljava/util/LinkedList$Node;" } : Jvm.MethodName) prog_51_method_31_code (4 : Nat) (Option.some (Jvm.ClassFile.FieldType.object "java/util/LinkedList$Node"))) ∈ lw_all := lw_g (lw_at lw_m2 166 rfl) rfl
theorem q530 : (Jvm.Cond.selects "java/util/LinkedList" ({ cls := "java/util/AbstractList", name := "size", desc := "()I" } : Jvm.MethodName) ({ cls := "java/util/LinkedList", name := "size", desc := "()I" } : Jvm.MethodName)) ∈ lw_all := lw_g (lw_at lw_m2 206 rfl) rfl
theorem q531 : (Jvm.Cond.instanceMethod ({ cls := "java/util/LinkedList", name := "size", desc := "()I" } : Jvm.MethodName)) ∈ lw_all := lw_g (lw_at lw_m2 207 rfl) rfl
theorem q532 : (Jvm.Cond.code ({ cls := "java/util/LinkedList", name := "size", desc := "()I" } : Jvm.MethodName) prog_51_method_16_code (1 : Nat) (Option.some Jvm.ClassFile.FieldType.int)) ∈ lw_all := lw_g (lw_at lw_m2 208 rfl) rfl
theorem q605 : (Jvm.Cond.selects "java/util/LinkedList" ({ cls := "java/util/AbstractList", name := "get", desc := "(I)Ljava/lang/Object;" } : Jvm.MethodName) ({ cls := "java/util/LinkedList", name := "get", desc := "(I)Ljava/lang/Object;" } : Jvm.MethodName)) ∈ lw_all := lw_g (lw_at lw_m3 41 rfl) rfl
theorem q606 : (Jvm.Cond.instanceMethod ({ cls := "java/util/LinkedList", name := "get", desc := "(I)Ljava/lang/Object;" } : Jvm.MethodName)) ∈ lw_all := lw_g (lw_at lw_m3 42 rfl) rfl
theorem q607 : (Jvm.Cond.code ({ cls := "java/util/LinkedList", name := "get", desc := "(I)Ljava/lang/Object;" } : Jvm.MethodName) prog_51_method_22_code (2 : Nat) (Option.some (Jvm.ClassFile.FieldType.object "java/lang/Object"))) ∈ lw_all := lw_g (lw_at lw_m3 43 rfl) rfl
theorem q608 : (Jvm.Cond.methodLink "java/util/LinkedList" (90 : Nat) ({ cls := "java/util/LinkedList", name := "checkElementIndex", desc := "(I)V" } : Jvm.MethodName)) ∈ lw_all := lw_g (lw_at lw_m3 44 rfl) rfl
theorem q609 : (Jvm.Cond.privateMethod ({ cls := "java/util/LinkedList", name := "checkElementIndex", desc := "(I)V" } : Jvm.MethodName)) ∈ lw_tbl := lw_at lw_m3 45 rfl
theorem q610 : (Jvm.Cond.instanceMethod ({ cls := "java/util/LinkedList", name := "checkElementIndex", desc := "(I)V" } : Jvm.MethodName)) ∈ lw_all := lw_g (lw_at lw_m3 46 rfl) rfl
theorem q611 : (Jvm.Cond.code ({ cls := "java/util/LinkedList", name := "checkElementIndex", desc := "(I)V" } : Jvm.MethodName) prog_51_method_29_code (2 : Nat) (Option.none : Option Jvm.ClassFile.FieldType)) ∈ lw_all := lw_g (lw_at lw_m3 47 rfl) rfl
theorem q612 : (Jvm.Cond.methodLink "java/util/LinkedList" (115 : Nat) ({ cls := "java/util/LinkedList", name := "isElementIndex", desc := "(I)Z" } : Jvm.MethodName)) ∈ lw_all := lw_g (lw_at lw_m3 48 rfl) rfl
theorem q613 : (Jvm.Cond.privateMethod ({ cls := "java/util/LinkedList", name := "isElementIndex", desc := "(I)Z" } : Jvm.MethodName)) ∈ lw_tbl := lw_at lw_m3 49 rfl
theorem q614 : (Jvm.Cond.instanceMethod ({ cls := "java/util/LinkedList", name := "isElementIndex", desc := "(I)Z" } : Jvm.MethodName)) ∈ lw_all := lw_g (lw_at lw_m3 50 rfl) rfl
theorem q615 : (Jvm.Cond.code ({ cls := "java/util/LinkedList", name := "isElementIndex", desc := "(I)Z" } : Jvm.MethodName) prog_51_method_26_code (2 : Nat) (Option.some Jvm.ClassFile.FieldType.boolean)) ∈ lw_all := lw_g (lw_at lw_m3 51 rfl) rfl
theorem q616 : (Jvm.Cond.methodLink "java/util/LinkedList" (86 : Nat) ({ cls := "java/util/LinkedList", name := "node", desc := "(I)Ljava/util/LinkedList$Node;" } : Jvm.MethodName)) ∈ lw_all := lw_g (lw_at lw_m3 52 rfl) rfl
theorem q917 : (Jvm.Cond.instanceMethod ({ cls := "java/util/LinkedList", name := "addLast", desc := "(Ljava/lang/Object;)V" } : Jvm.MethodName)) ∈ lw_all := lw_g (lw_at lw_m4 113 rfl) rfl
theorem q918 : (Jvm.Cond.selects "java/util/LinkedList" ({ cls := "java/util/LinkedList", name := "addLast", desc := "(Ljava/lang/Object;)V" } : Jvm.MethodName) ({ cls := "java/util/LinkedList", name := "addLast", desc := "(Ljava/lang/Object;)V" } : Jvm.MethodName)) ∈ lw_all := lw_g (lw_at lw_m4 114 rfl) rfl
theorem q919 : (Jvm.Cond.code ({ cls := "java/util/LinkedList", name := "addLast", desc := "(Ljava/lang/Object;)V" } : Jvm.MethodName) prog_51_method_14_code (2 : Nat) (Option.none : Option Jvm.ClassFile.FieldType)) ∈ lw_all := lw_g (lw_at lw_m4 115 rfl) rfl
theorem q920 : (Jvm.Cond.methodLink "java/util/LinkedList" (57 : Nat) ({ cls := "java/util/LinkedList", name := "linkLast", desc := "(Ljava/lang/Object;)V" } : Jvm.MethodName)) ∈ lw_all := lw_g (lw_at lw_m4 116 rfl) rfl
theorem q921 : (Jvm.Cond.instanceMethod ({ cls := "java/util/LinkedList", name := "linkLast", desc := "(Ljava/lang/Object;)V" } : Jvm.MethodName)) ∈ lw_all := lw_g (lw_at lw_m4 117 rfl) rfl
theorem q922 : (Jvm.Cond.selects "java/util/LinkedList" ({ cls := "java/util/LinkedList", name := "linkLast", desc := "(Ljava/lang/Object;)V" } : Jvm.MethodName) ({ cls := "java/util/LinkedList", name := "linkLast", desc := "(Ljava/lang/Object;)V" } : Jvm.MethodName)) ∈ lw_all := lw_g (lw_at lw_m4 118 rfl) rfl
theorem q923 : (Jvm.Cond.code ({ cls := "java/util/LinkedList", name := "linkLast", desc := "(Ljava/lang/Object;)V" } : Jvm.MethodName) prog_51_method_4_code (4 : Nat) (Option.none : Option Jvm.ClassFile.FieldType)) ∈ lw_all := lw_g (lw_at lw_m4 119 rfl) rfl
theorem q924 : (Jvm.Cond.classLink "java/util/LinkedList" (22 : Nat) "java/util/LinkedList$Node") ∈ lw_all := lw_g (lw_at lw_m4 120 rfl) rfl
theorem q926 : (Jvm.Cond.methodLink "java/util/LinkedList" (24 : Nat) ({ cls := "java/util/LinkedList$Node", name := "<init>", desc := "(Ljava/util/LinkedList$Node;Ljava/lang/Object;Ljava/util/LinkedList$Node;)V" } : Jvm.MethodName)) ∈ lw_all := lw_g (lw_at lw_m4 122 rfl) rfl
theorem q932 : (Jvm.Cond.fieldLink "java/util/LinkedList" (39 : Nat) "java/util/LinkedList$Node" "item" "Ljava/lang/Object;") ∈ lw_all := lw_g (lw_at lw_m4 128 rfl) rfl
theorem q935 : (Jvm.Cond.fieldLink "java/util/LinkedList" (36 : Nat) "java/util/LinkedList$Node" "next" "Ljava/util/LinkedList$Node;") ∈ lw_all := lw_g (lw_at lw_m4 131 rfl) rfl
theorem q937 : (Jvm.Cond.fieldLink "java/util/LinkedList" (30 : Nat) "java/util/LinkedList$Node" "prev" "Ljava/util/LinkedList$Node;") ∈ lw_all := lw_g (lw_at lw_m4 133 rfl) rfl
theorem q1092 : (Jvm.Cond.sameMethod "java/util/LinkedList" "java/util/AbstractCollection" "isEmpty" "()Z") ∈ lw_all := lw_g (lw_at lw_m5 48 rfl) rfl
theorem q1094 : (Jvm.Cond.selects "java/util/LinkedList" ({ cls := "java/util/LinkedList", name := "isEmpty", desc := "()Z" } : Jvm.MethodName) ({ cls := "java/util/AbstractCollection", name := "isEmpty", desc := "()Z" } : Jvm.MethodName)) ∈ lw_all := lw_g (lw_at lw_m5 50 rfl) rfl
theorem q1119 : (Jvm.Cond.instanceMethod ({ cls := "java/util/LinkedList", name := "add", desc := "(ILjava/lang/Object;)V" } : Jvm.MethodName)) ∈ lw_all := lw_g (lw_at lw_m5 75 rfl) rfl
theorem q1120 : (Jvm.Cond.selects "java/util/LinkedList" ({ cls := "java/util/LinkedList", name := "add", desc := "(ILjava/lang/Object;)V" } : Jvm.MethodName) ({ cls := "java/util/LinkedList", name := "add", desc := "(ILjava/lang/Object;)V" } : Jvm.MethodName)) ∈ lw_all := lw_g (lw_at lw_m5 76 rfl) rfl
theorem q1121 : (Jvm.Cond.code ({ cls := "java/util/LinkedList", name := "add", desc := "(ILjava/lang/Object;)V" } : Jvm.MethodName) prog_51_method_24_code (3 : Nat) (Option.none : Option Jvm.ClassFile.FieldType)) ∈ lw_all := lw_g (lw_at lw_m5 77 rfl) rfl
theorem q1122 : (Jvm.Cond.methodLink "java/util/LinkedList" (93 : Nat) ({ cls := "java/util/LinkedList", name := "linkBefore", desc := "(Ljava/lang/Object;Ljava/util/LinkedList$Node;)V" } : Jvm.MethodName)) ∈ lw_all := lw_g (lw_at lw_m5 78 rfl) rfl
theorem q1123 : (Jvm.Cond.instanceMethod ({ cls := "java/util/LinkedList", name := "linkBefore", desc := "(Ljava/lang/Object;Ljava/util/LinkedList$Node;)V" } : Jvm.MethodName)) ∈ lw_all := lw_g (lw_at lw_m5 79 rfl) rfl
theorem q1124 : (Jvm.Cond.selects "java/util/LinkedList" ({ cls := "java/util/LinkedList", name := "linkBefore", desc := "(Ljava/lang/Object;Ljava/util/LinkedList$Node;)V" } : Jvm.MethodName) ({ cls := "java/util/LinkedList", name := "linkBefore", desc := "(Ljava/lang/Object;Ljava/util/LinkedList$Node;)V" } : Jvm.MethodName)) ∈ lw_all := lw_g (lw_at lw_m5 80 rfl) rfl
theorem q1125 : (Jvm.Cond.code ({ cls := "java/util/LinkedList", name := "linkBefore", desc := "(Ljava/lang/Object;Ljava/util/LinkedList$Node;)V" } : Jvm.MethodName) prog_51_method_5_code (5 : Nat) (Option.none : Option Jvm.ClassFile.FieldType)) ∈ lw_all := lw_g (lw_at lw_m5 81 rfl) rfl
theorem q1207 : (Jvm.Cond.castable "java/util/LinkedList" "java/lang/Iterable") ∈ lw_tbl := lw_at lw_m5 163 rfl
theorem q1208 : (Jvm.Cond.selects "java/util/LinkedList" ({ cls := "java/lang/Iterable", name := "iterator", desc := "()Ljava/util/Iterator;" } : Jvm.MethodName) ({ cls := "java/util/AbstractSequentialList", name := "iterator", desc := "()Ljava/util/Iterator;" } : Jvm.MethodName)) ∈ lw_all := lw_g (lw_at lw_m5 164 rfl) rfl
theorem q1209 : (Jvm.Cond.unhidden "java/util/LinkedList" "iterator" "()Ljava/util/Iterator;") ∈ lw_tbl := lw_at lw_m5 165 rfl
theorem q1281 : (Jvm.Cond.selects "java/util/LinkedList" ({ cls := "java/util/AbstractList", name := "remove", desc := "(I)Ljava/lang/Object;" } : Jvm.MethodName) ({ cls := "java/util/LinkedList", name := "remove", desc := "(I)Ljava/lang/Object;" } : Jvm.MethodName)) ∈ lw_all := lw_g (lw_at lw_m5 237 rfl) rfl
theorem q1282 : (Jvm.Cond.instanceMethod ({ cls := "java/util/LinkedList", name := "remove", desc := "(I)Ljava/lang/Object;" } : Jvm.MethodName)) ∈ lw_all := lw_g (lw_at lw_m5 238 rfl) rfl
theorem q1283 : (Jvm.Cond.code ({ cls := "java/util/LinkedList", name := "remove", desc := "(I)Ljava/lang/Object;" } : Jvm.MethodName) prog_51_method_25_code (2 : Nat) (Option.some (Jvm.ClassFile.FieldType.object "java/lang/Object"))) ∈ lw_all := lw_g (lw_at lw_m5 239 rfl) rfl
theorem q1284 : (Jvm.Cond.methodLink "java/util/LinkedList" (64 : Nat) ({ cls := "java/util/LinkedList", name := "unlink", desc := "(Ljava/util/LinkedList$Node;)Ljava/lang/Object;" } : Jvm.MethodName)) ∈ lw_all := lw_g (lw_at lw_m6 0 rfl) rfl
theorem q1285 : (Jvm.Cond.instanceMethod ({ cls := "java/util/LinkedList", name := "unlink", desc := "(Ljava/util/LinkedList$Node;)Ljava/lang/Object;" } : Jvm.MethodName)) ∈ lw_all := lw_g (lw_at lw_m6 1 rfl) rfl
theorem q1286 : (Jvm.Cond.selects "java/util/LinkedList" ({ cls := "java/util/LinkedList", name := "unlink", desc := "(Ljava/util/LinkedList$Node;)Ljava/lang/Object;" } : Jvm.MethodName) ({ cls := "java/util/LinkedList", name := "unlink", desc := "(Ljava/util/LinkedList$Node;)Ljava/lang/Object;" } : Jvm.MethodName)) ∈ lw_all := lw_g (lw_at lw_m6 2 rfl) rfl
theorem q1287 : (Jvm.Cond.code ({ cls := "java/util/LinkedList", name := "unlink", desc := "(Ljava/util/LinkedList$Node;)Ljava/lang/Object;" } : Jvm.MethodName) prog_51_method_8_code (5 : Nat) (Option.some (Jvm.ClassFile.FieldType.object "java/lang/Object"))) ∈ lw_all := lw_g (lw_at lw_m6 3 rfl) rfl
theorem q1344 : (Jvm.Cond.instanceMethod ({ cls := "java/util/LinkedList", name := "getFirst", desc := "()Ljava/lang/Object;" } : Jvm.MethodName)) ∈ lw_all := lw_g (lw_at lw_m6 60 rfl) rfl
theorem q1345 : (Jvm.Cond.selects "java/util/LinkedList" ({ cls := "java/util/LinkedList", name := "getFirst", desc := "()Ljava/lang/Object;" } : Jvm.MethodName) ({ cls := "java/util/LinkedList", name := "getFirst", desc := "()Ljava/lang/Object;" } : Jvm.MethodName)) ∈ lw_all := lw_g (lw_at lw_m6 61 rfl) rfl
theorem q1346 : (Jvm.Cond.code ({ cls := "java/util/LinkedList", name := "getFirst", desc := "()Ljava/lang/Object;" } : Jvm.MethodName) prog_51_method_9_code (2 : Nat) (Option.some (Jvm.ClassFile.FieldType.object "java/lang/Object"))) ∈ lw_all := lw_g (lw_at lw_m6 62 rfl) rfl
theorem q1348 : (Jvm.Cond.instanceMethod ({ cls := "java/util/LinkedList", name := "removeFirst", desc := "()Ljava/lang/Object;" } : Jvm.MethodName)) ∈ lw_all := lw_g (lw_at lw_m6 64 rfl) rfl
theorem q1349 : (Jvm.Cond.selects "java/util/LinkedList" ({ cls := "java/util/LinkedList", name := "removeFirst", desc := "()Ljava/lang/Object;" } : Jvm.MethodName) ({ cls := "java/util/LinkedList", name := "removeFirst", desc := "()Ljava/lang/Object;" } : Jvm.MethodName)) ∈ lw_all := lw_g (lw_at lw_m6 65 rfl) rfl
theorem q1350 : (Jvm.Cond.code ({ cls := "java/util/LinkedList", name := "removeFirst", desc := "()Ljava/lang/Object;" } : Jvm.MethodName) prog_51_method_11_code (2 : Nat) (Option.some (Jvm.ClassFile.FieldType.object "java/lang/Object"))) ∈ lw_all := lw_g (lw_at lw_m6 66 rfl) rfl
theorem q1351 : (Jvm.Cond.methodLink "java/util/LinkedList" (46 : Nat) ({ cls := "java/util/LinkedList", name := "unlinkFirst", desc := "(Ljava/util/LinkedList$Node;)Ljava/lang/Object;" } : Jvm.MethodName)) ∈ lw_all := lw_g (lw_at lw_m6 67 rfl) rfl
theorem q1352 : (Jvm.Cond.privateMethod ({ cls := "java/util/LinkedList", name := "unlinkFirst", desc := "(Ljava/util/LinkedList$Node;)Ljava/lang/Object;" } : Jvm.MethodName)) ∈ lw_tbl := lw_at lw_m6 68 rfl
theorem q1353 : (Jvm.Cond.instanceMethod ({ cls := "java/util/LinkedList", name := "unlinkFirst", desc := "(Ljava/util/LinkedList$Node;)Ljava/lang/Object;" } : Jvm.MethodName)) ∈ lw_all := lw_g (lw_at lw_m6 69 rfl) rfl
theorem q1354 : (Jvm.Cond.code ({ cls := "java/util/LinkedList", name := "unlinkFirst", desc := "(Ljava/util/LinkedList$Node;)Ljava/lang/Object;" } : Jvm.MethodName) prog_51_method_6_code (4 : Nat) (Option.some (Jvm.ClassFile.FieldType.object "java/lang/Object"))) ∈ lw_all := lw_g (lw_at lw_m6 70 rfl) rfl
theorem q2258 : (Jvm.Cond.selects "java/util/LinkedList" ({ cls := "java/util/LinkedList", name := "size", desc := "()I" } : Jvm.MethodName) ({ cls := "java/util/LinkedList", name := "size", desc := "()I" } : Jvm.MethodName)) ∈ lw_all := lw_g (lw_at lw_m10 14 rfl) rfl
theorem q2262 : (Jvm.Cond.selects "java/util/LinkedList" ({ cls := "java/util/AbstractCollection", name := "size", desc := "()I" } : Jvm.MethodName) ({ cls := "java/util/LinkedList", name := "size", desc := "()I" } : Jvm.MethodName)) ∈ lw_all := lw_g (lw_at lw_m10 18 rfl) rfl
theorem q2264 : (Jvm.Cond.selects "java/util/LinkedList" ({ cls := "java/util/LinkedList", name := "get", desc := "(I)Ljava/lang/Object;" } : Jvm.MethodName) ({ cls := "java/util/LinkedList", name := "get", desc := "(I)Ljava/lang/Object;" } : Jvm.MethodName)) ∈ lw_all := lw_g (lw_at lw_m10 20 rfl) rfl
theorem q2276 : (Jvm.Cond.castable "java/util/LinkedList" "java/lang/Object") ∈ lw_tbl := lw_at lw_m10 32 rfl
theorem in_J4 : ∀ w ∈ wsJ40, w ∈ lw_all := lw_in wsJ40 [202, 196, 198, 200] (by decide +kernel) (by decide +kernel)
