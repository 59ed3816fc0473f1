/-! java/util/AbstractList$Itr -/
set_option maxRecDepth 100000
def RJ15 : String := "java/util/AbstractList$Itr"
abbrev cJ15_hasNext : ByteArray := prog_38_method_2_code
def yJ15_hasNext : MethodName := ⟨RJ15, "hasNext", "()Z"⟩
def dkwJ15_hasNext_0 : List UInt8 := [42, 180, 0, 13, 42, 180, 0, 1, 182, 0, 28, 159, 0, 7, 4, 167, 0, 4, 3, 172]
abbrev dktJ15_hasNext_0 : List UInt8 := dkwJ15_hasNext_0 ++ []
theorem dksJ15_hasNext_0 : cJ15_hasNext.data.toList.drop 0 = dktJ15_hasNext_0 := by decide +kernel
theorem dJ15_hasNext_0 : decode cJ15_hasNext 0 = .ok (.aload_n 0, 1) := dk_42 (dk_at dksJ15_hasNext_0 0 rfl rfl)
theorem dJ15_hasNext_1 : decode cJ15_hasNext 1 = .ok (.getfield 13, 3) := dk_180 0 13 (dk_at dksJ15_hasNext_0 1 rfl rfl)
theorem dJ15_hasNext_4 : decode cJ15_hasNext 4 = .ok (.aload_n 0, 1) := dk_42 (dk_at dksJ15_hasNext_0 4 rfl rfl)
theorem dJ15_hasNext_5 : decode cJ15_hasNext 5 = .ok (.getfield 1, 3) := dk_180 0 1 (dk_at dksJ15_hasNext_0 5 rfl rfl)
theorem dJ15_hasNext_8 : decode cJ15_hasNext 8 = .ok (.invokevirtual 28, 3) := dk_182 0 28 (dk_at dksJ15_hasNext_0 8 rfl rfl)
theorem dJ15_hasNext_11 : decode cJ15_hasNext 11 = .ok (.if_icmp .eq 7, 3) := dk_159 0 7 (dk_at dksJ15_hasNext_0 11 rfl rfl)
theorem dJ15_hasNext_14 : decode cJ15_hasNext 14 = .ok (.iconst 1, 1) := dk_4 (dk_at dksJ15_hasNext_0 14 rfl rfl)
theorem dJ15_hasNext_15 : decode cJ15_hasNext 15 = .ok (.goto 4, 3) := dk_167 0 4 (dk_at dksJ15_hasNext_0 15 rfl rfl)
theorem dJ15_hasNext_18 : decode cJ15_hasNext 18 = .ok (.iconst 0, 1) := dk_3 (dk_at dksJ15_hasNext_0 18 rfl rfl)
theorem dJ15_hasNext_19 : decode cJ15_hasNext 19 = .ok (.ireturn, 1) := dk_172 (dk_at dksJ15_hasNext_0 19 rfl rfl)
abbrev cJ15_next : ByteArray := prog_38_method_3_code
def yJ15_next : MethodName := ⟨RJ15, "next", "()Ljava/lang/Object;"⟩
def dkwJ15_next_1 : List UInt8 := [27, 4, 96, 181, 0, 13, 44, 176, 76, 42, 182, 0, 32, 187, 0, 41, 89, 43, 183, 0, 43, 191]
abbrev dktJ15_next_1 : List UInt8 := dkwJ15_next_1 ++ []
def dkwJ15_next_0 : List UInt8 := [42, 182, 0, 32, 42, 180, 0, 13, 60, 42, 180, 0, 1, 27, 182, 0, 35, 77, 42, 27, 181, 0, 17, 42]
abbrev dktJ15_next_0 : List UInt8 := dkwJ15_next_0 ++ dktJ15_next_1
theorem dksJ15_next_0 : cJ15_next.data.toList.drop 0 = dktJ15_next_0 := by decide +kernel
theorem dksJ15_next_1 : cJ15_next.data.toList.drop 24 = dktJ15_next_1 := dk_seg dksJ15_next_0 24 rfl rfl
theorem dJ15_next_0 : decode cJ15_next 0 = .ok (.aload_n 0, 1) := dk_42 (dk_at dksJ15_next_0 0 rfl rfl)
theorem dJ15_next_1 : decode cJ15_next 1 = .ok (.invokevirtual 32, 3) := dk_182 0 32 (dk_at dksJ15_next_0 1 rfl rfl)
theorem dJ15_next_4 : decode cJ15_next 4 = .ok (.aload_n 0, 1) := dk_42 (dk_at dksJ15_next_0 4 rfl rfl)
theorem dJ15_next_5 : decode cJ15_next 5 = .ok (.getfield 13, 3) := dk_180 0 13 (dk_at dksJ15_next_0 5 rfl rfl)
theorem dJ15_next_8 : decode cJ15_next 8 = .ok (.istore_n 1, 1) := dk_60 (dk_at dksJ15_next_0 8 rfl rfl)
theorem dJ15_next_9 : decode cJ15_next 9 = .ok (.aload_n 0, 1) := dk_42 (dk_at dksJ15_next_0 9 rfl rfl)
theorem dJ15_next_10 : decode cJ15_next 10 = .ok (.getfield 1, 3) := dk_180 0 1 (dk_at dksJ15_next_0 10 rfl rfl)
theorem dJ15_next_13 : decode cJ15_next 13 = .ok (.iload_n 1, 1) := dk_27 (dk_at dksJ15_next_0 13 rfl rfl)
theorem dJ15_next_14 : decode cJ15_next 14 = .ok (.invokevirtual 35, 3) := dk_182 0 35 (dk_at dksJ15_next_0 14 rfl rfl)
theorem dJ15_next_17 : decode cJ15_next 17 = .ok (.astore_n 2, 1) := dk_77 (dk_at dksJ15_next_0 17 rfl rfl)
theorem dJ15_next_18 : decode cJ15_next 18 = .ok (.aload_n 0, 1) := dk_42 (dk_at dksJ15_next_0 18 rfl rfl)
theorem dJ15_next_19 : decode cJ15_next 19 = .ok (.iload_n 1, 1) := dk_27 (dk_at dksJ15_next_0 19 rfl rfl)
theorem dJ15_next_20 : decode cJ15_next 20 = .ok (.putfield 17, 3) := dk_181 0 17 (dk_at dksJ15_next_0 20 rfl rfl)
theorem dJ15_next_23 : decode cJ15_next 23 = .ok (.aload_n 0, 1) := dk_42 (dk_at dksJ15_next_0 23 rfl rfl)
theorem dJ15_next_24 : decode cJ15_next 24 = .ok (.iload_n 1, 1) := dk_27 (dk_at dksJ15_next_1 0 rfl rfl)
theorem dJ15_next_25 : decode cJ15_next 25 = .ok (.iconst 1, 1) := dk_4 (dk_at dksJ15_next_1 1 rfl rfl)
theorem dJ15_next_26 : decode cJ15_next 26 = .ok (.iadd, 1) := dk_96 (dk_at dksJ15_next_1 2 rfl rfl)
theorem dJ15_next_27 : decode cJ15_next 27 = .ok (.putfield 13, 3) := dk_181 0 13 (dk_at dksJ15_next_1 3 rfl rfl)
theorem dJ15_next_30 : decode cJ15_next 30 = .ok (.aload_n 2, 1) := dk_44 (dk_at dksJ15_next_1 6 rfl rfl)
theorem dJ15_next_31 : decode cJ15_next 31 = .ok (.areturn, 1) := dk_176 (dk_at dksJ15_next_1 7 rfl rfl)
theorem dJ15_next_32 : decode cJ15_next 32 = .ok (.astore_n 1, 1) := dk_76 (dk_at dksJ15_next_1 8 rfl rfl)
theorem dJ15_next_33 : decode cJ15_next 33 = .ok (.aload_n 0, 1) := dk_42 (dk_at dksJ15_next_1 9 rfl rfl)
theorem dJ15_next_34 : decode cJ15_next 34 = .ok (.invokevirtual 32, 3) := dk_182 0 32 (dk_at dksJ15_next_1 10 rfl rfl)
theorem dJ15_next_37 : decode cJ15_next 37 = .ok (.new 41, 3) := dk_187 0 41 (dk_at dksJ15_next_1 13 rfl rfl)
theorem dJ15_next_40 : decode cJ15_next 40 = .ok (.dup, 1) := dk_89 (dk_at dksJ15_next_1 16 rfl rfl)
theorem dJ15_next_41 : decode cJ15_next 41 = .ok (.aload_n 1, 1) := dk_43 (dk_at dksJ15_next_1 17 rfl rfl)
theorem dJ15_next_42 : decode cJ15_next 42 = .ok (.invokespecial 43, 3) := dk_183 0 43 (dk_at dksJ15_next_1 18 rfl rfl)
theorem dJ15_next_45 : decode cJ15_next 45 = .ok (.athrow, 1) := dk_191 (dk_at dksJ15_next_1 21 rfl rfl)
abbrev cJ15_checkForComodification : ByteArray := prog_38_method_5_code
def yJ15_checkForComodification : MethodName := ⟨RJ15, "checkForComodification", "()V"⟩
def dkwJ15_checkForComodification_0 : List UInt8 := [42, 180, 0, 1, 180, 0, 20, 42, 180, 0, 25, 159, 0, 11, 187, 0, 52, 89, 183, 0, 54, 191, 177]
abbrev dktJ15_checkForComodification_0 : List UInt8 := dkwJ15_checkForComodification_0 ++ []
theorem dksJ15_checkForComodification_0 : cJ15_checkForComodification.data.toList.drop 0 = dktJ15_checkForComodification_0 := by decide +kernel
theorem dJ15_checkForComodification_0 : decode cJ15_checkForComodification 0 = .ok (.aload_n 0, 1) := dk_42 (dk_at dksJ15_checkForComodification_0 0 rfl rfl)
theorem dJ15_checkForComodification_1 : decode cJ15_checkForComodification 1 = .ok (.getfield 1, 3) := dk_180 0 1 (dk_at dksJ15_checkForComodification_0 1 rfl rfl)
theorem dJ15_checkForComodification_4 : decode cJ15_checkForComodification 4 = .ok (.getfield 20, 3) := dk_180 0 20 (dk_at dksJ15_checkForComodification_0 4 rfl rfl)
theorem dJ15_checkForComodification_7 : decode cJ15_checkForComodification 7 = .ok (.aload_n 0, 1) := dk_42 (dk_at dksJ15_checkForComodification_0 7 rfl rfl)
theorem dJ15_checkForComodification_8 : decode cJ15_checkForComodification 8 = .ok (.getfield 25, 3) := dk_180 0 25 (dk_at dksJ15_checkForComodification_0 8 rfl rfl)
theorem dJ15_checkForComodification_11 : decode cJ15_checkForComodification 11 = .ok (.if_icmp .eq 11, 3) := dk_159 0 11 (dk_at dksJ15_checkForComodification_0 11 rfl rfl)
theorem dJ15_checkForComodification_14 : decode cJ15_checkForComodification 14 = .ok (.new 52, 3) := dk_187 0 52 (dk_at dksJ15_checkForComodification_0 14 rfl rfl)
theorem dJ15_checkForComodification_17 : decode cJ15_checkForComodification 17 = .ok (.dup, 1) := dk_89 (dk_at dksJ15_checkForComodification_0 17 rfl rfl)
theorem dJ15_checkForComodification_18 : decode cJ15_checkForComodification 18 = .ok (.invokespecial 54, 3) := dk_183 0 54 (dk_at dksJ15_checkForComodification_0 18 rfl rfl)
theorem dJ15_checkForComodification_21 : decode cJ15_checkForComodification 21 = .ok (.athrow, 1) := dk_191 (dk_at dksJ15_checkForComodification_0 21 rfl rfl)
theorem dJ15_checkForComodification_22 : decode cJ15_checkForComodification 22 = .ok (.return_, 1) := dk_177 (dk_at dksJ15_checkForComodification_0 22 rfl rfl)
abbrev cJ15_remove : ByteArray := prog_38_method_4_code
def yJ15_remove : MethodName := ⟨RJ15, "remove", "()V"⟩
def dkwJ15_remove_3 : List UInt8 := [187, 0, 52, 89, 183, 0, 54, 191, 177]
abbrev dktJ15_remove_3 : List UInt8 := dkwJ15_remove_3 ++ []
def dkwJ15_remove_2 : List UInt8 := [100, 181, 0, 13, 42, 2, 181, 0, 17, 42, 42, 180, 0, 1, 180, 0, 20, 181, 0, 25, 167, 0, 12, 76]
abbrev dktJ15_remove_2 : List UInt8 := dkwJ15_remove_2 ++ dktJ15_remove_3
def dkwJ15_remove_1 : List UInt8 := [180, 0, 17, 182, 0, 49, 87, 42, 180, 0, 17, 42, 180, 0, 13, 162, 0, 13, 42, 89, 180, 0, 13, 4]
abbrev dktJ15_remove_1 : List UInt8 := dkwJ15_remove_1 ++ dktJ15_remove_2
def dkwJ15_remove_0 : List UInt8 := [42, 180, 0, 17, 156, 0, 11, 187, 0, 46, 89, 183, 0, 48, 191, 42, 182, 0, 32, 42, 180, 0, 1, 42]
abbrev dktJ15_remove_0 : List UInt8 := dkwJ15_remove_0 ++ dktJ15_remove_1
theorem dksJ15_remove_0 : cJ15_remove.data.toList.drop 0 = dktJ15_remove_0 := by decide +kernel
theorem dksJ15_remove_1 : cJ15_remove.data.toList.drop 24 = dktJ15_remove_1 := dk_seg dksJ15_remove_0 24 rfl rfl
theorem dksJ15_remove_2 : cJ15_remove.data.toList.drop 48 = dktJ15_remove_2 := dk_seg dksJ15_remove_1 24 rfl rfl
theorem dksJ15_remove_3 : cJ15_remove.data.toList.drop 72 = dktJ15_remove_3 := dk_seg dksJ15_remove_2 24 rfl rfl
theorem dJ15_remove_0 : decode cJ15_remove 0 = .ok (.aload_n 0, 1) := dk_42 (dk_at dksJ15_remove_0 0 rfl rfl)
theorem dJ15_remove_1 : decode cJ15_remove 1 = .ok (.getfield 17, 3) := dk_180 0 17 (dk_at dksJ15_remove_0 1 rfl rfl)
theorem dJ15_remove_4 : decode cJ15_remove 4 = .ok (.ifCond .ge 11, 3) := dk_156 0 11 (dk_at dksJ15_remove_0 4 rfl rfl)
theorem dJ15_remove_7 : decode cJ15_remove 7 = .ok (.new 46, 3) := dk_187 0 46 (dk_at dksJ15_remove_0 7 rfl rfl)
theorem dJ15_remove_10 : decode cJ15_remove 10 = .ok (.dup, 1) := dk_89 (dk_at dksJ15_remove_0 10 rfl rfl)
theorem dJ15_remove_11 : decode cJ15_remove 11 = .ok (.invokespecial 48, 3) := dk_183 0 48 (dk_at dksJ15_remove_0 11 rfl rfl)
theorem dJ15_remove_14 : decode cJ15_remove 14 = .ok (.athrow, 1) := dk_191 (dk_at dksJ15_remove_0 14 rfl rfl)
theorem dJ15_remove_15 : decode cJ15_remove 15 = .ok (.aload_n 0, 1) := dk_42 (dk_at dksJ15_remove_0 15 rfl rfl)
theorem dJ15_remove_16 : decode cJ15_remove 16 = .ok (.invokevirtual 32, 3) := dk_182 0 32 (dk_at dksJ15_remove_0 16 rfl rfl)
theorem dJ15_remove_19 : decode cJ15_remove 19 = .ok (.aload_n 0, 1) := dk_42 (dk_at dksJ15_remove_0 19 rfl rfl)
theorem dJ15_remove_20 : decode cJ15_remove 20 = .ok (.getfield 1, 3) := dk_180 0 1 (dk_at dksJ15_remove_0 20 rfl rfl)
theorem dJ15_remove_23 : decode cJ15_remove 23 = .ok (.aload_n 0, 1) := dk_42 (dk_at dksJ15_remove_0 23 rfl rfl)
theorem dJ15_remove_24 : decode cJ15_remove 24 = .ok (.getfield 17, 3) := dk_180 0 17 (dk_at dksJ15_remove_1 0 rfl rfl)
theorem dJ15_remove_27 : decode cJ15_remove 27 = .ok (.invokevirtual 49, 3) := dk_182 0 49 (dk_at dksJ15_remove_1 3 rfl rfl)
theorem dJ15_remove_30 : decode cJ15_remove 30 = .ok (.pop, 1) := dk_87 (dk_at dksJ15_remove_1 6 rfl rfl)
theorem dJ15_remove_31 : decode cJ15_remove 31 = .ok (.aload_n 0, 1) := dk_42 (dk_at dksJ15_remove_1 7 rfl rfl)
theorem dJ15_remove_32 : decode cJ15_remove 32 = .ok (.getfield 17, 3) := dk_180 0 17 (dk_at dksJ15_remove_1 8 rfl rfl)
theorem dJ15_remove_35 : decode cJ15_remove 35 = .ok (.aload_n 0, 1) := dk_42 (dk_at dksJ15_remove_1 11 rfl rfl)
theorem dJ15_remove_36 : decode cJ15_remove 36 = .ok (.getfield 13, 3) := dk_180 0 13 (dk_at dksJ15_remove_1 12 rfl rfl)
theorem dJ15_remove_39 : decode cJ15_remove 39 = .ok (.if_icmp .ge 13, 3) := dk_162 0 13 (dk_at dksJ15_remove_1 15 rfl rfl)
theorem dJ15_remove_42 : decode cJ15_remove 42 = .ok (.aload_n 0, 1) := dk_42 (dk_at dksJ15_remove_1 18 rfl rfl)
theorem dJ15_remove_43 : decode cJ15_remove 43 = .ok (.dup, 1) := dk_89 (dk_at dksJ15_remove_1 19 rfl rfl)
theorem dJ15_remove_44 : decode cJ15_remove 44 = .ok (.getfield 13, 3) := dk_180 0 13 (dk_at dksJ15_remove_1 20 rfl rfl)
theorem dJ15_remove_47 : decode cJ15_remove 47 = .ok (.iconst 1, 1) := dk_4 (dk_at dksJ15_remove_1 23 rfl rfl)
theorem dJ15_remove_48 : decode cJ15_remove 48 = .ok (.isub, 1) := dk_100 (dk_at dksJ15_remove_2 0 rfl rfl)
theorem dJ15_remove_49 : decode cJ15_remove 49 = .ok (.putfield 13, 3) := dk_181 0 13 (dk_at dksJ15_remove_2 1 rfl rfl)
theorem dJ15_remove_52 : decode cJ15_remove 52 = .ok (.aload_n 0, 1) := dk_42 (dk_at dksJ15_remove_2 4 rfl rfl)
theorem dJ15_remove_53 : decode cJ15_remove 53 = .ok (.iconst (-1), 1) := dk_2 (dk_at dksJ15_remove_2 5 rfl rfl)
theorem dJ15_remove_54 : decode cJ15_remove 54 = .ok (.putfield 17, 3) := dk_181 0 17 (dk_at dksJ15_remove_2 6 rfl rfl)
theorem dJ15_remove_57 : decode cJ15_remove 57 = .ok (.aload_n 0, 1) := dk_42 (dk_at dksJ15_remove_2 9 rfl rfl)
theorem dJ15_remove_58 : decode cJ15_remove 58 = .ok (.aload_n 0, 1) := dk_42 (dk_at dksJ15_remove_2 10 rfl rfl)
theorem dJ15_remove_59 : decode cJ15_remove 59 = .ok (.getfield 1, 3) := dk_180 0 1 (dk_at dksJ15_remove_2 11 rfl rfl)
theorem dJ15_remove_62 : decode cJ15_remove 62 = .ok (.getfield 20, 3) := dk_180 0 20 (dk_at dksJ15_remove_2 14 rfl rfl)
theorem dJ15_remove_65 : decode cJ15_remove 65 = .ok (.putfield 25, 3) := dk_181 0 25 (dk_at dksJ15_remove_2 17 rfl rfl)
theorem dJ15_remove_68 : decode cJ15_remove 68 = .ok (.goto 12, 3) := dk_167 0 12 (dk_at dksJ15_remove_2 20 rfl rfl)
theorem dJ15_remove_71 : decode cJ15_remove 71 = .ok (.astore_n 1, 1) := dk_76 (dk_at dksJ15_remove_2 23 rfl rfl)
theorem dJ15_remove_72 : decode cJ15_remove 72 = .ok (.new 52, 3) := dk_187 0 52 (dk_at dksJ15_remove_3 0 rfl rfl)
theorem dJ15_remove_75 : decode cJ15_remove 75 = .ok (.dup, 1) := dk_89 (dk_at dksJ15_remove_3 3 rfl rfl)
theorem dJ15_remove_76 : decode cJ15_remove 76 = .ok (.invokespecial 54, 3) := dk_183 0 54 (dk_at dksJ15_remove_3 4 rfl rfl)
theorem dJ15_remove_79 : decode cJ15_remove 79 = .ok (.athrow, 1) := dk_191 (dk_at dksJ15_remove_3 7 rfl rfl)
theorem dJ15_remove_80 : decode cJ15_remove 80 = .ok (.return_, 1) := dk_177 (dk_at dksJ15_remove_3 8 rfl rfl)
theorem q104 : (Jvm.Cond.initialized "java/util/AbstractList$Itr") ∈ lw_all := lw_g (lw_at lw_m1 20 rfl) rfl
theorem q172 : (Jvm.Cond.fieldLink "java/util/AbstractList$Itr" (20 : Nat) "java/util/AbstractList" "modCount" "I") ∈ lw_all := lw_g (lw_at lw_m1 88 rfl) rfl
theorem q521 : (Jvm.Cond.instanceMethod ({ cls := "java/util/AbstractList$Itr", name := "hasNext", desc := "()Z" } : Jvm.MethodName)) ∈ lw_all := lw_g (lw_at lw_m2 197 rfl) rfl
theorem q522 : (Jvm.Cond.publicMethod ({ cls := "java/util/AbstractList$Itr", name := "hasNext", desc := "()Z" } : Jvm.MethodName)) ∈ lw_tbl := lw_at lw_m2 198 rfl
theorem q523 : (Jvm.Cond.code ({ cls := "java/util/AbstractList$Itr", name := "hasNext", desc := "()Z" } : Jvm.MethodName) prog_38_method_2_code (1 : Nat) (Option.some Jvm.ClassFile.FieldType.boolean)) ∈ lw_all := lw_g (lw_at lw_m2 199 rfl) rfl
theorem q524 : (Jvm.Cond.methodLink "java/util/AbstractList$Itr" (28 : Nat) ({ cls := "java/util/AbstractList", name := "size", desc := "()I" } : Jvm.MethodName)) ∈ lw_all := lw_g (lw_at lw_m2 200 rfl) rfl
theorem q593 : (Jvm.Cond.instanceMethod ({ cls := "java/util/AbstractList$Itr", name := "next", desc := "()Ljava/lang/Object;" } : Jvm.MethodName)) ∈ lw_all := lw_g (lw_at lw_m3 29 rfl) rfl
theorem q594 : (Jvm.Cond.publicMethod ({ cls := "java/util/AbstractList$Itr", name := "next", desc := "()Ljava/lang/Object;" } : Jvm.MethodName)) ∈ lw_tbl := lw_at lw_m3 30 rfl
theorem q595 : (Jvm.Cond.codeWith ({ cls := "java/util/AbstractList$Itr", name := "next", desc := "()Ljava/lang/Object;" } : Jvm.MethodName) prog_38_method_3_code (3 : Nat) (Option.some (Jvm.ClassFile.FieldType.object "java/lang/Object")) [((4 : Nat), (31 : Nat), (32 : Nat), (39 : Nat))]) ∈ lw_all := lw_g (lw_at lw_m3 31 rfl) rfl
theorem q596 : (Jvm.Cond.methodLink "java/util/AbstractList$Itr" (32 : Nat) ({ cls := "java/util/AbstractList$Itr", name := "checkForComodification", desc := "()V" } : Jvm.MethodName)) ∈ lw_all := lw_g (lw_at lw_m3 32 rfl) rfl
theorem q597 : (Jvm.Cond.instanceMethod ({ cls := "java/util/AbstractList$Itr", name := "checkForComodification", desc := "()V" } : Jvm.MethodName)) ∈ lw_all := lw_g (lw_at lw_m3 33 rfl) rfl
theorem q598 : (Jvm.Cond.sameMethod "java/util/AbstractList$Itr" "java/util/AbstractList$Itr" "checkForComodification" "()V") ∈ lw_all := lw_g (lw_at lw_m3 34 rfl) rfl
theorem q600 : (Jvm.Cond.code ({ cls := "java/util/AbstractList$Itr", name := "checkForComodification", desc := "()V" } : Jvm.MethodName) prog_38_method_5_code (1 : Nat) (Option.none : Option Jvm.ClassFile.FieldType)) ∈ lw_all := lw_g (lw_at lw_m3 36 rfl) rfl
theorem q601 : (Jvm.Cond.methodLink "java/util/AbstractList$Itr" (35 : Nat) ({ cls := "java/util/AbstractList", name := "get", desc := "(I)Ljava/lang/Object;" } : Jvm.MethodName)) ∈ lw_all := lw_g (lw_at lw_m3 37 rfl) rfl
theorem q617 : (Jvm.Cond.classLink "java/util/AbstractList$Itr" (41 : Nat) "java/util/NoSuchElementException") ∈ lw_all := lw_g (lw_at lw_m3 53 rfl) rfl
theorem q660 : (Jvm.Cond.methodLink "java/util/AbstractList$Itr" (43 : Nat) ({ cls := "java/util/NoSuchElementException", name := "<init>", desc := "(Ljava/lang/Throwable;)V" } : Jvm.MethodName)) ∈ lw_all := lw_g (lw_at lw_m3 96 rfl) rfl
theorem q1246 : (Jvm.Cond.instanceMethod ({ cls := "java/util/AbstractList$Itr", name := "remove", desc := "()V" } : Jvm.MethodName)) ∈ lw_all := lw_g (lw_at lw_m5 202 rfl) rfl
theorem q1247 : (Jvm.Cond.publicMethod ({ cls := "java/util/AbstractList$Itr", name := "remove", desc := "()V" } : Jvm.MethodName)) ∈ lw_tbl := lw_at lw_m5 203 rfl
theorem q1248 : (Jvm.Cond.codeWith ({ cls := "java/util/AbstractList$Itr", name := "remove", desc := "()V" } : Jvm.MethodName) prog_38_method_4_code (2 : Nat) (Option.none : Option Jvm.ClassFile.FieldType) [((19 : Nat), (68 : Nat), (71 : Nat), (39 : Nat))]) ∈ lw_all := lw_g (lw_at lw_m5 204 rfl) rfl
theorem q1249 : (Jvm.Cond.classLink "java/util/AbstractList$Itr" (46 : Nat) "java/lang/IllegalStateException") ∈ lw_all := lw_g (lw_at lw_m5 205 rfl) rfl
theorem q1258 : (Jvm.Cond.methodLink "java/util/AbstractList$Itr" (48 : Nat) ({ cls := "java/lang/IllegalStateException", name := "<init>", desc := "()V" } : Jvm.MethodName)) ∈ lw_all := lw_g (lw_at lw_m5 214 rfl) rfl
theorem q1270 : (Jvm.Cond.methodLink "java/util/AbstractList$Itr" (49 : Nat) ({ cls := "java/util/AbstractList", name := "remove", desc := "(I)Ljava/lang/Object;" } : Jvm.MethodName)) ∈ lw_all := lw_g (lw_at lw_m5 226 rfl) rfl
theorem q1289 : (Jvm.Cond.classLink "java/util/AbstractList$Itr" (52 : Nat) "java/util/ConcurrentModificationException") ∈ lw_all := lw_g (lw_at lw_m6 5 rfl) rfl
theorem q1298 : (Jvm.Cond.methodLink "java/util/AbstractList$Itr" (54 : Nat) ({ cls := "java/util/ConcurrentModificationException", name := "<init>", desc := "()V" } : Jvm.MethodName)) ∈ lw_all := lw_g (lw_at lw_m6 14 rfl) rfl
theorem q2311 : (Jvm.Cond.fieldLink "java/util/AbstractList$Itr" (1 : Nat) "java/util/AbstractList$Itr" "this$0" "Ljava/util/AbstractList;") ∈ lw_all := lw_g (lw_at lw_m10 67 rfl) rfl
theorem q2312 : (Jvm.Cond.fieldLink "java/util/AbstractList$Itr" (13 : Nat) "java/util/AbstractList$Itr" "cursor" "I") ∈ lw_all := lw_g (lw_at lw_m10 68 rfl) rfl
theorem q2313 : (Jvm.Cond.fieldLink "java/util/AbstractList$Itr" (17 : Nat) "java/util/AbstractList$Itr" "lastRet" "I") ∈ lw_all := lw_g (lw_at lw_m10 69 rfl) rfl
theorem q2314 : (Jvm.Cond.fieldLink "java/util/AbstractList$Itr" (25 : Nat) "java/util/AbstractList$Itr" "expectedModCount" "I") ∈ lw_all := lw_g (lw_at lw_m10 70 rfl) rfl

/-! java/util/ArrayList$Itr -/
set_option maxRecDepth 100000
def RJ16 : String := "java/util/ArrayList$Itr"
def TJ16 : u_T := fun k => match k with
  | 0 => ("java/util/ArrayList$Itr", "cursor", "I", false)
  | 1 => ("java/util/ArrayList$Itr", "lastRet", "I", false)
  | 2 => ("java/util/ArrayList$Itr", "expectedModCount", "I", false)
  | _ => ("java/util/ArrayList$Itr", "this$0", "Ljava/util/ArrayList;", true)
def tyJ16 : Nat → FieldType := fun k => match k with
  | 0 => .int
  | 1 => .int
  | 2 => .int
  | _ => .object "java/util/ArrayList"
abbrev wsJ160 : List Cond := u_ws RJ16 TJ16 4
theorem nmJ16 : ∀ a, a < 4 → ∀ b, b < 4 → a ≠ b → (TJ16 a).2.1 ≠ (TJ16 b).2.1 := by decide +kernel
theorem tyJ16_ok : ∀ k, k < 4 → parseFieldDescriptor (TJ16 k).2.2.1 = some (tyJ16 k) := by decide +kernel
abbrev cJ16_init : ByteArray := prog_44_method_1_code
def yJ16_init : MethodName := ⟨RJ16, "<init>", "(Ljava/util/ArrayList;)V"⟩
def dkwJ16_init_1 : List UInt8 := [181, 0, 22, 177]
abbrev dktJ16_init_1 : List UInt8 := dkwJ16_init_1 ++ []
def dkwJ16_init_0 : List UInt8 := [42, 43, 181, 0, 1, 42, 183, 0, 7, 42, 2, 181, 0, 13, 42, 42, 180, 0, 1, 180, 0, 17]
abbrev dktJ16_init_0 : List UInt8 := dkwJ16_init_0 ++ dktJ16_init_1
theorem dksJ16_init_0 : cJ16_init.data.toList.drop 0 = dktJ16_init_0 := by decide +kernel
theorem dksJ16_init_1 : cJ16_init.data.toList.drop 22 = dktJ16_init_1 := dk_seg dksJ16_init_0 22 rfl rfl
theorem dJ16_init_0 : decode cJ16_init 0 = .ok (.aload_n 0, 1) := dk_42 (dk_at dksJ16_init_0 0 rfl rfl)
theorem dJ16_init_1 : decode cJ16_init 1 = .ok (.aload_n 1, 1) := dk_43 (dk_at dksJ16_init_0 1 rfl rfl)
theorem dJ16_init_2 : decode cJ16_init 2 = .ok (.putfield 1, 3) := dk_181 0 1 (dk_at dksJ16_init_0 2 rfl rfl)
theorem dJ16_init_5 : decode cJ16_init 5 = .ok (.aload_n 0, 1) := dk_42 (dk_at dksJ16_init_0 5 rfl rfl)
theorem dJ16_init_6 : decode cJ16_init 6 = .ok (.invokespecial 7, 3) := dk_183 0 7 (dk_at dksJ16_init_0 6 rfl rfl)
theorem dJ16_init_9 : decode cJ16_init 9 = .ok (.aload_n 0, 1) := dk_42 (dk_at dksJ16_init_0 9 rfl rfl)
theorem dJ16_init_10 : decode cJ16_init 10 = .ok (.iconst (-1), 1) := dk_2 (dk_at dksJ16_init_0 10 rfl rfl)
theorem dJ16_init_11 : decode cJ16_init 11 = .ok (.putfield 13, 3) := dk_181 0 13 (dk_at dksJ16_init_0 11 rfl rfl)
theorem dJ16_init_14 : decode cJ16_init 14 = .ok (.aload_n 0, 1) := dk_42 (dk_at dksJ16_init_0 14 rfl rfl)
theorem dJ16_init_15 : decode cJ16_init 15 = .ok (.aload_n 0, 1) := dk_42 (dk_at dksJ16_init_0 15 rfl rfl)
theorem dJ16_init_16 : decode cJ16_init 16 = .ok (.getfield 1, 3) := dk_180 0 1 (dk_at dksJ16_init_0 16 rfl rfl)
theorem dJ16_init_19 : decode cJ16_init 19 = .ok (.getfield 17, 3) := dk_180 0 17 (dk_at dksJ16_init_0 19 rfl rfl)
theorem dJ16_init_22 : decode cJ16_init 22 = .ok (.putfield 22, 3) := dk_181 0 22 (dk_at dksJ16_init_1 0 rfl rfl)
theorem dJ16_init_25 : decode cJ16_init 25 = .ok (.return_, 1) := dk_177 (dk_at dksJ16_init_1 3 rfl rfl)
abbrev cJ16_hasNext : ByteArray := prog_44_method_2_code
def yJ16_hasNext : MethodName := ⟨RJ16, "hasNext", "()Z"⟩
def dkwJ16_hasNext_0 : List UInt8 := [42, 180, 0, 25, 42, 180, 0, 1, 180, 0, 28, 159, 0, 7, 4, 167, 0, 4, 3, 172]
abbrev dktJ16_hasNext_0 : List UInt8 := dkwJ16_hasNext_0 ++ []
theorem dksJ16_hasNext_0 : cJ16_hasNext.data.toList.drop 0 = dktJ16_hasNext_0 := by decide +kernel
theorem dJ16_hasNext_0 : decode cJ16_hasNext 0 = .ok (.aload_n 0, 1) := dk_42 (dk_at dksJ16_hasNext_0 0 rfl rfl)
theorem dJ16_hasNext_1 : decode cJ16_hasNext 1 = .ok (.getfield 25, 3) := dk_180 0 25 (dk_at dksJ16_hasNext_0 1 rfl rfl)
theorem dJ16_hasNext_4 : decode cJ16_hasNext 4 = .ok (.aload_n 0, 1) := dk_42 (dk_at dksJ16_hasNext_0 4 rfl rfl)
theorem dJ16_hasNext_5 : decode cJ16_hasNext 5 = .ok (.getfield 1, 3) := dk_180 0 1 (dk_at dksJ16_hasNext_0 5 rfl rfl)
theorem dJ16_hasNext_8 : decode cJ16_hasNext 8 = .ok (.getfield 28, 3) := dk_180 0 28 (dk_at dksJ16_hasNext_0 8 rfl rfl)
theorem dJ16_hasNext_11 : decode cJ16_hasNext 11 = .ok (.if_icmp .eq 7, 3) := dk_159 0 7 (dk_at dksJ16_hasNext_0 11 rfl rfl)
theorem dJ16_hasNext_14 : decode cJ16_hasNext 14 = .ok (.iconst 1, 1) := dk_4 (dk_at dksJ16_hasNext_0 14 rfl rfl)
theorem dJ16_hasNext_15 : decode cJ16_hasNext 15 = .ok (.goto 4, 3) := dk_167 0 4 (dk_at dksJ16_hasNext_0 15 rfl rfl)
theorem dJ16_hasNext_18 : decode cJ16_hasNext 18 = .ok (.iconst 0, 1) := dk_3 (dk_at dksJ16_hasNext_0 18 rfl rfl)
theorem dJ16_hasNext_19 : decode cJ16_hasNext 19 = .ok (.ireturn, 1) := dk_172 (dk_at dksJ16_hasNext_0 19 rfl rfl)
abbrev cJ16_next : ByteArray := prog_44_method_3_code
def yJ16_next : MethodName := ⟨RJ16, "next", "()Ljava/lang/Object;"⟩
def dkwJ16_next_2 : List UInt8 := [183, 0, 43, 191, 42, 27, 4, 96, 181, 0, 25, 44, 42, 27, 90, 181, 0, 13, 50, 176]
abbrev dktJ16_next_2 : List UInt8 := dkwJ16_next_2 ++ []
def dkwJ16_next_1 : List UInt8 := [183, 0, 36, 191, 42, 180, 0, 1, 180, 0, 37, 77, 27, 44, 190, 161, 0, 11, 187, 0, 41, 89]
abbrev dktJ16_next_1 : List UInt8 := dkwJ16_next_1 ++ dktJ16_next_2
def dkwJ16_next_0 : List UInt8 := [42, 182, 0, 31, 42, 180, 0, 25, 60, 27, 42, 180, 0, 1, 180, 0, 28, 161, 0, 11, 187, 0, 34, 89]
abbrev dktJ16_next_0 : List UInt8 := dkwJ16_next_0 ++ dktJ16_next_1
theorem dksJ16_next_0 : cJ16_next.data.toList.drop 0 = dktJ16_next_0 := by decide +kernel
theorem dksJ16_next_1 : cJ16_next.data.toList.drop 24 = dktJ16_next_1 := dk_seg dksJ16_next_0 24 rfl rfl
theorem dksJ16_next_2 : cJ16_next.data.toList.drop 46 = dktJ16_next_2 := dk_seg dksJ16_next_1 22 rfl rfl
theorem dJ16_next_0 : decode cJ16_next 0 = .ok (.aload_n 0, 1) := dk_42 (dk_at dksJ16_next_0 0 rfl rfl)
theorem dJ16_next_1 : decode cJ16_next 1 = .ok (.invokevirtual 31, 3) := dk_182 0 31 (dk_at dksJ16_next_0 1 rfl rfl)
theorem dJ16_next_4 : decode cJ16_next 4 = .ok (.aload_n 0, 1) := dk_42 (dk_at dksJ16_next_0 4 rfl rfl)
theorem dJ16_next_5 : decode cJ16_next 5 = .ok (.getfield 25, 3) := dk_180 0 25 (dk_at dksJ16_next_0 5 rfl rfl)
theorem dJ16_next_8 : decode cJ16_next 8 = .ok (.istore_n 1, 1) := dk_60 (dk_at dksJ16_next_0 8 rfl rfl)
theorem dJ16_next_9 : decode cJ16_next 9 = .ok (.iload_n 1, 1) := dk_27 (dk_at dksJ16_next_0 9 rfl rfl)
theorem dJ16_next_10 : decode cJ16_next 10 = .ok (.aload_n 0, 1) := dk_42 (dk_at dksJ16_next_0 10 rfl rfl)
theorem dJ16_next_11 : decode cJ16_next 11 = .ok (.getfield 1, 3) := dk_180 0 1 (dk_at dksJ16_next_0 11 rfl rfl)
theorem dJ16_next_14 : decode cJ16_next 14 = .ok (.getfield 28, 3) := dk_180 0 28 (dk_at dksJ16_next_0 14 rfl rfl)
theorem dJ16_next_17 : decode cJ16_next 17 = .ok (.if_icmp .lt 11, 3) := dk_161 0 11 (dk_at dksJ16_next_0 17 rfl rfl)
theorem dJ16_next_20 : decode cJ16_next 20 = .ok (.new 34, 3) := dk_187 0 34 (dk_at dksJ16_next_0 20 rfl rfl)
theorem dJ16_next_23 : decode cJ16_next 23 = .ok (.dup, 1) := dk_89 (dk_at dksJ16_next_0 23 rfl rfl)
theorem dJ16_next_24 : decode cJ16_next 24 = .ok (.invokespecial 36, 3) := dk_183 0 36 (dk_at dksJ16_next_1 0 rfl rfl)
theorem dJ16_next_27 : decode cJ16_next 27 = .ok (.athrow, 1) := dk_191 (dk_at dksJ16_next_1 3 rfl rfl)
theorem dJ16_next_28 : decode cJ16_next 28 = .ok (.aload_n 0, 1) := dk_42 (dk_at dksJ16_next_1 4 rfl rfl)
theorem dJ16_next_29 : decode cJ16_next 29 = .ok (.getfield 1, 3) := dk_180 0 1 (dk_at dksJ16_next_1 5 rfl rfl)
theorem dJ16_next_32 : decode cJ16_next 32 = .ok (.getfield 37, 3) := dk_180 0 37 (dk_at dksJ16_next_1 8 rfl rfl)
theorem dJ16_next_35 : decode cJ16_next 35 = .ok (.astore_n 2, 1) := dk_77 (dk_at dksJ16_next_1 11 rfl rfl)
theorem dJ16_next_36 : decode cJ16_next 36 = .ok (.iload_n 1, 1) := dk_27 (dk_at dksJ16_next_1 12 rfl rfl)
theorem dJ16_next_37 : decode cJ16_next 37 = .ok (.aload_n 2, 1) := dk_44 (dk_at dksJ16_next_1 13 rfl rfl)
theorem dJ16_next_38 : decode cJ16_next 38 = .ok (.arraylength, 1) := dk_190 (dk_at dksJ16_next_1 14 rfl rfl)
theorem dJ16_next_39 : decode cJ16_next 39 = .ok (.if_icmp .lt 11, 3) := dk_161 0 11 (dk_at dksJ16_next_1 15 rfl rfl)
theorem dJ16_next_42 : decode cJ16_next 42 = .ok (.new 41, 3) := dk_187 0 41 (dk_at dksJ16_next_1 18 rfl rfl)
theorem dJ16_next_45 : decode cJ16_next 45 = .ok (.dup, 1) := dk_89 (dk_at dksJ16_next_1 21 rfl rfl)
theorem dJ16_next_46 : decode cJ16_next 46 = .ok (.invokespecial 43, 3) := dk_183 0 43 (dk_at dksJ16_next_2 0 rfl rfl)
theorem dJ16_next_49 : decode cJ16_next 49 = .ok (.athrow, 1) := dk_191 (dk_at dksJ16_next_2 3 rfl rfl)
theorem dJ16_next_50 : decode cJ16_next 50 = .ok (.aload_n 0, 1) := dk_42 (dk_at dksJ16_next_2 4 rfl rfl)
theorem dJ16_next_51 : decode cJ16_next 51 = .ok (.iload_n 1, 1) := dk_27 (dk_at dksJ16_next_2 5 rfl rfl)
theorem dJ16_next_52 : decode cJ16_next 52 = .ok (.iconst 1, 1) := dk_4 (dk_at dksJ16_next_2 6 rfl rfl)
theorem dJ16_next_53 : decode cJ16_next 53 = .ok (.iadd, 1) := dk_96 (dk_at dksJ16_next_2 7 rfl rfl)
theorem dJ16_next_54 : decode cJ16_next 54 = .ok (.putfield 25, 3) := dk_181 0 25 (dk_at dksJ16_next_2 8 rfl rfl)
theorem dJ16_next_57 : decode cJ16_next 57 = .ok (.aload_n 2, 1) := dk_44 (dk_at dksJ16_next_2 11 rfl rfl)
theorem dJ16_next_58 : decode cJ16_next 58 = .ok (.aload_n 0, 1) := dk_42 (dk_at dksJ16_next_2 12 rfl rfl)
theorem dJ16_next_59 : decode cJ16_next 59 = .ok (.iload_n 1, 1) := dk_27 (dk_at dksJ16_next_2 13 rfl rfl)
theorem dJ16_next_60 : decode cJ16_next 60 = .ok (.dup_x1, 1) := dk_90 (dk_at dksJ16_next_2 14 rfl rfl)
theorem dJ16_next_61 : decode cJ16_next 61 = .ok (.putfield 13, 3) := dk_181 0 13 (dk_at dksJ16_next_2 15 rfl rfl)
theorem dJ16_next_64 : decode cJ16_next 64 = .ok (.aaload, 1) := dk_50 (dk_at dksJ16_next_2 18 rfl rfl)
theorem dJ16_next_65 : decode cJ16_next 65 = .ok (.areturn, 1) := dk_176 (dk_at dksJ16_next_2 19 rfl rfl)
abbrev cJ16_checkForComodification : ByteArray := prog_44_method_6_code
def yJ16_checkForComodification : MethodName := ⟨RJ16, "checkForComodification", "()V"⟩
def dkwJ16_checkForComodification_0 : List UInt8 := [42, 180, 0, 1, 180, 0, 17, 42, 180, 0, 22, 159, 0, 11, 187, 0, 41, 89, 183, 0, 43, 191, 177]
abbrev dktJ16_checkForComodification_0 : List UInt8 := dkwJ16_checkForComodification_0 ++ []
theorem dksJ16_checkForComodification_0 : cJ16_checkForComodification.data.toList.drop 0 = dktJ16_checkForComodification_0 := by decide +kernel
theorem dJ16_checkForComodification_0 : decode cJ16_checkForComodification 0 = .ok (.aload_n 0, 1) := dk_42 (dk_at dksJ16_checkForComodification_0 0 rfl rfl)
theorem dJ16_checkForComodification_1 : decode cJ16_checkForComodification 1 = .ok (.getfield 1, 3) := dk_180 0 1 (dk_at dksJ16_checkForComodification_0 1 rfl rfl)
theorem dJ16_checkForComodification_4 : decode cJ16_checkForComodification 4 = .ok (.getfield 17, 3) := dk_180 0 17 (dk_at dksJ16_checkForComodification_0 4 rfl rfl)
theorem dJ16_checkForComodification_7 : decode cJ16_checkForComodification 7 = .ok (.aload_n 0, 1) := dk_42 (dk_at dksJ16_checkForComodification_0 7 rfl rfl)
theorem dJ16_checkForComodification_8 : decode cJ16_checkForComodification 8 = .ok (.getfield 22, 3) := dk_180 0 22 (dk_at dksJ16_checkForComodification_0 8 rfl rfl)
theorem dJ16_checkForComodification_11 : decode cJ16_checkForComodification 11 = .ok (.if_icmp .eq 11, 3) := dk_159 0 11 (dk_at dksJ16_checkForComodification_0 11 rfl rfl)
theorem dJ16_checkForComodification_14 : decode cJ16_checkForComodification 14 = .ok (.new 41, 3) := dk_187 0 41 (dk_at dksJ16_checkForComodification_0 14 rfl rfl)
theorem dJ16_checkForComodification_17 : decode cJ16_checkForComodification 17 = .ok (.dup, 1) := dk_89 (dk_at dksJ16_checkForComodification_0 17 rfl rfl)
theorem dJ16_checkForComodification_18 : decode cJ16_checkForComodification 18 = .ok (.invokespecial 43, 3) := dk_183 0 43 (dk_at dksJ16_checkForComodification_0 18 rfl rfl)
theorem dJ16_checkForComodification_21 : decode cJ16_checkForComodification 21 = .ok (.athrow, 1) := dk_191 (dk_at dksJ16_checkForComodification_0 21 rfl rfl)
theorem dJ16_checkForComodification_22 : decode cJ16_checkForComodification 22 = .ok (.return_, 1) := dk_177 (dk_at dksJ16_checkForComodification_0 22 rfl rfl)
abbrev cJ16_remove : ByteArray := prog_44_method_4_code
def yJ16_remove : MethodName := ⟨RJ16, "remove", "()V"⟩
def dkwJ16_remove_2 : List UInt8 := [180, 0, 1, 180, 0, 17, 181, 0, 22, 167, 0, 12, 76, 187, 0, 41, 89, 183, 0, 43, 191, 177]
abbrev dktJ16_remove_2 : List UInt8 := dkwJ16_remove_2 ++ []
def dkwJ16_remove_1 : List UInt8 := [180, 0, 13, 182, 0, 47, 87, 42, 42, 180, 0, 13, 181, 0, 25, 42, 2, 181, 0, 13, 42, 42]
abbrev dktJ16_remove_1 : List UInt8 := dkwJ16_remove_1 ++ dktJ16_remove_2
def dkwJ16_remove_0 : List UInt8 := [42, 180, 0, 13, 156, 0, 11, 187, 0, 44, 89, 183, 0, 46, 191, 42, 182, 0, 31, 42, 180, 0, 1, 42]
abbrev dktJ16_remove_0 : List UInt8 := dkwJ16_remove_0 ++ dktJ16_remove_1
theorem dksJ16_remove_0 : cJ16_remove.data.toList.drop 0 = dktJ16_remove_0 := by decide +kernel
theorem dksJ16_remove_1 : cJ16_remove.data.toList.drop 24 = dktJ16_remove_1 := dk_seg dksJ16_remove_0 24 rfl rfl
theorem dksJ16_remove_2 : cJ16_remove.data.toList.drop 46 = dktJ16_remove_2 := dk_seg dksJ16_remove_1 22 rfl rfl
theorem dJ16_remove_0 : decode cJ16_remove 0 = .ok (.aload_n 0, 1) := dk_42 (dk_at dksJ16_remove_0 0 rfl rfl)
theorem dJ16_remove_1 : decode cJ16_remove 1 = .ok (.getfield 13, 3) := dk_180 0 13 (dk_at dksJ16_remove_0 1 rfl rfl)
theorem dJ16_remove_4 : decode cJ16_remove 4 = .ok (.ifCond .ge 11, 3) := dk_156 0 11 (dk_at dksJ16_remove_0 4 rfl rfl)
theorem dJ16_remove_7 : decode cJ16_remove 7 = .ok (.new 44, 3) := dk_187 0 44 (dk_at dksJ16_remove_0 7 rfl rfl)
theorem dJ16_remove_10 : decode cJ16_remove 10 = .ok (.dup, 1) := dk_89 (dk_at dksJ16_remove_0 10 rfl rfl)
theorem dJ16_remove_11 : decode cJ16_remove 11 = .ok (.invokespecial 46, 3) := dk_183 0 46 (dk_at dksJ16_remove_0 11 rfl rfl)
theorem dJ16_remove_14 : decode cJ16_remove 14 = .ok (.athrow, 1) := dk_191 (dk_at dksJ16_remove_0 14 rfl rfl)
theorem dJ16_remove_15 : decode cJ16_remove 15 = .ok (.aload_n 0, 1) := dk_42 (dk_at dksJ16_remove_0 15 rfl rfl)
theorem dJ16_remove_16 : decode cJ16_remove 16 = .ok (.invokevirtual 31, 3) := dk_182 0 31 (dk_at dksJ16_remove_0 16 rfl rfl)
theorem dJ16_remove_19 : decode cJ16_remove 19 = .ok (.aload_n 0, 1) := dk_42 (dk_at dksJ16_remove_0 19 rfl rfl)
theorem dJ16_remove_20 : decode cJ16_remove 20 = .ok (.getfield 1, 3) := dk_180 0 1 (dk_at dksJ16_remove_0 20 rfl rfl)
theorem dJ16_remove_23 : decode cJ16_remove 23 = .ok (.aload_n 0, 1) := dk_42 (dk_at dksJ16_remove_0 23 rfl rfl)
theorem dJ16_remove_24 : decode cJ16_remove 24 = .ok (.getfield 13, 3) := dk_180 0 13 (dk_at dksJ16_remove_1 0 rfl rfl)
theorem dJ16_remove_27 : decode cJ16_remove 27 = .ok (.invokevirtual 47, 3) := dk_182 0 47 (dk_at dksJ16_remove_1 3 rfl rfl)
theorem dJ16_remove_30 : decode cJ16_remove 30 = .ok (.pop, 1) := dk_87 (dk_at dksJ16_remove_1 6 rfl rfl)
theorem dJ16_remove_31 : decode cJ16_remove 31 = .ok (.aload_n 0, 1) := dk_42 (dk_at dksJ16_remove_1 7 rfl rfl)
theorem dJ16_remove_32 : decode cJ16_remove 32 = .ok (.aload_n 0, 1) := dk_42 (dk_at dksJ16_remove_1 8 rfl rfl)
theorem dJ16_remove_33 : decode cJ16_remove 33 = .ok (.getfield 13, 3) := dk_180 0 13 (dk_at dksJ16_remove_1 9 rfl rfl)
theorem dJ16_remove_36 : decode cJ16_remove 36 = .ok (.putfield 25, 3) := dk_181 0 25 (dk_at dksJ16_remove_1 12 rfl rfl)
theorem dJ16_remove_39 : decode cJ16_remove 39 = .ok (.aload_n 0, 1) := dk_42 (dk_at dksJ16_remove_1 15 rfl rfl)
theorem dJ16_remove_40 : decode cJ16_remove 40 = .ok (.iconst (-1), 1) := dk_2 (dk_at dksJ16_remove_1 16 rfl rfl)
theorem dJ16_remove_41 : decode cJ16_remove 41 = .ok (.putfield 13, 3) := dk_181 0 13 (dk_at dksJ16_remove_1 17 rfl rfl)
theorem dJ16_remove_44 : decode cJ16_remove 44 = .ok (.aload_n 0, 1) := dk_42 (dk_at dksJ16_remove_1 20 rfl rfl)
theorem dJ16_remove_45 : decode cJ16_remove 45 = .ok (.aload_n 0, 1) := dk_42 (dk_at dksJ16_remove_1 21 rfl rfl)
theorem dJ16_remove_46 : decode cJ16_remove 46 = .ok (.getfield 1, 3) := dk_180 0 1 (dk_at dksJ16_remove_2 0 rfl rfl)
theorem dJ16_remove_49 : decode cJ16_remove 49 = .ok (.getfield 17, 3) := dk_180 0 17 (dk_at dksJ16_remove_2 3 rfl rfl)
theorem dJ16_remove_52 : decode cJ16_remove 52 = .ok (.putfield 22, 3) := dk_181 0 22 (dk_at dksJ16_remove_2 6 rfl rfl)
theorem dJ16_remove_55 : decode cJ16_remove 55 = .ok (.goto 12, 3) := dk_167 0 12 (dk_at dksJ16_remove_2 9 rfl rfl)
theorem dJ16_remove_58 : decode cJ16_remove 58 = .ok (.astore_n 1, 1) := dk_76 (dk_at dksJ16_remove_2 12 rfl rfl)
theorem dJ16_remove_59 : decode cJ16_remove 59 = .ok (.new 41, 3) := dk_187 0 41 (dk_at dksJ16_remove_2 13 rfl rfl)
theorem dJ16_remove_62 : decode cJ16_remove 62 = .ok (.dup, 1) := dk_89 (dk_at dksJ16_remove_2 16 rfl rfl)
theorem dJ16_remove_63 : decode cJ16_remove 63 = .ok (.invokespecial 43, 3) := dk_183 0 43 (dk_at dksJ16_remove_2 17 rfl rfl)
theorem dJ16_remove_66 : decode cJ16_remove 66 = .ok (.athrow, 1) := dk_191 (dk_at dksJ16_remove_2 20 rfl rfl)
theorem dJ16_remove_67 : decode cJ16_remove 67 = .ok (.return_, 1) := dk_177 (dk_at dksJ16_remove_2 21 rfl rfl)
theorem q106 : (Jvm.Cond.initialized "java/util/ArrayList$Itr") ∈ lw_all := lw_g (lw_at lw_m1 22 rfl) rfl
theorem q164 : (Jvm.Cond.fieldLink "java/util/ArrayList$Itr" (37 : Nat) "java/util/ArrayList" "elementData" "[Ljava/lang/Object;") ∈ lw_all := lw_g (lw_at lw_m1 80 rfl) rfl
theorem q165 : (Jvm.Cond.fieldLinkNest "java/util/ArrayList$Itr" (28 : Nat) "java/util/ArrayList" "size" "I" "java/util/ArrayList") ∈ lw_tbl := lw_at lw_m1 81 rfl
theorem q170 : (Jvm.Cond.fieldLink "java/util/ArrayList$Itr" (17 : Nat) "java/util/ArrayList" "modCount" "I") ∈ lw_all := lw_g (lw_at lw_m1 86 rfl) rfl
theorem q257 : (Jvm.Cond.selects "java/util/ArrayList$Itr" ({ cls := "java/lang/Object", name := "getClass", desc := "()Ljava/lang/Class;" } : Jvm.MethodName) ({ cls := "java/lang/Object", name := "getClass", desc := "()Ljava/lang/Class;" } : Jvm.MethodName)) ∈ lw_all := lw_g (lw_at lw_m1 173 rfl) rfl
theorem q449 : (Jvm.Cond.instanceMethod ({ cls := "java/util/ArrayList$Itr", name := "<init>", desc := "(Ljava/util/ArrayList;)V" } : Jvm.MethodName)) ∈ lw_all := lw_g (lw_at lw_m2 125 rfl) rfl
theorem q450 : (Jvm.Cond.code ({ cls := "java/util/ArrayList$Itr", name := "<init>", desc := "(Ljava/util/ArrayList;)V" } : Jvm.MethodName) prog_44_method_1_code (2 : Nat) (Option.none : Option Jvm.ClassFile.FieldType)) ∈ lw_all := lw_g (lw_at lw_m2 126 rfl) rfl
theorem q451 : (Jvm.Cond.methodLink "java/util/ArrayList$Itr" (7 : Nat) ({ cls := "java/lang/Object", name := "<init>", desc := "()V" } : Jvm.MethodName)) ∈ lw_all := lw_g (lw_at lw_m2 127 rfl) rfl
theorem q455 : (Jvm.Cond.fieldLink "java/util/ArrayList$Itr" (25 : Nat) "java/util/ArrayList$Itr" "cursor" "I") ∈ lw_all := lw_g (lw_at lw_m2 131 rfl) rfl
theorem q456 : (Jvm.Cond.fieldLink "java/util/ArrayList$Itr" (13 : Nat) "java/util/ArrayList$Itr" "lastRet" "I") ∈ lw_all := lw_g (lw_at lw_m2 132 rfl) rfl
theorem q457 : (Jvm.Cond.fieldLink "java/util/ArrayList$Itr" (22 : Nat) "java/util/ArrayList$Itr" "expectedModCount" "I") ∈ lw_all := lw_g (lw_at lw_m2 133 rfl) rfl
theorem q458 : (Jvm.Cond.fieldLink "java/util/ArrayList$Itr" (1 : Nat) "java/util/ArrayList$Itr" "this$0" "Ljava/util/ArrayList;") ∈ lw_all := lw_g (lw_at lw_m2 134 rfl) rfl
theorem q462 : (Jvm.Cond.soleField "java/util/ArrayList$Itr" "cursor") ∈ lw_all := lw_g (lw_at lw_m2 138 rfl) rfl
theorem q464 : (Jvm.Cond.soleField "java/util/ArrayList$Itr" "lastRet") ∈ lw_all := lw_g (lw_at lw_m2 140 rfl) rfl
theorem q466 : (Jvm.Cond.soleField "java/util/ArrayList$Itr" "expectedModCount") ∈ lw_all := lw_g (lw_at lw_m2 142 rfl) rfl
theorem q468 : (Jvm.Cond.soleField "java/util/ArrayList$Itr" "this$0") ∈ lw_all := lw_g (lw_at lw_m2 144 rfl) rfl
theorem q539 : (Jvm.Cond.castable "java/util/ArrayList$Itr" "java/util/Iterator") ∈ lw_tbl := lw_at lw_m2 215 rfl
theorem q540 : (Jvm.Cond.selects "java/util/ArrayList$Itr" ({ cls := "java/util/Iterator", name := "hasNext", desc := "()Z" } : Jvm.MethodName) ({ cls := "java/util/ArrayList$Itr", name := "hasNext", desc := "()Z" } : Jvm.MethodName)) ∈ lw_all := lw_g (lw_at lw_m2 216 rfl) rfl
theorem q541 : (Jvm.Cond.unhidden "java/util/ArrayList$Itr" "hasNext" "()Z") ∈ lw_tbl := lw_at lw_m2 217 rfl
theorem q542 : (Jvm.Cond.instanceMethod ({ cls := "java/util/ArrayList$Itr", name := "hasNext", desc := "()Z" } : Jvm.MethodName)) ∈ lw_all := lw_g (lw_at lw_m2 218 rfl) rfl
theorem q543 : (Jvm.Cond.publicMethod ({ cls := "java/util/ArrayList$Itr", name := "hasNext", desc := "()Z" } : Jvm.MethodName)) ∈ lw_tbl := lw_at lw_m2 219 rfl
theorem q544 : (Jvm.Cond.code ({ cls := "java/util/ArrayList$Itr", name := "hasNext", desc := "()Z" } : Jvm.MethodName) prog_44_method_2_code (1 : Nat) (Option.some Jvm.ClassFile.FieldType.boolean)) ∈ lw_all := lw_g (lw_at lw_m2 220 rfl) rfl
theorem q892 : (Jvm.Cond.selects "java/util/ArrayList$Itr" ({ cls := "java/util/Iterator", name := "next", desc := "()Ljava/lang/Object;" } : Jvm.MethodName) ({ cls := "java/util/ArrayList$Itr", name := "next", desc := "()Ljava/lang/Object;" } : Jvm.MethodName)) ∈ lw_all := lw_g (lw_at lw_m4 88 rfl) rfl
theorem q893 : (Jvm.Cond.unhidden "java/util/ArrayList$Itr" "next" "()Ljava/lang/Object;") ∈ lw_tbl := lw_at lw_m4 89 rfl
theorem q894 : (Jvm.Cond.instanceMethod ({ cls := "java/util/ArrayList$Itr", name := "next", desc := "()Ljava/lang/Object;" } : Jvm.MethodName)) ∈ lw_all := lw_g (lw_at lw_m4 90 rfl) rfl
theorem q895 : (Jvm.Cond.publicMethod ({ cls := "java/util/ArrayList$Itr", name := "next", desc := "()Ljava/lang/Object;" } : Jvm.MethodName)) ∈ lw_tbl := lw_at lw_m4 91 rfl
theorem q896 : (Jvm.Cond.code ({ cls := "java/util/ArrayList$Itr", name := "next", desc := "()Ljava/lang/Object;" } : Jvm.MethodName) prog_44_method_3_code (3 : Nat) (Option.some (Jvm.ClassFile.FieldType.object "java/lang/Object"))) ∈ lw_all := lw_g (lw_at lw_m4 92 rfl) rfl
theorem q897 : (Jvm.Cond.methodLink "java/util/ArrayList$Itr" (31 : Nat) ({ cls := "java/util/ArrayList$Itr", name := "checkForComodification", desc := "()V" } : Jvm.MethodName)) ∈ lw_all := lw_g (lw_at lw_m4 93 rfl) rfl
theorem q898 : (Jvm.Cond.instanceMethod ({ cls := "java/util/ArrayList$Itr", name := "checkForComodification", desc := "()V" } : Jvm.MethodName)) ∈ lw_all := lw_g (lw_at lw_m4 94 rfl) rfl
theorem q899 : (Jvm.Cond.selects "java/util/ArrayList$Itr" ({ cls := "java/util/ArrayList$Itr", name := "checkForComodification", desc := "()V" } : Jvm.MethodName) ({ cls := "java/util/ArrayList$Itr", name := "checkForComodification", desc := "()V" } : Jvm.MethodName)) ∈ lw_all := lw_g (lw_at lw_m4 95 rfl) rfl
theorem q900 : (Jvm.Cond.sameMethod "java/util/ArrayList$Itr" "java/util/ArrayList$Itr" "checkForComodification" "()V") ∈ lw_all := lw_g (lw_at lw_m4 96 rfl) rfl
theorem q902 : (Jvm.Cond.code ({ cls := "java/util/ArrayList$Itr", name := "checkForComodification", desc := "()V" } : Jvm.MethodName) prog_44_method_6_code (1 : Nat) (Option.none : Option Jvm.ClassFile.FieldType)) ∈ lw_all := lw_g (lw_at lw_m4 98 rfl) rfl
theorem q1200 : (Jvm.Cond.instantiable "java/util/ArrayList$Itr" (4 : Nat)) ∈ lw_all := lw_g (lw_at lw_m5 156 rfl) rfl
theorem q1202 : (Jvm.Cond.lays "java/util/ArrayList$Itr" "java/util/ArrayList$Itr" "cursor" "I") ∈ lw_all := lw_g (lw_at lw_m5 158 rfl) rfl
theorem q1203 : (Jvm.Cond.lays "java/util/ArrayList$Itr" "java/util/ArrayList$Itr" "lastRet" "I") ∈ lw_all := lw_g (lw_at lw_m5 159 rfl) rfl
theorem q1204 : (Jvm.Cond.lays "java/util/ArrayList$Itr" "java/util/ArrayList$Itr" "expectedModCount" "I") ∈ lw_all := lw_g (lw_at lw_m5 160 rfl) rfl
theorem q1205 : (Jvm.Cond.laysFinal "java/util/ArrayList$Itr" "java/util/ArrayList$Itr" "this$0" "Ljava/util/ArrayList;") ∈ lw_all := lw_g (lw_at lw_m5 161 rfl) rfl
theorem q1206 : (Jvm.Cond.superclass "java/util/ArrayList$Itr" "java/lang/Object") ∈ lw_all := lw_g (lw_at lw_m5 162 rfl) rfl
theorem q1321 : (Jvm.Cond.selects "java/util/ArrayList$Itr" ({ cls := "java/util/Iterator", name := "remove", desc := "()V" } : Jvm.MethodName) ({ cls := "java/util/ArrayList$Itr", name := "remove", desc := "()V" } : Jvm.MethodName)) ∈ lw_all := lw_g (lw_at lw_m6 37 rfl) rfl
theorem q1322 : (Jvm.Cond.unhidden "java/util/ArrayList$Itr" "remove" "()V") ∈ lw_tbl := lw_at lw_m6 38 rfl
theorem q1323 : (Jvm.Cond.instanceMethod ({ cls := "java/util/ArrayList$Itr", name := "remove", desc := "()V" } : Jvm.MethodName)) ∈ lw_all := lw_g (lw_at lw_m6 39 rfl) rfl
theorem q1324 : (Jvm.Cond.publicMethod ({ cls := "java/util/ArrayList$Itr", name := "remove", desc := "()V" } : Jvm.MethodName)) ∈ lw_tbl := lw_at lw_m6 40 rfl
theorem q1325 : (Jvm.Cond.codeWith ({ cls := "java/util/ArrayList$Itr", name := "remove", desc := "()V" } : Jvm.MethodName) prog_44_method_4_code (2 : Nat) (Option.none : Option Jvm.ClassFile.FieldType) [((19 : Nat), (55 : Nat), (58 : Nat), (51 : Nat))]) ∈ lw_all := lw_g (lw_at lw_m6 41 rfl) rfl
theorem q1326 : (Jvm.Cond.classLink "java/util/ArrayList$Itr" (44 : Nat) "java/lang/IllegalStateException") ∈ lw_all := lw_g (lw_at lw_m6 42 rfl) rfl
theorem q1327 : (Jvm.Cond.methodLink "java/util/ArrayList$Itr" (46 : Nat) ({ cls := "java/lang/IllegalStateException", name := "<init>", desc := "()V" } : Jvm.MethodName)) ∈ lw_all := lw_g (lw_at lw_m6 43 rfl) rfl
theorem q1328 : (Jvm.Cond.methodLink "java/util/ArrayList$Itr" (47 : Nat) ({ cls := "java/util/ArrayList", name := "remove", desc := "(I)Ljava/lang/Object;" } : Jvm.MethodName)) ∈ lw_all := lw_g (lw_at lw_m6 44 rfl) rfl
theorem q1329 : (Jvm.Cond.classLink "java/util/ArrayList$Itr" (41 : Nat) "java/util/ConcurrentModificationException") ∈ lw_all := lw_g (lw_at lw_m6 45 rfl) rfl
theorem q1330 : (Jvm.Cond.methodLink "java/util/ArrayList$Itr" (43 : Nat) ({ cls := "java/util/ConcurrentModificationException", name := "<init>", desc := "()V" } : Jvm.MethodName)) ∈ lw_all := lw_g (lw_at lw_m6 46 rfl) rfl
theorem q2291 : (Jvm.Cond.castable "java/util/ArrayList$Itr" "java/lang/Object") ∈ lw_tbl := lw_at lw_m10 47 rfl
theorem in_J16 : ∀ w ∈ wsJ160, w ∈ lw_all := lw_in wsJ160 [1202, 1203, 1204, 1205] (by decide +kernel) (by decide +kernel)

/-! java/util/ArrayList$ListItr -/
set_option maxRecDepth 100000
def RJ17 : String := "java/util/ArrayList$ListItr"
def TJ17 : u_T := fun k => match k with
  | 0 => ("java/util/ArrayList$Itr", "cursor", "I", false)
  | 1 => ("java/util/ArrayList$Itr", "lastRet", "I", false)
  | 2 => ("java/util/ArrayList$Itr", "expectedModCount", "I", false)
  | 3 => ("java/util/ArrayList$Itr", "this$0", "Ljava/util/ArrayList;", true)
  | _ => ("java/util/ArrayList$ListItr", "this$0", "Ljava/util/ArrayList;", true)
def tyJ17 : Nat → FieldType := fun k => match k with
  | 0 => .int
  | 1 => .int
  | 2 => .int
  | 3 => .object "java/util/ArrayList"
  | _ => .object "java/util/ArrayList"
abbrev wsJ170 : List Cond := u_ws RJ17 TJ17 5
-- two fields of one name: no nmJ17
theorem tyJ17_ok : ∀ k, k < 5 → parseFieldDescriptor (TJ17 k).2.2.1 = some (tyJ17 k) := by decide +kernel
abbrev cJ17_init : ByteArray := prog_45_method_1_code
def yJ17_init : MethodName := ⟨RJ17, "<init>", "(Ljava/util/ArrayList;I)V"⟩
def dkwJ17_init_0 : List UInt8 := [42, 43, 181, 0, 1, 42, 43, 183, 0, 7, 42, 28, 181, 0, 13, 177]
abbrev dktJ17_init_0 : List UInt8 := dkwJ17_init_0 ++ []
theorem dksJ17_init_0 : cJ17_init.data.toList.drop 0 = dktJ17_init_0 := by decide +kernel
theorem dJ17_init_0 : decode cJ17_init 0 = .ok (.aload_n 0, 1) := dk_42 (dk_at dksJ17_init_0 0 rfl rfl)
theorem dJ17_init_1 : decode cJ17_init 1 = .ok (.aload_n 1, 1) := dk_43 (dk_at dksJ17_init_0 1 rfl rfl)
theorem dJ17_init_2 : decode cJ17_init 2 = .ok (.putfield 1, 3) := dk_181 0 1 (dk_at dksJ17_init_0 2 rfl rfl)
theorem dJ17_init_5 : decode cJ17_init 5 = .ok (.aload_n 0, 1) := dk_42 (dk_at dksJ17_init_0 5 rfl rfl)
theorem dJ17_init_6 : decode cJ17_init 6 = .ok (.aload_n 1, 1) := dk_43 (dk_at dksJ17_init_0 6 rfl rfl)
theorem dJ17_init_7 : decode cJ17_init 7 = .ok (.invokespecial 7, 3) := dk_183 0 7 (dk_at dksJ17_init_0 7 rfl rfl)
theorem dJ17_init_10 : decode cJ17_init 10 = .ok (.aload_n 0, 1) := dk_42 (dk_at dksJ17_init_0 10 rfl rfl)
theorem dJ17_init_11 : decode cJ17_init 11 = .ok (.iload_n 2, 1) := dk_28 (dk_at dksJ17_init_0 11 rfl rfl)
theorem dJ17_init_12 : decode cJ17_init 12 = .ok (.putfield 13, 3) := dk_181 0 13 (dk_at dksJ17_init_0 12 rfl rfl)
theorem dJ17_init_15 : decode cJ17_init 15 = .ok (.return_, 1) := dk_177 (dk_at dksJ17_init_0 15 rfl rfl)
theorem q107 : (Jvm.Cond.initialized "java/util/ArrayList$ListItr") ∈ lw_all := lw_g (lw_at lw_m1 23 rfl) rfl
theorem q258 : (Jvm.Cond.selects "java/util/ArrayList$ListItr" ({ cls := "java/lang/Object", name := "getClass", desc := "()Ljava/lang/Class;" } : Jvm.MethodName) ({ cls := "java/lang/Object", name := "getClass", desc := "()Ljava/lang/Class;" } : Jvm.MethodName)) ∈ lw_all := lw_g (lw_at lw_m1 174 rfl) rfl
theorem q444 : (Jvm.Cond.instantiable "java/util/ArrayList$ListItr" (5 : Nat)) ∈ lw_all := lw_g (lw_at lw_m2 120 rfl) rfl
theorem q446 : (Jvm.Cond.instanceMethod ({ cls := "java/util/ArrayList$ListItr", name := "<init>", desc := "(Ljava/util/ArrayList;I)V" } : Jvm.MethodName)) ∈ lw_all := lw_g (lw_at lw_m2 122 rfl) rfl
theorem q447 : (Jvm.Cond.code ({ cls := "java/util/ArrayList$ListItr", name := "<init>", desc := "(Ljava/util/ArrayList;I)V" } : Jvm.MethodName) prog_45_method_1_code (3 : Nat) (Option.none : Option Jvm.ClassFile.FieldType)) ∈ lw_all := lw_g (lw_at lw_m2 123 rfl) rfl
theorem q448 : (Jvm.Cond.methodLink "java/util/ArrayList$ListItr" (7 : Nat) ({ cls := "java/util/ArrayList$Itr", name := "<init>", desc := "(Ljava/util/ArrayList;)V" } : Jvm.MethodName)) ∈ lw_all := lw_g (lw_at lw_m2 124 rfl) rfl
theorem q452 : (Jvm.Cond.fieldLink "java/util/ArrayList$ListItr" (1 : Nat) "java/util/ArrayList$ListItr" "this$0" "Ljava/util/ArrayList;") ∈ lw_all := lw_g (lw_at lw_m2 128 rfl) rfl
theorem q453 : (Jvm.Cond.fieldLink "java/util/ArrayList$ListItr" (13 : Nat) "java/util/ArrayList$ListItr" "cursor" "I") ∈ lw_all := lw_g (lw_at lw_m2 129 rfl) rfl
theorem q454 : (Jvm.Cond.sameField "java/util/ArrayList$ListItr" "java/util/ArrayList$Itr" "cursor" "I") ∈ lw_all := lw_g (lw_at lw_m2 130 rfl) rfl
theorem q459 : (Jvm.Cond.laysFinal "java/util/ArrayList$ListItr" "java/util/ArrayList$ListItr" "this$0" "Ljava/util/ArrayList;") ∈ lw_all := lw_g (lw_at lw_m2 135 rfl) rfl
theorem q460 : (Jvm.Cond.soleField "java/util/ArrayList$ListItr" "this$0") ∈ lw_all := lw_g (lw_at lw_m2 136 rfl) rfl
theorem q461 : (Jvm.Cond.lays "java/util/ArrayList$ListItr" "java/util/ArrayList$Itr" "cursor" "I") ∈ lw_all := lw_g (lw_at lw_m2 137 rfl) rfl
theorem q463 : (Jvm.Cond.lays "java/util/ArrayList$ListItr" "java/util/ArrayList$Itr" "lastRet" "I") ∈ lw_all := lw_g (lw_at lw_m2 139 rfl) rfl
theorem q465 : (Jvm.Cond.lays "java/util/ArrayList$ListItr" "java/util/ArrayList$Itr" "expectedModCount" "I") ∈ lw_all := lw_g (lw_at lw_m2 141 rfl) rfl
theorem q467 : (Jvm.Cond.laysFinal "java/util/ArrayList$ListItr" "java/util/ArrayList$Itr" "this$0" "Ljava/util/ArrayList;") ∈ lw_all := lw_g (lw_at lw_m2 143 rfl) rfl
theorem q469 : (Jvm.Cond.superclass "java/util/ArrayList$ListItr" "java/util/ArrayList$Itr") ∈ lw_all := lw_g (lw_at lw_m2 145 rfl) rfl
theorem q545 : (Jvm.Cond.castable "java/util/ArrayList$ListItr" "java/util/Iterator") ∈ lw_tbl := lw_at lw_m2 221 rfl
theorem q546 : (Jvm.Cond.selects "java/util/ArrayList$ListItr" ({ cls := "java/util/Iterator", name := "hasNext", desc := "()Z" } : Jvm.MethodName) ({ cls := "java/util/ArrayList$Itr", name := "hasNext", desc := "()Z" } : Jvm.MethodName)) ∈ lw_all := lw_g (lw_at lw_m2 222 rfl) rfl
theorem q547 : (Jvm.Cond.unhidden "java/util/ArrayList$ListItr" "hasNext" "()Z") ∈ lw_tbl := lw_at lw_m2 223 rfl
theorem q901 : (Jvm.Cond.selects "java/util/ArrayList$ListItr" ({ cls := "java/util/ArrayList$Itr", name := "checkForComodification", desc := "()V" } : Jvm.MethodName) ({ cls := "java/util/ArrayList$Itr", name := "checkForComodification", desc := "()V" } : Jvm.MethodName)) ∈ lw_all := lw_g (lw_at lw_m4 97 rfl) rfl
theorem q903 : (Jvm.Cond.selects "java/util/ArrayList$ListItr" ({ cls := "java/util/Iterator", name := "next", desc := "()Ljava/lang/Object;" } : Jvm.MethodName) ({ cls := "java/util/ArrayList$Itr", name := "next", desc := "()Ljava/lang/Object;" } : Jvm.MethodName)) ∈ lw_all := lw_g (lw_at lw_m4 99 rfl) rfl
theorem q904 : (Jvm.Cond.unhidden "java/util/ArrayList$ListItr" "next" "()Ljava/lang/Object;") ∈ lw_tbl := lw_at lw_m4 100 rfl
theorem q1331 : (Jvm.Cond.selects "java/util/ArrayList$ListItr" ({ cls := "java/util/Iterator", name := "remove", desc := "()V" } : Jvm.MethodName) ({ cls := "java/util/ArrayList$Itr", name := "remove", desc := "()V" } : Jvm.MethodName)) ∈ lw_all := lw_g (lw_at lw_m6 47 rfl) rfl
theorem q1332 : (Jvm.Cond.unhidden "java/util/ArrayList$ListItr" "remove" "()V") ∈ lw_tbl := lw_at lw_m6 48 rfl
theorem q2281 : (Jvm.Cond.castable "java/util/ArrayList$ListItr" "java/lang/Object") ∈ lw_tbl := lw_at lw_m10 37 rfl
theorem in_J17 : ∀ w ∈ wsJ170, w ∈ lw_all := lw_in wsJ170 [461, 463, 465, 467, 459] (by decide +kernel) (by decide +kernel)

/-! java/util/LinkedList$ListItr -/
set_option maxRecDepth 100000
def RJ18 : String := "java/util/LinkedList$ListItr"
def TJ18 : u_T := fun k => match k with
  | 0 => ("java/util/LinkedList$ListItr", "lastReturned", "Ljava/util/LinkedList$Node;", false)
  | 1 => ("java/util/LinkedList$ListItr", "next", "Ljava/util/LinkedList$Node;", false)
  | 2 => ("java/util/LinkedList$ListItr", "nextIndex", "I", false)
  | 3 => ("java/util/LinkedList$ListItr", "expectedModCount", "I", false)
  | _ => ("java/util/LinkedList$ListItr", "this$0", "Ljava/util/LinkedList;", true)
def tyJ18 : Nat → FieldType := fun k => match k with
  | 0 => .object "java/util/LinkedList$Node"
  | 1 => .object "java/util/LinkedList$Node"
  | 2 => .int
  | 3 => .int
  | _ => .object "java/util/LinkedList"
abbrev wsJ180 : List Cond := u_ws RJ18 TJ18 5
theorem nmJ18 : ∀ a, a < 5 → ∀ b, b < 5 → a ≠ b → (TJ18 a).2.1 ≠ (TJ18 b).2.1 := by decide +kernel
theorem tyJ18_ok : ∀ k, k < 5 → parseFieldDescriptor (TJ18 k).2.2.1 = some (tyJ18 k) := by decide +kernel
abbrev cJ18_init : ByteArray := prog_52_method_1_code
def yJ18_init : MethodName := ⟨RJ18, "<init>", "(Ljava/util/LinkedList;I)V"⟩
def dkwJ18_init_1 : List UInt8 := [180, 0, 22, 160, 0, 7, 1, 167, 0, 8, 43, 28, 182, 0, 25, 181, 0, 29, 42, 28, 181, 0, 33, 177]
abbrev dktJ18_init_1 : List UInt8 := dkwJ18_init_1 ++ []
def dkwJ18_init_0 : List UInt8 := [42, 43, 181, 0, 1, 42, 183, 0, 7, 42, 42, 180, 0, 1, 180, 0, 13, 181, 0, 19, 42, 28, 43]
abbrev dktJ18_init_0 : List UInt8 := dkwJ18_init_0 ++ dktJ18_init_1
theorem dksJ18_init_0 : cJ18_init.data.toList.drop 0 = dktJ18_init_0 := by decide +kernel
theorem dksJ18_init_1 : cJ18_init.data.toList.drop 23 = dktJ18_init_1 := dk_seg dksJ18_init_0 23 rfl rfl
theorem dJ18_init_0 : decode cJ18_init 0 = .ok (.aload_n 0, 1) := dk_42 (dk_at dksJ18_init_0 0 rfl rfl)
theorem dJ18_init_1 : decode cJ18_init 1 = .ok (.aload_n 1, 1) := dk_43 (dk_at dksJ18_init_0 1 rfl rfl)
theorem dJ18_init_2 : decode cJ18_init 2 = .ok (.putfield 1, 3) := dk_181 0 1 (dk_at dksJ18_init_0 2 rfl rfl)
theorem dJ18_init_5 : decode cJ18_init 5 = .ok (.aload_n 0, 1) := dk_42 (dk_at dksJ18_init_0 5 rfl rfl)
theorem dJ18_init_6 : decode cJ18_init 6 = .ok (.invokespecial 7, 3) := dk_183 0 7 (dk_at dksJ18_init_0 6 rfl rfl)
theorem dJ18_init_9 : decode cJ18_init 9 = .ok (.aload_n 0, 1) := dk_42 (dk_at dksJ18_init_0 9 rfl rfl)
theorem dJ18_init_10 : decode cJ18_init 10 = .ok (.aload_n 0, 1) := dk_42 (dk_at dksJ18_init_0 10 rfl rfl)
theorem dJ18_init_11 : decode cJ18_init 11 = .ok (.getfield 1, 3) := dk_180 0 1 (dk_at dksJ18_init_0 11 rfl rfl)
theorem dJ18_init_14 : decode cJ18_init 14 = .ok (.getfield 13, 3) := dk_180 0 13 (dk_at dksJ18_init_0 14 rfl rfl)
theorem dJ18_init_17 : decode cJ18_init 17 = .ok (.putfield 19, 3) := dk_181 0 19 (dk_at dksJ18_init_0 17 rfl rfl)
theorem dJ18_init_20 : decode cJ18_init 20 = .ok (.aload_n 0, 1) := dk_42 (dk_at dksJ18_init_0 20 rfl rfl)
theorem dJ18_init_21 : decode cJ18_init 21 = .ok (.iload_n 2, 1) := dk_28 (dk_at dksJ18_init_0 21 rfl rfl)
theorem dJ18_init_22 : decode cJ18_init 22 = .ok (.aload_n 1, 1) := dk_43 (dk_at dksJ18_init_0 22 rfl rfl)
theorem dJ18_init_23 : decode cJ18_init 23 = .ok (.getfield 22, 3) := dk_180 0 22 (dk_at dksJ18_init_1 0 rfl rfl)
theorem dJ18_init_26 : decode cJ18_init 26 = .ok (.if_icmp .ne 7, 3) := dk_160 0 7 (dk_at dksJ18_init_1 3 rfl rfl)
theorem dJ18_init_29 : decode cJ18_init 29 = .ok (.aconst_null, 1) := dk_1 (dk_at dksJ18_init_1 6 rfl rfl)
theorem dJ18_init_30 : decode cJ18_init 30 = .ok (.goto 8, 3) := dk_167 0 8 (dk_at dksJ18_init_1 7 rfl rfl)
theorem dJ18_init_33 : decode cJ18_init 33 = .ok (.aload_n 1, 1) := dk_43 (dk_at dksJ18_init_1 10 rfl rfl)
theorem dJ18_init_34 : decode cJ18_init 34 = .ok (.iload_n 2, 1) := dk_28 (dk_at dksJ18_init_1 11 rfl rfl)
theorem dJ18_init_35 : decode cJ18_init 35 = .ok (.invokevirtual 25, 3) := dk_182 0 25 (dk_at dksJ18_init_1 12 rfl rfl)
theorem dJ18_init_38 : decode cJ18_init 38 = .ok (.putfield 29, 3) := dk_181 0 29 (dk_at dksJ18_init_1 15 rfl rfl)
theorem dJ18_init_41 : decode cJ18_init 41 = .ok (.aload_n 0, 1) := dk_42 (dk_at dksJ18_init_1 18 rfl rfl)
theorem dJ18_init_42 : decode cJ18_init 42 = .ok (.iload_n 2, 1) := dk_28 (dk_at dksJ18_init_1 19 rfl rfl)
theorem dJ18_init_43 : decode cJ18_init 43 = .ok (.putfield 33, 3) := dk_181 0 33 (dk_at dksJ18_init_1 20 rfl rfl)
theorem dJ18_init_46 : decode cJ18_init 46 = .ok (.return_, 1) := dk_177 (dk_at dksJ18_init_1 23 rfl rfl)
abbrev cJ18_hasNext : ByteArray := prog_52_method_2_code
def yJ18_hasNext : MethodName := ⟨RJ18, "hasNext", "()Z"⟩
def dkwJ18_hasNext_0 : List UInt8 := [42, 180, 0, 33, 42, 180, 0, 1, 180, 0, 22, 162, 0, 7, 4, 167, 0, 4, 3, 172]
abbrev dktJ18_hasNext_0 : List UInt8 := dkwJ18_hasNext_0 ++ []
theorem dksJ18_hasNext_0 : cJ18_hasNext.data.toList.drop 0 = dktJ18_hasNext_0 := by decide +kernel
theorem dJ18_hasNext_0 : decode cJ18_hasNext 0 = .ok (.aload_n 0, 1) := dk_42 (dk_at dksJ18_hasNext_0 0 rfl rfl)
theorem dJ18_hasNext_1 : decode cJ18_hasNext 1 = .ok (.getfield 33, 3) := dk_180 0 33 (dk_at dksJ18_hasNext_0 1 rfl rfl)
theorem dJ18_hasNext_4 : decode cJ18_hasNext 4 = .ok (.aload_n 0, 1) := dk_42 (dk_at dksJ18_hasNext_0 4 rfl rfl)
theorem dJ18_hasNext_5 : decode cJ18_hasNext 5 = .ok (.getfield 1, 3) := dk_180 0 1 (dk_at dksJ18_hasNext_0 5 rfl rfl)
theorem dJ18_hasNext_8 : decode cJ18_hasNext 8 = .ok (.getfield 22, 3) := dk_180 0 22 (dk_at dksJ18_hasNext_0 8 rfl rfl)
theorem dJ18_hasNext_11 : decode cJ18_hasNext 11 = .ok (.if_icmp .ge 7, 3) := dk_162 0 7 (dk_at dksJ18_hasNext_0 11 rfl rfl)
theorem dJ18_hasNext_14 : decode cJ18_hasNext 14 = .ok (.iconst 1, 1) := dk_4 (dk_at dksJ18_hasNext_0 14 rfl rfl)
theorem dJ18_hasNext_15 : decode cJ18_hasNext 15 = .ok (.goto 4, 3) := dk_167 0 4 (dk_at dksJ18_hasNext_0 15 rfl rfl)
theorem dJ18_hasNext_18 : decode cJ18_hasNext 18 = .ok (.iconst 0, 1) := dk_3 (dk_at dksJ18_hasNext_0 18 rfl rfl)
theorem dJ18_hasNext_19 : decode cJ18_hasNext 19 = .ok (.ireturn, 1) := dk_172 (dk_at dksJ18_hasNext_0 19 rfl rfl)
abbrev cJ18_next : ByteArray := prog_52_method_3_code
def yJ18_next : MethodName := ⟨RJ18, "next", "()Ljava/lang/Object;"⟩
def dkwJ18_next_2 : List UInt8 := [42, 180, 0, 46, 180, 0, 52, 176]
abbrev dktJ18_next_2 : List UInt8 := dkwJ18_next_2 ++ []
def dkwJ18_next_1 : List UInt8 := [181, 0, 46, 42, 42, 180, 0, 29, 180, 0, 49, 181, 0, 29, 42, 89, 180, 0, 33, 4, 96, 181, 0, 33]
abbrev dktJ18_next_1 : List UInt8 := dkwJ18_next_1 ++ dktJ18_next_2
def dkwJ18_next_0 : List UInt8 := [42, 182, 0, 36, 42, 182, 0, 39, 154, 0, 11, 187, 0, 43, 89, 183, 0, 45, 191, 42, 42, 180, 0, 29]
abbrev dktJ18_next_0 : List UInt8 := dkwJ18_next_0 ++ dktJ18_next_1
theorem dksJ18_next_0 : cJ18_next.data.toList.drop 0 = dktJ18_next_0 := by decide +kernel
theorem dksJ18_next_1 : cJ18_next.data.toList.drop 24 = dktJ18_next_1 := dk_seg dksJ18_next_0 24 rfl rfl
theorem dksJ18_next_2 : cJ18_next.data.toList.drop 48 = dktJ18_next_2 := dk_seg dksJ18_next_1 24 rfl rfl
theorem dJ18_next_0 : decode cJ18_next 0 = .ok (.aload_n 0, 1) := dk_42 (dk_at dksJ18_next_0 0 rfl rfl)
theorem dJ18_next_1 : decode cJ18_next 1 = .ok (.invokevirtual 36, 3) := dk_182 0 36 (dk_at dksJ18_next_0 1 rfl rfl)
theorem dJ18_next_4 : decode cJ18_next 4 = .ok (.aload_n 0, 1) := dk_42 (dk_at dksJ18_next_0 4 rfl rfl)
theorem dJ18_next_5 : decode cJ18_next 5 = .ok (.invokevirtual 39, 3) := dk_182 0 39 (dk_at dksJ18_next_0 5 rfl rfl)
theorem dJ18_next_8 : decode cJ18_next 8 = .ok (.ifCond .ne 11, 3) := dk_154 0 11 (dk_at dksJ18_next_0 8 rfl rfl)
theorem dJ18_next_11 : decode cJ18_next 11 = .ok (.new 43, 3) := dk_187 0 43 (dk_at dksJ18_next_0 11 rfl rfl)
theorem dJ18_next_14 : decode cJ18_next 14 = .ok (.dup, 1) := dk_89 (dk_at dksJ18_next_0 14 rfl rfl)
theorem dJ18_next_15 : decode cJ18_next 15 = .ok (.invokespecial 45, 3) := dk_183 0 45 (dk_at dksJ18_next_0 15 rfl rfl)
theorem dJ18_next_18 : decode cJ18_next 18 = .ok (.athrow, 1) := dk_191 (dk_at dksJ18_next_0 18 rfl rfl)
theorem dJ18_next_19 : decode cJ18_next 19 = .ok (.aload_n 0, 1) := dk_42 (dk_at dksJ18_next_0 19 rfl rfl)
theorem dJ18_next_20 : decode cJ18_next 20 = .ok (.aload_n 0, 1) := dk_42 (dk_at dksJ18_next_0 20 rfl rfl)
theorem dJ18_next_21 : decode cJ18_next 21 = .ok (.getfield 29, 3) := dk_180 0 29 (dk_at dksJ18_next_0 21 rfl rfl)
theorem dJ18_next_24 : decode cJ18_next 24 = .ok (.putfield 46, 3) := dk_181 0 46 (dk_at dksJ18_next_1 0 rfl rfl)
theorem dJ18_next_27 : decode cJ18_next 27 = .ok (.aload_n 0, 1) := dk_42 (dk_at dksJ18_next_1 3 rfl rfl)
theorem dJ18_next_28 : decode cJ18_next 28 = .ok (.aload_n 0, 1) := dk_42 (dk_at dksJ18_next_1 4 rfl rfl)
theorem dJ18_next_29 : decode cJ18_next 29 = .ok (.getfield 29, 3) := dk_180 0 29 (dk_at dksJ18_next_1 5 rfl rfl)
theorem dJ18_next_32 : decode cJ18_next 32 = .ok (.getfield 49, 3) := dk_180 0 49 (dk_at dksJ18_next_1 8 rfl rfl)
theorem dJ18_next_35 : decode cJ18_next 35 = .ok (.putfield 29, 3) := dk_181 0 29 (dk_at dksJ18_next_1 11 rfl rfl)
theorem dJ18_next_38 : decode cJ18_next 38 = .ok (.aload_n 0, 1) := dk_42 (dk_at dksJ18_next_1 14 rfl rfl)
theorem dJ18_next_39 : decode cJ18_next 39 = .ok (.dup, 1) := dk_89 (dk_at dksJ18_next_1 15 rfl rfl)
theorem dJ18_next_40 : decode cJ18_next 40 = .ok (.getfield 33, 3) := dk_180 0 33 (dk_at dksJ18_next_1 16 rfl rfl)
theorem dJ18_next_43 : decode cJ18_next 43 = .ok (.iconst 1, 1) := dk_4 (dk_at dksJ18_next_1 19 rfl rfl)
theorem dJ18_next_44 : decode cJ18_next 44 = .ok (.iadd, 1) := dk_96 (dk_at dksJ18_next_1 20 rfl rfl)
theorem dJ18_next_45 : decode cJ18_next 45 = .ok (.putfield 33, 3) := dk_181 0 33 (dk_at dksJ18_next_1 21 rfl rfl)
theorem dJ18_next_48 : decode cJ18_next 48 = .ok (.aload_n 0, 1) := dk_42 (dk_at dksJ18_next_2 0 rfl rfl)
theorem dJ18_next_49 : decode cJ18_next 49 = .ok (.getfield 46, 3) := dk_180 0 46 (dk_at dksJ18_next_2 1 rfl rfl)
theorem dJ18_next_52 : decode cJ18_next 52 = .ok (.getfield 52, 3) := dk_180 0 52 (dk_at dksJ18_next_2 4 rfl rfl)
theorem dJ18_next_55 : decode cJ18_next 55 = .ok (.areturn, 1) := dk_176 (dk_at dksJ18_next_2 7 rfl rfl)
abbrev cJ18_checkForComodification : ByteArray := prog_52_method_12_code
def yJ18_checkForComodification : MethodName := ⟨RJ18, "checkForComodification", "()V"⟩
def dkwJ18_checkForComodification_0 : List UInt8 := [42, 180, 0, 1, 180, 0, 13, 42, 180, 0, 19, 159, 0, 11, 187, 0, 91, 89, 183, 0, 93, 191, 177]
abbrev dktJ18_checkForComodification_0 : List UInt8 := dkwJ18_checkForComodification_0 ++ []
theorem dksJ18_checkForComodification_0 : cJ18_checkForComodification.data.toList.drop 0 = dktJ18_checkForComodification_0 := by decide +kernel
theorem dJ18_checkForComodification_0 : decode cJ18_checkForComodification 0 = .ok (.aload_n 0, 1) := dk_42 (dk_at dksJ18_checkForComodification_0 0 rfl rfl)
theorem dJ18_checkForComodification_1 : decode cJ18_checkForComodification 1 = .ok (.getfield 1, 3) := dk_180 0 1 (dk_at dksJ18_checkForComodification_0 1 rfl rfl)
theorem dJ18_checkForComodification_4 : decode cJ18_checkForComodification 4 = .ok (.getfield 13, 3) := dk_180 0 13 (dk_at dksJ18_checkForComodification_0 4 rfl rfl)
theorem dJ18_checkForComodification_7 : decode cJ18_checkForComodification 7 = .ok (.aload_n 0, 1) := dk_42 (dk_at dksJ18_checkForComodification_0 7 rfl rfl)
theorem dJ18_checkForComodification_8 : decode cJ18_checkForComodification 8 = .ok (.getfield 19, 3) := dk_180 0 19 (dk_at dksJ18_checkForComodification_0 8 rfl rfl)
theorem dJ18_checkForComodification_11 : decode cJ18_checkForComodification 11 = .ok (.if_icmp .eq 11, 3) := dk_159 0 11 (dk_at dksJ18_checkForComodification_0 11 rfl rfl)
theorem dJ18_checkForComodification_14 : decode cJ18_checkForComodification 14 = .ok (.new 91, 3) := dk_187 0 91 (dk_at dksJ18_checkForComodification_0 14 rfl rfl)
theorem dJ18_checkForComodification_17 : decode cJ18_checkForComodification 17 = .ok (.dup, 1) := dk_89 (dk_at dksJ18_checkForComodification_0 17 rfl rfl)
theorem dJ18_checkForComodification_18 : decode cJ18_checkForComodification 18 = .ok (.invokespecial 93, 3) := dk_183 0 93 (dk_at dksJ18_checkForComodification_0 18 rfl rfl)
theorem dJ18_checkForComodification_21 : decode cJ18_checkForComodification 21 = .ok (.athrow, 1) := dk_191 (dk_at dksJ18_checkForComodification_0 21 rfl rfl)
theorem dJ18_checkForComodification_22 : decode cJ18_checkForComodification 22 = .ok (.return_, 1) := dk_177 (dk_at dksJ18_checkForComodification_0 22 rfl rfl)
abbrev cJ18_remove : ByteArray := prog_52_method_8_code
def yJ18_remove : MethodName := ⟨RJ18, "remove", "()V"⟩
def dkwJ18_remove_3 : List UInt8 := [181, 0, 46, 42, 89, 180, 0, 19, 4, 96, 181, 0, 19, 177]
abbrev dktJ18_remove_3 : List UInt8 := dkwJ18_remove_3 ++ []
def dkwJ18_remove_2 : List UInt8 := [166, 0, 11, 42, 43, 181, 0, 29, 167, 0, 13, 42, 89, 180, 0, 33, 4, 100, 181, 0, 33, 42, 1]
abbrev dktJ18_remove_2 : List UInt8 := dkwJ18_remove_2 ++ dktJ18_remove_3
def dkwJ18_remove_1 : List UInt8 := [180, 0, 49, 76, 42, 180, 0, 1, 42, 180, 0, 46, 182, 0, 68, 87, 42, 180, 0, 29, 42, 180, 0, 46]
abbrev dktJ18_remove_1 : List UInt8 := dkwJ18_remove_1 ++ dktJ18_remove_2
def dkwJ18_remove_0 : List UInt8 := [42, 182, 0, 36, 42, 180, 0, 46, 199, 0, 11, 187, 0, 65, 89, 183, 0, 67, 191, 42, 180, 0, 46]
abbrev dktJ18_remove_0 : List UInt8 := dkwJ18_remove_0 ++ dktJ18_remove_1
theorem dksJ18_remove_0 : cJ18_remove.data.toList.drop 0 = dktJ18_remove_0 := by decide +kernel
theorem dksJ18_remove_1 : cJ18_remove.data.toList.drop 23 = dktJ18_remove_1 := dk_seg dksJ18_remove_0 23 rfl rfl
theorem dksJ18_remove_2 : cJ18_remove.data.toList.drop 47 = dktJ18_remove_2 := dk_seg dksJ18_remove_1 24 rfl rfl
theorem dksJ18_remove_3 : cJ18_remove.data.toList.drop 70 = dktJ18_remove_3 := dk_seg dksJ18_remove_2 23 rfl rfl
theorem dJ18_remove_0 : decode cJ18_remove 0 = .ok (.aload_n 0, 1) := dk_42 (dk_at dksJ18_remove_0 0 rfl rfl)
theorem dJ18_remove_1 : decode cJ18_remove 1 = .ok (.invokevirtual 36, 3) := dk_182 0 36 (dk_at dksJ18_remove_0 1 rfl rfl)
theorem dJ18_remove_4 : decode cJ18_remove 4 = .ok (.aload_n 0, 1) := dk_42 (dk_at dksJ18_remove_0 4 rfl rfl)
theorem dJ18_remove_5 : decode cJ18_remove 5 = .ok (.getfield 46, 3) := dk_180 0 46 (dk_at dksJ18_remove_0 5 rfl rfl)
theorem dJ18_remove_8 : decode cJ18_remove 8 = .ok (.ifnonnull 11, 3) := dk_199 0 11 (dk_at dksJ18_remove_0 8 rfl rfl)
theorem dJ18_remove_11 : decode cJ18_remove 11 = .ok (.new 65, 3) := dk_187 0 65 (dk_at dksJ18_remove_0 11 rfl rfl)
theorem dJ18_remove_14 : decode cJ18_remove 14 = .ok (.dup, 1) := dk_89 (dk_at dksJ18_remove_0 14 rfl rfl)
theorem dJ18_remove_15 : decode cJ18_remove 15 = .ok (.invokespecial 67, 3) := dk_183 0 67 (dk_at dksJ18_remove_0 15 rfl rfl)
theorem dJ18_remove_18 : decode cJ18_remove 18 = .ok (.athrow, 1) := dk_191 (dk_at dksJ18_remove_0 18 rfl rfl)
theorem dJ18_remove_19 : decode cJ18_remove 19 = .ok (.aload_n 0, 1) := dk_42 (dk_at dksJ18_remove_0 19 rfl rfl)
theorem dJ18_remove_20 : decode cJ18_remove 20 = .ok (.getfield 46, 3) := dk_180 0 46 (dk_at dksJ18_remove_0 20 rfl rfl)
theorem dJ18_remove_23 : decode cJ18_remove 23 = .ok (.getfield 49, 3) := dk_180 0 49 (dk_at dksJ18_remove_1 0 rfl rfl)
theorem dJ18_remove_26 : decode cJ18_remove 26 = .ok (.astore_n 1, 1) := dk_76 (dk_at dksJ18_remove_1 3 rfl rfl)
theorem dJ18_remove_27 : decode cJ18_remove 27 = .ok (.aload_n 0, 1) := dk_42 (dk_at dksJ18_remove_1 4 rfl rfl)
theorem dJ18_remove_28 : decode cJ18_remove 28 = .ok (.getfield 1, 3) := dk_180 0 1 (dk_at dksJ18_remove_1 5 rfl rfl)
theorem dJ18_remove_31 : decode cJ18_remove 31 = .ok (.aload_n 0, 1) := dk_42 (dk_at dksJ18_remove_1 8 rfl rfl)
theorem dJ18_remove_32 : decode cJ18_remove 32 = .ok (.getfield 46, 3) := dk_180 0 46 (dk_at dksJ18_remove_1 9 rfl rfl)
theorem dJ18_remove_35 : decode cJ18_remove 35 = .ok (.invokevirtual 68, 3) := dk_182 0 68 (dk_at dksJ18_remove_1 12 rfl rfl)
theorem dJ18_remove_38 : decode cJ18_remove 38 = .ok (.pop, 1) := dk_87 (dk_at dksJ18_remove_1 15 rfl rfl)
theorem dJ18_remove_39 : decode cJ18_remove 39 = .ok (.aload_n 0, 1) := dk_42 (dk_at dksJ18_remove_1 16 rfl rfl)
theorem dJ18_remove_40 : decode cJ18_remove 40 = .ok (.getfield 29, 3) := dk_180 0 29 (dk_at dksJ18_remove_1 17 rfl rfl)
theorem dJ18_remove_43 : decode cJ18_remove 43 = .ok (.aload_n 0, 1) := dk_42 (dk_at dksJ18_remove_1 20 rfl rfl)
theorem dJ18_remove_44 : decode cJ18_remove 44 = .ok (.getfield 46, 3) := dk_180 0 46 (dk_at dksJ18_remove_1 21 rfl rfl)
theorem dJ18_remove_47 : decode cJ18_remove 47 = .ok (.if_acmp .ne 11, 3) := dk_166 0 11 (dk_at dksJ18_remove_2 0 rfl rfl)
theorem dJ18_remove_50 : decode cJ18_remove 50 = .ok (.aload_n 0, 1) := dk_42 (dk_at dksJ18_remove_2 3 rfl rfl)
theorem dJ18_remove_51 : decode cJ18_remove 51 = .ok (.aload_n 1, 1) := dk_43 (dk_at dksJ18_remove_2 4 rfl rfl)
theorem dJ18_remove_52 : decode cJ18_remove 52 = .ok (.putfield 29, 3) := dk_181 0 29 (dk_at dksJ18_remove_2 5 rfl rfl)
theorem dJ18_remove_55 : decode cJ18_remove 55 = .ok (.goto 13, 3) := dk_167 0 13 (dk_at dksJ18_remove_2 8 rfl rfl)
theorem dJ18_remove_58 : decode cJ18_remove 58 = .ok (.aload_n 0, 1) := dk_42 (dk_at dksJ18_remove_2 11 rfl rfl)
theorem dJ18_remove_59 : decode cJ18_remove 59 = .ok (.dup, 1) := dk_89 (dk_at dksJ18_remove_2 12 rfl rfl)
theorem dJ18_remove_60 : decode cJ18_remove 60 = .ok (.getfield 33, 3) := dk_180 0 33 (dk_at dksJ18_remove_2 13 rfl rfl)
theorem dJ18_remove_63 : decode cJ18_remove 63 = .ok (.iconst 1, 1) := dk_4 (dk_at dksJ18_remove_2 16 rfl rfl)
theorem dJ18_remove_64 : decode cJ18_remove 64 = .ok (.isub, 1) := dk_100 (dk_at dksJ18_remove_2 17 rfl rfl)
theorem dJ18_remove_65 : decode cJ18_remove 65 = .ok (.putfield 33, 3) := dk_181 0 33 (dk_at dksJ18_remove_2 18 rfl rfl)
theorem dJ18_remove_68 : decode cJ18_remove 68 = .ok (.aload_n 0, 1) := dk_42 (dk_at dksJ18_remove_2 21 rfl rfl)
theorem dJ18_remove_69 : decode cJ18_remove 69 = .ok (.aconst_null, 1) := dk_1 (dk_at dksJ18_remove_2 22 rfl rfl)
theorem dJ18_remove_70 : decode cJ18_remove 70 = .ok (.putfield 46, 3) := dk_181 0 46 (dk_at dksJ18_remove_3 0 rfl rfl)
theorem dJ18_remove_73 : decode cJ18_remove 73 = .ok (.aload_n 0, 1) := dk_42 (dk_at dksJ18_remove_3 3 rfl rfl)
theorem dJ18_remove_74 : decode cJ18_remove 74 = .ok (.dup, 1) := dk_89 (dk_at dksJ18_remove_3 4 rfl rfl)
theorem dJ18_remove_75 : decode cJ18_remove 75 = .ok (.getfield 19, 3) := dk_180 0 19 (dk_at dksJ18_remove_3 5 rfl rfl)
theorem dJ18_remove_78 : decode cJ18_remove 78 = .ok (.iconst 1, 1) := dk_4 (dk_at dksJ18_remove_3 8 rfl rfl)
theorem dJ18_remove_79 : decode cJ18_remove 79 = .ok (.iadd, 1) := dk_96 (dk_at dksJ18_remove_3 9 rfl rfl)
theorem dJ18_remove_80 : decode cJ18_remove 80 = .ok (.putfield 19, 3) := dk_181 0 19 (dk_at dksJ18_remove_3 10 rfl rfl)
theorem dJ18_remove_83 : decode cJ18_remove 83 = .ok (.return_, 1) := dk_177 (dk_at dksJ18_remove_3 13 rfl rfl)
theorem q108 : (Jvm.Cond.initialized "java/util/LinkedList$ListItr") ∈ lw_all := lw_g (lw_at lw_m1 24 rfl) rfl
theorem q168 : (Jvm.Cond.fieldLink "java/util/LinkedList$ListItr" (13 : Nat) "java/util/LinkedList" "modCount" "I") ∈ lw_all := lw_g (lw_at lw_m1 84 rfl) rfl
theorem q193 : (Jvm.Cond.fieldLink "java/util/LinkedList$ListItr" (22 : Nat) "java/util/LinkedList" "size" "I") ∈ lw_all := lw_g (lw_at lw_m1 109 rfl) rfl
theorem q261 : (Jvm.Cond.selects "java/util/LinkedList$ListItr" ({ cls := "java/lang/Object", name := "getClass", desc := "()Ljava/lang/Class;" } : Jvm.MethodName) ({ cls := "java/lang/Object", name := "getClass", desc := "()Ljava/lang/Class;" } : Jvm.MethodName)) ∈ lw_all := lw_g (lw_at lw_m1 177 rfl) rfl
theorem q482 : (Jvm.Cond.instantiable "java/util/LinkedList$ListItr" (5 : Nat)) ∈ lw_all := lw_g (lw_at lw_m2 158 rfl) rfl
theorem q484 : (Jvm.Cond.instanceMethod ({ cls := "java/util/LinkedList$ListItr", name := "<init>", desc := "(Ljava/util/LinkedList;I)V" } : Jvm.MethodName)) ∈ lw_all := lw_g (lw_at lw_m2 160 rfl) rfl
theorem q485 : (Jvm.Cond.code ({ cls := "java/util/LinkedList$ListItr", name := "<init>", desc := "(Ljava/util/LinkedList;I)V" } : Jvm.MethodName) prog_52_method_1_code (3 : Nat) (Option.none : Option Jvm.ClassFile.FieldType)) ∈ lw_all := lw_g (lw_at lw_m2 161 rfl) rfl
theorem q486 : (Jvm.Cond.methodLink "java/util/LinkedList$ListItr" (7 : Nat) ({ cls := "java/lang/Object", name := "<init>", desc := "()V" } : Jvm.MethodName)) ∈ lw_all := lw_g (lw_at lw_m2 162 rfl) rfl
theorem q487 : (Jvm.Cond.methodLink "java/util/LinkedList$ListItr" (25 : Nat) ({ cls := "java/util/LinkedList", name := "node", desc := "(I)Ljava/util/LinkedList$Node;" } : Jvm.MethodName)) ∈ lw_all := lw_g (lw_at lw_m2 163 rfl) rfl
theorem q491 : (Jvm.Cond.fieldLink "java/util/LinkedList$ListItr" (46 : Nat) "java/util/LinkedList$ListItr" "lastReturned" "Ljava/util/LinkedList$Node;") ∈ lw_all := lw_g (lw_at lw_m2 167 rfl) rfl
theorem q492 : (Jvm.Cond.fieldLink "java/util/LinkedList$ListItr" (29 : Nat) "java/util/LinkedList$ListItr" "next" "Ljava/util/LinkedList$Node;") ∈ lw_all := lw_g (lw_at lw_m2 168 rfl) rfl
theorem q493 : (Jvm.Cond.fieldLink "java/util/LinkedList$ListItr" (33 : Nat) "java/util/LinkedList$ListItr" "nextIndex" "I") ∈ lw_all := lw_g (lw_at lw_m2 169 rfl) rfl
theorem q494 : (Jvm.Cond.fieldLink "java/util/LinkedList$ListItr" (19 : Nat) "java/util/LinkedList$ListItr" "expectedModCount" "I") ∈ lw_all := lw_g (lw_at lw_m2 170 rfl) rfl
theorem q495 : (Jvm.Cond.fieldLink "java/util/LinkedList$ListItr" (1 : Nat) "java/util/LinkedList$ListItr" "this$0" "Ljava/util/LinkedList;") ∈ lw_all := lw_g (lw_at lw_m2 171 rfl) rfl
theorem q496 : (Jvm.Cond.lays "java/util/LinkedList$ListItr" "java/util/LinkedList$ListItr" "lastReturned" "Ljava/util/LinkedList$Node;") ∈ lw_all := lw_g (lw_at lw_m2 172 rfl) rfl
theorem q497 : (Jvm.Cond.soleField "java/util/LinkedList$ListItr" "lastReturned") ∈ lw_all := lw_g (lw_at lw_m2 173 rfl) rfl
theorem q498 : (Jvm.Cond.lays "java/util/LinkedList$ListItr" "java/util/LinkedList$ListItr" "next" "Ljava/util/LinkedList$Node;") ∈ lw_all := lw_g (lw_at lw_m2 174 rfl) rfl
theorem q499 : (Jvm.Cond.soleField "java/util/LinkedList$ListItr" "next") ∈ lw_all := lw_g (lw_at lw_m2 175 rfl) rfl
theorem q500 : (Jvm.Cond.lays "java/util/LinkedList$ListItr" "java/util/LinkedList$ListItr" "nextIndex" "I") ∈ lw_all := lw_g (lw_at lw_m2 176 rfl) rfl
theorem q501 : (Jvm.Cond.soleField "java/util/LinkedList$ListItr" "nextIndex") ∈ lw_all := lw_g (lw_at lw_m2 177 rfl) rfl
theorem q502 : (Jvm.Cond.lays "java/util/LinkedList$ListItr" "java/util/LinkedList$ListItr" "expectedModCount" "I") ∈ lw_all := lw_g (lw_at lw_m2 178 rfl) rfl
theorem q503 : (Jvm.Cond.soleField "java/util/LinkedList$ListItr" "expectedModCount") ∈ lw_all := lw_g (lw_at lw_m2 179 rfl) rfl
theorem q504 : (Jvm.Cond.laysFinal "java/util/LinkedList$ListItr" "java/util/LinkedList$ListItr" "this$0" "Ljava/util/LinkedList;") ∈ lw_all := lw_g (lw_at lw_m2 180 rfl) rfl
theorem q505 : (Jvm.Cond.soleField "java/util/LinkedList$ListItr" "this$0") ∈ lw_all := lw_g (lw_at lw_m2 181 rfl) rfl
theorem q506 : (Jvm.Cond.superclass "java/util/LinkedList$ListItr" "java/lang/Object") ∈ lw_all := lw_g (lw_at lw_m2 182 rfl) rfl
theorem q548 : (Jvm.Cond.castable "java/util/LinkedList$ListItr" "java/util/Iterator") ∈ lw_tbl := lw_at lw_m2 224 rfl
theorem q549 : (Jvm.Cond.selects "java/util/LinkedList$ListItr" ({ cls := "java/util/Iterator", name := "hasNext", desc := "()Z" } : Jvm.MethodName) ({ cls := "java/util/LinkedList$ListItr", name := "hasNext", desc := "()Z" } : Jvm.MethodName)) ∈ lw_all := lw_g (lw_at lw_m2 225 rfl) rfl
theorem q550 : (Jvm.Cond.unhidden "java/util/LinkedList$ListItr" "hasNext" "()Z") ∈ lw_tbl := lw_at lw_m2 226 rfl
theorem q551 : (Jvm.Cond.instanceMethod ({ cls := "java/util/LinkedList$ListItr", name := "hasNext", desc := "()Z" } : Jvm.MethodName)) ∈ lw_all := lw_g (lw_at lw_m2 227 rfl) rfl
theorem q552 : (Jvm.Cond.publicMethod ({ cls := "java/util/LinkedList$ListItr", name := "hasNext", desc := "()Z" } : Jvm.MethodName)) ∈ lw_tbl := lw_at lw_m2 228 rfl
theorem q553 : (Jvm.Cond.code ({ cls := "java/util/LinkedList$ListItr", name := "hasNext", desc := "()Z" } : Jvm.MethodName) prog_52_method_2_code (1 : Nat) (Option.some Jvm.ClassFile.FieldType.boolean)) ∈ lw_all := lw_g (lw_at lw_m2 229 rfl) rfl
theorem q905 : (Jvm.Cond.selects "java/util/LinkedList$ListItr" ({ cls := "java/util/Iterator", name := "next", desc := "()Ljava/lang/Object;" } : Jvm.MethodName) ({ cls := "java/util/LinkedList$ListItr", name := "next", desc := "()Ljava/lang/Object;" } : Jvm.MethodName)) ∈ lw_all := lw_g (lw_at lw_m4 101 rfl) rfl
theorem q906 : (Jvm.Cond.unhidden "java/util/LinkedList$ListItr" "next" "()Ljava/lang/Object;") ∈ lw_tbl := lw_at lw_m4 102 rfl
theorem q907 : (Jvm.Cond.instanceMethod ({ cls := "java/util/LinkedList$ListItr", name := "next", desc := "()Ljava/lang/Object;" } : Jvm.MethodName)) ∈ lw_all := lw_g (lw_at lw_m4 103 rfl) rfl
theorem q908 : (Jvm.Cond.publicMethod ({ cls := "java/util/LinkedList$ListItr", name := "next", desc := "()Ljava/lang/Object;" } : Jvm.MethodName)) ∈ lw_tbl := lw_at lw_m4 104 rfl
theorem q909 : (Jvm.Cond.code ({ cls := "java/util/LinkedList$ListItr", name := "next", desc := "()Ljava/lang/Object;" } : Jvm.MethodName) prog_52_method_3_code (1 : Nat) (Option.some (Jvm.ClassFile.FieldType.object "java/lang/Object"))) ∈ lw_all := lw_g (lw_at lw_m4 105 rfl) rfl
theorem q910 : (Jvm.Cond.methodLink "java/util/LinkedList$ListItr" (36 : Nat) ({ cls := "java/util/LinkedList$ListItr", name := "checkForComodification", desc := "()V" } : Jvm.MethodName)) ∈ lw_all := lw_g (lw_at lw_m4 106 rfl) rfl
theorem q911 : (Jvm.Cond.instanceMethod ({ cls := "java/util/LinkedList$ListItr", name := "checkForComodification", desc := "()V" } : Jvm.MethodName)) ∈ lw_all := lw_g (lw_at lw_m4 107 rfl) rfl
theorem q912 : (Jvm.Cond.selects "java/util/LinkedList$ListItr" ({ cls := "java/util/LinkedList$ListItr", name := "checkForComodification", desc := "()V" } : Jvm.MethodName) ({ cls := "java/util/LinkedList$ListItr", name := "checkForComodification", desc := "()V" } : Jvm.MethodName)) ∈ lw_all := lw_g (lw_at lw_m4 108 rfl) rfl
theorem q913 : (Jvm.Cond.code ({ cls := "java/util/LinkedList$ListItr", name := "checkForComodification", desc := "()V" } : Jvm.MethodName) prog_52_method_12_code (1 : Nat) (Option.none : Option Jvm.ClassFile.FieldType)) ∈ lw_all := lw_g (lw_at lw_m4 109 rfl) rfl
theorem q914 : (Jvm.Cond.methodLink "java/util/LinkedList$ListItr" (39 : Nat) ({ cls := "java/util/LinkedList$ListItr", name := "hasNext", desc := "()Z" } : Jvm.MethodName)) ∈ lw_all := lw_g (lw_at lw_m4 110 rfl) rfl
theorem q931 : (Jvm.Cond.fieldLink "java/util/LinkedList$ListItr" (52 : Nat) "java/util/LinkedList$Node" "item" "Ljava/lang/Object;") ∈ lw_all := lw_g (lw_at lw_m4 127 rfl) rfl
theorem q934 : (Jvm.Cond.fieldLink "java/util/LinkedList$ListItr" (49 : Nat) "java/util/LinkedList$Node" "next" "Ljava/util/LinkedList$Node;") ∈ lw_all := lw_g (lw_at lw_m4 130 rfl) rfl
theorem q1333 : (Jvm.Cond.selects "java/util/LinkedList$ListItr" ({ cls := "java/util/Iterator", name := "remove", desc := "()V" } : Jvm.MethodName) ({ cls := "java/util/LinkedList$ListItr", name := "remove", desc := "()V" } : Jvm.MethodName)) ∈ lw_all := lw_g (lw_at lw_m6 49 rfl) rfl
theorem q1334 : (Jvm.Cond.unhidden "java/util/LinkedList$ListItr" "remove" "()V") ∈ lw_tbl := lw_at lw_m6 50 rfl
theorem q1335 : (Jvm.Cond.instanceMethod ({ cls := "java/util/LinkedList$ListItr", name := "remove", desc := "()V" } : Jvm.MethodName)) ∈ lw_all := lw_g (lw_at lw_m6 51 rfl) rfl
theorem q1336 : (Jvm.Cond.publicMethod ({ cls := "java/util/LinkedList$ListItr", name := "remove", desc := "()V" } : Jvm.MethodName)) ∈ lw_tbl := lw_at lw_m6 52 rfl
theorem q1337 : (Jvm.Cond.code ({ cls := "java/util/LinkedList$ListItr", name := "remove", desc := "()V" } : Jvm.MethodName) prog_52_method_8_code (2 : Nat) (Option.none : Option Jvm.ClassFile.FieldType)) ∈ lw_all := lw_g (lw_at lw_m6 53 rfl) rfl
theorem q1338 : (Jvm.Cond.methodLink "java/util/LinkedList$ListItr" (68 : Nat) ({ cls := "java/util/LinkedList", name := "unlink", desc := "(Ljava/util/LinkedList$Node;)Ljava/lang/Object;" } : Jvm.MethodName)) ∈ lw_all := lw_g (lw_at lw_m6 54 rfl) rfl
theorem q2257 : (Jvm.Cond.selects "java/util/LinkedList$ListItr" ({ cls := "java/util/LinkedList$ListItr", name := "hasNext", desc := "()Z" } : Jvm.MethodName) ({ cls := "java/util/LinkedList$ListItr", name := "hasNext", desc := "()Z" } : Jvm.MethodName)) ∈ lw_all := lw_g (lw_at lw_m10 13 rfl) rfl
theorem q2282 : (Jvm.Cond.castable "java/util/LinkedList$ListItr" "java/lang/Object") ∈ lw_tbl := lw_at lw_m10 38 rfl
theorem in_J18 : ∀ w ∈ wsJ180, w ∈ lw_all := lw_in wsJ180 [496, 498, 500, 502, 504] (by decide +kernel) (by decide +kernel)

/-! java/lang/Number -/
set_option maxRecDepth 100000
def RJ19 : String := "java/lang/Number"
abbrev cJ19_init : ByteArray := prog_26_method_1_code
def yJ19_init : MethodName := ⟨RJ19, "<init>", "()V"⟩
theorem dJ19_init_0 : decode cJ19_init 0 = .ok (.aload_n 0, 1) := by decide +kernel
theorem dJ19_init_1 : decode cJ19_init 1 = .ok (.invokespecial 1, 3) := by decide +kernel
theorem dJ19_init_4 : decode cJ19_init 4 = .ok (.return_, 1) := by decide +kernel
theorem q109 : (Jvm.Cond.initialized "java/lang/Number") ∈ lw_all := lw_g (lw_at lw_m1 25 rfl) rfl
theorem q584 : (Jvm.Cond.instanceMethod ({ cls := "java/lang/Number", name := "<init>", desc := "()V" } : Jvm.MethodName)) ∈ lw_all := lw_g (lw_at lw_m3 20 rfl) rfl
theorem q585 : (Jvm.Cond.code ({ cls := "java/lang/Number", name := "<init>", desc := "()V" } : Jvm.MethodName) prog_26_method_1_code (1 : Nat) (Option.none : Option Jvm.ClassFile.FieldType)) ∈ lw_all := lw_g (lw_at lw_m3 21 rfl) rfl
theorem q586 : (Jvm.Cond.methodLink "java/lang/Number" (1 : Nat) ({ cls := "java/lang/Object", name := "<init>", desc := "()V" } : Jvm.MethodName)) ∈ lw_all := lw_g (lw_at lw_m3 22 rfl) rfl

/-! java/lang/Integer -/
set_option maxRecDepth 100000
def RJ20 : String := "java/lang/Integer"
def TJ20 : u_T := fun k => match k with
  | _ => ("java/lang/Integer", "value", "I", true)
def tyJ20 : Nat → FieldType := fun k => match k with
  | _ => .int
abbrev wsJ200 : List Cond := u_ws RJ20 TJ20 1
theorem nmJ20 : ∀ a, a < 1 → ∀ b, b < 1 → a ≠ b → (TJ20 a).2.1 ≠ (TJ20 b).2.1 := by decide +kernel
theorem tyJ20_ok : ∀ k, k < 1 → parseFieldDescriptor (TJ20 k).2.2.1 = some (tyJ20 k) := by decide +kernel
abbrev cJ20_numberOfTrailingZeros : ByteArray := prog_22_method_48_code
def yJ20_numberOfTrailingZeros : MethodName := ⟨RJ20, "numberOfTrailingZeros", "(I)I"⟩
def dkwJ20_numberOfTrailingZeros_3 : List UInt8 := [5, 124, 59, 27, 26, 4, 124, 96, 172]
abbrev dktJ20_numberOfTrailingZeros_3 : List UInt8 := dkwJ20_numberOfTrailingZeros_3 ++ []
def dkwJ20_numberOfTrailingZeros_2 : List UInt8 := [124, 59, 26, 16, 16, 164, 0, 10, 132, 1, 4, 26, 7, 124, 59, 26, 7, 164, 0, 10, 132, 1, 2, 26]
abbrev dktJ20_numberOfTrailingZeros_2 : List UInt8 := dkwJ20_numberOfTrailingZeros_2 ++ dktJ20_numberOfTrailingZeros_3
def dkwJ20_numberOfTrailingZeros_1 : List UInt8 := [164, 0, 11, 132, 1, 16, 26, 16, 16, 124, 59, 26, 17, 1, 0, 164, 0, 11, 132, 1, 8, 26, 16, 8]
abbrev dktJ20_numberOfTrailingZeros_1 : List UInt8 := dkwJ20_numberOfTrailingZeros_1 ++ dktJ20_numberOfTrailingZeros_2
def dkwJ20_numberOfTrailingZeros_0 : List UInt8 := [26, 2, 130, 26, 4, 100, 126, 59, 26, 157, 0, 8, 26, 16, 32, 126, 172, 4, 60, 26, 19, 1, 8]
abbrev dktJ20_numberOfTrailingZeros_0 : List UInt8 := dkwJ20_numberOfTrailingZeros_0 ++ dktJ20_numberOfTrailingZeros_1
theorem dksJ20_numberOfTrailingZeros_0 : cJ20_numberOfTrailingZeros.data.toList.drop 0 = dktJ20_numberOfTrailingZeros_0 := by decide +kernel
theorem dksJ20_numberOfTrailingZeros_1 : cJ20_numberOfTrailingZeros.data.toList.drop 23 = dktJ20_numberOfTrailingZeros_1 := dk_seg dksJ20_numberOfTrailingZeros_0 23 rfl rfl
theorem dksJ20_numberOfTrailingZeros_2 : cJ20_numberOfTrailingZeros.data.toList.drop 47 = dktJ20_numberOfTrailingZeros_2 := dk_seg dksJ20_numberOfTrailingZeros_1 24 rfl rfl
theorem dksJ20_numberOfTrailingZeros_3 : cJ20_numberOfTrailingZeros.data.toList.drop 71 = dktJ20_numberOfTrailingZeros_3 := dk_seg dksJ20_numberOfTrailingZeros_2 24 rfl rfl
theorem dJ20_numberOfTrailingZeros_0 : decode cJ20_numberOfTrailingZeros 0 = .ok (.iload_n 0, 1) := dk_26 (dk_at dksJ20_numberOfTrailingZeros_0 0 rfl rfl)
theorem dJ20_numberOfTrailingZeros_1 : decode cJ20_numberOfTrailingZeros 1 = .ok (.iconst (-1), 1) := dk_2 (dk_at dksJ20_numberOfTrailingZeros_0 1 rfl rfl)
theorem dJ20_numberOfTrailingZeros_2 : decode cJ20_numberOfTrailingZeros 2 = .ok (.ixor, 1) := dk_130 (dk_at dksJ20_numberOfTrailingZeros_0 2 rfl rfl)
theorem dJ20_numberOfTrailingZeros_3 : decode cJ20_numberOfTrailingZeros 3 = .ok (.iload_n 0, 1) := dk_26 (dk_at dksJ20_numberOfTrailingZeros_0 3 rfl rfl)
theorem dJ20_numberOfTrailingZeros_4 : decode cJ20_numberOfTrailingZeros 4 = .ok (.iconst 1, 1) := dk_4 (dk_at dksJ20_numberOfTrailingZeros_0 4 rfl rfl)
theorem dJ20_numberOfTrailingZeros_5 : decode cJ20_numberOfTrailingZeros 5 = .ok (.isub, 1) := dk_100 (dk_at dksJ20_numberOfTrailingZeros_0 5 rfl rfl)
theorem dJ20_numberOfTrailingZeros_6 : decode cJ20_numberOfTrailingZeros 6 = .ok (.iand, 1) := dk_126 (dk_at dksJ20_numberOfTrailingZeros_0 6 rfl rfl)
theorem dJ20_numberOfTrailingZeros_7 : decode cJ20_numberOfTrailingZeros 7 = .ok (.istore_n 0, 1) := dk_59 (dk_at dksJ20_numberOfTrailingZeros_0 7 rfl rfl)
theorem dJ20_numberOfTrailingZeros_8 : decode cJ20_numberOfTrailingZeros 8 = .ok (.iload_n 0, 1) := dk_26 (dk_at dksJ20_numberOfTrailingZeros_0 8 rfl rfl)
theorem dJ20_numberOfTrailingZeros_9 : decode cJ20_numberOfTrailingZeros 9 = .ok (.ifCond .gt 8, 3) := dk_157 0 8 (dk_at dksJ20_numberOfTrailingZeros_0 9 rfl rfl)
theorem dJ20_numberOfTrailingZeros_12 : decode cJ20_numberOfTrailingZeros 12 = .ok (.iload_n 0, 1) := dk_26 (dk_at dksJ20_numberOfTrailingZeros_0 12 rfl rfl)
theorem dJ20_numberOfTrailingZeros_13 : decode cJ20_numberOfTrailingZeros 13 = .ok (.bipush 32, 2) := dk_16 32 (dk_at dksJ20_numberOfTrailingZeros_0 13 rfl rfl)
theorem dJ20_numberOfTrailingZeros_15 : decode cJ20_numberOfTrailingZeros 15 = .ok (.iand, 1) := dk_126 (dk_at dksJ20_numberOfTrailingZeros_0 15 rfl rfl)
theorem dJ20_numberOfTrailingZeros_16 : decode cJ20_numberOfTrailingZeros 16 = .ok (.ireturn, 1) := dk_172 (dk_at dksJ20_numberOfTrailingZeros_0 16 rfl rfl)
theorem dJ20_numberOfTrailingZeros_17 : decode cJ20_numberOfTrailingZeros 17 = .ok (.iconst 1, 1) := dk_4 (dk_at dksJ20_numberOfTrailingZeros_0 17 rfl rfl)
theorem dJ20_numberOfTrailingZeros_18 : decode cJ20_numberOfTrailingZeros 18 = .ok (.istore_n 1, 1) := dk_60 (dk_at dksJ20_numberOfTrailingZeros_0 18 rfl rfl)
theorem dJ20_numberOfTrailingZeros_19 : decode cJ20_numberOfTrailingZeros 19 = .ok (.iload_n 0, 1) := dk_26 (dk_at dksJ20_numberOfTrailingZeros_0 19 rfl rfl)
theorem dJ20_numberOfTrailingZeros_20 : decode cJ20_numberOfTrailingZeros 20 = .ok (.ldc_w 264, 3) := dk_19 1 8 (dk_at dksJ20_numberOfTrailingZeros_0 20 rfl rfl)
theorem dJ20_numberOfTrailingZeros_23 : decode cJ20_numberOfTrailingZeros 23 = .ok (.if_icmp .le 11, 3) := dk_164 0 11 (dk_at dksJ20_numberOfTrailingZeros_1 0 rfl rfl)
theorem dJ20_numberOfTrailingZeros_26 : decode cJ20_numberOfTrailingZeros 26 = .ok (.iinc 1 16, 3) := dk_132 1 16 (dk_at dksJ20_numberOfTrailingZeros_1 3 rfl rfl)
theorem dJ20_numberOfTrailingZeros_29 : decode cJ20_numberOfTrailingZeros 29 = .ok (.iload_n 0, 1) := dk_26 (dk_at dksJ20_numberOfTrailingZeros_1 6 rfl rfl)
theorem dJ20_numberOfTrailingZeros_30 : decode cJ20_numberOfTrailingZeros 30 = .ok (.bipush 16, 2) := dk_16 16 (dk_at dksJ20_numberOfTrailingZeros_1 7 rfl rfl)
theorem dJ20_numberOfTrailingZeros_32 : decode cJ20_numberOfTrailingZeros 32 = .ok (.iushr, 1) := dk_124 (dk_at dksJ20_numberOfTrailingZeros_1 9 rfl rfl)
theorem dJ20_numberOfTrailingZeros_33 : decode cJ20_numberOfTrailingZeros 33 = .ok (.istore_n 0, 1) := dk_59 (dk_at dksJ20_numberOfTrailingZeros_1 10 rfl rfl)
theorem dJ20_numberOfTrailingZeros_34 : decode cJ20_numberOfTrailingZeros 34 = .ok (.iload_n 0, 1) := dk_26 (dk_at dksJ20_numberOfTrailingZeros_1 11 rfl rfl)
theorem dJ20_numberOfTrailingZeros_35 : decode cJ20_numberOfTrailingZeros 35 = .ok (.sipush 256, 3) := dk_17 1 0 (dk_at dksJ20_numberOfTrailingZeros_1 12 rfl rfl)
theorem dJ20_numberOfTrailingZeros_38 : decode cJ20_numberOfTrailingZeros 38 = .ok (.if_icmp .le 11, 3) := dk_164 0 11 (dk_at dksJ20_numberOfTrailingZeros_1 15 rfl rfl)
theorem dJ20_numberOfTrailingZeros_41 : decode cJ20_numberOfTrailingZeros 41 = .ok (.iinc 1 8, 3) := dk_132 1 8 (dk_at dksJ20_numberOfTrailingZeros_1 18 rfl rfl)
theorem dJ20_numberOfTrailingZeros_44 : decode cJ20_numberOfTrailingZeros 44 = .ok (.iload_n 0, 1) := dk_26 (dk_at dksJ20_numberOfTrailingZeros_1 21 rfl rfl)
theorem dJ20_numberOfTrailingZeros_45 : decode cJ20_numberOfTrailingZeros 45 = .ok (.bipush 8, 2) := dk_16 8 (dk_at dksJ20_numberOfTrailingZeros_1 22 rfl rfl)
theorem dJ20_numberOfTrailingZeros_47 : decode cJ20_numberOfTrailingZeros 47 = .ok (.iushr, 1) := dk_124 (dk_at dksJ20_numberOfTrailingZeros_2 0 rfl rfl)
theorem dJ20_numberOfTrailingZeros_48 : decode cJ20_numberOfTrailingZeros 48 = .ok (.istore_n 0, 1) := dk_59 (dk_at dksJ20_numberOfTrailingZeros_2 1 rfl rfl)
theorem dJ20_numberOfTrailingZeros_49 : decode cJ20_numberOfTrailingZeros 49 = .ok (.iload_n 0, 1) := dk_26 (dk_at dksJ20_numberOfTrailingZeros_2 2 rfl rfl)
theorem dJ20_numberOfTrailingZeros_50 : decode cJ20_numberOfTrailingZeros 50 = .ok (.bipush 16, 2) := dk_16 16 (dk_at dksJ20_numberOfTrailingZeros_2 3 rfl rfl)
theorem dJ20_numberOfTrailingZeros_52 : decode cJ20_numberOfTrailingZeros 52 = .ok (.if_icmp .le 10, 3) := dk_164 0 10 (dk_at dksJ20_numberOfTrailingZeros_2 5 rfl rfl)
theorem dJ20_numberOfTrailingZeros_55 : decode cJ20_numberOfTrailingZeros 55 = .ok (.iinc 1 4, 3) := dk_132 1 4 (dk_at dksJ20_numberOfTrailingZeros_2 8 rfl rfl)
theorem dJ20_numberOfTrailingZeros_58 : decode cJ20_numberOfTrailingZeros 58 = .ok (.iload_n 0, 1) := dk_26 (dk_at dksJ20_numberOfTrailingZeros_2 11 rfl rfl)
theorem dJ20_numberOfTrailingZeros_59 : decode cJ20_numberOfTrailingZeros 59 = .ok (.iconst 4, 1) := dk_7 (dk_at dksJ20_numberOfTrailingZeros_2 12 rfl rfl)
theorem dJ20_numberOfTrailingZeros_60 : decode cJ20_numberOfTrailingZeros 60 = .ok (.iushr, 1) := dk_124 (dk_at dksJ20_numberOfTrailingZeros_2 13 rfl rfl)
theorem dJ20_numberOfTrailingZeros_61 : decode cJ20_numberOfTrailingZeros 61 = .ok (.istore_n 0, 1) := dk_59 (dk_at dksJ20_numberOfTrailingZeros_2 14 rfl rfl)
theorem dJ20_numberOfTrailingZeros_62 : decode cJ20_numberOfTrailingZeros 62 = .ok (.iload_n 0, 1) := dk_26 (dk_at dksJ20_numberOfTrailingZeros_2 15 rfl rfl)
theorem dJ20_numberOfTrailingZeros_63 : decode cJ20_numberOfTrailingZeros 63 = .ok (.iconst 4, 1) := dk_7 (dk_at dksJ20_numberOfTrailingZeros_2 16 rfl rfl)
theorem dJ20_numberOfTrailingZeros_64 : decode cJ20_numberOfTrailingZeros 64 = .ok (.if_icmp .le 10, 3) := dk_164 0 10 (dk_at dksJ20_numberOfTrailingZeros_2 17 rfl rfl)
theorem dJ20_numberOfTrailingZeros_67 : decode cJ20_numberOfTrailingZeros 67 = .ok (.iinc 1 2, 3) := dk_132 1 2 (dk_at dksJ20_numberOfTrailingZeros_2 20 rfl rfl)
theorem dJ20_numberOfTrailingZeros_70 : decode cJ20_numberOfTrailingZeros 70 = .ok (.iload_n 0, 1) := dk_26 (dk_at dksJ20_numberOfTrailingZeros_2 23 rfl rfl)
theorem dJ20_numberOfTrailingZeros_71 : decode cJ20_numberOfTrailingZeros 71 = .ok (.iconst 2, 1) := dk_5 (dk_at dksJ20_numberOfTrailingZeros_3 0 rfl rfl)
theorem dJ20_numberOfTrailingZeros_72 : decode cJ20_numberOfTrailingZeros 72 = .ok (.iushr, 1) := dk_124 (dk_at dksJ20_numberOfTrailingZeros_3 1 rfl rfl)
theorem dJ20_numberOfTrailingZeros_73 : decode cJ20_numberOfTrailingZeros 73 = .ok (.istore_n 0, 1) := dk_59 (dk_at dksJ20_numberOfTrailingZeros_3 2 rfl rfl)
theorem dJ20_numberOfTrailingZeros_74 : decode cJ20_numberOfTrailingZeros 74 = .ok (.iload_n 1, 1) := dk_27 (dk_at dksJ20_numberOfTrailingZeros_3 3 rfl rfl)
theorem dJ20_numberOfTrailingZeros_75 : decode cJ20_numberOfTrailingZeros 75 = .ok (.iload_n 0, 1) := dk_26 (dk_at dksJ20_numberOfTrailingZeros_3 4 rfl rfl)
theorem dJ20_numberOfTrailingZeros_76 : decode cJ20_numberOfTrailingZeros 76 = .ok (.iconst 1, 1) := dk_4 (dk_at dksJ20_numberOfTrailingZeros_3 5 rfl rfl)
theorem dJ20_numberOfTrailingZeros_77 : decode cJ20_numberOfTrailingZeros 77 = .ok (.iushr, 1) := dk_124 (dk_at dksJ20_numberOfTrailingZeros_3 6 rfl rfl)
theorem dJ20_numberOfTrailingZeros_78 : decode cJ20_numberOfTrailingZeros 78 = .ok (.iadd, 1) := dk_96 (dk_at dksJ20_numberOfTrailingZeros_3 7 rfl rfl)
theorem dJ20_numberOfTrailingZeros_79 : decode cJ20_numberOfTrailingZeros 79 = .ok (.ireturn, 1) := dk_172 (dk_at dksJ20_numberOfTrailingZeros_3 8 rfl rfl)
abbrev cJ20_valueOf : ByteArray := prog_22_method_22_code
def yJ20_valueOf : MethodName := ⟨RJ20, "valueOf", "(I)Ljava/lang/Integer;"⟩
def dkwJ20_valueOf_1 : List UInt8 := [187, 0, 1, 89, 26, 183, 0, 199, 176]
abbrev dktJ20_valueOf_1 : List UInt8 := dkwJ20_valueOf_1 ++ []
def dkwJ20_valueOf_0 : List UInt8 := [26, 16, 128, 161, 0, 20, 26, 178, 0, 191, 163, 0, 13, 178, 0, 195, 26, 17, 0, 128, 96, 50, 176]
abbrev dktJ20_valueOf_0 : List UInt8 := dkwJ20_valueOf_0 ++ dktJ20_valueOf_1
theorem dksJ20_valueOf_0 : cJ20_valueOf.data.toList.drop 0 = dktJ20_valueOf_0 := by decide +kernel
theorem dksJ20_valueOf_1 : cJ20_valueOf.data.toList.drop 23 = dktJ20_valueOf_1 := dk_seg dksJ20_valueOf_0 23 rfl rfl
theorem dJ20_valueOf_0 : decode cJ20_valueOf 0 = .ok (.iload_n 0, 1) := dk_26 (dk_at dksJ20_valueOf_0 0 rfl rfl)
theorem dJ20_valueOf_1 : decode cJ20_valueOf 1 = .ok (.bipush (-128), 2) := dk_16 128 (dk_at dksJ20_valueOf_0 1 rfl rfl)
theorem dJ20_valueOf_3 : decode cJ20_valueOf 3 = .ok (.if_icmp .lt 20, 3) := dk_161 0 20 (dk_at dksJ20_valueOf_0 3 rfl rfl)
theorem dJ20_valueOf_6 : decode cJ20_valueOf 6 = .ok (.iload_n 0, 1) := dk_26 (dk_at dksJ20_valueOf_0 6 rfl rfl)
theorem dJ20_valueOf_7 : decode cJ20_valueOf 7 = .ok (.getstatic 191, 3) := dk_178 0 191 (dk_at dksJ20_valueOf_0 7 rfl rfl)
theorem dJ20_valueOf_10 : decode cJ20_valueOf 10 = .ok (.if_icmp .gt 13, 3) := dk_163 0 13 (dk_at dksJ20_valueOf_0 10 rfl rfl)
theorem dJ20_valueOf_13 : decode cJ20_valueOf 13 = .ok (.getstatic 195, 3) := dk_178 0 195 (dk_at dksJ20_valueOf_0 13 rfl rfl)
theorem dJ20_valueOf_16 : decode cJ20_valueOf 16 = .ok (.iload_n 0, 1) := dk_26 (dk_at dksJ20_valueOf_0 16 rfl rfl)
theorem dJ20_valueOf_17 : decode cJ20_valueOf 17 = .ok (.sipush 128, 3) := dk_17 0 128 (dk_at dksJ20_valueOf_0 17 rfl rfl)
theorem dJ20_valueOf_20 : decode cJ20_valueOf 20 = .ok (.iadd, 1) := dk_96 (dk_at dksJ20_valueOf_0 20 rfl rfl)
theorem dJ20_valueOf_21 : decode cJ20_valueOf 21 = .ok (.aaload, 1) := dk_50 (dk_at dksJ20_valueOf_0 21 rfl rfl)
theorem dJ20_valueOf_22 : decode cJ20_valueOf 22 = .ok (.areturn, 1) := dk_176 (dk_at dksJ20_valueOf_0 22 rfl rfl)
theorem dJ20_valueOf_23 : decode cJ20_valueOf 23 = .ok (.new 1, 3) := dk_187 0 1 (dk_at dksJ20_valueOf_1 0 rfl rfl)
theorem dJ20_valueOf_26 : decode cJ20_valueOf 26 = .ok (.dup, 1) := dk_89 (dk_at dksJ20_valueOf_1 3 rfl rfl)
theorem dJ20_valueOf_27 : decode cJ20_valueOf 27 = .ok (.iload_n 0, 1) := dk_26 (dk_at dksJ20_valueOf_1 4 rfl rfl)
theorem dJ20_valueOf_28 : decode cJ20_valueOf 28 = .ok (.invokespecial 199, 3) := dk_183 0 199 (dk_at dksJ20_valueOf_1 5 rfl rfl)
theorem dJ20_valueOf_31 : decode cJ20_valueOf 31 = .ok (.areturn, 1) := dk_176 (dk_at dksJ20_valueOf_1 8 rfl rfl)
abbrev cJ20_init : ByteArray := prog_22_method_23_code
def yJ20_init : MethodName := ⟨RJ20, "<init>", "(I)V"⟩
def dkwJ20_init_0 : List UInt8 := [42, 183, 0, 202, 42, 27, 181, 0, 205, 177]
abbrev dktJ20_init_0 : List UInt8 := dkwJ20_init_0 ++ []
theorem dksJ20_init_0 : cJ20_init.data.toList.drop 0 = dktJ20_init_0 := by decide +kernel
theorem dJ20_init_0 : decode cJ20_init 0 = .ok (.aload_n 0, 1) := dk_42 (dk_at dksJ20_init_0 0 rfl rfl)
theorem dJ20_init_1 : decode cJ20_init 1 = .ok (.invokespecial 202, 3) := dk_183 0 202 (dk_at dksJ20_init_0 1 rfl rfl)
theorem dJ20_init_4 : decode cJ20_init 4 = .ok (.aload_n 0, 1) := dk_42 (dk_at dksJ20_init_0 4 rfl rfl)
theorem dJ20_init_5 : decode cJ20_init 5 = .ok (.iload_n 1, 1) := dk_27 (dk_at dksJ20_init_0 5 rfl rfl)
theorem dJ20_init_6 : decode cJ20_init 6 = .ok (.putfield 205, 3) := dk_181 0 205 (dk_at dksJ20_init_0 6 rfl rfl)
theorem dJ20_init_9 : decode cJ20_init 9 = .ok (.return_, 1) := dk_177 (dk_at dksJ20_init_0 9 rfl rfl)
abbrev cJ20_bitCount : ByteArray := prog_22_method_49_code
def yJ20_bitCount : MethodName := ⟨RJ20, "bitCount", "(I)I"⟩
def dkwJ20_bitCount_2 : List UInt8 := [26, 16, 63, 126, 172]
abbrev dktJ20_bitCount_2 : List UInt8 := dkwJ20_bitCount_2 ++ []
def dkwJ20_bitCount_1 : List UInt8 := [26, 26, 7, 124, 96, 19, 1, 11, 126, 59, 26, 26, 16, 8, 124, 96, 59, 26, 26, 16, 16, 124, 96, 59]
abbrev dktJ20_bitCount_1 : List UInt8 := dkwJ20_bitCount_1 ++ dktJ20_bitCount_2
def dkwJ20_bitCount_0 : List UInt8 := [26, 26, 4, 124, 19, 1, 9, 126, 100, 59, 26, 19, 1, 10, 126, 26, 5, 124, 19, 1, 10, 126, 96, 59]
abbrev dktJ20_bitCount_0 : List UInt8 := dkwJ20_bitCount_0 ++ dktJ20_bitCount_1
theorem dksJ20_bitCount_0 : cJ20_bitCount.data.toList.drop 0 = dktJ20_bitCount_0 := by decide +kernel
theorem dksJ20_bitCount_1 : cJ20_bitCount.data.toList.drop 24 = dktJ20_bitCount_1 := dk_seg dksJ20_bitCount_0 24 rfl rfl
theorem dksJ20_bitCount_2 : cJ20_bitCount.data.toList.drop 48 = dktJ20_bitCount_2 := dk_seg dksJ20_bitCount_1 24 rfl rfl
theorem dJ20_bitCount_0 : decode cJ20_bitCount 0 = .ok (.iload_n 0, 1) := dk_26 (dk_at dksJ20_bitCount_0 0 rfl rfl)
theorem dJ20_bitCount_1 : decode cJ20_bitCount 1 = .ok (.iload_n 0, 1) := dk_26 (dk_at dksJ20_bitCount_0 1 rfl rfl)
theorem dJ20_bitCount_2 : decode cJ20_bitCount 2 = .ok (.iconst 1, 1) := dk_4 (dk_at dksJ20_bitCount_0 2 rfl rfl)
theorem dJ20_bitCount_3 : decode cJ20_bitCount 3 = .ok (.iushr, 1) := dk_124 (dk_at dksJ20_bitCount_0 3 rfl rfl)
theorem dJ20_bitCount_4 : decode cJ20_bitCount 4 = .ok (.ldc_w 265, 3) := dk_19 1 9 (dk_at dksJ20_bitCount_0 4 rfl rfl)
theorem dJ20_bitCount_7 : decode cJ20_bitCount 7 = .ok (.iand, 1) := dk_126 (dk_at dksJ20_bitCount_0 7 rfl rfl)
theorem dJ20_bitCount_8 : decode cJ20_bitCount 8 = .ok (.isub, 1) := dk_100 (dk_at dksJ20_bitCount_0 8 rfl rfl)
theorem dJ20_bitCount_9 : decode cJ20_bitCount 9 = .ok (.istore_n 0, 1) := dk_59 (dk_at dksJ20_bitCount_0 9 rfl rfl)
theorem dJ20_bitCount_10 : decode cJ20_bitCount 10 = .ok (.iload_n 0, 1) := dk_26 (dk_at dksJ20_bitCount_0 10 rfl rfl)
theorem dJ20_bitCount_11 : decode cJ20_bitCount 11 = .ok (.ldc_w 266, 3) := dk_19 1 10 (dk_at dksJ20_bitCount_0 11 rfl rfl)
theorem dJ20_bitCount_14 : decode cJ20_bitCount 14 = .ok (.iand, 1) := dk_126 (dk_at dksJ20_bitCount_0 14 rfl rfl)
theorem dJ20_bitCount_15 : decode cJ20_bitCount 15 = .ok (.iload_n 0, 1) := dk_26 (dk_at dksJ20_bitCount_0 15 rfl rfl)
theorem dJ20_bitCount_16 : decode cJ20_bitCount 16 = .ok (.iconst 2, 1) := dk_5 (dk_at dksJ20_bitCount_0 16 rfl rfl)
theorem dJ20_bitCount_17 : decode cJ20_bitCount 17 = .ok (.iushr, 1) := dk_124 (dk_at dksJ20_bitCount_0 17 rfl rfl)
theorem dJ20_bitCount_18 : decode cJ20_bitCount 18 = .ok (.ldc_w 266, 3) := dk_19 1 10 (dk_at dksJ20_bitCount_0 18 rfl rfl)
theorem dJ20_bitCount_21 : decode cJ20_bitCount 21 = .ok (.iand, 1) := dk_126 (dk_at dksJ20_bitCount_0 21 rfl rfl)
theorem dJ20_bitCount_22 : decode cJ20_bitCount 22 = .ok (.iadd, 1) := dk_96 (dk_at dksJ20_bitCount_0 22 rfl rfl)
theorem dJ20_bitCount_23 : decode cJ20_bitCount 23 = .ok (.istore_n 0, 1) := dk_59 (dk_at dksJ20_bitCount_0 23 rfl rfl)
theorem dJ20_bitCount_24 : decode cJ20_bitCount 24 = .ok (.iload_n 0, 1) := dk_26 (dk_at dksJ20_bitCount_1 0 rfl rfl)
theorem dJ20_bitCount_25 : decode cJ20_bitCount 25 = .ok (.iload_n 0, 1) := dk_26 (dk_at dksJ20_bitCount_1 1 rfl rfl)
theorem dJ20_bitCount_26 : decode cJ20_bitCount 26 = .ok (.iconst 4, 1) := dk_7 (dk_at dksJ20_bitCount_1 2 rfl rfl)
theorem dJ20_bitCount_27 : decode cJ20_bitCount 27 = .ok (.iushr, 1) := dk_124 (dk_at dksJ20_bitCount_1 3 rfl rfl)
theorem dJ20_bitCount_28 : decode cJ20_bitCount 28 = .ok (.iadd, 1) := dk_96 (dk_at dksJ20_bitCount_1 4 rfl rfl)
theorem dJ20_bitCount_29 : decode cJ20_bitCount 29 = .ok (.ldc_w 267, 3) := dk_19 1 11 (dk_at dksJ20_bitCount_1 5 rfl rfl)
theorem dJ20_bitCount_32 : decode cJ20_bitCount 32 = .ok (.iand, 1) := dk_126 (dk_at dksJ20_bitCount_1 8 rfl rfl)
theorem dJ20_bitCount_33 : decode cJ20_bitCount 33 = .ok (.istore_n 0, 1) := dk_59 (dk_at dksJ20_bitCount_1 9 rfl rfl)
theorem dJ20_bitCount_34 : decode cJ20_bitCount 34 = .ok (.iload_n 0, 1) := dk_26 (dk_at dksJ20_bitCount_1 10 rfl rfl)
theorem dJ20_bitCount_35 : decode cJ20_bitCount 35 = .ok (.iload_n 0, 1) := dk_26 (dk_at dksJ20_bitCount_1 11 rfl rfl)
theorem dJ20_bitCount_36 : decode cJ20_bitCount 36 = .ok (.bipush 8, 2) := dk_16 8 (dk_at dksJ20_bitCount_1 12 rfl rfl)
theorem dJ20_bitCount_38 : decode cJ20_bitCount 38 = .ok (.iushr, 1) := dk_124 (dk_at dksJ20_bitCount_1 14 rfl rfl)
theorem dJ20_bitCount_39 : decode cJ20_bitCount 39 = .ok (.iadd, 1) := dk_96 (dk_at dksJ20_bitCount_1 15 rfl rfl)
theorem dJ20_bitCount_40 : decode cJ20_bitCount 40 = .ok (.istore_n 0, 1) := dk_59 (dk_at dksJ20_bitCount_1 16 rfl rfl)
theorem dJ20_bitCount_41 : decode cJ20_bitCount 41 = .ok (.iload_n 0, 1) := dk_26 (dk_at dksJ20_bitCount_1 17 rfl rfl)
theorem dJ20_bitCount_42 : decode cJ20_bitCount 42 = .ok (.iload_n 0, 1) := dk_26 (dk_at dksJ20_bitCount_1 18 rfl rfl)
theorem dJ20_bitCount_43 : decode cJ20_bitCount 43 = .ok (.bipush 16, 2) := dk_16 16 (dk_at dksJ20_bitCount_1 19 rfl rfl)
theorem dJ20_bitCount_45 : decode cJ20_bitCount 45 = .ok (.iushr, 1) := dk_124 (dk_at dksJ20_bitCount_1 21 rfl rfl)
theorem dJ20_bitCount_46 : decode cJ20_bitCount 46 = .ok (.iadd, 1) := dk_96 (dk_at dksJ20_bitCount_1 22 rfl rfl)
theorem dJ20_bitCount_47 : decode cJ20_bitCount 47 = .ok (.istore_n 0, 1) := dk_59 (dk_at dksJ20_bitCount_1 23 rfl rfl)
theorem dJ20_bitCount_48 : decode cJ20_bitCount 48 = .ok (.iload_n 0, 1) := dk_26 (dk_at dksJ20_bitCount_2 0 rfl rfl)
theorem dJ20_bitCount_49 : decode cJ20_bitCount 49 = .ok (.bipush 63, 2) := dk_16 63 (dk_at dksJ20_bitCount_2 1 rfl rfl)
theorem dJ20_bitCount_51 : decode cJ20_bitCount 51 = .ok (.iand, 1) := dk_126 (dk_at dksJ20_bitCount_2 3 rfl rfl)
theorem dJ20_bitCount_52 : decode cJ20_bitCount 52 = .ok (.ireturn, 1) := dk_172 (dk_at dksJ20_bitCount_2 4 rfl rfl)
abbrev cJ20_intValue : ByteArray := prog_22_method_27_code
def yJ20_intValue : MethodName := ⟨RJ20, "intValue", "()I"⟩
theorem dJ20_intValue_0 : decode cJ20_intValue 0 = .ok (.aload_n 0, 1) := by decide +kernel
theorem dJ20_intValue_1 : decode cJ20_intValue 1 = .ok (.getfield 205, 3) := by decide +kernel
theorem dJ20_intValue_4 : decode cJ20_intValue 4 = .ok (.ireturn, 1) := by decide +kernel
abbrev cJ20_stringSize : ByteArray := prog_22_method_13_code
def yJ20_stringSize : MethodName := ⟨RJ20, "stringSize", "(I)I"⟩
def dkwJ20_stringSize_1 : List UInt8 := [164, 0, 7, 29, 27, 96, 172, 16, 10, 28, 104, 61, 132, 3, 1, 167, 255, 233, 16, 10, 27, 96, 172]
abbrev dktJ20_stringSize_1 : List UInt8 := dkwJ20_stringSize_1 ++ []
def dkwJ20_stringSize_0 : List UInt8 := [4, 60, 26, 155, 0, 8, 3, 60, 26, 116, 59, 16, 246, 61, 4, 62, 29, 16, 10, 162, 0, 23, 26, 28]
abbrev dktJ20_stringSize_0 : List UInt8 := dkwJ20_stringSize_0 ++ dktJ20_stringSize_1
theorem dksJ20_stringSize_0 : cJ20_stringSize.data.toList.drop 0 = dktJ20_stringSize_0 := by decide +kernel
theorem dksJ20_stringSize_1 : cJ20_stringSize.data.toList.drop 24 = dktJ20_stringSize_1 := dk_seg dksJ20_stringSize_0 24 rfl rfl
theorem dJ20_stringSize_0 : decode cJ20_stringSize 0 = .ok (.iconst 1, 1) := dk_4 (dk_at dksJ20_stringSize_0 0 rfl rfl)
theorem dJ20_stringSize_1 : decode cJ20_stringSize 1 = .ok (.istore_n 1, 1) := dk_60 (dk_at dksJ20_stringSize_0 1 rfl rfl)
theorem dJ20_stringSize_2 : decode cJ20_stringSize 2 = .ok (.iload_n 0, 1) := dk_26 (dk_at dksJ20_stringSize_0 2 rfl rfl)
theorem dJ20_stringSize_3 : decode cJ20_stringSize 3 = .ok (.ifCond .lt 8, 3) := dk_155 0 8 (dk_at dksJ20_stringSize_0 3 rfl rfl)
theorem dJ20_stringSize_6 : decode cJ20_stringSize 6 = .ok (.iconst 0, 1) := dk_3 (dk_at dksJ20_stringSize_0 6 rfl rfl)
theorem dJ20_stringSize_7 : decode cJ20_stringSize 7 = .ok (.istore_n 1, 1) := dk_60 (dk_at dksJ20_stringSize_0 7 rfl rfl)
theorem dJ20_stringSize_8 : decode cJ20_stringSize 8 = .ok (.iload_n 0, 1) := dk_26 (dk_at dksJ20_stringSize_0 8 rfl rfl)
theorem dJ20_stringSize_9 : decode cJ20_stringSize 9 = .ok (.ineg, 1) := dk_116 (dk_at dksJ20_stringSize_0 9 rfl rfl)
theorem dJ20_stringSize_10 : decode cJ20_stringSize 10 = .ok (.istore_n 0, 1) := dk_59 (dk_at dksJ20_stringSize_0 10 rfl rfl)
theorem dJ20_stringSize_11 : decode cJ20_stringSize 11 = .ok (.bipush (-10), 2) := dk_16 246 (dk_at dksJ20_stringSize_0 11 rfl rfl)
theorem dJ20_stringSize_13 : decode cJ20_stringSize 13 = .ok (.istore_n 2, 1) := dk_61 (dk_at dksJ20_stringSize_0 13 rfl rfl)
theorem dJ20_stringSize_14 : decode cJ20_stringSize 14 = .ok (.iconst 1, 1) := dk_4 (dk_at dksJ20_stringSize_0 14 rfl rfl)
theorem dJ20_stringSize_15 : decode cJ20_stringSize 15 = .ok (.istore_n 3, 1) := dk_62 (dk_at dksJ20_stringSize_0 15 rfl rfl)
theorem dJ20_stringSize_16 : decode cJ20_stringSize 16 = .ok (.iload_n 3, 1) := dk_29 (dk_at dksJ20_stringSize_0 16 rfl rfl)
theorem dJ20_stringSize_17 : decode cJ20_stringSize 17 = .ok (.bipush 10, 2) := dk_16 10 (dk_at dksJ20_stringSize_0 17 rfl rfl)
theorem dJ20_stringSize_19 : decode cJ20_stringSize 19 = .ok (.if_icmp .ge 23, 3) := dk_162 0 23 (dk_at dksJ20_stringSize_0 19 rfl rfl)
theorem dJ20_stringSize_22 : decode cJ20_stringSize 22 = .ok (.iload_n 0, 1) := dk_26 (dk_at dksJ20_stringSize_0 22 rfl rfl)
theorem dJ20_stringSize_23 : decode cJ20_stringSize 23 = .ok (.iload_n 2, 1) := dk_28 (dk_at dksJ20_stringSize_0 23 rfl rfl)
theorem dJ20_stringSize_24 : decode cJ20_stringSize 24 = .ok (.if_icmp .le 7, 3) := dk_164 0 7 (dk_at dksJ20_stringSize_1 0 rfl rfl)
theorem dJ20_stringSize_27 : decode cJ20_stringSize 27 = .ok (.iload_n 3, 1) := dk_29 (dk_at dksJ20_stringSize_1 3 rfl rfl)
theorem dJ20_stringSize_28 : decode cJ20_stringSize 28 = .ok (.iload_n 1, 1) := dk_27 (dk_at dksJ20_stringSize_1 4 rfl rfl)
theorem dJ20_stringSize_29 : decode cJ20_stringSize 29 = .ok (.iadd, 1) := dk_96 (dk_at dksJ20_stringSize_1 5 rfl rfl)
theorem dJ20_stringSize_30 : decode cJ20_stringSize 30 = .ok (.ireturn, 1) := dk_172 (dk_at dksJ20_stringSize_1 6 rfl rfl)
theorem dJ20_stringSize_31 : decode cJ20_stringSize 31 = .ok (.bipush 10, 2) := dk_16 10 (dk_at dksJ20_stringSize_1 7 rfl rfl)
theorem dJ20_stringSize_33 : decode cJ20_stringSize 33 = .ok (.iload_n 2, 1) := dk_28 (dk_at dksJ20_stringSize_1 9 rfl rfl)
theorem dJ20_stringSize_34 : decode cJ20_stringSize 34 = .ok (.imul, 1) := dk_104 (dk_at dksJ20_stringSize_1 10 rfl rfl)
theorem dJ20_stringSize_35 : decode cJ20_stringSize 35 = .ok (.istore_n 2, 1) := dk_61 (dk_at dksJ20_stringSize_1 11 rfl rfl)
theorem dJ20_stringSize_36 : decode cJ20_stringSize 36 = .ok (.iinc 3 1, 3) := dk_132 3 1 (dk_at dksJ20_stringSize_1 12 rfl rfl)
theorem dJ20_stringSize_39 : decode cJ20_stringSize 39 = .ok (.goto (-23), 3) := dk_167 255 233 (dk_at dksJ20_stringSize_1 15 rfl rfl)
theorem dJ20_stringSize_42 : decode cJ20_stringSize 42 = .ok (.bipush 10, 2) := dk_16 10 (dk_at dksJ20_stringSize_1 18 rfl rfl)
theorem dJ20_stringSize_44 : decode cJ20_stringSize 44 = .ok (.iload_n 1, 1) := dk_27 (dk_at dksJ20_stringSize_1 20 rfl rfl)
theorem dJ20_stringSize_45 : decode cJ20_stringSize 45 = .ok (.iadd, 1) := dk_96 (dk_at dksJ20_stringSize_1 21 rfl rfl)
theorem dJ20_stringSize_46 : decode cJ20_stringSize 46 = .ok (.ireturn, 1) := dk_172 (dk_at dksJ20_stringSize_1 22 rfl rfl)
abbrev cJ20_getChars : ByteArray := prog_22_method_12_code
def yJ20_getChars : MethodName := ⟨RJ20, "getChars", "(II[B)I"⟩
def dkwJ20_getChars_5 : List UInt8 := [16, 45, 84, 21, 5, 172]
abbrev dktJ20_getChars_5 : List UInt8 := dkwJ20_getChars_5 ++ []
def dkwJ20_getChars_4 : List UInt8 := [132, 5, 255, 21, 5, 178, 0, 87, 26, 116, 51, 84, 21, 6, 153, 0, 12, 44, 132, 5, 255, 21, 5]
abbrev dktJ20_getChars_4 : List UInt8 := dkwJ20_getChars_4 ++ dktJ20_getChars_5
def dkwJ20_getChars_3 : List UInt8 := [167, 255, 209, 44, 132, 5, 255, 21, 5, 178, 0, 83, 26, 116, 51, 84, 26, 16, 247, 162, 0, 16, 44]
abbrev dktJ20_getChars_3 : List UInt8 := dkwJ20_getChars_3 ++ dktJ20_getChars_4
def dkwJ20_getChars_2 : List UInt8 := [21, 5, 178, 0, 83, 21, 4, 51, 84, 44, 132, 5, 255, 21, 5, 178, 0, 87, 21, 4, 51, 84]
abbrev dktJ20_getChars_2 : List UInt8 := dkwJ20_getChars_2 ++ dktJ20_getChars_3
def dkwJ20_getChars_1 : List UInt8 := [16, 156, 163, 0, 47, 26, 16, 100, 108, 62, 29, 16, 100, 104, 26, 100, 54, 4, 29, 59, 44, 132, 5, 255]
abbrev dktJ20_getChars_1 : List UInt8 := dkwJ20_getChars_1 ++ dktJ20_getChars_2
def dkwJ20_getChars_0 : List UInt8 := [27, 54, 5, 26, 156, 0, 7, 4, 167, 0, 4, 3, 54, 6, 21, 6, 154, 0, 6, 26, 116, 59, 26]
abbrev dktJ20_getChars_0 : List UInt8 := dkwJ20_getChars_0 ++ dktJ20_getChars_1
theorem dksJ20_getChars_0 : cJ20_getChars.data.toList.drop 0 = dktJ20_getChars_0 := by decide +kernel
theorem dksJ20_getChars_1 : cJ20_getChars.data.toList.drop 23 = dktJ20_getChars_1 := dk_seg dksJ20_getChars_0 23 rfl rfl
theorem dksJ20_getChars_2 : cJ20_getChars.data.toList.drop 47 = dktJ20_getChars_2 := dk_seg dksJ20_getChars_1 24 rfl rfl
theorem dksJ20_getChars_3 : cJ20_getChars.data.toList.drop 69 = dktJ20_getChars_3 := dk_seg dksJ20_getChars_2 22 rfl rfl
theorem dksJ20_getChars_4 : cJ20_getChars.data.toList.drop 92 = dktJ20_getChars_4 := dk_seg dksJ20_getChars_3 23 rfl rfl
theorem dksJ20_getChars_5 : cJ20_getChars.data.toList.drop 115 = dktJ20_getChars_5 := dk_seg dksJ20_getChars_4 23 rfl rfl
theorem dJ20_getChars_0 : decode cJ20_getChars 0 = .ok (.iload_n 1, 1) := dk_27 (dk_at dksJ20_getChars_0 0 rfl rfl)
theorem dJ20_getChars_1 : decode cJ20_getChars 1 = .ok (.istore 5, 2) := dk_54 5 (dk_at dksJ20_getChars_0 1 rfl rfl)
theorem dJ20_getChars_3 : decode cJ20_getChars 3 = .ok (.iload_n 0, 1) := dk_26 (dk_at dksJ20_getChars_0 3 rfl rfl)
theorem dJ20_getChars_4 : decode cJ20_getChars 4 = .ok (.ifCond .ge 7, 3) := dk_156 0 7 (dk_at dksJ20_getChars_0 4 rfl rfl)
theorem dJ20_getChars_7 : decode cJ20_getChars 7 = .ok (.iconst 1, 1) := dk_4 (dk_at dksJ20_getChars_0 7 rfl rfl)
theorem dJ20_getChars_8 : decode cJ20_getChars 8 = .ok (.goto 4, 3) := dk_167 0 4 (dk_at dksJ20_getChars_0 8 rfl rfl)
theorem dJ20_getChars_11 : decode cJ20_getChars 11 = .ok (.iconst 0, 1) := dk_3 (dk_at dksJ20_getChars_0 11 rfl rfl)
theorem dJ20_getChars_12 : decode cJ20_getChars 12 = .ok (.istore 6, 2) := dk_54 6 (dk_at dksJ20_getChars_0 12 rfl rfl)
theorem dJ20_getChars_14 : decode cJ20_getChars 14 = .ok (.iload 6, 2) := dk_21 6 (dk_at dksJ20_getChars_0 14 rfl rfl)
theorem dJ20_getChars_16 : decode cJ20_getChars 16 = .ok (.ifCond .ne 6, 3) := dk_154 0 6 (dk_at dksJ20_getChars_0 16 rfl rfl)
theorem dJ20_getChars_19 : decode cJ20_getChars 19 = .ok (.iload_n 0, 1) := dk_26 (dk_at dksJ20_getChars_0 19 rfl rfl)
theorem dJ20_getChars_20 : decode cJ20_getChars 20 = .ok (.ineg, 1) := dk_116 (dk_at dksJ20_getChars_0 20 rfl rfl)
theorem dJ20_getChars_21 : decode cJ20_getChars 21 = .ok (.istore_n 0, 1) := dk_59 (dk_at dksJ20_getChars_0 21 rfl rfl)
theorem dJ20_getChars_22 : decode cJ20_getChars 22 = .ok (.iload_n 0, 1) := dk_26 (dk_at dksJ20_getChars_0 22 rfl rfl)
theorem dJ20_getChars_23 : decode cJ20_getChars 23 = .ok (.bipush (-100), 2) := dk_16 156 (dk_at dksJ20_getChars_1 0 rfl rfl)
theorem dJ20_getChars_25 : decode cJ20_getChars 25 = .ok (.if_icmp .gt 47, 3) := dk_163 0 47 (dk_at dksJ20_getChars_1 2 rfl rfl)
theorem dJ20_getChars_28 : decode cJ20_getChars 28 = .ok (.iload_n 0, 1) := dk_26 (dk_at dksJ20_getChars_1 5 rfl rfl)
theorem dJ20_getChars_29 : decode cJ20_getChars 29 = .ok (.bipush 100, 2) := dk_16 100 (dk_at dksJ20_getChars_1 6 rfl rfl)
theorem dJ20_getChars_31 : decode cJ20_getChars 31 = .ok (.idiv, 1) := dk_108 (dk_at dksJ20_getChars_1 8 rfl rfl)
theorem dJ20_getChars_32 : decode cJ20_getChars 32 = .ok (.istore_n 3, 1) := dk_62 (dk_at dksJ20_getChars_1 9 rfl rfl)
theorem dJ20_getChars_33 : decode cJ20_getChars 33 = .ok (.iload_n 3, 1) := dk_29 (dk_at dksJ20_getChars_1 10 rfl rfl)
theorem dJ20_getChars_34 : decode cJ20_getChars 34 = .ok (.bipush 100, 2) := dk_16 100 (dk_at dksJ20_getChars_1 11 rfl rfl)
theorem dJ20_getChars_36 : decode cJ20_getChars 36 = .ok (.imul, 1) := dk_104 (dk_at dksJ20_getChars_1 13 rfl rfl)
theorem dJ20_getChars_37 : decode cJ20_getChars 37 = .ok (.iload_n 0, 1) := dk_26 (dk_at dksJ20_getChars_1 14 rfl rfl)
theorem dJ20_getChars_38 : decode cJ20_getChars 38 = .ok (.isub, 1) := dk_100 (dk_at dksJ20_getChars_1 15 rfl rfl)
theorem dJ20_getChars_39 : decode cJ20_getChars 39 = .ok (.istore 4, 2) := dk_54 4 (dk_at dksJ20_getChars_1 16 rfl rfl)
theorem dJ20_getChars_41 : decode cJ20_getChars 41 = .ok (.iload_n 3, 1) := dk_29 (dk_at dksJ20_getChars_1 18 rfl rfl)
theorem dJ20_getChars_42 : decode cJ20_getChars 42 = .ok (.istore_n 0, 1) := dk_59 (dk_at dksJ20_getChars_1 19 rfl rfl)
theorem dJ20_getChars_43 : decode cJ20_getChars 43 = .ok (.aload_n 2, 1) := dk_44 (dk_at dksJ20_getChars_1 20 rfl rfl)
theorem dJ20_getChars_44 : decode cJ20_getChars 44 = .ok (.iinc 5 (-1), 3) := dk_132 5 255 (dk_at dksJ20_getChars_1 21 rfl rfl)
theorem dJ20_getChars_47 : decode cJ20_getChars 47 = .ok (.iload 5, 2) := dk_21 5 (dk_at dksJ20_getChars_2 0 rfl rfl)
theorem dJ20_getChars_49 : decode cJ20_getChars 49 = .ok (.getstatic 83, 3) := dk_178 0 83 (dk_at dksJ20_getChars_2 2 rfl rfl)
theorem dJ20_getChars_52 : decode cJ20_getChars 52 = .ok (.iload 4, 2) := dk_21 4 (dk_at dksJ20_getChars_2 5 rfl rfl)
theorem dJ20_getChars_54 : decode cJ20_getChars 54 = .ok (.baload, 1) := dk_51 (dk_at dksJ20_getChars_2 7 rfl rfl)
theorem dJ20_getChars_55 : decode cJ20_getChars 55 = .ok (.bastore, 1) := dk_84 (dk_at dksJ20_getChars_2 8 rfl rfl)
theorem dJ20_getChars_56 : decode cJ20_getChars 56 = .ok (.aload_n 2, 1) := dk_44 (dk_at dksJ20_getChars_2 9 rfl rfl)
theorem dJ20_getChars_57 : decode cJ20_getChars 57 = .ok (.iinc 5 (-1), 3) := dk_132 5 255 (dk_at dksJ20_getChars_2 10 rfl rfl)
theorem dJ20_getChars_60 : decode cJ20_getChars 60 = .ok (.iload 5, 2) := dk_21 5 (dk_at dksJ20_getChars_2 13 rfl rfl)
theorem dJ20_getChars_62 : decode cJ20_getChars 62 = .ok (.getstatic 87, 3) := dk_178 0 87 (dk_at dksJ20_getChars_2 15 rfl rfl)
theorem dJ20_getChars_65 : decode cJ20_getChars 65 = .ok (.iload 4, 2) := dk_21 4 (dk_at dksJ20_getChars_2 18 rfl rfl)
theorem dJ20_getChars_67 : decode cJ20_getChars 67 = .ok (.baload, 1) := dk_51 (dk_at dksJ20_getChars_2 20 rfl rfl)
theorem dJ20_getChars_68 : decode cJ20_getChars 68 = .ok (.bastore, 1) := dk_84 (dk_at dksJ20_getChars_2 21 rfl rfl)
theorem dJ20_getChars_69 : decode cJ20_getChars 69 = .ok (.goto (-47), 3) := dk_167 255 209 (dk_at dksJ20_getChars_3 0 rfl rfl)
theorem dJ20_getChars_72 : decode cJ20_getChars 72 = .ok (.aload_n 2, 1) := dk_44 (dk_at dksJ20_getChars_3 3 rfl rfl)
theorem dJ20_getChars_73 : decode cJ20_getChars 73 = .ok (.iinc 5 (-1), 3) := dk_132 5 255 (dk_at dksJ20_getChars_3 4 rfl rfl)
theorem dJ20_getChars_76 : decode cJ20_getChars 76 = .ok (.iload 5, 2) := dk_21 5 (dk_at dksJ20_getChars_3 7 rfl rfl)
theorem dJ20_getChars_78 : decode cJ20_getChars 78 = .ok (.getstatic 83, 3) := dk_178 0 83 (dk_at dksJ20_getChars_3 9 rfl rfl)
theorem dJ20_getChars_81 : decode cJ20_getChars 81 = .ok (.iload_n 0, 1) := dk_26 (dk_at dksJ20_getChars_3 12 rfl rfl)
theorem dJ20_getChars_82 : decode cJ20_getChars 82 = .ok (.ineg, 1) := dk_116 (dk_at dksJ20_getChars_3 13 rfl rfl)
theorem dJ20_getChars_83 : decode cJ20_getChars 83 = .ok (.baload, 1) := dk_51 (dk_at dksJ20_getChars_3 14 rfl rfl)
theorem dJ20_getChars_84 : decode cJ20_getChars 84 = .ok (.bastore, 1) := dk_84 (dk_at dksJ20_getChars_3 15 rfl rfl)
theorem dJ20_getChars_85 : decode cJ20_getChars 85 = .ok (.iload_n 0, 1) := dk_26 (dk_at dksJ20_getChars_3 16 rfl rfl)
theorem dJ20_getChars_86 : decode cJ20_getChars 86 = .ok (.bipush (-9), 2) := dk_16 247 (dk_at dksJ20_getChars_3 17 rfl rfl)
theorem dJ20_getChars_88 : decode cJ20_getChars 88 = .ok (.if_icmp .ge 16, 3) := dk_162 0 16 (dk_at dksJ20_getChars_3 19 rfl rfl)
theorem dJ20_getChars_91 : decode cJ20_getChars 91 = .ok (.aload_n 2, 1) := dk_44 (dk_at dksJ20_getChars_3 22 rfl rfl)
theorem dJ20_getChars_92 : decode cJ20_getChars 92 = .ok (.iinc 5 (-1), 3) := dk_132 5 255 (dk_at dksJ20_getChars_4 0 rfl rfl)
theorem dJ20_getChars_95 : decode cJ20_getChars 95 = .ok (.iload 5, 2) := dk_21 5 (dk_at dksJ20_getChars_4 3 rfl rfl)
theorem dJ20_getChars_97 : decode cJ20_getChars 97 = .ok (.getstatic 87, 3) := dk_178 0 87 (dk_at dksJ20_getChars_4 5 rfl rfl)
theorem dJ20_getChars_100 : decode cJ20_getChars 100 = .ok (.iload_n 0, 1) := dk_26 (dk_at dksJ20_getChars_4 8 rfl rfl)
theorem dJ20_getChars_101 : decode cJ20_getChars 101 = .ok (.ineg, 1) := dk_116 (dk_at dksJ20_getChars_4 9 rfl rfl)
theorem dJ20_getChars_102 : decode cJ20_getChars 102 = .ok (.baload, 1) := dk_51 (dk_at dksJ20_getChars_4 10 rfl rfl)
theorem dJ20_getChars_103 : decode cJ20_getChars 103 = .ok (.bastore, 1) := dk_84 (dk_at dksJ20_getChars_4 11 rfl rfl)
theorem dJ20_getChars_104 : decode cJ20_getChars 104 = .ok (.iload 6, 2) := dk_21 6 (dk_at dksJ20_getChars_4 12 rfl rfl)
theorem dJ20_getChars_106 : decode cJ20_getChars 106 = .ok (.ifCond .eq 12, 3) := dk_153 0 12 (dk_at dksJ20_getChars_4 14 rfl rfl)
theorem dJ20_getChars_109 : decode cJ20_getChars 109 = .ok (.aload_n 2, 1) := dk_44 (dk_at dksJ20_getChars_4 17 rfl rfl)
theorem dJ20_getChars_110 : decode cJ20_getChars 110 = .ok (.iinc 5 (-1), 3) := dk_132 5 255 (dk_at dksJ20_getChars_4 18 rfl rfl)
theorem dJ20_getChars_113 : decode cJ20_getChars 113 = .ok (.iload 5, 2) := dk_21 5 (dk_at dksJ20_getChars_4 21 rfl rfl)
theorem dJ20_getChars_115 : decode cJ20_getChars 115 = .ok (.bipush 45, 2) := dk_16 45 (dk_at dksJ20_getChars_5 0 rfl rfl)
theorem dJ20_getChars_117 : decode cJ20_getChars 117 = .ok (.bastore, 1) := dk_84 (dk_at dksJ20_getChars_5 2 rfl rfl)
theorem dJ20_getChars_118 : decode cJ20_getChars 118 = .ok (.iload 5, 2) := dk_21 5 (dk_at dksJ20_getChars_5 3 rfl rfl)
theorem dJ20_getChars_120 : decode cJ20_getChars 120 = .ok (.ireturn, 1) := dk_172 (dk_at dksJ20_getChars_5 5 rfl rfl)
theorem q110 : (Jvm.Cond.initialized "java/lang/Integer") ∈ lw_all := lw_g (lw_at lw_m1 26 rfl) rfl
theorem q250 : (Jvm.Cond.selects "java/lang/Integer" ({ cls := "java/lang/Object", name := "getClass", desc := "()Ljava/lang/Class;" } : Jvm.MethodName) ({ cls := "java/lang/Object", name := "getClass", desc := "()Ljava/lang/Class;" } : Jvm.MethodName)) ∈ lw_all := lw_g (lw_at lw_m1 166 rfl) rfl
theorem q568 : (Jvm.Cond.static ({ cls := "java/lang/Integer", name := "numberOfTrailingZeros", desc := "(I)I" } : Jvm.MethodName)) ∈ lw_all := lw_g (lw_at lw_m3 4 rfl) rfl
theorem q569 : (Jvm.Cond.code ({ cls := "java/lang/Integer", name := "numberOfTrailingZeros", desc := "(I)I" } : Jvm.MethodName) prog_22_method_48_code (2 : Nat) (Option.some Jvm.ClassFile.FieldType.int)) ∈ lw_all := lw_g (lw_at lw_m3 5 rfl) rfl
theorem q570 : (Jvm.Cond.constant "java/lang/Integer" (264 : Nat) (65536 : Int32)) ∈ lw_all := lw_g (lw_at lw_m3 6 rfl) rfl
theorem q572 : (Jvm.Cond.static ({ cls := "java/lang/Integer", name := "valueOf", desc := "(I)Ljava/lang/Integer;" } : Jvm.MethodName)) ∈ lw_all := lw_g (lw_at lw_m3 8 rfl) rfl
theorem q573 : (Jvm.Cond.code ({ cls := "java/lang/Integer", name := "valueOf", desc := "(I)Ljava/lang/Integer;" } : Jvm.MethodName) prog_22_method_22_code (1 : Nat) (Option.some (Jvm.ClassFile.FieldType.object "java/lang/Integer"))) ∈ lw_all := lw_g (lw_at lw_m3 9 rfl) rfl
theorem q574 : (Jvm.Cond.fieldLink "java/lang/Integer" (191 : Nat) "java/lang/Integer$IntegerCache" "high" "I") ∈ lw_all := lw_g (lw_at lw_m3 10 rfl) rfl
theorem q576 : (Jvm.Cond.fieldLink "java/lang/Integer" (195 : Nat) "java/lang/Integer$IntegerCache" "cache" "[Ljava/lang/Integer;") ∈ lw_all := lw_g (lw_at lw_m3 12 rfl) rfl
theorem q578 : (Jvm.Cond.classLink "java/lang/Integer" (1 : Nat) "java/lang/Integer") ∈ lw_all := lw_g (lw_at lw_m3 14 rfl) rfl
theorem q579 : (Jvm.Cond.instantiable "java/lang/Integer" (1 : Nat)) ∈ lw_all := lw_g (lw_at lw_m3 15 rfl) rfl
theorem q580 : (Jvm.Cond.methodLink "java/lang/Integer" (199 : Nat) ({ cls := "java/lang/Integer", name := "<init>", desc := "(I)V" } : Jvm.MethodName)) ∈ lw_all := lw_g (lw_at lw_m3 16 rfl) rfl
theorem q581 : (Jvm.Cond.instanceMethod ({ cls := "java/lang/Integer", name := "<init>", desc := "(I)V" } : Jvm.MethodName)) ∈ lw_all := lw_g (lw_at lw_m3 17 rfl) rfl
theorem q582 : (Jvm.Cond.code ({ cls := "java/lang/Integer", name := "<init>", desc := "(I)V" } : Jvm.MethodName) prog_22_method_23_code (2 : Nat) (Option.none : Option Jvm.ClassFile.FieldType)) ∈ lw_all := lw_g (lw_at lw_m3 18 rfl) rfl
theorem q583 : (Jvm.Cond.methodLink "java/lang/Integer" (202 : Nat) ({ cls := "java/lang/Number", name := "<init>", desc := "()V" } : Jvm.MethodName)) ∈ lw_all := lw_g (lw_at lw_m3 19 rfl) rfl
theorem q587 : (Jvm.Cond.fieldLink "java/lang/Integer" (205 : Nat) "java/lang/Integer" "value" "I") ∈ lw_all := lw_g (lw_at lw_m3 23 rfl) rfl
theorem q588 : (Jvm.Cond.laysFinal "java/lang/Integer" "java/lang/Integer" "value" "I") ∈ lw_all := lw_g (lw_at lw_m3 24 rfl) rfl
theorem q589 : (Jvm.Cond.soleField "java/lang/Integer" "value") ∈ lw_all := lw_g (lw_at lw_m3 25 rfl) rfl
theorem q590 : (Jvm.Cond.superclass "java/lang/Integer" "java/lang/Number") ∈ lw_all := lw_g (lw_at lw_m3 26 rfl) rfl
theorem q954 : (Jvm.Cond.static ({ cls := "java/lang/Integer", name := "bitCount", desc := "(I)I" } : Jvm.MethodName)) ∈ lw_all := lw_g (lw_at lw_m4 150 rfl) rfl
theorem q955 : (Jvm.Cond.code ({ cls := "java/lang/Integer", name := "bitCount", desc := "(I)I" } : Jvm.MethodName) prog_22_method_49_code (1 : Nat) (Option.some Jvm.ClassFile.FieldType.int)) ∈ lw_all := lw_g (lw_at lw_m4 151 rfl) rfl
theorem q956 : (Jvm.Cond.constant "java/lang/Integer" (265 : Nat) (1431655765 : Int32)) ∈ lw_all := lw_g (lw_at lw_m4 152 rfl) rfl
theorem q957 : (Jvm.Cond.constant "java/lang/Integer" (266 : Nat) (858993459 : Int32)) ∈ lw_all := lw_g (lw_at lw_m4 153 rfl) rfl
theorem q958 : (Jvm.Cond.constant "java/lang/Integer" (267 : Nat) (252645135 : Int32)) ∈ lw_all := lw_g (lw_at lw_m4 154 rfl) rfl
theorem q1213 : (Jvm.Cond.instanceMethod ({ cls := "java/lang/Integer", name := "intValue", desc := "()I" } : Jvm.MethodName)) ∈ lw_all := lw_g (lw_at lw_m5 169 rfl) rfl
theorem q1214 : (Jvm.Cond.selects "java/lang/Integer" ({ cls := "java/lang/Integer", name := "intValue", desc := "()I" } : Jvm.MethodName) ({ cls := "java/lang/Integer", name := "intValue", desc := "()I" } : Jvm.MethodName)) ∈ lw_all := lw_g (lw_at lw_m5 170 rfl) rfl
theorem q1215 : (Jvm.Cond.code ({ cls := "java/lang/Integer", name := "intValue", desc := "()I" } : Jvm.MethodName) prog_22_method_27_code (1 : Nat) (Option.some Jvm.ClassFile.FieldType.int)) ∈ lw_all := lw_g (lw_at lw_m5 171 rfl) rfl
theorem q1753 : (Jvm.Cond.static ({ cls := "java/lang/Integer", name := "stringSize", desc := "(I)I" } : Jvm.MethodName)) ∈ lw_all := lw_g (lw_at lw_m7 229 rfl) rfl
theorem q1754 : (Jvm.Cond.code ({ cls := "java/lang/Integer", name := "stringSize", desc := "(I)I" } : Jvm.MethodName) prog_22_method_13_code (4 : Nat) (Option.some Jvm.ClassFile.FieldType.int)) ∈ lw_all := lw_g (lw_at lw_m7 230 rfl) rfl
theorem q1756 : (Jvm.Cond.static ({ cls := "java/lang/Integer", name := "getChars", desc := "(II[B)I" } : Jvm.MethodName)) ∈ lw_all := lw_g (lw_at lw_m7 232 rfl) rfl
theorem q1757 : (Jvm.Cond.code ({ cls := "java/lang/Integer", name := "getChars", desc := "(II[B)I" } : Jvm.MethodName) prog_22_method_12_code (7 : Nat) (Option.some Jvm.ClassFile.FieldType.int)) ∈ lw_all := lw_g (lw_at lw_m7 233 rfl) rfl
theorem q1758 : (Jvm.Cond.fieldLink "java/lang/Integer" (83 : Nat) "java/lang/Integer" "DigitOnes" "[B") ∈ lw_all := lw_g (lw_at lw_m7 234 rfl) rfl
theorem q1759 : (Jvm.Cond.laysStatic "java/lang/Integer" "DigitOnes" "[B") ∈ lw_tbl := lw_at lw_m7 235 rfl
theorem q1760 : (Jvm.Cond.fieldLink "java/lang/Integer" (87 : Nat) "java/lang/Integer" "DigitTens" "[B") ∈ lw_all := lw_g (lw_at lw_m7 236 rfl) rfl
theorem q1761 : (Jvm.Cond.laysStatic "java/lang/Integer" "DigitTens" "[B") ∈ lw_tbl := lw_at lw_m7 237 rfl
theorem q2292 : (Jvm.Cond.castable "java/lang/Integer" "java/lang/Object") ∈ lw_tbl := lw_at lw_m10 48 rfl
theorem in_J20 : ∀ w ∈ wsJ200, w ∈ lw_all := lw_in wsJ200 [588] (by decide +kernel) (by decide +kernel)

/-! java/lang/Throwable -/
set_option maxRecDepth 100000
def RJ21 : String := "java/lang/Throwable"
def TJ21 : u_T := fun k => match k with
  | 0 => ("java/lang/Throwable", "cause", "Ljava/lang/Throwable;", false)
  | 1 => ("java/lang/Throwable", "stackTrace", "[Ljava/lang/StackTraceElement;", false)
  | 2 => ("java/lang/Throwable", "suppressedExceptions", "Ljava/util/List;", false)
  | 3 => ("java/lang/Throwable", "detailMessage", "Ljava/lang/String;", false)
  | _ => ("java/lang/Throwable", "backtrace", "Ljava/lang/Object;", false)
def tyJ21 : Nat → FieldType := fun k => match k with
  | 0 => .object "java/lang/Throwable"
  | 1 => .array (.object "java/lang/StackTraceElement")
  | 2 => .object "java/util/List"
  | 3 => .object "java/lang/String"
  | _ => .object "java/lang/Object"
abbrev wsJ210 : List Cond := u_ws RJ21 TJ21 5
theorem nmJ21 : ∀ a, a < 5 → ∀ b, b < 5 → a ≠ b → (TJ21 a).2.1 ≠ (TJ21 b).2.1 := by decide +kernel
theorem tyJ21_ok : ∀ k, k < 5 → parseFieldDescriptor (TJ21 k).2.2.1 = some (tyJ21 k) := by decide +kernel
abbrev cJ21_init : ByteArray := prog_33_method_1_code
def yJ21_init : MethodName := ⟨RJ21, "<init>", "()V"⟩
def dkwJ21_init_1 : List UInt8 := [182, 0, 27, 87, 177]
abbrev dktJ21_init_1 : List UInt8 := dkwJ21_init_1 ++ []
def dkwJ21_init_0 : List UInt8 := [42, 183, 0, 1, 42, 42, 181, 0, 7, 42, 178, 0, 13, 181, 0, 17, 42, 178, 0, 20, 181, 0, 24, 42]
abbrev dktJ21_init_0 : List UInt8 := dkwJ21_init_0 ++ dktJ21_init_1
theorem dksJ21_init_0 : cJ21_init.data.toList.drop 0 = dktJ21_init_0 := by decide +kernel
theorem dksJ21_init_1 : cJ21_init.data.toList.drop 24 = dktJ21_init_1 := dk_seg dksJ21_init_0 24 rfl rfl
theorem dJ21_init_0 : decode cJ21_init 0 = .ok (.aload_n 0, 1) := dk_42 (dk_at dksJ21_init_0 0 rfl rfl)
theorem dJ21_init_1 : decode cJ21_init 1 = .ok (.invokespecial 1, 3) := dk_183 0 1 (dk_at dksJ21_init_0 1 rfl rfl)
theorem dJ21_init_4 : decode cJ21_init 4 = .ok (.aload_n 0, 1) := dk_42 (dk_at dksJ21_init_0 4 rfl rfl)
theorem dJ21_init_5 : decode cJ21_init 5 = .ok (.aload_n 0, 1) := dk_42 (dk_at dksJ21_init_0 5 rfl rfl)
theorem dJ21_init_6 : decode cJ21_init 6 = .ok (.putfield 7, 3) := dk_181 0 7 (dk_at dksJ21_init_0 6 rfl rfl)
theorem dJ21_init_9 : decode cJ21_init 9 = .ok (.aload_n 0, 1) := dk_42 (dk_at dksJ21_init_0 9 rfl rfl)
theorem dJ21_init_10 : decode cJ21_init 10 = .ok (.getstatic 13, 3) := dk_178 0 13 (dk_at dksJ21_init_0 10 rfl rfl)
theorem dJ21_init_13 : decode cJ21_init 13 = .ok (.putfield 17, 3) := dk_181 0 17 (dk_at dksJ21_init_0 13 rfl rfl)
theorem dJ21_init_16 : decode cJ21_init 16 = .ok (.aload_n 0, 1) := dk_42 (dk_at dksJ21_init_0 16 rfl rfl)
theorem dJ21_init_17 : decode cJ21_init 17 = .ok (.getstatic 20, 3) := dk_178 0 20 (dk_at dksJ21_init_0 17 rfl rfl)
theorem dJ21_init_20 : decode cJ21_init 20 = .ok (.putfield 24, 3) := dk_181 0 24 (dk_at dksJ21_init_0 20 rfl rfl)
theorem dJ21_init_23 : decode cJ21_init 23 = .ok (.aload_n 0, 1) := dk_42 (dk_at dksJ21_init_0 23 rfl rfl)
theorem dJ21_init_24 : decode cJ21_init 24 = .ok (.invokevirtual 27, 3) := dk_182 0 27 (dk_at dksJ21_init_1 0 rfl rfl)
theorem dJ21_init_27 : decode cJ21_init 27 = .ok (.pop, 1) := dk_87 (dk_at dksJ21_init_1 3 rfl rfl)
theorem dJ21_init_28 : decode cJ21_init 28 = .ok (.return_, 1) := dk_177 (dk_at dksJ21_init_1 4 rfl rfl)
abbrev cJ21_init_2 : ByteArray := prog_33_method_4_code
def yJ21_init_2 : MethodName := ⟨RJ21, "<init>", "(Ljava/lang/Throwable;)V"⟩
def dkwJ21_init_2_2 : List UInt8 := [181, 0, 7, 177]
abbrev dktJ21_init_2_2 : List UInt8 := dkwJ21_init_2_2 ++ []
def dkwJ21_init_2_1 : List UInt8 := [182, 0, 27, 87, 42, 43, 199, 0, 7, 1, 167, 0, 7, 43, 182, 0, 35, 181, 0, 31, 42, 43]
abbrev dktJ21_init_2_1 : List UInt8 := dkwJ21_init_2_1 ++ dktJ21_init_2_2
def dkwJ21_init_2_0 : List UInt8 := [42, 183, 0, 1, 42, 42, 181, 0, 7, 42, 178, 0, 13, 181, 0, 17, 42, 178, 0, 20, 181, 0, 24, 42]
abbrev dktJ21_init_2_0 : List UInt8 := dkwJ21_init_2_0 ++ dktJ21_init_2_1
theorem dksJ21_init_2_0 : cJ21_init_2.data.toList.drop 0 = dktJ21_init_2_0 := by decide +kernel
theorem dksJ21_init_2_1 : cJ21_init_2.data.toList.drop 24 = dktJ21_init_2_1 := dk_seg dksJ21_init_2_0 24 rfl rfl
theorem dksJ21_init_2_2 : cJ21_init_2.data.toList.drop 46 = dktJ21_init_2_2 := dk_seg dksJ21_init_2_1 22 rfl rfl
theorem dJ21_init_2_0 : decode cJ21_init_2 0 = .ok (.aload_n 0, 1) := dk_42 (dk_at dksJ21_init_2_0 0 rfl rfl)
theorem dJ21_init_2_1 : decode cJ21_init_2 1 = .ok (.invokespecial 1, 3) := dk_183 0 1 (dk_at dksJ21_init_2_0 1 rfl rfl)
theorem dJ21_init_2_4 : decode cJ21_init_2 4 = .ok (.aload_n 0, 1) := dk_42 (dk_at dksJ21_init_2_0 4 rfl rfl)
theorem dJ21_init_2_5 : decode cJ21_init_2 5 = .ok (.aload_n 0, 1) := dk_42 (dk_at dksJ21_init_2_0 5 rfl rfl)
theorem dJ21_init_2_6 : decode cJ21_init_2 6 = .ok (.putfield 7, 3) := dk_181 0 7 (dk_at dksJ21_init_2_0 6 rfl rfl)
theorem dJ21_init_2_9 : decode cJ21_init_2 9 = .ok (.aload_n 0, 1) := dk_42 (dk_at dksJ21_init_2_0 9 rfl rfl)
theorem dJ21_init_2_10 : decode cJ21_init_2 10 = .ok (.getstatic 13, 3) := dk_178 0 13 (dk_at dksJ21_init_2_0 10 rfl rfl)
theorem dJ21_init_2_13 : decode cJ21_init_2 13 = .ok (.putfield 17, 3) := dk_181 0 17 (dk_at dksJ21_init_2_0 13 rfl rfl)
theorem dJ21_init_2_16 : decode cJ21_init_2 16 = .ok (.aload_n 0, 1) := dk_42 (dk_at dksJ21_init_2_0 16 rfl rfl)
theorem dJ21_init_2_17 : decode cJ21_init_2 17 = .ok (.getstatic 20, 3) := dk_178 0 20 (dk_at dksJ21_init_2_0 17 rfl rfl)
theorem dJ21_init_2_20 : decode cJ21_init_2 20 = .ok (.putfield 24, 3) := dk_181 0 24 (dk_at dksJ21_init_2_0 20 rfl rfl)
theorem dJ21_init_2_23 : decode cJ21_init_2 23 = .ok (.aload_n 0, 1) := dk_42 (dk_at dksJ21_init_2_0 23 rfl rfl)
theorem dJ21_init_2_24 : decode cJ21_init_2 24 = .ok (.invokevirtual 27, 3) := dk_182 0 27 (dk_at dksJ21_init_2_1 0 rfl rfl)
theorem dJ21_init_2_27 : decode cJ21_init_2 27 = .ok (.pop, 1) := dk_87 (dk_at dksJ21_init_2_1 3 rfl rfl)
theorem dJ21_init_2_28 : decode cJ21_init_2 28 = .ok (.aload_n 0, 1) := dk_42 (dk_at dksJ21_init_2_1 4 rfl rfl)
theorem dJ21_init_2_29 : decode cJ21_init_2 29 = .ok (.aload_n 1, 1) := dk_43 (dk_at dksJ21_init_2_1 5 rfl rfl)
theorem dJ21_init_2_30 : decode cJ21_init_2 30 = .ok (.ifnonnull 7, 3) := dk_199 0 7 (dk_at dksJ21_init_2_1 6 rfl rfl)
theorem dJ21_init_2_33 : decode cJ21_init_2 33 = .ok (.aconst_null, 1) := dk_1 (dk_at dksJ21_init_2_1 9 rfl rfl)
theorem dJ21_init_2_34 : decode cJ21_init_2 34 = .ok (.goto 7, 3) := dk_167 0 7 (dk_at dksJ21_init_2_1 10 rfl rfl)
theorem dJ21_init_2_37 : decode cJ21_init_2 37 = .ok (.aload_n 1, 1) := dk_43 (dk_at dksJ21_init_2_1 13 rfl rfl)
theorem dJ21_init_2_38 : decode cJ21_init_2 38 = .ok (.invokevirtual 35, 3) := dk_182 0 35 (dk_at dksJ21_init_2_1 14 rfl rfl)
theorem dJ21_init_2_41 : decode cJ21_init_2 41 = .ok (.putfield 31, 3) := dk_181 0 31 (dk_at dksJ21_init_2_1 17 rfl rfl)
theorem dJ21_init_2_44 : decode cJ21_init_2 44 = .ok (.aload_n 0, 1) := dk_42 (dk_at dksJ21_init_2_1 20 rfl rfl)
theorem dJ21_init_2_45 : decode cJ21_init_2 45 = .ok (.aload_n 1, 1) := dk_43 (dk_at dksJ21_init_2_1 21 rfl rfl)
theorem dJ21_init_2_46 : decode cJ21_init_2 46 = .ok (.putfield 7, 3) := dk_181 0 7 (dk_at dksJ21_init_2_2 0 rfl rfl)
theorem dJ21_init_2_49 : decode cJ21_init_2 49 = .ok (.return_, 1) := dk_177 (dk_at dksJ21_init_2_2 3 rfl rfl)
abbrev cJ21_toString : ByteArray := prog_33_method_11_code
def yJ21_toString : MethodName := ⟨RJ21, "toString", "()Ljava/lang/String;"⟩
def dkwJ21_toString_1 : List UInt8 := [43, 182, 0, 49, 18, 81, 182, 0, 49, 44, 182, 0, 49, 182, 0, 60, 167, 0, 4, 43, 176]
abbrev dktJ21_toString_1 : List UInt8 := dkwJ21_toString_1 ++ []
def dkwJ21_toString_0 : List UInt8 := [42, 182, 0, 69, 182, 0, 73, 76, 42, 182, 0, 78, 77, 44, 198, 0, 29, 187, 0, 44, 89, 183, 0, 46]
abbrev dktJ21_toString_0 : List UInt8 := dkwJ21_toString_0 ++ dktJ21_toString_1
theorem dksJ21_toString_0 : cJ21_toString.data.toList.drop 0 = dktJ21_toString_0 := by decide +kernel
theorem dksJ21_toString_1 : cJ21_toString.data.toList.drop 24 = dktJ21_toString_1 := dk_seg dksJ21_toString_0 24 rfl rfl
theorem dJ21_toString_0 : decode cJ21_toString 0 = .ok (.aload_n 0, 1) := dk_42 (dk_at dksJ21_toString_0 0 rfl rfl)
theorem dJ21_toString_1 : decode cJ21_toString 1 = .ok (.invokevirtual 69, 3) := dk_182 0 69 (dk_at dksJ21_toString_0 1 rfl rfl)
theorem dJ21_toString_4 : decode cJ21_toString 4 = .ok (.invokevirtual 73, 3) := dk_182 0 73 (dk_at dksJ21_toString_0 4 rfl rfl)
theorem dJ21_toString_7 : decode cJ21_toString 7 = .ok (.astore_n 1, 1) := dk_76 (dk_at dksJ21_toString_0 7 rfl rfl)
theorem dJ21_toString_8 : decode cJ21_toString 8 = .ok (.aload_n 0, 1) := dk_42 (dk_at dksJ21_toString_0 8 rfl rfl)
theorem dJ21_toString_9 : decode cJ21_toString 9 = .ok (.invokevirtual 78, 3) := dk_182 0 78 (dk_at dksJ21_toString_0 9 rfl rfl)
theorem dJ21_toString_12 : decode cJ21_toString 12 = .ok (.astore_n 2, 1) := dk_77 (dk_at dksJ21_toString_0 12 rfl rfl)
theorem dJ21_toString_13 : decode cJ21_toString 13 = .ok (.aload_n 2, 1) := dk_44 (dk_at dksJ21_toString_0 13 rfl rfl)
theorem dJ21_toString_14 : decode cJ21_toString 14 = .ok (.ifnull 29, 3) := dk_198 0 29 (dk_at dksJ21_toString_0 14 rfl rfl)
theorem dJ21_toString_17 : decode cJ21_toString 17 = .ok (.new 44, 3) := dk_187 0 44 (dk_at dksJ21_toString_0 17 rfl rfl)
theorem dJ21_toString_20 : decode cJ21_toString 20 = .ok (.dup, 1) := dk_89 (dk_at dksJ21_toString_0 20 rfl rfl)
theorem dJ21_toString_21 : decode cJ21_toString 21 = .ok (.invokespecial 46, 3) := dk_183 0 46 (dk_at dksJ21_toString_0 21 rfl rfl)
theorem dJ21_toString_24 : decode cJ21_toString 24 = .ok (.aload_n 1, 1) := dk_43 (dk_at dksJ21_toString_1 0 rfl rfl)
theorem dJ21_toString_25 : decode cJ21_toString 25 = .ok (.invokevirtual 49, 3) := dk_182 0 49 (dk_at dksJ21_toString_1 1 rfl rfl)
theorem dJ21_toString_28 : decode cJ21_toString 28 = .ok (.ldc 81, 2) := dk_18 81 (dk_at dksJ21_toString_1 4 rfl rfl)
theorem dJ21_toString_30 : decode cJ21_toString 30 = .ok (.invokevirtual 49, 3) := dk_182 0 49 (dk_at dksJ21_toString_1 6 rfl rfl)
theorem dJ21_toString_33 : decode cJ21_toString 33 = .ok (.aload_n 2, 1) := dk_44 (dk_at dksJ21_toString_1 9 rfl rfl)
theorem dJ21_toString_34 : decode cJ21_toString 34 = .ok (.invokevirtual 49, 3) := dk_182 0 49 (dk_at dksJ21_toString_1 10 rfl rfl)
theorem dJ21_toString_37 : decode cJ21_toString 37 = .ok (.invokevirtual 60, 3) := dk_182 0 60 (dk_at dksJ21_toString_1 13 rfl rfl)
theorem dJ21_toString_40 : decode cJ21_toString 40 = .ok (.goto 4, 3) := dk_167 0 4 (dk_at dksJ21_toString_1 16 rfl rfl)
theorem dJ21_toString_43 : decode cJ21_toString 43 = .ok (.aload_n 1, 1) := dk_43 (dk_at dksJ21_toString_1 19 rfl rfl)
theorem dJ21_toString_44 : decode cJ21_toString 44 = .ok (.areturn, 1) := dk_176 (dk_at dksJ21_toString_1 20 rfl rfl)
abbrev cJ21_getLocalizedMessage : ByteArray := prog_33_method_7_code
def yJ21_getLocalizedMessage : MethodName := ⟨RJ21, "getLocalizedMessage", "()Ljava/lang/String;"⟩
theorem dJ21_getLocalizedMessage_0 : decode cJ21_getLocalizedMessage 0 = .ok (.aload_n 0, 1) := by decide +kernel
theorem dJ21_getLocalizedMessage_1 : decode cJ21_getLocalizedMessage 1 = .ok (.invokevirtual 39, 3) := by decide +kernel
theorem dJ21_getLocalizedMessage_4 : decode cJ21_getLocalizedMessage 4 = .ok (.areturn, 1) := by decide +kernel
abbrev cJ21_getMessage : ByteArray := prog_33_method_6_code
def yJ21_getMessage : MethodName := ⟨RJ21, "getMessage", "()Ljava/lang/String;"⟩
theorem dJ21_getMessage_0 : decode cJ21_getMessage 0 = .ok (.aload_n 0, 1) := by decide +kernel
theorem dJ21_getMessage_1 : decode cJ21_getMessage 1 = .ok (.getfield 31, 3) := by decide +kernel
theorem dJ21_getMessage_4 : decode cJ21_getMessage 4 = .ok (.areturn, 1) := by decide +kernel
abbrev cJ21_init_3 : ByteArray := prog_33_method_5_code
def yJ21_init_3 : MethodName := ⟨RJ21, "<init>", "(Ljava/lang/String;Ljava/lang/Throwable;ZZ)V"⟩
def dkwJ21_init_3_2 : List UInt8 := [44, 181, 0, 7, 29, 154, 0, 8, 42, 1, 181, 0, 24, 177]
abbrev dktJ21_init_3_2 : List UInt8 := dkwJ21_init_3_2 ++ []
def dkwJ21_init_3_1 : List UInt8 := [21, 4, 153, 0, 11, 42, 182, 0, 27, 87, 167, 0, 8, 42, 1, 181, 0, 17, 42, 43, 181, 0, 31, 42]
abbrev dktJ21_init_3_1 : List UInt8 := dkwJ21_init_3_1 ++ dktJ21_init_3_2
def dkwJ21_init_3_0 : List UInt8 := [42, 183, 0, 1, 42, 42, 181, 0, 7, 42, 178, 0, 13, 181, 0, 17, 42, 178, 0, 20, 181, 0, 24]
abbrev dktJ21_init_3_0 : List UInt8 := dkwJ21_init_3_0 ++ dktJ21_init_3_1
theorem dksJ21_init_3_0 : cJ21_init_3.data.toList.drop 0 = dktJ21_init_3_0 := by decide +kernel
theorem dksJ21_init_3_1 : cJ21_init_3.data.toList.drop 23 = dktJ21_init_3_1 := dk_seg dksJ21_init_3_0 23 rfl rfl
theorem dksJ21_init_3_2 : cJ21_init_3.data.toList.drop 47 = dktJ21_init_3_2 := dk_seg dksJ21_init_3_1 24 rfl rfl
theorem dJ21_init_3_0 : decode cJ21_init_3 0 = .ok (.aload_n 0, 1) := dk_42 (dk_at dksJ21_init_3_0 0 rfl rfl)
theorem dJ21_init_3_1 : decode cJ21_init_3 1 = .ok (.invokespecial 1, 3) := dk_183 0 1 (dk_at dksJ21_init_3_0 1 rfl rfl)
theorem dJ21_init_3_4 : decode cJ21_init_3 4 = .ok (.aload_n 0, 1) := dk_42 (dk_at dksJ21_init_3_0 4 rfl rfl)
theorem dJ21_init_3_5 : decode cJ21_init_3 5 = .ok (.aload_n 0, 1) := dk_42 (dk_at dksJ21_init_3_0 5 rfl rfl)
theorem dJ21_init_3_6 : decode cJ21_init_3 6 = .ok (.putfield 7, 3) := dk_181 0 7 (dk_at dksJ21_init_3_0 6 rfl rfl)
theorem dJ21_init_3_9 : decode cJ21_init_3 9 = .ok (.aload_n 0, 1) := dk_42 (dk_at dksJ21_init_3_0 9 rfl rfl)
theorem dJ21_init_3_10 : decode cJ21_init_3 10 = .ok (.getstatic 13, 3) := dk_178 0 13 (dk_at dksJ21_init_3_0 10 rfl rfl)
theorem dJ21_init_3_13 : decode cJ21_init_3 13 = .ok (.putfield 17, 3) := dk_181 0 17 (dk_at dksJ21_init_3_0 13 rfl rfl)
theorem dJ21_init_3_16 : decode cJ21_init_3 16 = .ok (.aload_n 0, 1) := dk_42 (dk_at dksJ21_init_3_0 16 rfl rfl)
theorem dJ21_init_3_17 : decode cJ21_init_3 17 = .ok (.getstatic 20, 3) := dk_178 0 20 (dk_at dksJ21_init_3_0 17 rfl rfl)
theorem dJ21_init_3_20 : decode cJ21_init_3 20 = .ok (.putfield 24, 3) := dk_181 0 24 (dk_at dksJ21_init_3_0 20 rfl rfl)
theorem dJ21_init_3_23 : decode cJ21_init_3 23 = .ok (.iload 4, 2) := dk_21 4 (dk_at dksJ21_init_3_1 0 rfl rfl)
theorem dJ21_init_3_25 : decode cJ21_init_3 25 = .ok (.ifCond .eq 11, 3) := dk_153 0 11 (dk_at dksJ21_init_3_1 2 rfl rfl)
theorem dJ21_init_3_28 : decode cJ21_init_3 28 = .ok (.aload_n 0, 1) := dk_42 (dk_at dksJ21_init_3_1 5 rfl rfl)
theorem dJ21_init_3_29 : decode cJ21_init_3 29 = .ok (.invokevirtual 27, 3) := dk_182 0 27 (dk_at dksJ21_init_3_1 6 rfl rfl)
theorem dJ21_init_3_32 : decode cJ21_init_3 32 = .ok (.pop, 1) := dk_87 (dk_at dksJ21_init_3_1 9 rfl rfl)
theorem dJ21_init_3_33 : decode cJ21_init_3 33 = .ok (.goto 8, 3) := dk_167 0 8 (dk_at dksJ21_init_3_1 10 rfl rfl)
theorem dJ21_init_3_36 : decode cJ21_init_3 36 = .ok (.aload_n 0, 1) := dk_42 (dk_at dksJ21_init_3_1 13 rfl rfl)
theorem dJ21_init_3_37 : decode cJ21_init_3 37 = .ok (.aconst_null, 1) := dk_1 (dk_at dksJ21_init_3_1 14 rfl rfl)
theorem dJ21_init_3_38 : decode cJ21_init_3 38 = .ok (.putfield 17, 3) := dk_181 0 17 (dk_at dksJ21_init_3_1 15 rfl rfl)
theorem dJ21_init_3_41 : decode cJ21_init_3 41 = .ok (.aload_n 0, 1) := dk_42 (dk_at dksJ21_init_3_1 18 rfl rfl)
theorem dJ21_init_3_42 : decode cJ21_init_3 42 = .ok (.aload_n 1, 1) := dk_43 (dk_at dksJ21_init_3_1 19 rfl rfl)
theorem dJ21_init_3_43 : decode cJ21_init_3 43 = .ok (.putfield 31, 3) := dk_181 0 31 (dk_at dksJ21_init_3_1 20 rfl rfl)
theorem dJ21_init_3_46 : decode cJ21_init_3 46 = .ok (.aload_n 0, 1) := dk_42 (dk_at dksJ21_init_3_1 23 rfl rfl)
theorem dJ21_init_3_47 : decode cJ21_init_3 47 = .ok (.aload_n 2, 1) := dk_44 (dk_at dksJ21_init_3_2 0 rfl rfl)
theorem dJ21_init_3_48 : decode cJ21_init_3 48 = .ok (.putfield 7, 3) := dk_181 0 7 (dk_at dksJ21_init_3_2 1 rfl rfl)
theorem dJ21_init_3_51 : decode cJ21_init_3 51 = .ok (.iload_n 3, 1) := dk_29 (dk_at dksJ21_init_3_2 4 rfl rfl)
theorem dJ21_init_3_52 : decode cJ21_init_3 52 = .ok (.ifCond .ne 8, 3) := dk_154 0 8 (dk_at dksJ21_init_3_2 5 rfl rfl)
theorem dJ21_init_3_55 : decode cJ21_init_3 55 = .ok (.aload_n 0, 1) := dk_42 (dk_at dksJ21_init_3_2 8 rfl rfl)
theorem dJ21_init_3_56 : decode cJ21_init_3 56 = .ok (.aconst_null, 1) := dk_1 (dk_at dksJ21_init_3_2 9 rfl rfl)
theorem dJ21_init_3_57 : decode cJ21_init_3 57 = .ok (.putfield 24, 3) := dk_181 0 24 (dk_at dksJ21_init_3_2 10 rfl rfl)
theorem dJ21_init_3_60 : decode cJ21_init_3 60 = .ok (.return_, 1) := dk_177 (dk_at dksJ21_init_3_2 13 rfl rfl)
theorem q112 : (Jvm.Cond.initialized "java/lang/Throwable") ∈ lw_all := lw_g (lw_at lw_m1 28 rfl) rfl
theorem q624 : (Jvm.Cond.declares ({ cls := "java/lang/Throwable", name := "<init>", desc := "()V" } : Jvm.MethodName)) ∈ lw_tbl := lw_at lw_m3 60 rfl
theorem q625 : (Jvm.Cond.declares ({ cls := "java/lang/Throwable", name := "<init>", desc := "(Ljava/lang/String;)V" } : Jvm.MethodName)) ∈ lw_tbl := lw_at lw_m3 61 rfl
theorem q629 : (Jvm.Cond.lays "java/lang/Throwable" "java/lang/Throwable" "cause" "Ljava/lang/Throwable;") ∈ lw_all := lw_g (lw_at lw_m3 65 rfl) rfl
theorem q631 : (Jvm.Cond.lays "java/lang/Throwable" "java/lang/Throwable" "stackTrace" "[Ljava/lang/StackTraceElement;") ∈ lw_all := lw_g (lw_at lw_m3 67 rfl) rfl
theorem q633 : (Jvm.Cond.lays "java/lang/Throwable" "java/lang/Throwable" "suppressedExceptions" "Ljava/util/List;") ∈ lw_all := lw_g (lw_at lw_m3 69 rfl) rfl
theorem q635 : (Jvm.Cond.lays "java/lang/Throwable" "java/lang/Throwable" "detailMessage" "Ljava/lang/String;") ∈ lw_all := lw_g (lw_at lw_m3 71 rfl) rfl
theorem q637 : (Jvm.Cond.lays "java/lang/Throwable" "java/lang/Throwable" "backtrace" "Ljava/lang/Object;") ∈ lw_all := lw_g (lw_at lw_m3 73 rfl) rfl
theorem q638 : (Jvm.Cond.fieldLink "java/lang/Throwable" (198 : Nat) "java/lang/Throwable" "backtrace" "Ljava/lang/Object;") ∈ lw_all := lw_g (lw_at lw_m3 74 rfl) rfl
theorem q639 : (Jvm.Cond.superclass "java/lang/Throwable" "java/lang/Object") ∈ lw_all := lw_g (lw_at lw_m3 75 rfl) rfl
theorem q640 : (Jvm.Cond.instanceMethod ({ cls := "java/lang/Throwable", name := "<init>", desc := "()V" } : Jvm.MethodName)) ∈ lw_all := lw_g (lw_at lw_m3 76 rfl) rfl
theorem q641 : (Jvm.Cond.code ({ cls := "java/lang/Throwable", name := "<init>", desc := "()V" } : Jvm.MethodName) prog_33_method_1_code (1 : Nat) (Option.none : Option Jvm.ClassFile.FieldType)) ∈ lw_all := lw_g (lw_at lw_m3 77 rfl) rfl
theorem q642 : (Jvm.Cond.methodLink "java/lang/Throwable" (1 : Nat) ({ cls := "java/lang/Object", name := "<init>", desc := "()V" } : Jvm.MethodName)) ∈ lw_all := lw_g (lw_at lw_m3 78 rfl) rfl
theorem q643 : (Jvm.Cond.fieldLink "java/lang/Throwable" (13 : Nat) "java/lang/Throwable" "UNASSIGNED_STACK" "[Ljava/lang/StackTraceElement;") ∈ lw_all := lw_g (lw_at lw_m3 79 rfl) rfl
theorem q644 : (Jvm.Cond.laysStatic "java/lang/Throwable" "UNASSIGNED_STACK" "[Ljava/lang/StackTraceElement;") ∈ lw_tbl := lw_at lw_m3 80 rfl
theorem q645 : (Jvm.Cond.fieldLink "java/lang/Throwable" (20 : Nat) "java/lang/Throwable" "SUPPRESSED_SENTINEL" "Ljava/util/List;") ∈ lw_all := lw_g (lw_at lw_m3 81 rfl) rfl
theorem q646 : (Jvm.Cond.laysStatic "java/lang/Throwable" "SUPPRESSED_SENTINEL" "Ljava/util/List;") ∈ lw_tbl := lw_at lw_m3 82 rfl
theorem q647 : (Jvm.Cond.methodLink "java/lang/Throwable" (27 : Nat) ({ cls := "java/lang/Throwable", name := "fillInStackTrace", desc := "()Ljava/lang/Throwable;" } : Jvm.MethodName)) ∈ lw_all := lw_g (lw_at lw_m3 83 rfl) rfl
theorem q648 : (Jvm.Cond.instanceMethod ({ cls := "java/lang/Throwable", name := "fillInStackTrace", desc := "()Ljava/lang/Throwable;" } : Jvm.MethodName)) ∈ lw_all := lw_g (lw_at lw_m3 84 rfl) rfl
theorem q649 : (Jvm.Cond.sameMethod "java/lang/Throwable" "java/lang/Throwable" "fillInStackTrace" "()Ljava/lang/Throwable;") ∈ lw_all := lw_g (lw_at lw_m3 85 rfl) rfl
theorem q654 : (Jvm.Cond.codeSync ({ cls := "java/lang/Throwable", name := "fillInStackTrace", desc := "()Ljava/lang/Throwable;" } : Jvm.MethodName) prog_33_method_18_code (1 : Nat) (Option.some (Jvm.ClassFile.FieldType.object "java/lang/Throwable"))) ∈ lw_all := lw_g (lw_at lw_m3 90 rfl) rfl
theorem q655 : (Jvm.Cond.methodLink "java/lang/Throwable" (202 : Nat) ({ cls := "java/lang/Throwable", name := "fillInStackTrace", desc := "(I)Ljava/lang/Throwable;" } : Jvm.MethodName)) ∈ lw_all := lw_g (lw_at lw_m3 91 rfl) rfl
theorem q656 : (Jvm.Cond.privateMethod ({ cls := "java/lang/Throwable", name := "fillInStackTrace", desc := "(I)Ljava/lang/Throwable;" } : Jvm.MethodName)) ∈ lw_tbl := lw_at lw_m3 92 rfl
theorem q657 : (Jvm.Cond.instanceMethod ({ cls := "java/lang/Throwable", name := "fillInStackTrace", desc := "(I)Ljava/lang/Throwable;" } : Jvm.MethodName)) ∈ lw_all := lw_g (lw_at lw_m3 93 rfl) rfl
theorem q658 : (Jvm.Cond.instantiable "java/lang/Throwable" (6 : Nat)) ∈ lw_all := lw_g (lw_at lw_m3 94 rfl) rfl
theorem q659 : (Jvm.Cond.native ({ cls := "java/lang/Throwable", name := "fillInStackTrace", desc := "(I)Ljava/lang/Throwable;" } : Jvm.MethodName)) ∈ lw_all := lw_g (lw_at lw_m3 95 rfl) rfl
theorem q670 : (Jvm.Cond.instanceMethod ({ cls := "java/lang/Throwable", name := "<init>", desc := "(Ljava/lang/Throwable;)V" } : Jvm.MethodName)) ∈ lw_all := lw_g (lw_at lw_m3 106 rfl) rfl
theorem q671 : (Jvm.Cond.code ({ cls := "java/lang/Throwable", name := "<init>", desc := "(Ljava/lang/Throwable;)V" } : Jvm.MethodName) prog_33_method_4_code (2 : Nat) (Option.none : Option Jvm.ClassFile.FieldType)) ∈ lw_all := lw_g (lw_at lw_m3 107 rfl) rfl
theorem q672 : (Jvm.Cond.methodLink "java/lang/Throwable" (35 : Nat) ({ cls := "java/lang/Throwable", name := "toString", desc := "()Ljava/lang/String;" } : Jvm.MethodName)) ∈ lw_all := lw_g (lw_at lw_m3 108 rfl) rfl
theorem q673 : (Jvm.Cond.instanceMethod ({ cls := "java/lang/Throwable", name := "toString", desc := "()Ljava/lang/String;" } : Jvm.MethodName)) ∈ lw_all := lw_g (lw_at lw_m3 109 rfl) rfl
theorem q674 : (Jvm.Cond.sameMethod "java/lang/Throwable" "java/lang/Throwable" "toString" "()Ljava/lang/String;") ∈ lw_all := lw_g (lw_at lw_m3 110 rfl) rfl
theorem q680 : (Jvm.Cond.code ({ cls := "java/lang/Throwable", name := "toString", desc := "()Ljava/lang/String;" } : Jvm.MethodName) prog_33_method_11_code (3 : Nat) (Option.some (Jvm.ClassFile.FieldType.object "java/lang/String"))) ∈ lw_all := lw_g (lw_at lw_m3 116 rfl) rfl
theorem q681 : (Jvm.Cond.methodLink "java/lang/Throwable" (69 : Nat) ({ cls := "java/lang/Object", name := "getClass", desc := "()Ljava/lang/Class;" } : Jvm.MethodName)) ∈ lw_all := lw_g (lw_at lw_m3 117 rfl) rfl
theorem q682 : (Jvm.Cond.methodLink "java/lang/Throwable" (78 : Nat) ({ cls := "java/lang/Throwable", name := "getLocalizedMessage", desc := "()Ljava/lang/String;" } : Jvm.MethodName)) ∈ lw_all := lw_g (lw_at lw_m3 118 rfl) rfl
theorem q683 : (Jvm.Cond.instanceMethod ({ cls := "java/lang/Throwable", name := "getLocalizedMessage", desc := "()Ljava/lang/String;" } : Jvm.MethodName)) ∈ lw_all := lw_g (lw_at lw_m3 119 rfl) rfl
theorem q684 : (Jvm.Cond.sameMethod "java/lang/Throwable" "java/lang/Throwable" "getLocalizedMessage" "()Ljava/lang/String;") ∈ lw_all := lw_g (lw_at lw_m3 120 rfl) rfl
theorem q690 : (Jvm.Cond.code ({ cls := "java/lang/Throwable", name := "getLocalizedMessage", desc := "()Ljava/lang/String;" } : Jvm.MethodName) prog_33_method_7_code (1 : Nat) (Option.some (Jvm.ClassFile.FieldType.object "java/lang/String"))) ∈ lw_all := lw_g (lw_at lw_m3 126 rfl) rfl
theorem q691 : (Jvm.Cond.methodLink "java/lang/Throwable" (39 : Nat) ({ cls := "java/lang/Throwable", name := "getMessage", desc := "()Ljava/lang/String;" } : Jvm.MethodName)) ∈ lw_all := lw_g (lw_at lw_m3 127 rfl) rfl
theorem q692 : (Jvm.Cond.instanceMethod ({ cls := "java/lang/Throwable", name := "getMessage", desc := "()Ljava/lang/String;" } : Jvm.MethodName)) ∈ lw_all := lw_g (lw_at lw_m3 128 rfl) rfl
theorem q693 : (Jvm.Cond.sameMethod "java/lang/Throwable" "java/lang/Throwable" "getMessage" "()Ljava/lang/String;") ∈ lw_all := lw_g (lw_at lw_m3 129 rfl) rfl
theorem q699 : (Jvm.Cond.code ({ cls := "java/lang/Throwable", name := "getMessage", desc := "()Ljava/lang/String;" } : Jvm.MethodName) prog_33_method_6_code (1 : Nat) (Option.some (Jvm.ClassFile.FieldType.object "java/lang/String"))) ∈ lw_all := lw_g (lw_at lw_m3 135 rfl) rfl
theorem q700 : (Jvm.Cond.classLink "java/lang/Throwable" (44 : Nat) "java/lang/StringBuilder") ∈ lw_all := lw_g (lw_at lw_m3 136 rfl) rfl
theorem q701 : (Jvm.Cond.methodLink "java/lang/Throwable" (46 : Nat) ({ cls := "java/lang/StringBuilder", name := "<init>", desc := "()V" } : Jvm.MethodName)) ∈ lw_all := lw_g (lw_at lw_m3 137 rfl) rfl
theorem q702 : (Jvm.Cond.methodLink "java/lang/Throwable" (49 : Nat) ({ cls := "java/lang/StringBuilder", name := "append", desc := "(Ljava/lang/String;)Ljava/lang/StringBuilder;" } : Jvm.MethodName)) ∈ lw_all := lw_g (lw_at lw_m3 138 rfl) rfl
theorem q807 : (Jvm.Cond.stringRef "java/lang/Throwable" (81 : Nat) ": ") ∈ lw_tbl := lw_at lw_m4 3 rfl
theorem q808 : (Jvm.Cond.methodLink "java/lang/Throwable" (60 : Nat) ({ cls := "java/lang/StringBuilder", name := "toString", desc := "()Ljava/lang/String;" } : Jvm.MethodName)) ∈ lw_all := lw_g (lw_at lw_m4 4 rfl) rfl
theorem q868 : (Jvm.Cond.fieldLink "java/lang/Throwable" (198 : Nat) "java/lang/Throwable" "backtrace" "Ljava/lang/Object;") ∈ lw_all := lw_g (lw_at lw_m4 64 rfl) rfl
theorem q869 : (Jvm.Cond.fieldLink "java/lang/Throwable" (31 : Nat) "java/lang/Throwable" "detailMessage" "Ljava/lang/String;") ∈ lw_all := lw_g (lw_at lw_m4 65 rfl) rfl
theorem q870 : (Jvm.Cond.fieldLink "java/lang/Throwable" (7 : Nat) "java/lang/Throwable" "cause" "Ljava/lang/Throwable;") ∈ lw_all := lw_g (lw_at lw_m4 66 rfl) rfl
theorem q871 : (Jvm.Cond.fieldLink "java/lang/Throwable" (17 : Nat) "java/lang/Throwable" "stackTrace" "[Ljava/lang/StackTraceElement;") ∈ lw_all := lw_g (lw_at lw_m4 67 rfl) rfl
theorem q872 : (Jvm.Cond.fieldLink "java/lang/Throwable" (24 : Nat) "java/lang/Throwable" "suppressedExceptions" "Ljava/util/List;") ∈ lw_all := lw_g (lw_at lw_m4 68 rfl) rfl
theorem q873 : (Jvm.Cond.soleField "java/lang/Throwable" "backtrace") ∈ lw_all := lw_g (lw_at lw_m4 69 rfl) rfl
theorem q874 : (Jvm.Cond.soleField "java/lang/Throwable" "detailMessage") ∈ lw_all := lw_g (lw_at lw_m4 70 rfl) rfl
theorem q875 : (Jvm.Cond.soleField "java/lang/Throwable" "cause") ∈ lw_all := lw_g (lw_at lw_m4 71 rfl) rfl
theorem q876 : (Jvm.Cond.soleField "java/lang/Throwable" "stackTrace") ∈ lw_all := lw_g (lw_at lw_m4 72 rfl) rfl
theorem q878 : (Jvm.Cond.soleField "java/lang/Throwable" "depth") ∈ lw_all := lw_g (lw_at lw_m4 74 rfl) rfl
theorem q879 : (Jvm.Cond.soleField "java/lang/Throwable" "suppressedExceptions") ∈ lw_all := lw_g (lw_at lw_m4 75 rfl) rfl
theorem q977 : (Jvm.Cond.instanceMethod ({ cls := "java/lang/Throwable", name := "<init>", desc := "(Ljava/lang/String;Ljava/lang/Throwable;ZZ)V" } : Jvm.MethodName)) ∈ lw_all := lw_g (lw_at lw_m4 173 rfl) rfl
theorem q978 : (Jvm.Cond.code ({ cls := "java/lang/Throwable", name := "<init>", desc := "(Ljava/lang/String;Ljava/lang/Throwable;ZZ)V" } : Jvm.MethodName) prog_33_method_5_code (5 : Nat) (Option.none : Option Jvm.ClassFile.FieldType)) ∈ lw_all := lw_g (lw_at lw_m4 174 rfl) rfl
theorem q2249 : (Jvm.Cond.sameMethod "java/lang/Throwable" "java/lang/Throwable" "fillInStackTrace" "(I)Ljava/lang/Throwable;") ∈ lw_all := lw_g (lw_at lw_m10 5 rfl) rfl
theorem q2298 : (Jvm.Cond.castable "java/lang/Throwable" "java/lang/Object") ∈ lw_tbl := lw_at lw_m10 54 rfl
theorem in_J21 : ∀ w ∈ wsJ210, w ∈ lw_all := lw_in wsJ210 [629, 631, 633, 635, 637] (by decide +kernel) (by decide +kernel)

/-! java/lang/Exception -/
set_option maxRecDepth 100000
def RJ22 : String := "java/lang/Exception"
abbrev cJ22_init : ByteArray := prog_20_method_4_code
def yJ22_init : MethodName := ⟨RJ22, "<init>", "(Ljava/lang/Throwable;)V"⟩
def dkwJ22_init_0 : List UInt8 := [42, 43, 183, 0, 13, 177]
abbrev dktJ22_init_0 : List UInt8 := dkwJ22_init_0 ++ []
theorem dksJ22_init_0 : cJ22_init.data.toList.drop 0 = dktJ22_init_0 := by decide +kernel
theorem dJ22_init_0 : decode cJ22_init 0 = .ok (.aload_n 0, 1) := dk_42 (dk_at dksJ22_init_0 0 rfl rfl)
theorem dJ22_init_1 : decode cJ22_init 1 = .ok (.aload_n 1, 1) := dk_43 (dk_at dksJ22_init_0 1 rfl rfl)
theorem dJ22_init_2 : decode cJ22_init 2 = .ok (.invokespecial 13, 3) := dk_183 0 13 (dk_at dksJ22_init_0 2 rfl rfl)
theorem dJ22_init_5 : decode cJ22_init 5 = .ok (.return_, 1) := dk_177 (dk_at dksJ22_init_0 5 rfl rfl)
abbrev cJ22_init_2 : ByteArray := prog_20_method_5_code
def yJ22_init_2 : MethodName := ⟨RJ22, "<init>", "(Ljava/lang/String;Ljava/lang/Throwable;ZZ)V"⟩
def dkwJ22_init_2_0 : List UInt8 := [42, 43, 44, 29, 21, 4, 183, 0, 16, 177]
abbrev dktJ22_init_2_0 : List UInt8 := dkwJ22_init_2_0 ++ []
theorem dksJ22_init_2_0 : cJ22_init_2.data.toList.drop 0 = dktJ22_init_2_0 := by decide +kernel
theorem dJ22_init_2_0 : decode cJ22_init_2 0 = .ok (.aload_n 0, 1) := dk_42 (dk_at dksJ22_init_2_0 0 rfl rfl)
theorem dJ22_init_2_1 : decode cJ22_init_2 1 = .ok (.aload_n 1, 1) := dk_43 (dk_at dksJ22_init_2_0 1 rfl rfl)
theorem dJ22_init_2_2 : decode cJ22_init_2 2 = .ok (.aload_n 2, 1) := dk_44 (dk_at dksJ22_init_2_0 2 rfl rfl)
theorem dJ22_init_2_3 : decode cJ22_init_2 3 = .ok (.iload_n 3, 1) := dk_29 (dk_at dksJ22_init_2_0 3 rfl rfl)
theorem dJ22_init_2_4 : decode cJ22_init_2 4 = .ok (.iload 4, 2) := dk_21 4 (dk_at dksJ22_init_2_0 4 rfl rfl)
theorem dJ22_init_2_6 : decode cJ22_init_2 6 = .ok (.invokespecial 16, 3) := dk_183 0 16 (dk_at dksJ22_init_2_0 6 rfl rfl)
theorem dJ22_init_2_9 : decode cJ22_init_2 9 = .ok (.return_, 1) := dk_177 (dk_at dksJ22_init_2_0 9 rfl rfl)
abbrev cJ22_init_3 : ByteArray := prog_20_method_1_code
def yJ22_init_3 : MethodName := ⟨RJ22, "<init>", "()V"⟩
theorem dJ22_init_3_0 : decode cJ22_init_3 0 = .ok (.aload_n 0, 1) := by decide +kernel
theorem dJ22_init_3_1 : decode cJ22_init_3 1 = .ok (.invokespecial 1, 3) := by decide +kernel
theorem dJ22_init_3_4 : decode cJ22_init_3 4 = .ok (.return_, 1) := by decide +kernel
theorem q113 : (Jvm.Cond.initialized "java/lang/Exception") ∈ lw_all := lw_g (lw_at lw_m1 29 rfl) rfl
theorem q622 : (Jvm.Cond.declares ({ cls := "java/lang/Exception", name := "<init>", desc := "()V" } : Jvm.MethodName)) ∈ lw_tbl := lw_at lw_m3 58 rfl
theorem q623 : (Jvm.Cond.declares ({ cls := "java/lang/Exception", name := "<init>", desc := "(Ljava/lang/String;)V" } : Jvm.MethodName)) ∈ lw_tbl := lw_at lw_m3 59 rfl
theorem q667 : (Jvm.Cond.instanceMethod ({ cls := "java/lang/Exception", name := "<init>", desc := "(Ljava/lang/Throwable;)V" } : Jvm.MethodName)) ∈ lw_all := lw_g (lw_at lw_m3 103 rfl) rfl
theorem q668 : (Jvm.Cond.code ({ cls := "java/lang/Exception", name := "<init>", desc := "(Ljava/lang/Throwable;)V" } : Jvm.MethodName) prog_20_method_4_code (2 : Nat) (Option.none : Option Jvm.ClassFile.FieldType)) ∈ lw_all := lw_g (lw_at lw_m3 104 rfl) rfl
theorem q669 : (Jvm.Cond.methodLink "java/lang/Exception" (13 : Nat) ({ cls := "java/lang/Throwable", name := "<init>", desc := "(Ljava/lang/Throwable;)V" } : Jvm.MethodName)) ∈ lw_all := lw_g (lw_at lw_m3 105 rfl) rfl
theorem q974 : (Jvm.Cond.instanceMethod ({ cls := "java/lang/Exception", name := "<init>", desc := "(Ljava/lang/String;Ljava/lang/Throwable;ZZ)V" } : Jvm.MethodName)) ∈ lw_all := lw_g (lw_at lw_m4 170 rfl) rfl
theorem q975 : (Jvm.Cond.code ({ cls := "java/lang/Exception", name := "<init>", desc := "(Ljava/lang/String;Ljava/lang/Throwable;ZZ)V" } : Jvm.MethodName) prog_20_method_5_code (5 : Nat) (Option.none : Option Jvm.ClassFile.FieldType)) ∈ lw_all := lw_g (lw_at lw_m4 171 rfl) rfl
theorem q976 : (Jvm.Cond.methodLink "java/lang/Exception" (16 : Nat) ({ cls := "java/lang/Throwable", name := "<init>", desc := "(Ljava/lang/String;Ljava/lang/Throwable;ZZ)V" } : Jvm.MethodName)) ∈ lw_all := lw_g (lw_at lw_m4 172 rfl) rfl
theorem q1265 : (Jvm.Cond.instanceMethod ({ cls := "java/lang/Exception", name := "<init>", desc := "()V" } : Jvm.MethodName)) ∈ lw_all := lw_g (lw_at lw_m5 221 rfl) rfl
theorem q1266 : (Jvm.Cond.code ({ cls := "java/lang/Exception", name := "<init>", desc := "()V" } : Jvm.MethodName) prog_20_method_1_code (1 : Nat) (Option.none : Option Jvm.ClassFile.FieldType)) ∈ lw_all := lw_g (lw_at lw_m5 222 rfl) rfl
theorem q1267 : (Jvm.Cond.methodLink "java/lang/Exception" (1 : Nat) ({ cls := "java/lang/Throwable", name := "<init>", desc := "()V" } : Jvm.MethodName)) ∈ lw_all := lw_g (lw_at lw_m5 223 rfl) rfl

/-! java/lang/RuntimeException -/
set_option maxRecDepth 100000
def RJ23 : String := "java/lang/RuntimeException"
abbrev cJ23_init : ByteArray := prog_27_method_4_code
def yJ23_init : MethodName := ⟨RJ23, "<init>", "(Ljava/lang/Throwable;)V"⟩
def dkwJ23_init_0 : List UInt8 := [42, 43, 183, 0, 13, 177]
abbrev dktJ23_init_0 : List UInt8 := dkwJ23_init_0 ++ []
theorem dksJ23_init_0 : cJ23_init.data.toList.drop 0 = dktJ23_init_0 := by decide +kernel
theorem dJ23_init_0 : decode cJ23_init 0 = .ok (.aload_n 0, 1) := dk_42 (dk_at dksJ23_init_0 0 rfl rfl)
theorem dJ23_init_1 : decode cJ23_init 1 = .ok (.aload_n 1, 1) := dk_43 (dk_at dksJ23_init_0 1 rfl rfl)
theorem dJ23_init_2 : decode cJ23_init 2 = .ok (.invokespecial 13, 3) := dk_183 0 13 (dk_at dksJ23_init_0 2 rfl rfl)
theorem dJ23_init_5 : decode cJ23_init 5 = .ok (.return_, 1) := dk_177 (dk_at dksJ23_init_0 5 rfl rfl)
abbrev cJ23_init_2 : ByteArray := prog_27_method_1_code
def yJ23_init_2 : MethodName := ⟨RJ23, "<init>", "()V"⟩
theorem dJ23_init_2_0 : decode cJ23_init_2 0 = .ok (.aload_n 0, 1) := by decide +kernel
theorem dJ23_init_2_1 : decode cJ23_init_2 1 = .ok (.invokespecial 1, 3) := by decide +kernel
theorem dJ23_init_2_4 : decode cJ23_init_2 4 = .ok (.return_, 1) := by decide +kernel
theorem q114 : (Jvm.Cond.initialized "java/lang/RuntimeException") ∈ lw_all := lw_g (lw_at lw_m1 30 rfl) rfl
theorem q620 : (Jvm.Cond.declares ({ cls := "java/lang/RuntimeException", name := "<init>", desc := "()V" } : Jvm.MethodName)) ∈ lw_tbl := lw_at lw_m3 56 rfl
theorem q621 : (Jvm.Cond.declares ({ cls := "java/lang/RuntimeException", name := "<init>", desc := "(Ljava/lang/String;)V" } : Jvm.MethodName)) ∈ lw_tbl := lw_at lw_m3 57 rfl
theorem q664 : (Jvm.Cond.instanceMethod ({ cls := "java/lang/RuntimeException", name := "<init>", desc := "(Ljava/lang/Throwable;)V" } : Jvm.MethodName)) ∈ lw_all := lw_g (lw_at lw_m3 100 rfl) rfl
theorem q665 : (Jvm.Cond.code ({ cls := "java/lang/RuntimeException", name := "<init>", desc := "(Ljava/lang/Throwable;)V" } : Jvm.MethodName) prog_27_method_4_code (2 : Nat) (Option.none : Option Jvm.ClassFile.FieldType)) ∈ lw_all := lw_g (lw_at lw_m3 101 rfl) rfl
theorem q666 : (Jvm.Cond.methodLink "java/lang/RuntimeException" (13 : Nat) ({ cls := "java/lang/Exception", name := "<init>", desc := "(Ljava/lang/Throwable;)V" } : Jvm.MethodName)) ∈ lw_all := lw_g (lw_at lw_m3 102 rfl) rfl
theorem q1262 : (Jvm.Cond.instanceMethod ({ cls := "java/lang/RuntimeException", name := "<init>", desc := "()V" } : Jvm.MethodName)) ∈ lw_all := lw_g (lw_at lw_m5 218 rfl) rfl
theorem q1263 : (Jvm.Cond.code ({ cls := "java/lang/RuntimeException", name := "<init>", desc := "()V" } : Jvm.MethodName) prog_27_method_1_code (1 : Nat) (Option.none : Option Jvm.ClassFile.FieldType)) ∈ lw_all := lw_g (lw_at lw_m5 219 rfl) rfl
theorem q1264 : (Jvm.Cond.methodLink "java/lang/RuntimeException" (1 : Nat) ({ cls := "java/lang/Exception", name := "<init>", desc := "()V" } : Jvm.MethodName)) ∈ lw_all := lw_g (lw_at lw_m5 220 rfl) rfl

/-! java/util/NoSuchElementException -/
set_option maxRecDepth 100000
def RJ24 : String := "java/util/NoSuchElementException"
def TJ24 : u_T := fun k => match k with
  | 0 => ("java/lang/Throwable", "cause", "Ljava/lang/Throwable;", false)
  | 1 => ("java/lang/Throwable", "stackTrace", "[Ljava/lang/StackTraceElement;", false)
  | 2 => ("java/lang/Throwable", "suppressedExceptions", "Ljava/util/List;", false)
  | 3 => ("java/lang/Throwable", "detailMessage", "Ljava/lang/String;", false)
  | 4 => ("java/lang/Throwable", "backtrace", "Ljava/lang/Object;", false)
  | _ => ("java/lang/Throwable", "depth", "I", false)
def tyJ24 : Nat → FieldType := fun k => match k with
  | 0 => .object "java/lang/Throwable"
  | 1 => .array (.object "java/lang/StackTraceElement")
  | 2 => .object "java/util/List"
  | 3 => .object "java/lang/String"
  | 4 => .object "java/lang/Object"
  | _ => .int
abbrev wsJ240 : List Cond := u_ws RJ24 TJ24 6
theorem nmJ24 : ∀ a, a < 6 → ∀ b, b < 6 → a ≠ b → (TJ24 a).2.1 ≠ (TJ24 b).2.1 := by decide +kernel
theorem tyJ24_ok : ∀ k, k < 6 → parseFieldDescriptor (TJ24 k).2.2.1 = some (tyJ24 k) := by decide +kernel
abbrev cJ24_init : ByteArray := prog_56_method_3_code
def yJ24_init : MethodName := ⟨RJ24, "<init>", "(Ljava/lang/Throwable;)V"⟩
def dkwJ24_init_0 : List UInt8 := [42, 43, 183, 0, 10, 177]
abbrev dktJ24_init_0 : List UInt8 := dkwJ24_init_0 ++ []
theorem dksJ24_init_0 : cJ24_init.data.toList.drop 0 = dktJ24_init_0 := by decide +kernel
theorem dJ24_init_0 : decode cJ24_init 0 = .ok (.aload_n 0, 1) := dk_42 (dk_at dksJ24_init_0 0 rfl rfl)
theorem dJ24_init_1 : decode cJ24_init 1 = .ok (.aload_n 1, 1) := dk_43 (dk_at dksJ24_init_0 1 rfl rfl)
theorem dJ24_init_2 : decode cJ24_init 2 = .ok (.invokespecial 10, 3) := dk_183 0 10 (dk_at dksJ24_init_0 2 rfl rfl)
theorem dJ24_init_5 : decode cJ24_init 5 = .ok (.return_, 1) := dk_177 (dk_at dksJ24_init_0 5 rfl rfl)
theorem q115 : (Jvm.Cond.initialized "java/util/NoSuchElementException") ∈ lw_all := lw_g (lw_at lw_m1 31 rfl) rfl
theorem q263 : (Jvm.Cond.selects "java/util/NoSuchElementException" ({ cls := "java/lang/Object", name := "getClass", desc := "()Ljava/lang/Class;" } : Jvm.MethodName) ({ cls := "java/lang/Object", name := "getClass", desc := "()Ljava/lang/Class;" } : Jvm.MethodName)) ∈ lw_all := lw_g (lw_at lw_m1 179 rfl) rfl
theorem q618 : (Jvm.Cond.instantiable "java/util/NoSuchElementException" (6 : Nat)) ∈ lw_all := lw_g (lw_at lw_m3 54 rfl) rfl
theorem q619 : (Jvm.Cond.castable "java/util/NoSuchElementException" "java/util/NoSuchElementException") ∈ lw_tbl := lw_at lw_m3 55 rfl
theorem q626 : (Jvm.Cond.selects "java/util/NoSuchElementException" ({ cls := "java/lang/Throwable", name := "fillInStackTrace", desc := "(I)Ljava/lang/Throwable;" } : Jvm.MethodName) ({ cls := "java/lang/Throwable", name := "fillInStackTrace", desc := "(I)Ljava/lang/Throwable;" } : Jvm.MethodName)) ∈ lw_all := lw_g (lw_at lw_m3 62 rfl) rfl
theorem q627 : (Jvm.Cond.selects "java/util/NoSuchElementException" ({ cls := "java/lang/Throwable", name := "fillInStackTrace", desc := "()Ljava/lang/Throwable;" } : Jvm.MethodName) ({ cls := "java/lang/Throwable", name := "fillInStackTrace", desc := "()Ljava/lang/Throwable;" } : Jvm.MethodName)) ∈ lw_all := lw_g (lw_at lw_m3 63 rfl) rfl
theorem q628 : (Jvm.Cond.lays "java/util/NoSuchElementException" "java/lang/Throwable" "cause" "Ljava/lang/Throwable;") ∈ lw_all := lw_g (lw_at lw_m3 64 rfl) rfl
theorem q630 : (Jvm.Cond.lays "java/util/NoSuchElementException" "java/lang/Throwable" "stackTrace" "[Ljava/lang/StackTraceElement;") ∈ lw_all := lw_g (lw_at lw_m3 66 rfl) rfl
theorem q632 : (Jvm.Cond.lays "java/util/NoSuchElementException" "java/lang/Throwable" "suppressedExceptions" "Ljava/util/List;") ∈ lw_all := lw_g (lw_at lw_m3 68 rfl) rfl
theorem q634 : (Jvm.Cond.lays "java/util/NoSuchElementException" "java/lang/Throwable" "detailMessage" "Ljava/lang/String;") ∈ lw_all := lw_g (lw_at lw_m3 70 rfl) rfl
theorem q636 : (Jvm.Cond.lays "java/util/NoSuchElementException" "java/lang/Throwable" "backtrace" "Ljava/lang/Object;") ∈ lw_all := lw_g (lw_at lw_m3 72 rfl) rfl
theorem q661 : (Jvm.Cond.instanceMethod ({ cls := "java/util/NoSuchElementException", name := "<init>", desc := "(Ljava/lang/Throwable;)V" } : Jvm.MethodName)) ∈ lw_all := lw_g (lw_at lw_m3 97 rfl) rfl
theorem q662 : (Jvm.Cond.code ({ cls := "java/util/NoSuchElementException", name := "<init>", desc := "(Ljava/lang/Throwable;)V" } : Jvm.MethodName) prog_56_method_3_code (2 : Nat) (Option.none : Option Jvm.ClassFile.FieldType)) ∈ lw_all := lw_g (lw_at lw_m3 98 rfl) rfl
theorem q663 : (Jvm.Cond.methodLink "java/util/NoSuchElementException" (10 : Nat) ({ cls := "java/lang/RuntimeException", name := "<init>", desc := "(Ljava/lang/Throwable;)V" } : Jvm.MethodName)) ∈ lw_all := lw_g (lw_at lw_m3 99 rfl) rfl
theorem q679 : (Jvm.Cond.selects "java/util/NoSuchElementException" ({ cls := "java/lang/Throwable", name := "toString", desc := "()Ljava/lang/String;" } : Jvm.MethodName) ({ cls := "java/lang/Throwable", name := "toString", desc := "()Ljava/lang/String;" } : Jvm.MethodName)) ∈ lw_all := lw_g (lw_at lw_m3 115 rfl) rfl
theorem q689 : (Jvm.Cond.selects "java/util/NoSuchElementException" ({ cls := "java/lang/Throwable", name := "getLocalizedMessage", desc := "()Ljava/lang/String;" } : Jvm.MethodName) ({ cls := "java/lang/Throwable", name := "getLocalizedMessage", desc := "()Ljava/lang/String;" } : Jvm.MethodName)) ∈ lw_all := lw_g (lw_at lw_m3 125 rfl) rfl
theorem q698 : (Jvm.Cond.selects "java/util/NoSuchElementException" ({ cls := "java/lang/Throwable", name := "getMessage", desc := "()Ljava/lang/String;" } : Jvm.MethodName) ({ cls := "java/lang/Throwable", name := "getMessage", desc := "()Ljava/lang/String;" } : Jvm.MethodName)) ∈ lw_all := lw_g (lw_at lw_m3 134 rfl) rfl
theorem q877 : (Jvm.Cond.lays "java/util/NoSuchElementException" "java/lang/Throwable" "depth" "I") ∈ lw_all := lw_g (lw_at lw_m4 73 rfl) rfl
theorem q880 : (Jvm.Cond.superclass "java/util/NoSuchElementException" "java/lang/RuntimeException") ∈ lw_all := lw_g (lw_at lw_m4 76 rfl) rfl
theorem q2283 : (Jvm.Cond.castable "java/util/NoSuchElementException" "java/lang/Object") ∈ lw_tbl := lw_at lw_m10 39 rfl
theorem in_J24 : ∀ w ∈ wsJ240, w ∈ lw_all := lw_in wsJ240 [628, 630, 632, 634, 636, 877] (by decide +kernel) (by decide +kernel)

/-! java/lang/StringLatin1 -/
set_option maxRecDepth 100000
def RJ25 : String := "java/lang/StringLatin1"
abbrev cJ25_inflate : ByteArray := prog_30_method_50_code
def yJ25_inflate : MethodName := ⟨RJ25, "inflate", "([BI[BII)V"⟩
def dkwJ25_inflate_0 : List UInt8 := [42, 27, 44, 29, 21, 4, 184, 0, 240, 177]
abbrev dktJ25_inflate_0 : List UInt8 := dkwJ25_inflate_0 ++ []
theorem dksJ25_inflate_0 : cJ25_inflate.data.toList.drop 0 = dktJ25_inflate_0 := by decide +kernel
theorem dJ25_inflate_0 : decode cJ25_inflate 0 = .ok (.aload_n 0, 1) := dk_42 (dk_at dksJ25_inflate_0 0 rfl rfl)
theorem dJ25_inflate_1 : decode cJ25_inflate 1 = .ok (.iload_n 1, 1) := dk_27 (dk_at dksJ25_inflate_0 1 rfl rfl)
theorem dJ25_inflate_2 : decode cJ25_inflate 2 = .ok (.aload_n 2, 1) := dk_44 (dk_at dksJ25_inflate_0 2 rfl rfl)
theorem dJ25_inflate_3 : decode cJ25_inflate 3 = .ok (.iload_n 3, 1) := dk_29 (dk_at dksJ25_inflate_0 3 rfl rfl)
theorem dJ25_inflate_4 : decode cJ25_inflate 4 = .ok (.iload 4, 2) := dk_21 4 (dk_at dksJ25_inflate_0 4 rfl rfl)
theorem dJ25_inflate_6 : decode cJ25_inflate 6 = .ok (.invokestatic 240, 3) := dk_184 0 240 (dk_at dksJ25_inflate_0 6 rfl rfl)
theorem dJ25_inflate_9 : decode cJ25_inflate 9 = .ok (.return_, 1) := dk_177 (dk_at dksJ25_inflate_0 9 rfl rfl)
abbrev cJ25_canEncode : ByteArray := prog_30_method_3_code
def yJ25_canEncode : MethodName := ⟨RJ25, "canEncode", "(C)Z"⟩
def dkwJ25_canEncode_0 : List UInt8 := [26, 17, 0, 255, 163, 0, 7, 4, 167, 0, 4, 3, 172]
abbrev dktJ25_canEncode_0 : List UInt8 := dkwJ25_canEncode_0 ++ []
theorem dksJ25_canEncode_0 : cJ25_canEncode.data.toList.drop 0 = dktJ25_canEncode_0 := by decide +kernel
theorem dJ25_canEncode_0 : decode cJ25_canEncode 0 = .ok (.iload_n 0, 1) := dk_26 (dk_at dksJ25_canEncode_0 0 rfl rfl)
theorem dJ25_canEncode_1 : decode cJ25_canEncode 1 = .ok (.sipush 255, 3) := dk_17 0 255 (dk_at dksJ25_canEncode_0 1 rfl rfl)
theorem dJ25_canEncode_4 : decode cJ25_canEncode 4 = .ok (.if_icmp .gt 7, 3) := dk_163 0 7 (dk_at dksJ25_canEncode_0 4 rfl rfl)
theorem dJ25_canEncode_7 : decode cJ25_canEncode 7 = .ok (.iconst 1, 1) := dk_4 (dk_at dksJ25_canEncode_0 7 rfl rfl)
theorem dJ25_canEncode_8 : decode cJ25_canEncode 8 = .ok (.goto 4, 3) := dk_167 0 4 (dk_at dksJ25_canEncode_0 8 rfl rfl)
theorem dJ25_canEncode_11 : decode cJ25_canEncode 11 = .ok (.iconst 0, 1) := dk_3 (dk_at dksJ25_canEncode_0 11 rfl rfl)
theorem dJ25_canEncode_12 : decode cJ25_canEncode 12 = .ok (.ireturn, 1) := dk_172 (dk_at dksJ25_canEncode_0 12 rfl rfl)
abbrev cJ25_charAt : ByteArray := prog_30_method_2_code
def yJ25_charAt : MethodName := ⟨RJ25, "charAt", "([BI)C"⟩
def dkwJ25_charAt_0 : List UInt8 := [27, 42, 190, 184, 0, 9, 42, 27, 51, 17, 0, 255, 126, 146, 172]
abbrev dktJ25_charAt_0 : List UInt8 := dkwJ25_charAt_0 ++ []
theorem dksJ25_charAt_0 : cJ25_charAt.data.toList.drop 0 = dktJ25_charAt_0 := by decide +kernel
theorem dJ25_charAt_0 : decode cJ25_charAt 0 = .ok (.iload_n 1, 1) := dk_27 (dk_at dksJ25_charAt_0 0 rfl rfl)
theorem dJ25_charAt_1 : decode cJ25_charAt 1 = .ok (.aload_n 0, 1) := dk_42 (dk_at dksJ25_charAt_0 1 rfl rfl)
theorem dJ25_charAt_2 : decode cJ25_charAt 2 = .ok (.arraylength, 1) := dk_190 (dk_at dksJ25_charAt_0 2 rfl rfl)
theorem dJ25_charAt_3 : decode cJ25_charAt 3 = .ok (.invokestatic 9, 3) := dk_184 0 9 (dk_at dksJ25_charAt_0 3 rfl rfl)
theorem dJ25_charAt_6 : decode cJ25_charAt 6 = .ok (.aload_n 0, 1) := dk_42 (dk_at dksJ25_charAt_0 6 rfl rfl)
theorem dJ25_charAt_7 : decode cJ25_charAt 7 = .ok (.iload_n 1, 1) := dk_27 (dk_at dksJ25_charAt_0 7 rfl rfl)
theorem dJ25_charAt_8 : decode cJ25_charAt 8 = .ok (.baload, 1) := dk_51 (dk_at dksJ25_charAt_0 8 rfl rfl)
theorem dJ25_charAt_9 : decode cJ25_charAt 9 = .ok (.sipush 255, 3) := dk_17 0 255 (dk_at dksJ25_charAt_0 9 rfl rfl)
theorem dJ25_charAt_12 : decode cJ25_charAt 12 = .ok (.iand, 1) := dk_126 (dk_at dksJ25_charAt_0 12 rfl rfl)
theorem dJ25_charAt_13 : decode cJ25_charAt 13 = .ok (.i2c, 1) := dk_146 (dk_at dksJ25_charAt_0 13 rfl rfl)
theorem dJ25_charAt_14 : decode cJ25_charAt 14 = .ok (.ireturn, 1) := dk_172 (dk_at dksJ25_charAt_0 14 rfl rfl)
abbrev cJ25_indexOf : ByteArray := prog_30_method_22_code
def yJ25_indexOf : MethodName := ⟨RJ25, "indexOf", "([BIII)I"⟩
def dkwJ25_indexOf_1 : List UInt8 := [161, 0, 5, 2, 172, 42, 27, 28, 29, 184, 0, 95, 172]
abbrev dktJ25_indexOf_1 : List UInt8 := dkwJ25_indexOf_1 ++ []
def dkwJ25_indexOf_0 : List UInt8 := [27, 184, 0, 88, 154, 0, 5, 2, 172, 28, 3, 184, 0, 92, 61, 29, 42, 190, 184, 0, 38, 62, 28, 29]
abbrev dktJ25_indexOf_0 : List UInt8 := dkwJ25_indexOf_0 ++ dktJ25_indexOf_1
theorem dksJ25_indexOf_0 : cJ25_indexOf.data.toList.drop 0 = dktJ25_indexOf_0 := by decide +kernel
theorem dksJ25_indexOf_1 : cJ25_indexOf.data.toList.drop 24 = dktJ25_indexOf_1 := dk_seg dksJ25_indexOf_0 24 rfl rfl
theorem dJ25_indexOf_0 : decode cJ25_indexOf 0 = .ok (.iload_n 1, 1) := dk_27 (dk_at dksJ25_indexOf_0 0 rfl rfl)
theorem dJ25_indexOf_1 : decode cJ25_indexOf 1 = .ok (.invokestatic 88, 3) := dk_184 0 88 (dk_at dksJ25_indexOf_0 1 rfl rfl)
theorem dJ25_indexOf_4 : decode cJ25_indexOf 4 = .ok (.ifCond .ne 5, 3) := dk_154 0 5 (dk_at dksJ25_indexOf_0 4 rfl rfl)
theorem dJ25_indexOf_7 : decode cJ25_indexOf 7 = .ok (.iconst (-1), 1) := dk_2 (dk_at dksJ25_indexOf_0 7 rfl rfl)
theorem dJ25_indexOf_8 : decode cJ25_indexOf 8 = .ok (.ireturn, 1) := dk_172 (dk_at dksJ25_indexOf_0 8 rfl rfl)
theorem dJ25_indexOf_9 : decode cJ25_indexOf 9 = .ok (.iload_n 2, 1) := dk_28 (dk_at dksJ25_indexOf_0 9 rfl rfl)
theorem dJ25_indexOf_10 : decode cJ25_indexOf 10 = .ok (.iconst 0, 1) := dk_3 (dk_at dksJ25_indexOf_0 10 rfl rfl)
theorem dJ25_indexOf_11 : decode cJ25_indexOf 11 = .ok (.invokestatic 92, 3) := dk_184 0 92 (dk_at dksJ25_indexOf_0 11 rfl rfl)
theorem dJ25_indexOf_14 : decode cJ25_indexOf 14 = .ok (.istore_n 2, 1) := dk_61 (dk_at dksJ25_indexOf_0 14 rfl rfl)
theorem dJ25_indexOf_15 : decode cJ25_indexOf 15 = .ok (.iload_n 3, 1) := dk_29 (dk_at dksJ25_indexOf_0 15 rfl rfl)
theorem dJ25_indexOf_16 : decode cJ25_indexOf 16 = .ok (.aload_n 0, 1) := dk_42 (dk_at dksJ25_indexOf_0 16 rfl rfl)
theorem dJ25_indexOf_17 : decode cJ25_indexOf 17 = .ok (.arraylength, 1) := dk_190 (dk_at dksJ25_indexOf_0 17 rfl rfl)
theorem dJ25_indexOf_18 : decode cJ25_indexOf 18 = .ok (.invokestatic 38, 3) := dk_184 0 38 (dk_at dksJ25_indexOf_0 18 rfl rfl)
theorem dJ25_indexOf_21 : decode cJ25_indexOf 21 = .ok (.istore_n 3, 1) := dk_62 (dk_at dksJ25_indexOf_0 21 rfl rfl)
theorem dJ25_indexOf_22 : decode cJ25_indexOf 22 = .ok (.iload_n 2, 1) := dk_28 (dk_at dksJ25_indexOf_0 22 rfl rfl)
theorem dJ25_indexOf_23 : decode cJ25_indexOf 23 = .ok (.iload_n 3, 1) := dk_29 (dk_at dksJ25_indexOf_0 23 rfl rfl)
theorem dJ25_indexOf_24 : decode cJ25_indexOf 24 = .ok (.if_icmp .lt 5, 3) := dk_161 0 5 (dk_at dksJ25_indexOf_1 0 rfl rfl)
theorem dJ25_indexOf_27 : decode cJ25_indexOf 27 = .ok (.iconst (-1), 1) := dk_2 (dk_at dksJ25_indexOf_1 3 rfl rfl)
theorem dJ25_indexOf_28 : decode cJ25_indexOf 28 = .ok (.ireturn, 1) := dk_172 (dk_at dksJ25_indexOf_1 4 rfl rfl)
theorem dJ25_indexOf_29 : decode cJ25_indexOf 29 = .ok (.aload_n 0, 1) := dk_42 (dk_at dksJ25_indexOf_1 5 rfl rfl)
theorem dJ25_indexOf_30 : decode cJ25_indexOf 30 = .ok (.iload_n 1, 1) := dk_27 (dk_at dksJ25_indexOf_1 6 rfl rfl)
theorem dJ25_indexOf_31 : decode cJ25_indexOf 31 = .ok (.iload_n 2, 1) := dk_28 (dk_at dksJ25_indexOf_1 7 rfl rfl)
theorem dJ25_indexOf_32 : decode cJ25_indexOf 32 = .ok (.iload_n 3, 1) := dk_29 (dk_at dksJ25_indexOf_1 8 rfl rfl)
theorem dJ25_indexOf_33 : decode cJ25_indexOf 33 = .ok (.invokestatic 95, 3) := dk_184 0 95 (dk_at dksJ25_indexOf_1 9 rfl rfl)
theorem dJ25_indexOf_36 : decode cJ25_indexOf 36 = .ok (.ireturn, 1) := dk_172 (dk_at dksJ25_indexOf_1 12 rfl rfl)
abbrev cJ25_canEncode_2 : ByteArray := prog_30_method_4_code
def yJ25_canEncode_2 : MethodName := ⟨RJ25, "canEncode", "(I)Z"⟩
def dkwJ25_canEncode_2_0 : List UInt8 := [26, 155, 0, 14, 26, 17, 0, 255, 163, 0, 7, 4, 167, 0, 4, 3, 172]
abbrev dktJ25_canEncode_2_0 : List UInt8 := dkwJ25_canEncode_2_0 ++ []
theorem dksJ25_canEncode_2_0 : cJ25_canEncode_2.data.toList.drop 0 = dktJ25_canEncode_2_0 := by decide +kernel
theorem dJ25_canEncode_2_0 : decode cJ25_canEncode_2 0 = .ok (.iload_n 0, 1) := dk_26 (dk_at dksJ25_canEncode_2_0 0 rfl rfl)
theorem dJ25_canEncode_2_1 : decode cJ25_canEncode_2 1 = .ok (.ifCond .lt 14, 3) := dk_155 0 14 (dk_at dksJ25_canEncode_2_0 1 rfl rfl)
theorem dJ25_canEncode_2_4 : decode cJ25_canEncode_2 4 = .ok (.iload_n 0, 1) := dk_26 (dk_at dksJ25_canEncode_2_0 4 rfl rfl)
theorem dJ25_canEncode_2_5 : decode cJ25_canEncode_2 5 = .ok (.sipush 255, 3) := dk_17 0 255 (dk_at dksJ25_canEncode_2_0 5 rfl rfl)
theorem dJ25_canEncode_2_8 : decode cJ25_canEncode_2 8 = .ok (.if_icmp .gt 7, 3) := dk_163 0 7 (dk_at dksJ25_canEncode_2_0 8 rfl rfl)
theorem dJ25_canEncode_2_11 : decode cJ25_canEncode_2 11 = .ok (.iconst 1, 1) := dk_4 (dk_at dksJ25_canEncode_2_0 11 rfl rfl)
theorem dJ25_canEncode_2_12 : decode cJ25_canEncode_2 12 = .ok (.goto 4, 3) := dk_167 0 4 (dk_at dksJ25_canEncode_2_0 12 rfl rfl)
theorem dJ25_canEncode_2_15 : decode cJ25_canEncode_2 15 = .ok (.iconst 0, 1) := dk_3 (dk_at dksJ25_canEncode_2_0 15 rfl rfl)
theorem dJ25_canEncode_2_16 : decode cJ25_canEncode_2 16 = .ok (.ireturn, 1) := dk_172 (dk_at dksJ25_canEncode_2_0 16 rfl rfl)
abbrev cJ25_indexOfChar : ByteArray := prog_30_method_23_code
def yJ25_indexOfChar : MethodName := ⟨RJ25, "indexOfChar", "([BIII)I"⟩
def dkwJ25_indexOfChar_1 : List UInt8 := [172, 132, 5, 1, 167, 255, 235, 2, 172]
abbrev dktJ25_indexOfChar_1 : List UInt8 := dkwJ25_indexOfChar_1 ++ []
def dkwJ25_indexOfChar_0 : List UInt8 := [27, 145, 54, 4, 28, 54, 5, 21, 5, 29, 162, 0, 21, 42, 21, 5, 51, 21, 4, 160, 0, 6, 21, 5]
abbrev dktJ25_indexOfChar_0 : List UInt8 := dkwJ25_indexOfChar_0 ++ dktJ25_indexOfChar_1
theorem dksJ25_indexOfChar_0 : cJ25_indexOfChar.data.toList.drop 0 = dktJ25_indexOfChar_0 := by decide +kernel
theorem dksJ25_indexOfChar_1 : cJ25_indexOfChar.data.toList.drop 24 = dktJ25_indexOfChar_1 := dk_seg dksJ25_indexOfChar_0 24 rfl rfl
theorem dJ25_indexOfChar_0 : decode cJ25_indexOfChar 0 = .ok (.iload_n 1, 1) := dk_27 (dk_at dksJ25_indexOfChar_0 0 rfl rfl)
theorem dJ25_indexOfChar_1 : decode cJ25_indexOfChar 1 = .ok (.i2b, 1) := dk_145 (dk_at dksJ25_indexOfChar_0 1 rfl rfl)
theorem dJ25_indexOfChar_2 : decode cJ25_indexOfChar 2 = .ok (.istore 4, 2) := dk_54 4 (dk_at dksJ25_indexOfChar_0 2 rfl rfl)
theorem dJ25_indexOfChar_4 : decode cJ25_indexOfChar 4 = .ok (.iload_n 2, 1) := dk_28 (dk_at dksJ25_indexOfChar_0 4 rfl rfl)
theorem dJ25_indexOfChar_5 : decode cJ25_indexOfChar 5 = .ok (.istore 5, 2) := dk_54 5 (dk_at dksJ25_indexOfChar_0 5 rfl rfl)
theorem dJ25_indexOfChar_7 : decode cJ25_indexOfChar 7 = .ok (.iload 5, 2) := dk_21 5 (dk_at dksJ25_indexOfChar_0 7 rfl rfl)
theorem dJ25_indexOfChar_9 : decode cJ25_indexOfChar 9 = .ok (.iload_n 3, 1) := dk_29 (dk_at dksJ25_indexOfChar_0 9 rfl rfl)
theorem dJ25_indexOfChar_10 : decode cJ25_indexOfChar 10 = .ok (.if_icmp .ge 21, 3) := dk_162 0 21 (dk_at dksJ25_indexOfChar_0 10 rfl rfl)
theorem dJ25_indexOfChar_13 : decode cJ25_indexOfChar 13 = .ok (.aload_n 0, 1) := dk_42 (dk_at dksJ25_indexOfChar_0 13 rfl rfl)
theorem dJ25_indexOfChar_14 : decode cJ25_indexOfChar 14 = .ok (.iload 5, 2) := dk_21 5 (dk_at dksJ25_indexOfChar_0 14 rfl rfl)
theorem dJ25_indexOfChar_16 : decode cJ25_indexOfChar 16 = .ok (.baload, 1) := dk_51 (dk_at dksJ25_indexOfChar_0 16 rfl rfl)
theorem dJ25_indexOfChar_17 : decode cJ25_indexOfChar 17 = .ok (.iload 4, 2) := dk_21 4 (dk_at dksJ25_indexOfChar_0 17 rfl rfl)
theorem dJ25_indexOfChar_19 : decode cJ25_indexOfChar 19 = .ok (.if_icmp .ne 6, 3) := dk_160 0 6 (dk_at dksJ25_indexOfChar_0 19 rfl rfl)
theorem dJ25_indexOfChar_22 : decode cJ25_indexOfChar 22 = .ok (.iload 5, 2) := dk_21 5 (dk_at dksJ25_indexOfChar_0 22 rfl rfl)
theorem dJ25_indexOfChar_24 : decode cJ25_indexOfChar 24 = .ok (.ireturn, 1) := dk_172 (dk_at dksJ25_indexOfChar_1 0 rfl rfl)
theorem dJ25_indexOfChar_25 : decode cJ25_indexOfChar 25 = .ok (.iinc 5 1, 3) := dk_132 5 1 (dk_at dksJ25_indexOfChar_1 1 rfl rfl)
theorem dJ25_indexOfChar_28 : decode cJ25_indexOfChar 28 = .ok (.goto (-21), 3) := dk_167 255 235 (dk_at dksJ25_indexOfChar_1 4 rfl rfl)
theorem dJ25_indexOfChar_31 : decode cJ25_indexOfChar 31 = .ok (.iconst (-1), 1) := dk_2 (dk_at dksJ25_indexOfChar_1 7 rfl rfl)
theorem dJ25_indexOfChar_32 : decode cJ25_indexOfChar 32 = .ok (.ireturn, 1) := dk_172 (dk_at dksJ25_indexOfChar_1 8 rfl rfl)
abbrev cJ25_fillNull : ByteArray := prog_30_method_48_code
def yJ25_fillNull : MethodName := ⟨RJ25, "fillNull", "([BII)V"⟩
def dkwJ25_fillNull_0 : List UInt8 := [42, 27, 28, 3, 184, 0, 236, 177]
abbrev dktJ25_fillNull_0 : List UInt8 := dkwJ25_fillNull_0 ++ []
theorem dksJ25_fillNull_0 : cJ25_fillNull.data.toList.drop 0 = dktJ25_fillNull_0 := by decide +kernel
theorem dJ25_fillNull_0 : decode cJ25_fillNull 0 = .ok (.aload_n 0, 1) := dk_42 (dk_at dksJ25_fillNull_0 0 rfl rfl)
theorem dJ25_fillNull_1 : decode cJ25_fillNull 1 = .ok (.iload_n 1, 1) := dk_27 (dk_at dksJ25_fillNull_0 1 rfl rfl)
theorem dJ25_fillNull_2 : decode cJ25_fillNull 2 = .ok (.iload_n 2, 1) := dk_28 (dk_at dksJ25_fillNull_0 2 rfl rfl)
theorem dJ25_fillNull_3 : decode cJ25_fillNull 3 = .ok (.iconst 0, 1) := dk_3 (dk_at dksJ25_fillNull_0 3 rfl rfl)
theorem dJ25_fillNull_4 : decode cJ25_fillNull 4 = .ok (.invokestatic 236, 3) := dk_184 0 236 (dk_at dksJ25_fillNull_0 4 rfl rfl)
theorem dJ25_fillNull_7 : decode cJ25_fillNull 7 = .ok (.return_, 1) := dk_177 (dk_at dksJ25_fillNull_0 7 rfl rfl)
theorem q116 : (Jvm.Cond.initialized "java/lang/StringLatin1") ∈ lw_all := lw_g (lw_at lw_m1 32 rfl) rfl
theorem q787 : (Jvm.Cond.static ({ cls := "java/lang/StringLatin1", name := "inflate", desc := "([BI[BII)V" } : Jvm.MethodName)) ∈ lw_all := lw_g (lw_at lw_m3 223 rfl) rfl
theorem q788 : (Jvm.Cond.code ({ cls := "java/lang/StringLatin1", name := "inflate", desc := "([BI[BII)V" } : Jvm.MethodName) prog_30_method_50_code (5 : Nat) (Option.none : Option Jvm.ClassFile.FieldType)) ∈ lw_all := lw_g (lw_at lw_m3 224 rfl) rfl
theorem q789 : (Jvm.Cond.methodLink "java/lang/StringLatin1" (240 : Nat) ({ cls := "java/lang/StringUTF16", name := "inflate", desc := "([BI[BII)V" } : Jvm.MethodName)) ∈ lw_all := lw_g (lw_at lw_m3 225 rfl) rfl
theorem q1517 : (Jvm.Cond.static ({ cls := "java/lang/StringLatin1", name := "canEncode", desc := "(C)Z" } : Jvm.MethodName)) ∈ lw_all := lw_g (lw_at lw_m6 233 rfl) rfl
theorem q1518 : (Jvm.Cond.code ({ cls := "java/lang/StringLatin1", name := "canEncode", desc := "(C)Z" } : Jvm.MethodName) prog_30_method_3_code (1 : Nat) (Option.some Jvm.ClassFile.FieldType.boolean)) ∈ lw_all := lw_g (lw_at lw_m6 234 rfl) rfl
theorem q1587 : (Jvm.Cond.static ({ cls := "java/lang/StringLatin1", name := "charAt", desc := "([BI)C" } : Jvm.MethodName)) ∈ lw_all := lw_g (lw_at lw_m7 63 rfl) rfl
theorem q1588 : (Jvm.Cond.code ({ cls := "java/lang/StringLatin1", name := "charAt", desc := "([BI)C" } : Jvm.MethodName) prog_30_method_2_code (2 : Nat) (Option.some Jvm.ClassFile.FieldType.char)) ∈ lw_all := lw_g (lw_at lw_m7 64 rfl) rfl
theorem q1589 : (Jvm.Cond.methodLink "java/lang/StringLatin1" (9 : Nat) ({ cls := "java/lang/String", name := "checkIndex", desc := "(II)V" } : Jvm.MethodName)) ∈ lw_all := lw_g (lw_at lw_m7 65 rfl) rfl
theorem q1655 : (Jvm.Cond.static ({ cls := "java/lang/StringLatin1", name := "indexOf", desc := "([BIII)I" } : Jvm.MethodName)) ∈ lw_all := lw_g (lw_at lw_m7 131 rfl) rfl
theorem q1656 : (Jvm.Cond.code ({ cls := "java/lang/StringLatin1", name := "indexOf", desc := "([BIII)I" } : Jvm.MethodName) prog_30_method_22_code (4 : Nat) (Option.some Jvm.ClassFile.FieldType.int)) ∈ lw_all := lw_g (lw_at lw_m7 132 rfl) rfl
theorem q1657 : (Jvm.Cond.methodLink "java/lang/StringLatin1" (88 : Nat) ({ cls := "java/lang/StringLatin1", name := "canEncode", desc := "(I)Z" } : Jvm.MethodName)) ∈ lw_all := lw_g (lw_at lw_m7 133 rfl) rfl
theorem q1658 : (Jvm.Cond.static ({ cls := "java/lang/StringLatin1", name := "canEncode", desc := "(I)Z" } : Jvm.MethodName)) ∈ lw_all := lw_g (lw_at lw_m7 134 rfl) rfl
theorem q1659 : (Jvm.Cond.code ({ cls := "java/lang/StringLatin1", name := "canEncode", desc := "(I)Z" } : Jvm.MethodName) prog_30_method_4_code (1 : Nat) (Option.some Jvm.ClassFile.FieldType.boolean)) ∈ lw_all := lw_g (lw_at lw_m7 135 rfl) rfl
theorem q1660 : (Jvm.Cond.methodLink "java/lang/StringLatin1" (92 : Nat) ({ cls := "java/lang/Math", name := "max", desc := "(II)I" } : Jvm.MethodName)) ∈ lw_all := lw_g (lw_at lw_m7 136 rfl) rfl
theorem q1661 : (Jvm.Cond.methodLink "java/lang/StringLatin1" (38 : Nat) ({ cls := "java/lang/Math", name := "min", desc := "(II)I" } : Jvm.MethodName)) ∈ lw_all := lw_g (lw_at lw_m7 137 rfl) rfl
theorem q1662 : (Jvm.Cond.methodLink "java/lang/StringLatin1" (95 : Nat) ({ cls := "java/lang/StringLatin1", name := "indexOfChar", desc := "([BIII)I" } : Jvm.MethodName)) ∈ lw_all := lw_g (lw_at lw_m7 138 rfl) rfl
theorem q1663 : (Jvm.Cond.static ({ cls := "java/lang/StringLatin1", name := "indexOfChar", desc := "([BIII)I" } : Jvm.MethodName)) ∈ lw_all := lw_g (lw_at lw_m7 139 rfl) rfl
theorem q1664 : (Jvm.Cond.code ({ cls := "java/lang/StringLatin1", name := "indexOfChar", desc := "([BIII)I" } : Jvm.MethodName) prog_30_method_23_code (6 : Nat) (Option.some Jvm.ClassFile.FieldType.int)) ∈ lw_all := lw_g (lw_at lw_m7 140 rfl) rfl
theorem q1723 : (Jvm.Cond.static ({ cls := "java/lang/StringLatin1", name := "fillNull", desc := "([BII)V" } : Jvm.MethodName)) ∈ lw_all := lw_g (lw_at lw_m7 199 rfl) rfl
theorem q1724 : (Jvm.Cond.code ({ cls := "java/lang/StringLatin1", name := "fillNull", desc := "([BII)V" } : Jvm.MethodName) prog_30_method_48_code (3 : Nat) (Option.none : Option Jvm.ClassFile.FieldType)) ∈ lw_all := lw_g (lw_at lw_m7 200 rfl) rfl
theorem q1725 : (Jvm.Cond.methodLink "java/lang/StringLatin1" (236 : Nat) ({ cls := "java/util/Arrays", name := "fill", desc := "([BIIB)V" } : Jvm.MethodName)) ∈ lw_all := lw_g (lw_at lw_m7 201 rfl) rfl

/-! java/util/LinkedList$Node -/
set_option maxRecDepth 100000
def RJ26 : String := "java/util/LinkedList$Node"
def TJ26 : u_T := fun k => match k with
  | 0 => ("java/util/LinkedList$Node", "item", "Ljava/lang/Object;", false)
  | 1 => ("java/util/LinkedList$Node", "next", "Ljava/util/LinkedList$Node;", false)
  | _ => ("java/util/LinkedList$Node", "prev", "Ljava/util/LinkedList$Node;", false)
def tyJ26 : Nat → FieldType := fun k => match k with
  | 0 => .object "java/lang/Object"
  | 1 => .object "java/util/LinkedList$Node"
  | _ => .object "java/util/LinkedList$Node"
abbrev wsJ260 : List Cond := u_ws RJ26 TJ26 3
theorem nmJ26 : ∀ a, a < 3 → ∀ b, b < 3 → a ≠ b → (TJ26 a).2.1 ≠ (TJ26 b).2.1 := by decide +kernel
theorem tyJ26_ok : ∀ k, k < 3 → parseFieldDescriptor (TJ26 k).2.2.1 = some (tyJ26 k) := by decide +kernel
abbrev cJ26_init : ByteArray := prog_53_method_1_code
def yJ26_init : MethodName := ⟨RJ26, "<init>", "(Ljava/util/LinkedList$Node;Ljava/lang/Object;Ljava/util/LinkedList$Node;)V"⟩
def dkwJ26_init_0 : List UInt8 := [42, 183, 0, 1, 42, 44, 181, 0, 7, 42, 45, 181, 0, 13, 42, 43, 181, 0, 17, 177]
abbrev dktJ26_init_0 : List UInt8 := dkwJ26_init_0 ++ []
theorem dksJ26_init_0 : cJ26_init.data.toList.drop 0 = dktJ26_init_0 := by decide +kernel
theorem dJ26_init_0 : decode cJ26_init 0 = .ok (.aload_n 0, 1) := dk_42 (dk_at dksJ26_init_0 0 rfl rfl)
theorem dJ26_init_1 : decode cJ26_init 1 = .ok (.invokespecial 1, 3) := dk_183 0 1 (dk_at dksJ26_init_0 1 rfl rfl)
theorem dJ26_init_4 : decode cJ26_init 4 = .ok (.aload_n 0, 1) := dk_42 (dk_at dksJ26_init_0 4 rfl rfl)
theorem dJ26_init_5 : decode cJ26_init 5 = .ok (.aload_n 2, 1) := dk_44 (dk_at dksJ26_init_0 5 rfl rfl)
theorem dJ26_init_6 : decode cJ26_init 6 = .ok (.putfield 7, 3) := dk_181 0 7 (dk_at dksJ26_init_0 6 rfl rfl)
theorem dJ26_init_9 : decode cJ26_init 9 = .ok (.aload_n 0, 1) := dk_42 (dk_at dksJ26_init_0 9 rfl rfl)
theorem dJ26_init_10 : decode cJ26_init 10 = .ok (.aload_n 3, 1) := dk_45 (dk_at dksJ26_init_0 10 rfl rfl)
theorem dJ26_init_11 : decode cJ26_init 11 = .ok (.putfield 13, 3) := dk_181 0 13 (dk_at dksJ26_init_0 11 rfl rfl)
theorem dJ26_init_14 : decode cJ26_init 14 = .ok (.aload_n 0, 1) := dk_42 (dk_at dksJ26_init_0 14 rfl rfl)
theorem dJ26_init_15 : decode cJ26_init 15 = .ok (.aload_n 1, 1) := dk_43 (dk_at dksJ26_init_0 15 rfl rfl)
theorem dJ26_init_16 : decode cJ26_init 16 = .ok (.putfield 17, 3) := dk_181 0 17 (dk_at dksJ26_init_0 16 rfl rfl)
theorem dJ26_init_19 : decode cJ26_init 19 = .ok (.return_, 1) := dk_177 (dk_at dksJ26_init_0 19 rfl rfl)
theorem q117 : (Jvm.Cond.initialized "java/util/LinkedList$Node") ∈ lw_all := lw_g (lw_at lw_m1 33 rfl) rfl
theorem q262 : (Jvm.Cond.selects "java/util/LinkedList$Node" ({ cls := "java/lang/Object", name := "getClass", desc := "()Ljava/lang/Class;" } : Jvm.MethodName) ({ cls := "java/lang/Object", name := "getClass", desc := "()Ljava/lang/Class;" } : Jvm.MethodName)) ∈ lw_all := lw_g (lw_at lw_m1 178 rfl) rfl
theorem q925 : (Jvm.Cond.instantiable "java/util/LinkedList$Node" (3 : Nat)) ∈ lw_all := lw_g (lw_at lw_m4 121 rfl) rfl
theorem q927 : (Jvm.Cond.instanceMethod ({ cls := "java/util/LinkedList$Node", name := "<init>", desc := "(Ljava/util/LinkedList$Node;Ljava/lang/Object;Ljava/util/LinkedList$Node;)V" } : Jvm.MethodName)) ∈ lw_all := lw_g (lw_at lw_m4 123 rfl) rfl
theorem q928 : (Jvm.Cond.code ({ cls := "java/util/LinkedList$Node", name := "<init>", desc := "(Ljava/util/LinkedList$Node;Ljava/lang/Object;Ljava/util/LinkedList$Node;)V" } : Jvm.MethodName) prog_53_method_1_code (4 : Nat) (Option.none : Option Jvm.ClassFile.FieldType)) ∈ lw_all := lw_g (lw_at lw_m4 124 rfl) rfl
theorem q929 : (Jvm.Cond.methodLink "java/util/LinkedList$Node" (1 : Nat) ({ cls := "java/lang/Object", name := "<init>", desc := "()V" } : Jvm.MethodName)) ∈ lw_all := lw_g (lw_at lw_m4 125 rfl) rfl
theorem q930 : (Jvm.Cond.fieldLink "java/util/LinkedList$Node" (7 : Nat) "java/util/LinkedList$Node" "item" "Ljava/lang/Object;") ∈ lw_all := lw_g (lw_at lw_m4 126 rfl) rfl
theorem q933 : (Jvm.Cond.fieldLink "java/util/LinkedList$Node" (13 : Nat) "java/util/LinkedList$Node" "next" "Ljava/util/LinkedList$Node;") ∈ lw_all := lw_g (lw_at lw_m4 129 rfl) rfl
theorem q936 : (Jvm.Cond.fieldLink "java/util/LinkedList$Node" (17 : Nat) "java/util/LinkedList$Node" "prev" "Ljava/util/LinkedList$Node;") ∈ lw_all := lw_g (lw_at lw_m4 132 rfl) rfl
theorem q938 : (Jvm.Cond.lays "java/util/LinkedList$Node" "java/util/LinkedList$Node" "item" "Ljava/lang/Object;") ∈ lw_all := lw_g (lw_at lw_m4 134 rfl) rfl
theorem q939 : (Jvm.Cond.soleField "java/util/LinkedList$Node" "item") ∈ lw_all := lw_g (lw_at lw_m4 135 rfl) rfl
theorem q940 : (Jvm.Cond.lays "java/util/LinkedList$Node" "java/util/LinkedList$Node" "next" "Ljava/util/LinkedList$Node;") ∈ lw_all := lw_g (lw_at lw_m4 136 rfl) rfl
theorem q941 : (Jvm.Cond.soleField "java/util/LinkedList$Node" "next") ∈ lw_all := lw_g (lw_at lw_m4 137 rfl) rfl
theorem q942 : (Jvm.Cond.lays "java/util/LinkedList$Node" "java/util/LinkedList$Node" "prev" "Ljava/util/LinkedList$Node;") ∈ lw_all := lw_g (lw_at lw_m4 138 rfl) rfl
theorem q943 : (Jvm.Cond.soleField "java/util/LinkedList$Node" "prev") ∈ lw_all := lw_g (lw_at lw_m4 139 rfl) rfl
theorem q944 : (Jvm.Cond.superclass "java/util/LinkedList$Node" "java/lang/Object") ∈ lw_all := lw_g (lw_at lw_m4 140 rfl) rfl
theorem q2285 : (Jvm.Cond.castable "java/util/LinkedList$Node" "java/lang/Object") ∈ lw_tbl := lw_at lw_m10 41 rfl
theorem in_J26 : ∀ w ∈ wsJ260, w ∈ lw_all := lw_in wsJ260 [938, 940, 942] (by decide +kernel) (by decide +kernel)

/-! java/util/ArrayDeque$DeqIterator -/
set_option maxRecDepth 100000
def RJ27 : String := "java/util/ArrayDeque$DeqIterator"
def TJ27 : u_T := fun k => match k with
  | 0 => ("java/util/ArrayDeque$DeqIterator", "cursor", "I", false)
  | 1 => ("java/util/ArrayDeque$DeqIterator", "remaining", "I", false)
  | 2 => ("java/util/ArrayDeque$DeqIterator", "lastRet", "I", false)
  | _ => ("java/util/ArrayDeque$DeqIterator", "this$0", "Ljava/util/ArrayDeque;", true)
def tyJ27 : Nat → FieldType := fun k => match k with
  | 0 => .int
  | 1 => .int
  | 2 => .int
  | _ => .object "java/util/ArrayDeque"
abbrev wsJ270 : List Cond := u_ws RJ27 TJ27 4
theorem nmJ27 : ∀ a, a < 4 → ∀ b, b < 4 → a ≠ b → (TJ27 a).2.1 ≠ (TJ27 b).2.1 := by decide +kernel
theorem tyJ27_ok : ∀ k, k < 4 → parseFieldDescriptor (TJ27 k).2.2.1 = some (tyJ27 k) := by decide +kernel
abbrev cJ27_hasNext : ByteArray := prog_42_method_2_code
def yJ27_hasNext : MethodName := ⟨RJ27, "hasNext", "()Z"⟩
def dkwJ27_hasNext_0 : List UInt8 := [42, 180, 0, 19, 158, 0, 7, 4, 167, 0, 4, 3, 172]
abbrev dktJ27_hasNext_0 : List UInt8 := dkwJ27_hasNext_0 ++ []
theorem dksJ27_hasNext_0 : cJ27_hasNext.data.toList.drop 0 = dktJ27_hasNext_0 := by decide +kernel
theorem dJ27_hasNext_0 : decode cJ27_hasNext 0 = .ok (.aload_n 0, 1) := dk_42 (dk_at dksJ27_hasNext_0 0 rfl rfl)
theorem dJ27_hasNext_1 : decode cJ27_hasNext 1 = .ok (.getfield 19, 3) := dk_180 0 19 (dk_at dksJ27_hasNext_0 1 rfl rfl)
theorem dJ27_hasNext_4 : decode cJ27_hasNext 4 = .ok (.ifCond .le 7, 3) := dk_158 0 7 (dk_at dksJ27_hasNext_0 4 rfl rfl)
theorem dJ27_hasNext_7 : decode cJ27_hasNext 7 = .ok (.iconst 1, 1) := dk_4 (dk_at dksJ27_hasNext_0 7 rfl rfl)
theorem dJ27_hasNext_8 : decode cJ27_hasNext 8 = .ok (.goto 4, 3) := dk_167 0 4 (dk_at dksJ27_hasNext_0 8 rfl rfl)
theorem dJ27_hasNext_11 : decode cJ27_hasNext 11 = .ok (.iconst 0, 1) := dk_3 (dk_at dksJ27_hasNext_0 11 rfl rfl)
theorem dJ27_hasNext_12 : decode cJ27_hasNext 12 = .ok (.ireturn, 1) := dk_172 (dk_at dksJ27_hasNext_0 12 rfl rfl)
abbrev cJ27_next : ByteArray := prog_42_method_3_code
def yJ27_next : MethodName := ⟨RJ27, "next", "()Ljava/lang/Object;"⟩
def dkwJ27_next_2 : List UInt8 := [181, 0, 29, 42, 89, 180, 0, 19, 4, 100, 181, 0, 19, 44, 176]
abbrev dktJ27_next_2 : List UInt8 := dkwJ27_next_2 ++ []
def dkwJ27_next_1 : List UInt8 := [42, 180, 0, 29, 184, 0, 39, 77, 42, 42, 42, 180, 0, 29, 90, 181, 0, 23, 43, 190, 184, 0, 43]
abbrev dktJ27_next_1 : List UInt8 := dkwJ27_next_1 ++ dktJ27_next_2
def dkwJ27_next_0 : List UInt8 := [42, 180, 0, 19, 157, 0, 11, 187, 0, 32, 89, 183, 0, 34, 191, 42, 180, 0, 1, 180, 0, 35, 76, 43]
abbrev dktJ27_next_0 : List UInt8 := dkwJ27_next_0 ++ dktJ27_next_1
theorem dksJ27_next_0 : cJ27_next.data.toList.drop 0 = dktJ27_next_0 := by decide +kernel
theorem dksJ27_next_1 : cJ27_next.data.toList.drop 24 = dktJ27_next_1 := dk_seg dksJ27_next_0 24 rfl rfl
theorem dksJ27_next_2 : cJ27_next.data.toList.drop 47 = dktJ27_next_2 := dk_seg dksJ27_next_1 23 rfl rfl
theorem dJ27_next_0 : decode cJ27_next 0 = .ok (.aload_n 0, 1) := dk_42 (dk_at dksJ27_next_0 0 rfl rfl)
theorem dJ27_next_1 : decode cJ27_next 1 = .ok (.getfield 19, 3) := dk_180 0 19 (dk_at dksJ27_next_0 1 rfl rfl)
theorem dJ27_next_4 : decode cJ27_next 4 = .ok (.ifCond .gt 11, 3) := dk_157 0 11 (dk_at dksJ27_next_0 4 rfl rfl)
theorem dJ27_next_7 : decode cJ27_next 7 = .ok (.new 32, 3) := dk_187 0 32 (dk_at dksJ27_next_0 7 rfl rfl)
theorem dJ27_next_10 : decode cJ27_next 10 = .ok (.dup, 1) := dk_89 (dk_at dksJ27_next_0 10 rfl rfl)
theorem dJ27_next_11 : decode cJ27_next 11 = .ok (.invokespecial 34, 3) := dk_183 0 34 (dk_at dksJ27_next_0 11 rfl rfl)
theorem dJ27_next_14 : decode cJ27_next 14 = .ok (.athrow, 1) := dk_191 (dk_at dksJ27_next_0 14 rfl rfl)
theorem dJ27_next_15 : decode cJ27_next 15 = .ok (.aload_n 0, 1) := dk_42 (dk_at dksJ27_next_0 15 rfl rfl)
theorem dJ27_next_16 : decode cJ27_next 16 = .ok (.getfield 1, 3) := dk_180 0 1 (dk_at dksJ27_next_0 16 rfl rfl)
theorem dJ27_next_19 : decode cJ27_next 19 = .ok (.getfield 35, 3) := dk_180 0 35 (dk_at dksJ27_next_0 19 rfl rfl)
theorem dJ27_next_22 : decode cJ27_next 22 = .ok (.astore_n 1, 1) := dk_76 (dk_at dksJ27_next_0 22 rfl rfl)
theorem dJ27_next_23 : decode cJ27_next 23 = .ok (.aload_n 1, 1) := dk_43 (dk_at dksJ27_next_0 23 rfl rfl)
theorem dJ27_next_24 : decode cJ27_next 24 = .ok (.aload_n 0, 1) := dk_42 (dk_at dksJ27_next_1 0 rfl rfl)
theorem dJ27_next_25 : decode cJ27_next 25 = .ok (.getfield 29, 3) := dk_180 0 29 (dk_at dksJ27_next_1 1 rfl rfl)
theorem dJ27_next_28 : decode cJ27_next 28 = .ok (.invokestatic 39, 3) := dk_184 0 39 (dk_at dksJ27_next_1 4 rfl rfl)
theorem dJ27_next_31 : decode cJ27_next 31 = .ok (.astore_n 2, 1) := dk_77 (dk_at dksJ27_next_1 7 rfl rfl)
theorem dJ27_next_32 : decode cJ27_next 32 = .ok (.aload_n 0, 1) := dk_42 (dk_at dksJ27_next_1 8 rfl rfl)
theorem dJ27_next_33 : decode cJ27_next 33 = .ok (.aload_n 0, 1) := dk_42 (dk_at dksJ27_next_1 9 rfl rfl)
theorem dJ27_next_34 : decode cJ27_next 34 = .ok (.aload_n 0, 1) := dk_42 (dk_at dksJ27_next_1 10 rfl rfl)
theorem dJ27_next_35 : decode cJ27_next 35 = .ok (.getfield 29, 3) := dk_180 0 29 (dk_at dksJ27_next_1 11 rfl rfl)
theorem dJ27_next_38 : decode cJ27_next 38 = .ok (.dup_x1, 1) := dk_90 (dk_at dksJ27_next_1 14 rfl rfl)
theorem dJ27_next_39 : decode cJ27_next 39 = .ok (.putfield 23, 3) := dk_181 0 23 (dk_at dksJ27_next_1 15 rfl rfl)
theorem dJ27_next_42 : decode cJ27_next 42 = .ok (.aload_n 1, 1) := dk_43 (dk_at dksJ27_next_1 18 rfl rfl)
theorem dJ27_next_43 : decode cJ27_next 43 = .ok (.arraylength, 1) := dk_190 (dk_at dksJ27_next_1 19 rfl rfl)
theorem dJ27_next_44 : decode cJ27_next 44 = .ok (.invokestatic 43, 3) := dk_184 0 43 (dk_at dksJ27_next_1 20 rfl rfl)
theorem dJ27_next_47 : decode cJ27_next 47 = .ok (.putfield 29, 3) := dk_181 0 29 (dk_at dksJ27_next_2 0 rfl rfl)
theorem dJ27_next_50 : decode cJ27_next 50 = .ok (.aload_n 0, 1) := dk_42 (dk_at dksJ27_next_2 3 rfl rfl)
theorem dJ27_next_51 : decode cJ27_next 51 = .ok (.dup, 1) := dk_89 (dk_at dksJ27_next_2 4 rfl rfl)
theorem dJ27_next_52 : decode cJ27_next 52 = .ok (.getfield 19, 3) := dk_180 0 19 (dk_at dksJ27_next_2 5 rfl rfl)
theorem dJ27_next_55 : decode cJ27_next 55 = .ok (.iconst 1, 1) := dk_4 (dk_at dksJ27_next_2 8 rfl rfl)
theorem dJ27_next_56 : decode cJ27_next 56 = .ok (.isub, 1) := dk_100 (dk_at dksJ27_next_2 9 rfl rfl)
theorem dJ27_next_57 : decode cJ27_next 57 = .ok (.putfield 19, 3) := dk_181 0 19 (dk_at dksJ27_next_2 10 rfl rfl)
theorem dJ27_next_60 : decode cJ27_next 60 = .ok (.aload_n 2, 1) := dk_44 (dk_at dksJ27_next_2 13 rfl rfl)
theorem dJ27_next_61 : decode cJ27_next 61 = .ok (.areturn, 1) := dk_176 (dk_at dksJ27_next_2 14 rfl rfl)
abbrev cJ27_init : ByteArray := prog_42_method_1_code
def yJ27_init : MethodName := ⟨RJ27, "<init>", "(Ljava/util/ArrayDeque;)V"⟩
def dkwJ27_init_1 : List UInt8 := [181, 0, 23, 42, 43, 180, 0, 26, 181, 0, 29, 177]
abbrev dktJ27_init_1 : List UInt8 := dkwJ27_init_1 ++ []
def dkwJ27_init_0 : List UInt8 := [42, 43, 181, 0, 1, 42, 183, 0, 7, 42, 42, 180, 0, 1, 182, 0, 13, 181, 0, 19, 42, 2]
abbrev dktJ27_init_0 : List UInt8 := dkwJ27_init_0 ++ dktJ27_init_1
theorem dksJ27_init_0 : cJ27_init.data.toList.drop 0 = dktJ27_init_0 := by decide +kernel
theorem dksJ27_init_1 : cJ27_init.data.toList.drop 22 = dktJ27_init_1 := dk_seg dksJ27_init_0 22 rfl rfl
theorem dJ27_init_0 : decode cJ27_init 0 = .ok (.aload_n 0, 1) := dk_42 (dk_at dksJ27_init_0 0 rfl rfl)
theorem dJ27_init_1 : decode cJ27_init 1 = .ok (.aload_n 1, 1) := dk_43 (dk_at dksJ27_init_0 1 rfl rfl)
theorem dJ27_init_2 : decode cJ27_init 2 = .ok (.putfield 1, 3) := dk_181 0 1 (dk_at dksJ27_init_0 2 rfl rfl)
theorem dJ27_init_5 : decode cJ27_init 5 = .ok (.aload_n 0, 1) := dk_42 (dk_at dksJ27_init_0 5 rfl rfl)
theorem dJ27_init_6 : decode cJ27_init 6 = .ok (.invokespecial 7, 3) := dk_183 0 7 (dk_at dksJ27_init_0 6 rfl rfl)
theorem dJ27_init_9 : decode cJ27_init 9 = .ok (.aload_n 0, 1) := dk_42 (dk_at dksJ27_init_0 9 rfl rfl)
theorem dJ27_init_10 : decode cJ27_init 10 = .ok (.aload_n 0, 1) := dk_42 (dk_at dksJ27_init_0 10 rfl rfl)
theorem dJ27_init_11 : decode cJ27_init 11 = .ok (.getfield 1, 3) := dk_180 0 1 (dk_at dksJ27_init_0 11 rfl rfl)
theorem dJ27_init_14 : decode cJ27_init 14 = .ok (.invokevirtual 13, 3) := dk_182 0 13 (dk_at dksJ27_init_0 14 rfl rfl)
theorem dJ27_init_17 : decode cJ27_init 17 = .ok (.putfield 19, 3) := dk_181 0 19 (dk_at dksJ27_init_0 17 rfl rfl)
theorem dJ27_init_20 : decode cJ27_init 20 = .ok (.aload_n 0, 1) := dk_42 (dk_at dksJ27_init_0 20 rfl rfl)
theorem dJ27_init_21 : decode cJ27_init 21 = .ok (.iconst (-1), 1) := dk_2 (dk_at dksJ27_init_0 21 rfl rfl)
theorem dJ27_init_22 : decode cJ27_init 22 = .ok (.putfield 23, 3) := dk_181 0 23 (dk_at dksJ27_init_1 0 rfl rfl)
theorem dJ27_init_25 : decode cJ27_init 25 = .ok (.aload_n 0, 1) := dk_42 (dk_at dksJ27_init_1 3 rfl rfl)
theorem dJ27_init_26 : decode cJ27_init 26 = .ok (.aload_n 1, 1) := dk_43 (dk_at dksJ27_init_1 4 rfl rfl)
theorem dJ27_init_27 : decode cJ27_init 27 = .ok (.getfield 26, 3) := dk_180 0 26 (dk_at dksJ27_init_1 5 rfl rfl)
theorem dJ27_init_30 : decode cJ27_init 30 = .ok (.putfield 29, 3) := dk_181 0 29 (dk_at dksJ27_init_1 8 rfl rfl)
theorem dJ27_init_33 : decode cJ27_init 33 = .ok (.return_, 1) := dk_177 (dk_at dksJ27_init_1 11 rfl rfl)
abbrev cJ27_remove : ByteArray := prog_42_method_5_code
def yJ27_remove : MethodName := ⟨RJ27, "remove", "()V"⟩
def dkwJ27_remove_1 : List UInt8 := [182, 0, 53, 182, 0, 57, 42, 2, 181, 0, 23, 177]
abbrev dktJ27_remove_1 : List UInt8 := dkwJ27_remove_1 ++ []
def dkwJ27_remove_0 : List UInt8 := [42, 180, 0, 23, 156, 0, 11, 187, 0, 50, 89, 183, 0, 52, 191, 42, 42, 180, 0, 1, 42, 180, 0, 23]
abbrev dktJ27_remove_0 : List UInt8 := dkwJ27_remove_0 ++ dktJ27_remove_1
theorem dksJ27_remove_0 : cJ27_remove.data.toList.drop 0 = dktJ27_remove_0 := by decide +kernel
theorem dksJ27_remove_1 : cJ27_remove.data.toList.drop 24 = dktJ27_remove_1 := dk_seg dksJ27_remove_0 24 rfl rfl
theorem dJ27_remove_0 : decode cJ27_remove 0 = .ok (.aload_n 0, 1) := dk_42 (dk_at dksJ27_remove_0 0 rfl rfl)
theorem dJ27_remove_1 : decode cJ27_remove 1 = .ok (.getfield 23, 3) := dk_180 0 23 (dk_at dksJ27_remove_0 1 rfl rfl)
theorem dJ27_remove_4 : decode cJ27_remove 4 = .ok (.ifCond .ge 11, 3) := dk_156 0 11 (dk_at dksJ27_remove_0 4 rfl rfl)
theorem dJ27_remove_7 : decode cJ27_remove 7 = .ok (.new 50, 3) := dk_187 0 50 (dk_at dksJ27_remove_0 7 rfl rfl)
theorem dJ27_remove_10 : decode cJ27_remove 10 = .ok (.dup, 1) := dk_89 (dk_at dksJ27_remove_0 10 rfl rfl)
theorem dJ27_remove_11 : decode cJ27_remove 11 = .ok (.invokespecial 52, 3) := dk_183 0 52 (dk_at dksJ27_remove_0 11 rfl rfl)
theorem dJ27_remove_14 : decode cJ27_remove 14 = .ok (.athrow, 1) := dk_191 (dk_at dksJ27_remove_0 14 rfl rfl)
theorem dJ27_remove_15 : decode cJ27_remove 15 = .ok (.aload_n 0, 1) := dk_42 (dk_at dksJ27_remove_0 15 rfl rfl)
theorem dJ27_remove_16 : decode cJ27_remove 16 = .ok (.aload_n 0, 1) := dk_42 (dk_at dksJ27_remove_0 16 rfl rfl)
theorem dJ27_remove_17 : decode cJ27_remove 17 = .ok (.getfield 1, 3) := dk_180 0 1 (dk_at dksJ27_remove_0 17 rfl rfl)
theorem dJ27_remove_20 : decode cJ27_remove 20 = .ok (.aload_n 0, 1) := dk_42 (dk_at dksJ27_remove_0 20 rfl rfl)
theorem dJ27_remove_21 : decode cJ27_remove 21 = .ok (.getfield 23, 3) := dk_180 0 23 (dk_at dksJ27_remove_0 21 rfl rfl)
theorem dJ27_remove_24 : decode cJ27_remove 24 = .ok (.invokevirtual 53, 3) := dk_182 0 53 (dk_at dksJ27_remove_1 0 rfl rfl)
theorem dJ27_remove_27 : decode cJ27_remove 27 = .ok (.invokevirtual 57, 3) := dk_182 0 57 (dk_at dksJ27_remove_1 3 rfl rfl)
theorem dJ27_remove_30 : decode cJ27_remove 30 = .ok (.aload_n 0, 1) := dk_42 (dk_at dksJ27_remove_1 6 rfl rfl)
theorem dJ27_remove_31 : decode cJ27_remove 31 = .ok (.iconst (-1), 1) := dk_2 (dk_at dksJ27_remove_1 7 rfl rfl)
theorem dJ27_remove_32 : decode cJ27_remove 32 = .ok (.putfield 23, 3) := dk_181 0 23 (dk_at dksJ27_remove_1 8 rfl rfl)
theorem dJ27_remove_35 : decode cJ27_remove 35 = .ok (.return_, 1) := dk_177 (dk_at dksJ27_remove_1 11 rfl rfl)
abbrev cJ27_postDelete : ByteArray := prog_42_method_4_code
def yJ27_postDelete : MethodName := ⟨RJ27, "postDelete", "(Z)V"⟩
def dkwJ27_postDelete_0 : List UInt8 := [27, 153, 0, 22, 42, 42, 180, 0, 29, 42, 180, 0, 1, 180, 0, 35, 190, 184, 0, 47, 181, 0, 29, 177]
abbrev dktJ27_postDelete_0 : List UInt8 := dkwJ27_postDelete_0 ++ []
theorem dksJ27_postDelete_0 : cJ27_postDelete.data.toList.drop 0 = dktJ27_postDelete_0 := by decide +kernel
theorem dJ27_postDelete_0 : decode cJ27_postDelete 0 = .ok (.iload_n 1, 1) := dk_27 (dk_at dksJ27_postDelete_0 0 rfl rfl)
theorem dJ27_postDelete_1 : decode cJ27_postDelete 1 = .ok (.ifCond .eq 22, 3) := dk_153 0 22 (dk_at dksJ27_postDelete_0 1 rfl rfl)
theorem dJ27_postDelete_4 : decode cJ27_postDelete 4 = .ok (.aload_n 0, 1) := dk_42 (dk_at dksJ27_postDelete_0 4 rfl rfl)
theorem dJ27_postDelete_5 : decode cJ27_postDelete 5 = .ok (.aload_n 0, 1) := dk_42 (dk_at dksJ27_postDelete_0 5 rfl rfl)
theorem dJ27_postDelete_6 : decode cJ27_postDelete 6 = .ok (.getfield 29, 3) := dk_180 0 29 (dk_at dksJ27_postDelete_0 6 rfl rfl)
theorem dJ27_postDelete_9 : decode cJ27_postDelete 9 = .ok (.aload_n 0, 1) := dk_42 (dk_at dksJ27_postDelete_0 9 rfl rfl)
theorem dJ27_postDelete_10 : decode cJ27_postDelete 10 = .ok (.getfield 1, 3) := dk_180 0 1 (dk_at dksJ27_postDelete_0 10 rfl rfl)
theorem dJ27_postDelete_13 : decode cJ27_postDelete 13 = .ok (.getfield 35, 3) := dk_180 0 35 (dk_at dksJ27_postDelete_0 13 rfl rfl)
theorem dJ27_postDelete_16 : decode cJ27_postDelete 16 = .ok (.arraylength, 1) := dk_190 (dk_at dksJ27_postDelete_0 16 rfl rfl)
theorem dJ27_postDelete_17 : decode cJ27_postDelete 17 = .ok (.invokestatic 47, 3) := dk_184 0 47 (dk_at dksJ27_postDelete_0 17 rfl rfl)
theorem dJ27_postDelete_20 : decode cJ27_postDelete 20 = .ok (.putfield 29, 3) := dk_181 0 29 (dk_at dksJ27_postDelete_0 20 rfl rfl)
theorem dJ27_postDelete_23 : decode cJ27_postDelete 23 = .ok (.return_, 1) := dk_177 (dk_at dksJ27_postDelete_0 23 rfl rfl)
theorem q122 : (Jvm.Cond.initialized "java/util/ArrayDeque$DeqIterator") ∈ lw_all := lw_g (lw_at lw_m1 38 rfl) rfl
theorem q255 : (Jvm.Cond.selects "java/util/ArrayDeque$DeqIterator" ({ cls := "java/lang/Object", name := "getClass", desc := "()Ljava/lang/Class;" } : Jvm.MethodName) ({ cls := "java/lang/Object", name := "getClass", desc := "()Ljava/lang/Class;" } : Jvm.MethodName)) ∈ lw_all := lw_g (lw_at lw_m1 171 rfl) rfl
theorem q323 : (Jvm.Cond.fieldLink "java/util/ArrayDeque$DeqIterator" (35 : Nat) "java/util/ArrayDeque" "elements" "[Ljava/lang/Object;") ∈ lw_all := lw_g (lw_at lw_m1 239 rfl) rfl
theorem q324 : (Jvm.Cond.fieldLink "java/util/ArrayDeque$DeqIterator" (26 : Nat) "java/util/ArrayDeque" "head" "I") ∈ lw_all := lw_g (lw_at lw_m2 0 rfl) rfl
theorem q533 : (Jvm.Cond.castable "java/util/ArrayDeque$DeqIterator" "java/util/Iterator") ∈ lw_tbl := lw_at lw_m2 209 rfl
theorem q534 : (Jvm.Cond.selects "java/util/ArrayDeque$DeqIterator" ({ cls := "java/util/Iterator", name := "hasNext", desc := "()Z" } : Jvm.MethodName) ({ cls := "java/util/ArrayDeque$DeqIterator", name := "hasNext", desc := "()Z" } : Jvm.MethodName)) ∈ lw_all := lw_g (lw_at lw_m2 210 rfl) rfl
theorem q535 : (Jvm.Cond.unhidden "java/util/ArrayDeque$DeqIterator" "hasNext" "()Z") ∈ lw_tbl := lw_at lw_m2 211 rfl
theorem q536 : (Jvm.Cond.instanceMethod ({ cls := "java/util/ArrayDeque$DeqIterator", name := "hasNext", desc := "()Z" } : Jvm.MethodName)) ∈ lw_all := lw_g (lw_at lw_m2 212 rfl) rfl
theorem q537 : (Jvm.Cond.publicMethod ({ cls := "java/util/ArrayDeque$DeqIterator", name := "hasNext", desc := "()Z" } : Jvm.MethodName)) ∈ lw_tbl := lw_at lw_m2 213 rfl
theorem q538 : (Jvm.Cond.code ({ cls := "java/util/ArrayDeque$DeqIterator", name := "hasNext", desc := "()Z" } : Jvm.MethodName) prog_42_method_2_code (1 : Nat) (Option.some Jvm.ClassFile.FieldType.boolean)) ∈ lw_all := lw_g (lw_at lw_m2 214 rfl) rfl
theorem q881 : (Jvm.Cond.selects "java/util/ArrayDeque$DeqIterator" ({ cls := "java/util/Iterator", name := "next", desc := "()Ljava/lang/Object;" } : Jvm.MethodName) ({ cls := "java/util/ArrayDeque$DeqIterator", name := "next", desc := "()Ljava/lang/Object;" } : Jvm.MethodName)) ∈ lw_all := lw_g (lw_at lw_m4 77 rfl) rfl
theorem q882 : (Jvm.Cond.unhidden "java/util/ArrayDeque$DeqIterator" "next" "()Ljava/lang/Object;") ∈ lw_tbl := lw_at lw_m4 78 rfl
theorem q883 : (Jvm.Cond.instanceMethod ({ cls := "java/util/ArrayDeque$DeqIterator", name := "next", desc := "()Ljava/lang/Object;" } : Jvm.MethodName)) ∈ lw_all := lw_g (lw_at lw_m4 79 rfl) rfl
theorem q884 : (Jvm.Cond.publicMethod ({ cls := "java/util/ArrayDeque$DeqIterator", name := "next", desc := "()Ljava/lang/Object;" } : Jvm.MethodName)) ∈ lw_tbl := lw_at lw_m4 80 rfl
theorem q885 : (Jvm.Cond.code ({ cls := "java/util/ArrayDeque$DeqIterator", name := "next", desc := "()Ljava/lang/Object;" } : Jvm.MethodName) prog_42_method_3_code (3 : Nat) (Option.some (Jvm.ClassFile.FieldType.object "java/lang/Object"))) ∈ lw_all := lw_g (lw_at lw_m4 81 rfl) rfl
theorem q886 : (Jvm.Cond.methodLink "java/util/ArrayDeque$DeqIterator" (39 : Nat) ({ cls := "java/util/ArrayDeque", name := "nonNullElementAt", desc := "([Ljava/lang/Object;I)Ljava/lang/Object;" } : Jvm.MethodName)) ∈ lw_all := lw_g (lw_at lw_m4 82 rfl) rfl
theorem q889 : (Jvm.Cond.methodLink "java/util/ArrayDeque$DeqIterator" (43 : Nat) ({ cls := "java/util/ArrayDeque", name := "inc", desc := "(II)I" } : Jvm.MethodName)) ∈ lw_all := lw_g (lw_at lw_m4 85 rfl) rfl
theorem q1174 : (Jvm.Cond.instantiable "java/util/ArrayDeque$DeqIterator" (4 : Nat)) ∈ lw_all := lw_g (lw_at lw_m5 130 rfl) rfl
theorem q1176 : (Jvm.Cond.instanceMethod ({ cls := "java/util/ArrayDeque$DeqIterator", name := "<init>", desc := "(Ljava/util/ArrayDeque;)V" } : Jvm.MethodName)) ∈ lw_all := lw_g (lw_at lw_m5 132 rfl) rfl
theorem q1177 : (Jvm.Cond.code ({ cls := "java/util/ArrayDeque$DeqIterator", name := "<init>", desc := "(Ljava/util/ArrayDeque;)V" } : Jvm.MethodName) prog_42_method_1_code (2 : Nat) (Option.none : Option Jvm.ClassFile.FieldType)) ∈ lw_all := lw_g (lw_at lw_m5 133 rfl) rfl
theorem q1178 : (Jvm.Cond.methodLink "java/util/ArrayDeque$DeqIterator" (7 : Nat) ({ cls := "java/lang/Object", name := "<init>", desc := "()V" } : Jvm.MethodName)) ∈ lw_all := lw_g (lw_at lw_m5 134 rfl) rfl
theorem q1179 : (Jvm.Cond.methodLink "java/util/ArrayDeque$DeqIterator" (13 : Nat) ({ cls := "java/util/ArrayDeque", name := "size", desc := "()I" } : Jvm.MethodName)) ∈ lw_all := lw_g (lw_at lw_m5 135 rfl) rfl
theorem q1180 : (Jvm.Cond.fieldLink "java/util/ArrayDeque$DeqIterator" (29 : Nat) "java/util/ArrayDeque$DeqIterator" "cursor" "I") ∈ lw_all := lw_g (lw_at lw_m5 136 rfl) rfl
theorem q1181 : (Jvm.Cond.fieldLink "java/util/ArrayDeque$DeqIterator" (19 : Nat) "java/util/ArrayDeque$DeqIterator" "remaining" "I") ∈ lw_all := lw_g (lw_at lw_m5 137 rfl) rfl
theorem q1182 : (Jvm.Cond.fieldLink "java/util/ArrayDeque$DeqIterator" (23 : Nat) "java/util/ArrayDeque$DeqIterator" "lastRet" "I") ∈ lw_all := lw_g (lw_at lw_m5 138 rfl) rfl
theorem q1183 : (Jvm.Cond.fieldLink "java/util/ArrayDeque$DeqIterator" (1 : Nat) "java/util/ArrayDeque$DeqIterator" "this$0" "Ljava/util/ArrayDeque;") ∈ lw_all := lw_g (lw_at lw_m5 139 rfl) rfl
theorem q1184 : (Jvm.Cond.lays "java/util/ArrayDeque$DeqIterator" "java/util/ArrayDeque$DeqIterator" "cursor" "I") ∈ lw_all := lw_g (lw_at lw_m5 140 rfl) rfl
theorem q1185 : (Jvm.Cond.soleField "java/util/ArrayDeque$DeqIterator" "cursor") ∈ lw_all := lw_g (lw_at lw_m5 141 rfl) rfl
theorem q1186 : (Jvm.Cond.lays "java/util/ArrayDeque$DeqIterator" "java/util/ArrayDeque$DeqIterator" "remaining" "I") ∈ lw_all := lw_g (lw_at lw_m5 142 rfl) rfl
theorem q1187 : (Jvm.Cond.soleField "java/util/ArrayDeque$DeqIterator" "remaining") ∈ lw_all := lw_g (lw_at lw_m5 143 rfl) rfl
theorem q1188 : (Jvm.Cond.lays "java/util/ArrayDeque$DeqIterator" "java/util/ArrayDeque$DeqIterator" "lastRet" "I") ∈ lw_all := lw_g (lw_at lw_m5 144 rfl) rfl
theorem q1189 : (Jvm.Cond.soleField "java/util/ArrayDeque$DeqIterator" "lastRet") ∈ lw_all := lw_g (lw_at lw_m5 145 rfl) rfl
theorem q1190 : (Jvm.Cond.laysFinal "java/util/ArrayDeque$DeqIterator" "java/util/ArrayDeque$DeqIterator" "this$0" "Ljava/util/ArrayDeque;") ∈ lw_all := lw_g (lw_at lw_m5 146 rfl) rfl
theorem q1191 : (Jvm.Cond.soleField "java/util/ArrayDeque$DeqIterator" "this$0") ∈ lw_all := lw_g (lw_at lw_m5 147 rfl) rfl
theorem q1192 : (Jvm.Cond.superclass "java/util/ArrayDeque$DeqIterator" "java/lang/Object") ∈ lw_all := lw_g (lw_at lw_m5 148 rfl) rfl
theorem q1304 : (Jvm.Cond.selects "java/util/ArrayDeque$DeqIterator" ({ cls := "java/util/Iterator", name := "remove", desc := "()V" } : Jvm.MethodName) ({ cls := "java/util/ArrayDeque$DeqIterator", name := "remove", desc := "()V" } : Jvm.MethodName)) ∈ lw_all := lw_g (lw_at lw_m6 20 rfl) rfl
theorem q1305 : (Jvm.Cond.unhidden "java/util/ArrayDeque$DeqIterator" "remove" "()V") ∈ lw_tbl := lw_at lw_m6 21 rfl
theorem q1306 : (Jvm.Cond.instanceMethod ({ cls := "java/util/ArrayDeque$DeqIterator", name := "remove", desc := "()V" } : Jvm.MethodName)) ∈ lw_all := lw_g (lw_at lw_m6 22 rfl) rfl
theorem q1307 : (Jvm.Cond.publicMethod ({ cls := "java/util/ArrayDeque$DeqIterator", name := "remove", desc := "()V" } : Jvm.MethodName)) ∈ lw_tbl := lw_at lw_m6 23 rfl
theorem q1308 : (Jvm.Cond.code ({ cls := "java/util/ArrayDeque$DeqIterator", name := "remove", desc := "()V" } : Jvm.MethodName) prog_42_method_5_code (1 : Nat) (Option.none : Option Jvm.ClassFile.FieldType)) ∈ lw_all := lw_g (lw_at lw_m6 24 rfl) rfl
theorem q1309 : (Jvm.Cond.methodLink "java/util/ArrayDeque$DeqIterator" (53 : Nat) ({ cls := "java/util/ArrayDeque", name := "delete", desc := "(I)Z" } : Jvm.MethodName)) ∈ lw_all := lw_g (lw_at lw_m6 25 rfl) rfl
theorem q1316 : (Jvm.Cond.methodLink "java/util/ArrayDeque$DeqIterator" (57 : Nat) ({ cls := "java/util/ArrayDeque$DeqIterator", name := "postDelete", desc := "(Z)V" } : Jvm.MethodName)) ∈ lw_all := lw_g (lw_at lw_m6 32 rfl) rfl
theorem q1317 : (Jvm.Cond.instanceMethod ({ cls := "java/util/ArrayDeque$DeqIterator", name := "postDelete", desc := "(Z)V" } : Jvm.MethodName)) ∈ lw_all := lw_g (lw_at lw_m6 33 rfl) rfl
theorem q1318 : (Jvm.Cond.selects "java/util/ArrayDeque$DeqIterator" ({ cls := "java/util/ArrayDeque$DeqIterator", name := "postDelete", desc := "(Z)V" } : Jvm.MethodName) ({ cls := "java/util/ArrayDeque$DeqIterator", name := "postDelete", desc := "(Z)V" } : Jvm.MethodName)) ∈ lw_all := lw_g (lw_at lw_m6 34 rfl) rfl
theorem q1319 : (Jvm.Cond.code ({ cls := "java/util/ArrayDeque$DeqIterator", name := "postDelete", desc := "(Z)V" } : Jvm.MethodName) prog_42_method_4_code (2 : Nat) (Option.none : Option Jvm.ClassFile.FieldType)) ∈ lw_all := lw_g (lw_at lw_m6 35 rfl) rfl
theorem q1320 : (Jvm.Cond.methodLink "java/util/ArrayDeque$DeqIterator" (47 : Nat) ({ cls := "java/util/ArrayDeque", name := "dec", desc := "(II)I" } : Jvm.MethodName)) ∈ lw_all := lw_g (lw_at lw_m6 36 rfl) rfl
theorem q2290 : (Jvm.Cond.castable "java/util/ArrayDeque$DeqIterator" "java/lang/Object") ∈ lw_tbl := lw_at lw_m10 46 rfl
theorem in_J27 : ∀ w ∈ wsJ270, w ∈ lw_all := lw_in wsJ270 [1184, 1186, 1188, 1190] (by decide +kernel) (by decide +kernel)

/-! java/lang/IllegalStateException -/
set_option maxRecDepth 100000
def RJ28 : String := "java/lang/IllegalStateException"
def TJ28 : u_T := fun k => match k with
  | 0 => ("java/lang/Throwable", "cause", "Ljava/lang/Throwable;", false)
  | 1 => ("java/lang/Throwable", "stackTrace", "[Ljava/lang/StackTraceElement;", false)
  | 2 => ("java/lang/Throwable", "suppressedExceptions", "Ljava/util/List;", false)
  | 3 => ("java/lang/Throwable", "detailMessage", "Ljava/lang/String;", false)
  | 4 => ("java/lang/Throwable", "backtrace", "Ljava/lang/Object;", false)
  | _ => ("java/lang/Throwable", "depth", "I", false)
def tyJ28 : Nat → FieldType := fun k => match k with
  | 0 => .object "java/lang/Throwable"
  | 1 => .array (.object "java/lang/StackTraceElement")
  | 2 => .object "java/util/List"
  | 3 => .object "java/lang/String"
  | 4 => .object "java/lang/Object"
  | _ => .int
abbrev wsJ280 : List Cond := u_ws RJ28 TJ28 6
theorem nmJ28 : ∀ a, a < 6 → ∀ b, b < 6 → a ≠ b → (TJ28 a).2.1 ≠ (TJ28 b).2.1 := by decide +kernel
theorem tyJ28_ok : ∀ k, k < 6 → parseFieldDescriptor (TJ28 k).2.2.1 = some (tyJ28 k) := by decide +kernel
abbrev cJ28_init : ByteArray := prog_21_method_1_code
def yJ28_init : MethodName := ⟨RJ28, "<init>", "()V"⟩
theorem dJ28_init_0 : decode cJ28_init 0 = .ok (.aload_n 0, 1) := by decide +kernel
theorem dJ28_init_1 : decode cJ28_init 1 = .ok (.invokespecial 1, 3) := by decide +kernel
theorem dJ28_init_4 : decode cJ28_init 4 = .ok (.return_, 1) := by decide +kernel
theorem q123 : (Jvm.Cond.initialized "java/lang/IllegalStateException") ∈ lw_all := lw_g (lw_at lw_m1 39 rfl) rfl
theorem q249 : (Jvm.Cond.selects "java/lang/IllegalStateException" ({ cls := "java/lang/Object", name := "getClass", desc := "()Ljava/lang/Class;" } : Jvm.MethodName) ({ cls := "java/lang/Object", name := "getClass", desc := "()Ljava/lang/Class;" } : Jvm.MethodName)) ∈ lw_all := lw_g (lw_at lw_m1 165 rfl) rfl
theorem q652 : (Jvm.Cond.selects "java/lang/IllegalStateException" ({ cls := "java/lang/Throwable", name := "fillInStackTrace", desc := "()Ljava/lang/Throwable;" } : Jvm.MethodName) ({ cls := "java/lang/Throwable", name := "fillInStackTrace", desc := "()Ljava/lang/Throwable;" } : Jvm.MethodName)) ∈ lw_all := lw_g (lw_at lw_m3 88 rfl) rfl
theorem q677 : (Jvm.Cond.selects "java/lang/IllegalStateException" ({ cls := "java/lang/Throwable", name := "toString", desc := "()Ljava/lang/String;" } : Jvm.MethodName) ({ cls := "java/lang/Throwable", name := "toString", desc := "()Ljava/lang/String;" } : Jvm.MethodName)) ∈ lw_all := lw_g (lw_at lw_m3 113 rfl) rfl
theorem q687 : (Jvm.Cond.selects "java/lang/IllegalStateException" ({ cls := "java/lang/Throwable", name := "getLocalizedMessage", desc := "()Ljava/lang/String;" } : Jvm.MethodName) ({ cls := "java/lang/Throwable", name := "getLocalizedMessage", desc := "()Ljava/lang/String;" } : Jvm.MethodName)) ∈ lw_all := lw_g (lw_at lw_m3 123 rfl) rfl
theorem q696 : (Jvm.Cond.selects "java/lang/IllegalStateException" ({ cls := "java/lang/Throwable", name := "getMessage", desc := "()Ljava/lang/String;" } : Jvm.MethodName) ({ cls := "java/lang/Throwable", name := "getMessage", desc := "()Ljava/lang/String;" } : Jvm.MethodName)) ∈ lw_all := lw_g (lw_at lw_m3 132 rfl) rfl
theorem q1250 : (Jvm.Cond.instantiable "java/lang/IllegalStateException" (6 : Nat)) ∈ lw_all := lw_g (lw_at lw_m5 206 rfl) rfl
theorem q1251 : (Jvm.Cond.castable "java/lang/IllegalStateException" "java/lang/IllegalStateException") ∈ lw_tbl := lw_at lw_m5 207 rfl
theorem q1252 : (Jvm.Cond.selects "java/lang/IllegalStateException" ({ cls := "java/lang/Throwable", name := "fillInStackTrace", desc := "(I)Ljava/lang/Throwable;" } : Jvm.MethodName) ({ cls := "java/lang/Throwable", name := "fillInStackTrace", desc := "(I)Ljava/lang/Throwable;" } : Jvm.MethodName)) ∈ lw_all := lw_g (lw_at lw_m5 208 rfl) rfl
theorem q1253 : (Jvm.Cond.lays "java/lang/IllegalStateException" "java/lang/Throwable" "cause" "Ljava/lang/Throwable;") ∈ lw_all := lw_g (lw_at lw_m5 209 rfl) rfl
theorem q1254 : (Jvm.Cond.lays "java/lang/IllegalStateException" "java/lang/Throwable" "stackTrace" "[Ljava/lang/StackTraceElement;") ∈ lw_all := lw_g (lw_at lw_m5 210 rfl) rfl
theorem q1255 : (Jvm.Cond.lays "java/lang/IllegalStateException" "java/lang/Throwable" "suppressedExceptions" "Ljava/util/List;") ∈ lw_all := lw_g (lw_at lw_m5 211 rfl) rfl
theorem q1256 : (Jvm.Cond.lays "java/lang/IllegalStateException" "java/lang/Throwable" "detailMessage" "Ljava/lang/String;") ∈ lw_all := lw_g (lw_at lw_m5 212 rfl) rfl
theorem q1257 : (Jvm.Cond.lays "java/lang/IllegalStateException" "java/lang/Throwable" "backtrace" "Ljava/lang/Object;") ∈ lw_all := lw_g (lw_at lw_m5 213 rfl) rfl
theorem q1259 : (Jvm.Cond.instanceMethod ({ cls := "java/lang/IllegalStateException", name := "<init>", desc := "()V" } : Jvm.MethodName)) ∈ lw_all := lw_g (lw_at lw_m5 215 rfl) rfl
theorem q1260 : (Jvm.Cond.code ({ cls := "java/lang/IllegalStateException", name := "<init>", desc := "()V" } : Jvm.MethodName) prog_21_method_1_code (1 : Nat) (Option.none : Option Jvm.ClassFile.FieldType)) ∈ lw_all := lw_g (lw_at lw_m5 216 rfl) rfl
theorem q1261 : (Jvm.Cond.methodLink "java/lang/IllegalStateException" (1 : Nat) ({ cls := "java/lang/RuntimeException", name := "<init>", desc := "()V" } : Jvm.MethodName)) ∈ lw_all := lw_g (lw_at lw_m5 217 rfl) rfl
theorem q1268 : (Jvm.Cond.lays "java/lang/IllegalStateException" "java/lang/Throwable" "depth" "I") ∈ lw_all := lw_g (lw_at lw_m5 224 rfl) rfl
theorem q1269 : (Jvm.Cond.superclass "java/lang/IllegalStateException" "java/lang/RuntimeException") ∈ lw_all := lw_g (lw_at lw_m5 225 rfl) rfl
theorem q2293 : (Jvm.Cond.castable "java/lang/IllegalStateException" "java/lang/Object") ∈ lw_tbl := lw_at lw_m10 49 rfl
theorem in_J28 : ∀ w ∈ wsJ280, w ∈ lw_all := lw_in wsJ280 [1253, 1254, 1255, 1256, 1257, 1268] (by decide +kernel) (by decide +kernel)

/-! java/util/ConcurrentModificationException -/
set_option maxRecDepth 100000
def RJ29 : String := "java/util/ConcurrentModificationException"
def TJ29 : u_T := fun k => match k with
  | 0 => ("java/lang/Throwable", "cause", "Ljava/lang/Throwable;", false)
  | 1 => ("java/lang/Throwable", "stackTrace", "[Ljava/lang/StackTraceElement;", false)
  | 2 => ("java/lang/Throwable", "suppressedExceptions", "Ljava/util/List;", false)
  | 3 => ("java/lang/Throwable", "detailMessage", "Ljava/lang/String;", false)
  | 4 => ("java/lang/Throwable", "backtrace", "Ljava/lang/Object;", false)
  | _ => ("java/lang/Throwable", "depth", "I", false)
def tyJ29 : Nat → FieldType := fun k => match k with
  | 0 => .object "java/lang/Throwable"
  | 1 => .array (.object "java/lang/StackTraceElement")
  | 2 => .object "java/util/List"
  | 3 => .object "java/lang/String"
  | 4 => .object "java/lang/Object"
  | _ => .int
abbrev wsJ290 : List Cond := u_ws RJ29 TJ29 6
theorem nmJ29 : ∀ a, a < 6 → ∀ b, b < 6 → a ≠ b → (TJ29 a).2.1 ≠ (TJ29 b).2.1 := by decide +kernel
theorem tyJ29_ok : ∀ k, k < 6 → parseFieldDescriptor (TJ29 k).2.2.1 = some (tyJ29 k) := by decide +kernel
abbrev cJ29_init : ByteArray := prog_48_method_1_code
def yJ29_init : MethodName := ⟨RJ29, "<init>", "()V"⟩
theorem dJ29_init_0 : decode cJ29_init 0 = .ok (.aload_n 0, 1) := by decide +kernel
theorem dJ29_init_1 : decode cJ29_init 1 = .ok (.invokespecial 1, 3) := by decide +kernel
theorem dJ29_init_4 : decode cJ29_init 4 = .ok (.return_, 1) := by decide +kernel
theorem q124 : (Jvm.Cond.initialized "java/util/ConcurrentModificationException") ∈ lw_all := lw_g (lw_at lw_m1 40 rfl) rfl
theorem q259 : (Jvm.Cond.selects "java/util/ConcurrentModificationException" ({ cls := "java/lang/Object", name := "getClass", desc := "()Ljava/lang/Class;" } : Jvm.MethodName) ({ cls := "java/lang/Object", name := "getClass", desc := "()Ljava/lang/Class;" } : Jvm.MethodName)) ∈ lw_all := lw_g (lw_at lw_m1 175 rfl) rfl
theorem q653 : (Jvm.Cond.selects "java/util/ConcurrentModificationException" ({ cls := "java/lang/Throwable", name := "fillInStackTrace", desc := "()Ljava/lang/Throwable;" } : Jvm.MethodName) ({ cls := "java/lang/Throwable", name := "fillInStackTrace", desc := "()Ljava/lang/Throwable;" } : Jvm.MethodName)) ∈ lw_all := lw_g (lw_at lw_m3 89 rfl) rfl
theorem q678 : (Jvm.Cond.selects "java/util/ConcurrentModificationException" ({ cls := "java/lang/Throwable", name := "toString", desc := "()Ljava/lang/String;" } : Jvm.MethodName) ({ cls := "java/lang/Throwable", name := "toString", desc := "()Ljava/lang/String;" } : Jvm.MethodName)) ∈ lw_all := lw_g (lw_at lw_m3 114 rfl) rfl
theorem q688 : (Jvm.Cond.selects "java/util/ConcurrentModificationException" ({ cls := "java/lang/Throwable", name := "getLocalizedMessage", desc := "()Ljava/lang/String;" } : Jvm.MethodName) ({ cls := "java/lang/Throwable", name := "getLocalizedMessage", desc := "()Ljava/lang/String;" } : Jvm.MethodName)) ∈ lw_all := lw_g (lw_at lw_m3 124 rfl) rfl
theorem q697 : (Jvm.Cond.selects "java/util/ConcurrentModificationException" ({ cls := "java/lang/Throwable", name := "getMessage", desc := "()Ljava/lang/String;" } : Jvm.MethodName) ({ cls := "java/lang/Throwable", name := "getMessage", desc := "()Ljava/lang/String;" } : Jvm.MethodName)) ∈ lw_all := lw_g (lw_at lw_m3 133 rfl) rfl
theorem q1290 : (Jvm.Cond.instantiable "java/util/ConcurrentModificationException" (6 : Nat)) ∈ lw_all := lw_g (lw_at lw_m6 6 rfl) rfl
theorem q1291 : (Jvm.Cond.castable "java/util/ConcurrentModificationException" "java/util/ConcurrentModificationException") ∈ lw_tbl := lw_at lw_m6 7 rfl
theorem q1292 : (Jvm.Cond.selects "java/util/ConcurrentModificationException" ({ cls := "java/lang/Throwable", name := "fillInStackTrace", desc := "(I)Ljava/lang/Throwable;" } : Jvm.MethodName) ({ cls := "java/lang/Throwable", name := "fillInStackTrace", desc := "(I)Ljava/lang/Throwable;" } : Jvm.MethodName)) ∈ lw_all := lw_g (lw_at lw_m6 8 rfl) rfl
theorem q1293 : (Jvm.Cond.lays "java/util/ConcurrentModificationException" "java/lang/Throwable" "cause" "Ljava/lang/Throwable;") ∈ lw_all := lw_g (lw_at lw_m6 9 rfl) rfl
theorem q1294 : (Jvm.Cond.lays "java/util/ConcurrentModificationException" "java/lang/Throwable" "stackTrace" "[Ljava/lang/StackTraceElement;") ∈ lw_all := lw_g (lw_at lw_m6 10 rfl) rfl
theorem q1295 : (Jvm.Cond.lays "java/util/ConcurrentModificationException" "java/lang/Throwable" "suppressedExceptions" "Ljava/util/List;") ∈ lw_all := lw_g (lw_at lw_m6 11 rfl) rfl
theorem q1296 : (Jvm.Cond.lays "java/util/ConcurrentModificationException" "java/lang/Throwable" "detailMessage" "Ljava/lang/String;") ∈ lw_all := lw_g (lw_at lw_m6 12 rfl) rfl
theorem q1297 : (Jvm.Cond.lays "java/util/ConcurrentModificationException" "java/lang/Throwable" "backtrace" "Ljava/lang/Object;") ∈ lw_all := lw_g (lw_at lw_m6 13 rfl) rfl
theorem q1299 : (Jvm.Cond.instanceMethod ({ cls := "java/util/ConcurrentModificationException", name := "<init>", desc := "()V" } : Jvm.MethodName)) ∈ lw_all := lw_g (lw_at lw_m6 15 rfl) rfl
theorem q1300 : (Jvm.Cond.code ({ cls := "java/util/ConcurrentModificationException", name := "<init>", desc := "()V" } : Jvm.MethodName) prog_48_method_1_code (1 : Nat) (Option.none : Option Jvm.ClassFile.FieldType)) ∈ lw_all := lw_g (lw_at lw_m6 16 rfl) rfl
theorem q1301 : (Jvm.Cond.methodLink "java/util/ConcurrentModificationException" (1 : Nat) ({ cls := "java/lang/RuntimeException", name := "<init>", desc := "()V" } : Jvm.MethodName)) ∈ lw_all := lw_g (lw_at lw_m6 17 rfl) rfl
theorem q1302 : (Jvm.Cond.lays "java/util/ConcurrentModificationException" "java/lang/Throwable" "depth" "I") ∈ lw_all := lw_g (lw_at lw_m6 18 rfl) rfl
theorem q1303 : (Jvm.Cond.superclass "java/util/ConcurrentModificationException" "java/lang/RuntimeException") ∈ lw_all := lw_g (lw_at lw_m6 19 rfl) rfl
theorem q2294 : (Jvm.Cond.castable "java/util/ConcurrentModificationException" "java/lang/Object") ∈ lw_tbl := lw_at lw_m10 50 rfl
theorem in_J29 : ∀ w ∈ wsJ290, w ∈ lw_all := lw_in wsJ290 [1293, 1294, 1295, 1296, 1297, 1302] (by decide +kernel) (by decide +kernel)

/-! java/lang/Character -/
set_option maxRecDepth 100000
def RJ30 : String := "java/lang/Character"
abbrev cJ30_isValidCodePoint : ByteArray := prog_17_method_11_code
def yJ30_isValidCodePoint : MethodName := ⟨RJ30, "isValidCodePoint", "(I)Z"⟩
def dkwJ30_isValidCodePoint_0 : List UInt8 := [26, 16, 16, 124, 60, 27, 16, 17, 162, 0, 7, 4, 167, 0, 4, 3, 172]
abbrev dktJ30_isValidCodePoint_0 : List UInt8 := dkwJ30_isValidCodePoint_0 ++ []
theorem dksJ30_isValidCodePoint_0 : cJ30_isValidCodePoint.data.toList.drop 0 = dktJ30_isValidCodePoint_0 := by decide +kernel
theorem dJ30_isValidCodePoint_0 : decode cJ30_isValidCodePoint 0 = .ok (.iload_n 0, 1) := dk_26 (dk_at dksJ30_isValidCodePoint_0 0 rfl rfl)
theorem dJ30_isValidCodePoint_1 : decode cJ30_isValidCodePoint 1 = .ok (.bipush 16, 2) := dk_16 16 (dk_at dksJ30_isValidCodePoint_0 1 rfl rfl)
theorem dJ30_isValidCodePoint_3 : decode cJ30_isValidCodePoint 3 = .ok (.iushr, 1) := dk_124 (dk_at dksJ30_isValidCodePoint_0 3 rfl rfl)
theorem dJ30_isValidCodePoint_4 : decode cJ30_isValidCodePoint 4 = .ok (.istore_n 1, 1) := dk_60 (dk_at dksJ30_isValidCodePoint_0 4 rfl rfl)
theorem dJ30_isValidCodePoint_5 : decode cJ30_isValidCodePoint 5 = .ok (.iload_n 1, 1) := dk_27 (dk_at dksJ30_isValidCodePoint_0 5 rfl rfl)
theorem dJ30_isValidCodePoint_6 : decode cJ30_isValidCodePoint 6 = .ok (.bipush 17, 2) := dk_16 17 (dk_at dksJ30_isValidCodePoint_0 6 rfl rfl)
theorem dJ30_isValidCodePoint_8 : decode cJ30_isValidCodePoint 8 = .ok (.if_icmp .ge 7, 3) := dk_162 0 7 (dk_at dksJ30_isValidCodePoint_0 8 rfl rfl)
theorem dJ30_isValidCodePoint_11 : decode cJ30_isValidCodePoint 11 = .ok (.iconst 1, 1) := dk_4 (dk_at dksJ30_isValidCodePoint_0 11 rfl rfl)
theorem dJ30_isValidCodePoint_12 : decode cJ30_isValidCodePoint 12 = .ok (.goto 4, 3) := dk_167 0 4 (dk_at dksJ30_isValidCodePoint_0 12 rfl rfl)
theorem dJ30_isValidCodePoint_15 : decode cJ30_isValidCodePoint 15 = .ok (.iconst 0, 1) := dk_3 (dk_at dksJ30_isValidCodePoint_0 15 rfl rfl)
theorem dJ30_isValidCodePoint_16 : decode cJ30_isValidCodePoint 16 = .ok (.ireturn, 1) := dk_172 (dk_at dksJ30_isValidCodePoint_0 16 rfl rfl)
abbrev cJ30_highSurrogate : ByteArray := prog_17_method_28_code
def yJ30_highSurrogate : MethodName := ⟨RJ30, "highSurrogate", "(I)C"⟩
def dkwJ30_highSurrogate_0 : List UInt8 := [26, 16, 10, 124, 18, 110, 96, 146, 172]
abbrev dktJ30_highSurrogate_0 : List UInt8 := dkwJ30_highSurrogate_0 ++ []
theorem dksJ30_highSurrogate_0 : cJ30_highSurrogate.data.toList.drop 0 = dktJ30_highSurrogate_0 := by decide +kernel
theorem dJ30_highSurrogate_0 : decode cJ30_highSurrogate 0 = .ok (.iload_n 0, 1) := dk_26 (dk_at dksJ30_highSurrogate_0 0 rfl rfl)
theorem dJ30_highSurrogate_1 : decode cJ30_highSurrogate 1 = .ok (.bipush 10, 2) := dk_16 10 (dk_at dksJ30_highSurrogate_0 1 rfl rfl)
theorem dJ30_highSurrogate_3 : decode cJ30_highSurrogate 3 = .ok (.iushr, 1) := dk_124 (dk_at dksJ30_highSurrogate_0 3 rfl rfl)
theorem dJ30_highSurrogate_4 : decode cJ30_highSurrogate 4 = .ok (.ldc 110, 2) := dk_18 110 (dk_at dksJ30_highSurrogate_0 4 rfl rfl)
theorem dJ30_highSurrogate_6 : decode cJ30_highSurrogate 6 = .ok (.iadd, 1) := dk_96 (dk_at dksJ30_highSurrogate_0 6 rfl rfl)
theorem dJ30_highSurrogate_7 : decode cJ30_highSurrogate 7 = .ok (.i2c, 1) := dk_146 (dk_at dksJ30_highSurrogate_0 7 rfl rfl)
theorem dJ30_highSurrogate_8 : decode cJ30_highSurrogate 8 = .ok (.ireturn, 1) := dk_172 (dk_at dksJ30_highSurrogate_0 8 rfl rfl)
abbrev cJ30_lowSurrogate : ByteArray := prog_17_method_29_code
def yJ30_lowSurrogate : MethodName := ⟨RJ30, "lowSurrogate", "(I)C"⟩
def dkwJ30_lowSurrogate_0 : List UInt8 := [26, 17, 3, 255, 126, 18, 76, 96, 146, 172]
abbrev dktJ30_lowSurrogate_0 : List UInt8 := dkwJ30_lowSurrogate_0 ++ []
theorem dksJ30_lowSurrogate_0 : cJ30_lowSurrogate.data.toList.drop 0 = dktJ30_lowSurrogate_0 := by decide +kernel
theorem dJ30_lowSurrogate_0 : decode cJ30_lowSurrogate 0 = .ok (.iload_n 0, 1) := dk_26 (dk_at dksJ30_lowSurrogate_0 0 rfl rfl)
theorem dJ30_lowSurrogate_1 : decode cJ30_lowSurrogate 1 = .ok (.sipush 1023, 3) := dk_17 3 255 (dk_at dksJ30_lowSurrogate_0 1 rfl rfl)
theorem dJ30_lowSurrogate_4 : decode cJ30_lowSurrogate 4 = .ok (.iand, 1) := dk_126 (dk_at dksJ30_lowSurrogate_0 4 rfl rfl)
theorem dJ30_lowSurrogate_5 : decode cJ30_lowSurrogate 5 = .ok (.ldc 76, 2) := dk_18 76 (dk_at dksJ30_lowSurrogate_0 5 rfl rfl)
theorem dJ30_lowSurrogate_7 : decode cJ30_lowSurrogate 7 = .ok (.iadd, 1) := dk_96 (dk_at dksJ30_lowSurrogate_0 7 rfl rfl)
theorem dJ30_lowSurrogate_8 : decode cJ30_lowSurrogate 8 = .ok (.i2c, 1) := dk_146 (dk_at dksJ30_lowSurrogate_0 8 rfl rfl)
theorem dJ30_lowSurrogate_9 : decode cJ30_lowSurrogate 9 = .ok (.ireturn, 1) := dk_172 (dk_at dksJ30_lowSurrogate_0 9 rfl rfl)
theorem q128 : (Jvm.Cond.initialized "java/lang/Character") ∈ lw_all := lw_g (lw_at lw_m1 44 rfl) rfl
theorem q1681 : (Jvm.Cond.static ({ cls := "java/lang/Character", name := "isValidCodePoint", desc := "(I)Z" } : Jvm.MethodName)) ∈ lw_all := lw_g (lw_at lw_m7 157 rfl) rfl
theorem q1682 : (Jvm.Cond.code ({ cls := "java/lang/Character", name := "isValidCodePoint", desc := "(I)Z" } : Jvm.MethodName) prog_17_method_11_code (2 : Nat) (Option.some Jvm.ClassFile.FieldType.boolean)) ∈ lw_all := lw_g (lw_at lw_m7 158 rfl) rfl
theorem q1684 : (Jvm.Cond.static ({ cls := "java/lang/Character", name := "highSurrogate", desc := "(I)C" } : Jvm.MethodName)) ∈ lw_all := lw_g (lw_at lw_m7 160 rfl) rfl
theorem q1685 : (Jvm.Cond.code ({ cls := "java/lang/Character", name := "highSurrogate", desc := "(I)C" } : Jvm.MethodName) prog_17_method_28_code (1 : Nat) (Option.some Jvm.ClassFile.FieldType.char)) ∈ lw_all := lw_g (lw_at lw_m7 161 rfl) rfl
theorem q1686 : (Jvm.Cond.constant "java/lang/Character" (110 : Nat) (55232 : Int32)) ∈ lw_all := lw_g (lw_at lw_m7 162 rfl) rfl
theorem q1688 : (Jvm.Cond.static ({ cls := "java/lang/Character", name := "lowSurrogate", desc := "(I)C" } : Jvm.MethodName)) ∈ lw_all := lw_g (lw_at lw_m7 164 rfl) rfl
theorem q1689 : (Jvm.Cond.code ({ cls := "java/lang/Character", name := "lowSurrogate", desc := "(I)C" } : Jvm.MethodName) prog_17_method_29_code (1 : Nat) (Option.some Jvm.ClassFile.FieldType.char)) ∈ lw_all := lw_g (lw_at lw_m7 165 rfl) rfl
theorem q1690 : (Jvm.Cond.constant "java/lang/Character" (76 : Nat) (56320 : Int32)) ∈ lw_all := lw_g (lw_at lw_m7 166 rfl) rfl

/-! java/lang/Object -/
set_option maxRecDepth 100000
def RJ31 : String := "java/lang/Object"
abbrev cJ31_init : ByteArray := object_method_1_code
def yJ31_init : MethodName := ⟨RJ31, "<init>", "()V"⟩
theorem dJ31_init_0 : decode cJ31_init 0 = .ok (.return_, 1) := by decide +kernel
theorem q135 : (Jvm.Cond.instanceMethod ({ cls := "java/lang/Object", name := "<init>", desc := "()V" } : Jvm.MethodName)) ∈ lw_all := lw_g (lw_at lw_m1 51 rfl) rfl
theorem q136 : (Jvm.Cond.code ({ cls := "java/lang/Object", name := "<init>", desc := "()V" } : Jvm.MethodName) object_method_1_code (1 : Nat) (Option.none : Option Jvm.ClassFile.FieldType)) ∈ lw_all := lw_g (lw_at lw_m1 52 rfl) rfl
theorem q237 : (Jvm.Cond.instanceMethod ({ cls := "java/lang/Object", name := "getClass", desc := "()Ljava/lang/Class;" } : Jvm.MethodName)) ∈ lw_all := lw_g (lw_at lw_m1 153 rfl) rfl
theorem q238 : (Jvm.Cond.sameMethod "java/lang/Object" "java/lang/Object" "getClass" "()Ljava/lang/Class;") ∈ lw_all := lw_g (lw_at lw_m1 154 rfl) rfl
theorem q264 : (Jvm.Cond.native ({ cls := "java/lang/Object", name := "getClass", desc := "()Ljava/lang/Class;" } : Jvm.MethodName)) ∈ lw_all := lw_g (lw_at lw_m1 180 rfl) rfl
theorem q728 : (Jvm.Cond.native ({ cls := "java/lang/Object", name := "clone", desc := "()Ljava/lang/Object;" } : Jvm.MethodName)) ∈ lw_all := lw_g (lw_at lw_m3 164 rfl) rfl
theorem q729 : (Jvm.Cond.instanceMethod ({ cls := "java/lang/Object", name := "clone", desc := "()Ljava/lang/Object;" } : Jvm.MethodName)) ∈ lw_all := lw_g (lw_at lw_m3 165 rfl) rfl
theorem q2271 : (Jvm.Cond.initialized "java/lang/Object") ∈ lw_all := lw_g (lw_at lw_m10 27 rfl) rfl
theorem q2301 : (Jvm.Cond.declares ({ cls := "java/lang/Object", name := "getClass", desc := "()Ljava/lang/Class;" } : Jvm.MethodName)) ∈ lw_tbl := lw_at lw_m10 57 rfl
theorem q2317 : (Jvm.Cond.instantiable "java/lang/Object" (0 : Nat)) ∈ lw_all := lw_g (lw_at lw_m10 73 rfl) rfl

/-! java/util/Iterator -/
set_option maxRecDepth 100000
def RJ32 : String := "java/util/Iterator"
abbrev cJ32_remove : ByteArray := prog_50_method_3_code
def yJ32_remove : MethodName := ⟨RJ32, "remove", "()V"⟩
def dkwJ32_remove_0 : List UInt8 := [187, 0, 1, 89, 18, 3, 183, 0, 5, 191]
abbrev dktJ32_remove_0 : List UInt8 := dkwJ32_remove_0 ++ []
theorem dksJ32_remove_0 : cJ32_remove.data.toList.drop 0 = dktJ32_remove_0 := by decide +kernel
theorem dJ32_remove_0 : decode cJ32_remove 0 = .ok (.new 1, 3) := dk_187 0 1 (dk_at dksJ32_remove_0 0 rfl rfl)
theorem dJ32_remove_3 : decode cJ32_remove 3 = .ok (.dup, 1) := dk_89 (dk_at dksJ32_remove_0 3 rfl rfl)
theorem dJ32_remove_4 : decode cJ32_remove 4 = .ok (.ldc 3, 2) := dk_18 3 (dk_at dksJ32_remove_0 4 rfl rfl)
theorem dJ32_remove_6 : decode cJ32_remove 6 = .ok (.invokespecial 5, 3) := dk_183 0 5 (dk_at dksJ32_remove_0 6 rfl rfl)
theorem dJ32_remove_9 : decode cJ32_remove 9 = .ok (.athrow, 1) := dk_191 (dk_at dksJ32_remove_0 9 rfl rfl)
theorem q510 : (Jvm.Cond.interfaceMethod "java/util/Iterator" "java/util/Iterator" "hasNext" "()Z") ∈ lw_tbl := lw_at lw_m2 186 rfl
theorem q511 : (Jvm.Cond.declares ({ cls := "java/util/Iterator", name := "hasNext", desc := "()Z" } : Jvm.MethodName)) ∈ lw_tbl := lw_at lw_m2 187 rfl
theorem q556 : (Jvm.Cond.interfaceMethod "java/util/Iterator" "java/util/Iterator" "next" "()Ljava/lang/Object;") ∈ lw_tbl := lw_at lw_m2 232 rfl
theorem q557 : (Jvm.Cond.declares ({ cls := "java/util/Iterator", name := "next", desc := "()Ljava/lang/Object;" } : Jvm.MethodName)) ∈ lw_tbl := lw_at lw_m2 233 rfl
theorem q1238 : (Jvm.Cond.interfaceMethod "java/util/Iterator" "java/util/Iterator" "remove" "()V") ∈ lw_tbl := lw_at lw_m5 194 rfl
theorem q1239 : (Jvm.Cond.declares ({ cls := "java/util/Iterator", name := "remove", desc := "()V" } : Jvm.MethodName)) ∈ lw_tbl := lw_at lw_m5 195 rfl
theorem q1241 : (Jvm.Cond.instanceMethod ({ cls := "java/util/Iterator", name := "remove", desc := "()V" } : Jvm.MethodName)) ∈ lw_all := lw_g (lw_at lw_m5 197 rfl) rfl
theorem q1242 : (Jvm.Cond.publicMethod ({ cls := "java/util/Iterator", name := "remove", desc := "()V" } : Jvm.MethodName)) ∈ lw_tbl := lw_at lw_m5 198 rfl
theorem q1243 : (Jvm.Cond.code ({ cls := "java/util/Iterator", name := "remove", desc := "()V" } : Jvm.MethodName) prog_50_method_3_code (1 : Nat) (Option.none : Option Jvm.ClassFile.FieldType)) ∈ lw_all := lw_g (lw_at lw_m5 199 rfl) rfl
