/-! java/util/AbstractCollection -/
set_option maxRecDepth 100000
def RJ0 : String := "java/util/AbstractCollection"
abbrev cJ0_init : ByteArray := prog_50_method_1_code
def yJ0_init : MethodName := ⟨RJ0, "<init>", "()V"⟩
theorem dJ0_init_0 : decode cJ0_init 0 = .ok (.aload_n 0, 1) := by decide +kernel
theorem dJ0_init_1 : decode cJ0_init 1 = .ok (.invokespecial 1, 3) := by decide +kernel
theorem dJ0_init_4 : decode cJ0_init 4 = .ok (.return_, 1) := by decide +kernel
theorem q102 : (Jvm.Cond.initialized "java/util/AbstractCollection") ∈ lw_all := lw_g (lw_at lw_m1 4 rfl) rfl
theorem q233 : (Jvm.Cond.instanceMethod ({ cls := "java/util/AbstractCollection", name := "<init>", desc := "()V" } : Jvm.MethodName)) ∈ lw_all := lw_g (lw_at lw_m1 135 rfl) rfl
theorem q234 : (Jvm.Cond.code ({ cls := "java/util/AbstractCollection", name := "<init>", desc := "()V" } : Jvm.MethodName) prog_50_method_1_code (1 : Nat) (Option.none : Option Jvm.ClassFile.FieldType)) ∈ lw_all := lw_g (lw_at lw_m1 136 rfl) rfl
theorem q235 : (Jvm.Cond.methodLink "java/util/AbstractCollection" (1 : Nat) ({ cls := "java/lang/Object", name := "<init>", desc := "()V" } : Jvm.MethodName)) ∈ lw_all := lw_g (lw_at lw_m1 137 rfl) rfl
/-! java/util/ArrayDeque -/
set_option maxRecDepth 100000
def RJ1 : String := "java/util/ArrayDeque"
def TJ1 : u_T := fun k => match k with
  | 0 => ("java/util/ArrayDeque", "elements", "[Ljava/lang/Object;", false)
  | 1 => ("java/util/ArrayDeque", "head", "I", false)
  | _ => ("java/util/ArrayDeque", "tail", "I", false)
def tyJ1 : Nat → FieldType := fun k => match k with
  | 0 => .array (.object "java/lang/Object")
  | 1 => .int
  | _ => .int
abbrev wsJ10 : List Cond := u_ws RJ1 TJ1 3
theorem nmJ1 : ∀ a, a < 3 → ∀ b, b < 3 → a ≠ b → (TJ1 a).2.1 ≠ (TJ1 b).2.1 := by decide +kernel
theorem tyJ1_ok : ∀ k, k < 3 → parseFieldDescriptor (TJ1 k).2.2.1 = some (tyJ1 k) := by decide +kernel
abbrev cJ1_init : ByteArray := prog_54_method_3_code
def yJ1_init : MethodName := ⟨RJ1, "<init>", "()V"⟩
def dkwJ1_init_0 : List UInt8 := [42, 183, 0, 42, 42, 16, 17, 189, 0, 47, 181, 0, 3, 177]
abbrev dktJ1_init_0 : List UInt8 := dkwJ1_init_0 ++ []
theorem dksJ1_init_0 : cJ1_init.data.toList.drop 0 = dktJ1_init_0 := by decide +kernel
theorem dJ1_init_0 : decode cJ1_init 0 = .ok (.aload_n 0, 1) := dk_42 (dk_at dksJ1_init_0 0 rfl rfl)
theorem dJ1_init_1 : decode cJ1_init 1 = .ok (.invokespecial 42, 3) := dk_183 0 42 (dk_at dksJ1_init_0 1 rfl rfl)
theorem dJ1_init_4 : decode cJ1_init 4 = .ok (.aload_n 0, 1) := dk_42 (dk_at dksJ1_init_0 4 rfl rfl)
theorem dJ1_init_5 : decode cJ1_init 5 = .ok (.bipush 17, 2) := dk_16 17 (dk_at dksJ1_init_0 5 rfl rfl)
theorem dJ1_init_7 : decode cJ1_init 7 = .ok (.anewarray 47, 3) := dk_189 0 47 (dk_at dksJ1_init_0 7 rfl rfl)
theorem dJ1_init_10 : decode cJ1_init 10 = .ok (.putfield 3, 3) := dk_181 0 3 (dk_at dksJ1_init_0 10 rfl rfl)
theorem dJ1_init_13 : decode cJ1_init 13 = .ok (.return_, 1) := dk_177 (dk_at dksJ1_init_0 13 rfl rfl)
abbrev cJ1_size : ByteArray := prog_54_method_37_code
def yJ1_size : MethodName := ⟨RJ1, "size", "()I"⟩
def dkwJ1_size_0 : List UInt8 := [42, 180, 0, 20, 42, 180, 0, 24, 42, 180, 0, 3, 190, 184, 0, 127, 172]
abbrev dktJ1_size_0 : List UInt8 := dkwJ1_size_0 ++ []
theorem dksJ1_size_0 : cJ1_size.data.toList.drop 0 = dktJ1_size_0 := by decide +kernel
theorem dJ1_size_0 : decode cJ1_size 0 = .ok (.aload_n 0, 1) := dk_42 (dk_at dksJ1_size_0 0 rfl rfl)
theorem dJ1_size_1 : decode cJ1_size 1 = .ok (.getfield 20, 3) := dk_180 0 20 (dk_at dksJ1_size_0 1 rfl rfl)
theorem dJ1_size_4 : decode cJ1_size 4 = .ok (.aload_n 0, 1) := dk_42 (dk_at dksJ1_size_0 4 rfl rfl)
theorem dJ1_size_5 : decode cJ1_size 5 = .ok (.getfield 24, 3) := dk_180 0 24 (dk_at dksJ1_size_0 5 rfl rfl)
theorem dJ1_size_8 : decode cJ1_size 8 = .ok (.aload_n 0, 1) := dk_42 (dk_at dksJ1_size_0 8 rfl rfl)
theorem dJ1_size_9 : decode cJ1_size 9 = .ok (.getfield 3, 3) := dk_180 0 3 (dk_at dksJ1_size_0 9 rfl rfl)
theorem dJ1_size_12 : decode cJ1_size 12 = .ok (.arraylength, 1) := dk_190 (dk_at dksJ1_size_0 12 rfl rfl)
theorem dJ1_size_13 : decode cJ1_size 13 = .ok (.invokestatic 127, 3) := dk_184 0 127 (dk_at dksJ1_size_0 13 rfl rfl)
theorem dJ1_size_16 : decode cJ1_size 16 = .ok (.ireturn, 1) := dk_172 (dk_at dksJ1_size_0 16 rfl rfl)
abbrev cJ1_sub : ByteArray := prog_54_method_9_code
def yJ1_sub : MethodName := ⟨RJ1, "sub", "(III)I"⟩
def dkwJ1_sub_0 : List UInt8 := [26, 27, 100, 89, 59, 156, 0, 7, 26, 28, 96, 59, 26, 172]
abbrev dktJ1_sub_0 : List UInt8 := dkwJ1_sub_0 ++ []
theorem dksJ1_sub_0 : cJ1_sub.data.toList.drop 0 = dktJ1_sub_0 := by decide +kernel
theorem dJ1_sub_0 : decode cJ1_sub 0 = .ok (.iload_n 0, 1) := dk_26 (dk_at dksJ1_sub_0 0 rfl rfl)
theorem dJ1_sub_1 : decode cJ1_sub 1 = .ok (.iload_n 1, 1) := dk_27 (dk_at dksJ1_sub_0 1 rfl rfl)
theorem dJ1_sub_2 : decode cJ1_sub 2 = .ok (.isub, 1) := dk_100 (dk_at dksJ1_sub_0 2 rfl rfl)
theorem dJ1_sub_3 : decode cJ1_sub 3 = .ok (.dup, 1) := dk_89 (dk_at dksJ1_sub_0 3 rfl rfl)
theorem dJ1_sub_4 : decode cJ1_sub 4 = .ok (.istore_n 0, 1) := dk_59 (dk_at dksJ1_sub_0 4 rfl rfl)
theorem dJ1_sub_5 : decode cJ1_sub 5 = .ok (.ifCond .ge 7, 3) := dk_156 0 7 (dk_at dksJ1_sub_0 5 rfl rfl)
theorem dJ1_sub_8 : decode cJ1_sub 8 = .ok (.iload_n 0, 1) := dk_26 (dk_at dksJ1_sub_0 8 rfl rfl)
theorem dJ1_sub_9 : decode cJ1_sub 9 = .ok (.iload_n 2, 1) := dk_28 (dk_at dksJ1_sub_0 9 rfl rfl)
theorem dJ1_sub_10 : decode cJ1_sub 10 = .ok (.iadd, 1) := dk_96 (dk_at dksJ1_sub_0 10 rfl rfl)
theorem dJ1_sub_11 : decode cJ1_sub 11 = .ok (.istore_n 0, 1) := dk_59 (dk_at dksJ1_sub_0 11 rfl rfl)
theorem dJ1_sub_12 : decode cJ1_sub 12 = .ok (.iload_n 0, 1) := dk_26 (dk_at dksJ1_sub_0 12 rfl rfl)
theorem dJ1_sub_13 : decode cJ1_sub 13 = .ok (.ireturn, 1) := dk_172 (dk_at dksJ1_sub_0 13 rfl rfl)
abbrev cJ1_removeFirst : ByteArray := prog_54_method_18_code
def yJ1_removeFirst : MethodName := ⟨RJ1, "removeFirst", "()Ljava/lang/Object;"⟩
def dkwJ1_removeFirst_0 : List UInt8 := [42, 182, 0, 93, 76, 43, 199, 0, 11, 187, 0, 97, 89, 183, 0, 99, 191, 43, 176]
abbrev dktJ1_removeFirst_0 : List UInt8 := dkwJ1_removeFirst_0 ++ []
theorem dksJ1_removeFirst_0 : cJ1_removeFirst.data.toList.drop 0 = dktJ1_removeFirst_0 := by decide +kernel
theorem dJ1_removeFirst_0 : decode cJ1_removeFirst 0 = .ok (.aload_n 0, 1) := dk_42 (dk_at dksJ1_removeFirst_0 0 rfl rfl)
theorem dJ1_removeFirst_1 : decode cJ1_removeFirst 1 = .ok (.invokevirtual 93, 3) := dk_182 0 93 (dk_at dksJ1_removeFirst_0 1 rfl rfl)
theorem dJ1_removeFirst_4 : decode cJ1_removeFirst 4 = .ok (.astore_n 1, 1) := dk_76 (dk_at dksJ1_removeFirst_0 4 rfl rfl)
theorem dJ1_removeFirst_5 : decode cJ1_removeFirst 5 = .ok (.aload_n 1, 1) := dk_43 (dk_at dksJ1_removeFirst_0 5 rfl rfl)
theorem dJ1_removeFirst_6 : decode cJ1_removeFirst 6 = .ok (.ifnonnull 11, 3) := dk_199 0 11 (dk_at dksJ1_removeFirst_0 6 rfl rfl)
theorem dJ1_removeFirst_9 : decode cJ1_removeFirst 9 = .ok (.new 97, 3) := dk_187 0 97 (dk_at dksJ1_removeFirst_0 9 rfl rfl)
theorem dJ1_removeFirst_12 : decode cJ1_removeFirst 12 = .ok (.dup, 1) := dk_89 (dk_at dksJ1_removeFirst_0 12 rfl rfl)
theorem dJ1_removeFirst_13 : decode cJ1_removeFirst 13 = .ok (.invokespecial 99, 3) := dk_183 0 99 (dk_at dksJ1_removeFirst_0 13 rfl rfl)
theorem dJ1_removeFirst_16 : decode cJ1_removeFirst 16 = .ok (.athrow, 1) := dk_191 (dk_at dksJ1_removeFirst_0 16 rfl rfl)
theorem dJ1_removeFirst_17 : decode cJ1_removeFirst 17 = .ok (.aload_n 1, 1) := dk_43 (dk_at dksJ1_removeFirst_0 17 rfl rfl)
theorem dJ1_removeFirst_18 : decode cJ1_removeFirst 18 = .ok (.areturn, 1) := dk_176 (dk_at dksJ1_removeFirst_0 18 rfl rfl)
abbrev cJ1_pollFirst : ByteArray := prog_54_method_20_code
def yJ1_pollFirst : MethodName := ⟨RJ1, "pollFirst", "()Ljava/lang/Object;"⟩
def dkwJ1_pollFirst_1 : List UInt8 := [42, 28, 43, 190, 184, 0, 74, 181, 0, 24, 45, 176]
abbrev dktJ1_pollFirst_1 : List UInt8 := dkwJ1_pollFirst_1 ++ []
def dkwJ1_pollFirst_0 : List UInt8 := [42, 180, 0, 3, 89, 76, 42, 180, 0, 24, 89, 61, 184, 0, 103, 78, 45, 198, 0, 17, 43, 28, 1, 83]
abbrev dktJ1_pollFirst_0 : List UInt8 := dkwJ1_pollFirst_0 ++ dktJ1_pollFirst_1
theorem dksJ1_pollFirst_0 : cJ1_pollFirst.data.toList.drop 0 = dktJ1_pollFirst_0 := by decide +kernel
theorem dksJ1_pollFirst_1 : cJ1_pollFirst.data.toList.drop 24 = dktJ1_pollFirst_1 := dk_seg dksJ1_pollFirst_0 24 rfl rfl
theorem dJ1_pollFirst_0 : decode cJ1_pollFirst 0 = .ok (.aload_n 0, 1) := dk_42 (dk_at dksJ1_pollFirst_0 0 rfl rfl)
theorem dJ1_pollFirst_1 : decode cJ1_pollFirst 1 = .ok (.getfield 3, 3) := dk_180 0 3 (dk_at dksJ1_pollFirst_0 1 rfl rfl)
theorem dJ1_pollFirst_4 : decode cJ1_pollFirst 4 = .ok (.dup, 1) := dk_89 (dk_at dksJ1_pollFirst_0 4 rfl rfl)
theorem dJ1_pollFirst_5 : decode cJ1_pollFirst 5 = .ok (.astore_n 1, 1) := dk_76 (dk_at dksJ1_pollFirst_0 5 rfl rfl)
theorem dJ1_pollFirst_6 : decode cJ1_pollFirst 6 = .ok (.aload_n 0, 1) := dk_42 (dk_at dksJ1_pollFirst_0 6 rfl rfl)
theorem dJ1_pollFirst_7 : decode cJ1_pollFirst 7 = .ok (.getfield 24, 3) := dk_180 0 24 (dk_at dksJ1_pollFirst_0 7 rfl rfl)
theorem dJ1_pollFirst_10 : decode cJ1_pollFirst 10 = .ok (.dup, 1) := dk_89 (dk_at dksJ1_pollFirst_0 10 rfl rfl)
theorem dJ1_pollFirst_11 : decode cJ1_pollFirst 11 = .ok (.istore_n 2, 1) := dk_61 (dk_at dksJ1_pollFirst_0 11 rfl rfl)
theorem dJ1_pollFirst_12 : decode cJ1_pollFirst 12 = .ok (.invokestatic 103, 3) := dk_184 0 103 (dk_at dksJ1_pollFirst_0 12 rfl rfl)
theorem dJ1_pollFirst_15 : decode cJ1_pollFirst 15 = .ok (.astore_n 3, 1) := dk_78 (dk_at dksJ1_pollFirst_0 15 rfl rfl)
theorem dJ1_pollFirst_16 : decode cJ1_pollFirst 16 = .ok (.aload_n 3, 1) := dk_45 (dk_at dksJ1_pollFirst_0 16 rfl rfl)
theorem dJ1_pollFirst_17 : decode cJ1_pollFirst 17 = .ok (.ifnull 17, 3) := dk_198 0 17 (dk_at dksJ1_pollFirst_0 17 rfl rfl)
theorem dJ1_pollFirst_20 : decode cJ1_pollFirst 20 = .ok (.aload_n 1, 1) := dk_43 (dk_at dksJ1_pollFirst_0 20 rfl rfl)
theorem dJ1_pollFirst_21 : decode cJ1_pollFirst 21 = .ok (.iload_n 2, 1) := dk_28 (dk_at dksJ1_pollFirst_0 21 rfl rfl)
theorem dJ1_pollFirst_22 : decode cJ1_pollFirst 22 = .ok (.aconst_null, 1) := dk_1 (dk_at dksJ1_pollFirst_0 22 rfl rfl)
theorem dJ1_pollFirst_23 : decode cJ1_pollFirst 23 = .ok (.aastore, 1) := dk_83 (dk_at dksJ1_pollFirst_0 23 rfl rfl)
theorem dJ1_pollFirst_24 : decode cJ1_pollFirst 24 = .ok (.aload_n 0, 1) := dk_42 (dk_at dksJ1_pollFirst_1 0 rfl rfl)
theorem dJ1_pollFirst_25 : decode cJ1_pollFirst 25 = .ok (.iload_n 2, 1) := dk_28 (dk_at dksJ1_pollFirst_1 1 rfl rfl)
theorem dJ1_pollFirst_26 : decode cJ1_pollFirst 26 = .ok (.aload_n 1, 1) := dk_43 (dk_at dksJ1_pollFirst_1 2 rfl rfl)
theorem dJ1_pollFirst_27 : decode cJ1_pollFirst 27 = .ok (.arraylength, 1) := dk_190 (dk_at dksJ1_pollFirst_1 3 rfl rfl)
theorem dJ1_pollFirst_28 : decode cJ1_pollFirst 28 = .ok (.invokestatic 74, 3) := dk_184 0 74 (dk_at dksJ1_pollFirst_1 4 rfl rfl)
theorem dJ1_pollFirst_31 : decode cJ1_pollFirst 31 = .ok (.putfield 24, 3) := dk_181 0 24 (dk_at dksJ1_pollFirst_1 7 rfl rfl)
theorem dJ1_pollFirst_34 : decode cJ1_pollFirst 34 = .ok (.aload_n 3, 1) := dk_45 (dk_at dksJ1_pollFirst_1 10 rfl rfl)
theorem dJ1_pollFirst_35 : decode cJ1_pollFirst 35 = .ok (.areturn, 1) := dk_176 (dk_at dksJ1_pollFirst_1 11 rfl rfl)
abbrev cJ1_elementAt : ByteArray := prog_54_method_10_code
def yJ1_elementAt : MethodName := ⟨RJ1, "elementAt", "([Ljava/lang/Object;I)Ljava/lang/Object;"⟩
def dkwJ1_elementAt_0 : List UInt8 := [42, 27, 50, 176]
abbrev dktJ1_elementAt_0 : List UInt8 := dkwJ1_elementAt_0 ++ []
theorem dksJ1_elementAt_0 : cJ1_elementAt.data.toList.drop 0 = dktJ1_elementAt_0 := by decide +kernel
theorem dJ1_elementAt_0 : decode cJ1_elementAt 0 = .ok (.aload_n 0, 1) := dk_42 (dk_at dksJ1_elementAt_0 0 rfl rfl)
theorem dJ1_elementAt_1 : decode cJ1_elementAt 1 = .ok (.iload_n 1, 1) := dk_27 (dk_at dksJ1_elementAt_0 1 rfl rfl)
theorem dJ1_elementAt_2 : decode cJ1_elementAt 2 = .ok (.aaload, 1) := dk_50 (dk_at dksJ1_elementAt_0 2 rfl rfl)
theorem dJ1_elementAt_3 : decode cJ1_elementAt 3 = .ok (.areturn, 1) := dk_176 (dk_at dksJ1_elementAt_0 3 rfl rfl)
abbrev cJ1_inc : ByteArray := prog_54_method_6_code
def yJ1_inc : MethodName := ⟨RJ1, "inc", "(II)I"⟩
def dkwJ1_inc_0 : List UInt8 := [132, 0, 1, 26, 27, 161, 0, 5, 3, 59, 26, 172]
abbrev dktJ1_inc_0 : List UInt8 := dkwJ1_inc_0 ++ []
theorem dksJ1_inc_0 : cJ1_inc.data.toList.drop 0 = dktJ1_inc_0 := by decide +kernel
theorem dJ1_inc_0 : decode cJ1_inc 0 = .ok (.iinc 0 1, 3) := dk_132 0 1 (dk_at dksJ1_inc_0 0 rfl rfl)
theorem dJ1_inc_3 : decode cJ1_inc 3 = .ok (.iload_n 0, 1) := dk_26 (dk_at dksJ1_inc_0 3 rfl rfl)
theorem dJ1_inc_4 : decode cJ1_inc 4 = .ok (.iload_n 1, 1) := dk_27 (dk_at dksJ1_inc_0 4 rfl rfl)
theorem dJ1_inc_5 : decode cJ1_inc 5 = .ok (.if_icmp .lt 5, 3) := dk_161 0 5 (dk_at dksJ1_inc_0 5 rfl rfl)
theorem dJ1_inc_8 : decode cJ1_inc 8 = .ok (.iconst 0, 1) := dk_3 (dk_at dksJ1_inc_0 8 rfl rfl)
theorem dJ1_inc_9 : decode cJ1_inc 9 = .ok (.istore_n 0, 1) := dk_59 (dk_at dksJ1_inc_0 9 rfl rfl)
theorem dJ1_inc_10 : decode cJ1_inc 10 = .ok (.iload_n 0, 1) := dk_26 (dk_at dksJ1_inc_0 10 rfl rfl)
theorem dJ1_inc_11 : decode cJ1_inc 11 = .ok (.ireturn, 1) := dk_172 (dk_at dksJ1_inc_0 11 rfl rfl)
abbrev cJ1_iterator : ByteArray := prog_54_method_39_code
def yJ1_iterator : MethodName := ⟨RJ1, "iterator", "()Ljava/util/Iterator;"⟩
def dkwJ1_iterator_0 : List UInt8 := [187, 0, 131, 89, 42, 183, 0, 133, 176]
abbrev dktJ1_iterator_0 : List UInt8 := dkwJ1_iterator_0 ++ []
theorem dksJ1_iterator_0 : cJ1_iterator.data.toList.drop 0 = dktJ1_iterator_0 := by decide +kernel
theorem dJ1_iterator_0 : decode cJ1_iterator 0 = .ok (.new 131, 3) := dk_187 0 131 (dk_at dksJ1_iterator_0 0 rfl rfl)
theorem dJ1_iterator_3 : decode cJ1_iterator 3 = .ok (.dup, 1) := dk_89 (dk_at dksJ1_iterator_0 3 rfl rfl)
theorem dJ1_iterator_4 : decode cJ1_iterator 4 = .ok (.aload_n 0, 1) := dk_42 (dk_at dksJ1_iterator_0 4 rfl rfl)
theorem dJ1_iterator_5 : decode cJ1_iterator 5 = .ok (.invokespecial 133, 3) := dk_183 0 133 (dk_at dksJ1_iterator_0 5 rfl rfl)
theorem dJ1_iterator_8 : decode cJ1_iterator 8 = .ok (.areturn, 1) := dk_176 (dk_at dksJ1_iterator_0 8 rfl rfl)
abbrev cJ1_nonNullElementAt : ByteArray := prog_54_method_11_code
def yJ1_nonNullElementAt : MethodName := ⟨RJ1, "nonNullElementAt", "([Ljava/lang/Object;I)Ljava/lang/Object;"⟩
def dkwJ1_nonNullElementAt_0 : List UInt8 := [42, 27, 50, 77, 44, 199, 0, 11, 187, 0, 62, 89, 183, 0, 64, 191, 44, 176]
abbrev dktJ1_nonNullElementAt_0 : List UInt8 := dkwJ1_nonNullElementAt_0 ++ []
theorem dksJ1_nonNullElementAt_0 : cJ1_nonNullElementAt.data.toList.drop 0 = dktJ1_nonNullElementAt_0 := by decide +kernel
theorem dJ1_nonNullElementAt_0 : decode cJ1_nonNullElementAt 0 = .ok (.aload_n 0, 1) := dk_42 (dk_at dksJ1_nonNullElementAt_0 0 rfl rfl)
theorem dJ1_nonNullElementAt_1 : decode cJ1_nonNullElementAt 1 = .ok (.iload_n 1, 1) := dk_27 (dk_at dksJ1_nonNullElementAt_0 1 rfl rfl)
theorem dJ1_nonNullElementAt_2 : decode cJ1_nonNullElementAt 2 = .ok (.aaload, 1) := dk_50 (dk_at dksJ1_nonNullElementAt_0 2 rfl rfl)
theorem dJ1_nonNullElementAt_3 : decode cJ1_nonNullElementAt 3 = .ok (.astore_n 2, 1) := dk_77 (dk_at dksJ1_nonNullElementAt_0 3 rfl rfl)
theorem dJ1_nonNullElementAt_4 : decode cJ1_nonNullElementAt 4 = .ok (.aload_n 2, 1) := dk_44 (dk_at dksJ1_nonNullElementAt_0 4 rfl rfl)
theorem dJ1_nonNullElementAt_5 : decode cJ1_nonNullElementAt 5 = .ok (.ifnonnull 11, 3) := dk_199 0 11 (dk_at dksJ1_nonNullElementAt_0 5 rfl rfl)
theorem dJ1_nonNullElementAt_8 : decode cJ1_nonNullElementAt 8 = .ok (.new 62, 3) := dk_187 0 62 (dk_at dksJ1_nonNullElementAt_0 8 rfl rfl)
theorem dJ1_nonNullElementAt_11 : decode cJ1_nonNullElementAt 11 = .ok (.dup, 1) := dk_89 (dk_at dksJ1_nonNullElementAt_0 11 rfl rfl)
theorem dJ1_nonNullElementAt_12 : decode cJ1_nonNullElementAt 12 = .ok (.invokespecial 64, 3) := dk_183 0 64 (dk_at dksJ1_nonNullElementAt_0 12 rfl rfl)
theorem dJ1_nonNullElementAt_15 : decode cJ1_nonNullElementAt 15 = .ok (.athrow, 1) := dk_191 (dk_at dksJ1_nonNullElementAt_0 15 rfl rfl)
theorem dJ1_nonNullElementAt_16 : decode cJ1_nonNullElementAt 16 = .ok (.aload_n 2, 1) := dk_44 (dk_at dksJ1_nonNullElementAt_0 16 rfl rfl)
theorem dJ1_nonNullElementAt_17 : decode cJ1_nonNullElementAt 17 = .ok (.areturn, 1) := dk_176 (dk_at dksJ1_nonNullElementAt_0 17 rfl rfl)
abbrev cJ1_addLast : ByteArray := prog_54_method_13_code
def yJ1_addLast : MethodName := ⟨RJ1, "addLast", "(Ljava/lang/Object;)V"⟩
def dkwJ1_addLast_2 : List UInt8 := [182, 0, 71, 177]
abbrev dktJ1_addLast_2 : List UInt8 := dkwJ1_addLast_2 ++ []
def dkwJ1_addLast_1 : List UInt8 := [42, 180, 0, 24, 42, 42, 180, 0, 20, 44, 190, 184, 0, 74, 90, 181, 0, 20, 160, 0, 8, 42, 4]
abbrev dktJ1_addLast_1 : List UInt8 := dkwJ1_addLast_1 ++ dktJ1_addLast_2
def dkwJ1_addLast_0 : List UInt8 := [43, 199, 0, 11, 187, 0, 65, 89, 183, 0, 67, 191, 42, 180, 0, 3, 77, 44, 42, 180, 0, 20, 43, 83]
abbrev dktJ1_addLast_0 : List UInt8 := dkwJ1_addLast_0 ++ dktJ1_addLast_1
theorem dksJ1_addLast_0 : cJ1_addLast.data.toList.drop 0 = dktJ1_addLast_0 := by decide +kernel
theorem dksJ1_addLast_1 : cJ1_addLast.data.toList.drop 24 = dktJ1_addLast_1 := dk_seg dksJ1_addLast_0 24 rfl rfl
theorem dksJ1_addLast_2 : cJ1_addLast.data.toList.drop 47 = dktJ1_addLast_2 := dk_seg dksJ1_addLast_1 23 rfl rfl
theorem dJ1_addLast_0 : decode cJ1_addLast 0 = .ok (.aload_n 1, 1) := dk_43 (dk_at dksJ1_addLast_0 0 rfl rfl)
theorem dJ1_addLast_1 : decode cJ1_addLast 1 = .ok (.ifnonnull 11, 3) := dk_199 0 11 (dk_at dksJ1_addLast_0 1 rfl rfl)
theorem dJ1_addLast_4 : decode cJ1_addLast 4 = .ok (.new 65, 3) := dk_187 0 65 (dk_at dksJ1_addLast_0 4 rfl rfl)
theorem dJ1_addLast_7 : decode cJ1_addLast 7 = .ok (.dup, 1) := dk_89 (dk_at dksJ1_addLast_0 7 rfl rfl)
theorem dJ1_addLast_8 : decode cJ1_addLast 8 = .ok (.invokespecial 67, 3) := dk_183 0 67 (dk_at dksJ1_addLast_0 8 rfl rfl)
theorem dJ1_addLast_11 : decode cJ1_addLast 11 = .ok (.athrow, 1) := dk_191 (dk_at dksJ1_addLast_0 11 rfl rfl)
theorem dJ1_addLast_12 : decode cJ1_addLast 12 = .ok (.aload_n 0, 1) := dk_42 (dk_at dksJ1_addLast_0 12 rfl rfl)
theorem dJ1_addLast_13 : decode cJ1_addLast 13 = .ok (.getfield 3, 3) := dk_180 0 3 (dk_at dksJ1_addLast_0 13 rfl rfl)
theorem dJ1_addLast_16 : decode cJ1_addLast 16 = .ok (.astore_n 2, 1) := dk_77 (dk_at dksJ1_addLast_0 16 rfl rfl)
theorem dJ1_addLast_17 : decode cJ1_addLast 17 = .ok (.aload_n 2, 1) := dk_44 (dk_at dksJ1_addLast_0 17 rfl rfl)
theorem dJ1_addLast_18 : decode cJ1_addLast 18 = .ok (.aload_n 0, 1) := dk_42 (dk_at dksJ1_addLast_0 18 rfl rfl)
theorem dJ1_addLast_19 : decode cJ1_addLast 19 = .ok (.getfield 20, 3) := dk_180 0 20 (dk_at dksJ1_addLast_0 19 rfl rfl)
theorem dJ1_addLast_22 : decode cJ1_addLast 22 = .ok (.aload_n 1, 1) := dk_43 (dk_at dksJ1_addLast_0 22 rfl rfl)
theorem dJ1_addLast_23 : decode cJ1_addLast 23 = .ok (.aastore, 1) := dk_83 (dk_at dksJ1_addLast_0 23 rfl rfl)
theorem dJ1_addLast_24 : decode cJ1_addLast 24 = .ok (.aload_n 0, 1) := dk_42 (dk_at dksJ1_addLast_1 0 rfl rfl)
theorem dJ1_addLast_25 : decode cJ1_addLast 25 = .ok (.getfield 24, 3) := dk_180 0 24 (dk_at dksJ1_addLast_1 1 rfl rfl)
theorem dJ1_addLast_28 : decode cJ1_addLast 28 = .ok (.aload_n 0, 1) := dk_42 (dk_at dksJ1_addLast_1 4 rfl rfl)
theorem dJ1_addLast_29 : decode cJ1_addLast 29 = .ok (.aload_n 0, 1) := dk_42 (dk_at dksJ1_addLast_1 5 rfl rfl)
theorem dJ1_addLast_30 : decode cJ1_addLast 30 = .ok (.getfield 20, 3) := dk_180 0 20 (dk_at dksJ1_addLast_1 6 rfl rfl)
theorem dJ1_addLast_33 : decode cJ1_addLast 33 = .ok (.aload_n 2, 1) := dk_44 (dk_at dksJ1_addLast_1 9 rfl rfl)
theorem dJ1_addLast_34 : decode cJ1_addLast 34 = .ok (.arraylength, 1) := dk_190 (dk_at dksJ1_addLast_1 10 rfl rfl)
theorem dJ1_addLast_35 : decode cJ1_addLast 35 = .ok (.invokestatic 74, 3) := dk_184 0 74 (dk_at dksJ1_addLast_1 11 rfl rfl)
theorem dJ1_addLast_38 : decode cJ1_addLast 38 = .ok (.dup_x1, 1) := dk_90 (dk_at dksJ1_addLast_1 14 rfl rfl)
theorem dJ1_addLast_39 : decode cJ1_addLast 39 = .ok (.putfield 20, 3) := dk_181 0 20 (dk_at dksJ1_addLast_1 15 rfl rfl)
theorem dJ1_addLast_42 : decode cJ1_addLast 42 = .ok (.if_icmp .ne 8, 3) := dk_160 0 8 (dk_at dksJ1_addLast_1 18 rfl rfl)
theorem dJ1_addLast_45 : decode cJ1_addLast 45 = .ok (.aload_n 0, 1) := dk_42 (dk_at dksJ1_addLast_1 21 rfl rfl)
theorem dJ1_addLast_46 : decode cJ1_addLast 46 = .ok (.iconst 1, 1) := dk_4 (dk_at dksJ1_addLast_1 22 rfl rfl)
theorem dJ1_addLast_47 : decode cJ1_addLast 47 = .ok (.invokevirtual 71, 3) := dk_182 0 71 (dk_at dksJ1_addLast_2 0 rfl rfl)
theorem dJ1_addLast_50 : decode cJ1_addLast 50 = .ok (.return_, 1) := dk_177 (dk_at dksJ1_addLast_2 3 rfl rfl)
abbrev cJ1_grow : ByteArray := prog_54_method_1_code
def yJ1_grow : MethodName := ⟨RJ1, "grow", "(I)V"⟩
def dkwJ1_grow_7 : List UInt8 := [177]
abbrev dktJ1_grow_7 : List UInt8 := dkwJ1_grow_7 ++ []
def dkwJ1_grow_6 : List UInt8 := [181, 0, 24, 54, 8, 21, 7, 21, 8, 162, 0, 15, 25, 5, 21, 7, 1, 83, 132, 7, 1, 167, 255, 240]
abbrev dktJ1_grow_6 : List UInt8 := dkwJ1_grow_6 ++ dktJ1_grow_7
def dkwJ1_grow_5 : List UInt8 := [42, 180, 0, 24, 100, 184, 0, 27, 42, 180, 0, 24, 54, 7, 42, 89, 180, 0, 24, 21, 6, 96, 90]
abbrev dktJ1_grow_5 : List UInt8 := dkwJ1_grow_5 ++ dktJ1_grow_6
def dkwJ1_grow_4 : List UInt8 := [198, 0, 71, 29, 28, 100, 54, 6, 25, 5, 42, 180, 0, 24, 25, 5, 42, 180, 0, 24, 21, 6, 96, 28]
abbrev dktJ1_grow_4 : List UInt8 := dkwJ1_grow_4 ++ dktJ1_grow_5
def dkwJ1_grow_3 : List UInt8 := [180, 0, 24, 161, 0, 24, 42, 180, 0, 20, 42, 180, 0, 24, 160, 0, 81, 25, 5, 42, 180, 0, 24, 50]
abbrev dktJ1_grow_3 : List UInt8 := dkwJ1_grow_3 ++ dktJ1_grow_4
def dkwJ1_grow_2 : List UInt8 := [182, 0, 10, 62, 42, 42, 180, 0, 3, 29, 184, 0, 14, 90, 181, 0, 3, 58, 5, 42, 180, 0, 20, 42]
abbrev dktJ1_grow_2 : List UInt8 := dkwJ1_grow_2 ++ dktJ1_grow_3
def dkwJ1_grow_1 : List UInt8 := [21, 4, 27, 161, 0, 15, 28, 21, 4, 96, 89, 62, 18, 9, 100, 158, 0, 11, 42, 27, 21, 4]
abbrev dktJ1_grow_1 : List UInt8 := dkwJ1_grow_1 ++ dktJ1_grow_2
def dkwJ1_grow_0 : List UInt8 := [42, 180, 0, 3, 190, 61, 28, 16, 64, 162, 0, 9, 28, 5, 96, 167, 0, 6, 28, 4, 122, 54, 4]
abbrev dktJ1_grow_0 : List UInt8 := dkwJ1_grow_0 ++ dktJ1_grow_1
theorem dksJ1_grow_0 : cJ1_grow.data.toList.drop 0 = dktJ1_grow_0 := by decide +kernel
theorem dksJ1_grow_1 : cJ1_grow.data.toList.drop 23 = dktJ1_grow_1 := dk_seg dksJ1_grow_0 23 rfl rfl
theorem dksJ1_grow_2 : cJ1_grow.data.toList.drop 45 = dktJ1_grow_2 := dk_seg dksJ1_grow_1 22 rfl rfl
theorem dksJ1_grow_3 : cJ1_grow.data.toList.drop 69 = dktJ1_grow_3 := dk_seg dksJ1_grow_2 24 rfl rfl
theorem dksJ1_grow_4 : cJ1_grow.data.toList.drop 93 = dktJ1_grow_4 := dk_seg dksJ1_grow_3 24 rfl rfl
theorem dksJ1_grow_5 : cJ1_grow.data.toList.drop 117 = dktJ1_grow_5 := dk_seg dksJ1_grow_4 24 rfl rfl
theorem dksJ1_grow_6 : cJ1_grow.data.toList.drop 140 = dktJ1_grow_6 := dk_seg dksJ1_grow_5 23 rfl rfl
theorem dksJ1_grow_7 : cJ1_grow.data.toList.drop 164 = dktJ1_grow_7 := dk_seg dksJ1_grow_6 24 rfl rfl
theorem dJ1_grow_0 : decode cJ1_grow 0 = .ok (.aload_n 0, 1) := dk_42 (dk_at dksJ1_grow_0 0 rfl rfl)
theorem dJ1_grow_1 : decode cJ1_grow 1 = .ok (.getfield 3, 3) := dk_180 0 3 (dk_at dksJ1_grow_0 1 rfl rfl)
theorem dJ1_grow_4 : decode cJ1_grow 4 = .ok (.arraylength, 1) := dk_190 (dk_at dksJ1_grow_0 4 rfl rfl)
theorem dJ1_grow_5 : decode cJ1_grow 5 = .ok (.istore_n 2, 1) := dk_61 (dk_at dksJ1_grow_0 5 rfl rfl)
theorem dJ1_grow_6 : decode cJ1_grow 6 = .ok (.iload_n 2, 1) := dk_28 (dk_at dksJ1_grow_0 6 rfl rfl)
theorem dJ1_grow_7 : decode cJ1_grow 7 = .ok (.bipush 64, 2) := dk_16 64 (dk_at dksJ1_grow_0 7 rfl rfl)
theorem dJ1_grow_9 : decode cJ1_grow 9 = .ok (.if_icmp .ge 9, 3) := dk_162 0 9 (dk_at dksJ1_grow_0 9 rfl rfl)
theorem dJ1_grow_12 : decode cJ1_grow 12 = .ok (.iload_n 2, 1) := dk_28 (dk_at dksJ1_grow_0 12 rfl rfl)
theorem dJ1_grow_13 : decode cJ1_grow 13 = .ok (.iconst 2, 1) := dk_5 (dk_at dksJ1_grow_0 13 rfl rfl)
theorem dJ1_grow_14 : decode cJ1_grow 14 = .ok (.iadd, 1) := dk_96 (dk_at dksJ1_grow_0 14 rfl rfl)
theorem dJ1_grow_15 : decode cJ1_grow 15 = .ok (.goto 6, 3) := dk_167 0 6 (dk_at dksJ1_grow_0 15 rfl rfl)
theorem dJ1_grow_18 : decode cJ1_grow 18 = .ok (.iload_n 2, 1) := dk_28 (dk_at dksJ1_grow_0 18 rfl rfl)
theorem dJ1_grow_19 : decode cJ1_grow 19 = .ok (.iconst 1, 1) := dk_4 (dk_at dksJ1_grow_0 19 rfl rfl)
theorem dJ1_grow_20 : decode cJ1_grow 20 = .ok (.ishr, 1) := dk_122 (dk_at dksJ1_grow_0 20 rfl rfl)
theorem dJ1_grow_21 : decode cJ1_grow 21 = .ok (.istore 4, 2) := dk_54 4 (dk_at dksJ1_grow_0 21 rfl rfl)
theorem dJ1_grow_23 : decode cJ1_grow 23 = .ok (.iload 4, 2) := dk_21 4 (dk_at dksJ1_grow_1 0 rfl rfl)
theorem dJ1_grow_25 : decode cJ1_grow 25 = .ok (.iload_n 1, 1) := dk_27 (dk_at dksJ1_grow_1 2 rfl rfl)
theorem dJ1_grow_26 : decode cJ1_grow 26 = .ok (.if_icmp .lt 15, 3) := dk_161 0 15 (dk_at dksJ1_grow_1 3 rfl rfl)
theorem dJ1_grow_29 : decode cJ1_grow 29 = .ok (.iload_n 2, 1) := dk_28 (dk_at dksJ1_grow_1 6 rfl rfl)
theorem dJ1_grow_30 : decode cJ1_grow 30 = .ok (.iload 4, 2) := dk_21 4 (dk_at dksJ1_grow_1 7 rfl rfl)
theorem dJ1_grow_32 : decode cJ1_grow 32 = .ok (.iadd, 1) := dk_96 (dk_at dksJ1_grow_1 9 rfl rfl)
theorem dJ1_grow_33 : decode cJ1_grow 33 = .ok (.dup, 1) := dk_89 (dk_at dksJ1_grow_1 10 rfl rfl)
theorem dJ1_grow_34 : decode cJ1_grow 34 = .ok (.istore_n 3, 1) := dk_62 (dk_at dksJ1_grow_1 11 rfl rfl)
theorem dJ1_grow_35 : decode cJ1_grow 35 = .ok (.ldc 9, 2) := dk_18 9 (dk_at dksJ1_grow_1 12 rfl rfl)
theorem dJ1_grow_37 : decode cJ1_grow 37 = .ok (.isub, 1) := dk_100 (dk_at dksJ1_grow_1 14 rfl rfl)
theorem dJ1_grow_38 : decode cJ1_grow 38 = .ok (.ifCond .le 11, 3) := dk_158 0 11 (dk_at dksJ1_grow_1 15 rfl rfl)
theorem dJ1_grow_41 : decode cJ1_grow 41 = .ok (.aload_n 0, 1) := dk_42 (dk_at dksJ1_grow_1 18 rfl rfl)
theorem dJ1_grow_42 : decode cJ1_grow 42 = .ok (.iload_n 1, 1) := dk_27 (dk_at dksJ1_grow_1 19 rfl rfl)
theorem dJ1_grow_43 : decode cJ1_grow 43 = .ok (.iload 4, 2) := dk_21 4 (dk_at dksJ1_grow_1 20 rfl rfl)
theorem dJ1_grow_45 : decode cJ1_grow 45 = .ok (.invokevirtual 10, 3) := dk_182 0 10 (dk_at dksJ1_grow_2 0 rfl rfl)
theorem dJ1_grow_48 : decode cJ1_grow 48 = .ok (.istore_n 3, 1) := dk_62 (dk_at dksJ1_grow_2 3 rfl rfl)
theorem dJ1_grow_49 : decode cJ1_grow 49 = .ok (.aload_n 0, 1) := dk_42 (dk_at dksJ1_grow_2 4 rfl rfl)
theorem dJ1_grow_50 : decode cJ1_grow 50 = .ok (.aload_n 0, 1) := dk_42 (dk_at dksJ1_grow_2 5 rfl rfl)
theorem dJ1_grow_51 : decode cJ1_grow 51 = .ok (.getfield 3, 3) := dk_180 0 3 (dk_at dksJ1_grow_2 6 rfl rfl)
theorem dJ1_grow_54 : decode cJ1_grow 54 = .ok (.iload_n 3, 1) := dk_29 (dk_at dksJ1_grow_2 9 rfl rfl)
theorem dJ1_grow_55 : decode cJ1_grow 55 = .ok (.invokestatic 14, 3) := dk_184 0 14 (dk_at dksJ1_grow_2 10 rfl rfl)
theorem dJ1_grow_58 : decode cJ1_grow 58 = .ok (.dup_x1, 1) := dk_90 (dk_at dksJ1_grow_2 13 rfl rfl)
theorem dJ1_grow_59 : decode cJ1_grow 59 = .ok (.putfield 3, 3) := dk_181 0 3 (dk_at dksJ1_grow_2 14 rfl rfl)
theorem dJ1_grow_62 : decode cJ1_grow 62 = .ok (.astore 5, 2) := dk_58 5 (dk_at dksJ1_grow_2 17 rfl rfl)
theorem dJ1_grow_64 : decode cJ1_grow 64 = .ok (.aload_n 0, 1) := dk_42 (dk_at dksJ1_grow_2 19 rfl rfl)
theorem dJ1_grow_65 : decode cJ1_grow 65 = .ok (.getfield 20, 3) := dk_180 0 20 (dk_at dksJ1_grow_2 20 rfl rfl)
theorem dJ1_grow_68 : decode cJ1_grow 68 = .ok (.aload_n 0, 1) := dk_42 (dk_at dksJ1_grow_2 23 rfl rfl)
theorem dJ1_grow_69 : decode cJ1_grow 69 = .ok (.getfield 24, 3) := dk_180 0 24 (dk_at dksJ1_grow_3 0 rfl rfl)
theorem dJ1_grow_72 : decode cJ1_grow 72 = .ok (.if_icmp .lt 24, 3) := dk_161 0 24 (dk_at dksJ1_grow_3 3 rfl rfl)
theorem dJ1_grow_75 : decode cJ1_grow 75 = .ok (.aload_n 0, 1) := dk_42 (dk_at dksJ1_grow_3 6 rfl rfl)
theorem dJ1_grow_76 : decode cJ1_grow 76 = .ok (.getfield 20, 3) := dk_180 0 20 (dk_at dksJ1_grow_3 7 rfl rfl)
theorem dJ1_grow_79 : decode cJ1_grow 79 = .ok (.aload_n 0, 1) := dk_42 (dk_at dksJ1_grow_3 10 rfl rfl)
theorem dJ1_grow_80 : decode cJ1_grow 80 = .ok (.getfield 24, 3) := dk_180 0 24 (dk_at dksJ1_grow_3 11 rfl rfl)
theorem dJ1_grow_83 : decode cJ1_grow 83 = .ok (.if_icmp .ne 81, 3) := dk_160 0 81 (dk_at dksJ1_grow_3 14 rfl rfl)
theorem dJ1_grow_86 : decode cJ1_grow 86 = .ok (.aload 5, 2) := dk_25 5 (dk_at dksJ1_grow_3 17 rfl rfl)
theorem dJ1_grow_88 : decode cJ1_grow 88 = .ok (.aload_n 0, 1) := dk_42 (dk_at dksJ1_grow_3 19 rfl rfl)
theorem dJ1_grow_89 : decode cJ1_grow 89 = .ok (.getfield 24, 3) := dk_180 0 24 (dk_at dksJ1_grow_3 20 rfl rfl)
theorem dJ1_grow_92 : decode cJ1_grow 92 = .ok (.aaload, 1) := dk_50 (dk_at dksJ1_grow_3 23 rfl rfl)
theorem dJ1_grow_93 : decode cJ1_grow 93 = .ok (.ifnull 71, 3) := dk_198 0 71 (dk_at dksJ1_grow_4 0 rfl rfl)
theorem dJ1_grow_96 : decode cJ1_grow 96 = .ok (.iload_n 3, 1) := dk_29 (dk_at dksJ1_grow_4 3 rfl rfl)
theorem dJ1_grow_97 : decode cJ1_grow 97 = .ok (.iload_n 2, 1) := dk_28 (dk_at dksJ1_grow_4 4 rfl rfl)
theorem dJ1_grow_98 : decode cJ1_grow 98 = .ok (.isub, 1) := dk_100 (dk_at dksJ1_grow_4 5 rfl rfl)
theorem dJ1_grow_99 : decode cJ1_grow 99 = .ok (.istore 6, 2) := dk_54 6 (dk_at dksJ1_grow_4 6 rfl rfl)
theorem dJ1_grow_101 : decode cJ1_grow 101 = .ok (.aload 5, 2) := dk_25 5 (dk_at dksJ1_grow_4 8 rfl rfl)
theorem dJ1_grow_103 : decode cJ1_grow 103 = .ok (.aload_n 0, 1) := dk_42 (dk_at dksJ1_grow_4 10 rfl rfl)
theorem dJ1_grow_104 : decode cJ1_grow 104 = .ok (.getfield 24, 3) := dk_180 0 24 (dk_at dksJ1_grow_4 11 rfl rfl)
theorem dJ1_grow_107 : decode cJ1_grow 107 = .ok (.aload 5, 2) := dk_25 5 (dk_at dksJ1_grow_4 14 rfl rfl)
theorem dJ1_grow_109 : decode cJ1_grow 109 = .ok (.aload_n 0, 1) := dk_42 (dk_at dksJ1_grow_4 16 rfl rfl)
theorem dJ1_grow_110 : decode cJ1_grow 110 = .ok (.getfield 24, 3) := dk_180 0 24 (dk_at dksJ1_grow_4 17 rfl rfl)
theorem dJ1_grow_113 : decode cJ1_grow 113 = .ok (.iload 6, 2) := dk_21 6 (dk_at dksJ1_grow_4 20 rfl rfl)
theorem dJ1_grow_115 : decode cJ1_grow 115 = .ok (.iadd, 1) := dk_96 (dk_at dksJ1_grow_4 22 rfl rfl)
theorem dJ1_grow_116 : decode cJ1_grow 116 = .ok (.iload_n 2, 1) := dk_28 (dk_at dksJ1_grow_4 23 rfl rfl)
theorem dJ1_grow_117 : decode cJ1_grow 117 = .ok (.aload_n 0, 1) := dk_42 (dk_at dksJ1_grow_5 0 rfl rfl)
theorem dJ1_grow_118 : decode cJ1_grow 118 = .ok (.getfield 24, 3) := dk_180 0 24 (dk_at dksJ1_grow_5 1 rfl rfl)
theorem dJ1_grow_121 : decode cJ1_grow 121 = .ok (.isub, 1) := dk_100 (dk_at dksJ1_grow_5 4 rfl rfl)
theorem dJ1_grow_122 : decode cJ1_grow 122 = .ok (.invokestatic 27, 3) := dk_184 0 27 (dk_at dksJ1_grow_5 5 rfl rfl)
theorem dJ1_grow_125 : decode cJ1_grow 125 = .ok (.aload_n 0, 1) := dk_42 (dk_at dksJ1_grow_5 8 rfl rfl)
theorem dJ1_grow_126 : decode cJ1_grow 126 = .ok (.getfield 24, 3) := dk_180 0 24 (dk_at dksJ1_grow_5 9 rfl rfl)
theorem dJ1_grow_129 : decode cJ1_grow 129 = .ok (.istore 7, 2) := dk_54 7 (dk_at dksJ1_grow_5 12 rfl rfl)
theorem dJ1_grow_131 : decode cJ1_grow 131 = .ok (.aload_n 0, 1) := dk_42 (dk_at dksJ1_grow_5 14 rfl rfl)
theorem dJ1_grow_132 : decode cJ1_grow 132 = .ok (.dup, 1) := dk_89 (dk_at dksJ1_grow_5 15 rfl rfl)
theorem dJ1_grow_133 : decode cJ1_grow 133 = .ok (.getfield 24, 3) := dk_180 0 24 (dk_at dksJ1_grow_5 16 rfl rfl)
theorem dJ1_grow_136 : decode cJ1_grow 136 = .ok (.iload 6, 2) := dk_21 6 (dk_at dksJ1_grow_5 19 rfl rfl)
theorem dJ1_grow_138 : decode cJ1_grow 138 = .ok (.iadd, 1) := dk_96 (dk_at dksJ1_grow_5 21 rfl rfl)
theorem dJ1_grow_139 : decode cJ1_grow 139 = .ok (.dup_x1, 1) := dk_90 (dk_at dksJ1_grow_5 22 rfl rfl)
theorem dJ1_grow_140 : decode cJ1_grow 140 = .ok (.putfield 24, 3) := dk_181 0 24 (dk_at dksJ1_grow_6 0 rfl rfl)
theorem dJ1_grow_143 : decode cJ1_grow 143 = .ok (.istore 8, 2) := dk_54 8 (dk_at dksJ1_grow_6 3 rfl rfl)
theorem dJ1_grow_145 : decode cJ1_grow 145 = .ok (.iload 7, 2) := dk_21 7 (dk_at dksJ1_grow_6 5 rfl rfl)
theorem dJ1_grow_147 : decode cJ1_grow 147 = .ok (.iload 8, 2) := dk_21 8 (dk_at dksJ1_grow_6 7 rfl rfl)
theorem dJ1_grow_149 : decode cJ1_grow 149 = .ok (.if_icmp .ge 15, 3) := dk_162 0 15 (dk_at dksJ1_grow_6 9 rfl rfl)
theorem dJ1_grow_152 : decode cJ1_grow 152 = .ok (.aload 5, 2) := dk_25 5 (dk_at dksJ1_grow_6 12 rfl rfl)
theorem dJ1_grow_154 : decode cJ1_grow 154 = .ok (.iload 7, 2) := dk_21 7 (dk_at dksJ1_grow_6 14 rfl rfl)
theorem dJ1_grow_156 : decode cJ1_grow 156 = .ok (.aconst_null, 1) := dk_1 (dk_at dksJ1_grow_6 16 rfl rfl)
theorem dJ1_grow_157 : decode cJ1_grow 157 = .ok (.aastore, 1) := dk_83 (dk_at dksJ1_grow_6 17 rfl rfl)
theorem dJ1_grow_158 : decode cJ1_grow 158 = .ok (.iinc 7 1, 3) := dk_132 7 1 (dk_at dksJ1_grow_6 18 rfl rfl)
theorem dJ1_grow_161 : decode cJ1_grow 161 = .ok (.goto (-16), 3) := dk_167 255 240 (dk_at dksJ1_grow_6 21 rfl rfl)
theorem dJ1_grow_164 : decode cJ1_grow 164 = .ok (.return_, 1) := dk_177 (dk_at dksJ1_grow_7 0 rfl rfl)
abbrev cJ1_newCapacity : ByteArray := prog_54_method_2_code
def yJ1_newCapacity : MethodName := ⟨RJ1, "newCapacity", "(II)I"⟩
def dkwJ1_newCapacity_2 : List UInt8 := [18, 9, 100, 156, 0, 9, 29, 28, 96, 167, 0, 5, 18, 9, 172]
abbrev dktJ1_newCapacity_2 : List UInt8 := dkwJ1_newCapacity_2 ++ []
def dkwJ1_newCapacity_1 : List UInt8 := [187, 0, 33, 89, 18, 35, 183, 0, 37, 191, 18, 41, 172, 27, 28, 164, 0, 6, 21, 4, 172, 29, 28, 96]
abbrev dktJ1_newCapacity_1 : List UInt8 := dkwJ1_newCapacity_1 ++ dktJ1_newCapacity_2
def dkwJ1_newCapacity_0 : List UInt8 := [42, 180, 0, 3, 190, 62, 29, 27, 96, 89, 54, 4, 18, 9, 100, 158, 0, 21, 21, 4, 156, 0, 13]
abbrev dktJ1_newCapacity_0 : List UInt8 := dkwJ1_newCapacity_0 ++ dktJ1_newCapacity_1
theorem dksJ1_newCapacity_0 : cJ1_newCapacity.data.toList.drop 0 = dktJ1_newCapacity_0 := by decide +kernel
theorem dksJ1_newCapacity_1 : cJ1_newCapacity.data.toList.drop 23 = dktJ1_newCapacity_1 := dk_seg dksJ1_newCapacity_0 23 rfl rfl
theorem dksJ1_newCapacity_2 : cJ1_newCapacity.data.toList.drop 47 = dktJ1_newCapacity_2 := dk_seg dksJ1_newCapacity_1 24 rfl rfl
theorem dJ1_newCapacity_0 : decode cJ1_newCapacity 0 = .ok (.aload_n 0, 1) := dk_42 (dk_at dksJ1_newCapacity_0 0 rfl rfl)
theorem dJ1_newCapacity_1 : decode cJ1_newCapacity 1 = .ok (.getfield 3, 3) := dk_180 0 3 (dk_at dksJ1_newCapacity_0 1 rfl rfl)
theorem dJ1_newCapacity_4 : decode cJ1_newCapacity 4 = .ok (.arraylength, 1) := dk_190 (dk_at dksJ1_newCapacity_0 4 rfl rfl)
theorem dJ1_newCapacity_5 : decode cJ1_newCapacity 5 = .ok (.istore_n 3, 1) := dk_62 (dk_at dksJ1_newCapacity_0 5 rfl rfl)
theorem dJ1_newCapacity_6 : decode cJ1_newCapacity 6 = .ok (.iload_n 3, 1) := dk_29 (dk_at dksJ1_newCapacity_0 6 rfl rfl)
theorem dJ1_newCapacity_7 : decode cJ1_newCapacity 7 = .ok (.iload_n 1, 1) := dk_27 (dk_at dksJ1_newCapacity_0 7 rfl rfl)
theorem dJ1_newCapacity_8 : decode cJ1_newCapacity 8 = .ok (.iadd, 1) := dk_96 (dk_at dksJ1_newCapacity_0 8 rfl rfl)
theorem dJ1_newCapacity_9 : decode cJ1_newCapacity 9 = .ok (.dup, 1) := dk_89 (dk_at dksJ1_newCapacity_0 9 rfl rfl)
theorem dJ1_newCapacity_10 : decode cJ1_newCapacity 10 = .ok (.istore 4, 2) := dk_54 4 (dk_at dksJ1_newCapacity_0 10 rfl rfl)
theorem dJ1_newCapacity_12 : decode cJ1_newCapacity 12 = .ok (.ldc 9, 2) := dk_18 9 (dk_at dksJ1_newCapacity_0 12 rfl rfl)
theorem dJ1_newCapacity_14 : decode cJ1_newCapacity 14 = .ok (.isub, 1) := dk_100 (dk_at dksJ1_newCapacity_0 14 rfl rfl)
theorem dJ1_newCapacity_15 : decode cJ1_newCapacity 15 = .ok (.ifCond .le 21, 3) := dk_158 0 21 (dk_at dksJ1_newCapacity_0 15 rfl rfl)
theorem dJ1_newCapacity_18 : decode cJ1_newCapacity 18 = .ok (.iload 4, 2) := dk_21 4 (dk_at dksJ1_newCapacity_0 18 rfl rfl)
theorem dJ1_newCapacity_20 : decode cJ1_newCapacity 20 = .ok (.ifCond .ge 13, 3) := dk_156 0 13 (dk_at dksJ1_newCapacity_0 20 rfl rfl)
theorem dJ1_newCapacity_23 : decode cJ1_newCapacity 23 = .ok (.new 33, 3) := dk_187 0 33 (dk_at dksJ1_newCapacity_1 0 rfl rfl)
theorem dJ1_newCapacity_26 : decode cJ1_newCapacity 26 = .ok (.dup, 1) := dk_89 (dk_at dksJ1_newCapacity_1 3 rfl rfl)
theorem dJ1_newCapacity_27 : decode cJ1_newCapacity 27 = .ok (.ldc 35, 2) := dk_18 35 (dk_at dksJ1_newCapacity_1 4 rfl rfl)
theorem dJ1_newCapacity_29 : decode cJ1_newCapacity 29 = .ok (.invokespecial 37, 3) := dk_183 0 37 (dk_at dksJ1_newCapacity_1 6 rfl rfl)
theorem dJ1_newCapacity_32 : decode cJ1_newCapacity 32 = .ok (.athrow, 1) := dk_191 (dk_at dksJ1_newCapacity_1 9 rfl rfl)
theorem dJ1_newCapacity_33 : decode cJ1_newCapacity 33 = .ok (.ldc 41, 2) := dk_18 41 (dk_at dksJ1_newCapacity_1 10 rfl rfl)
theorem dJ1_newCapacity_35 : decode cJ1_newCapacity 35 = .ok (.ireturn, 1) := dk_172 (dk_at dksJ1_newCapacity_1 12 rfl rfl)
theorem dJ1_newCapacity_36 : decode cJ1_newCapacity 36 = .ok (.iload_n 1, 1) := dk_27 (dk_at dksJ1_newCapacity_1 13 rfl rfl)
theorem dJ1_newCapacity_37 : decode cJ1_newCapacity 37 = .ok (.iload_n 2, 1) := dk_28 (dk_at dksJ1_newCapacity_1 14 rfl rfl)
theorem dJ1_newCapacity_38 : decode cJ1_newCapacity 38 = .ok (.if_icmp .le 6, 3) := dk_164 0 6 (dk_at dksJ1_newCapacity_1 15 rfl rfl)
theorem dJ1_newCapacity_41 : decode cJ1_newCapacity 41 = .ok (.iload 4, 2) := dk_21 4 (dk_at dksJ1_newCapacity_1 18 rfl rfl)
theorem dJ1_newCapacity_43 : decode cJ1_newCapacity 43 = .ok (.ireturn, 1) := dk_172 (dk_at dksJ1_newCapacity_1 20 rfl rfl)
theorem dJ1_newCapacity_44 : decode cJ1_newCapacity 44 = .ok (.iload_n 3, 1) := dk_29 (dk_at dksJ1_newCapacity_1 21 rfl rfl)
theorem dJ1_newCapacity_45 : decode cJ1_newCapacity 45 = .ok (.iload_n 2, 1) := dk_28 (dk_at dksJ1_newCapacity_1 22 rfl rfl)
theorem dJ1_newCapacity_46 : decode cJ1_newCapacity 46 = .ok (.iadd, 1) := dk_96 (dk_at dksJ1_newCapacity_1 23 rfl rfl)
theorem dJ1_newCapacity_47 : decode cJ1_newCapacity 47 = .ok (.ldc 9, 2) := dk_18 9 (dk_at dksJ1_newCapacity_2 0 rfl rfl)
theorem dJ1_newCapacity_49 : decode cJ1_newCapacity 49 = .ok (.isub, 1) := dk_100 (dk_at dksJ1_newCapacity_2 2 rfl rfl)
theorem dJ1_newCapacity_50 : decode cJ1_newCapacity 50 = .ok (.ifCond .ge 9, 3) := dk_156 0 9 (dk_at dksJ1_newCapacity_2 3 rfl rfl)
theorem dJ1_newCapacity_53 : decode cJ1_newCapacity 53 = .ok (.iload_n 3, 1) := dk_29 (dk_at dksJ1_newCapacity_2 6 rfl rfl)
theorem dJ1_newCapacity_54 : decode cJ1_newCapacity 54 = .ok (.iload_n 2, 1) := dk_28 (dk_at dksJ1_newCapacity_2 7 rfl rfl)
theorem dJ1_newCapacity_55 : decode cJ1_newCapacity 55 = .ok (.iadd, 1) := dk_96 (dk_at dksJ1_newCapacity_2 8 rfl rfl)
theorem dJ1_newCapacity_56 : decode cJ1_newCapacity 56 = .ok (.goto 5, 3) := dk_167 0 5 (dk_at dksJ1_newCapacity_2 9 rfl rfl)
theorem dJ1_newCapacity_59 : decode cJ1_newCapacity 59 = .ok (.ldc 9, 2) := dk_18 9 (dk_at dksJ1_newCapacity_2 12 rfl rfl)
theorem dJ1_newCapacity_61 : decode cJ1_newCapacity 61 = .ok (.ireturn, 1) := dk_172 (dk_at dksJ1_newCapacity_2 14 rfl rfl)
abbrev cJ1_isEmpty : ByteArray := prog_54_method_38_code
def yJ1_isEmpty : MethodName := ⟨RJ1, "isEmpty", "()Z"⟩
def dkwJ1_isEmpty_0 : List UInt8 := [42, 180, 0, 24, 42, 180, 0, 20, 160, 0, 7, 4, 167, 0, 4, 3, 172]
abbrev dktJ1_isEmpty_0 : List UInt8 := dkwJ1_isEmpty_0 ++ []
theorem dksJ1_isEmpty_0 : cJ1_isEmpty.data.toList.drop 0 = dktJ1_isEmpty_0 := by decide +kernel
theorem dJ1_isEmpty_0 : decode cJ1_isEmpty 0 = .ok (.aload_n 0, 1) := dk_42 (dk_at dksJ1_isEmpty_0 0 rfl rfl)
theorem dJ1_isEmpty_1 : decode cJ1_isEmpty 1 = .ok (.getfield 24, 3) := dk_180 0 24 (dk_at dksJ1_isEmpty_0 1 rfl rfl)
theorem dJ1_isEmpty_4 : decode cJ1_isEmpty 4 = .ok (.aload_n 0, 1) := dk_42 (dk_at dksJ1_isEmpty_0 4 rfl rfl)
theorem dJ1_isEmpty_5 : decode cJ1_isEmpty 5 = .ok (.getfield 20, 3) := dk_180 0 20 (dk_at dksJ1_isEmpty_0 5 rfl rfl)
theorem dJ1_isEmpty_8 : decode cJ1_isEmpty 8 = .ok (.if_icmp .ne 7, 3) := dk_160 0 7 (dk_at dksJ1_isEmpty_0 8 rfl rfl)
theorem dJ1_isEmpty_11 : decode cJ1_isEmpty 11 = .ok (.iconst 1, 1) := dk_4 (dk_at dksJ1_isEmpty_0 11 rfl rfl)
theorem dJ1_isEmpty_12 : decode cJ1_isEmpty 12 = .ok (.goto 4, 3) := dk_167 0 4 (dk_at dksJ1_isEmpty_0 12 rfl rfl)
theorem dJ1_isEmpty_15 : decode cJ1_isEmpty 15 = .ok (.iconst 0, 1) := dk_3 (dk_at dksJ1_isEmpty_0 15 rfl rfl)
theorem dJ1_isEmpty_16 : decode cJ1_isEmpty 16 = .ok (.ireturn, 1) := dk_172 (dk_at dksJ1_isEmpty_0 16 rfl rfl)
abbrev cJ1_removeLast : ByteArray := prog_54_method_19_code
def yJ1_removeLast : MethodName := ⟨RJ1, "removeLast", "()Ljava/lang/Object;"⟩
def dkwJ1_removeLast_0 : List UInt8 := [42, 182, 0, 100, 76, 43, 199, 0, 11, 187, 0, 97, 89, 183, 0, 99, 191, 43, 176]
abbrev dktJ1_removeLast_0 : List UInt8 := dkwJ1_removeLast_0 ++ []
theorem dksJ1_removeLast_0 : cJ1_removeLast.data.toList.drop 0 = dktJ1_removeLast_0 := by decide +kernel
theorem dJ1_removeLast_0 : decode cJ1_removeLast 0 = .ok (.aload_n 0, 1) := dk_42 (dk_at dksJ1_removeLast_0 0 rfl rfl)
theorem dJ1_removeLast_1 : decode cJ1_removeLast 1 = .ok (.invokevirtual 100, 3) := dk_182 0 100 (dk_at dksJ1_removeLast_0 1 rfl rfl)
theorem dJ1_removeLast_4 : decode cJ1_removeLast 4 = .ok (.astore_n 1, 1) := dk_76 (dk_at dksJ1_removeLast_0 4 rfl rfl)
theorem dJ1_removeLast_5 : decode cJ1_removeLast 5 = .ok (.aload_n 1, 1) := dk_43 (dk_at dksJ1_removeLast_0 5 rfl rfl)
theorem dJ1_removeLast_6 : decode cJ1_removeLast 6 = .ok (.ifnonnull 11, 3) := dk_199 0 11 (dk_at dksJ1_removeLast_0 6 rfl rfl)
theorem dJ1_removeLast_9 : decode cJ1_removeLast 9 = .ok (.new 97, 3) := dk_187 0 97 (dk_at dksJ1_removeLast_0 9 rfl rfl)
theorem dJ1_removeLast_12 : decode cJ1_removeLast 12 = .ok (.dup, 1) := dk_89 (dk_at dksJ1_removeLast_0 12 rfl rfl)
theorem dJ1_removeLast_13 : decode cJ1_removeLast 13 = .ok (.invokespecial 99, 3) := dk_183 0 99 (dk_at dksJ1_removeLast_0 13 rfl rfl)
theorem dJ1_removeLast_16 : decode cJ1_removeLast 16 = .ok (.athrow, 1) := dk_191 (dk_at dksJ1_removeLast_0 16 rfl rfl)
theorem dJ1_removeLast_17 : decode cJ1_removeLast 17 = .ok (.aload_n 1, 1) := dk_43 (dk_at dksJ1_removeLast_0 17 rfl rfl)
theorem dJ1_removeLast_18 : decode cJ1_removeLast 18 = .ok (.areturn, 1) := dk_176 (dk_at dksJ1_removeLast_0 18 rfl rfl)
abbrev cJ1_pollLast : ByteArray := prog_54_method_21_code
def yJ1_pollLast : MethodName := ⟨RJ1, "pollLast", "()Ljava/lang/Object;"⟩
def dkwJ1_pollLast_1 : List UInt8 := [198, 0, 12, 43, 42, 28, 90, 181, 0, 20, 1, 83, 45, 176]
abbrev dktJ1_pollLast_1 : List UInt8 := dkwJ1_pollLast_1 ++ []
def dkwJ1_pollLast_0 : List UInt8 := [42, 180, 0, 3, 89, 76, 42, 180, 0, 20, 43, 190, 184, 0, 68, 89, 61, 184, 0, 103, 78, 45]
abbrev dktJ1_pollLast_0 : List UInt8 := dkwJ1_pollLast_0 ++ dktJ1_pollLast_1
theorem dksJ1_pollLast_0 : cJ1_pollLast.data.toList.drop 0 = dktJ1_pollLast_0 := by decide +kernel
theorem dksJ1_pollLast_1 : cJ1_pollLast.data.toList.drop 22 = dktJ1_pollLast_1 := dk_seg dksJ1_pollLast_0 22 rfl rfl
theorem dJ1_pollLast_0 : decode cJ1_pollLast 0 = .ok (.aload_n 0, 1) := dk_42 (dk_at dksJ1_pollLast_0 0 rfl rfl)
theorem dJ1_pollLast_1 : decode cJ1_pollLast 1 = .ok (.getfield 3, 3) := dk_180 0 3 (dk_at dksJ1_pollLast_0 1 rfl rfl)
theorem dJ1_pollLast_4 : decode cJ1_pollLast 4 = .ok (.dup, 1) := dk_89 (dk_at dksJ1_pollLast_0 4 rfl rfl)
theorem dJ1_pollLast_5 : decode cJ1_pollLast 5 = .ok (.astore_n 1, 1) := dk_76 (dk_at dksJ1_pollLast_0 5 rfl rfl)
theorem dJ1_pollLast_6 : decode cJ1_pollLast 6 = .ok (.aload_n 0, 1) := dk_42 (dk_at dksJ1_pollLast_0 6 rfl rfl)
theorem dJ1_pollLast_7 : decode cJ1_pollLast 7 = .ok (.getfield 20, 3) := dk_180 0 20 (dk_at dksJ1_pollLast_0 7 rfl rfl)
theorem dJ1_pollLast_10 : decode cJ1_pollLast 10 = .ok (.aload_n 1, 1) := dk_43 (dk_at dksJ1_pollLast_0 10 rfl rfl)
theorem dJ1_pollLast_11 : decode cJ1_pollLast 11 = .ok (.arraylength, 1) := dk_190 (dk_at dksJ1_pollLast_0 11 rfl rfl)
theorem dJ1_pollLast_12 : decode cJ1_pollLast 12 = .ok (.invokestatic 68, 3) := dk_184 0 68 (dk_at dksJ1_pollLast_0 12 rfl rfl)
theorem dJ1_pollLast_15 : decode cJ1_pollLast 15 = .ok (.dup, 1) := dk_89 (dk_at dksJ1_pollLast_0 15 rfl rfl)
theorem dJ1_pollLast_16 : decode cJ1_pollLast 16 = .ok (.istore_n 2, 1) := dk_61 (dk_at dksJ1_pollLast_0 16 rfl rfl)
theorem dJ1_pollLast_17 : decode cJ1_pollLast 17 = .ok (.invokestatic 103, 3) := dk_184 0 103 (dk_at dksJ1_pollLast_0 17 rfl rfl)
theorem dJ1_pollLast_20 : decode cJ1_pollLast 20 = .ok (.astore_n 3, 1) := dk_78 (dk_at dksJ1_pollLast_0 20 rfl rfl)
theorem dJ1_pollLast_21 : decode cJ1_pollLast 21 = .ok (.aload_n 3, 1) := dk_45 (dk_at dksJ1_pollLast_0 21 rfl rfl)
theorem dJ1_pollLast_22 : decode cJ1_pollLast 22 = .ok (.ifnull 12, 3) := dk_198 0 12 (dk_at dksJ1_pollLast_1 0 rfl rfl)
theorem dJ1_pollLast_25 : decode cJ1_pollLast 25 = .ok (.aload_n 1, 1) := dk_43 (dk_at dksJ1_pollLast_1 3 rfl rfl)
theorem dJ1_pollLast_26 : decode cJ1_pollLast 26 = .ok (.aload_n 0, 1) := dk_42 (dk_at dksJ1_pollLast_1 4 rfl rfl)
theorem dJ1_pollLast_27 : decode cJ1_pollLast 27 = .ok (.iload_n 2, 1) := dk_28 (dk_at dksJ1_pollLast_1 5 rfl rfl)
theorem dJ1_pollLast_28 : decode cJ1_pollLast 28 = .ok (.dup_x1, 1) := dk_90 (dk_at dksJ1_pollLast_1 6 rfl rfl)
theorem dJ1_pollLast_29 : decode cJ1_pollLast 29 = .ok (.putfield 20, 3) := dk_181 0 20 (dk_at dksJ1_pollLast_1 7 rfl rfl)
theorem dJ1_pollLast_32 : decode cJ1_pollLast 32 = .ok (.aconst_null, 1) := dk_1 (dk_at dksJ1_pollLast_1 10 rfl rfl)
theorem dJ1_pollLast_33 : decode cJ1_pollLast 33 = .ok (.aastore, 1) := dk_83 (dk_at dksJ1_pollLast_1 11 rfl rfl)
theorem dJ1_pollLast_34 : decode cJ1_pollLast 34 = .ok (.aload_n 3, 1) := dk_45 (dk_at dksJ1_pollLast_1 12 rfl rfl)
theorem dJ1_pollLast_35 : decode cJ1_pollLast 35 = .ok (.areturn, 1) := dk_176 (dk_at dksJ1_pollLast_1 13 rfl rfl)
abbrev cJ1_dec : ByteArray := prog_54_method_7_code
def yJ1_dec : MethodName := ⟨RJ1, "dec", "(II)I"⟩
def dkwJ1_dec_0 : List UInt8 := [132, 0, 255, 26, 156, 0, 7, 27, 4, 100, 59, 26, 172]
abbrev dktJ1_dec_0 : List UInt8 := dkwJ1_dec_0 ++ []
theorem dksJ1_dec_0 : cJ1_dec.data.toList.drop 0 = dktJ1_dec_0 := by decide +kernel
theorem dJ1_dec_0 : decode cJ1_dec 0 = .ok (.iinc 0 (-1), 3) := dk_132 0 255 (dk_at dksJ1_dec_0 0 rfl rfl)
theorem dJ1_dec_3 : decode cJ1_dec 3 = .ok (.iload_n 0, 1) := dk_26 (dk_at dksJ1_dec_0 3 rfl rfl)
theorem dJ1_dec_4 : decode cJ1_dec 4 = .ok (.ifCond .ge 7, 3) := dk_156 0 7 (dk_at dksJ1_dec_0 4 rfl rfl)
theorem dJ1_dec_7 : decode cJ1_dec 7 = .ok (.iload_n 1, 1) := dk_27 (dk_at dksJ1_dec_0 7 rfl rfl)
theorem dJ1_dec_8 : decode cJ1_dec 8 = .ok (.iconst 1, 1) := dk_4 (dk_at dksJ1_dec_0 8 rfl rfl)
theorem dJ1_dec_9 : decode cJ1_dec 9 = .ok (.isub, 1) := dk_100 (dk_at dksJ1_dec_0 9 rfl rfl)
theorem dJ1_dec_10 : decode cJ1_dec 10 = .ok (.istore_n 0, 1) := dk_59 (dk_at dksJ1_dec_0 10 rfl rfl)
theorem dJ1_dec_11 : decode cJ1_dec 11 = .ok (.iload_n 0, 1) := dk_26 (dk_at dksJ1_dec_0 11 rfl rfl)
theorem dJ1_dec_12 : decode cJ1_dec 12 = .ok (.ireturn, 1) := dk_172 (dk_at dksJ1_dec_0 12 rfl rfl)
abbrev cJ1_clear : ByteArray := prog_54_method_53_code
def yJ1_clear : MethodName := ⟨RJ1, "clear", "()V"⟩
def dkwJ1_clear_1 : List UInt8 := [181, 0, 24, 177]
abbrev dktJ1_clear_1 : List UInt8 := dkwJ1_clear_1 ++ []
def dkwJ1_clear_0 : List UInt8 := [42, 180, 0, 3, 42, 180, 0, 24, 42, 180, 0, 20, 184, 0, 181, 42, 42, 3, 90, 181, 0, 20]
abbrev dktJ1_clear_0 : List UInt8 := dkwJ1_clear_0 ++ dktJ1_clear_1
theorem dksJ1_clear_0 : cJ1_clear.data.toList.drop 0 = dktJ1_clear_0 := by decide +kernel
theorem dksJ1_clear_1 : cJ1_clear.data.toList.drop 22 = dktJ1_clear_1 := dk_seg dksJ1_clear_0 22 rfl rfl
theorem dJ1_clear_0 : decode cJ1_clear 0 = .ok (.aload_n 0, 1) := dk_42 (dk_at dksJ1_clear_0 0 rfl rfl)
theorem dJ1_clear_1 : decode cJ1_clear 1 = .ok (.getfield 3, 3) := dk_180 0 3 (dk_at dksJ1_clear_0 1 rfl rfl)
theorem dJ1_clear_4 : decode cJ1_clear 4 = .ok (.aload_n 0, 1) := dk_42 (dk_at dksJ1_clear_0 4 rfl rfl)
theorem dJ1_clear_5 : decode cJ1_clear 5 = .ok (.getfield 24, 3) := dk_180 0 24 (dk_at dksJ1_clear_0 5 rfl rfl)
theorem dJ1_clear_8 : decode cJ1_clear 8 = .ok (.aload_n 0, 1) := dk_42 (dk_at dksJ1_clear_0 8 rfl rfl)
theorem dJ1_clear_9 : decode cJ1_clear 9 = .ok (.getfield 20, 3) := dk_180 0 20 (dk_at dksJ1_clear_0 9 rfl rfl)
theorem dJ1_clear_12 : decode cJ1_clear 12 = .ok (.invokestatic 181, 3) := dk_184 0 181 (dk_at dksJ1_clear_0 12 rfl rfl)
theorem dJ1_clear_15 : decode cJ1_clear 15 = .ok (.aload_n 0, 1) := dk_42 (dk_at dksJ1_clear_0 15 rfl rfl)
theorem dJ1_clear_16 : decode cJ1_clear 16 = .ok (.aload_n 0, 1) := dk_42 (dk_at dksJ1_clear_0 16 rfl rfl)
theorem dJ1_clear_17 : decode cJ1_clear 17 = .ok (.iconst 0, 1) := dk_3 (dk_at dksJ1_clear_0 17 rfl rfl)
theorem dJ1_clear_18 : decode cJ1_clear 18 = .ok (.dup_x1, 1) := dk_90 (dk_at dksJ1_clear_0 18 rfl rfl)
theorem dJ1_clear_19 : decode cJ1_clear 19 = .ok (.putfield 20, 3) := dk_181 0 20 (dk_at dksJ1_clear_0 19 rfl rfl)
theorem dJ1_clear_22 : decode cJ1_clear 22 = .ok (.putfield 24, 3) := dk_181 0 24 (dk_at dksJ1_clear_1 0 rfl rfl)
theorem dJ1_clear_25 : decode cJ1_clear 25 = .ok (.return_, 1) := dk_177 (dk_at dksJ1_clear_1 3 rfl rfl)
abbrev cJ1_circularClear : ByteArray := prog_54_method_54_code
def yJ1_circularClear : MethodName := ⟨RJ1, "circularClear", "([Ljava/lang/Object;II)V"⟩
def dkwJ1_circularClear_1 : List UInt8 := [167, 255, 244, 29, 28, 160, 0, 6, 167, 0, 10, 3, 60, 28, 62, 167, 255, 229, 177]
abbrev dktJ1_circularClear_1 : List UInt8 := dkwJ1_circularClear_1 ++ []
def dkwJ1_circularClear_0 : List UInt8 := [27, 28, 163, 0, 7, 28, 167, 0, 5, 42, 190, 62, 27, 29, 162, 0, 13, 42, 27, 1, 83, 132, 1, 1]
abbrev dktJ1_circularClear_0 : List UInt8 := dkwJ1_circularClear_0 ++ dktJ1_circularClear_1
theorem dksJ1_circularClear_0 : cJ1_circularClear.data.toList.drop 0 = dktJ1_circularClear_0 := by decide +kernel
theorem dksJ1_circularClear_1 : cJ1_circularClear.data.toList.drop 24 = dktJ1_circularClear_1 := dk_seg dksJ1_circularClear_0 24 rfl rfl
theorem dJ1_circularClear_0 : decode cJ1_circularClear 0 = .ok (.iload_n 1, 1) := dk_27 (dk_at dksJ1_circularClear_0 0 rfl rfl)
theorem dJ1_circularClear_1 : decode cJ1_circularClear 1 = .ok (.iload_n 2, 1) := dk_28 (dk_at dksJ1_circularClear_0 1 rfl rfl)
theorem dJ1_circularClear_2 : decode cJ1_circularClear 2 = .ok (.if_icmp .gt 7, 3) := dk_163 0 7 (dk_at dksJ1_circularClear_0 2 rfl rfl)
theorem dJ1_circularClear_5 : decode cJ1_circularClear 5 = .ok (.iload_n 2, 1) := dk_28 (dk_at dksJ1_circularClear_0 5 rfl rfl)
theorem dJ1_circularClear_6 : decode cJ1_circularClear 6 = .ok (.goto 5, 3) := dk_167 0 5 (dk_at dksJ1_circularClear_0 6 rfl rfl)
theorem dJ1_circularClear_9 : decode cJ1_circularClear 9 = .ok (.aload_n 0, 1) := dk_42 (dk_at dksJ1_circularClear_0 9 rfl rfl)
theorem dJ1_circularClear_10 : decode cJ1_circularClear 10 = .ok (.arraylength, 1) := dk_190 (dk_at dksJ1_circularClear_0 10 rfl rfl)
theorem dJ1_circularClear_11 : decode cJ1_circularClear 11 = .ok (.istore_n 3, 1) := dk_62 (dk_at dksJ1_circularClear_0 11 rfl rfl)
theorem dJ1_circularClear_12 : decode cJ1_circularClear 12 = .ok (.iload_n 1, 1) := dk_27 (dk_at dksJ1_circularClear_0 12 rfl rfl)
theorem dJ1_circularClear_13 : decode cJ1_circularClear 13 = .ok (.iload_n 3, 1) := dk_29 (dk_at dksJ1_circularClear_0 13 rfl rfl)
theorem dJ1_circularClear_14 : decode cJ1_circularClear 14 = .ok (.if_icmp .ge 13, 3) := dk_162 0 13 (dk_at dksJ1_circularClear_0 14 rfl rfl)
theorem dJ1_circularClear_17 : decode cJ1_circularClear 17 = .ok (.aload_n 0, 1) := dk_42 (dk_at dksJ1_circularClear_0 17 rfl rfl)
theorem dJ1_circularClear_18 : decode cJ1_circularClear 18 = .ok (.iload_n 1, 1) := dk_27 (dk_at dksJ1_circularClear_0 18 rfl rfl)
theorem dJ1_circularClear_19 : decode cJ1_circularClear 19 = .ok (.aconst_null, 1) := dk_1 (dk_at dksJ1_circularClear_0 19 rfl rfl)
theorem dJ1_circularClear_20 : decode cJ1_circularClear 20 = .ok (.aastore, 1) := dk_83 (dk_at dksJ1_circularClear_0 20 rfl rfl)
theorem dJ1_circularClear_21 : decode cJ1_circularClear 21 = .ok (.iinc 1 1, 3) := dk_132 1 1 (dk_at dksJ1_circularClear_0 21 rfl rfl)
theorem dJ1_circularClear_24 : decode cJ1_circularClear 24 = .ok (.goto (-12), 3) := dk_167 255 244 (dk_at dksJ1_circularClear_1 0 rfl rfl)
theorem dJ1_circularClear_27 : decode cJ1_circularClear 27 = .ok (.iload_n 3, 1) := dk_29 (dk_at dksJ1_circularClear_1 3 rfl rfl)
theorem dJ1_circularClear_28 : decode cJ1_circularClear 28 = .ok (.iload_n 2, 1) := dk_28 (dk_at dksJ1_circularClear_1 4 rfl rfl)
theorem dJ1_circularClear_29 : decode cJ1_circularClear 29 = .ok (.if_icmp .ne 6, 3) := dk_160 0 6 (dk_at dksJ1_circularClear_1 5 rfl rfl)
theorem dJ1_circularClear_32 : decode cJ1_circularClear 32 = .ok (.goto 10, 3) := dk_167 0 10 (dk_at dksJ1_circularClear_1 8 rfl rfl)
theorem dJ1_circularClear_35 : decode cJ1_circularClear 35 = .ok (.iconst 0, 1) := dk_3 (dk_at dksJ1_circularClear_1 11 rfl rfl)
theorem dJ1_circularClear_36 : decode cJ1_circularClear 36 = .ok (.istore_n 1, 1) := dk_60 (dk_at dksJ1_circularClear_1 12 rfl rfl)
theorem dJ1_circularClear_37 : decode cJ1_circularClear 37 = .ok (.iload_n 2, 1) := dk_28 (dk_at dksJ1_circularClear_1 13 rfl rfl)
theorem dJ1_circularClear_38 : decode cJ1_circularClear 38 = .ok (.istore_n 3, 1) := dk_62 (dk_at dksJ1_circularClear_1 14 rfl rfl)
theorem dJ1_circularClear_39 : decode cJ1_circularClear 39 = .ok (.goto (-27), 3) := dk_167 255 229 (dk_at dksJ1_circularClear_1 15 rfl rfl)
theorem dJ1_circularClear_42 : decode cJ1_circularClear 42 = .ok (.return_, 1) := dk_177 (dk_at dksJ1_circularClear_1 18 rfl rfl)
theorem q103 : (Jvm.Cond.initialized "java/util/ArrayDeque") ∈ lw_all := lw_g (lw_at lw_m1 5 rfl) rfl
theorem q228 : (Jvm.Cond.instantiable "java/util/ArrayDeque" (3 : Nat)) ∈ lw_all := lw_g (lw_at lw_m1 130 rfl) rfl
theorem q230 : (Jvm.Cond.instanceMethod ({ cls := "java/util/ArrayDeque", name := "<init>", desc := "()V" } : Jvm.MethodName)) ∈ lw_all := lw_g (lw_at lw_m1 132 rfl) rfl
theorem q231 : (Jvm.Cond.code ({ cls := "java/util/ArrayDeque", name := "<init>", desc := "()V" } : Jvm.MethodName) prog_54_method_3_code (1 : Nat) (Option.none : Option Jvm.ClassFile.FieldType)) ∈ lw_all := lw_g (lw_at lw_m1 133 rfl) rfl
theorem q232 : (Jvm.Cond.methodLink "java/util/ArrayDeque" (42 : Nat) ({ cls := "java/util/AbstractCollection", name := "<init>", desc := "()V" } : Jvm.MethodName)) ∈ lw_all := lw_g (lw_at lw_m1 134 rfl) rfl
theorem q236 : (Jvm.Cond.classLink "java/util/ArrayDeque" (47 : Nat) "java/lang/Object") ∈ lw_all := lw_g (lw_at lw_m1 138 rfl) rfl
theorem q238 : (Jvm.Cond.fieldLink "java/util/ArrayDeque" (3 : Nat) "java/util/ArrayDeque" "elements" "[Ljava/lang/Object;") ∈ lw_all := lw_g (lw_at lw_m1 140 rfl) rfl
theorem q241 : (Jvm.Cond.fieldLink "java/util/ArrayDeque" (24 : Nat) "java/util/ArrayDeque" "head" "I") ∈ lw_all := lw_g (lw_at lw_m1 143 rfl) rfl
theorem q242 : (Jvm.Cond.fieldLink "java/util/ArrayDeque" (20 : Nat) "java/util/ArrayDeque" "tail" "I") ∈ lw_all := lw_g (lw_at lw_m1 144 rfl) rfl
theorem q243 : (Jvm.Cond.lays "java/util/ArrayDeque" "java/util/ArrayDeque" "elements" "[Ljava/lang/Object;") ∈ lw_all := lw_g (lw_at lw_m1 145 rfl) rfl
theorem q244 : (Jvm.Cond.soleField "java/util/ArrayDeque" "elements") ∈ lw_all := lw_g (lw_at lw_m1 146 rfl) rfl
theorem q245 : (Jvm.Cond.lays "java/util/ArrayDeque" "java/util/ArrayDeque" "head" "I") ∈ lw_all := lw_g (lw_at lw_m1 147 rfl) rfl
theorem q246 : (Jvm.Cond.soleField "java/util/ArrayDeque" "head") ∈ lw_all := lw_g (lw_at lw_m1 148 rfl) rfl
theorem q247 : (Jvm.Cond.lays "java/util/ArrayDeque" "java/util/ArrayDeque" "tail" "I") ∈ lw_all := lw_g (lw_at lw_m1 149 rfl) rfl
theorem q248 : (Jvm.Cond.soleField "java/util/ArrayDeque" "tail") ∈ lw_all := lw_g (lw_at lw_m1 150 rfl) rfl
theorem q249 : (Jvm.Cond.superclass "java/util/ArrayDeque" "java/util/AbstractCollection") ∈ lw_all := lw_g (lw_at lw_m1 151 rfl) rfl
theorem q609 : (Jvm.Cond.instanceMethod ({ cls := "java/util/ArrayDeque", name := "size", desc := "()I" } : Jvm.MethodName)) ∈ lw_all := lw_g (lw_at lw_m3 31 rfl) rfl
theorem q610 : (Jvm.Cond.selects "java/util/ArrayDeque" ({ cls := "java/util/ArrayDeque", name := "size", desc := "()I" } : Jvm.MethodName) ({ cls := "java/util/ArrayDeque", name := "size", desc := "()I" } : Jvm.MethodName)) ∈ lw_all := lw_g (lw_at lw_m3 32 rfl) rfl
theorem q611 : (Jvm.Cond.code ({ cls := "java/util/ArrayDeque", name := "size", desc := "()I" } : Jvm.MethodName) prog_54_method_37_code (1 : Nat) (Option.some Jvm.ClassFile.FieldType.int)) ∈ lw_all := lw_g (lw_at lw_m3 33 rfl) rfl
theorem q612 : (Jvm.Cond.methodLink "java/util/ArrayDeque" (127 : Nat) ({ cls := "java/util/ArrayDeque", name := "sub", desc := "(III)I" } : Jvm.MethodName)) ∈ lw_all := lw_g (lw_at lw_m3 34 rfl) rfl
theorem q613 : (Jvm.Cond.static ({ cls := "java/util/ArrayDeque", name := "sub", desc := "(III)I" } : Jvm.MethodName)) ∈ lw_all := lw_g (lw_at lw_m3 35 rfl) rfl
theorem q614 : (Jvm.Cond.code ({ cls := "java/util/ArrayDeque", name := "sub", desc := "(III)I" } : Jvm.MethodName) prog_54_method_9_code (3 : Nat) (Option.some Jvm.ClassFile.FieldType.int)) ∈ lw_all := lw_g (lw_at lw_m3 36 rfl) rfl
theorem q624 : (Jvm.Cond.instanceMethod ({ cls := "java/util/ArrayDeque", name := "removeFirst", desc := "()Ljava/lang/Object;" } : Jvm.MethodName)) ∈ lw_all := lw_g (lw_at lw_m3 46 rfl) rfl
theorem q625 : (Jvm.Cond.selects "java/util/ArrayDeque" ({ cls := "java/util/ArrayDeque", name := "removeFirst", desc := "()Ljava/lang/Object;" } : Jvm.MethodName) ({ cls := "java/util/ArrayDeque", name := "removeFirst", desc := "()Ljava/lang/Object;" } : Jvm.MethodName)) ∈ lw_all := lw_g (lw_at lw_m3 47 rfl) rfl
theorem q626 : (Jvm.Cond.code ({ cls := "java/util/ArrayDeque", name := "removeFirst", desc := "()Ljava/lang/Object;" } : Jvm.MethodName) prog_54_method_18_code (2 : Nat) (Option.some (Jvm.ClassFile.FieldType.object "java/lang/Object"))) ∈ lw_all := lw_g (lw_at lw_m3 48 rfl) rfl
theorem q627 : (Jvm.Cond.methodLink "java/util/ArrayDeque" (93 : Nat) ({ cls := "java/util/ArrayDeque", name := "pollFirst", desc := "()Ljava/lang/Object;" } : Jvm.MethodName)) ∈ lw_all := lw_g (lw_at lw_m3 49 rfl) rfl
theorem q628 : (Jvm.Cond.instanceMethod ({ cls := "java/util/ArrayDeque", name := "pollFirst", desc := "()Ljava/lang/Object;" } : Jvm.MethodName)) ∈ lw_all := lw_g (lw_at lw_m3 50 rfl) rfl
theorem q629 : (Jvm.Cond.selects "java/util/ArrayDeque" ({ cls := "java/util/ArrayDeque", name := "pollFirst", desc := "()Ljava/lang/Object;" } : Jvm.MethodName) ({ cls := "java/util/ArrayDeque", name := "pollFirst", desc := "()Ljava/lang/Object;" } : Jvm.MethodName)) ∈ lw_all := lw_g (lw_at lw_m3 51 rfl) rfl
theorem q630 : (Jvm.Cond.code ({ cls := "java/util/ArrayDeque", name := "pollFirst", desc := "()Ljava/lang/Object;" } : Jvm.MethodName) prog_54_method_20_code (4 : Nat) (Option.some (Jvm.ClassFile.FieldType.object "java/lang/Object"))) ∈ lw_all := lw_g (lw_at lw_m3 52 rfl) rfl
theorem q631 : (Jvm.Cond.methodLink "java/util/ArrayDeque" (103 : Nat) ({ cls := "java/util/ArrayDeque", name := "elementAt", desc := "([Ljava/lang/Object;I)Ljava/lang/Object;" } : Jvm.MethodName)) ∈ lw_all := lw_g (lw_at lw_m3 53 rfl) rfl
theorem q632 : (Jvm.Cond.static ({ cls := "java/util/ArrayDeque", name := "elementAt", desc := "([Ljava/lang/Object;I)Ljava/lang/Object;" } : Jvm.MethodName)) ∈ lw_all := lw_g (lw_at lw_m3 54 rfl) rfl
theorem q633 : (Jvm.Cond.code ({ cls := "java/util/ArrayDeque", name := "elementAt", desc := "([Ljava/lang/Object;I)Ljava/lang/Object;" } : Jvm.MethodName) prog_54_method_10_code (2 : Nat) (Option.some (Jvm.ClassFile.FieldType.object "java/lang/Object"))) ∈ lw_all := lw_g (lw_at lw_m3 55 rfl) rfl
theorem q634 : (Jvm.Cond.methodLink "java/util/ArrayDeque" (74 : Nat) ({ cls := "java/util/ArrayDeque", name := "inc", desc := "(II)I" } : Jvm.MethodName)) ∈ lw_all := lw_g (lw_at lw_m3 56 rfl) rfl
theorem q635 : (Jvm.Cond.static ({ cls := "java/util/ArrayDeque", name := "inc", desc := "(II)I" } : Jvm.MethodName)) ∈ lw_all := lw_g (lw_at lw_m3 57 rfl) rfl
theorem q636 : (Jvm.Cond.code ({ cls := "java/util/ArrayDeque", name := "inc", desc := "(II)I" } : Jvm.MethodName) prog_54_method_6_code (2 : Nat) (Option.some Jvm.ClassFile.FieldType.int)) ∈ lw_all := lw_g (lw_at lw_m3 58 rfl) rfl
theorem q637 : (Jvm.Cond.classLink "java/util/ArrayDeque" (97 : Nat) "java/util/NoSuchElementException") ∈ lw_all := lw_g (lw_at lw_m3 59 rfl) rfl
theorem q648 : (Jvm.Cond.methodLink "java/util/ArrayDeque" (99 : Nat) ({ cls := "java/util/NoSuchElementException", name := "<init>", desc := "()V" } : Jvm.MethodName)) ∈ lw_all := lw_g (lw_at lw_m3 70 rfl) rfl
theorem q674 : (Jvm.Cond.instanceMethod ({ cls := "java/util/ArrayDeque", name := "iterator", desc := "()Ljava/util/Iterator;" } : Jvm.MethodName)) ∈ lw_all := lw_g (lw_at lw_m3 96 rfl) rfl
theorem q675 : (Jvm.Cond.selects "java/util/ArrayDeque" ({ cls := "java/util/ArrayDeque", name := "iterator", desc := "()Ljava/util/Iterator;" } : Jvm.MethodName) ({ cls := "java/util/ArrayDeque", name := "iterator", desc := "()Ljava/util/Iterator;" } : Jvm.MethodName)) ∈ lw_all := lw_g (lw_at lw_m3 97 rfl) rfl
theorem q676 : (Jvm.Cond.code ({ cls := "java/util/ArrayDeque", name := "iterator", desc := "()Ljava/util/Iterator;" } : Jvm.MethodName) prog_54_method_39_code (1 : Nat) (Option.some (Jvm.ClassFile.FieldType.object "java/util/Iterator"))) ∈ lw_all := lw_g (lw_at lw_m3 98 rfl) rfl
theorem q677 : (Jvm.Cond.classLink "java/util/ArrayDeque" (131 : Nat) "java/util/ArrayDeque$DeqIterator") ∈ lw_all := lw_g (lw_at lw_m3 99 rfl) rfl
theorem q679 : (Jvm.Cond.methodLink "java/util/ArrayDeque" (133 : Nat) ({ cls := "java/util/ArrayDeque$DeqIterator", name := "<init>", desc := "(Ljava/util/ArrayDeque;)V" } : Jvm.MethodName)) ∈ lw_all := lw_g (lw_at lw_m3 101 rfl) rfl
theorem q761 : (Jvm.Cond.static ({ cls := "java/util/ArrayDeque", name := "nonNullElementAt", desc := "([Ljava/lang/Object;I)Ljava/lang/Object;" } : Jvm.MethodName)) ∈ lw_all := lw_g (lw_at lw_m3 183 rfl) rfl
theorem q762 : (Jvm.Cond.code ({ cls := "java/util/ArrayDeque", name := "nonNullElementAt", desc := "([Ljava/lang/Object;I)Ljava/lang/Object;" } : Jvm.MethodName) prog_54_method_11_code (3 : Nat) (Option.some (Jvm.ClassFile.FieldType.object "java/lang/Object"))) ∈ lw_all := lw_g (lw_at lw_m3 184 rfl) rfl
theorem q783 : (Jvm.Cond.instanceMethod ({ cls := "java/util/ArrayDeque", name := "addLast", desc := "(Ljava/lang/Object;)V" } : Jvm.MethodName)) ∈ lw_all := lw_g (lw_at lw_m3 205 rfl) rfl
theorem q784 : (Jvm.Cond.selects "java/util/ArrayDeque" ({ cls := "java/util/ArrayDeque", name := "addLast", desc := "(Ljava/lang/Object;)V" } : Jvm.MethodName) ({ cls := "java/util/ArrayDeque", name := "addLast", desc := "(Ljava/lang/Object;)V" } : Jvm.MethodName)) ∈ lw_all := lw_g (lw_at lw_m3 206 rfl) rfl
theorem q785 : (Jvm.Cond.code ({ cls := "java/util/ArrayDeque", name := "addLast", desc := "(Ljava/lang/Object;)V" } : Jvm.MethodName) prog_54_method_13_code (3 : Nat) (Option.none : Option Jvm.ClassFile.FieldType)) ∈ lw_all := lw_g (lw_at lw_m3 207 rfl) rfl
theorem q786 : (Jvm.Cond.methodLink "java/util/ArrayDeque" (71 : Nat) ({ cls := "java/util/ArrayDeque", name := "grow", desc := "(I)V" } : Jvm.MethodName)) ∈ lw_all := lw_g (lw_at lw_m3 208 rfl) rfl
theorem q787 : (Jvm.Cond.privateMethod ({ cls := "java/util/ArrayDeque", name := "grow", desc := "(I)V" } : Jvm.MethodName)) ∈ lw_tbl := lw_at lw_m3 209 rfl
theorem q788 : (Jvm.Cond.instanceMethod ({ cls := "java/util/ArrayDeque", name := "grow", desc := "(I)V" } : Jvm.MethodName)) ∈ lw_all := lw_g (lw_at lw_m3 210 rfl) rfl
theorem q789 : (Jvm.Cond.code ({ cls := "java/util/ArrayDeque", name := "grow", desc := "(I)V" } : Jvm.MethodName) prog_54_method_1_code (9 : Nat) (Option.none : Option Jvm.ClassFile.FieldType)) ∈ lw_all := lw_g (lw_at lw_m3 211 rfl) rfl
theorem q790 : (Jvm.Cond.constant "java/util/ArrayDeque" (9 : Nat) (2147483639 : Int32)) ∈ lw_all := lw_g (lw_at lw_m3 212 rfl) rfl
theorem q791 : (Jvm.Cond.methodLink "java/util/ArrayDeque" (10 : Nat) ({ cls := "java/util/ArrayDeque", name := "newCapacity", desc := "(II)I" } : Jvm.MethodName)) ∈ lw_all := lw_g (lw_at lw_m3 213 rfl) rfl
theorem q792 : (Jvm.Cond.privateMethod ({ cls := "java/util/ArrayDeque", name := "newCapacity", desc := "(II)I" } : Jvm.MethodName)) ∈ lw_tbl := lw_at lw_m3 214 rfl
theorem q793 : (Jvm.Cond.instanceMethod ({ cls := "java/util/ArrayDeque", name := "newCapacity", desc := "(II)I" } : Jvm.MethodName)) ∈ lw_all := lw_g (lw_at lw_m3 215 rfl) rfl
theorem q794 : (Jvm.Cond.code ({ cls := "java/util/ArrayDeque", name := "newCapacity", desc := "(II)I" } : Jvm.MethodName) prog_54_method_2_code (5 : Nat) (Option.some Jvm.ClassFile.FieldType.int)) ∈ lw_all := lw_g (lw_at lw_m3 216 rfl) rfl
theorem q795 : (Jvm.Cond.constant "java/util/ArrayDeque" (41 : Nat) (2147483647 : Int32)) ∈ lw_all := lw_g (lw_at lw_m3 217 rfl) rfl
theorem q796 : (Jvm.Cond.methodLink "java/util/ArrayDeque" (14 : Nat) ({ cls := "java/util/Arrays", name := "copyOf", desc := "([Ljava/lang/Object;I)[Ljava/lang/Object;" } : Jvm.MethodName)) ∈ lw_all := lw_g (lw_at lw_m3 218 rfl) rfl
theorem q825 : (Jvm.Cond.selects "java/util/ArrayDeque" ({ cls := "java/lang/Object", name := "getClass", desc := "()Ljava/lang/Class;" } : Jvm.MethodName) ({ cls := "java/lang/Object", name := "getClass", desc := "()Ljava/lang/Class;" } : Jvm.MethodName)) ∈ lw_all := lw_g (lw_at lw_m4 7 rfl) rfl
theorem q845 : (Jvm.Cond.methodLink "java/util/ArrayDeque" (27 : Nat) ({ cls := "java/lang/System", name := "arraycopy", desc := "(Ljava/lang/Object;ILjava/lang/Object;II)V" } : Jvm.MethodName)) ∈ lw_all := lw_g (lw_at lw_m4 27 rfl) rfl
theorem q910 : (Jvm.Cond.instanceMethod ({ cls := "java/util/ArrayDeque", name := "isEmpty", desc := "()Z" } : Jvm.MethodName)) ∈ lw_all := lw_g (lw_at lw_m4 92 rfl) rfl
theorem q911 : (Jvm.Cond.selects "java/util/ArrayDeque" ({ cls := "java/util/ArrayDeque", name := "isEmpty", desc := "()Z" } : Jvm.MethodName) ({ cls := "java/util/ArrayDeque", name := "isEmpty", desc := "()Z" } : Jvm.MethodName)) ∈ lw_all := lw_g (lw_at lw_m4 93 rfl) rfl
theorem q912 : (Jvm.Cond.code ({ cls := "java/util/ArrayDeque", name := "isEmpty", desc := "()Z" } : Jvm.MethodName) prog_54_method_38_code (1 : Nat) (Option.some Jvm.ClassFile.FieldType.boolean)) ∈ lw_all := lw_g (lw_at lw_m4 94 rfl) rfl
theorem q914 : (Jvm.Cond.instanceMethod ({ cls := "java/util/ArrayDeque", name := "removeLast", desc := "()Ljava/lang/Object;" } : Jvm.MethodName)) ∈ lw_all := lw_g (lw_at lw_m4 96 rfl) rfl
theorem q915 : (Jvm.Cond.selects "java/util/ArrayDeque" ({ cls := "java/util/ArrayDeque", name := "removeLast", desc := "()Ljava/lang/Object;" } : Jvm.MethodName) ({ cls := "java/util/ArrayDeque", name := "removeLast", desc := "()Ljava/lang/Object;" } : Jvm.MethodName)) ∈ lw_all := lw_g (lw_at lw_m4 97 rfl) rfl
theorem q916 : (Jvm.Cond.code ({ cls := "java/util/ArrayDeque", name := "removeLast", desc := "()Ljava/lang/Object;" } : Jvm.MethodName) prog_54_method_19_code (2 : Nat) (Option.some (Jvm.ClassFile.FieldType.object "java/lang/Object"))) ∈ lw_all := lw_g (lw_at lw_m4 98 rfl) rfl
theorem q917 : (Jvm.Cond.methodLink "java/util/ArrayDeque" (100 : Nat) ({ cls := "java/util/ArrayDeque", name := "pollLast", desc := "()Ljava/lang/Object;" } : Jvm.MethodName)) ∈ lw_all := lw_g (lw_at lw_m4 99 rfl) rfl
theorem q918 : (Jvm.Cond.instanceMethod ({ cls := "java/util/ArrayDeque", name := "pollLast", desc := "()Ljava/lang/Object;" } : Jvm.MethodName)) ∈ lw_all := lw_g (lw_at lw_m4 100 rfl) rfl
theorem q919 : (Jvm.Cond.selects "java/util/ArrayDeque" ({ cls := "java/util/ArrayDeque", name := "pollLast", desc := "()Ljava/lang/Object;" } : Jvm.MethodName) ({ cls := "java/util/ArrayDeque", name := "pollLast", desc := "()Ljava/lang/Object;" } : Jvm.MethodName)) ∈ lw_all := lw_g (lw_at lw_m4 101 rfl) rfl
theorem q920 : (Jvm.Cond.code ({ cls := "java/util/ArrayDeque", name := "pollLast", desc := "()Ljava/lang/Object;" } : Jvm.MethodName) prog_54_method_21_code (4 : Nat) (Option.some (Jvm.ClassFile.FieldType.object "java/lang/Object"))) ∈ lw_all := lw_g (lw_at lw_m4 102 rfl) rfl
theorem q921 : (Jvm.Cond.methodLink "java/util/ArrayDeque" (68 : Nat) ({ cls := "java/util/ArrayDeque", name := "dec", desc := "(II)I" } : Jvm.MethodName)) ∈ lw_all := lw_g (lw_at lw_m4 103 rfl) rfl
theorem q922 : (Jvm.Cond.static ({ cls := "java/util/ArrayDeque", name := "dec", desc := "(II)I" } : Jvm.MethodName)) ∈ lw_all := lw_g (lw_at lw_m4 104 rfl) rfl
theorem q923 : (Jvm.Cond.code ({ cls := "java/util/ArrayDeque", name := "dec", desc := "(II)I" } : Jvm.MethodName) prog_54_method_7_code (2 : Nat) (Option.some Jvm.ClassFile.FieldType.int)) ∈ lw_all := lw_g (lw_at lw_m4 105 rfl) rfl
theorem q933 : (Jvm.Cond.instanceMethod ({ cls := "java/util/ArrayDeque", name := "clear", desc := "()V" } : Jvm.MethodName)) ∈ lw_all := lw_g (lw_at lw_m4 115 rfl) rfl
theorem q934 : (Jvm.Cond.selects "java/util/ArrayDeque" ({ cls := "java/util/ArrayDeque", name := "clear", desc := "()V" } : Jvm.MethodName) ({ cls := "java/util/ArrayDeque", name := "clear", desc := "()V" } : Jvm.MethodName)) ∈ lw_all := lw_g (lw_at lw_m4 116 rfl) rfl
theorem q935 : (Jvm.Cond.code ({ cls := "java/util/ArrayDeque", name := "clear", desc := "()V" } : Jvm.MethodName) prog_54_method_53_code (1 : Nat) (Option.none : Option Jvm.ClassFile.FieldType)) ∈ lw_all := lw_g (lw_at lw_m4 117 rfl) rfl
theorem q936 : (Jvm.Cond.methodLink "java/util/ArrayDeque" (181 : Nat) ({ cls := "java/util/ArrayDeque", name := "circularClear", desc := "([Ljava/lang/Object;II)V" } : Jvm.MethodName)) ∈ lw_all := lw_g (lw_at lw_m4 118 rfl) rfl
theorem q937 : (Jvm.Cond.static ({ cls := "java/util/ArrayDeque", name := "circularClear", desc := "([Ljava/lang/Object;II)V" } : Jvm.MethodName)) ∈ lw_all := lw_g (lw_at lw_m4 119 rfl) rfl
theorem q938 : (Jvm.Cond.code ({ cls := "java/util/ArrayDeque", name := "circularClear", desc := "([Ljava/lang/Object;II)V" } : Jvm.MethodName) prog_54_method_54_code (4 : Nat) (Option.none : Option Jvm.ClassFile.FieldType)) ∈ lw_all := lw_g (lw_at lw_m4 120 rfl) rfl
theorem q3392 : (Jvm.Cond.castable "java/util/ArrayDeque" "java/lang/Object") ∈ lw_tbl := lw_at lw_m14 174 rfl
theorem in_J1 : ∀ w ∈ wsJ10, w ∈ lw_all := lw_in wsJ10 [243, 245, 247] (by decide +kernel) (by decide +kernel)
/-! java/lang/Throwable -/
set_option maxRecDepth 100000
def RJ2 : String := "java/lang/Throwable"
def TJ2 : u_T := fun k => match k with
  | 0 => ("java/lang/Throwable", "cause", "Ljava/lang/Throwable;", false)
  | 1 => ("java/lang/Throwable", "stackTrace", "[Ljava/lang/StackTraceElement;", false)
  | 2 => ("java/lang/Throwable", "suppressedExceptions", "Ljava/util/List;", false)
  | 3 => ("java/lang/Throwable", "detailMessage", "Ljava/lang/String;", false)
  | _ => ("java/lang/Throwable", "backtrace", "Ljava/lang/Object;", false)
def tyJ2 : Nat → FieldType := fun k => match k with
  | 0 => .object "java/lang/Throwable"
  | 1 => .array (.object "java/lang/StackTraceElement")
  | 2 => .object "java/util/List"
  | 3 => .object "java/lang/String"
  | _ => .object "java/lang/Object"
abbrev wsJ20 : List Cond := u_ws RJ2 TJ2 5
theorem nmJ2 : ∀ a, a < 5 → ∀ b, b < 5 → a ≠ b → (TJ2 a).2.1 ≠ (TJ2 b).2.1 := by decide +kernel
theorem tyJ2_ok : ∀ k, k < 5 → parseFieldDescriptor (TJ2 k).2.2.1 = some (tyJ2 k) := by decide +kernel
abbrev cJ2_init : ByteArray := prog_47_method_1_code
def yJ2_init : MethodName := ⟨RJ2, "<init>", "()V"⟩
def dkwJ2_init_1 : List UInt8 := [182, 0, 27, 87, 177]
abbrev dktJ2_init_1 : List UInt8 := dkwJ2_init_1 ++ []
def dkwJ2_init_0 : List UInt8 := [42, 183, 0, 1, 42, 42, 181, 0, 7, 42, 178, 0, 13, 181, 0, 17, 42, 178, 0, 20, 181, 0, 24, 42]
abbrev dktJ2_init_0 : List UInt8 := dkwJ2_init_0 ++ dktJ2_init_1
theorem dksJ2_init_0 : cJ2_init.data.toList.drop 0 = dktJ2_init_0 := by decide +kernel
theorem dksJ2_init_1 : cJ2_init.data.toList.drop 24 = dktJ2_init_1 := dk_seg dksJ2_init_0 24 rfl rfl
theorem dJ2_init_0 : decode cJ2_init 0 = .ok (.aload_n 0, 1) := dk_42 (dk_at dksJ2_init_0 0 rfl rfl)
theorem dJ2_init_1 : decode cJ2_init 1 = .ok (.invokespecial 1, 3) := dk_183 0 1 (dk_at dksJ2_init_0 1 rfl rfl)
theorem dJ2_init_4 : decode cJ2_init 4 = .ok (.aload_n 0, 1) := dk_42 (dk_at dksJ2_init_0 4 rfl rfl)
theorem dJ2_init_5 : decode cJ2_init 5 = .ok (.aload_n 0, 1) := dk_42 (dk_at dksJ2_init_0 5 rfl rfl)
theorem dJ2_init_6 : decode cJ2_init 6 = .ok (.putfield 7, 3) := dk_181 0 7 (dk_at dksJ2_init_0 6 rfl rfl)
theorem dJ2_init_9 : decode cJ2_init 9 = .ok (.aload_n 0, 1) := dk_42 (dk_at dksJ2_init_0 9 rfl rfl)
theorem dJ2_init_10 : decode cJ2_init 10 = .ok (.getstatic 13, 3) := dk_178 0 13 (dk_at dksJ2_init_0 10 rfl rfl)
theorem dJ2_init_13 : decode cJ2_init 13 = .ok (.putfield 17, 3) := dk_181 0 17 (dk_at dksJ2_init_0 13 rfl rfl)
theorem dJ2_init_16 : decode cJ2_init 16 = .ok (.aload_n 0, 1) := dk_42 (dk_at dksJ2_init_0 16 rfl rfl)
theorem dJ2_init_17 : decode cJ2_init 17 = .ok (.getstatic 20, 3) := dk_178 0 20 (dk_at dksJ2_init_0 17 rfl rfl)
theorem dJ2_init_20 : decode cJ2_init 20 = .ok (.putfield 24, 3) := dk_181 0 24 (dk_at dksJ2_init_0 20 rfl rfl)
theorem dJ2_init_23 : decode cJ2_init 23 = .ok (.aload_n 0, 1) := dk_42 (dk_at dksJ2_init_0 23 rfl rfl)
theorem dJ2_init_24 : decode cJ2_init 24 = .ok (.invokevirtual 27, 3) := dk_182 0 27 (dk_at dksJ2_init_1 0 rfl rfl)
theorem dJ2_init_27 : decode cJ2_init 27 = .ok (.pop, 1) := dk_87 (dk_at dksJ2_init_1 3 rfl rfl)
theorem dJ2_init_28 : decode cJ2_init 28 = .ok (.return_, 1) := dk_177 (dk_at dksJ2_init_1 4 rfl rfl)
abbrev cJ2_init_2 : ByteArray := prog_47_method_5_code
def yJ2_init_2 : MethodName := ⟨RJ2, "<init>", "(Ljava/lang/String;Ljava/lang/Throwable;ZZ)V"⟩
def dkwJ2_init_2_2 : List UInt8 := [44, 181, 0, 7, 29, 154, 0, 8, 42, 1, 181, 0, 24, 177]
abbrev dktJ2_init_2_2 : List UInt8 := dkwJ2_init_2_2 ++ []
def dkwJ2_init_2_1 : List UInt8 := [21, 4, 153, 0, 11, 42, 182, 0, 27, 87, 167, 0, 8, 42, 1, 181, 0, 17, 42, 43, 181, 0, 31, 42]
abbrev dktJ2_init_2_1 : List UInt8 := dkwJ2_init_2_1 ++ dktJ2_init_2_2
def dkwJ2_init_2_0 : List UInt8 := [42, 183, 0, 1, 42, 42, 181, 0, 7, 42, 178, 0, 13, 181, 0, 17, 42, 178, 0, 20, 181, 0, 24]
abbrev dktJ2_init_2_0 : List UInt8 := dkwJ2_init_2_0 ++ dktJ2_init_2_1
theorem dksJ2_init_2_0 : cJ2_init_2.data.toList.drop 0 = dktJ2_init_2_0 := by decide +kernel
theorem dksJ2_init_2_1 : cJ2_init_2.data.toList.drop 23 = dktJ2_init_2_1 := dk_seg dksJ2_init_2_0 23 rfl rfl
theorem dksJ2_init_2_2 : cJ2_init_2.data.toList.drop 47 = dktJ2_init_2_2 := dk_seg dksJ2_init_2_1 24 rfl rfl
theorem dJ2_init_2_0 : decode cJ2_init_2 0 = .ok (.aload_n 0, 1) := dk_42 (dk_at dksJ2_init_2_0 0 rfl rfl)
theorem dJ2_init_2_1 : decode cJ2_init_2 1 = .ok (.invokespecial 1, 3) := dk_183 0 1 (dk_at dksJ2_init_2_0 1 rfl rfl)
theorem dJ2_init_2_4 : decode cJ2_init_2 4 = .ok (.aload_n 0, 1) := dk_42 (dk_at dksJ2_init_2_0 4 rfl rfl)
theorem dJ2_init_2_5 : decode cJ2_init_2 5 = .ok (.aload_n 0, 1) := dk_42 (dk_at dksJ2_init_2_0 5 rfl rfl)
theorem dJ2_init_2_6 : decode cJ2_init_2 6 = .ok (.putfield 7, 3) := dk_181 0 7 (dk_at dksJ2_init_2_0 6 rfl rfl)
theorem dJ2_init_2_9 : decode cJ2_init_2 9 = .ok (.aload_n 0, 1) := dk_42 (dk_at dksJ2_init_2_0 9 rfl rfl)
theorem dJ2_init_2_10 : decode cJ2_init_2 10 = .ok (.getstatic 13, 3) := dk_178 0 13 (dk_at dksJ2_init_2_0 10 rfl rfl)
theorem dJ2_init_2_13 : decode cJ2_init_2 13 = .ok (.putfield 17, 3) := dk_181 0 17 (dk_at dksJ2_init_2_0 13 rfl rfl)
theorem dJ2_init_2_16 : decode cJ2_init_2 16 = .ok (.aload_n 0, 1) := dk_42 (dk_at dksJ2_init_2_0 16 rfl rfl)
theorem dJ2_init_2_17 : decode cJ2_init_2 17 = .ok (.getstatic 20, 3) := dk_178 0 20 (dk_at dksJ2_init_2_0 17 rfl rfl)
theorem dJ2_init_2_20 : decode cJ2_init_2 20 = .ok (.putfield 24, 3) := dk_181 0 24 (dk_at dksJ2_init_2_0 20 rfl rfl)
theorem dJ2_init_2_23 : decode cJ2_init_2 23 = .ok (.iload 4, 2) := dk_21 4 (dk_at dksJ2_init_2_1 0 rfl rfl)
theorem dJ2_init_2_25 : decode cJ2_init_2 25 = .ok (.ifCond .eq 11, 3) := dk_153 0 11 (dk_at dksJ2_init_2_1 2 rfl rfl)
theorem dJ2_init_2_28 : decode cJ2_init_2 28 = .ok (.aload_n 0, 1) := dk_42 (dk_at dksJ2_init_2_1 5 rfl rfl)
theorem dJ2_init_2_29 : decode cJ2_init_2 29 = .ok (.invokevirtual 27, 3) := dk_182 0 27 (dk_at dksJ2_init_2_1 6 rfl rfl)
theorem dJ2_init_2_32 : decode cJ2_init_2 32 = .ok (.pop, 1) := dk_87 (dk_at dksJ2_init_2_1 9 rfl rfl)
theorem dJ2_init_2_33 : decode cJ2_init_2 33 = .ok (.goto 8, 3) := dk_167 0 8 (dk_at dksJ2_init_2_1 10 rfl rfl)
theorem dJ2_init_2_36 : decode cJ2_init_2 36 = .ok (.aload_n 0, 1) := dk_42 (dk_at dksJ2_init_2_1 13 rfl rfl)
theorem dJ2_init_2_37 : decode cJ2_init_2 37 = .ok (.aconst_null, 1) := dk_1 (dk_at dksJ2_init_2_1 14 rfl rfl)
theorem dJ2_init_2_38 : decode cJ2_init_2 38 = .ok (.putfield 17, 3) := dk_181 0 17 (dk_at dksJ2_init_2_1 15 rfl rfl)
theorem dJ2_init_2_41 : decode cJ2_init_2 41 = .ok (.aload_n 0, 1) := dk_42 (dk_at dksJ2_init_2_1 18 rfl rfl)
theorem dJ2_init_2_42 : decode cJ2_init_2 42 = .ok (.aload_n 1, 1) := dk_43 (dk_at dksJ2_init_2_1 19 rfl rfl)
theorem dJ2_init_2_43 : decode cJ2_init_2 43 = .ok (.putfield 31, 3) := dk_181 0 31 (dk_at dksJ2_init_2_1 20 rfl rfl)
theorem dJ2_init_2_46 : decode cJ2_init_2 46 = .ok (.aload_n 0, 1) := dk_42 (dk_at dksJ2_init_2_1 23 rfl rfl)
theorem dJ2_init_2_47 : decode cJ2_init_2 47 = .ok (.aload_n 2, 1) := dk_44 (dk_at dksJ2_init_2_2 0 rfl rfl)
theorem dJ2_init_2_48 : decode cJ2_init_2 48 = .ok (.putfield 7, 3) := dk_181 0 7 (dk_at dksJ2_init_2_2 1 rfl rfl)
theorem dJ2_init_2_51 : decode cJ2_init_2 51 = .ok (.iload_n 3, 1) := dk_29 (dk_at dksJ2_init_2_2 4 rfl rfl)
theorem dJ2_init_2_52 : decode cJ2_init_2 52 = .ok (.ifCond .ne 8, 3) := dk_154 0 8 (dk_at dksJ2_init_2_2 5 rfl rfl)
theorem dJ2_init_2_55 : decode cJ2_init_2 55 = .ok (.aload_n 0, 1) := dk_42 (dk_at dksJ2_init_2_2 8 rfl rfl)
theorem dJ2_init_2_56 : decode cJ2_init_2 56 = .ok (.aconst_null, 1) := dk_1 (dk_at dksJ2_init_2_2 9 rfl rfl)
theorem dJ2_init_2_57 : decode cJ2_init_2 57 = .ok (.putfield 24, 3) := dk_181 0 24 (dk_at dksJ2_init_2_2 10 rfl rfl)
theorem dJ2_init_2_60 : decode cJ2_init_2 60 = .ok (.return_, 1) := dk_177 (dk_at dksJ2_init_2_2 13 rfl rfl)
abbrev cJ2_init_3 : ByteArray := prog_47_method_2_code
def yJ2_init_3 : MethodName := ⟨RJ2, "<init>", "(Ljava/lang/String;)V"⟩
def dkwJ2_init_3_1 : List UInt8 := [182, 0, 27, 87, 42, 43, 181, 0, 31, 177]
abbrev dktJ2_init_3_1 : List UInt8 := dkwJ2_init_3_1 ++ []
def dkwJ2_init_3_0 : List UInt8 := [42, 183, 0, 1, 42, 42, 181, 0, 7, 42, 178, 0, 13, 181, 0, 17, 42, 178, 0, 20, 181, 0, 24, 42]
abbrev dktJ2_init_3_0 : List UInt8 := dkwJ2_init_3_0 ++ dktJ2_init_3_1
theorem dksJ2_init_3_0 : cJ2_init_3.data.toList.drop 0 = dktJ2_init_3_0 := by decide +kernel
theorem dksJ2_init_3_1 : cJ2_init_3.data.toList.drop 24 = dktJ2_init_3_1 := dk_seg dksJ2_init_3_0 24 rfl rfl
theorem dJ2_init_3_0 : decode cJ2_init_3 0 = .ok (.aload_n 0, 1) := dk_42 (dk_at dksJ2_init_3_0 0 rfl rfl)
theorem dJ2_init_3_1 : decode cJ2_init_3 1 = .ok (.invokespecial 1, 3) := dk_183 0 1 (dk_at dksJ2_init_3_0 1 rfl rfl)
theorem dJ2_init_3_4 : decode cJ2_init_3 4 = .ok (.aload_n 0, 1) := dk_42 (dk_at dksJ2_init_3_0 4 rfl rfl)
theorem dJ2_init_3_5 : decode cJ2_init_3 5 = .ok (.aload_n 0, 1) := dk_42 (dk_at dksJ2_init_3_0 5 rfl rfl)
theorem dJ2_init_3_6 : decode cJ2_init_3 6 = .ok (.putfield 7, 3) := dk_181 0 7 (dk_at dksJ2_init_3_0 6 rfl rfl)
theorem dJ2_init_3_9 : decode cJ2_init_3 9 = .ok (.aload_n 0, 1) := dk_42 (dk_at dksJ2_init_3_0 9 rfl rfl)
theorem dJ2_init_3_10 : decode cJ2_init_3 10 = .ok (.getstatic 13, 3) := dk_178 0 13 (dk_at dksJ2_init_3_0 10 rfl rfl)
theorem dJ2_init_3_13 : decode cJ2_init_3 13 = .ok (.putfield 17, 3) := dk_181 0 17 (dk_at dksJ2_init_3_0 13 rfl rfl)
theorem dJ2_init_3_16 : decode cJ2_init_3 16 = .ok (.aload_n 0, 1) := dk_42 (dk_at dksJ2_init_3_0 16 rfl rfl)
theorem dJ2_init_3_17 : decode cJ2_init_3 17 = .ok (.getstatic 20, 3) := dk_178 0 20 (dk_at dksJ2_init_3_0 17 rfl rfl)
theorem dJ2_init_3_20 : decode cJ2_init_3 20 = .ok (.putfield 24, 3) := dk_181 0 24 (dk_at dksJ2_init_3_0 20 rfl rfl)
theorem dJ2_init_3_23 : decode cJ2_init_3 23 = .ok (.aload_n 0, 1) := dk_42 (dk_at dksJ2_init_3_0 23 rfl rfl)
theorem dJ2_init_3_24 : decode cJ2_init_3 24 = .ok (.invokevirtual 27, 3) := dk_182 0 27 (dk_at dksJ2_init_3_1 0 rfl rfl)
theorem dJ2_init_3_27 : decode cJ2_init_3 27 = .ok (.pop, 1) := dk_87 (dk_at dksJ2_init_3_1 3 rfl rfl)
theorem dJ2_init_3_28 : decode cJ2_init_3 28 = .ok (.aload_n 0, 1) := dk_42 (dk_at dksJ2_init_3_1 4 rfl rfl)
theorem dJ2_init_3_29 : decode cJ2_init_3 29 = .ok (.aload_n 1, 1) := dk_43 (dk_at dksJ2_init_3_1 5 rfl rfl)
theorem dJ2_init_3_30 : decode cJ2_init_3 30 = .ok (.putfield 31, 3) := dk_181 0 31 (dk_at dksJ2_init_3_1 6 rfl rfl)
theorem dJ2_init_3_33 : decode cJ2_init_3 33 = .ok (.return_, 1) := dk_177 (dk_at dksJ2_init_3_1 9 rfl rfl)
theorem q104 : (Jvm.Cond.initialized "java/lang/Throwable") ∈ lw_all := lw_g (lw_at lw_m1 6 rfl) rfl
theorem q347 : (Jvm.Cond.declares ({ cls := "java/lang/Throwable", name := "<init>", desc := "()V" } : Jvm.MethodName)) ∈ lw_tbl := lw_at lw_m2 9 rfl
theorem q348 : (Jvm.Cond.declares ({ cls := "java/lang/Throwable", name := "<init>", desc := "(Ljava/lang/String;)V" } : Jvm.MethodName)) ∈ lw_tbl := lw_at lw_m2 10 rfl
theorem q352 : (Jvm.Cond.lays "java/lang/Throwable" "java/lang/Throwable" "cause" "Ljava/lang/Throwable;") ∈ lw_all := lw_g (lw_at lw_m2 14 rfl) rfl
theorem q354 : (Jvm.Cond.lays "java/lang/Throwable" "java/lang/Throwable" "stackTrace" "[Ljava/lang/StackTraceElement;") ∈ lw_all := lw_g (lw_at lw_m2 16 rfl) rfl
theorem q356 : (Jvm.Cond.lays "java/lang/Throwable" "java/lang/Throwable" "suppressedExceptions" "Ljava/util/List;") ∈ lw_all := lw_g (lw_at lw_m2 18 rfl) rfl
theorem q358 : (Jvm.Cond.lays "java/lang/Throwable" "java/lang/Throwable" "detailMessage" "Ljava/lang/String;") ∈ lw_all := lw_g (lw_at lw_m2 20 rfl) rfl
theorem q360 : (Jvm.Cond.lays "java/lang/Throwable" "java/lang/Throwable" "backtrace" "Ljava/lang/Object;") ∈ lw_all := lw_g (lw_at lw_m2 22 rfl) rfl
theorem q361 : (Jvm.Cond.fieldLink "java/lang/Throwable" (198 : Nat) "java/lang/Throwable" "backtrace" "Ljava/lang/Object;") ∈ lw_all := lw_g (lw_at lw_m2 23 rfl) rfl
theorem q362 : (Jvm.Cond.superclass "java/lang/Throwable" "java/lang/Object") ∈ lw_all := lw_g (lw_at lw_m2 24 rfl) rfl
theorem q363 : (Jvm.Cond.instanceMethod ({ cls := "java/lang/Throwable", name := "<init>", desc := "()V" } : Jvm.MethodName)) ∈ lw_all := lw_g (lw_at lw_m2 25 rfl) rfl
theorem q364 : (Jvm.Cond.code ({ cls := "java/lang/Throwable", name := "<init>", desc := "()V" } : Jvm.MethodName) prog_47_method_1_code (1 : Nat) (Option.none : Option Jvm.ClassFile.FieldType)) ∈ lw_all := lw_g (lw_at lw_m2 26 rfl) rfl
theorem q365 : (Jvm.Cond.methodLink "java/lang/Throwable" (1 : Nat) ({ cls := "java/lang/Object", name := "<init>", desc := "()V" } : Jvm.MethodName)) ∈ lw_all := lw_g (lw_at lw_m2 27 rfl) rfl
theorem q366 : (Jvm.Cond.fieldLink "java/lang/Throwable" (13 : Nat) "java/lang/Throwable" "UNASSIGNED_STACK" "[Ljava/lang/StackTraceElement;") ∈ lw_all := lw_g (lw_at lw_m2 28 rfl) rfl
theorem q367 : (Jvm.Cond.laysStatic "java/lang/Throwable" "UNASSIGNED_STACK" "[Ljava/lang/StackTraceElement;") ∈ lw_tbl := lw_at lw_m2 29 rfl
theorem q368 : (Jvm.Cond.fieldLink "java/lang/Throwable" (20 : Nat) "java/lang/Throwable" "SUPPRESSED_SENTINEL" "Ljava/util/List;") ∈ lw_all := lw_g (lw_at lw_m2 30 rfl) rfl
theorem q369 : (Jvm.Cond.laysStatic "java/lang/Throwable" "SUPPRESSED_SENTINEL" "Ljava/util/List;") ∈ lw_tbl := lw_at lw_m2 31 rfl
theorem q370 : (Jvm.Cond.methodLink "java/lang/Throwable" (27 : Nat) ({ cls := "java/lang/Throwable", name := "fillInStackTrace", desc := "()Ljava/lang/Throwable;" } : Jvm.MethodName)) ∈ lw_all := lw_g (lw_at lw_m2 32 rfl) rfl
theorem q371 : (Jvm.Cond.instanceMethod ({ cls := "java/lang/Throwable", name := "fillInStackTrace", desc := "()Ljava/lang/Throwable;" } : Jvm.MethodName)) ∈ lw_all := lw_g (lw_at lw_m2 33 rfl) rfl
theorem q372 : (Jvm.Cond.sameMethod "java/lang/Throwable" "java/lang/Throwable" "fillInStackTrace" "()Ljava/lang/Throwable;") ∈ lw_all := lw_g (lw_at lw_m2 34 rfl) rfl
theorem q380 : (Jvm.Cond.codeSync ({ cls := "java/lang/Throwable", name := "fillInStackTrace", desc := "()Ljava/lang/Throwable;" } : Jvm.MethodName) prog_47_method_18_code (1 : Nat) (Option.some (Jvm.ClassFile.FieldType.object "java/lang/Throwable"))) ∈ lw_all := lw_g (lw_at lw_m2 42 rfl) rfl
theorem q381 : (Jvm.Cond.methodLink "java/lang/Throwable" (202 : Nat) ({ cls := "java/lang/Throwable", name := "fillInStackTrace", desc := "(I)Ljava/lang/Throwable;" } : Jvm.MethodName)) ∈ lw_all := lw_g (lw_at lw_m2 43 rfl) rfl
theorem q382 : (Jvm.Cond.privateMethod ({ cls := "java/lang/Throwable", name := "fillInStackTrace", desc := "(I)Ljava/lang/Throwable;" } : Jvm.MethodName)) ∈ lw_tbl := lw_at lw_m2 44 rfl
theorem q383 : (Jvm.Cond.instanceMethod ({ cls := "java/lang/Throwable", name := "fillInStackTrace", desc := "(I)Ljava/lang/Throwable;" } : Jvm.MethodName)) ∈ lw_all := lw_g (lw_at lw_m2 45 rfl) rfl
theorem q384 : (Jvm.Cond.instantiable "java/lang/Throwable" (6 : Nat)) ∈ lw_all := lw_g (lw_at lw_m2 46 rfl) rfl
theorem q385 : (Jvm.Cond.native ({ cls := "java/lang/Throwable", name := "fillInStackTrace", desc := "(I)Ljava/lang/Throwable;" } : Jvm.MethodName)) ∈ lw_all := lw_g (lw_at lw_m2 47 rfl) rfl
theorem q393 : (Jvm.Cond.instanceMethod ({ cls := "java/lang/Throwable", name := "<init>", desc := "(Ljava/lang/String;Ljava/lang/Throwable;ZZ)V" } : Jvm.MethodName)) ∈ lw_all := lw_g (lw_at lw_m2 55 rfl) rfl
theorem q394 : (Jvm.Cond.code ({ cls := "java/lang/Throwable", name := "<init>", desc := "(Ljava/lang/String;Ljava/lang/Throwable;ZZ)V" } : Jvm.MethodName) prog_47_method_5_code (5 : Nat) (Option.none : Option Jvm.ClassFile.FieldType)) ∈ lw_all := lw_g (lw_at lw_m2 56 rfl) rfl
theorem q395 : (Jvm.Cond.fieldLink "java/lang/Throwable" (198 : Nat) "java/lang/Throwable" "backtrace" "Ljava/lang/Object;") ∈ lw_all := lw_g (lw_at lw_m2 57 rfl) rfl
theorem q396 : (Jvm.Cond.fieldLink "java/lang/Throwable" (31 : Nat) "java/lang/Throwable" "detailMessage" "Ljava/lang/String;") ∈ lw_all := lw_g (lw_at lw_m2 58 rfl) rfl
theorem q397 : (Jvm.Cond.fieldLink "java/lang/Throwable" (7 : Nat) "java/lang/Throwable" "cause" "Ljava/lang/Throwable;") ∈ lw_all := lw_g (lw_at lw_m2 59 rfl) rfl
theorem q398 : (Jvm.Cond.fieldLink "java/lang/Throwable" (17 : Nat) "java/lang/Throwable" "stackTrace" "[Ljava/lang/StackTraceElement;") ∈ lw_all := lw_g (lw_at lw_m2 60 rfl) rfl
theorem q399 : (Jvm.Cond.fieldLink "java/lang/Throwable" (24 : Nat) "java/lang/Throwable" "suppressedExceptions" "Ljava/util/List;") ∈ lw_all := lw_g (lw_at lw_m2 61 rfl) rfl
theorem q400 : (Jvm.Cond.soleField "java/lang/Throwable" "backtrace") ∈ lw_all := lw_g (lw_at lw_m2 62 rfl) rfl
theorem q401 : (Jvm.Cond.soleField "java/lang/Throwable" "detailMessage") ∈ lw_all := lw_g (lw_at lw_m2 63 rfl) rfl
theorem q402 : (Jvm.Cond.soleField "java/lang/Throwable" "cause") ∈ lw_all := lw_g (lw_at lw_m2 64 rfl) rfl
theorem q403 : (Jvm.Cond.soleField "java/lang/Throwable" "stackTrace") ∈ lw_all := lw_g (lw_at lw_m2 65 rfl) rfl
theorem q405 : (Jvm.Cond.soleField "java/lang/Throwable" "depth") ∈ lw_all := lw_g (lw_at lw_m2 67 rfl) rfl
theorem q406 : (Jvm.Cond.soleField "java/lang/Throwable" "suppressedExceptions") ∈ lw_all := lw_g (lw_at lw_m2 68 rfl) rfl
theorem q1177 : (Jvm.Cond.instanceMethod ({ cls := "java/lang/Throwable", name := "<init>", desc := "(Ljava/lang/String;)V" } : Jvm.MethodName)) ∈ lw_all := lw_g (lw_at lw_m5 119 rfl) rfl
theorem q1178 : (Jvm.Cond.code ({ cls := "java/lang/Throwable", name := "<init>", desc := "(Ljava/lang/String;)V" } : Jvm.MethodName) prog_47_method_2_code (2 : Nat) (Option.none : Option Jvm.ClassFile.FieldType)) ∈ lw_all := lw_g (lw_at lw_m5 120 rfl) rfl
theorem q1464 : (Jvm.Cond.declares ({ cls := "java/lang/Throwable", name := "getCause", desc := "()Ljava/lang/Throwable;" } : Jvm.MethodName)) ∈ lw_tbl := lw_at lw_m6 166 rfl
theorem q1466 : (Jvm.Cond.instanceMethod ({ cls := "java/lang/Throwable", name := "getCause", desc := "()Ljava/lang/Throwable;" } : Jvm.MethodName)) ∈ lw_all := lw_g (lw_at lw_m6 168 rfl) rfl
theorem q1467 : (Jvm.Cond.codeSync ({ cls := "java/lang/Throwable", name := "getCause", desc := "()Ljava/lang/Throwable;" } : Jvm.MethodName) prog_47_method_8_code (1 : Nat) (Option.some (Jvm.ClassFile.FieldType.object "java/lang/Throwable"))) ∈ lw_all := lw_g (lw_at lw_m6 169 rfl) rfl
theorem q3361 : (Jvm.Cond.sameMethod "java/lang/Throwable" "java/lang/Throwable" "fillInStackTrace" "(I)Ljava/lang/Throwable;") ∈ lw_all := lw_g (lw_at lw_m14 143 rfl) rfl
theorem q3421 : (Jvm.Cond.castable "java/lang/Throwable" "java/lang/Object") ∈ lw_tbl := lw_at lw_m14 203 rfl
theorem in_J2 : ∀ w ∈ wsJ20, w ∈ lw_all := lw_in wsJ20 [352, 354, 356, 358, 360] (by decide +kernel) (by decide +kernel)
/-! java/lang/Exception -/
set_option maxRecDepth 100000
def RJ3 : String := "java/lang/Exception"
abbrev cJ3_init : ByteArray := prog_33_method_5_code
def yJ3_init : MethodName := ⟨RJ3, "<init>", "(Ljava/lang/String;Ljava/lang/Throwable;ZZ)V"⟩
def dkwJ3_init_0 : List UInt8 := [42, 43, 44, 29, 21, 4, 183, 0, 16, 177]
abbrev dktJ3_init_0 : List UInt8 := dkwJ3_init_0 ++ []
theorem dksJ3_init_0 : cJ3_init.data.toList.drop 0 = dktJ3_init_0 := by decide +kernel
theorem dJ3_init_0 : decode cJ3_init 0 = .ok (.aload_n 0, 1) := dk_42 (dk_at dksJ3_init_0 0 rfl rfl)
theorem dJ3_init_1 : decode cJ3_init 1 = .ok (.aload_n 1, 1) := dk_43 (dk_at dksJ3_init_0 1 rfl rfl)
theorem dJ3_init_2 : decode cJ3_init 2 = .ok (.aload_n 2, 1) := dk_44 (dk_at dksJ3_init_0 2 rfl rfl)
theorem dJ3_init_3 : decode cJ3_init 3 = .ok (.iload_n 3, 1) := dk_29 (dk_at dksJ3_init_0 3 rfl rfl)
theorem dJ3_init_4 : decode cJ3_init 4 = .ok (.iload 4, 2) := dk_21 4 (dk_at dksJ3_init_0 4 rfl rfl)
theorem dJ3_init_6 : decode cJ3_init 6 = .ok (.invokespecial 16, 3) := dk_183 0 16 (dk_at dksJ3_init_0 6 rfl rfl)
theorem dJ3_init_9 : decode cJ3_init 9 = .ok (.return_, 1) := dk_177 (dk_at dksJ3_init_0 9 rfl rfl)
abbrev cJ3_init_2 : ByteArray := prog_33_method_1_code
def yJ3_init_2 : MethodName := ⟨RJ3, "<init>", "()V"⟩
theorem dJ3_init_2_0 : decode cJ3_init_2 0 = .ok (.aload_n 0, 1) := by decide +kernel
theorem dJ3_init_2_1 : decode cJ3_init_2 1 = .ok (.invokespecial 1, 3) := by decide +kernel
theorem dJ3_init_2_4 : decode cJ3_init_2 4 = .ok (.return_, 1) := by decide +kernel
abbrev cJ3_init_3 : ByteArray := prog_33_method_2_code
def yJ3_init_3 : MethodName := ⟨RJ3, "<init>", "(Ljava/lang/String;)V"⟩
def dkwJ3_init_3_0 : List UInt8 := [42, 43, 183, 0, 7, 177]
abbrev dktJ3_init_3_0 : List UInt8 := dkwJ3_init_3_0 ++ []
theorem dksJ3_init_3_0 : cJ3_init_3.data.toList.drop 0 = dktJ3_init_3_0 := by decide +kernel
theorem dJ3_init_3_0 : decode cJ3_init_3 0 = .ok (.aload_n 0, 1) := dk_42 (dk_at dksJ3_init_3_0 0 rfl rfl)
theorem dJ3_init_3_1 : decode cJ3_init_3 1 = .ok (.aload_n 1, 1) := dk_43 (dk_at dksJ3_init_3_0 1 rfl rfl)
theorem dJ3_init_3_2 : decode cJ3_init_3 2 = .ok (.invokespecial 7, 3) := dk_183 0 7 (dk_at dksJ3_init_3_0 2 rfl rfl)
theorem dJ3_init_3_5 : decode cJ3_init_3 5 = .ok (.return_, 1) := dk_177 (dk_at dksJ3_init_3_0 5 rfl rfl)
theorem q105 : (Jvm.Cond.initialized "java/lang/Exception") ∈ lw_all := lw_g (lw_at lw_m1 7 rfl) rfl
theorem q345 : (Jvm.Cond.declares ({ cls := "java/lang/Exception", name := "<init>", desc := "()V" } : Jvm.MethodName)) ∈ lw_tbl := lw_at lw_m2 7 rfl
theorem q346 : (Jvm.Cond.declares ({ cls := "java/lang/Exception", name := "<init>", desc := "(Ljava/lang/String;)V" } : Jvm.MethodName)) ∈ lw_tbl := lw_at lw_m2 8 rfl
theorem q390 : (Jvm.Cond.instanceMethod ({ cls := "java/lang/Exception", name := "<init>", desc := "(Ljava/lang/String;Ljava/lang/Throwable;ZZ)V" } : Jvm.MethodName)) ∈ lw_all := lw_g (lw_at lw_m2 52 rfl) rfl
theorem q391 : (Jvm.Cond.code ({ cls := "java/lang/Exception", name := "<init>", desc := "(Ljava/lang/String;Ljava/lang/Throwable;ZZ)V" } : Jvm.MethodName) prog_33_method_5_code (5 : Nat) (Option.none : Option Jvm.ClassFile.FieldType)) ∈ lw_all := lw_g (lw_at lw_m2 53 rfl) rfl
theorem q392 : (Jvm.Cond.methodLink "java/lang/Exception" (16 : Nat) ({ cls := "java/lang/Throwable", name := "<init>", desc := "(Ljava/lang/String;Ljava/lang/Throwable;ZZ)V" } : Jvm.MethodName)) ∈ lw_all := lw_g (lw_at lw_m2 54 rfl) rfl
theorem q655 : (Jvm.Cond.instanceMethod ({ cls := "java/lang/Exception", name := "<init>", desc := "()V" } : Jvm.MethodName)) ∈ lw_all := lw_g (lw_at lw_m3 77 rfl) rfl
theorem q656 : (Jvm.Cond.code ({ cls := "java/lang/Exception", name := "<init>", desc := "()V" } : Jvm.MethodName) prog_33_method_1_code (1 : Nat) (Option.none : Option Jvm.ClassFile.FieldType)) ∈ lw_all := lw_g (lw_at lw_m3 78 rfl) rfl
theorem q657 : (Jvm.Cond.methodLink "java/lang/Exception" (1 : Nat) ({ cls := "java/lang/Throwable", name := "<init>", desc := "()V" } : Jvm.MethodName)) ∈ lw_all := lw_g (lw_at lw_m3 79 rfl) rfl
theorem q1174 : (Jvm.Cond.instanceMethod ({ cls := "java/lang/Exception", name := "<init>", desc := "(Ljava/lang/String;)V" } : Jvm.MethodName)) ∈ lw_all := lw_g (lw_at lw_m5 116 rfl) rfl
theorem q1175 : (Jvm.Cond.code ({ cls := "java/lang/Exception", name := "<init>", desc := "(Ljava/lang/String;)V" } : Jvm.MethodName) prog_33_method_2_code (2 : Nat) (Option.none : Option Jvm.ClassFile.FieldType)) ∈ lw_all := lw_g (lw_at lw_m5 117 rfl) rfl
theorem q1176 : (Jvm.Cond.methodLink "java/lang/Exception" (7 : Nat) ({ cls := "java/lang/Throwable", name := "<init>", desc := "(Ljava/lang/String;)V" } : Jvm.MethodName)) ∈ lw_all := lw_g (lw_at lw_m5 118 rfl) rfl
/-! java/lang/Math -/
set_option maxRecDepth 100000
def RJ4 : String := "java/lang/Math"
abbrev cJ4_floorDiv : ByteArray := prog_38_method_49_code
def yJ4_floorDiv : MethodName := ⟨RJ4, "floorDiv", "(JJ)J"⟩
def dkwJ4_floorDiv_1 : List UInt8 := [10, 101, 173, 22, 4, 173]
abbrev dktJ4_floorDiv_1 : List UInt8 := dkwJ4_floorDiv_1 ++ []
def dkwJ4_floorDiv_0 : List UInt8 := [30, 32, 109, 55, 4, 30, 32, 131, 9, 148, 156, 0, 17, 22, 4, 32, 105, 30, 148, 153, 0, 8, 22, 4]
abbrev dktJ4_floorDiv_0 : List UInt8 := dkwJ4_floorDiv_0 ++ dktJ4_floorDiv_1
theorem dksJ4_floorDiv_0 : cJ4_floorDiv.data.toList.drop 0 = dktJ4_floorDiv_0 := by decide +kernel
theorem dksJ4_floorDiv_1 : cJ4_floorDiv.data.toList.drop 24 = dktJ4_floorDiv_1 := dk_seg dksJ4_floorDiv_0 24 rfl rfl
theorem dJ4_floorDiv_0 : decode cJ4_floorDiv 0 = .ok (.lload_n 0, 1) := dk_30 (dk_at dksJ4_floorDiv_0 0 rfl rfl)
theorem dJ4_floorDiv_1 : decode cJ4_floorDiv 1 = .ok (.lload_n 2, 1) := dk_32 (dk_at dksJ4_floorDiv_0 1 rfl rfl)
theorem dJ4_floorDiv_2 : decode cJ4_floorDiv 2 = .ok (.ldiv, 1) := dk_109 (dk_at dksJ4_floorDiv_0 2 rfl rfl)
theorem dJ4_floorDiv_3 : decode cJ4_floorDiv 3 = .ok (.lstore 4, 2) := dk_55 4 (dk_at dksJ4_floorDiv_0 3 rfl rfl)
theorem dJ4_floorDiv_5 : decode cJ4_floorDiv 5 = .ok (.lload_n 0, 1) := dk_30 (dk_at dksJ4_floorDiv_0 5 rfl rfl)
theorem dJ4_floorDiv_6 : decode cJ4_floorDiv 6 = .ok (.lload_n 2, 1) := dk_32 (dk_at dksJ4_floorDiv_0 6 rfl rfl)
theorem dJ4_floorDiv_7 : decode cJ4_floorDiv 7 = .ok (.lxor, 1) := dk_131 (dk_at dksJ4_floorDiv_0 7 rfl rfl)
theorem dJ4_floorDiv_8 : decode cJ4_floorDiv 8 = .ok (.lconst 0, 1) := dk_9 (dk_at dksJ4_floorDiv_0 8 rfl rfl)
theorem dJ4_floorDiv_9 : decode cJ4_floorDiv 9 = .ok (.lcmp, 1) := dk_148 (dk_at dksJ4_floorDiv_0 9 rfl rfl)
theorem dJ4_floorDiv_10 : decode cJ4_floorDiv 10 = .ok (.ifCond .ge 17, 3) := dk_156 0 17 (dk_at dksJ4_floorDiv_0 10 rfl rfl)
theorem dJ4_floorDiv_13 : decode cJ4_floorDiv 13 = .ok (.lload 4, 2) := dk_22 4 (dk_at dksJ4_floorDiv_0 13 rfl rfl)
theorem dJ4_floorDiv_15 : decode cJ4_floorDiv 15 = .ok (.lload_n 2, 1) := dk_32 (dk_at dksJ4_floorDiv_0 15 rfl rfl)
theorem dJ4_floorDiv_16 : decode cJ4_floorDiv 16 = .ok (.lmul, 1) := dk_105 (dk_at dksJ4_floorDiv_0 16 rfl rfl)
theorem dJ4_floorDiv_17 : decode cJ4_floorDiv 17 = .ok (.lload_n 0, 1) := dk_30 (dk_at dksJ4_floorDiv_0 17 rfl rfl)
theorem dJ4_floorDiv_18 : decode cJ4_floorDiv 18 = .ok (.lcmp, 1) := dk_148 (dk_at dksJ4_floorDiv_0 18 rfl rfl)
theorem dJ4_floorDiv_19 : decode cJ4_floorDiv 19 = .ok (.ifCond .eq 8, 3) := dk_153 0 8 (dk_at dksJ4_floorDiv_0 19 rfl rfl)
theorem dJ4_floorDiv_22 : decode cJ4_floorDiv 22 = .ok (.lload 4, 2) := dk_22 4 (dk_at dksJ4_floorDiv_0 22 rfl rfl)
theorem dJ4_floorDiv_24 : decode cJ4_floorDiv 24 = .ok (.lconst 1, 1) := dk_10 (dk_at dksJ4_floorDiv_1 0 rfl rfl)
theorem dJ4_floorDiv_25 : decode cJ4_floorDiv 25 = .ok (.lsub, 1) := dk_101 (dk_at dksJ4_floorDiv_1 1 rfl rfl)
theorem dJ4_floorDiv_26 : decode cJ4_floorDiv 26 = .ok (.lreturn, 1) := dk_173 (dk_at dksJ4_floorDiv_1 2 rfl rfl)
theorem dJ4_floorDiv_27 : decode cJ4_floorDiv 27 = .ok (.lload 4, 2) := dk_22 4 (dk_at dksJ4_floorDiv_1 3 rfl rfl)
theorem dJ4_floorDiv_29 : decode cJ4_floorDiv 29 = .ok (.lreturn, 1) := dk_173 (dk_at dksJ4_floorDiv_1 5 rfl rfl)
abbrev cJ4_abs : ByteArray := prog_38_method_59_code
def yJ4_abs : MethodName := ⟨RJ4, "abs", "(I)I"⟩
def dkwJ4_abs_0 : List UInt8 := [26, 156, 0, 8, 26, 116, 167, 0, 4, 26, 172]
abbrev dktJ4_abs_0 : List UInt8 := dkwJ4_abs_0 ++ []
theorem dksJ4_abs_0 : cJ4_abs.data.toList.drop 0 = dktJ4_abs_0 := by decide +kernel
theorem dJ4_abs_0 : decode cJ4_abs 0 = .ok (.iload_n 0, 1) := dk_26 (dk_at dksJ4_abs_0 0 rfl rfl)
theorem dJ4_abs_1 : decode cJ4_abs 1 = .ok (.ifCond .ge 8, 3) := dk_156 0 8 (dk_at dksJ4_abs_0 1 rfl rfl)
theorem dJ4_abs_4 : decode cJ4_abs 4 = .ok (.iload_n 0, 1) := dk_26 (dk_at dksJ4_abs_0 4 rfl rfl)
theorem dJ4_abs_5 : decode cJ4_abs 5 = .ok (.ineg, 1) := dk_116 (dk_at dksJ4_abs_0 5 rfl rfl)
theorem dJ4_abs_6 : decode cJ4_abs 6 = .ok (.goto 4, 3) := dk_167 0 4 (dk_at dksJ4_abs_0 6 rfl rfl)
theorem dJ4_abs_9 : decode cJ4_abs 9 = .ok (.iload_n 0, 1) := dk_26 (dk_at dksJ4_abs_0 9 rfl rfl)
theorem dJ4_abs_10 : decode cJ4_abs 10 = .ok (.ireturn, 1) := dk_172 (dk_at dksJ4_abs_0 10 rfl rfl)
abbrev cJ4_max : ByteArray := prog_38_method_65_code
def yJ4_max : MethodName := ⟨RJ4, "max", "(II)I"⟩
def dkwJ4_max_0 : List UInt8 := [26, 27, 161, 0, 7, 26, 167, 0, 4, 27, 172]
abbrev dktJ4_max_0 : List UInt8 := dkwJ4_max_0 ++ []
theorem dksJ4_max_0 : cJ4_max.data.toList.drop 0 = dktJ4_max_0 := by decide +kernel
theorem dJ4_max_0 : decode cJ4_max 0 = .ok (.iload_n 0, 1) := dk_26 (dk_at dksJ4_max_0 0 rfl rfl)
theorem dJ4_max_1 : decode cJ4_max 1 = .ok (.iload_n 1, 1) := dk_27 (dk_at dksJ4_max_0 1 rfl rfl)
theorem dJ4_max_2 : decode cJ4_max 2 = .ok (.if_icmp .lt 7, 3) := dk_161 0 7 (dk_at dksJ4_max_0 2 rfl rfl)
theorem dJ4_max_5 : decode cJ4_max 5 = .ok (.iload_n 0, 1) := dk_26 (dk_at dksJ4_max_0 5 rfl rfl)
theorem dJ4_max_6 : decode cJ4_max 6 = .ok (.goto 4, 3) := dk_167 0 4 (dk_at dksJ4_max_0 6 rfl rfl)
theorem dJ4_max_9 : decode cJ4_max 9 = .ok (.iload_n 1, 1) := dk_27 (dk_at dksJ4_max_0 9 rfl rfl)
theorem dJ4_max_10 : decode cJ4_max 10 = .ok (.ireturn, 1) := dk_172 (dk_at dksJ4_max_0 10 rfl rfl)
abbrev cJ4_min : ByteArray := prog_38_method_69_code
def yJ4_min : MethodName := ⟨RJ4, "min", "(II)I"⟩
def dkwJ4_min_0 : List UInt8 := [26, 27, 163, 0, 7, 26, 167, 0, 4, 27, 172]
abbrev dktJ4_min_0 : List UInt8 := dkwJ4_min_0 ++ []
theorem dksJ4_min_0 : cJ4_min.data.toList.drop 0 = dktJ4_min_0 := by decide +kernel
theorem dJ4_min_0 : decode cJ4_min 0 = .ok (.iload_n 0, 1) := dk_26 (dk_at dksJ4_min_0 0 rfl rfl)
theorem dJ4_min_1 : decode cJ4_min 1 = .ok (.iload_n 1, 1) := dk_27 (dk_at dksJ4_min_0 1 rfl rfl)
theorem dJ4_min_2 : decode cJ4_min 2 = .ok (.if_icmp .gt 7, 3) := dk_163 0 7 (dk_at dksJ4_min_0 2 rfl rfl)
theorem dJ4_min_5 : decode cJ4_min 5 = .ok (.iload_n 0, 1) := dk_26 (dk_at dksJ4_min_0 5 rfl rfl)
theorem dJ4_min_6 : decode cJ4_min 6 = .ok (.goto 4, 3) := dk_167 0 4 (dk_at dksJ4_min_0 6 rfl rfl)
theorem dJ4_min_9 : decode cJ4_min 9 = .ok (.iload_n 1, 1) := dk_27 (dk_at dksJ4_min_0 9 rfl rfl)
theorem dJ4_min_10 : decode cJ4_min 10 = .ok (.ireturn, 1) := dk_172 (dk_at dksJ4_min_0 10 rfl rfl)
abbrev cJ4_min_2 : ByteArray := prog_38_method_70_code
def yJ4_min_2 : MethodName := ⟨RJ4, "min", "(JJ)J"⟩
def dkwJ4_min_2_0 : List UInt8 := [30, 32, 148, 157, 0, 7, 30, 167, 0, 4, 32, 173]
abbrev dktJ4_min_2_0 : List UInt8 := dkwJ4_min_2_0 ++ []
theorem dksJ4_min_2_0 : cJ4_min_2.data.toList.drop 0 = dktJ4_min_2_0 := by decide +kernel
theorem dJ4_min_2_0 : decode cJ4_min_2 0 = .ok (.lload_n 0, 1) := dk_30 (dk_at dksJ4_min_2_0 0 rfl rfl)
theorem dJ4_min_2_1 : decode cJ4_min_2 1 = .ok (.lload_n 2, 1) := dk_32 (dk_at dksJ4_min_2_0 1 rfl rfl)
theorem dJ4_min_2_2 : decode cJ4_min_2 2 = .ok (.lcmp, 1) := dk_148 (dk_at dksJ4_min_2_0 2 rfl rfl)
theorem dJ4_min_2_3 : decode cJ4_min_2 3 = .ok (.ifCond .gt 7, 3) := dk_157 0 7 (dk_at dksJ4_min_2_0 3 rfl rfl)
theorem dJ4_min_2_6 : decode cJ4_min_2 6 = .ok (.lload_n 0, 1) := dk_30 (dk_at dksJ4_min_2_0 6 rfl rfl)
theorem dJ4_min_2_7 : decode cJ4_min_2 7 = .ok (.goto 4, 3) := dk_167 0 4 (dk_at dksJ4_min_2_0 7 rfl rfl)
theorem dJ4_min_2_10 : decode cJ4_min_2 10 = .ok (.lload_n 2, 1) := dk_32 (dk_at dksJ4_min_2_0 10 rfl rfl)
theorem dJ4_min_2_11 : decode cJ4_min_2 11 = .ok (.lreturn, 1) := dk_173 (dk_at dksJ4_min_2_0 11 rfl rfl)
abbrev cJ4_max_2 : ByteArray := prog_38_method_66_code
def yJ4_max_2 : MethodName := ⟨RJ4, "max", "(JJ)J"⟩
def dkwJ4_max_2_0 : List UInt8 := [30, 32, 148, 155, 0, 7, 30, 167, 0, 4, 32, 173]
abbrev dktJ4_max_2_0 : List UInt8 := dkwJ4_max_2_0 ++ []
theorem dksJ4_max_2_0 : cJ4_max_2.data.toList.drop 0 = dktJ4_max_2_0 := by decide +kernel
theorem dJ4_max_2_0 : decode cJ4_max_2 0 = .ok (.lload_n 0, 1) := dk_30 (dk_at dksJ4_max_2_0 0 rfl rfl)
theorem dJ4_max_2_1 : decode cJ4_max_2 1 = .ok (.lload_n 2, 1) := dk_32 (dk_at dksJ4_max_2_0 1 rfl rfl)
theorem dJ4_max_2_2 : decode cJ4_max_2 2 = .ok (.lcmp, 1) := dk_148 (dk_at dksJ4_max_2_0 2 rfl rfl)
theorem dJ4_max_2_3 : decode cJ4_max_2 3 = .ok (.ifCond .lt 7, 3) := dk_155 0 7 (dk_at dksJ4_max_2_0 3 rfl rfl)
theorem dJ4_max_2_6 : decode cJ4_max_2 6 = .ok (.lload_n 0, 1) := dk_30 (dk_at dksJ4_max_2_0 6 rfl rfl)
theorem dJ4_max_2_7 : decode cJ4_max_2 7 = .ok (.goto 4, 3) := dk_167 0 4 (dk_at dksJ4_max_2_0 7 rfl rfl)
theorem dJ4_max_2_10 : decode cJ4_max_2 10 = .ok (.lload_n 2, 1) := dk_32 (dk_at dksJ4_max_2_0 10 rfl rfl)
theorem dJ4_max_2_11 : decode cJ4_max_2 11 = .ok (.lreturn, 1) := dk_173 (dk_at dksJ4_max_2_0 11 rfl rfl)
abbrev cJ4_floorDiv_2 : ByteArray := prog_38_method_47_code
def yJ4_floorDiv_2 : MethodName := ⟨RJ4, "floorDiv", "(II)I"⟩
def dkwJ4_floorDiv_2_0 : List UInt8 := [26, 27, 108, 61, 26, 27, 130, 156, 0, 14, 28, 27, 104, 26, 159, 0, 7, 28, 4, 100, 172, 28, 172]
abbrev dktJ4_floorDiv_2_0 : List UInt8 := dkwJ4_floorDiv_2_0 ++ []
theorem dksJ4_floorDiv_2_0 : cJ4_floorDiv_2.data.toList.drop 0 = dktJ4_floorDiv_2_0 := by decide +kernel
theorem dJ4_floorDiv_2_0 : decode cJ4_floorDiv_2 0 = .ok (.iload_n 0, 1) := dk_26 (dk_at dksJ4_floorDiv_2_0 0 rfl rfl)
theorem dJ4_floorDiv_2_1 : decode cJ4_floorDiv_2 1 = .ok (.iload_n 1, 1) := dk_27 (dk_at dksJ4_floorDiv_2_0 1 rfl rfl)
theorem dJ4_floorDiv_2_2 : decode cJ4_floorDiv_2 2 = .ok (.idiv, 1) := dk_108 (dk_at dksJ4_floorDiv_2_0 2 rfl rfl)
theorem dJ4_floorDiv_2_3 : decode cJ4_floorDiv_2 3 = .ok (.istore_n 2, 1) := dk_61 (dk_at dksJ4_floorDiv_2_0 3 rfl rfl)
theorem dJ4_floorDiv_2_4 : decode cJ4_floorDiv_2 4 = .ok (.iload_n 0, 1) := dk_26 (dk_at dksJ4_floorDiv_2_0 4 rfl rfl)
theorem dJ4_floorDiv_2_5 : decode cJ4_floorDiv_2 5 = .ok (.iload_n 1, 1) := dk_27 (dk_at dksJ4_floorDiv_2_0 5 rfl rfl)
theorem dJ4_floorDiv_2_6 : decode cJ4_floorDiv_2 6 = .ok (.ixor, 1) := dk_130 (dk_at dksJ4_floorDiv_2_0 6 rfl rfl)
theorem dJ4_floorDiv_2_7 : decode cJ4_floorDiv_2 7 = .ok (.ifCond .ge 14, 3) := dk_156 0 14 (dk_at dksJ4_floorDiv_2_0 7 rfl rfl)
theorem dJ4_floorDiv_2_10 : decode cJ4_floorDiv_2 10 = .ok (.iload_n 2, 1) := dk_28 (dk_at dksJ4_floorDiv_2_0 10 rfl rfl)
theorem dJ4_floorDiv_2_11 : decode cJ4_floorDiv_2 11 = .ok (.iload_n 1, 1) := dk_27 (dk_at dksJ4_floorDiv_2_0 11 rfl rfl)
theorem dJ4_floorDiv_2_12 : decode cJ4_floorDiv_2 12 = .ok (.imul, 1) := dk_104 (dk_at dksJ4_floorDiv_2_0 12 rfl rfl)
theorem dJ4_floorDiv_2_13 : decode cJ4_floorDiv_2 13 = .ok (.iload_n 0, 1) := dk_26 (dk_at dksJ4_floorDiv_2_0 13 rfl rfl)
theorem dJ4_floorDiv_2_14 : decode cJ4_floorDiv_2 14 = .ok (.if_icmp .eq 7, 3) := dk_159 0 7 (dk_at dksJ4_floorDiv_2_0 14 rfl rfl)
theorem dJ4_floorDiv_2_17 : decode cJ4_floorDiv_2 17 = .ok (.iload_n 2, 1) := dk_28 (dk_at dksJ4_floorDiv_2_0 17 rfl rfl)
theorem dJ4_floorDiv_2_18 : decode cJ4_floorDiv_2 18 = .ok (.iconst 1, 1) := dk_4 (dk_at dksJ4_floorDiv_2_0 18 rfl rfl)
theorem dJ4_floorDiv_2_19 : decode cJ4_floorDiv_2 19 = .ok (.isub, 1) := dk_100 (dk_at dksJ4_floorDiv_2_0 19 rfl rfl)
theorem dJ4_floorDiv_2_20 : decode cJ4_floorDiv_2 20 = .ok (.ireturn, 1) := dk_172 (dk_at dksJ4_floorDiv_2_0 20 rfl rfl)
theorem dJ4_floorDiv_2_21 : decode cJ4_floorDiv_2 21 = .ok (.iload_n 2, 1) := dk_28 (dk_at dksJ4_floorDiv_2_0 21 rfl rfl)
theorem dJ4_floorDiv_2_22 : decode cJ4_floorDiv_2 22 = .ok (.ireturn, 1) := dk_172 (dk_at dksJ4_floorDiv_2_0 22 rfl rfl)
theorem q107 : (Jvm.Cond.initialized "java/lang/Math") ∈ lw_all := lw_g (lw_at lw_m1 9 rfl) rfl
theorem q421 : (Jvm.Cond.static ({ cls := "java/lang/Math", name := "floorDiv", desc := "(JJ)J" } : Jvm.MethodName)) ∈ lw_all := lw_g (lw_at lw_m2 83 rfl) rfl
theorem q422 : (Jvm.Cond.code ({ cls := "java/lang/Math", name := "floorDiv", desc := "(JJ)J" } : Jvm.MethodName) prog_38_method_49_code (6 : Nat) (Option.some Jvm.ClassFile.FieldType.long)) ∈ lw_all := lw_g (lw_at lw_m2 84 rfl) rfl
theorem q447 : (Jvm.Cond.static ({ cls := "java/lang/Math", name := "abs", desc := "(I)I" } : Jvm.MethodName)) ∈ lw_all := lw_g (lw_at lw_m2 109 rfl) rfl
theorem q448 : (Jvm.Cond.code ({ cls := "java/lang/Math", name := "abs", desc := "(I)I" } : Jvm.MethodName) prog_38_method_59_code (1 : Nat) (Option.some Jvm.ClassFile.FieldType.int)) ∈ lw_all := lw_g (lw_at lw_m2 110 rfl) rfl
theorem q450 : (Jvm.Cond.static ({ cls := "java/lang/Math", name := "max", desc := "(II)I" } : Jvm.MethodName)) ∈ lw_all := lw_g (lw_at lw_m2 112 rfl) rfl
theorem q451 : (Jvm.Cond.code ({ cls := "java/lang/Math", name := "max", desc := "(II)I" } : Jvm.MethodName) prog_38_method_65_code (2 : Nat) (Option.some Jvm.ClassFile.FieldType.int)) ∈ lw_all := lw_g (lw_at lw_m2 113 rfl) rfl
theorem q842 : (Jvm.Cond.static ({ cls := "java/lang/Math", name := "min", desc := "(II)I" } : Jvm.MethodName)) ∈ lw_all := lw_g (lw_at lw_m4 24 rfl) rfl
theorem q843 : (Jvm.Cond.code ({ cls := "java/lang/Math", name := "min", desc := "(II)I" } : Jvm.MethodName) prog_38_method_69_code (2 : Nat) (Option.some Jvm.ClassFile.FieldType.int)) ∈ lw_all := lw_g (lw_at lw_m4 25 rfl) rfl
theorem q1211 : (Jvm.Cond.static ({ cls := "java/lang/Math", name := "min", desc := "(JJ)J" } : Jvm.MethodName)) ∈ lw_all := lw_g (lw_at lw_m5 153 rfl) rfl
theorem q1212 : (Jvm.Cond.code ({ cls := "java/lang/Math", name := "min", desc := "(JJ)J" } : Jvm.MethodName) prog_38_method_70_code (4 : Nat) (Option.some Jvm.ClassFile.FieldType.long)) ∈ lw_all := lw_g (lw_at lw_m5 154 rfl) rfl
theorem q1596 : (Jvm.Cond.static ({ cls := "java/lang/Math", name := "max", desc := "(JJ)J" } : Jvm.MethodName)) ∈ lw_all := lw_g (lw_at lw_m7 58 rfl) rfl
theorem q1597 : (Jvm.Cond.code ({ cls := "java/lang/Math", name := "max", desc := "(JJ)J" } : Jvm.MethodName) prog_38_method_66_code (4 : Nat) (Option.some Jvm.ClassFile.FieldType.long)) ∈ lw_all := lw_g (lw_at lw_m7 59 rfl) rfl
theorem q1808 : (Jvm.Cond.static ({ cls := "java/lang/Math", name := "floorDiv", desc := "(II)I" } : Jvm.MethodName)) ∈ lw_all := lw_g (lw_at lw_m8 30 rfl) rfl
theorem q1809 : (Jvm.Cond.code ({ cls := "java/lang/Math", name := "floorDiv", desc := "(II)I" } : Jvm.MethodName) prog_38_method_47_code (3 : Nat) (Option.some Jvm.ClassFile.FieldType.int)) ∈ lw_all := lw_g (lw_at lw_m8 31 rfl) rfl
/-! java/lang/AbstractStringBuilder -/
set_option maxRecDepth 100000
def RJ5 : String := "java/lang/AbstractStringBuilder"
abbrev cJ5_init : ByteArray := prog_27_method_2_code
def yJ5_init : MethodName := ⟨RJ5, "<init>", "(I)V"⟩
def dkwJ5_init_1 : List UInt8 := [167, 0, 16, 42, 27, 184, 0, 26, 181, 0, 15, 42, 4, 181, 0, 22, 177]
abbrev dktJ5_init_1 : List UInt8 := dkwJ5_init_1 ++ []
def dkwJ5_init_0 : List UInt8 := [42, 183, 0, 3, 178, 0, 18, 153, 0, 18, 42, 27, 188, 8, 181, 0, 15, 42, 3, 181, 0, 22]
abbrev dktJ5_init_0 : List UInt8 := dkwJ5_init_0 ++ dktJ5_init_1
theorem dksJ5_init_0 : cJ5_init.data.toList.drop 0 = dktJ5_init_0 := by decide +kernel
theorem dksJ5_init_1 : cJ5_init.data.toList.drop 22 = dktJ5_init_1 := dk_seg dksJ5_init_0 22 rfl rfl
theorem dJ5_init_0 : decode cJ5_init 0 = .ok (.aload_n 0, 1) := dk_42 (dk_at dksJ5_init_0 0 rfl rfl)
theorem dJ5_init_1 : decode cJ5_init 1 = .ok (.invokespecial 3, 3) := dk_183 0 3 (dk_at dksJ5_init_0 1 rfl rfl)
theorem dJ5_init_4 : decode cJ5_init 4 = .ok (.getstatic 18, 3) := dk_178 0 18 (dk_at dksJ5_init_0 4 rfl rfl)
theorem dJ5_init_7 : decode cJ5_init 7 = .ok (.ifCond .eq 18, 3) := dk_153 0 18 (dk_at dksJ5_init_0 7 rfl rfl)
theorem dJ5_init_10 : decode cJ5_init 10 = .ok (.aload_n 0, 1) := dk_42 (dk_at dksJ5_init_0 10 rfl rfl)
theorem dJ5_init_11 : decode cJ5_init 11 = .ok (.iload_n 1, 1) := dk_27 (dk_at dksJ5_init_0 11 rfl rfl)
theorem dJ5_init_12 : decode cJ5_init 12 = .ok (.newarray .byte, 2) := dk_188_8 (dk_at dksJ5_init_0 12 rfl rfl)
theorem dJ5_init_14 : decode cJ5_init 14 = .ok (.putfield 15, 3) := dk_181 0 15 (dk_at dksJ5_init_0 14 rfl rfl)
theorem dJ5_init_17 : decode cJ5_init 17 = .ok (.aload_n 0, 1) := dk_42 (dk_at dksJ5_init_0 17 rfl rfl)
theorem dJ5_init_18 : decode cJ5_init 18 = .ok (.iconst 0, 1) := dk_3 (dk_at dksJ5_init_0 18 rfl rfl)
theorem dJ5_init_19 : decode cJ5_init 19 = .ok (.putfield 22, 3) := dk_181 0 22 (dk_at dksJ5_init_0 19 rfl rfl)
theorem dJ5_init_22 : decode cJ5_init 22 = .ok (.goto 16, 3) := dk_167 0 16 (dk_at dksJ5_init_1 0 rfl rfl)
theorem dJ5_init_25 : decode cJ5_init 25 = .ok (.aload_n 0, 1) := dk_42 (dk_at dksJ5_init_1 3 rfl rfl)
theorem dJ5_init_26 : decode cJ5_init 26 = .ok (.iload_n 1, 1) := dk_27 (dk_at dksJ5_init_1 4 rfl rfl)
theorem dJ5_init_27 : decode cJ5_init 27 = .ok (.invokestatic 26, 3) := dk_184 0 26 (dk_at dksJ5_init_1 5 rfl rfl)
theorem dJ5_init_30 : decode cJ5_init 30 = .ok (.putfield 15, 3) := dk_181 0 15 (dk_at dksJ5_init_1 8 rfl rfl)
theorem dJ5_init_33 : decode cJ5_init 33 = .ok (.aload_n 0, 1) := dk_42 (dk_at dksJ5_init_1 11 rfl rfl)
theorem dJ5_init_34 : decode cJ5_init 34 = .ok (.iconst 1, 1) := dk_4 (dk_at dksJ5_init_1 12 rfl rfl)
theorem dJ5_init_35 : decode cJ5_init 35 = .ok (.putfield 22, 3) := dk_181 0 22 (dk_at dksJ5_init_1 13 rfl rfl)
theorem dJ5_init_38 : decode cJ5_init 38 = .ok (.return_, 1) := dk_177 (dk_at dksJ5_init_1 16 rfl rfl)
abbrev cJ5_length : ByteArray := prog_27_method_6_code
def yJ5_length : MethodName := ⟨RJ5, "length", "()I"⟩
theorem dJ5_length_0 : decode cJ5_length 0 = .ok (.aload_n 0, 1) := by decide +kernel
theorem dJ5_length_1 : decode cJ5_length 1 = .ok (.getfield 79, 3) := by decide +kernel
theorem dJ5_length_4 : decode cJ5_length 4 = .ok (.ireturn, 1) := by decide +kernel
abbrev cJ5_charAt : ByteArray := prog_27_method_14_code
def yJ5_charAt : MethodName := ⟨RJ5, "charAt", "(I)C"⟩
def dkwJ5_charAt_1 : List UInt8 := [21, 4, 184, 0, 144, 28, 154, 0, 12, 45, 27, 51, 17, 0, 255, 126, 146, 172, 45, 27, 184, 0, 148, 172]
abbrev dktJ5_charAt_1 : List UInt8 := dkwJ5_charAt_1 ++ []
def dkwJ5_charAt_0 : List UInt8 := [42, 180, 0, 22, 61, 42, 180, 0, 15, 78, 42, 180, 0, 79, 45, 190, 28, 122, 184, 0, 138, 54, 4, 27]
abbrev dktJ5_charAt_0 : List UInt8 := dkwJ5_charAt_0 ++ dktJ5_charAt_1
theorem dksJ5_charAt_0 : cJ5_charAt.data.toList.drop 0 = dktJ5_charAt_0 := by decide +kernel
theorem dksJ5_charAt_1 : cJ5_charAt.data.toList.drop 24 = dktJ5_charAt_1 := dk_seg dksJ5_charAt_0 24 rfl rfl
theorem dJ5_charAt_0 : decode cJ5_charAt 0 = .ok (.aload_n 0, 1) := dk_42 (dk_at dksJ5_charAt_0 0 rfl rfl)
theorem dJ5_charAt_1 : decode cJ5_charAt 1 = .ok (.getfield 22, 3) := dk_180 0 22 (dk_at dksJ5_charAt_0 1 rfl rfl)
theorem dJ5_charAt_4 : decode cJ5_charAt 4 = .ok (.istore_n 2, 1) := dk_61 (dk_at dksJ5_charAt_0 4 rfl rfl)
theorem dJ5_charAt_5 : decode cJ5_charAt 5 = .ok (.aload_n 0, 1) := dk_42 (dk_at dksJ5_charAt_0 5 rfl rfl)
theorem dJ5_charAt_6 : decode cJ5_charAt 6 = .ok (.getfield 15, 3) := dk_180 0 15 (dk_at dksJ5_charAt_0 6 rfl rfl)
theorem dJ5_charAt_9 : decode cJ5_charAt 9 = .ok (.astore_n 3, 1) := dk_78 (dk_at dksJ5_charAt_0 9 rfl rfl)
theorem dJ5_charAt_10 : decode cJ5_charAt 10 = .ok (.aload_n 0, 1) := dk_42 (dk_at dksJ5_charAt_0 10 rfl rfl)
theorem dJ5_charAt_11 : decode cJ5_charAt 11 = .ok (.getfield 79, 3) := dk_180 0 79 (dk_at dksJ5_charAt_0 11 rfl rfl)
theorem dJ5_charAt_14 : decode cJ5_charAt 14 = .ok (.aload_n 3, 1) := dk_45 (dk_at dksJ5_charAt_0 14 rfl rfl)
theorem dJ5_charAt_15 : decode cJ5_charAt 15 = .ok (.arraylength, 1) := dk_190 (dk_at dksJ5_charAt_0 15 rfl rfl)
theorem dJ5_charAt_16 : decode cJ5_charAt 16 = .ok (.iload_n 2, 1) := dk_28 (dk_at dksJ5_charAt_0 16 rfl rfl)
theorem dJ5_charAt_17 : decode cJ5_charAt 17 = .ok (.ishr, 1) := dk_122 (dk_at dksJ5_charAt_0 17 rfl rfl)
theorem dJ5_charAt_18 : decode cJ5_charAt 18 = .ok (.invokestatic 138, 3) := dk_184 0 138 (dk_at dksJ5_charAt_0 18 rfl rfl)
theorem dJ5_charAt_21 : decode cJ5_charAt 21 = .ok (.istore 4, 2) := dk_54 4 (dk_at dksJ5_charAt_0 21 rfl rfl)
theorem dJ5_charAt_23 : decode cJ5_charAt 23 = .ok (.iload_n 1, 1) := dk_27 (dk_at dksJ5_charAt_0 23 rfl rfl)
theorem dJ5_charAt_24 : decode cJ5_charAt 24 = .ok (.iload 4, 2) := dk_21 4 (dk_at dksJ5_charAt_1 0 rfl rfl)
theorem dJ5_charAt_26 : decode cJ5_charAt 26 = .ok (.invokestatic 144, 3) := dk_184 0 144 (dk_at dksJ5_charAt_1 2 rfl rfl)
theorem dJ5_charAt_29 : decode cJ5_charAt 29 = .ok (.iload_n 2, 1) := dk_28 (dk_at dksJ5_charAt_1 5 rfl rfl)
theorem dJ5_charAt_30 : decode cJ5_charAt 30 = .ok (.ifCond .ne 12, 3) := dk_154 0 12 (dk_at dksJ5_charAt_1 6 rfl rfl)
theorem dJ5_charAt_33 : decode cJ5_charAt 33 = .ok (.aload_n 3, 1) := dk_45 (dk_at dksJ5_charAt_1 9 rfl rfl)
theorem dJ5_charAt_34 : decode cJ5_charAt 34 = .ok (.iload_n 1, 1) := dk_27 (dk_at dksJ5_charAt_1 10 rfl rfl)
theorem dJ5_charAt_35 : decode cJ5_charAt 35 = .ok (.baload, 1) := dk_51 (dk_at dksJ5_charAt_1 11 rfl rfl)
theorem dJ5_charAt_36 : decode cJ5_charAt 36 = .ok (.sipush 255, 3) := dk_17 0 255 (dk_at dksJ5_charAt_1 12 rfl rfl)
theorem dJ5_charAt_39 : decode cJ5_charAt 39 = .ok (.iand, 1) := dk_126 (dk_at dksJ5_charAt_1 15 rfl rfl)
theorem dJ5_charAt_40 : decode cJ5_charAt 40 = .ok (.i2c, 1) := dk_146 (dk_at dksJ5_charAt_1 16 rfl rfl)
theorem dJ5_charAt_41 : decode cJ5_charAt 41 = .ok (.ireturn, 1) := dk_172 (dk_at dksJ5_charAt_1 17 rfl rfl)
theorem dJ5_charAt_42 : decode cJ5_charAt 42 = .ok (.aload_n 3, 1) := dk_45 (dk_at dksJ5_charAt_1 18 rfl rfl)
theorem dJ5_charAt_43 : decode cJ5_charAt 43 = .ok (.iload_n 1, 1) := dk_27 (dk_at dksJ5_charAt_1 19 rfl rfl)
theorem dJ5_charAt_44 : decode cJ5_charAt 44 = .ok (.invokestatic 148, 3) := dk_184 0 148 (dk_at dksJ5_charAt_1 20 rfl rfl)
theorem dJ5_charAt_47 : decode cJ5_charAt 47 = .ok (.ireturn, 1) := dk_172 (dk_at dksJ5_charAt_1 23 rfl rfl)
abbrev cJ5_append : ByteArray := prog_27_method_31_code
def yJ5_append : MethodName := ⟨RJ5, "append", "(C)Ljava/lang/AbstractStringBuilder;"⟩
def dkwJ5_append_3 : List UInt8 := [181, 0, 79, 27, 184, 0, 197, 42, 176]
abbrev dktJ5_append_3 : List UInt8 := dkwJ5_append_3 ++ []
def dkwJ5_append_2 : List UInt8 := [182, 0, 83, 153, 0, 7, 42, 182, 0, 195, 42, 180, 0, 15, 42, 89, 180, 0, 79, 90, 4, 96]
abbrev dktJ5_append_2 : List UInt8 := dkwJ5_append_2 ++ dktJ5_append_3
def dkwJ5_append_1 : List UInt8 := [42, 180, 0, 15, 42, 89, 180, 0, 79, 90, 4, 96, 181, 0, 79, 27, 145, 84, 167, 0, 33, 42]
abbrev dktJ5_append_1 : List UInt8 := dkwJ5_append_1 ++ dktJ5_append_2
def dkwJ5_append_0 : List UInt8 := [42, 42, 180, 0, 79, 4, 96, 182, 0, 100, 42, 182, 0, 83, 153, 0, 31, 27, 184, 0, 191, 153, 0, 24]
abbrev dktJ5_append_0 : List UInt8 := dkwJ5_append_0 ++ dktJ5_append_1
theorem dksJ5_append_0 : cJ5_append.data.toList.drop 0 = dktJ5_append_0 := by decide +kernel
theorem dksJ5_append_1 : cJ5_append.data.toList.drop 24 = dktJ5_append_1 := dk_seg dksJ5_append_0 24 rfl rfl
theorem dksJ5_append_2 : cJ5_append.data.toList.drop 46 = dktJ5_append_2 := dk_seg dksJ5_append_1 22 rfl rfl
theorem dksJ5_append_3 : cJ5_append.data.toList.drop 68 = dktJ5_append_3 := dk_seg dksJ5_append_2 22 rfl rfl
theorem dJ5_append_0 : decode cJ5_append 0 = .ok (.aload_n 0, 1) := dk_42 (dk_at dksJ5_append_0 0 rfl rfl)
theorem dJ5_append_1 : decode cJ5_append 1 = .ok (.aload_n 0, 1) := dk_42 (dk_at dksJ5_append_0 1 rfl rfl)
theorem dJ5_append_2 : decode cJ5_append 2 = .ok (.getfield 79, 3) := dk_180 0 79 (dk_at dksJ5_append_0 2 rfl rfl)
theorem dJ5_append_5 : decode cJ5_append 5 = .ok (.iconst 1, 1) := dk_4 (dk_at dksJ5_append_0 5 rfl rfl)
theorem dJ5_append_6 : decode cJ5_append 6 = .ok (.iadd, 1) := dk_96 (dk_at dksJ5_append_0 6 rfl rfl)
theorem dJ5_append_7 : decode cJ5_append 7 = .ok (.invokevirtual 100, 3) := dk_182 0 100 (dk_at dksJ5_append_0 7 rfl rfl)
theorem dJ5_append_10 : decode cJ5_append 10 = .ok (.aload_n 0, 1) := dk_42 (dk_at dksJ5_append_0 10 rfl rfl)
theorem dJ5_append_11 : decode cJ5_append 11 = .ok (.invokevirtual 83, 3) := dk_182 0 83 (dk_at dksJ5_append_0 11 rfl rfl)
theorem dJ5_append_14 : decode cJ5_append 14 = .ok (.ifCond .eq 31, 3) := dk_153 0 31 (dk_at dksJ5_append_0 14 rfl rfl)
theorem dJ5_append_17 : decode cJ5_append 17 = .ok (.iload_n 1, 1) := dk_27 (dk_at dksJ5_append_0 17 rfl rfl)
theorem dJ5_append_18 : decode cJ5_append 18 = .ok (.invokestatic 191, 3) := dk_184 0 191 (dk_at dksJ5_append_0 18 rfl rfl)
theorem dJ5_append_21 : decode cJ5_append 21 = .ok (.ifCond .eq 24, 3) := dk_153 0 24 (dk_at dksJ5_append_0 21 rfl rfl)
theorem dJ5_append_24 : decode cJ5_append 24 = .ok (.aload_n 0, 1) := dk_42 (dk_at dksJ5_append_1 0 rfl rfl)
theorem dJ5_append_25 : decode cJ5_append 25 = .ok (.getfield 15, 3) := dk_180 0 15 (dk_at dksJ5_append_1 1 rfl rfl)
theorem dJ5_append_28 : decode cJ5_append 28 = .ok (.aload_n 0, 1) := dk_42 (dk_at dksJ5_append_1 4 rfl rfl)
theorem dJ5_append_29 : decode cJ5_append 29 = .ok (.dup, 1) := dk_89 (dk_at dksJ5_append_1 5 rfl rfl)
theorem dJ5_append_30 : decode cJ5_append 30 = .ok (.getfield 79, 3) := dk_180 0 79 (dk_at dksJ5_append_1 6 rfl rfl)
theorem dJ5_append_33 : decode cJ5_append 33 = .ok (.dup_x1, 1) := dk_90 (dk_at dksJ5_append_1 9 rfl rfl)
theorem dJ5_append_34 : decode cJ5_append 34 = .ok (.iconst 1, 1) := dk_4 (dk_at dksJ5_append_1 10 rfl rfl)
theorem dJ5_append_35 : decode cJ5_append 35 = .ok (.iadd, 1) := dk_96 (dk_at dksJ5_append_1 11 rfl rfl)
theorem dJ5_append_36 : decode cJ5_append 36 = .ok (.putfield 79, 3) := dk_181 0 79 (dk_at dksJ5_append_1 12 rfl rfl)
theorem dJ5_append_39 : decode cJ5_append 39 = .ok (.iload_n 1, 1) := dk_27 (dk_at dksJ5_append_1 15 rfl rfl)
theorem dJ5_append_40 : decode cJ5_append 40 = .ok (.i2b, 1) := dk_145 (dk_at dksJ5_append_1 16 rfl rfl)
theorem dJ5_append_41 : decode cJ5_append 41 = .ok (.bastore, 1) := dk_84 (dk_at dksJ5_append_1 17 rfl rfl)
theorem dJ5_append_42 : decode cJ5_append 42 = .ok (.goto 33, 3) := dk_167 0 33 (dk_at dksJ5_append_1 18 rfl rfl)
theorem dJ5_append_45 : decode cJ5_append 45 = .ok (.aload_n 0, 1) := dk_42 (dk_at dksJ5_append_1 21 rfl rfl)
theorem dJ5_append_46 : decode cJ5_append 46 = .ok (.invokevirtual 83, 3) := dk_182 0 83 (dk_at dksJ5_append_2 0 rfl rfl)
theorem dJ5_append_49 : decode cJ5_append 49 = .ok (.ifCond .eq 7, 3) := dk_153 0 7 (dk_at dksJ5_append_2 3 rfl rfl)
theorem dJ5_append_52 : decode cJ5_append 52 = .ok (.aload_n 0, 1) := dk_42 (dk_at dksJ5_append_2 6 rfl rfl)
theorem dJ5_append_53 : decode cJ5_append 53 = .ok (.invokevirtual 195, 3) := dk_182 0 195 (dk_at dksJ5_append_2 7 rfl rfl)
theorem dJ5_append_56 : decode cJ5_append 56 = .ok (.aload_n 0, 1) := dk_42 (dk_at dksJ5_append_2 10 rfl rfl)
theorem dJ5_append_57 : decode cJ5_append 57 = .ok (.getfield 15, 3) := dk_180 0 15 (dk_at dksJ5_append_2 11 rfl rfl)
theorem dJ5_append_60 : decode cJ5_append 60 = .ok (.aload_n 0, 1) := dk_42 (dk_at dksJ5_append_2 14 rfl rfl)
theorem dJ5_append_61 : decode cJ5_append 61 = .ok (.dup, 1) := dk_89 (dk_at dksJ5_append_2 15 rfl rfl)
theorem dJ5_append_62 : decode cJ5_append 62 = .ok (.getfield 79, 3) := dk_180 0 79 (dk_at dksJ5_append_2 16 rfl rfl)
theorem dJ5_append_65 : decode cJ5_append 65 = .ok (.dup_x1, 1) := dk_90 (dk_at dksJ5_append_2 19 rfl rfl)
theorem dJ5_append_66 : decode cJ5_append 66 = .ok (.iconst 1, 1) := dk_4 (dk_at dksJ5_append_2 20 rfl rfl)
theorem dJ5_append_67 : decode cJ5_append 67 = .ok (.iadd, 1) := dk_96 (dk_at dksJ5_append_2 21 rfl rfl)
theorem dJ5_append_68 : decode cJ5_append 68 = .ok (.putfield 79, 3) := dk_181 0 79 (dk_at dksJ5_append_3 0 rfl rfl)
theorem dJ5_append_71 : decode cJ5_append 71 = .ok (.iload_n 1, 1) := dk_27 (dk_at dksJ5_append_3 3 rfl rfl)
theorem dJ5_append_72 : decode cJ5_append 72 = .ok (.invokestatic 197, 3) := dk_184 0 197 (dk_at dksJ5_append_3 4 rfl rfl)
theorem dJ5_append_75 : decode cJ5_append 75 = .ok (.aload_n 0, 1) := dk_42 (dk_at dksJ5_append_3 7 rfl rfl)
theorem dJ5_append_76 : decode cJ5_append 76 = .ok (.areturn, 1) := dk_176 (dk_at dksJ5_append_3 8 rfl rfl)
abbrev cJ5_ensureCapacityInternal : ByteArray := prog_27_method_9_code
def yJ5_ensureCapacityInternal : MethodName := ⟨RJ5, "ensureCapacityInternal", "(I)V"⟩
def dkwJ5_ensureCapacityInternal_1 : List UInt8 := [182, 0, 104, 42, 180, 0, 22, 120, 184, 0, 108, 181, 0, 15, 177]
abbrev dktJ5_ensureCapacityInternal_1 : List UInt8 := dkwJ5_ensureCapacityInternal_1 ++ []
def dkwJ5_ensureCapacityInternal_0 : List UInt8 := [42, 180, 0, 15, 190, 42, 180, 0, 22, 122, 61, 27, 28, 100, 158, 0, 24, 42, 42, 180, 0, 15, 42, 27]
abbrev dktJ5_ensureCapacityInternal_0 : List UInt8 := dkwJ5_ensureCapacityInternal_0 ++ dktJ5_ensureCapacityInternal_1
theorem dksJ5_ensureCapacityInternal_0 : cJ5_ensureCapacityInternal.data.toList.drop 0 = dktJ5_ensureCapacityInternal_0 := by decide +kernel
theorem dksJ5_ensureCapacityInternal_1 : cJ5_ensureCapacityInternal.data.toList.drop 24 = dktJ5_ensureCapacityInternal_1 := dk_seg dksJ5_ensureCapacityInternal_0 24 rfl rfl
theorem dJ5_ensureCapacityInternal_0 : decode cJ5_ensureCapacityInternal 0 = .ok (.aload_n 0, 1) := dk_42 (dk_at dksJ5_ensureCapacityInternal_0 0 rfl rfl)
theorem dJ5_ensureCapacityInternal_1 : decode cJ5_ensureCapacityInternal 1 = .ok (.getfield 15, 3) := dk_180 0 15 (dk_at dksJ5_ensureCapacityInternal_0 1 rfl rfl)
theorem dJ5_ensureCapacityInternal_4 : decode cJ5_ensureCapacityInternal 4 = .ok (.arraylength, 1) := dk_190 (dk_at dksJ5_ensureCapacityInternal_0 4 rfl rfl)
theorem dJ5_ensureCapacityInternal_5 : decode cJ5_ensureCapacityInternal 5 = .ok (.aload_n 0, 1) := dk_42 (dk_at dksJ5_ensureCapacityInternal_0 5 rfl rfl)
theorem dJ5_ensureCapacityInternal_6 : decode cJ5_ensureCapacityInternal 6 = .ok (.getfield 22, 3) := dk_180 0 22 (dk_at dksJ5_ensureCapacityInternal_0 6 rfl rfl)
theorem dJ5_ensureCapacityInternal_9 : decode cJ5_ensureCapacityInternal 9 = .ok (.ishr, 1) := dk_122 (dk_at dksJ5_ensureCapacityInternal_0 9 rfl rfl)
theorem dJ5_ensureCapacityInternal_10 : decode cJ5_ensureCapacityInternal 10 = .ok (.istore_n 2, 1) := dk_61 (dk_at dksJ5_ensureCapacityInternal_0 10 rfl rfl)
theorem dJ5_ensureCapacityInternal_11 : decode cJ5_ensureCapacityInternal 11 = .ok (.iload_n 1, 1) := dk_27 (dk_at dksJ5_ensureCapacityInternal_0 11 rfl rfl)
theorem dJ5_ensureCapacityInternal_12 : decode cJ5_ensureCapacityInternal 12 = .ok (.iload_n 2, 1) := dk_28 (dk_at dksJ5_ensureCapacityInternal_0 12 rfl rfl)
theorem dJ5_ensureCapacityInternal_13 : decode cJ5_ensureCapacityInternal 13 = .ok (.isub, 1) := dk_100 (dk_at dksJ5_ensureCapacityInternal_0 13 rfl rfl)
theorem dJ5_ensureCapacityInternal_14 : decode cJ5_ensureCapacityInternal 14 = .ok (.ifCond .le 24, 3) := dk_158 0 24 (dk_at dksJ5_ensureCapacityInternal_0 14 rfl rfl)
theorem dJ5_ensureCapacityInternal_17 : decode cJ5_ensureCapacityInternal 17 = .ok (.aload_n 0, 1) := dk_42 (dk_at dksJ5_ensureCapacityInternal_0 17 rfl rfl)
theorem dJ5_ensureCapacityInternal_18 : decode cJ5_ensureCapacityInternal 18 = .ok (.aload_n 0, 1) := dk_42 (dk_at dksJ5_ensureCapacityInternal_0 18 rfl rfl)
theorem dJ5_ensureCapacityInternal_19 : decode cJ5_ensureCapacityInternal 19 = .ok (.getfield 15, 3) := dk_180 0 15 (dk_at dksJ5_ensureCapacityInternal_0 19 rfl rfl)
theorem dJ5_ensureCapacityInternal_22 : decode cJ5_ensureCapacityInternal 22 = .ok (.aload_n 0, 1) := dk_42 (dk_at dksJ5_ensureCapacityInternal_0 22 rfl rfl)
theorem dJ5_ensureCapacityInternal_23 : decode cJ5_ensureCapacityInternal 23 = .ok (.iload_n 1, 1) := dk_27 (dk_at dksJ5_ensureCapacityInternal_0 23 rfl rfl)
theorem dJ5_ensureCapacityInternal_24 : decode cJ5_ensureCapacityInternal 24 = .ok (.invokevirtual 104, 3) := dk_182 0 104 (dk_at dksJ5_ensureCapacityInternal_1 0 rfl rfl)
theorem dJ5_ensureCapacityInternal_27 : decode cJ5_ensureCapacityInternal 27 = .ok (.aload_n 0, 1) := dk_42 (dk_at dksJ5_ensureCapacityInternal_1 3 rfl rfl)
theorem dJ5_ensureCapacityInternal_28 : decode cJ5_ensureCapacityInternal 28 = .ok (.getfield 22, 3) := dk_180 0 22 (dk_at dksJ5_ensureCapacityInternal_1 4 rfl rfl)
theorem dJ5_ensureCapacityInternal_31 : decode cJ5_ensureCapacityInternal 31 = .ok (.ishl, 1) := dk_120 (dk_at dksJ5_ensureCapacityInternal_1 7 rfl rfl)
theorem dJ5_ensureCapacityInternal_32 : decode cJ5_ensureCapacityInternal 32 = .ok (.invokestatic 108, 3) := dk_184 0 108 (dk_at dksJ5_ensureCapacityInternal_1 8 rfl rfl)
theorem dJ5_ensureCapacityInternal_35 : decode cJ5_ensureCapacityInternal 35 = .ok (.putfield 15, 3) := dk_181 0 15 (dk_at dksJ5_ensureCapacityInternal_1 11 rfl rfl)
theorem dJ5_ensureCapacityInternal_38 : decode cJ5_ensureCapacityInternal 38 = .ok (.return_, 1) := dk_177 (dk_at dksJ5_ensureCapacityInternal_1 14 rfl rfl)
abbrev cJ5_newCapacity : ByteArray := prog_27_method_10_code
def yJ5_newCapacity : MethodName := ⟨RJ5, "newCapacity", "(I)I"⟩
def dkwJ5_newCapacity_2 : List UInt8 := [183, 0, 124, 191, 21, 5, 42, 180, 0, 22, 122, 172]
abbrev dktJ5_newCapacity_2 : List UInt8 := dkwJ5_newCapacity_2 ++ []
def dkwJ5_newCapacity_1 : List UInt8 := [180, 0, 22, 120, 96, 184, 0, 114, 54, 5, 21, 5, 18, 39, 160, 0, 13, 187, 0, 120, 89, 18, 122]
abbrev dktJ5_newCapacity_1 : List UInt8 := dkwJ5_newCapacity_1 ++ dktJ5_newCapacity_2
def dkwJ5_newCapacity_0 : List UInt8 := [42, 180, 0, 15, 190, 61, 27, 42, 180, 0, 22, 120, 62, 29, 28, 100, 54, 4, 28, 21, 4, 28, 5, 42]
abbrev dktJ5_newCapacity_0 : List UInt8 := dkwJ5_newCapacity_0 ++ dktJ5_newCapacity_1
theorem dksJ5_newCapacity_0 : cJ5_newCapacity.data.toList.drop 0 = dktJ5_newCapacity_0 := by decide +kernel
theorem dksJ5_newCapacity_1 : cJ5_newCapacity.data.toList.drop 24 = dktJ5_newCapacity_1 := dk_seg dksJ5_newCapacity_0 24 rfl rfl
theorem dksJ5_newCapacity_2 : cJ5_newCapacity.data.toList.drop 47 = dktJ5_newCapacity_2 := dk_seg dksJ5_newCapacity_1 23 rfl rfl
theorem dJ5_newCapacity_0 : decode cJ5_newCapacity 0 = .ok (.aload_n 0, 1) := dk_42 (dk_at dksJ5_newCapacity_0 0 rfl rfl)
theorem dJ5_newCapacity_1 : decode cJ5_newCapacity 1 = .ok (.getfield 15, 3) := dk_180 0 15 (dk_at dksJ5_newCapacity_0 1 rfl rfl)
theorem dJ5_newCapacity_4 : decode cJ5_newCapacity 4 = .ok (.arraylength, 1) := dk_190 (dk_at dksJ5_newCapacity_0 4 rfl rfl)
theorem dJ5_newCapacity_5 : decode cJ5_newCapacity 5 = .ok (.istore_n 2, 1) := dk_61 (dk_at dksJ5_newCapacity_0 5 rfl rfl)
theorem dJ5_newCapacity_6 : decode cJ5_newCapacity 6 = .ok (.iload_n 1, 1) := dk_27 (dk_at dksJ5_newCapacity_0 6 rfl rfl)
theorem dJ5_newCapacity_7 : decode cJ5_newCapacity 7 = .ok (.aload_n 0, 1) := dk_42 (dk_at dksJ5_newCapacity_0 7 rfl rfl)
theorem dJ5_newCapacity_8 : decode cJ5_newCapacity 8 = .ok (.getfield 22, 3) := dk_180 0 22 (dk_at dksJ5_newCapacity_0 8 rfl rfl)
theorem dJ5_newCapacity_11 : decode cJ5_newCapacity 11 = .ok (.ishl, 1) := dk_120 (dk_at dksJ5_newCapacity_0 11 rfl rfl)
theorem dJ5_newCapacity_12 : decode cJ5_newCapacity 12 = .ok (.istore_n 3, 1) := dk_62 (dk_at dksJ5_newCapacity_0 12 rfl rfl)
theorem dJ5_newCapacity_13 : decode cJ5_newCapacity 13 = .ok (.iload_n 3, 1) := dk_29 (dk_at dksJ5_newCapacity_0 13 rfl rfl)
theorem dJ5_newCapacity_14 : decode cJ5_newCapacity 14 = .ok (.iload_n 2, 1) := dk_28 (dk_at dksJ5_newCapacity_0 14 rfl rfl)
theorem dJ5_newCapacity_15 : decode cJ5_newCapacity 15 = .ok (.isub, 1) := dk_100 (dk_at dksJ5_newCapacity_0 15 rfl rfl)
theorem dJ5_newCapacity_16 : decode cJ5_newCapacity 16 = .ok (.istore 4, 2) := dk_54 4 (dk_at dksJ5_newCapacity_0 16 rfl rfl)
theorem dJ5_newCapacity_18 : decode cJ5_newCapacity 18 = .ok (.iload_n 2, 1) := dk_28 (dk_at dksJ5_newCapacity_0 18 rfl rfl)
theorem dJ5_newCapacity_19 : decode cJ5_newCapacity 19 = .ok (.iload 4, 2) := dk_21 4 (dk_at dksJ5_newCapacity_0 19 rfl rfl)
theorem dJ5_newCapacity_21 : decode cJ5_newCapacity 21 = .ok (.iload_n 2, 1) := dk_28 (dk_at dksJ5_newCapacity_0 21 rfl rfl)
theorem dJ5_newCapacity_22 : decode cJ5_newCapacity 22 = .ok (.iconst 2, 1) := dk_5 (dk_at dksJ5_newCapacity_0 22 rfl rfl)
theorem dJ5_newCapacity_23 : decode cJ5_newCapacity 23 = .ok (.aload_n 0, 1) := dk_42 (dk_at dksJ5_newCapacity_0 23 rfl rfl)
theorem dJ5_newCapacity_24 : decode cJ5_newCapacity 24 = .ok (.getfield 22, 3) := dk_180 0 22 (dk_at dksJ5_newCapacity_1 0 rfl rfl)
theorem dJ5_newCapacity_27 : decode cJ5_newCapacity 27 = .ok (.ishl, 1) := dk_120 (dk_at dksJ5_newCapacity_1 3 rfl rfl)
theorem dJ5_newCapacity_28 : decode cJ5_newCapacity 28 = .ok (.iadd, 1) := dk_96 (dk_at dksJ5_newCapacity_1 4 rfl rfl)
theorem dJ5_newCapacity_29 : decode cJ5_newCapacity 29 = .ok (.invokestatic 114, 3) := dk_184 0 114 (dk_at dksJ5_newCapacity_1 5 rfl rfl)
theorem dJ5_newCapacity_32 : decode cJ5_newCapacity 32 = .ok (.istore 5, 2) := dk_54 5 (dk_at dksJ5_newCapacity_1 8 rfl rfl)
theorem dJ5_newCapacity_34 : decode cJ5_newCapacity 34 = .ok (.iload 5, 2) := dk_21 5 (dk_at dksJ5_newCapacity_1 10 rfl rfl)
theorem dJ5_newCapacity_36 : decode cJ5_newCapacity 36 = .ok (.ldc 39, 2) := dk_18 39 (dk_at dksJ5_newCapacity_1 12 rfl rfl)
theorem dJ5_newCapacity_38 : decode cJ5_newCapacity 38 = .ok (.if_icmp .ne 13, 3) := dk_160 0 13 (dk_at dksJ5_newCapacity_1 14 rfl rfl)
theorem dJ5_newCapacity_41 : decode cJ5_newCapacity 41 = .ok (.new 120, 3) := dk_187 0 120 (dk_at dksJ5_newCapacity_1 17 rfl rfl)
theorem dJ5_newCapacity_44 : decode cJ5_newCapacity 44 = .ok (.dup, 1) := dk_89 (dk_at dksJ5_newCapacity_1 20 rfl rfl)
theorem dJ5_newCapacity_45 : decode cJ5_newCapacity 45 = .ok (.ldc 122, 2) := dk_18 122 (dk_at dksJ5_newCapacity_1 21 rfl rfl)
theorem dJ5_newCapacity_47 : decode cJ5_newCapacity 47 = .ok (.invokespecial 124, 3) := dk_183 0 124 (dk_at dksJ5_newCapacity_2 0 rfl rfl)
theorem dJ5_newCapacity_50 : decode cJ5_newCapacity 50 = .ok (.athrow, 1) := dk_191 (dk_at dksJ5_newCapacity_2 3 rfl rfl)
theorem dJ5_newCapacity_51 : decode cJ5_newCapacity 51 = .ok (.iload 5, 2) := dk_21 5 (dk_at dksJ5_newCapacity_2 4 rfl rfl)
theorem dJ5_newCapacity_53 : decode cJ5_newCapacity 53 = .ok (.aload_n 0, 1) := dk_42 (dk_at dksJ5_newCapacity_2 6 rfl rfl)
theorem dJ5_newCapacity_54 : decode cJ5_newCapacity 54 = .ok (.getfield 22, 3) := dk_180 0 22 (dk_at dksJ5_newCapacity_2 7 rfl rfl)
theorem dJ5_newCapacity_57 : decode cJ5_newCapacity 57 = .ok (.ishr, 1) := dk_122 (dk_at dksJ5_newCapacity_2 10 rfl rfl)
theorem dJ5_newCapacity_58 : decode cJ5_newCapacity 58 = .ok (.ireturn, 1) := dk_172 (dk_at dksJ5_newCapacity_2 11 rfl rfl)
abbrev cJ5_isLatin1 : ByteArray := prog_27_method_68_code
def yJ5_isLatin1 : MethodName := ⟨RJ5, "isLatin1", "()Z"⟩
def dkwJ5_isLatin1_0 : List UInt8 := [178, 0, 18, 153, 0, 14, 42, 180, 0, 22, 154, 0, 7, 4, 167, 0, 4, 3, 172]
abbrev dktJ5_isLatin1_0 : List UInt8 := dkwJ5_isLatin1_0 ++ []
theorem dksJ5_isLatin1_0 : cJ5_isLatin1.data.toList.drop 0 = dktJ5_isLatin1_0 := by decide +kernel
theorem dJ5_isLatin1_0 : decode cJ5_isLatin1 0 = .ok (.getstatic 18, 3) := dk_178 0 18 (dk_at dksJ5_isLatin1_0 0 rfl rfl)
theorem dJ5_isLatin1_3 : decode cJ5_isLatin1 3 = .ok (.ifCond .eq 14, 3) := dk_153 0 14 (dk_at dksJ5_isLatin1_0 3 rfl rfl)
theorem dJ5_isLatin1_6 : decode cJ5_isLatin1 6 = .ok (.aload_n 0, 1) := dk_42 (dk_at dksJ5_isLatin1_0 6 rfl rfl)
theorem dJ5_isLatin1_7 : decode cJ5_isLatin1 7 = .ok (.getfield 22, 3) := dk_180 0 22 (dk_at dksJ5_isLatin1_0 7 rfl rfl)
theorem dJ5_isLatin1_10 : decode cJ5_isLatin1 10 = .ok (.ifCond .ne 7, 3) := dk_154 0 7 (dk_at dksJ5_isLatin1_0 10 rfl rfl)
theorem dJ5_isLatin1_13 : decode cJ5_isLatin1 13 = .ok (.iconst 1, 1) := dk_4 (dk_at dksJ5_isLatin1_0 13 rfl rfl)
theorem dJ5_isLatin1_14 : decode cJ5_isLatin1 14 = .ok (.goto 4, 3) := dk_167 0 4 (dk_at dksJ5_isLatin1_0 14 rfl rfl)
theorem dJ5_isLatin1_17 : decode cJ5_isLatin1 17 = .ok (.iconst 0, 1) := dk_3 (dk_at dksJ5_isLatin1_0 17 rfl rfl)
theorem dJ5_isLatin1_18 : decode cJ5_isLatin1 18 = .ok (.ireturn, 1) := dk_172 (dk_at dksJ5_isLatin1_0 18 rfl rfl)
abbrev cJ5_inflate : ByteArray := prog_27_method_11_code
def yJ5_inflate : MethodName := ⟨RJ5, "inflate", "()V"⟩
def dkwJ5_inflate_1 : List UInt8 := [42, 180, 0, 79, 184, 0, 125, 42, 43, 181, 0, 15, 42, 4, 181, 0, 22, 177]
abbrev dktJ5_inflate_1 : List UInt8 := dkwJ5_inflate_1 ++ []
def dkwJ5_inflate_0 : List UInt8 := [42, 182, 0, 83, 154, 0, 4, 177, 42, 180, 0, 15, 190, 184, 0, 26, 76, 42, 180, 0, 15, 3, 43, 3]
abbrev dktJ5_inflate_0 : List UInt8 := dkwJ5_inflate_0 ++ dktJ5_inflate_1
theorem dksJ5_inflate_0 : cJ5_inflate.data.toList.drop 0 = dktJ5_inflate_0 := by decide +kernel
theorem dksJ5_inflate_1 : cJ5_inflate.data.toList.drop 24 = dktJ5_inflate_1 := dk_seg dksJ5_inflate_0 24 rfl rfl
theorem dJ5_inflate_0 : decode cJ5_inflate 0 = .ok (.aload_n 0, 1) := dk_42 (dk_at dksJ5_inflate_0 0 rfl rfl)
theorem dJ5_inflate_1 : decode cJ5_inflate 1 = .ok (.invokevirtual 83, 3) := dk_182 0 83 (dk_at dksJ5_inflate_0 1 rfl rfl)
theorem dJ5_inflate_4 : decode cJ5_inflate 4 = .ok (.ifCond .ne 4, 3) := dk_154 0 4 (dk_at dksJ5_inflate_0 4 rfl rfl)
theorem dJ5_inflate_7 : decode cJ5_inflate 7 = .ok (.return_, 1) := dk_177 (dk_at dksJ5_inflate_0 7 rfl rfl)
theorem dJ5_inflate_8 : decode cJ5_inflate 8 = .ok (.aload_n 0, 1) := dk_42 (dk_at dksJ5_inflate_0 8 rfl rfl)
theorem dJ5_inflate_9 : decode cJ5_inflate 9 = .ok (.getfield 15, 3) := dk_180 0 15 (dk_at dksJ5_inflate_0 9 rfl rfl)
theorem dJ5_inflate_12 : decode cJ5_inflate 12 = .ok (.arraylength, 1) := dk_190 (dk_at dksJ5_inflate_0 12 rfl rfl)
theorem dJ5_inflate_13 : decode cJ5_inflate 13 = .ok (.invokestatic 26, 3) := dk_184 0 26 (dk_at dksJ5_inflate_0 13 rfl rfl)
theorem dJ5_inflate_16 : decode cJ5_inflate 16 = .ok (.astore_n 1, 1) := dk_76 (dk_at dksJ5_inflate_0 16 rfl rfl)
theorem dJ5_inflate_17 : decode cJ5_inflate 17 = .ok (.aload_n 0, 1) := dk_42 (dk_at dksJ5_inflate_0 17 rfl rfl)
theorem dJ5_inflate_18 : decode cJ5_inflate 18 = .ok (.getfield 15, 3) := dk_180 0 15 (dk_at dksJ5_inflate_0 18 rfl rfl)
theorem dJ5_inflate_21 : decode cJ5_inflate 21 = .ok (.iconst 0, 1) := dk_3 (dk_at dksJ5_inflate_0 21 rfl rfl)
theorem dJ5_inflate_22 : decode cJ5_inflate 22 = .ok (.aload_n 1, 1) := dk_43 (dk_at dksJ5_inflate_0 22 rfl rfl)
theorem dJ5_inflate_23 : decode cJ5_inflate 23 = .ok (.iconst 0, 1) := dk_3 (dk_at dksJ5_inflate_0 23 rfl rfl)
theorem dJ5_inflate_24 : decode cJ5_inflate 24 = .ok (.aload_n 0, 1) := dk_42 (dk_at dksJ5_inflate_1 0 rfl rfl)
theorem dJ5_inflate_25 : decode cJ5_inflate 25 = .ok (.getfield 79, 3) := dk_180 0 79 (dk_at dksJ5_inflate_1 1 rfl rfl)
theorem dJ5_inflate_28 : decode cJ5_inflate 28 = .ok (.invokestatic 125, 3) := dk_184 0 125 (dk_at dksJ5_inflate_1 4 rfl rfl)
theorem dJ5_inflate_31 : decode cJ5_inflate 31 = .ok (.aload_n 0, 1) := dk_42 (dk_at dksJ5_inflate_1 7 rfl rfl)
theorem dJ5_inflate_32 : decode cJ5_inflate 32 = .ok (.aload_n 1, 1) := dk_43 (dk_at dksJ5_inflate_1 8 rfl rfl)
theorem dJ5_inflate_33 : decode cJ5_inflate 33 = .ok (.putfield 15, 3) := dk_181 0 15 (dk_at dksJ5_inflate_1 9 rfl rfl)
theorem dJ5_inflate_36 : decode cJ5_inflate 36 = .ok (.aload_n 0, 1) := dk_42 (dk_at dksJ5_inflate_1 12 rfl rfl)
theorem dJ5_inflate_37 : decode cJ5_inflate 37 = .ok (.iconst 1, 1) := dk_4 (dk_at dksJ5_inflate_1 13 rfl rfl)
theorem dJ5_inflate_38 : decode cJ5_inflate 38 = .ok (.putfield 22, 3) := dk_181 0 22 (dk_at dksJ5_inflate_1 14 rfl rfl)
theorem dJ5_inflate_41 : decode cJ5_inflate 41 = .ok (.return_, 1) := dk_177 (dk_at dksJ5_inflate_1 17 rfl rfl)
abbrev cJ5_getValue : ByteArray := prog_27_method_64_code
def yJ5_getValue : MethodName := ⟨RJ5, "getValue", "()[B"⟩
theorem dJ5_getValue_0 : decode cJ5_getValue 0 = .ok (.aload_n 0, 1) := by decide +kernel
theorem dJ5_getValue_1 : decode cJ5_getValue 1 = .ok (.getfield 15, 3) := by decide +kernel
theorem dJ5_getValue_4 : decode cJ5_getValue 4 = .ok (.areturn, 1) := by decide +kernel
abbrev cJ5_append_2 : ByteArray := prog_27_method_32_code
def yJ5_append_2 : MethodName := ⟨RJ5, "append", "(I)Ljava/lang/AbstractStringBuilder;"⟩
def dkwJ5_append_2_2 : List UInt8 := [42, 29, 181, 0, 79, 42, 176]
abbrev dktJ5_append_2_2 : List UInt8 := dkwJ5_append_2_2 ++ []
def dkwJ5_append_2_1 : List UInt8 := [27, 29, 42, 180, 0, 15, 184, 0, 248, 87, 167, 0, 14, 27, 28, 29, 42, 180, 0, 15, 184, 0, 251, 87]
abbrev dktJ5_append_2_1 : List UInt8 := dkwJ5_append_2_1 ++ dktJ5_append_2_2
def dkwJ5_append_2_0 : List UInt8 := [42, 180, 0, 79, 61, 28, 27, 184, 0, 245, 96, 62, 42, 29, 182, 0, 100, 42, 182, 0, 83, 153, 0, 16]
abbrev dktJ5_append_2_0 : List UInt8 := dkwJ5_append_2_0 ++ dktJ5_append_2_1
theorem dksJ5_append_2_0 : cJ5_append_2.data.toList.drop 0 = dktJ5_append_2_0 := by decide +kernel
theorem dksJ5_append_2_1 : cJ5_append_2.data.toList.drop 24 = dktJ5_append_2_1 := dk_seg dksJ5_append_2_0 24 rfl rfl
theorem dksJ5_append_2_2 : cJ5_append_2.data.toList.drop 48 = dktJ5_append_2_2 := dk_seg dksJ5_append_2_1 24 rfl rfl
theorem dJ5_append_2_0 : decode cJ5_append_2 0 = .ok (.aload_n 0, 1) := dk_42 (dk_at dksJ5_append_2_0 0 rfl rfl)
theorem dJ5_append_2_1 : decode cJ5_append_2 1 = .ok (.getfield 79, 3) := dk_180 0 79 (dk_at dksJ5_append_2_0 1 rfl rfl)
theorem dJ5_append_2_4 : decode cJ5_append_2 4 = .ok (.istore_n 2, 1) := dk_61 (dk_at dksJ5_append_2_0 4 rfl rfl)
theorem dJ5_append_2_5 : decode cJ5_append_2 5 = .ok (.iload_n 2, 1) := dk_28 (dk_at dksJ5_append_2_0 5 rfl rfl)
theorem dJ5_append_2_6 : decode cJ5_append_2 6 = .ok (.iload_n 1, 1) := dk_27 (dk_at dksJ5_append_2_0 6 rfl rfl)
theorem dJ5_append_2_7 : decode cJ5_append_2 7 = .ok (.invokestatic 245, 3) := dk_184 0 245 (dk_at dksJ5_append_2_0 7 rfl rfl)
theorem dJ5_append_2_10 : decode cJ5_append_2 10 = .ok (.iadd, 1) := dk_96 (dk_at dksJ5_append_2_0 10 rfl rfl)
theorem dJ5_append_2_11 : decode cJ5_append_2 11 = .ok (.istore_n 3, 1) := dk_62 (dk_at dksJ5_append_2_0 11 rfl rfl)
theorem dJ5_append_2_12 : decode cJ5_append_2 12 = .ok (.aload_n 0, 1) := dk_42 (dk_at dksJ5_append_2_0 12 rfl rfl)
theorem dJ5_append_2_13 : decode cJ5_append_2 13 = .ok (.iload_n 3, 1) := dk_29 (dk_at dksJ5_append_2_0 13 rfl rfl)
theorem dJ5_append_2_14 : decode cJ5_append_2 14 = .ok (.invokevirtual 100, 3) := dk_182 0 100 (dk_at dksJ5_append_2_0 14 rfl rfl)
theorem dJ5_append_2_17 : decode cJ5_append_2 17 = .ok (.aload_n 0, 1) := dk_42 (dk_at dksJ5_append_2_0 17 rfl rfl)
theorem dJ5_append_2_18 : decode cJ5_append_2 18 = .ok (.invokevirtual 83, 3) := dk_182 0 83 (dk_at dksJ5_append_2_0 18 rfl rfl)
theorem dJ5_append_2_21 : decode cJ5_append_2 21 = .ok (.ifCond .eq 16, 3) := dk_153 0 16 (dk_at dksJ5_append_2_0 21 rfl rfl)
theorem dJ5_append_2_24 : decode cJ5_append_2 24 = .ok (.iload_n 1, 1) := dk_27 (dk_at dksJ5_append_2_1 0 rfl rfl)
theorem dJ5_append_2_25 : decode cJ5_append_2 25 = .ok (.iload_n 3, 1) := dk_29 (dk_at dksJ5_append_2_1 1 rfl rfl)
theorem dJ5_append_2_26 : decode cJ5_append_2 26 = .ok (.aload_n 0, 1) := dk_42 (dk_at dksJ5_append_2_1 2 rfl rfl)
theorem dJ5_append_2_27 : decode cJ5_append_2 27 = .ok (.getfield 15, 3) := dk_180 0 15 (dk_at dksJ5_append_2_1 3 rfl rfl)
theorem dJ5_append_2_30 : decode cJ5_append_2 30 = .ok (.invokestatic 248, 3) := dk_184 0 248 (dk_at dksJ5_append_2_1 6 rfl rfl)
theorem dJ5_append_2_33 : decode cJ5_append_2 33 = .ok (.pop, 1) := dk_87 (dk_at dksJ5_append_2_1 9 rfl rfl)
theorem dJ5_append_2_34 : decode cJ5_append_2 34 = .ok (.goto 14, 3) := dk_167 0 14 (dk_at dksJ5_append_2_1 10 rfl rfl)
theorem dJ5_append_2_37 : decode cJ5_append_2 37 = .ok (.iload_n 1, 1) := dk_27 (dk_at dksJ5_append_2_1 13 rfl rfl)
theorem dJ5_append_2_38 : decode cJ5_append_2 38 = .ok (.iload_n 2, 1) := dk_28 (dk_at dksJ5_append_2_1 14 rfl rfl)
theorem dJ5_append_2_39 : decode cJ5_append_2 39 = .ok (.iload_n 3, 1) := dk_29 (dk_at dksJ5_append_2_1 15 rfl rfl)
theorem dJ5_append_2_40 : decode cJ5_append_2 40 = .ok (.aload_n 0, 1) := dk_42 (dk_at dksJ5_append_2_1 16 rfl rfl)
theorem dJ5_append_2_41 : decode cJ5_append_2 41 = .ok (.getfield 15, 3) := dk_180 0 15 (dk_at dksJ5_append_2_1 17 rfl rfl)
theorem dJ5_append_2_44 : decode cJ5_append_2 44 = .ok (.invokestatic 251, 3) := dk_184 0 251 (dk_at dksJ5_append_2_1 20 rfl rfl)
theorem dJ5_append_2_47 : decode cJ5_append_2 47 = .ok (.pop, 1) := dk_87 (dk_at dksJ5_append_2_1 23 rfl rfl)
theorem dJ5_append_2_48 : decode cJ5_append_2 48 = .ok (.aload_n 0, 1) := dk_42 (dk_at dksJ5_append_2_2 0 rfl rfl)
theorem dJ5_append_2_49 : decode cJ5_append_2 49 = .ok (.iload_n 3, 1) := dk_29 (dk_at dksJ5_append_2_2 1 rfl rfl)
theorem dJ5_append_2_50 : decode cJ5_append_2 50 = .ok (.putfield 79, 3) := dk_181 0 79 (dk_at dksJ5_append_2_2 2 rfl rfl)
theorem dJ5_append_2_53 : decode cJ5_append_2 53 = .ok (.aload_n 0, 1) := dk_42 (dk_at dksJ5_append_2_2 5 rfl rfl)
theorem dJ5_append_2_54 : decode cJ5_append_2 54 = .ok (.areturn, 1) := dk_176 (dk_at dksJ5_append_2_2 6 rfl rfl)
abbrev cJ5_append_3 : ByteArray := prog_27_method_22_code
def yJ5_append_3 : MethodName := ⟨RJ5, "append", "(Ljava/lang/String;)Ljava/lang/AbstractStringBuilder;"⟩
def dkwJ5_append_3_1 : List UInt8 := [42, 42, 180, 0, 79, 43, 182, 0, 208, 42, 89, 180, 0, 79, 28, 96, 181, 0, 79, 42, 176]
abbrev dktJ5_append_3_1 : List UInt8 := dkwJ5_append_3_1 ++ []
def dkwJ5_append_3_0 : List UInt8 := [43, 199, 0, 8, 42, 182, 0, 204, 176, 43, 182, 0, 32, 61, 42, 42, 180, 0, 79, 28, 96, 182, 0, 100]
abbrev dktJ5_append_3_0 : List UInt8 := dkwJ5_append_3_0 ++ dktJ5_append_3_1
theorem dksJ5_append_3_0 : cJ5_append_3.data.toList.drop 0 = dktJ5_append_3_0 := by decide +kernel
theorem dksJ5_append_3_1 : cJ5_append_3.data.toList.drop 24 = dktJ5_append_3_1 := dk_seg dksJ5_append_3_0 24 rfl rfl
theorem dJ5_append_3_0 : decode cJ5_append_3 0 = .ok (.aload_n 1, 1) := dk_43 (dk_at dksJ5_append_3_0 0 rfl rfl)
theorem dJ5_append_3_1 : decode cJ5_append_3 1 = .ok (.ifnonnull 8, 3) := dk_199 0 8 (dk_at dksJ5_append_3_0 1 rfl rfl)
theorem dJ5_append_3_4 : decode cJ5_append_3 4 = .ok (.aload_n 0, 1) := dk_42 (dk_at dksJ5_append_3_0 4 rfl rfl)
theorem dJ5_append_3_5 : decode cJ5_append_3 5 = .ok (.invokevirtual 204, 3) := dk_182 0 204 (dk_at dksJ5_append_3_0 5 rfl rfl)
theorem dJ5_append_3_8 : decode cJ5_append_3 8 = .ok (.areturn, 1) := dk_176 (dk_at dksJ5_append_3_0 8 rfl rfl)
theorem dJ5_append_3_9 : decode cJ5_append_3 9 = .ok (.aload_n 1, 1) := dk_43 (dk_at dksJ5_append_3_0 9 rfl rfl)
theorem dJ5_append_3_10 : decode cJ5_append_3 10 = .ok (.invokevirtual 32, 3) := dk_182 0 32 (dk_at dksJ5_append_3_0 10 rfl rfl)
theorem dJ5_append_3_13 : decode cJ5_append_3 13 = .ok (.istore_n 2, 1) := dk_61 (dk_at dksJ5_append_3_0 13 rfl rfl)
theorem dJ5_append_3_14 : decode cJ5_append_3 14 = .ok (.aload_n 0, 1) := dk_42 (dk_at dksJ5_append_3_0 14 rfl rfl)
theorem dJ5_append_3_15 : decode cJ5_append_3 15 = .ok (.aload_n 0, 1) := dk_42 (dk_at dksJ5_append_3_0 15 rfl rfl)
theorem dJ5_append_3_16 : decode cJ5_append_3 16 = .ok (.getfield 79, 3) := dk_180 0 79 (dk_at dksJ5_append_3_0 16 rfl rfl)
theorem dJ5_append_3_19 : decode cJ5_append_3 19 = .ok (.iload_n 2, 1) := dk_28 (dk_at dksJ5_append_3_0 19 rfl rfl)
theorem dJ5_append_3_20 : decode cJ5_append_3 20 = .ok (.iadd, 1) := dk_96 (dk_at dksJ5_append_3_0 20 rfl rfl)
theorem dJ5_append_3_21 : decode cJ5_append_3 21 = .ok (.invokevirtual 100, 3) := dk_182 0 100 (dk_at dksJ5_append_3_0 21 rfl rfl)
theorem dJ5_append_3_24 : decode cJ5_append_3 24 = .ok (.aload_n 0, 1) := dk_42 (dk_at dksJ5_append_3_1 0 rfl rfl)
theorem dJ5_append_3_25 : decode cJ5_append_3 25 = .ok (.aload_n 0, 1) := dk_42 (dk_at dksJ5_append_3_1 1 rfl rfl)
theorem dJ5_append_3_26 : decode cJ5_append_3 26 = .ok (.getfield 79, 3) := dk_180 0 79 (dk_at dksJ5_append_3_1 2 rfl rfl)
theorem dJ5_append_3_29 : decode cJ5_append_3 29 = .ok (.aload_n 1, 1) := dk_43 (dk_at dksJ5_append_3_1 5 rfl rfl)
theorem dJ5_append_3_30 : decode cJ5_append_3 30 = .ok (.invokevirtual 208, 3) := dk_182 0 208 (dk_at dksJ5_append_3_1 6 rfl rfl)
theorem dJ5_append_3_33 : decode cJ5_append_3 33 = .ok (.aload_n 0, 1) := dk_42 (dk_at dksJ5_append_3_1 9 rfl rfl)
theorem dJ5_append_3_34 : decode cJ5_append_3 34 = .ok (.dup, 1) := dk_89 (dk_at dksJ5_append_3_1 10 rfl rfl)
theorem dJ5_append_3_35 : decode cJ5_append_3 35 = .ok (.getfield 79, 3) := dk_180 0 79 (dk_at dksJ5_append_3_1 11 rfl rfl)
theorem dJ5_append_3_38 : decode cJ5_append_3 38 = .ok (.iload_n 2, 1) := dk_28 (dk_at dksJ5_append_3_1 14 rfl rfl)
theorem dJ5_append_3_39 : decode cJ5_append_3 39 = .ok (.iadd, 1) := dk_96 (dk_at dksJ5_append_3_1 15 rfl rfl)
theorem dJ5_append_3_40 : decode cJ5_append_3 40 = .ok (.putfield 79, 3) := dk_181 0 79 (dk_at dksJ5_append_3_1 16 rfl rfl)
theorem dJ5_append_3_43 : decode cJ5_append_3 43 = .ok (.aload_n 0, 1) := dk_42 (dk_at dksJ5_append_3_1 19 rfl rfl)
theorem dJ5_append_3_44 : decode cJ5_append_3 44 = .ok (.areturn, 1) := dk_176 (dk_at dksJ5_append_3_1 20 rfl rfl)
abbrev cJ5_appendNull : ByteArray := prog_27_method_26_code
def yJ5_appendNull : MethodName := ⟨RJ5, "appendNull", "()Ljava/lang/AbstractStringBuilder;"⟩
def dkwJ5_appendNull_3 : List UInt8 := [184, 0, 226, 60, 42, 27, 181, 0, 79, 42, 176]
abbrev dktJ5_appendNull_3 : List UInt8 := dkwJ5_appendNull_3 ++ []
def dkwJ5_appendNull_2 : List UInt8 := [16, 108, 84, 44, 27, 132, 1, 1, 16, 108, 84, 167, 0, 17, 44, 27, 16, 110, 16, 117, 16, 108, 16, 108]
abbrev dktJ5_appendNull_2 : List UInt8 := dkwJ5_appendNull_2 ++ dktJ5_appendNull_3
def dkwJ5_appendNull_1 : List UInt8 := [153, 0, 38, 44, 27, 132, 1, 1, 16, 110, 84, 44, 27, 132, 1, 1, 16, 117, 84, 44, 27, 132, 1, 1]
abbrev dktJ5_appendNull_1 : List UInt8 := dkwJ5_appendNull_1 ++ dktJ5_appendNull_2
def dkwJ5_appendNull_0 : List UInt8 := [42, 42, 180, 0, 79, 7, 96, 182, 0, 100, 42, 180, 0, 79, 60, 42, 180, 0, 15, 77, 42, 182, 0, 83]
abbrev dktJ5_appendNull_0 : List UInt8 := dkwJ5_appendNull_0 ++ dktJ5_appendNull_1
theorem dksJ5_appendNull_0 : cJ5_appendNull.data.toList.drop 0 = dktJ5_appendNull_0 := by decide +kernel
theorem dksJ5_appendNull_1 : cJ5_appendNull.data.toList.drop 24 = dktJ5_appendNull_1 := dk_seg dksJ5_appendNull_0 24 rfl rfl
theorem dksJ5_appendNull_2 : cJ5_appendNull.data.toList.drop 48 = dktJ5_appendNull_2 := dk_seg dksJ5_appendNull_1 24 rfl rfl
theorem dksJ5_appendNull_3 : cJ5_appendNull.data.toList.drop 72 = dktJ5_appendNull_3 := dk_seg dksJ5_appendNull_2 24 rfl rfl
theorem dJ5_appendNull_0 : decode cJ5_appendNull 0 = .ok (.aload_n 0, 1) := dk_42 (dk_at dksJ5_appendNull_0 0 rfl rfl)
theorem dJ5_appendNull_1 : decode cJ5_appendNull 1 = .ok (.aload_n 0, 1) := dk_42 (dk_at dksJ5_appendNull_0 1 rfl rfl)
theorem dJ5_appendNull_2 : decode cJ5_appendNull 2 = .ok (.getfield 79, 3) := dk_180 0 79 (dk_at dksJ5_appendNull_0 2 rfl rfl)
theorem dJ5_appendNull_5 : decode cJ5_appendNull 5 = .ok (.iconst 4, 1) := dk_7 (dk_at dksJ5_appendNull_0 5 rfl rfl)
theorem dJ5_appendNull_6 : decode cJ5_appendNull 6 = .ok (.iadd, 1) := dk_96 (dk_at dksJ5_appendNull_0 6 rfl rfl)
theorem dJ5_appendNull_7 : decode cJ5_appendNull 7 = .ok (.invokevirtual 100, 3) := dk_182 0 100 (dk_at dksJ5_appendNull_0 7 rfl rfl)
theorem dJ5_appendNull_10 : decode cJ5_appendNull 10 = .ok (.aload_n 0, 1) := dk_42 (dk_at dksJ5_appendNull_0 10 rfl rfl)
theorem dJ5_appendNull_11 : decode cJ5_appendNull 11 = .ok (.getfield 79, 3) := dk_180 0 79 (dk_at dksJ5_appendNull_0 11 rfl rfl)
theorem dJ5_appendNull_14 : decode cJ5_appendNull 14 = .ok (.istore_n 1, 1) := dk_60 (dk_at dksJ5_appendNull_0 14 rfl rfl)
theorem dJ5_appendNull_15 : decode cJ5_appendNull 15 = .ok (.aload_n 0, 1) := dk_42 (dk_at dksJ5_appendNull_0 15 rfl rfl)
theorem dJ5_appendNull_16 : decode cJ5_appendNull 16 = .ok (.getfield 15, 3) := dk_180 0 15 (dk_at dksJ5_appendNull_0 16 rfl rfl)
theorem dJ5_appendNull_19 : decode cJ5_appendNull 19 = .ok (.astore_n 2, 1) := dk_77 (dk_at dksJ5_appendNull_0 19 rfl rfl)
theorem dJ5_appendNull_20 : decode cJ5_appendNull 20 = .ok (.aload_n 0, 1) := dk_42 (dk_at dksJ5_appendNull_0 20 rfl rfl)
theorem dJ5_appendNull_21 : decode cJ5_appendNull 21 = .ok (.invokevirtual 83, 3) := dk_182 0 83 (dk_at dksJ5_appendNull_0 21 rfl rfl)
theorem dJ5_appendNull_24 : decode cJ5_appendNull 24 = .ok (.ifCond .eq 38, 3) := dk_153 0 38 (dk_at dksJ5_appendNull_1 0 rfl rfl)
theorem dJ5_appendNull_27 : decode cJ5_appendNull 27 = .ok (.aload_n 2, 1) := dk_44 (dk_at dksJ5_appendNull_1 3 rfl rfl)
theorem dJ5_appendNull_28 : decode cJ5_appendNull 28 = .ok (.iload_n 1, 1) := dk_27 (dk_at dksJ5_appendNull_1 4 rfl rfl)
theorem dJ5_appendNull_29 : decode cJ5_appendNull 29 = .ok (.iinc 1 1, 3) := dk_132 1 1 (dk_at dksJ5_appendNull_1 5 rfl rfl)
theorem dJ5_appendNull_32 : decode cJ5_appendNull 32 = .ok (.bipush 110, 2) := dk_16 110 (dk_at dksJ5_appendNull_1 8 rfl rfl)
theorem dJ5_appendNull_34 : decode cJ5_appendNull 34 = .ok (.bastore, 1) := dk_84 (dk_at dksJ5_appendNull_1 10 rfl rfl)
theorem dJ5_appendNull_35 : decode cJ5_appendNull 35 = .ok (.aload_n 2, 1) := dk_44 (dk_at dksJ5_appendNull_1 11 rfl rfl)
theorem dJ5_appendNull_36 : decode cJ5_appendNull 36 = .ok (.iload_n 1, 1) := dk_27 (dk_at dksJ5_appendNull_1 12 rfl rfl)
theorem dJ5_appendNull_37 : decode cJ5_appendNull 37 = .ok (.iinc 1 1, 3) := dk_132 1 1 (dk_at dksJ5_appendNull_1 13 rfl rfl)
theorem dJ5_appendNull_40 : decode cJ5_appendNull 40 = .ok (.bipush 117, 2) := dk_16 117 (dk_at dksJ5_appendNull_1 16 rfl rfl)
theorem dJ5_appendNull_42 : decode cJ5_appendNull 42 = .ok (.bastore, 1) := dk_84 (dk_at dksJ5_appendNull_1 18 rfl rfl)
theorem dJ5_appendNull_43 : decode cJ5_appendNull 43 = .ok (.aload_n 2, 1) := dk_44 (dk_at dksJ5_appendNull_1 19 rfl rfl)
theorem dJ5_appendNull_44 : decode cJ5_appendNull 44 = .ok (.iload_n 1, 1) := dk_27 (dk_at dksJ5_appendNull_1 20 rfl rfl)
theorem dJ5_appendNull_45 : decode cJ5_appendNull 45 = .ok (.iinc 1 1, 3) := dk_132 1 1 (dk_at dksJ5_appendNull_1 21 rfl rfl)
theorem dJ5_appendNull_48 : decode cJ5_appendNull 48 = .ok (.bipush 108, 2) := dk_16 108 (dk_at dksJ5_appendNull_2 0 rfl rfl)
theorem dJ5_appendNull_50 : decode cJ5_appendNull 50 = .ok (.bastore, 1) := dk_84 (dk_at dksJ5_appendNull_2 2 rfl rfl)
theorem dJ5_appendNull_51 : decode cJ5_appendNull 51 = .ok (.aload_n 2, 1) := dk_44 (dk_at dksJ5_appendNull_2 3 rfl rfl)
theorem dJ5_appendNull_52 : decode cJ5_appendNull 52 = .ok (.iload_n 1, 1) := dk_27 (dk_at dksJ5_appendNull_2 4 rfl rfl)
theorem dJ5_appendNull_53 : decode cJ5_appendNull 53 = .ok (.iinc 1 1, 3) := dk_132 1 1 (dk_at dksJ5_appendNull_2 5 rfl rfl)
theorem dJ5_appendNull_56 : decode cJ5_appendNull 56 = .ok (.bipush 108, 2) := dk_16 108 (dk_at dksJ5_appendNull_2 8 rfl rfl)
theorem dJ5_appendNull_58 : decode cJ5_appendNull 58 = .ok (.bastore, 1) := dk_84 (dk_at dksJ5_appendNull_2 10 rfl rfl)
theorem dJ5_appendNull_59 : decode cJ5_appendNull 59 = .ok (.goto 17, 3) := dk_167 0 17 (dk_at dksJ5_appendNull_2 11 rfl rfl)
theorem dJ5_appendNull_62 : decode cJ5_appendNull 62 = .ok (.aload_n 2, 1) := dk_44 (dk_at dksJ5_appendNull_2 14 rfl rfl)
theorem dJ5_appendNull_63 : decode cJ5_appendNull 63 = .ok (.iload_n 1, 1) := dk_27 (dk_at dksJ5_appendNull_2 15 rfl rfl)
theorem dJ5_appendNull_64 : decode cJ5_appendNull 64 = .ok (.bipush 110, 2) := dk_16 110 (dk_at dksJ5_appendNull_2 16 rfl rfl)
theorem dJ5_appendNull_66 : decode cJ5_appendNull 66 = .ok (.bipush 117, 2) := dk_16 117 (dk_at dksJ5_appendNull_2 18 rfl rfl)
theorem dJ5_appendNull_68 : decode cJ5_appendNull 68 = .ok (.bipush 108, 2) := dk_16 108 (dk_at dksJ5_appendNull_2 20 rfl rfl)
theorem dJ5_appendNull_70 : decode cJ5_appendNull 70 = .ok (.bipush 108, 2) := dk_16 108 (dk_at dksJ5_appendNull_2 22 rfl rfl)
theorem dJ5_appendNull_72 : decode cJ5_appendNull 72 = .ok (.invokestatic 226, 3) := dk_184 0 226 (dk_at dksJ5_appendNull_3 0 rfl rfl)
theorem dJ5_appendNull_75 : decode cJ5_appendNull 75 = .ok (.istore_n 1, 1) := dk_60 (dk_at dksJ5_appendNull_3 3 rfl rfl)
theorem dJ5_appendNull_76 : decode cJ5_appendNull 76 = .ok (.aload_n 0, 1) := dk_42 (dk_at dksJ5_appendNull_3 4 rfl rfl)
theorem dJ5_appendNull_77 : decode cJ5_appendNull 77 = .ok (.iload_n 1, 1) := dk_27 (dk_at dksJ5_appendNull_3 5 rfl rfl)
theorem dJ5_appendNull_78 : decode cJ5_appendNull 78 = .ok (.putfield 79, 3) := dk_181 0 79 (dk_at dksJ5_appendNull_3 6 rfl rfl)
theorem dJ5_appendNull_81 : decode cJ5_appendNull 81 = .ok (.aload_n 0, 1) := dk_42 (dk_at dksJ5_appendNull_3 9 rfl rfl)
theorem dJ5_appendNull_82 : decode cJ5_appendNull 82 = .ok (.areturn, 1) := dk_176 (dk_at dksJ5_appendNull_3 10 rfl rfl)
abbrev cJ5_putStringAt : ByteArray := prog_27_method_73_code
def yJ5_putStringAt : MethodName := ⟨RJ5, "putStringAt", "(ILjava/lang/String;)V"⟩
def dkwJ5_putStringAt_0 : List UInt8 := [42, 44, 182, 1, 141, 44, 42, 180, 0, 15, 27, 42, 180, 0, 22, 182, 1, 143, 177]
abbrev dktJ5_putStringAt_0 : List UInt8 := dkwJ5_putStringAt_0 ++ []
theorem dksJ5_putStringAt_0 : cJ5_putStringAt.data.toList.drop 0 = dktJ5_putStringAt_0 := by decide +kernel
theorem dJ5_putStringAt_0 : decode cJ5_putStringAt 0 = .ok (.aload_n 0, 1) := dk_42 (dk_at dksJ5_putStringAt_0 0 rfl rfl)
theorem dJ5_putStringAt_1 : decode cJ5_putStringAt 1 = .ok (.aload_n 2, 1) := dk_44 (dk_at dksJ5_putStringAt_0 1 rfl rfl)
theorem dJ5_putStringAt_2 : decode cJ5_putStringAt 2 = .ok (.invokevirtual 397, 3) := dk_182 1 141 (dk_at dksJ5_putStringAt_0 2 rfl rfl)
theorem dJ5_putStringAt_5 : decode cJ5_putStringAt 5 = .ok (.aload_n 2, 1) := dk_44 (dk_at dksJ5_putStringAt_0 5 rfl rfl)
theorem dJ5_putStringAt_6 : decode cJ5_putStringAt 6 = .ok (.aload_n 0, 1) := dk_42 (dk_at dksJ5_putStringAt_0 6 rfl rfl)
theorem dJ5_putStringAt_7 : decode cJ5_putStringAt 7 = .ok (.getfield 15, 3) := dk_180 0 15 (dk_at dksJ5_putStringAt_0 7 rfl rfl)
theorem dJ5_putStringAt_10 : decode cJ5_putStringAt 10 = .ok (.iload_n 1, 1) := dk_27 (dk_at dksJ5_putStringAt_0 10 rfl rfl)
theorem dJ5_putStringAt_11 : decode cJ5_putStringAt 11 = .ok (.aload_n 0, 1) := dk_42 (dk_at dksJ5_putStringAt_0 11 rfl rfl)
theorem dJ5_putStringAt_12 : decode cJ5_putStringAt 12 = .ok (.getfield 22, 3) := dk_180 0 22 (dk_at dksJ5_putStringAt_0 12 rfl rfl)
theorem dJ5_putStringAt_15 : decode cJ5_putStringAt 15 = .ok (.invokevirtual 399, 3) := dk_182 1 143 (dk_at dksJ5_putStringAt_0 15 rfl rfl)
theorem dJ5_putStringAt_18 : decode cJ5_putStringAt 18 = .ok (.return_, 1) := dk_177 (dk_at dksJ5_putStringAt_0 18 rfl rfl)
abbrev cJ5_inflateIfNeededFor : ByteArray := prog_27_method_71_code
def yJ5_inflateIfNeededFor : MethodName := ⟨RJ5, "inflateIfNeededFor", "(Ljava/lang/String;)V"⟩
def dkwJ5_inflateIfNeededFor_0 : List UInt8 := [178, 0, 18, 153, 0, 18, 42, 180, 0, 22, 43, 182, 0, 40, 159, 0, 7, 42, 182, 0, 195, 177]
abbrev dktJ5_inflateIfNeededFor_0 : List UInt8 := dkwJ5_inflateIfNeededFor_0 ++ []
theorem dksJ5_inflateIfNeededFor_0 : cJ5_inflateIfNeededFor.data.toList.drop 0 = dktJ5_inflateIfNeededFor_0 := by decide +kernel
theorem dJ5_inflateIfNeededFor_0 : decode cJ5_inflateIfNeededFor 0 = .ok (.getstatic 18, 3) := dk_178 0 18 (dk_at dksJ5_inflateIfNeededFor_0 0 rfl rfl)
theorem dJ5_inflateIfNeededFor_3 : decode cJ5_inflateIfNeededFor 3 = .ok (.ifCond .eq 18, 3) := dk_153 0 18 (dk_at dksJ5_inflateIfNeededFor_0 3 rfl rfl)
theorem dJ5_inflateIfNeededFor_6 : decode cJ5_inflateIfNeededFor 6 = .ok (.aload_n 0, 1) := dk_42 (dk_at dksJ5_inflateIfNeededFor_0 6 rfl rfl)
theorem dJ5_inflateIfNeededFor_7 : decode cJ5_inflateIfNeededFor 7 = .ok (.getfield 22, 3) := dk_180 0 22 (dk_at dksJ5_inflateIfNeededFor_0 7 rfl rfl)
theorem dJ5_inflateIfNeededFor_10 : decode cJ5_inflateIfNeededFor 10 = .ok (.aload_n 1, 1) := dk_43 (dk_at dksJ5_inflateIfNeededFor_0 10 rfl rfl)
theorem dJ5_inflateIfNeededFor_11 : decode cJ5_inflateIfNeededFor 11 = .ok (.invokevirtual 40, 3) := dk_182 0 40 (dk_at dksJ5_inflateIfNeededFor_0 11 rfl rfl)
theorem dJ5_inflateIfNeededFor_14 : decode cJ5_inflateIfNeededFor 14 = .ok (.if_icmp .eq 7, 3) := dk_159 0 7 (dk_at dksJ5_inflateIfNeededFor_0 14 rfl rfl)
theorem dJ5_inflateIfNeededFor_17 : decode cJ5_inflateIfNeededFor 17 = .ok (.aload_n 0, 1) := dk_42 (dk_at dksJ5_inflateIfNeededFor_0 17 rfl rfl)
theorem dJ5_inflateIfNeededFor_18 : decode cJ5_inflateIfNeededFor 18 = .ok (.invokevirtual 195, 3) := dk_182 0 195 (dk_at dksJ5_inflateIfNeededFor_0 18 rfl rfl)
theorem dJ5_inflateIfNeededFor_21 : decode cJ5_inflateIfNeededFor 21 = .ok (.return_, 1) := dk_177 (dk_at dksJ5_inflateIfNeededFor_0 21 rfl rfl)
abbrev cJ5_compareTo : ByteArray := prog_27_method_5_code
def yJ5_compareTo : MethodName := ⟨RJ5, "compareTo", "(Ljava/lang/AbstractStringBuilder;)I"⟩
def dkwJ5_compareTo_4 : List UInt8 := [184, 0, 97, 172]
abbrev dktJ5_compareTo_4 : List UInt8 := dkwJ5_compareTo_4 ++ []
def dkwJ5_compareTo_3 : List UInt8 := [182, 0, 83, 153, 0, 15, 44, 45, 21, 4, 21, 5, 184, 0, 94, 167, 0, 12, 44, 45, 21, 4, 21, 5]
abbrev dktJ5_compareTo_3 : List UInt8 := dkwJ5_compareTo_3 ++ dktJ5_compareTo_4
def dkwJ5_compareTo_2 : List UInt8 := [45, 21, 4, 21, 5, 184, 0, 87, 167, 0, 12, 44, 45, 21, 4, 21, 5, 184, 0, 93, 172, 42]
abbrev dktJ5_compareTo_2 : List UInt8 := dkwJ5_compareTo_2 ++ dktJ5_compareTo_3
def dkwJ5_compareTo_1 : List UInt8 := [180, 0, 79, 54, 5, 42, 180, 0, 22, 43, 180, 0, 22, 160, 0, 32, 42, 182, 0, 83, 153, 0, 15, 44]
abbrev dktJ5_compareTo_1 : List UInt8 := dkwJ5_compareTo_1 ++ dktJ5_compareTo_2
def dkwJ5_compareTo_0 : List UInt8 := [42, 43, 166, 0, 5, 3, 172, 42, 180, 0, 15, 77, 43, 180, 0, 15, 78, 42, 180, 0, 79, 54, 4, 43]
abbrev dktJ5_compareTo_0 : List UInt8 := dkwJ5_compareTo_0 ++ dktJ5_compareTo_1
theorem dksJ5_compareTo_0 : cJ5_compareTo.data.toList.drop 0 = dktJ5_compareTo_0 := by decide +kernel
theorem dksJ5_compareTo_1 : cJ5_compareTo.data.toList.drop 24 = dktJ5_compareTo_1 := dk_seg dksJ5_compareTo_0 24 rfl rfl
theorem dksJ5_compareTo_2 : cJ5_compareTo.data.toList.drop 48 = dktJ5_compareTo_2 := dk_seg dksJ5_compareTo_1 24 rfl rfl
theorem dksJ5_compareTo_3 : cJ5_compareTo.data.toList.drop 70 = dktJ5_compareTo_3 := dk_seg dksJ5_compareTo_2 22 rfl rfl
theorem dksJ5_compareTo_4 : cJ5_compareTo.data.toList.drop 94 = dktJ5_compareTo_4 := dk_seg dksJ5_compareTo_3 24 rfl rfl
theorem dJ5_compareTo_0 : decode cJ5_compareTo 0 = .ok (.aload_n 0, 1) := dk_42 (dk_at dksJ5_compareTo_0 0 rfl rfl)
theorem dJ5_compareTo_1 : decode cJ5_compareTo 1 = .ok (.aload_n 1, 1) := dk_43 (dk_at dksJ5_compareTo_0 1 rfl rfl)
theorem dJ5_compareTo_2 : decode cJ5_compareTo 2 = .ok (.if_acmp .ne 5, 3) := dk_166 0 5 (dk_at dksJ5_compareTo_0 2 rfl rfl)
theorem dJ5_compareTo_5 : decode cJ5_compareTo 5 = .ok (.iconst 0, 1) := dk_3 (dk_at dksJ5_compareTo_0 5 rfl rfl)
theorem dJ5_compareTo_6 : decode cJ5_compareTo 6 = .ok (.ireturn, 1) := dk_172 (dk_at dksJ5_compareTo_0 6 rfl rfl)
theorem dJ5_compareTo_7 : decode cJ5_compareTo 7 = .ok (.aload_n 0, 1) := dk_42 (dk_at dksJ5_compareTo_0 7 rfl rfl)
theorem dJ5_compareTo_8 : decode cJ5_compareTo 8 = .ok (.getfield 15, 3) := dk_180 0 15 (dk_at dksJ5_compareTo_0 8 rfl rfl)
theorem dJ5_compareTo_11 : decode cJ5_compareTo 11 = .ok (.astore_n 2, 1) := dk_77 (dk_at dksJ5_compareTo_0 11 rfl rfl)
theorem dJ5_compareTo_12 : decode cJ5_compareTo 12 = .ok (.aload_n 1, 1) := dk_43 (dk_at dksJ5_compareTo_0 12 rfl rfl)
theorem dJ5_compareTo_13 : decode cJ5_compareTo 13 = .ok (.getfield 15, 3) := dk_180 0 15 (dk_at dksJ5_compareTo_0 13 rfl rfl)
theorem dJ5_compareTo_16 : decode cJ5_compareTo 16 = .ok (.astore_n 3, 1) := dk_78 (dk_at dksJ5_compareTo_0 16 rfl rfl)
theorem dJ5_compareTo_17 : decode cJ5_compareTo 17 = .ok (.aload_n 0, 1) := dk_42 (dk_at dksJ5_compareTo_0 17 rfl rfl)
theorem dJ5_compareTo_18 : decode cJ5_compareTo 18 = .ok (.getfield 79, 3) := dk_180 0 79 (dk_at dksJ5_compareTo_0 18 rfl rfl)
theorem dJ5_compareTo_21 : decode cJ5_compareTo 21 = .ok (.istore 4, 2) := dk_54 4 (dk_at dksJ5_compareTo_0 21 rfl rfl)
theorem dJ5_compareTo_23 : decode cJ5_compareTo 23 = .ok (.aload_n 1, 1) := dk_43 (dk_at dksJ5_compareTo_0 23 rfl rfl)
theorem dJ5_compareTo_24 : decode cJ5_compareTo 24 = .ok (.getfield 79, 3) := dk_180 0 79 (dk_at dksJ5_compareTo_1 0 rfl rfl)
theorem dJ5_compareTo_27 : decode cJ5_compareTo 27 = .ok (.istore 5, 2) := dk_54 5 (dk_at dksJ5_compareTo_1 3 rfl rfl)
theorem dJ5_compareTo_29 : decode cJ5_compareTo 29 = .ok (.aload_n 0, 1) := dk_42 (dk_at dksJ5_compareTo_1 5 rfl rfl)
theorem dJ5_compareTo_30 : decode cJ5_compareTo 30 = .ok (.getfield 22, 3) := dk_180 0 22 (dk_at dksJ5_compareTo_1 6 rfl rfl)
theorem dJ5_compareTo_33 : decode cJ5_compareTo 33 = .ok (.aload_n 1, 1) := dk_43 (dk_at dksJ5_compareTo_1 9 rfl rfl)
theorem dJ5_compareTo_34 : decode cJ5_compareTo 34 = .ok (.getfield 22, 3) := dk_180 0 22 (dk_at dksJ5_compareTo_1 10 rfl rfl)
theorem dJ5_compareTo_37 : decode cJ5_compareTo 37 = .ok (.if_icmp .ne 32, 3) := dk_160 0 32 (dk_at dksJ5_compareTo_1 13 rfl rfl)
theorem dJ5_compareTo_40 : decode cJ5_compareTo 40 = .ok (.aload_n 0, 1) := dk_42 (dk_at dksJ5_compareTo_1 16 rfl rfl)
theorem dJ5_compareTo_41 : decode cJ5_compareTo 41 = .ok (.invokevirtual 83, 3) := dk_182 0 83 (dk_at dksJ5_compareTo_1 17 rfl rfl)
theorem dJ5_compareTo_44 : decode cJ5_compareTo 44 = .ok (.ifCond .eq 15, 3) := dk_153 0 15 (dk_at dksJ5_compareTo_1 20 rfl rfl)
theorem dJ5_compareTo_47 : decode cJ5_compareTo 47 = .ok (.aload_n 2, 1) := dk_44 (dk_at dksJ5_compareTo_1 23 rfl rfl)
theorem dJ5_compareTo_48 : decode cJ5_compareTo 48 = .ok (.aload_n 3, 1) := dk_45 (dk_at dksJ5_compareTo_2 0 rfl rfl)
theorem dJ5_compareTo_49 : decode cJ5_compareTo 49 = .ok (.iload 4, 2) := dk_21 4 (dk_at dksJ5_compareTo_2 1 rfl rfl)
theorem dJ5_compareTo_51 : decode cJ5_compareTo 51 = .ok (.iload 5, 2) := dk_21 5 (dk_at dksJ5_compareTo_2 3 rfl rfl)
theorem dJ5_compareTo_53 : decode cJ5_compareTo 53 = .ok (.invokestatic 87, 3) := dk_184 0 87 (dk_at dksJ5_compareTo_2 5 rfl rfl)
theorem dJ5_compareTo_56 : decode cJ5_compareTo 56 = .ok (.goto 12, 3) := dk_167 0 12 (dk_at dksJ5_compareTo_2 8 rfl rfl)
theorem dJ5_compareTo_59 : decode cJ5_compareTo 59 = .ok (.aload_n 2, 1) := dk_44 (dk_at dksJ5_compareTo_2 11 rfl rfl)
theorem dJ5_compareTo_60 : decode cJ5_compareTo 60 = .ok (.aload_n 3, 1) := dk_45 (dk_at dksJ5_compareTo_2 12 rfl rfl)
theorem dJ5_compareTo_61 : decode cJ5_compareTo 61 = .ok (.iload 4, 2) := dk_21 4 (dk_at dksJ5_compareTo_2 13 rfl rfl)
theorem dJ5_compareTo_63 : decode cJ5_compareTo 63 = .ok (.iload 5, 2) := dk_21 5 (dk_at dksJ5_compareTo_2 15 rfl rfl)
theorem dJ5_compareTo_65 : decode cJ5_compareTo 65 = .ok (.invokestatic 93, 3) := dk_184 0 93 (dk_at dksJ5_compareTo_2 17 rfl rfl)
theorem dJ5_compareTo_68 : decode cJ5_compareTo 68 = .ok (.ireturn, 1) := dk_172 (dk_at dksJ5_compareTo_2 20 rfl rfl)
theorem dJ5_compareTo_69 : decode cJ5_compareTo 69 = .ok (.aload_n 0, 1) := dk_42 (dk_at dksJ5_compareTo_2 21 rfl rfl)
theorem dJ5_compareTo_70 : decode cJ5_compareTo 70 = .ok (.invokevirtual 83, 3) := dk_182 0 83 (dk_at dksJ5_compareTo_3 0 rfl rfl)
theorem dJ5_compareTo_73 : decode cJ5_compareTo 73 = .ok (.ifCond .eq 15, 3) := dk_153 0 15 (dk_at dksJ5_compareTo_3 3 rfl rfl)
theorem dJ5_compareTo_76 : decode cJ5_compareTo 76 = .ok (.aload_n 2, 1) := dk_44 (dk_at dksJ5_compareTo_3 6 rfl rfl)
theorem dJ5_compareTo_77 : decode cJ5_compareTo 77 = .ok (.aload_n 3, 1) := dk_45 (dk_at dksJ5_compareTo_3 7 rfl rfl)
theorem dJ5_compareTo_78 : decode cJ5_compareTo 78 = .ok (.iload 4, 2) := dk_21 4 (dk_at dksJ5_compareTo_3 8 rfl rfl)
theorem dJ5_compareTo_80 : decode cJ5_compareTo 80 = .ok (.iload 5, 2) := dk_21 5 (dk_at dksJ5_compareTo_3 10 rfl rfl)
theorem dJ5_compareTo_82 : decode cJ5_compareTo 82 = .ok (.invokestatic 94, 3) := dk_184 0 94 (dk_at dksJ5_compareTo_3 12 rfl rfl)
theorem dJ5_compareTo_85 : decode cJ5_compareTo 85 = .ok (.goto 12, 3) := dk_167 0 12 (dk_at dksJ5_compareTo_3 15 rfl rfl)
theorem dJ5_compareTo_88 : decode cJ5_compareTo 88 = .ok (.aload_n 2, 1) := dk_44 (dk_at dksJ5_compareTo_3 18 rfl rfl)
theorem dJ5_compareTo_89 : decode cJ5_compareTo 89 = .ok (.aload_n 3, 1) := dk_45 (dk_at dksJ5_compareTo_3 19 rfl rfl)
theorem dJ5_compareTo_90 : decode cJ5_compareTo 90 = .ok (.iload 4, 2) := dk_21 4 (dk_at dksJ5_compareTo_3 20 rfl rfl)
theorem dJ5_compareTo_92 : decode cJ5_compareTo 92 = .ok (.iload 5, 2) := dk_21 5 (dk_at dksJ5_compareTo_3 22 rfl rfl)
theorem dJ5_compareTo_94 : decode cJ5_compareTo 94 = .ok (.invokestatic 97, 3) := dk_184 0 97 (dk_at dksJ5_compareTo_4 0 rfl rfl)
theorem dJ5_compareTo_97 : decode cJ5_compareTo 97 = .ok (.ireturn, 1) := dk_172 (dk_at dksJ5_compareTo_4 3 rfl rfl)
abbrev cJ5_setLength : ByteArray := prog_27_method_13_code
def yJ5_setLength : MethodName := ⟨RJ5, "setLength", "(I)V"⟩
def dkwJ5_setLength_3 : List UInt8 := [164, 0, 8, 42, 4, 181, 0, 73, 42, 27, 181, 0, 79, 177]
abbrev dktJ5_setLength_3 : List UInt8 := dkwJ5_setLength_3 ++ []
def dkwJ5_setLength_2 : List UInt8 := [167, 0, 31, 42, 180, 0, 15, 42, 180, 0, 79, 27, 184, 0, 137, 167, 0, 16, 42, 180, 0, 79, 27]
abbrev dktJ5_setLength_2 : List UInt8 := dkwJ5_setLength_2 ++ dktJ5_setLength_3
def dkwJ5_setLength_1 : List UInt8 := [162, 0, 40, 42, 182, 0, 83, 153, 0, 18, 42, 180, 0, 15, 42, 180, 0, 79, 27, 184, 0, 133]
abbrev dktJ5_setLength_1 : List UInt8 := dkwJ5_setLength_1 ++ dktJ5_setLength_2
def dkwJ5_setLength_0 : List UInt8 := [27, 156, 0, 12, 187, 0, 129, 89, 27, 183, 0, 131, 191, 42, 27, 182, 0, 100, 42, 180, 0, 79, 27]
abbrev dktJ5_setLength_0 : List UInt8 := dkwJ5_setLength_0 ++ dktJ5_setLength_1
theorem dksJ5_setLength_0 : cJ5_setLength.data.toList.drop 0 = dktJ5_setLength_0 := by decide +kernel
theorem dksJ5_setLength_1 : cJ5_setLength.data.toList.drop 23 = dktJ5_setLength_1 := dk_seg dksJ5_setLength_0 23 rfl rfl
theorem dksJ5_setLength_2 : cJ5_setLength.data.toList.drop 45 = dktJ5_setLength_2 := dk_seg dksJ5_setLength_1 22 rfl rfl
theorem dksJ5_setLength_3 : cJ5_setLength.data.toList.drop 68 = dktJ5_setLength_3 := dk_seg dksJ5_setLength_2 23 rfl rfl
theorem dJ5_setLength_0 : decode cJ5_setLength 0 = .ok (.iload_n 1, 1) := dk_27 (dk_at dksJ5_setLength_0 0 rfl rfl)
theorem dJ5_setLength_1 : decode cJ5_setLength 1 = .ok (.ifCond .ge 12, 3) := dk_156 0 12 (dk_at dksJ5_setLength_0 1 rfl rfl)
theorem dJ5_setLength_4 : decode cJ5_setLength 4 = .ok (.new 129, 3) := dk_187 0 129 (dk_at dksJ5_setLength_0 4 rfl rfl)
theorem dJ5_setLength_7 : decode cJ5_setLength 7 = .ok (.dup, 1) := dk_89 (dk_at dksJ5_setLength_0 7 rfl rfl)
theorem dJ5_setLength_8 : decode cJ5_setLength 8 = .ok (.iload_n 1, 1) := dk_27 (dk_at dksJ5_setLength_0 8 rfl rfl)
theorem dJ5_setLength_9 : decode cJ5_setLength 9 = .ok (.invokespecial 131, 3) := dk_183 0 131 (dk_at dksJ5_setLength_0 9 rfl rfl)
theorem dJ5_setLength_12 : decode cJ5_setLength 12 = .ok (.athrow, 1) := dk_191 (dk_at dksJ5_setLength_0 12 rfl rfl)
theorem dJ5_setLength_13 : decode cJ5_setLength 13 = .ok (.aload_n 0, 1) := dk_42 (dk_at dksJ5_setLength_0 13 rfl rfl)
theorem dJ5_setLength_14 : decode cJ5_setLength 14 = .ok (.iload_n 1, 1) := dk_27 (dk_at dksJ5_setLength_0 14 rfl rfl)
theorem dJ5_setLength_15 : decode cJ5_setLength 15 = .ok (.invokevirtual 100, 3) := dk_182 0 100 (dk_at dksJ5_setLength_0 15 rfl rfl)
theorem dJ5_setLength_18 : decode cJ5_setLength 18 = .ok (.aload_n 0, 1) := dk_42 (dk_at dksJ5_setLength_0 18 rfl rfl)
theorem dJ5_setLength_19 : decode cJ5_setLength 19 = .ok (.getfield 79, 3) := dk_180 0 79 (dk_at dksJ5_setLength_0 19 rfl rfl)
theorem dJ5_setLength_22 : decode cJ5_setLength 22 = .ok (.iload_n 1, 1) := dk_27 (dk_at dksJ5_setLength_0 22 rfl rfl)
theorem dJ5_setLength_23 : decode cJ5_setLength 23 = .ok (.if_icmp .ge 40, 3) := dk_162 0 40 (dk_at dksJ5_setLength_1 0 rfl rfl)
theorem dJ5_setLength_26 : decode cJ5_setLength 26 = .ok (.aload_n 0, 1) := dk_42 (dk_at dksJ5_setLength_1 3 rfl rfl)
theorem dJ5_setLength_27 : decode cJ5_setLength 27 = .ok (.invokevirtual 83, 3) := dk_182 0 83 (dk_at dksJ5_setLength_1 4 rfl rfl)
theorem dJ5_setLength_30 : decode cJ5_setLength 30 = .ok (.ifCond .eq 18, 3) := dk_153 0 18 (dk_at dksJ5_setLength_1 7 rfl rfl)
theorem dJ5_setLength_33 : decode cJ5_setLength 33 = .ok (.aload_n 0, 1) := dk_42 (dk_at dksJ5_setLength_1 10 rfl rfl)
theorem dJ5_setLength_34 : decode cJ5_setLength 34 = .ok (.getfield 15, 3) := dk_180 0 15 (dk_at dksJ5_setLength_1 11 rfl rfl)
theorem dJ5_setLength_37 : decode cJ5_setLength 37 = .ok (.aload_n 0, 1) := dk_42 (dk_at dksJ5_setLength_1 14 rfl rfl)
theorem dJ5_setLength_38 : decode cJ5_setLength 38 = .ok (.getfield 79, 3) := dk_180 0 79 (dk_at dksJ5_setLength_1 15 rfl rfl)
theorem dJ5_setLength_41 : decode cJ5_setLength 41 = .ok (.iload_n 1, 1) := dk_27 (dk_at dksJ5_setLength_1 18 rfl rfl)
theorem dJ5_setLength_42 : decode cJ5_setLength 42 = .ok (.invokestatic 133, 3) := dk_184 0 133 (dk_at dksJ5_setLength_1 19 rfl rfl)
theorem dJ5_setLength_45 : decode cJ5_setLength 45 = .ok (.goto 31, 3) := dk_167 0 31 (dk_at dksJ5_setLength_2 0 rfl rfl)
theorem dJ5_setLength_48 : decode cJ5_setLength 48 = .ok (.aload_n 0, 1) := dk_42 (dk_at dksJ5_setLength_2 3 rfl rfl)
theorem dJ5_setLength_49 : decode cJ5_setLength 49 = .ok (.getfield 15, 3) := dk_180 0 15 (dk_at dksJ5_setLength_2 4 rfl rfl)
theorem dJ5_setLength_52 : decode cJ5_setLength 52 = .ok (.aload_n 0, 1) := dk_42 (dk_at dksJ5_setLength_2 7 rfl rfl)
theorem dJ5_setLength_53 : decode cJ5_setLength 53 = .ok (.getfield 79, 3) := dk_180 0 79 (dk_at dksJ5_setLength_2 8 rfl rfl)
theorem dJ5_setLength_56 : decode cJ5_setLength 56 = .ok (.iload_n 1, 1) := dk_27 (dk_at dksJ5_setLength_2 11 rfl rfl)
theorem dJ5_setLength_57 : decode cJ5_setLength 57 = .ok (.invokestatic 137, 3) := dk_184 0 137 (dk_at dksJ5_setLength_2 12 rfl rfl)
theorem dJ5_setLength_60 : decode cJ5_setLength 60 = .ok (.goto 16, 3) := dk_167 0 16 (dk_at dksJ5_setLength_2 15 rfl rfl)
theorem dJ5_setLength_63 : decode cJ5_setLength 63 = .ok (.aload_n 0, 1) := dk_42 (dk_at dksJ5_setLength_2 18 rfl rfl)
theorem dJ5_setLength_64 : decode cJ5_setLength 64 = .ok (.getfield 79, 3) := dk_180 0 79 (dk_at dksJ5_setLength_2 19 rfl rfl)
theorem dJ5_setLength_67 : decode cJ5_setLength 67 = .ok (.iload_n 1, 1) := dk_27 (dk_at dksJ5_setLength_2 22 rfl rfl)
theorem dJ5_setLength_68 : decode cJ5_setLength 68 = .ok (.if_icmp .le 8, 3) := dk_164 0 8 (dk_at dksJ5_setLength_3 0 rfl rfl)
theorem dJ5_setLength_71 : decode cJ5_setLength 71 = .ok (.aload_n 0, 1) := dk_42 (dk_at dksJ5_setLength_3 3 rfl rfl)
theorem dJ5_setLength_72 : decode cJ5_setLength 72 = .ok (.iconst 1, 1) := dk_4 (dk_at dksJ5_setLength_3 4 rfl rfl)
theorem dJ5_setLength_73 : decode cJ5_setLength 73 = .ok (.putfield 73, 3) := dk_181 0 73 (dk_at dksJ5_setLength_3 5 rfl rfl)
theorem dJ5_setLength_76 : decode cJ5_setLength 76 = .ok (.aload_n 0, 1) := dk_42 (dk_at dksJ5_setLength_3 8 rfl rfl)
theorem dJ5_setLength_77 : decode cJ5_setLength 77 = .ok (.iload_n 1, 1) := dk_27 (dk_at dksJ5_setLength_3 9 rfl rfl)
theorem dJ5_setLength_78 : decode cJ5_setLength 78 = .ok (.putfield 79, 3) := dk_181 0 79 (dk_at dksJ5_setLength_3 10 rfl rfl)
theorem dJ5_setLength_81 : decode cJ5_setLength 81 = .ok (.return_, 1) := dk_177 (dk_at dksJ5_setLength_3 13 rfl rfl)
abbrev cJ5_append_4 : ByteArray := prog_27_method_33_code
def yJ5_append_4 : MethodName := ⟨RJ5, "append", "(J)Ljava/lang/AbstractStringBuilder;"⟩
def dkwJ5_append_4_2 : List UInt8 := [180, 0, 15, 184, 1, 6, 87, 42, 21, 4, 181, 0, 79, 42, 176]
abbrev dktJ5_append_4_2 : List UInt8 := dkwJ5_append_4_2 ++ []
def dkwJ5_append_4_1 : List UInt8 := [153, 0, 17, 31, 21, 4, 42, 180, 0, 15, 184, 1, 3, 87, 167, 0, 15, 31, 29, 21, 4, 42]
abbrev dktJ5_append_4_1 : List UInt8 := dkwJ5_append_4_1 ++ dktJ5_append_4_2
def dkwJ5_append_4_0 : List UInt8 := [42, 180, 0, 79, 62, 29, 31, 184, 0, 254, 96, 54, 4, 42, 21, 4, 182, 0, 100, 42, 182, 0, 83]
abbrev dktJ5_append_4_0 : List UInt8 := dkwJ5_append_4_0 ++ dktJ5_append_4_1
theorem dksJ5_append_4_0 : cJ5_append_4.data.toList.drop 0 = dktJ5_append_4_0 := by decide +kernel
theorem dksJ5_append_4_1 : cJ5_append_4.data.toList.drop 23 = dktJ5_append_4_1 := dk_seg dksJ5_append_4_0 23 rfl rfl
theorem dksJ5_append_4_2 : cJ5_append_4.data.toList.drop 45 = dktJ5_append_4_2 := dk_seg dksJ5_append_4_1 22 rfl rfl
theorem dJ5_append_4_0 : decode cJ5_append_4 0 = .ok (.aload_n 0, 1) := dk_42 (dk_at dksJ5_append_4_0 0 rfl rfl)
theorem dJ5_append_4_1 : decode cJ5_append_4 1 = .ok (.getfield 79, 3) := dk_180 0 79 (dk_at dksJ5_append_4_0 1 rfl rfl)
theorem dJ5_append_4_4 : decode cJ5_append_4 4 = .ok (.istore_n 3, 1) := dk_62 (dk_at dksJ5_append_4_0 4 rfl rfl)
theorem dJ5_append_4_5 : decode cJ5_append_4 5 = .ok (.iload_n 3, 1) := dk_29 (dk_at dksJ5_append_4_0 5 rfl rfl)
theorem dJ5_append_4_6 : decode cJ5_append_4 6 = .ok (.lload_n 1, 1) := dk_31 (dk_at dksJ5_append_4_0 6 rfl rfl)
theorem dJ5_append_4_7 : decode cJ5_append_4 7 = .ok (.invokestatic 254, 3) := dk_184 0 254 (dk_at dksJ5_append_4_0 7 rfl rfl)
theorem dJ5_append_4_10 : decode cJ5_append_4 10 = .ok (.iadd, 1) := dk_96 (dk_at dksJ5_append_4_0 10 rfl rfl)
theorem dJ5_append_4_11 : decode cJ5_append_4 11 = .ok (.istore 4, 2) := dk_54 4 (dk_at dksJ5_append_4_0 11 rfl rfl)
theorem dJ5_append_4_13 : decode cJ5_append_4 13 = .ok (.aload_n 0, 1) := dk_42 (dk_at dksJ5_append_4_0 13 rfl rfl)
theorem dJ5_append_4_14 : decode cJ5_append_4 14 = .ok (.iload 4, 2) := dk_21 4 (dk_at dksJ5_append_4_0 14 rfl rfl)
theorem dJ5_append_4_16 : decode cJ5_append_4 16 = .ok (.invokevirtual 100, 3) := dk_182 0 100 (dk_at dksJ5_append_4_0 16 rfl rfl)
theorem dJ5_append_4_19 : decode cJ5_append_4 19 = .ok (.aload_n 0, 1) := dk_42 (dk_at dksJ5_append_4_0 19 rfl rfl)
theorem dJ5_append_4_20 : decode cJ5_append_4 20 = .ok (.invokevirtual 83, 3) := dk_182 0 83 (dk_at dksJ5_append_4_0 20 rfl rfl)
theorem dJ5_append_4_23 : decode cJ5_append_4 23 = .ok (.ifCond .eq 17, 3) := dk_153 0 17 (dk_at dksJ5_append_4_1 0 rfl rfl)
theorem dJ5_append_4_26 : decode cJ5_append_4 26 = .ok (.lload_n 1, 1) := dk_31 (dk_at dksJ5_append_4_1 3 rfl rfl)
theorem dJ5_append_4_27 : decode cJ5_append_4 27 = .ok (.iload 4, 2) := dk_21 4 (dk_at dksJ5_append_4_1 4 rfl rfl)
theorem dJ5_append_4_29 : decode cJ5_append_4 29 = .ok (.aload_n 0, 1) := dk_42 (dk_at dksJ5_append_4_1 6 rfl rfl)
theorem dJ5_append_4_30 : decode cJ5_append_4 30 = .ok (.getfield 15, 3) := dk_180 0 15 (dk_at dksJ5_append_4_1 7 rfl rfl)
theorem dJ5_append_4_33 : decode cJ5_append_4 33 = .ok (.invokestatic 259, 3) := dk_184 1 3 (dk_at dksJ5_append_4_1 10 rfl rfl)
theorem dJ5_append_4_36 : decode cJ5_append_4 36 = .ok (.pop, 1) := dk_87 (dk_at dksJ5_append_4_1 13 rfl rfl)
theorem dJ5_append_4_37 : decode cJ5_append_4 37 = .ok (.goto 15, 3) := dk_167 0 15 (dk_at dksJ5_append_4_1 14 rfl rfl)
theorem dJ5_append_4_40 : decode cJ5_append_4 40 = .ok (.lload_n 1, 1) := dk_31 (dk_at dksJ5_append_4_1 17 rfl rfl)
theorem dJ5_append_4_41 : decode cJ5_append_4 41 = .ok (.iload_n 3, 1) := dk_29 (dk_at dksJ5_append_4_1 18 rfl rfl)
theorem dJ5_append_4_42 : decode cJ5_append_4 42 = .ok (.iload 4, 2) := dk_21 4 (dk_at dksJ5_append_4_1 19 rfl rfl)
theorem dJ5_append_4_44 : decode cJ5_append_4 44 = .ok (.aload_n 0, 1) := dk_42 (dk_at dksJ5_append_4_1 21 rfl rfl)
theorem dJ5_append_4_45 : decode cJ5_append_4 45 = .ok (.getfield 15, 3) := dk_180 0 15 (dk_at dksJ5_append_4_2 0 rfl rfl)
theorem dJ5_append_4_48 : decode cJ5_append_4 48 = .ok (.invokestatic 262, 3) := dk_184 1 6 (dk_at dksJ5_append_4_2 3 rfl rfl)
theorem dJ5_append_4_51 : decode cJ5_append_4 51 = .ok (.pop, 1) := dk_87 (dk_at dksJ5_append_4_2 6 rfl rfl)
theorem dJ5_append_4_52 : decode cJ5_append_4 52 = .ok (.aload_n 0, 1) := dk_42 (dk_at dksJ5_append_4_2 7 rfl rfl)
theorem dJ5_append_4_53 : decode cJ5_append_4 53 = .ok (.iload 4, 2) := dk_21 4 (dk_at dksJ5_append_4_2 8 rfl rfl)
theorem dJ5_append_4_55 : decode cJ5_append_4 55 = .ok (.putfield 79, 3) := dk_181 0 79 (dk_at dksJ5_append_4_2 10 rfl rfl)
theorem dJ5_append_4_58 : decode cJ5_append_4 58 = .ok (.aload_n 0, 1) := dk_42 (dk_at dksJ5_append_4_2 13 rfl rfl)
theorem dJ5_append_4_59 : decode cJ5_append_4 59 = .ok (.areturn, 1) := dk_176 (dk_at dksJ5_append_4_2 14 rfl rfl)
theorem q108 : (Jvm.Cond.initialized "java/lang/AbstractStringBuilder") ∈ lw_all := lw_g (lw_at lw_m1 10 rfl) rfl
theorem q473 : (Jvm.Cond.instanceMethod ({ cls := "java/lang/AbstractStringBuilder", name := "<init>", desc := "(I)V" } : Jvm.MethodName)) ∈ lw_all := lw_g (lw_at lw_m2 135 rfl) rfl
theorem q474 : (Jvm.Cond.code ({ cls := "java/lang/AbstractStringBuilder", name := "<init>", desc := "(I)V" } : Jvm.MethodName) prog_27_method_2_code (2 : Nat) (Option.none : Option Jvm.ClassFile.FieldType)) ∈ lw_all := lw_g (lw_at lw_m2 136 rfl) rfl
theorem q475 : (Jvm.Cond.methodLink "java/lang/AbstractStringBuilder" (3 : Nat) ({ cls := "java/lang/Object", name := "<init>", desc := "()V" } : Jvm.MethodName)) ∈ lw_all := lw_g (lw_at lw_m2 137 rfl) rfl
theorem q476 : (Jvm.Cond.fieldLink "java/lang/AbstractStringBuilder" (18 : Nat) "java/lang/String" "COMPACT_STRINGS" "Z") ∈ lw_all := lw_g (lw_at lw_m2 138 rfl) rfl
theorem q478 : (Jvm.Cond.methodLink "java/lang/AbstractStringBuilder" (26 : Nat) ({ cls := "java/lang/StringUTF16", name := "newBytesFor", desc := "(I)[B" } : Jvm.MethodName)) ∈ lw_all := lw_g (lw_at lw_m2 140 rfl) rfl
theorem q485 : (Jvm.Cond.fieldLink "java/lang/AbstractStringBuilder" (15 : Nat) "java/lang/AbstractStringBuilder" "value" "[B") ∈ lw_all := lw_g (lw_at lw_m2 147 rfl) rfl
theorem q486 : (Jvm.Cond.fieldLink "java/lang/AbstractStringBuilder" (22 : Nat) "java/lang/AbstractStringBuilder" "coder" "B") ∈ lw_all := lw_g (lw_at lw_m2 148 rfl) rfl
theorem q487 : (Jvm.Cond.fieldLink "java/lang/AbstractStringBuilder" (73 : Nat) "java/lang/AbstractStringBuilder" "maybeLatin1" "Z") ∈ lw_all := lw_g (lw_at lw_m2 149 rfl) rfl
theorem q489 : (Jvm.Cond.fieldLink "java/lang/AbstractStringBuilder" (79 : Nat) "java/lang/AbstractStringBuilder" "count" "I") ∈ lw_all := lw_g (lw_at lw_m2 151 rfl) rfl
theorem q491 : (Jvm.Cond.soleField "java/lang/AbstractStringBuilder" "value") ∈ lw_all := lw_g (lw_at lw_m2 153 rfl) rfl
theorem q493 : (Jvm.Cond.soleField "java/lang/AbstractStringBuilder" "coder") ∈ lw_all := lw_g (lw_at lw_m2 155 rfl) rfl
theorem q495 : (Jvm.Cond.soleField "java/lang/AbstractStringBuilder" "maybeLatin1") ∈ lw_all := lw_g (lw_at lw_m2 157 rfl) rfl
theorem q497 : (Jvm.Cond.soleField "java/lang/AbstractStringBuilder" "count") ∈ lw_all := lw_g (lw_at lw_m2 159 rfl) rfl
theorem q870 : (Jvm.Cond.instanceMethod ({ cls := "java/lang/AbstractStringBuilder", name := "length", desc := "()I" } : Jvm.MethodName)) ∈ lw_all := lw_g (lw_at lw_m4 52 rfl) rfl
theorem q871 : (Jvm.Cond.code ({ cls := "java/lang/AbstractStringBuilder", name := "length", desc := "()I" } : Jvm.MethodName) prog_27_method_6_code (1 : Nat) (Option.some Jvm.ClassFile.FieldType.int)) ∈ lw_all := lw_g (lw_at lw_m4 53 rfl) rfl
theorem q878 : (Jvm.Cond.instanceMethod ({ cls := "java/lang/AbstractStringBuilder", name := "charAt", desc := "(I)C" } : Jvm.MethodName)) ∈ lw_all := lw_g (lw_at lw_m4 60 rfl) rfl
theorem q879 : (Jvm.Cond.code ({ cls := "java/lang/AbstractStringBuilder", name := "charAt", desc := "(I)C" } : Jvm.MethodName) prog_27_method_14_code (5 : Nat) (Option.some Jvm.ClassFile.FieldType.char)) ∈ lw_all := lw_g (lw_at lw_m4 61 rfl) rfl
theorem q880 : (Jvm.Cond.methodLink "java/lang/AbstractStringBuilder" (138 : Nat) ({ cls := "java/lang/Math", name := "min", desc := "(II)I" } : Jvm.MethodName)) ∈ lw_all := lw_g (lw_at lw_m4 62 rfl) rfl
theorem q881 : (Jvm.Cond.methodLink "java/lang/AbstractStringBuilder" (144 : Nat) ({ cls := "java/lang/String", name := "checkIndex", desc := "(II)V" } : Jvm.MethodName)) ∈ lw_all := lw_g (lw_at lw_m4 63 rfl) rfl
theorem q889 : (Jvm.Cond.methodLink "java/lang/AbstractStringBuilder" (148 : Nat) ({ cls := "java/lang/StringUTF16", name := "getChar", desc := "([BI)C" } : Jvm.MethodName)) ∈ lw_all := lw_g (lw_at lw_m4 71 rfl) rfl
theorem q995 : (Jvm.Cond.instanceMethod ({ cls := "java/lang/AbstractStringBuilder", name := "append", desc := "(C)Ljava/lang/AbstractStringBuilder;" } : Jvm.MethodName)) ∈ lw_all := lw_g (lw_at lw_m4 177 rfl) rfl
theorem q996 : (Jvm.Cond.code ({ cls := "java/lang/AbstractStringBuilder", name := "append", desc := "(C)Ljava/lang/AbstractStringBuilder;" } : Jvm.MethodName) prog_27_method_31_code (2 : Nat) (Option.some (Jvm.ClassFile.FieldType.object "java/lang/AbstractStringBuilder"))) ∈ lw_all := lw_g (lw_at lw_m4 178 rfl) rfl
theorem q997 : (Jvm.Cond.methodLink "java/lang/AbstractStringBuilder" (100 : Nat) ({ cls := "java/lang/AbstractStringBuilder", name := "ensureCapacityInternal", desc := "(I)V" } : Jvm.MethodName)) ∈ lw_all := lw_g (lw_at lw_m4 179 rfl) rfl
theorem q998 : (Jvm.Cond.privateMethod ({ cls := "java/lang/AbstractStringBuilder", name := "ensureCapacityInternal", desc := "(I)V" } : Jvm.MethodName)) ∈ lw_tbl := lw_at lw_m4 180 rfl
theorem q999 : (Jvm.Cond.instanceMethod ({ cls := "java/lang/AbstractStringBuilder", name := "ensureCapacityInternal", desc := "(I)V" } : Jvm.MethodName)) ∈ lw_all := lw_g (lw_at lw_m4 181 rfl) rfl
theorem q1000 : (Jvm.Cond.code ({ cls := "java/lang/AbstractStringBuilder", name := "ensureCapacityInternal", desc := "(I)V" } : Jvm.MethodName) prog_27_method_9_code (3 : Nat) (Option.none : Option Jvm.ClassFile.FieldType)) ∈ lw_all := lw_g (lw_at lw_m4 182 rfl) rfl
theorem q1001 : (Jvm.Cond.methodLink "java/lang/AbstractStringBuilder" (104 : Nat) ({ cls := "java/lang/AbstractStringBuilder", name := "newCapacity", desc := "(I)I" } : Jvm.MethodName)) ∈ lw_all := lw_g (lw_at lw_m4 183 rfl) rfl
theorem q1002 : (Jvm.Cond.privateMethod ({ cls := "java/lang/AbstractStringBuilder", name := "newCapacity", desc := "(I)I" } : Jvm.MethodName)) ∈ lw_tbl := lw_at lw_m4 184 rfl
theorem q1003 : (Jvm.Cond.instanceMethod ({ cls := "java/lang/AbstractStringBuilder", name := "newCapacity", desc := "(I)I" } : Jvm.MethodName)) ∈ lw_all := lw_g (lw_at lw_m4 185 rfl) rfl
theorem q1004 : (Jvm.Cond.code ({ cls := "java/lang/AbstractStringBuilder", name := "newCapacity", desc := "(I)I" } : Jvm.MethodName) prog_27_method_10_code (6 : Nat) (Option.some Jvm.ClassFile.FieldType.int)) ∈ lw_all := lw_g (lw_at lw_m4 186 rfl) rfl
theorem q1005 : (Jvm.Cond.methodLink "java/lang/AbstractStringBuilder" (114 : Nat) ({ cls := "jdk/internal/util/ArraysSupport", name := "newLength", desc := "(III)I" } : Jvm.MethodName)) ∈ lw_all := lw_g (lw_at lw_m4 187 rfl) rfl
theorem q1013 : (Jvm.Cond.constant "java/lang/AbstractStringBuilder" (39 : Nat) (2147483647 : Int32)) ∈ lw_all := lw_g (lw_at lw_m4 195 rfl) rfl
theorem q1014 : (Jvm.Cond.methodLink "java/lang/AbstractStringBuilder" (108 : Nat) ({ cls := "java/util/Arrays", name := "copyOf", desc := "([BI)[B" } : Jvm.MethodName)) ∈ lw_all := lw_g (lw_at lw_m4 196 rfl) rfl
theorem q1024 : (Jvm.Cond.methodLink "java/lang/AbstractStringBuilder" (83 : Nat) ({ cls := "java/lang/AbstractStringBuilder", name := "isLatin1", desc := "()Z" } : Jvm.MethodName)) ∈ lw_all := lw_g (lw_at lw_m4 206 rfl) rfl
theorem q1025 : (Jvm.Cond.instanceMethod ({ cls := "java/lang/AbstractStringBuilder", name := "isLatin1", desc := "()Z" } : Jvm.MethodName)) ∈ lw_all := lw_g (lw_at lw_m4 207 rfl) rfl
theorem q1026 : (Jvm.Cond.sameMethod "java/lang/AbstractStringBuilder" "java/lang/AbstractStringBuilder" "isLatin1" "()Z") ∈ lw_all := lw_g (lw_at lw_m4 208 rfl) rfl
theorem q1028 : (Jvm.Cond.code ({ cls := "java/lang/AbstractStringBuilder", name := "isLatin1", desc := "()Z" } : Jvm.MethodName) prog_27_method_68_code (1 : Nat) (Option.some Jvm.ClassFile.FieldType.boolean)) ∈ lw_all := lw_g (lw_at lw_m4 210 rfl) rfl
theorem q1029 : (Jvm.Cond.methodLink "java/lang/AbstractStringBuilder" (191 : Nat) ({ cls := "java/lang/StringLatin1", name := "canEncode", desc := "(C)Z" } : Jvm.MethodName)) ∈ lw_all := lw_g (lw_at lw_m4 211 rfl) rfl
theorem q1032 : (Jvm.Cond.methodLink "java/lang/AbstractStringBuilder" (195 : Nat) ({ cls := "java/lang/AbstractStringBuilder", name := "inflate", desc := "()V" } : Jvm.MethodName)) ∈ lw_all := lw_g (lw_at lw_m4 214 rfl) rfl
theorem q1033 : (Jvm.Cond.privateMethod ({ cls := "java/lang/AbstractStringBuilder", name := "inflate", desc := "()V" } : Jvm.MethodName)) ∈ lw_tbl := lw_at lw_m4 215 rfl
theorem q1034 : (Jvm.Cond.instanceMethod ({ cls := "java/lang/AbstractStringBuilder", name := "inflate", desc := "()V" } : Jvm.MethodName)) ∈ lw_all := lw_g (lw_at lw_m4 216 rfl) rfl
theorem q1035 : (Jvm.Cond.code ({ cls := "java/lang/AbstractStringBuilder", name := "inflate", desc := "()V" } : Jvm.MethodName) prog_27_method_11_code (2 : Nat) (Option.none : Option Jvm.ClassFile.FieldType)) ∈ lw_all := lw_g (lw_at lw_m4 217 rfl) rfl
theorem q1036 : (Jvm.Cond.methodLink "java/lang/AbstractStringBuilder" (125 : Nat) ({ cls := "java/lang/StringLatin1", name := "inflate", desc := "([BI[BII)V" } : Jvm.MethodName)) ∈ lw_all := lw_g (lw_at lw_m4 218 rfl) rfl
theorem q1054 : (Jvm.Cond.methodLink "java/lang/AbstractStringBuilder" (197 : Nat) ({ cls := "java/lang/StringUTF16", name := "putCharSB", desc := "([BII)V" } : Jvm.MethodName)) ∈ lw_all := lw_g (lw_at lw_m4 236 rfl) rfl
theorem q1075 : (Jvm.Cond.instanceMethod ({ cls := "java/lang/AbstractStringBuilder", name := "getValue", desc := "()[B" } : Jvm.MethodName)) ∈ lw_all := lw_g (lw_at lw_m5 17 rfl) rfl
theorem q1076 : (Jvm.Cond.sameMethod "java/lang/AbstractStringBuilder" "java/lang/AbstractStringBuilder" "getValue" "()[B") ∈ lw_all := lw_g (lw_at lw_m5 18 rfl) rfl
theorem q1078 : (Jvm.Cond.code ({ cls := "java/lang/AbstractStringBuilder", name := "getValue", desc := "()[B" } : Jvm.MethodName) prog_27_method_64_code (1 : Nat) (Option.some (Jvm.ClassFile.FieldType.array Jvm.ClassFile.FieldType.byte))) ∈ lw_all := lw_g (lw_at lw_m5 20 rfl) rfl
theorem q1098 : (Jvm.Cond.instanceMethod ({ cls := "java/lang/AbstractStringBuilder", name := "append", desc := "(I)Ljava/lang/AbstractStringBuilder;" } : Jvm.MethodName)) ∈ lw_all := lw_g (lw_at lw_m5 40 rfl) rfl
theorem q1099 : (Jvm.Cond.code ({ cls := "java/lang/AbstractStringBuilder", name := "append", desc := "(I)Ljava/lang/AbstractStringBuilder;" } : Jvm.MethodName) prog_27_method_32_code (4 : Nat) (Option.some (Jvm.ClassFile.FieldType.object "java/lang/AbstractStringBuilder"))) ∈ lw_all := lw_g (lw_at lw_m5 41 rfl) rfl
theorem q1100 : (Jvm.Cond.methodLink "java/lang/AbstractStringBuilder" (245 : Nat) ({ cls := "java/lang/Integer", name := "stringSize", desc := "(I)I" } : Jvm.MethodName)) ∈ lw_all := lw_g (lw_at lw_m5 42 rfl) rfl
theorem q1103 : (Jvm.Cond.methodLink "java/lang/AbstractStringBuilder" (248 : Nat) ({ cls := "java/lang/Integer", name := "getChars", desc := "(II[B)I" } : Jvm.MethodName)) ∈ lw_all := lw_g (lw_at lw_m5 45 rfl) rfl
theorem q1110 : (Jvm.Cond.methodLink "java/lang/AbstractStringBuilder" (251 : Nat) ({ cls := "java/lang/StringUTF16", name := "getChars", desc := "(III[B)I" } : Jvm.MethodName)) ∈ lw_all := lw_g (lw_at lw_m5 52 rfl) rfl
theorem q1133 : (Jvm.Cond.instanceMethod ({ cls := "java/lang/AbstractStringBuilder", name := "append", desc := "(Ljava/lang/String;)Ljava/lang/AbstractStringBuilder;" } : Jvm.MethodName)) ∈ lw_all := lw_g (lw_at lw_m5 75 rfl) rfl
theorem q1134 : (Jvm.Cond.code ({ cls := "java/lang/AbstractStringBuilder", name := "append", desc := "(Ljava/lang/String;)Ljava/lang/AbstractStringBuilder;" } : Jvm.MethodName) prog_27_method_22_code (3 : Nat) (Option.some (Jvm.ClassFile.FieldType.object "java/lang/AbstractStringBuilder"))) ∈ lw_all := lw_g (lw_at lw_m5 76 rfl) rfl
theorem q1135 : (Jvm.Cond.methodLink "java/lang/AbstractStringBuilder" (204 : Nat) ({ cls := "java/lang/AbstractStringBuilder", name := "appendNull", desc := "()Ljava/lang/AbstractStringBuilder;" } : Jvm.MethodName)) ∈ lw_all := lw_g (lw_at lw_m5 77 rfl) rfl
theorem q1136 : (Jvm.Cond.privateMethod ({ cls := "java/lang/AbstractStringBuilder", name := "appendNull", desc := "()Ljava/lang/AbstractStringBuilder;" } : Jvm.MethodName)) ∈ lw_tbl := lw_at lw_m5 78 rfl
theorem q1137 : (Jvm.Cond.instanceMethod ({ cls := "java/lang/AbstractStringBuilder", name := "appendNull", desc := "()Ljava/lang/AbstractStringBuilder;" } : Jvm.MethodName)) ∈ lw_all := lw_g (lw_at lw_m5 79 rfl) rfl
theorem q1138 : (Jvm.Cond.code ({ cls := "java/lang/AbstractStringBuilder", name := "appendNull", desc := "()Ljava/lang/AbstractStringBuilder;" } : Jvm.MethodName) prog_27_method_26_code (3 : Nat) (Option.some (Jvm.ClassFile.FieldType.object "java/lang/AbstractStringBuilder"))) ∈ lw_all := lw_g (lw_at lw_m5 80 rfl) rfl
theorem q1139 : (Jvm.Cond.methodLink "java/lang/AbstractStringBuilder" (226 : Nat) ({ cls := "java/lang/StringUTF16", name := "putCharsAt", desc := "([BICCCC)I" } : Jvm.MethodName)) ∈ lw_all := lw_g (lw_at lw_m5 81 rfl) rfl
theorem q1142 : (Jvm.Cond.methodLink "java/lang/AbstractStringBuilder" (32 : Nat) ({ cls := "java/lang/String", name := "length", desc := "()I" } : Jvm.MethodName)) ∈ lw_all := lw_g (lw_at lw_m5 84 rfl) rfl
theorem q1151 : (Jvm.Cond.methodLink "java/lang/AbstractStringBuilder" (208 : Nat) ({ cls := "java/lang/AbstractStringBuilder", name := "putStringAt", desc := "(ILjava/lang/String;)V" } : Jvm.MethodName)) ∈ lw_all := lw_g (lw_at lw_m5 93 rfl) rfl
theorem q1152 : (Jvm.Cond.privateMethod ({ cls := "java/lang/AbstractStringBuilder", name := "putStringAt", desc := "(ILjava/lang/String;)V" } : Jvm.MethodName)) ∈ lw_tbl := lw_at lw_m5 94 rfl
theorem q1153 : (Jvm.Cond.instanceMethod ({ cls := "java/lang/AbstractStringBuilder", name := "putStringAt", desc := "(ILjava/lang/String;)V" } : Jvm.MethodName)) ∈ lw_all := lw_g (lw_at lw_m5 95 rfl) rfl
theorem q1154 : (Jvm.Cond.code ({ cls := "java/lang/AbstractStringBuilder", name := "putStringAt", desc := "(ILjava/lang/String;)V" } : Jvm.MethodName) prog_27_method_73_code (3 : Nat) (Option.none : Option Jvm.ClassFile.FieldType)) ∈ lw_all := lw_g (lw_at lw_m5 96 rfl) rfl
theorem q1155 : (Jvm.Cond.methodLink "java/lang/AbstractStringBuilder" (397 : Nat) ({ cls := "java/lang/AbstractStringBuilder", name := "inflateIfNeededFor", desc := "(Ljava/lang/String;)V" } : Jvm.MethodName)) ∈ lw_all := lw_g (lw_at lw_m5 97 rfl) rfl
theorem q1156 : (Jvm.Cond.privateMethod ({ cls := "java/lang/AbstractStringBuilder", name := "inflateIfNeededFor", desc := "(Ljava/lang/String;)V" } : Jvm.MethodName)) ∈ lw_tbl := lw_at lw_m5 98 rfl
theorem q1157 : (Jvm.Cond.instanceMethod ({ cls := "java/lang/AbstractStringBuilder", name := "inflateIfNeededFor", desc := "(Ljava/lang/String;)V" } : Jvm.MethodName)) ∈ lw_all := lw_g (lw_at lw_m5 99 rfl) rfl
theorem q1158 : (Jvm.Cond.code ({ cls := "java/lang/AbstractStringBuilder", name := "inflateIfNeededFor", desc := "(Ljava/lang/String;)V" } : Jvm.MethodName) prog_27_method_71_code (2 : Nat) (Option.none : Option Jvm.ClassFile.FieldType)) ∈ lw_all := lw_g (lw_at lw_m5 100 rfl) rfl
theorem q1159 : (Jvm.Cond.methodLink "java/lang/AbstractStringBuilder" (40 : Nat) ({ cls := "java/lang/String", name := "coder", desc := "()B" } : Jvm.MethodName)) ∈ lw_all := lw_g (lw_at lw_m5 101 rfl) rfl
theorem q1160 : (Jvm.Cond.methodLink "java/lang/AbstractStringBuilder" (399 : Nat) ({ cls := "java/lang/String", name := "getBytes", desc := "([BIB)V" } : Jvm.MethodName)) ∈ lw_all := lw_g (lw_at lw_m5 102 rfl) rfl
theorem q2143 : (Jvm.Cond.instanceMethod ({ cls := "java/lang/AbstractStringBuilder", name := "compareTo", desc := "(Ljava/lang/AbstractStringBuilder;)I" } : Jvm.MethodName)) ∈ lw_all := lw_g (lw_at lw_m9 125 rfl) rfl
theorem q2144 : (Jvm.Cond.code ({ cls := "java/lang/AbstractStringBuilder", name := "compareTo", desc := "(Ljava/lang/AbstractStringBuilder;)I" } : Jvm.MethodName) prog_27_method_5_code (6 : Nat) (Option.some Jvm.ClassFile.FieldType.int)) ∈ lw_all := lw_g (lw_at lw_m9 126 rfl) rfl
theorem q2145 : (Jvm.Cond.methodLink "java/lang/AbstractStringBuilder" (87 : Nat) ({ cls := "java/lang/StringLatin1", name := "compareTo", desc := "([B[BII)I" } : Jvm.MethodName)) ∈ lw_all := lw_g (lw_at lw_m9 127 rfl) rfl
theorem q2146 : (Jvm.Cond.methodLink "java/lang/AbstractStringBuilder" (93 : Nat) ({ cls := "java/lang/StringUTF16", name := "compareTo", desc := "([B[BII)I" } : Jvm.MethodName)) ∈ lw_all := lw_g (lw_at lw_m9 128 rfl) rfl
theorem q2155 : (Jvm.Cond.methodLink "java/lang/AbstractStringBuilder" (94 : Nat) ({ cls := "java/lang/StringLatin1", name := "compareToUTF16", desc := "([B[BII)I" } : Jvm.MethodName)) ∈ lw_all := lw_g (lw_at lw_m9 137 rfl) rfl
theorem q2159 : (Jvm.Cond.methodLink "java/lang/AbstractStringBuilder" (97 : Nat) ({ cls := "java/lang/StringUTF16", name := "compareToLatin1", desc := "([B[BII)I" } : Jvm.MethodName)) ∈ lw_all := lw_g (lw_at lw_m9 141 rfl) rfl
theorem q2492 : (Jvm.Cond.instanceMethod ({ cls := "java/lang/AbstractStringBuilder", name := "setLength", desc := "(I)V" } : Jvm.MethodName)) ∈ lw_all := lw_g (lw_at lw_m10 234 rfl) rfl
theorem q2493 : (Jvm.Cond.code ({ cls := "java/lang/AbstractStringBuilder", name := "setLength", desc := "(I)V" } : Jvm.MethodName) prog_27_method_13_code (2 : Nat) (Option.none : Option Jvm.ClassFile.FieldType)) ∈ lw_all := lw_g (lw_at lw_m10 235 rfl) rfl
theorem q2494 : (Jvm.Cond.methodLink "java/lang/AbstractStringBuilder" (133 : Nat) ({ cls := "java/lang/StringLatin1", name := "fillNull", desc := "([BII)V" } : Jvm.MethodName)) ∈ lw_all := lw_g (lw_at lw_m10 236 rfl) rfl
theorem q2506 : (Jvm.Cond.methodLink "java/lang/AbstractStringBuilder" (137 : Nat) ({ cls := "java/lang/StringUTF16", name := "fillNull", desc := "([BII)V" } : Jvm.MethodName)) ∈ lw_all := lw_g (lw_at lw_m11 8 rfl) rfl
theorem q2521 : (Jvm.Cond.instanceMethod ({ cls := "java/lang/AbstractStringBuilder", name := "append", desc := "(J)Ljava/lang/AbstractStringBuilder;" } : Jvm.MethodName)) ∈ lw_all := lw_g (lw_at lw_m11 23 rfl) rfl
theorem q2522 : (Jvm.Cond.code ({ cls := "java/lang/AbstractStringBuilder", name := "append", desc := "(J)Ljava/lang/AbstractStringBuilder;" } : Jvm.MethodName) prog_27_method_33_code (5 : Nat) (Option.some (Jvm.ClassFile.FieldType.object "java/lang/AbstractStringBuilder"))) ∈ lw_all := lw_g (lw_at lw_m11 24 rfl) rfl
theorem q2523 : (Jvm.Cond.methodLink "java/lang/AbstractStringBuilder" (254 : Nat) ({ cls := "java/lang/Long", name := "stringSize", desc := "(J)I" } : Jvm.MethodName)) ∈ lw_all := lw_g (lw_at lw_m11 25 rfl) rfl
theorem q2528 : (Jvm.Cond.methodLink "java/lang/AbstractStringBuilder" (259 : Nat) ({ cls := "java/lang/Long", name := "getChars", desc := "(JI[B)I" } : Jvm.MethodName)) ∈ lw_all := lw_g (lw_at lw_m11 30 rfl) rfl
theorem q2535 : (Jvm.Cond.methodLink "java/lang/AbstractStringBuilder" (262 : Nat) ({ cls := "java/lang/StringUTF16", name := "getChars", desc := "(JII[B)I" } : Jvm.MethodName)) ∈ lw_all := lw_g (lw_at lw_m11 37 rfl) rfl
theorem q3363 : (Jvm.Cond.sameMethod "java/lang/AbstractStringBuilder" "java/lang/AbstractStringBuilder" "length" "()I") ∈ lw_all := lw_g (lw_at lw_m14 145 rfl) rfl
theorem q3364 : (Jvm.Cond.sameMethod "java/lang/AbstractStringBuilder" "java/lang/AbstractStringBuilder" "charAt" "(I)C") ∈ lw_all := lw_g (lw_at lw_m14 146 rfl) rfl
theorem q3365 : (Jvm.Cond.sameMethod "java/lang/AbstractStringBuilder" "java/lang/AbstractStringBuilder" "append" "(C)Ljava/lang/AbstractStringBuilder;") ∈ lw_all := lw_g (lw_at lw_m14 147 rfl) rfl
theorem q3366 : (Jvm.Cond.sameMethod "java/lang/AbstractStringBuilder" "java/lang/AbstractStringBuilder" "ensureCapacityInternal" "(I)V") ∈ lw_all := lw_g (lw_at lw_m14 148 rfl) rfl
theorem q3367 : (Jvm.Cond.sameMethod "java/lang/AbstractStringBuilder" "java/lang/AbstractStringBuilder" "newCapacity" "(I)I") ∈ lw_all := lw_g (lw_at lw_m14 149 rfl) rfl
theorem q3368 : (Jvm.Cond.sameMethod "java/lang/AbstractStringBuilder" "java/lang/AbstractStringBuilder" "inflate" "()V") ∈ lw_all := lw_g (lw_at lw_m14 150 rfl) rfl
theorem q3370 : (Jvm.Cond.sameMethod "java/lang/AbstractStringBuilder" "java/lang/AbstractStringBuilder" "append" "(I)Ljava/lang/AbstractStringBuilder;") ∈ lw_all := lw_g (lw_at lw_m14 152 rfl) rfl
theorem q3371 : (Jvm.Cond.sameMethod "java/lang/AbstractStringBuilder" "java/lang/AbstractStringBuilder" "append" "(Ljava/lang/String;)Ljava/lang/AbstractStringBuilder;") ∈ lw_all := lw_g (lw_at lw_m14 153 rfl) rfl
theorem q3372 : (Jvm.Cond.sameMethod "java/lang/AbstractStringBuilder" "java/lang/AbstractStringBuilder" "appendNull" "()Ljava/lang/AbstractStringBuilder;") ∈ lw_all := lw_g (lw_at lw_m14 154 rfl) rfl
theorem q3373 : (Jvm.Cond.sameMethod "java/lang/AbstractStringBuilder" "java/lang/AbstractStringBuilder" "putStringAt" "(ILjava/lang/String;)V") ∈ lw_all := lw_g (lw_at lw_m14 155 rfl) rfl
theorem q3374 : (Jvm.Cond.sameMethod "java/lang/AbstractStringBuilder" "java/lang/AbstractStringBuilder" "inflateIfNeededFor" "(Ljava/lang/String;)V") ∈ lw_all := lw_g (lw_at lw_m14 156 rfl) rfl
theorem q3375 : (Jvm.Cond.sameMethod "java/lang/AbstractStringBuilder" "java/lang/AbstractStringBuilder" "compareTo" "(Ljava/lang/AbstractStringBuilder;)I") ∈ lw_all := lw_g (lw_at lw_m14 157 rfl) rfl
theorem q3376 : (Jvm.Cond.sameMethod "java/lang/AbstractStringBuilder" "java/lang/AbstractStringBuilder" "setLength" "(I)V") ∈ lw_all := lw_g (lw_at lw_m14 158 rfl) rfl
theorem q3377 : (Jvm.Cond.sameMethod "java/lang/AbstractStringBuilder" "java/lang/AbstractStringBuilder" "append" "(J)Ljava/lang/AbstractStringBuilder;") ∈ lw_all := lw_g (lw_at lw_m14 159 rfl) rfl
/-! java/lang/StringBuilder -/
set_option maxRecDepth 100000
def RJ6 : String := "java/lang/StringBuilder"
def TJ6 : u_T := fun k => match k with
  | 0 => ("java/lang/AbstractStringBuilder", "value", "[B", false)
  | 1 => ("java/lang/AbstractStringBuilder", "coder", "B", false)
  | 2 => ("java/lang/AbstractStringBuilder", "maybeLatin1", "Z", false)
  | _ => ("java/lang/AbstractStringBuilder", "count", "I", false)
def tyJ6 : Nat → FieldType := fun k => match k with
  | 0 => .array .byte
  | 1 => .byte
  | 2 => .boolean
  | _ => .int
abbrev wsJ60 : List Cond := u_ws RJ6 TJ6 4
theorem nmJ6 : ∀ a, a < 4 → ∀ b, b < 4 → a ≠ b → (TJ6 a).2.1 ≠ (TJ6 b).2.1 := by decide +kernel
theorem tyJ6_ok : ∀ k, k < 4 → parseFieldDescriptor (TJ6 k).2.2.1 = some (tyJ6 k) := by decide +kernel
abbrev cJ6_init : ByteArray := prog_42_method_1_code
def yJ6_init : MethodName := ⟨RJ6, "<init>", "()V"⟩
def dkwJ6_init_0 : List UInt8 := [42, 16, 16, 183, 0, 1, 177]
abbrev dktJ6_init_0 : List UInt8 := dkwJ6_init_0 ++ []
theorem dksJ6_init_0 : cJ6_init.data.toList.drop 0 = dktJ6_init_0 := by decide +kernel
theorem dJ6_init_0 : decode cJ6_init 0 = .ok (.aload_n 0, 1) := dk_42 (dk_at dksJ6_init_0 0 rfl rfl)
theorem dJ6_init_1 : decode cJ6_init 1 = .ok (.bipush 16, 2) := dk_16 16 (dk_at dksJ6_init_0 1 rfl rfl)
theorem dJ6_init_3 : decode cJ6_init 3 = .ok (.invokespecial 1, 3) := dk_183 0 1 (dk_at dksJ6_init_0 3 rfl rfl)
theorem dJ6_init_6 : decode cJ6_init 6 = .ok (.return_, 1) := dk_177 (dk_at dksJ6_init_0 6 rfl rfl)
abbrev cJ6_length : ByteArray := prog_42_method_93_code
def yJ6_length : MethodName := ⟨RJ6, "length", "()I"⟩
theorem dJ6_length_0 : decode cJ6_length 0 = .ok (.aload_n 0, 1) := by decide +kernel
theorem dJ6_length_1 : decode cJ6_length 1 = .ok (.invokespecial 343, 3) := by decide +kernel
theorem dJ6_length_4 : decode cJ6_length 4 = .ok (.ireturn, 1) := by decide +kernel
abbrev cJ6_charAt : ByteArray := prog_42_method_88_code
def yJ6_charAt : MethodName := ⟨RJ6, "charAt", "(I)C"⟩
def dkwJ6_charAt_0 : List UInt8 := [42, 27, 183, 1, 73, 172]
abbrev dktJ6_charAt_0 : List UInt8 := dkwJ6_charAt_0 ++ []
theorem dksJ6_charAt_0 : cJ6_charAt.data.toList.drop 0 = dktJ6_charAt_0 := by decide +kernel
theorem dJ6_charAt_0 : decode cJ6_charAt 0 = .ok (.aload_n 0, 1) := dk_42 (dk_at dksJ6_charAt_0 0 rfl rfl)
theorem dJ6_charAt_1 : decode cJ6_charAt 1 = .ok (.iload_n 1, 1) := dk_27 (dk_at dksJ6_charAt_0 1 rfl rfl)
theorem dJ6_charAt_2 : decode cJ6_charAt 2 = .ok (.invokespecial 329, 3) := dk_183 1 73 (dk_at dksJ6_charAt_0 2 rfl rfl)
theorem dJ6_charAt_5 : decode cJ6_charAt 5 = .ok (.ireturn, 1) := dk_172 (dk_at dksJ6_charAt_0 5 rfl rfl)
abbrev cJ6_append : ByteArray := prog_42_method_14_code
def yJ6_append : MethodName := ⟨RJ6, "append", "(C)Ljava/lang/StringBuilder;"⟩
def dkwJ6_append_0 : List UInt8 := [42, 27, 183, 0, 50, 87, 42, 176]
abbrev dktJ6_append_0 : List UInt8 := dkwJ6_append_0 ++ []
theorem dksJ6_append_0 : cJ6_append.data.toList.drop 0 = dktJ6_append_0 := by decide +kernel
theorem dJ6_append_0 : decode cJ6_append 0 = .ok (.aload_n 0, 1) := dk_42 (dk_at dksJ6_append_0 0 rfl rfl)
theorem dJ6_append_1 : decode cJ6_append 1 = .ok (.iload_n 1, 1) := dk_27 (dk_at dksJ6_append_0 1 rfl rfl)
theorem dJ6_append_2 : decode cJ6_append 2 = .ok (.invokespecial 50, 3) := dk_183 0 50 (dk_at dksJ6_append_0 2 rfl rfl)
theorem dJ6_append_5 : decode cJ6_append 5 = .ok (.pop, 1) := dk_87 (dk_at dksJ6_append_0 5 rfl rfl)
theorem dJ6_append_6 : decode cJ6_append 6 = .ok (.aload_n 0, 1) := dk_42 (dk_at dksJ6_append_0 6 rfl rfl)
theorem dJ6_append_7 : decode cJ6_append 7 = .ok (.areturn, 1) := dk_176 (dk_at dksJ6_append_0 7 rfl rfl)
abbrev cJ6_toString : ByteArray := prog_42_method_42_code
def yJ6_toString : MethodName := ⟨RJ6, "toString", "()Ljava/lang/String;"⟩
def dkwJ6_toString_0 : List UInt8 := [187, 0, 18, 89, 42, 183, 0, 137, 176]
abbrev dktJ6_toString_0 : List UInt8 := dkwJ6_toString_0 ++ []
theorem dksJ6_toString_0 : cJ6_toString.data.toList.drop 0 = dktJ6_toString_0 := by decide +kernel
theorem dJ6_toString_0 : decode cJ6_toString 0 = .ok (.new 18, 3) := dk_187 0 18 (dk_at dksJ6_toString_0 0 rfl rfl)
theorem dJ6_toString_3 : decode cJ6_toString 3 = .ok (.dup, 1) := dk_89 (dk_at dksJ6_toString_0 3 rfl rfl)
theorem dJ6_toString_4 : decode cJ6_toString 4 = .ok (.aload_n 0, 1) := dk_42 (dk_at dksJ6_toString_0 4 rfl rfl)
theorem dJ6_toString_5 : decode cJ6_toString 5 = .ok (.invokespecial 137, 3) := dk_183 0 137 (dk_at dksJ6_toString_0 5 rfl rfl)
theorem dJ6_toString_8 : decode cJ6_toString 8 = .ok (.areturn, 1) := dk_176 (dk_at dksJ6_toString_0 8 rfl rfl)
abbrev cJ6_append_2 : ByteArray := prog_42_method_15_code
def yJ6_append_2 : MethodName := ⟨RJ6, "append", "(I)Ljava/lang/StringBuilder;"⟩
def dkwJ6_append_2_0 : List UInt8 := [42, 27, 183, 0, 53, 87, 42, 176]
abbrev dktJ6_append_2_0 : List UInt8 := dkwJ6_append_2_0 ++ []
theorem dksJ6_append_2_0 : cJ6_append_2.data.toList.drop 0 = dktJ6_append_2_0 := by decide +kernel
theorem dJ6_append_2_0 : decode cJ6_append_2 0 = .ok (.aload_n 0, 1) := dk_42 (dk_at dksJ6_append_2_0 0 rfl rfl)
theorem dJ6_append_2_1 : decode cJ6_append_2 1 = .ok (.iload_n 1, 1) := dk_27 (dk_at dksJ6_append_2_0 1 rfl rfl)
theorem dJ6_append_2_2 : decode cJ6_append_2 2 = .ok (.invokespecial 53, 3) := dk_183 0 53 (dk_at dksJ6_append_2_0 2 rfl rfl)
theorem dJ6_append_2_5 : decode cJ6_append_2 5 = .ok (.pop, 1) := dk_87 (dk_at dksJ6_append_2_0 5 rfl rfl)
theorem dJ6_append_2_6 : decode cJ6_append_2 6 = .ok (.aload_n 0, 1) := dk_42 (dk_at dksJ6_append_2_0 6 rfl rfl)
theorem dJ6_append_2_7 : decode cJ6_append_2 7 = .ok (.areturn, 1) := dk_176 (dk_at dksJ6_append_2_0 7 rfl rfl)
abbrev cJ6_append_3 : ByteArray := prog_42_method_7_code
def yJ6_append_3 : MethodName := ⟨RJ6, "append", "(Ljava/lang/String;)Ljava/lang/StringBuilder;"⟩
def dkwJ6_append_3_0 : List UInt8 := [42, 43, 183, 0, 29, 87, 42, 176]
abbrev dktJ6_append_3_0 : List UInt8 := dkwJ6_append_3_0 ++ []
theorem dksJ6_append_3_0 : cJ6_append_3.data.toList.drop 0 = dktJ6_append_3_0 := by decide +kernel
theorem dJ6_append_3_0 : decode cJ6_append_3 0 = .ok (.aload_n 0, 1) := dk_42 (dk_at dksJ6_append_3_0 0 rfl rfl)
theorem dJ6_append_3_1 : decode cJ6_append_3 1 = .ok (.aload_n 1, 1) := dk_43 (dk_at dksJ6_append_3_0 1 rfl rfl)
theorem dJ6_append_3_2 : decode cJ6_append_3 2 = .ok (.invokespecial 29, 3) := dk_183 0 29 (dk_at dksJ6_append_3_0 2 rfl rfl)
theorem dJ6_append_3_5 : decode cJ6_append_3 5 = .ok (.pop, 1) := dk_87 (dk_at dksJ6_append_3_0 5 rfl rfl)
theorem dJ6_append_3_6 : decode cJ6_append_3 6 = .ok (.aload_n 0, 1) := dk_42 (dk_at dksJ6_append_3_0 6 rfl rfl)
theorem dJ6_append_3_7 : decode cJ6_append_3 7 = .ok (.areturn, 1) := dk_176 (dk_at dksJ6_append_3_0 7 rfl rfl)
abbrev cJ6_compareTo : ByteArray := prog_42_method_97_code
def yJ6_compareTo : MethodName := ⟨RJ6, "compareTo", "(Ljava/lang/Object;)I"⟩
def dkwJ6_compareTo_0 : List UInt8 := [42, 43, 192, 0, 24, 182, 1, 90, 172]
abbrev dktJ6_compareTo_0 : List UInt8 := dkwJ6_compareTo_0 ++ []
theorem dksJ6_compareTo_0 : cJ6_compareTo.data.toList.drop 0 = dktJ6_compareTo_0 := by decide +kernel
theorem dJ6_compareTo_0 : decode cJ6_compareTo 0 = .ok (.aload_n 0, 1) := dk_42 (dk_at dksJ6_compareTo_0 0 rfl rfl)
theorem dJ6_compareTo_1 : decode cJ6_compareTo 1 = .ok (.aload_n 1, 1) := dk_43 (dk_at dksJ6_compareTo_0 1 rfl rfl)
theorem dJ6_compareTo_2 : decode cJ6_compareTo 2 = .ok (.checkcast 24, 3) := dk_192 0 24 (dk_at dksJ6_compareTo_0 2 rfl rfl)
theorem dJ6_compareTo_5 : decode cJ6_compareTo 5 = .ok (.invokevirtual 346, 3) := dk_182 1 90 (dk_at dksJ6_compareTo_0 5 rfl rfl)
theorem dJ6_compareTo_8 : decode cJ6_compareTo 8 = .ok (.ireturn, 1) := dk_172 (dk_at dksJ6_compareTo_0 8 rfl rfl)
abbrev cJ6_compareTo_2 : ByteArray := prog_42_method_5_code
def yJ6_compareTo_2 : MethodName := ⟨RJ6, "compareTo", "(Ljava/lang/StringBuilder;)I"⟩
def dkwJ6_compareTo_2_0 : List UInt8 := [42, 43, 183, 0, 13, 172]
abbrev dktJ6_compareTo_2_0 : List UInt8 := dkwJ6_compareTo_2_0 ++ []
theorem dksJ6_compareTo_2_0 : cJ6_compareTo_2.data.toList.drop 0 = dktJ6_compareTo_2_0 := by decide +kernel
theorem dJ6_compareTo_2_0 : decode cJ6_compareTo_2 0 = .ok (.aload_n 0, 1) := dk_42 (dk_at dksJ6_compareTo_2_0 0 rfl rfl)
theorem dJ6_compareTo_2_1 : decode cJ6_compareTo_2 1 = .ok (.aload_n 1, 1) := dk_43 (dk_at dksJ6_compareTo_2_0 1 rfl rfl)
theorem dJ6_compareTo_2_2 : decode cJ6_compareTo_2 2 = .ok (.invokespecial 13, 3) := dk_183 0 13 (dk_at dksJ6_compareTo_2_0 2 rfl rfl)
theorem dJ6_compareTo_2_5 : decode cJ6_compareTo_2 5 = .ok (.ireturn, 1) := dk_172 (dk_at dksJ6_compareTo_2_0 5 rfl rfl)
abbrev cJ6_setLength : ByteArray := prog_42_method_89_code
def yJ6_setLength : MethodName := ⟨RJ6, "setLength", "(I)V"⟩
def dkwJ6_setLength_0 : List UInt8 := [42, 27, 183, 1, 77, 177]
abbrev dktJ6_setLength_0 : List UInt8 := dkwJ6_setLength_0 ++ []
theorem dksJ6_setLength_0 : cJ6_setLength.data.toList.drop 0 = dktJ6_setLength_0 := by decide +kernel
theorem dJ6_setLength_0 : decode cJ6_setLength 0 = .ok (.aload_n 0, 1) := dk_42 (dk_at dksJ6_setLength_0 0 rfl rfl)
theorem dJ6_setLength_1 : decode cJ6_setLength 1 = .ok (.iload_n 1, 1) := dk_27 (dk_at dksJ6_setLength_0 1 rfl rfl)
theorem dJ6_setLength_2 : decode cJ6_setLength 2 = .ok (.invokespecial 333, 3) := dk_183 1 77 (dk_at dksJ6_setLength_0 2 rfl rfl)
theorem dJ6_setLength_5 : decode cJ6_setLength 5 = .ok (.return_, 1) := dk_177 (dk_at dksJ6_setLength_0 5 rfl rfl)
abbrev cJ6_append_4 : ByteArray := prog_42_method_16_code
def yJ6_append_4 : MethodName := ⟨RJ6, "append", "(J)Ljava/lang/StringBuilder;"⟩
def dkwJ6_append_4_0 : List UInt8 := [42, 31, 183, 0, 56, 87, 42, 176]
abbrev dktJ6_append_4_0 : List UInt8 := dkwJ6_append_4_0 ++ []
theorem dksJ6_append_4_0 : cJ6_append_4.data.toList.drop 0 = dktJ6_append_4_0 := by decide +kernel
theorem dJ6_append_4_0 : decode cJ6_append_4 0 = .ok (.aload_n 0, 1) := dk_42 (dk_at dksJ6_append_4_0 0 rfl rfl)
theorem dJ6_append_4_1 : decode cJ6_append_4 1 = .ok (.lload_n 1, 1) := dk_31 (dk_at dksJ6_append_4_0 1 rfl rfl)
theorem dJ6_append_4_2 : decode cJ6_append_4 2 = .ok (.invokespecial 56, 3) := dk_183 0 56 (dk_at dksJ6_append_4_0 2 rfl rfl)
theorem dJ6_append_4_5 : decode cJ6_append_4 5 = .ok (.pop, 1) := dk_87 (dk_at dksJ6_append_4_0 5 rfl rfl)
theorem dJ6_append_4_6 : decode cJ6_append_4 6 = .ok (.aload_n 0, 1) := dk_42 (dk_at dksJ6_append_4_0 6 rfl rfl)
theorem dJ6_append_4_7 : decode cJ6_append_4 7 = .ok (.areturn, 1) := dk_176 (dk_at dksJ6_append_4_0 7 rfl rfl)
theorem q109 : (Jvm.Cond.initialized "java/lang/StringBuilder") ∈ lw_all := lw_g (lw_at lw_m1 11 rfl) rfl
theorem q468 : (Jvm.Cond.instantiable "java/lang/StringBuilder" (4 : Nat)) ∈ lw_all := lw_g (lw_at lw_m2 130 rfl) rfl
theorem q470 : (Jvm.Cond.instanceMethod ({ cls := "java/lang/StringBuilder", name := "<init>", desc := "()V" } : Jvm.MethodName)) ∈ lw_all := lw_g (lw_at lw_m2 132 rfl) rfl
theorem q471 : (Jvm.Cond.code ({ cls := "java/lang/StringBuilder", name := "<init>", desc := "()V" } : Jvm.MethodName) prog_42_method_1_code (1 : Nat) (Option.none : Option Jvm.ClassFile.FieldType)) ∈ lw_all := lw_g (lw_at lw_m2 133 rfl) rfl
theorem q472 : (Jvm.Cond.methodLink "java/lang/StringBuilder" (1 : Nat) ({ cls := "java/lang/AbstractStringBuilder", name := "<init>", desc := "(I)V" } : Jvm.MethodName)) ∈ lw_all := lw_g (lw_at lw_m2 134 rfl) rfl
theorem q490 : (Jvm.Cond.lays "java/lang/StringBuilder" "java/lang/AbstractStringBuilder" "value" "[B") ∈ lw_all := lw_g (lw_at lw_m2 152 rfl) rfl
theorem q492 : (Jvm.Cond.lays "java/lang/StringBuilder" "java/lang/AbstractStringBuilder" "coder" "B") ∈ lw_all := lw_g (lw_at lw_m2 154 rfl) rfl
theorem q494 : (Jvm.Cond.lays "java/lang/StringBuilder" "java/lang/AbstractStringBuilder" "maybeLatin1" "Z") ∈ lw_all := lw_g (lw_at lw_m2 156 rfl) rfl
theorem q496 : (Jvm.Cond.lays "java/lang/StringBuilder" "java/lang/AbstractStringBuilder" "count" "I") ∈ lw_all := lw_g (lw_at lw_m2 158 rfl) rfl
theorem q498 : (Jvm.Cond.superclass "java/lang/StringBuilder" "java/lang/AbstractStringBuilder") ∈ lw_all := lw_g (lw_at lw_m2 160 rfl) rfl
theorem q823 : (Jvm.Cond.selects "java/lang/StringBuilder" ({ cls := "java/lang/Object", name := "getClass", desc := "()Ljava/lang/Class;" } : Jvm.MethodName) ({ cls := "java/lang/Object", name := "getClass", desc := "()Ljava/lang/Class;" } : Jvm.MethodName)) ∈ lw_all := lw_g (lw_at lw_m4 5 rfl) rfl
theorem q866 : (Jvm.Cond.instanceMethod ({ cls := "java/lang/StringBuilder", name := "length", desc := "()I" } : Jvm.MethodName)) ∈ lw_all := lw_g (lw_at lw_m4 48 rfl) rfl
theorem q867 : (Jvm.Cond.selects "java/lang/StringBuilder" ({ cls := "java/lang/StringBuilder", name := "length", desc := "()I" } : Jvm.MethodName) ({ cls := "java/lang/StringBuilder", name := "length", desc := "()I" } : Jvm.MethodName)) ∈ lw_all := lw_g (lw_at lw_m4 49 rfl) rfl
theorem q868 : (Jvm.Cond.code ({ cls := "java/lang/StringBuilder", name := "length", desc := "()I" } : Jvm.MethodName) prog_42_method_93_code (1 : Nat) (Option.some Jvm.ClassFile.FieldType.int)) ∈ lw_all := lw_g (lw_at lw_m4 50 rfl) rfl
theorem q869 : (Jvm.Cond.methodLink "java/lang/StringBuilder" (343 : Nat) ({ cls := "java/lang/AbstractStringBuilder", name := "length", desc := "()I" } : Jvm.MethodName)) ∈ lw_all := lw_g (lw_at lw_m4 51 rfl) rfl
theorem q874 : (Jvm.Cond.instanceMethod ({ cls := "java/lang/StringBuilder", name := "charAt", desc := "(I)C" } : Jvm.MethodName)) ∈ lw_all := lw_g (lw_at lw_m4 56 rfl) rfl
theorem q875 : (Jvm.Cond.selects "java/lang/StringBuilder" ({ cls := "java/lang/StringBuilder", name := "charAt", desc := "(I)C" } : Jvm.MethodName) ({ cls := "java/lang/StringBuilder", name := "charAt", desc := "(I)C" } : Jvm.MethodName)) ∈ lw_all := lw_g (lw_at lw_m4 57 rfl) rfl
theorem q876 : (Jvm.Cond.code ({ cls := "java/lang/StringBuilder", name := "charAt", desc := "(I)C" } : Jvm.MethodName) prog_42_method_88_code (2 : Nat) (Option.some Jvm.ClassFile.FieldType.char)) ∈ lw_all := lw_g (lw_at lw_m4 58 rfl) rfl
theorem q877 : (Jvm.Cond.methodLink "java/lang/StringBuilder" (329 : Nat) ({ cls := "java/lang/AbstractStringBuilder", name := "charAt", desc := "(I)C" } : Jvm.MethodName)) ∈ lw_all := lw_g (lw_at lw_m4 59 rfl) rfl
theorem q991 : (Jvm.Cond.instanceMethod ({ cls := "java/lang/StringBuilder", name := "append", desc := "(C)Ljava/lang/StringBuilder;" } : Jvm.MethodName)) ∈ lw_all := lw_g (lw_at lw_m4 173 rfl) rfl
theorem q992 : (Jvm.Cond.selects "java/lang/StringBuilder" ({ cls := "java/lang/StringBuilder", name := "append", desc := "(C)Ljava/lang/StringBuilder;" } : Jvm.MethodName) ({ cls := "java/lang/StringBuilder", name := "append", desc := "(C)Ljava/lang/StringBuilder;" } : Jvm.MethodName)) ∈ lw_all := lw_g (lw_at lw_m4 174 rfl) rfl
theorem q993 : (Jvm.Cond.code ({ cls := "java/lang/StringBuilder", name := "append", desc := "(C)Ljava/lang/StringBuilder;" } : Jvm.MethodName) prog_42_method_14_code (2 : Nat) (Option.some (Jvm.ClassFile.FieldType.object "java/lang/StringBuilder"))) ∈ lw_all := lw_g (lw_at lw_m4 175 rfl) rfl
theorem q994 : (Jvm.Cond.methodLink "java/lang/StringBuilder" (50 : Nat) ({ cls := "java/lang/AbstractStringBuilder", name := "append", desc := "(C)Ljava/lang/AbstractStringBuilder;" } : Jvm.MethodName)) ∈ lw_all := lw_g (lw_at lw_m4 176 rfl) rfl
theorem q1027 : (Jvm.Cond.selects "java/lang/StringBuilder" ({ cls := "java/lang/AbstractStringBuilder", name := "isLatin1", desc := "()Z" } : Jvm.MethodName) ({ cls := "java/lang/AbstractStringBuilder", name := "isLatin1", desc := "()Z" } : Jvm.MethodName)) ∈ lw_all := lw_g (lw_at lw_m4 209 rfl) rfl
theorem q1062 : (Jvm.Cond.instanceMethod ({ cls := "java/lang/StringBuilder", name := "toString", desc := "()Ljava/lang/String;" } : Jvm.MethodName)) ∈ lw_all := lw_g (lw_at lw_m5 4 rfl) rfl
theorem q1063 : (Jvm.Cond.selects "java/lang/StringBuilder" ({ cls := "java/lang/StringBuilder", name := "toString", desc := "()Ljava/lang/String;" } : Jvm.MethodName) ({ cls := "java/lang/StringBuilder", name := "toString", desc := "()Ljava/lang/String;" } : Jvm.MethodName)) ∈ lw_all := lw_g (lw_at lw_m5 5 rfl) rfl
theorem q1064 : (Jvm.Cond.code ({ cls := "java/lang/StringBuilder", name := "toString", desc := "()Ljava/lang/String;" } : Jvm.MethodName) prog_42_method_42_code (1 : Nat) (Option.some (Jvm.ClassFile.FieldType.object "java/lang/String"))) ∈ lw_all := lw_g (lw_at lw_m5 6 rfl) rfl
theorem q1065 : (Jvm.Cond.classLink "java/lang/StringBuilder" (18 : Nat) "java/lang/String") ∈ lw_all := lw_g (lw_at lw_m5 7 rfl) rfl
theorem q1067 : (Jvm.Cond.methodLink "java/lang/StringBuilder" (137 : Nat) ({ cls := "java/lang/String", name := "<init>", desc := "(Ljava/lang/StringBuilder;)V" } : Jvm.MethodName)) ∈ lw_all := lw_g (lw_at lw_m5 9 rfl) rfl
theorem q1077 : (Jvm.Cond.selects "java/lang/StringBuilder" ({ cls := "java/lang/AbstractStringBuilder", name := "getValue", desc := "()[B" } : Jvm.MethodName) ({ cls := "java/lang/AbstractStringBuilder", name := "getValue", desc := "()[B" } : Jvm.MethodName)) ∈ lw_all := lw_g (lw_at lw_m5 19 rfl) rfl
theorem q1094 : (Jvm.Cond.instanceMethod ({ cls := "java/lang/StringBuilder", name := "append", desc := "(I)Ljava/lang/StringBuilder;" } : Jvm.MethodName)) ∈ lw_all := lw_g (lw_at lw_m5 36 rfl) rfl
theorem q1095 : (Jvm.Cond.selects "java/lang/StringBuilder" ({ cls := "java/lang/StringBuilder", name := "append", desc := "(I)Ljava/lang/StringBuilder;" } : Jvm.MethodName) ({ cls := "java/lang/StringBuilder", name := "append", desc := "(I)Ljava/lang/StringBuilder;" } : Jvm.MethodName)) ∈ lw_all := lw_g (lw_at lw_m5 37 rfl) rfl
theorem q1096 : (Jvm.Cond.code ({ cls := "java/lang/StringBuilder", name := "append", desc := "(I)Ljava/lang/StringBuilder;" } : Jvm.MethodName) prog_42_method_15_code (2 : Nat) (Option.some (Jvm.ClassFile.FieldType.object "java/lang/StringBuilder"))) ∈ lw_all := lw_g (lw_at lw_m5 38 rfl) rfl
theorem q1097 : (Jvm.Cond.methodLink "java/lang/StringBuilder" (53 : Nat) ({ cls := "java/lang/AbstractStringBuilder", name := "append", desc := "(I)Ljava/lang/AbstractStringBuilder;" } : Jvm.MethodName)) ∈ lw_all := lw_g (lw_at lw_m5 39 rfl) rfl
theorem q1129 : (Jvm.Cond.instanceMethod ({ cls := "java/lang/StringBuilder", name := "append", desc := "(Ljava/lang/String;)Ljava/lang/StringBuilder;" } : Jvm.MethodName)) ∈ lw_all := lw_g (lw_at lw_m5 71 rfl) rfl
theorem q1130 : (Jvm.Cond.selects "java/lang/StringBuilder" ({ cls := "java/lang/StringBuilder", name := "append", desc := "(Ljava/lang/String;)Ljava/lang/StringBuilder;" } : Jvm.MethodName) ({ cls := "java/lang/StringBuilder", name := "append", desc := "(Ljava/lang/String;)Ljava/lang/StringBuilder;" } : Jvm.MethodName)) ∈ lw_all := lw_g (lw_at lw_m5 72 rfl) rfl
theorem q1131 : (Jvm.Cond.code ({ cls := "java/lang/StringBuilder", name := "append", desc := "(Ljava/lang/String;)Ljava/lang/StringBuilder;" } : Jvm.MethodName) prog_42_method_7_code (2 : Nat) (Option.some (Jvm.ClassFile.FieldType.object "java/lang/StringBuilder"))) ∈ lw_all := lw_g (lw_at lw_m5 73 rfl) rfl
theorem q1132 : (Jvm.Cond.methodLink "java/lang/StringBuilder" (29 : Nat) ({ cls := "java/lang/AbstractStringBuilder", name := "append", desc := "(Ljava/lang/String;)Ljava/lang/AbstractStringBuilder;" } : Jvm.MethodName)) ∈ lw_all := lw_g (lw_at lw_m5 74 rfl) rfl
theorem q1924 : (Jvm.Cond.selects "java/lang/StringBuilder" ({ cls := "java/lang/Object", name := "hashCode", desc := "()I" } : Jvm.MethodName) ({ cls := "java/lang/Object", name := "hashCode", desc := "()I" } : Jvm.MethodName)) ∈ lw_all := lw_g (lw_at lw_m8 146 rfl) rfl
theorem q1956 : (Jvm.Cond.selects "java/lang/StringBuilder" ({ cls := "java/lang/Object", name := "equals", desc := "(Ljava/lang/Object;)Z" } : Jvm.MethodName) ({ cls := "java/lang/Object", name := "equals", desc := "(Ljava/lang/Object;)Z" } : Jvm.MethodName)) ∈ lw_all := lw_g (lw_at lw_m8 178 rfl) rfl
theorem q2131 : (Jvm.Cond.castable "java/lang/StringBuilder" "java/lang/Comparable") ∈ lw_tbl := lw_at lw_m9 113 rfl
theorem q2132 : (Jvm.Cond.selects "java/lang/StringBuilder" ({ cls := "java/lang/Comparable", name := "compareTo", desc := "(Ljava/lang/Object;)I" } : Jvm.MethodName) ({ cls := "java/lang/StringBuilder", name := "compareTo", desc := "(Ljava/lang/Object;)I" } : Jvm.MethodName)) ∈ lw_all := lw_g (lw_at lw_m9 114 rfl) rfl
theorem q2133 : (Jvm.Cond.unhidden "java/lang/StringBuilder" "compareTo" "(Ljava/lang/Object;)I") ∈ lw_tbl := lw_at lw_m9 115 rfl
theorem q2134 : (Jvm.Cond.instanceMethod ({ cls := "java/lang/StringBuilder", name := "compareTo", desc := "(Ljava/lang/Object;)I" } : Jvm.MethodName)) ∈ lw_all := lw_g (lw_at lw_m9 116 rfl) rfl
theorem q2135 : (Jvm.Cond.publicMethod ({ cls := "java/lang/StringBuilder", name := "compareTo", desc := "(Ljava/lang/Object;)I" } : Jvm.MethodName)) ∈ lw_tbl := lw_at lw_m9 117 rfl
theorem q2136 : (Jvm.Cond.code ({ cls := "java/lang/StringBuilder", name := "compareTo", desc := "(Ljava/lang/Object;)I" } : Jvm.MethodName) prog_42_method_97_code (2 : Nat) (Option.some Jvm.ClassFile.FieldType.int)) ∈ lw_all := lw_g (lw_at lw_m9 118 rfl) rfl
theorem q2137 : (Jvm.Cond.classLink "java/lang/StringBuilder" (24 : Nat) "java/lang/StringBuilder") ∈ lw_all := lw_g (lw_at lw_m9 119 rfl) rfl
theorem q2138 : (Jvm.Cond.methodLink "java/lang/StringBuilder" (346 : Nat) ({ cls := "java/lang/StringBuilder", name := "compareTo", desc := "(Ljava/lang/StringBuilder;)I" } : Jvm.MethodName)) ∈ lw_all := lw_g (lw_at lw_m9 120 rfl) rfl
theorem q2139 : (Jvm.Cond.instanceMethod ({ cls := "java/lang/StringBuilder", name := "compareTo", desc := "(Ljava/lang/StringBuilder;)I" } : Jvm.MethodName)) ∈ lw_all := lw_g (lw_at lw_m9 121 rfl) rfl
theorem q2140 : (Jvm.Cond.selects "java/lang/StringBuilder" ({ cls := "java/lang/StringBuilder", name := "compareTo", desc := "(Ljava/lang/StringBuilder;)I" } : Jvm.MethodName) ({ cls := "java/lang/StringBuilder", name := "compareTo", desc := "(Ljava/lang/StringBuilder;)I" } : Jvm.MethodName)) ∈ lw_all := lw_g (lw_at lw_m9 122 rfl) rfl
theorem q2141 : (Jvm.Cond.code ({ cls := "java/lang/StringBuilder", name := "compareTo", desc := "(Ljava/lang/StringBuilder;)I" } : Jvm.MethodName) prog_42_method_5_code (2 : Nat) (Option.some Jvm.ClassFile.FieldType.int)) ∈ lw_all := lw_g (lw_at lw_m9 123 rfl) rfl
theorem q2142 : (Jvm.Cond.methodLink "java/lang/StringBuilder" (13 : Nat) ({ cls := "java/lang/AbstractStringBuilder", name := "compareTo", desc := "(Ljava/lang/AbstractStringBuilder;)I" } : Jvm.MethodName)) ∈ lw_all := lw_g (lw_at lw_m9 124 rfl) rfl
theorem q2488 : (Jvm.Cond.instanceMethod ({ cls := "java/lang/StringBuilder", name := "setLength", desc := "(I)V" } : Jvm.MethodName)) ∈ lw_all := lw_g (lw_at lw_m10 230 rfl) rfl
theorem q2489 : (Jvm.Cond.selects "java/lang/StringBuilder" ({ cls := "java/lang/StringBuilder", name := "setLength", desc := "(I)V" } : Jvm.MethodName) ({ cls := "java/lang/StringBuilder", name := "setLength", desc := "(I)V" } : Jvm.MethodName)) ∈ lw_all := lw_g (lw_at lw_m10 231 rfl) rfl
theorem q2490 : (Jvm.Cond.code ({ cls := "java/lang/StringBuilder", name := "setLength", desc := "(I)V" } : Jvm.MethodName) prog_42_method_89_code (2 : Nat) (Option.none : Option Jvm.ClassFile.FieldType)) ∈ lw_all := lw_g (lw_at lw_m10 232 rfl) rfl
theorem q2491 : (Jvm.Cond.methodLink "java/lang/StringBuilder" (333 : Nat) ({ cls := "java/lang/AbstractStringBuilder", name := "setLength", desc := "(I)V" } : Jvm.MethodName)) ∈ lw_all := lw_g (lw_at lw_m10 233 rfl) rfl
theorem q2517 : (Jvm.Cond.instanceMethod ({ cls := "java/lang/StringBuilder", name := "append", desc := "(J)Ljava/lang/StringBuilder;" } : Jvm.MethodName)) ∈ lw_all := lw_g (lw_at lw_m11 19 rfl) rfl
theorem q2518 : (Jvm.Cond.selects "java/lang/StringBuilder" ({ cls := "java/lang/StringBuilder", name := "append", desc := "(J)Ljava/lang/StringBuilder;" } : Jvm.MethodName) ({ cls := "java/lang/StringBuilder", name := "append", desc := "(J)Ljava/lang/StringBuilder;" } : Jvm.MethodName)) ∈ lw_all := lw_g (lw_at lw_m11 20 rfl) rfl
theorem q2519 : (Jvm.Cond.code ({ cls := "java/lang/StringBuilder", name := "append", desc := "(J)Ljava/lang/StringBuilder;" } : Jvm.MethodName) prog_42_method_16_code (3 : Nat) (Option.some (Jvm.ClassFile.FieldType.object "java/lang/StringBuilder"))) ∈ lw_all := lw_g (lw_at lw_m11 21 rfl) rfl
theorem q2520 : (Jvm.Cond.methodLink "java/lang/StringBuilder" (56 : Nat) ({ cls := "java/lang/AbstractStringBuilder", name := "append", desc := "(J)Ljava/lang/AbstractStringBuilder;" } : Jvm.MethodName)) ∈ lw_all := lw_g (lw_at lw_m11 22 rfl) rfl
theorem q3369 : (Jvm.Cond.selects "java/lang/StringBuilder" ({ cls := "java/lang/AbstractStringBuilder", name := "length", desc := "()I" } : Jvm.MethodName) ({ cls := "java/lang/StringBuilder", name := "length", desc := "()I" } : Jvm.MethodName)) ∈ lw_all := lw_g (lw_at lw_m14 151 rfl) rfl
theorem q3394 : (Jvm.Cond.castable "java/lang/StringBuilder" "java/lang/Object") ∈ lw_tbl := lw_at lw_m14 176 rfl
theorem in_J6 : ∀ w ∈ wsJ60, w ∈ lw_all := lw_in wsJ60 [490, 492, 494, 496] (by decide +kernel) (by decide +kernel)
/-! java/lang/String -/
set_option maxRecDepth 100000
def RJ7 : String := "java/lang/String"
def TJ7 : u_T := fun k => match k with
  | 0 => ("java/lang/String", "value", "[B", true)
  | 1 => ("java/lang/String", "coder", "B", true)
  | 2 => ("java/lang/String", "hash", "I", false)
  | _ => ("java/lang/String", "hashIsZero", "Z", false)
def tyJ7 : Nat → FieldType := fun k => match k with
  | 0 => .array .byte
  | 1 => .byte
  | 2 => .int
  | _ => .boolean
abbrev wsJ70 : List Cond := u_ws RJ7 TJ7 4
theorem nmJ7 : ∀ a, a < 4 → ∀ b, b < 4 → a ≠ b → (TJ7 a).2.1 ≠ (TJ7 b).2.1 := by decide +kernel
theorem tyJ7_ok : ∀ k, k < 4 → parseFieldDescriptor (TJ7 k).2.2.1 = some (tyJ7 k) := by decide +kernel
abbrev cJ7_checkIndex : ByteArray := prog_41_method_155_code
def yJ7_checkIndex : MethodName := ⟨RJ7, "checkIndex", "(II)V"⟩
def dkwJ7_checkIndex_0 : List UInt8 := [26, 27, 178, 4, 29, 184, 4, 35, 87, 177]
abbrev dktJ7_checkIndex_0 : List UInt8 := dkwJ7_checkIndex_0 ++ []
theorem dksJ7_checkIndex_0 : cJ7_checkIndex.data.toList.drop 0 = dktJ7_checkIndex_0 := by decide +kernel
theorem dJ7_checkIndex_0 : decode cJ7_checkIndex 0 = .ok (.iload_n 0, 1) := dk_26 (dk_at dksJ7_checkIndex_0 0 rfl rfl)
theorem dJ7_checkIndex_1 : decode cJ7_checkIndex 1 = .ok (.iload_n 1, 1) := dk_27 (dk_at dksJ7_checkIndex_0 1 rfl rfl)
theorem dJ7_checkIndex_2 : decode cJ7_checkIndex 2 = .ok (.getstatic 1053, 3) := dk_178 4 29 (dk_at dksJ7_checkIndex_0 2 rfl rfl)
theorem dJ7_checkIndex_5 : decode cJ7_checkIndex 5 = .ok (.invokestatic 1059, 3) := dk_184 4 35 (dk_at dksJ7_checkIndex_0 5 rfl rfl)
theorem dJ7_checkIndex_8 : decode cJ7_checkIndex 8 = .ok (.pop, 1) := dk_87 (dk_at dksJ7_checkIndex_0 8 rfl rfl)
theorem dJ7_checkIndex_9 : decode cJ7_checkIndex 9 = .ok (.return_, 1) := dk_177 (dk_at dksJ7_checkIndex_0 9 rfl rfl)
abbrev cJ7_checkBoundsOffCount : ByteArray := prog_41_method_157_code
def yJ7_checkBoundsOffCount : MethodName := ⟨RJ7, "checkBoundsOffCount", "(III)I"⟩
def dkwJ7_checkBoundsOffCount_0 : List UInt8 := [26, 27, 28, 178, 4, 29, 184, 4, 41, 172]
abbrev dktJ7_checkBoundsOffCount_0 : List UInt8 := dkwJ7_checkBoundsOffCount_0 ++ []
theorem dksJ7_checkBoundsOffCount_0 : cJ7_checkBoundsOffCount.data.toList.drop 0 = dktJ7_checkBoundsOffCount_0 := by decide +kernel
theorem dJ7_checkBoundsOffCount_0 : decode cJ7_checkBoundsOffCount 0 = .ok (.iload_n 0, 1) := dk_26 (dk_at dksJ7_checkBoundsOffCount_0 0 rfl rfl)
theorem dJ7_checkBoundsOffCount_1 : decode cJ7_checkBoundsOffCount 1 = .ok (.iload_n 1, 1) := dk_27 (dk_at dksJ7_checkBoundsOffCount_0 1 rfl rfl)
theorem dJ7_checkBoundsOffCount_2 : decode cJ7_checkBoundsOffCount 2 = .ok (.iload_n 2, 1) := dk_28 (dk_at dksJ7_checkBoundsOffCount_0 2 rfl rfl)
theorem dJ7_checkBoundsOffCount_3 : decode cJ7_checkBoundsOffCount 3 = .ok (.getstatic 1053, 3) := dk_178 4 29 (dk_at dksJ7_checkBoundsOffCount_0 3 rfl rfl)
theorem dJ7_checkBoundsOffCount_6 : decode cJ7_checkBoundsOffCount 6 = .ok (.invokestatic 1065, 3) := dk_184 4 41 (dk_at dksJ7_checkBoundsOffCount_0 6 rfl rfl)
theorem dJ7_checkBoundsOffCount_9 : decode cJ7_checkBoundsOffCount 9 = .ok (.ireturn, 1) := dk_172 (dk_at dksJ7_checkBoundsOffCount_0 9 rfl rfl)
abbrev cJ7_init : ByteArray := prog_41_method_53_code
def yJ7_init : MethodName := ⟨RJ7, "<init>", "(Ljava/lang/StringBuilder;)V"⟩
def dkwJ7_init_0 : List UInt8 := [42, 43, 1, 183, 1, 233, 177]
abbrev dktJ7_init_0 : List UInt8 := dkwJ7_init_0 ++ []
theorem dksJ7_init_0 : cJ7_init.data.toList.drop 0 = dktJ7_init_0 := by decide +kernel
theorem dJ7_init_0 : decode cJ7_init 0 = .ok (.aload_n 0, 1) := dk_42 (dk_at dksJ7_init_0 0 rfl rfl)
theorem dJ7_init_1 : decode cJ7_init 1 = .ok (.aload_n 1, 1) := dk_43 (dk_at dksJ7_init_0 1 rfl rfl)
theorem dJ7_init_2 : decode cJ7_init 2 = .ok (.aconst_null, 1) := dk_1 (dk_at dksJ7_init_0 2 rfl rfl)
theorem dJ7_init_3 : decode cJ7_init 3 = .ok (.invokespecial 489, 3) := dk_183 1 233 (dk_at dksJ7_init_0 3 rfl rfl)
theorem dJ7_init_6 : decode cJ7_init 6 = .ok (.return_, 1) := dk_177 (dk_at dksJ7_init_0 6 rfl rfl)
abbrev cJ7_init_2 : ByteArray := prog_41_method_150_code
def yJ7_init_2 : MethodName := ⟨RJ7, "<init>", "(Ljava/lang/AbstractStringBuilder;Ljava/lang/Void;)V"⟩
def dkwJ7_init_2_4 : List UInt8 := [181, 0, 9, 177]
abbrev dktJ7_init_2_4 : List UInt8 := dkwJ7_init_2_4 ++ []
def dkwJ7_init_2_3 : List UInt8 := [184, 0, 47, 181, 0, 15, 177, 42, 4, 181, 0, 15, 42, 45, 3, 21, 4, 4, 120, 184, 0, 54]
abbrev dktJ7_init_2_3 : List UInt8 := dkwJ7_init_2_3 ++ dktJ7_init_2_4
def dkwJ7_init_2_2 : List UInt8 := [180, 4, 24, 153, 0, 28, 42, 45, 3, 21, 4, 184, 4, 27, 181, 0, 9, 42, 42, 180, 0, 9, 21, 4]
abbrev dktJ7_init_2_2 : List UInt8 := dkwJ7_init_2_2 ++ dktJ7_init_2_3
def dkwJ7_init_2_1 : List UInt8 := [181, 0, 15, 42, 45, 3, 21, 4, 184, 0, 54, 181, 0, 9, 167, 0, 59, 178, 0, 38, 153, 0, 35, 43]
abbrev dktJ7_init_2_1 : List UInt8 := dkwJ7_init_2_1 ++ dktJ7_init_2_2
def dkwJ7_init_2_0 : List UInt8 := [42, 183, 0, 1, 43, 182, 2, 40, 78, 43, 182, 2, 37, 54, 4, 43, 182, 4, 23, 153, 0, 22, 42, 3]
abbrev dktJ7_init_2_0 : List UInt8 := dkwJ7_init_2_0 ++ dktJ7_init_2_1
theorem dksJ7_init_2_0 : cJ7_init_2.data.toList.drop 0 = dktJ7_init_2_0 := by decide +kernel
theorem dksJ7_init_2_1 : cJ7_init_2.data.toList.drop 24 = dktJ7_init_2_1 := dk_seg dksJ7_init_2_0 24 rfl rfl
theorem dksJ7_init_2_2 : cJ7_init_2.data.toList.drop 48 = dktJ7_init_2_2 := dk_seg dksJ7_init_2_1 24 rfl rfl
theorem dksJ7_init_2_3 : cJ7_init_2.data.toList.drop 72 = dktJ7_init_2_3 := dk_seg dksJ7_init_2_2 24 rfl rfl
theorem dksJ7_init_2_4 : cJ7_init_2.data.toList.drop 94 = dktJ7_init_2_4 := dk_seg dksJ7_init_2_3 22 rfl rfl
theorem dJ7_init_2_0 : decode cJ7_init_2 0 = .ok (.aload_n 0, 1) := dk_42 (dk_at dksJ7_init_2_0 0 rfl rfl)
theorem dJ7_init_2_1 : decode cJ7_init_2 1 = .ok (.invokespecial 1, 3) := dk_183 0 1 (dk_at dksJ7_init_2_0 1 rfl rfl)
theorem dJ7_init_2_4 : decode cJ7_init_2 4 = .ok (.aload_n 1, 1) := dk_43 (dk_at dksJ7_init_2_0 4 rfl rfl)
theorem dJ7_init_2_5 : decode cJ7_init_2 5 = .ok (.invokevirtual 552, 3) := dk_182 2 40 (dk_at dksJ7_init_2_0 5 rfl rfl)
theorem dJ7_init_2_8 : decode cJ7_init_2 8 = .ok (.astore_n 3, 1) := dk_78 (dk_at dksJ7_init_2_0 8 rfl rfl)
theorem dJ7_init_2_9 : decode cJ7_init_2 9 = .ok (.aload_n 1, 1) := dk_43 (dk_at dksJ7_init_2_0 9 rfl rfl)
theorem dJ7_init_2_10 : decode cJ7_init_2 10 = .ok (.invokevirtual 549, 3) := dk_182 2 37 (dk_at dksJ7_init_2_0 10 rfl rfl)
theorem dJ7_init_2_13 : decode cJ7_init_2 13 = .ok (.istore 4, 2) := dk_54 4 (dk_at dksJ7_init_2_0 13 rfl rfl)
theorem dJ7_init_2_15 : decode cJ7_init_2 15 = .ok (.aload_n 1, 1) := dk_43 (dk_at dksJ7_init_2_0 15 rfl rfl)
theorem dJ7_init_2_16 : decode cJ7_init_2 16 = .ok (.invokevirtual 1047, 3) := dk_182 4 23 (dk_at dksJ7_init_2_0 16 rfl rfl)
theorem dJ7_init_2_19 : decode cJ7_init_2 19 = .ok (.ifCond .eq 22, 3) := dk_153 0 22 (dk_at dksJ7_init_2_0 19 rfl rfl)
theorem dJ7_init_2_22 : decode cJ7_init_2 22 = .ok (.aload_n 0, 1) := dk_42 (dk_at dksJ7_init_2_0 22 rfl rfl)
theorem dJ7_init_2_23 : decode cJ7_init_2 23 = .ok (.iconst 0, 1) := dk_3 (dk_at dksJ7_init_2_0 23 rfl rfl)
theorem dJ7_init_2_24 : decode cJ7_init_2 24 = .ok (.putfield 15, 3) := dk_181 0 15 (dk_at dksJ7_init_2_1 0 rfl rfl)
theorem dJ7_init_2_27 : decode cJ7_init_2 27 = .ok (.aload_n 0, 1) := dk_42 (dk_at dksJ7_init_2_1 3 rfl rfl)
theorem dJ7_init_2_28 : decode cJ7_init_2 28 = .ok (.aload_n 3, 1) := dk_45 (dk_at dksJ7_init_2_1 4 rfl rfl)
theorem dJ7_init_2_29 : decode cJ7_init_2 29 = .ok (.iconst 0, 1) := dk_3 (dk_at dksJ7_init_2_1 5 rfl rfl)
theorem dJ7_init_2_30 : decode cJ7_init_2 30 = .ok (.iload 4, 2) := dk_21 4 (dk_at dksJ7_init_2_1 6 rfl rfl)
theorem dJ7_init_2_32 : decode cJ7_init_2 32 = .ok (.invokestatic 54, 3) := dk_184 0 54 (dk_at dksJ7_init_2_1 8 rfl rfl)
theorem dJ7_init_2_35 : decode cJ7_init_2 35 = .ok (.putfield 9, 3) := dk_181 0 9 (dk_at dksJ7_init_2_1 11 rfl rfl)
theorem dJ7_init_2_38 : decode cJ7_init_2 38 = .ok (.goto 59, 3) := dk_167 0 59 (dk_at dksJ7_init_2_1 14 rfl rfl)
theorem dJ7_init_2_41 : decode cJ7_init_2 41 = .ok (.getstatic 38, 3) := dk_178 0 38 (dk_at dksJ7_init_2_1 17 rfl rfl)
theorem dJ7_init_2_44 : decode cJ7_init_2 44 = .ok (.ifCond .eq 35, 3) := dk_153 0 35 (dk_at dksJ7_init_2_1 20 rfl rfl)
theorem dJ7_init_2_47 : decode cJ7_init_2 47 = .ok (.aload_n 1, 1) := dk_43 (dk_at dksJ7_init_2_1 23 rfl rfl)
theorem dJ7_init_2_48 : decode cJ7_init_2 48 = .ok (.getfield 1048, 3) := dk_180 4 24 (dk_at dksJ7_init_2_2 0 rfl rfl)
theorem dJ7_init_2_51 : decode cJ7_init_2 51 = .ok (.ifCond .eq 28, 3) := dk_153 0 28 (dk_at dksJ7_init_2_2 3 rfl rfl)
theorem dJ7_init_2_54 : decode cJ7_init_2 54 = .ok (.aload_n 0, 1) := dk_42 (dk_at dksJ7_init_2_2 6 rfl rfl)
theorem dJ7_init_2_55 : decode cJ7_init_2 55 = .ok (.aload_n 3, 1) := dk_45 (dk_at dksJ7_init_2_2 7 rfl rfl)
theorem dJ7_init_2_56 : decode cJ7_init_2 56 = .ok (.iconst 0, 1) := dk_3 (dk_at dksJ7_init_2_2 8 rfl rfl)
theorem dJ7_init_2_57 : decode cJ7_init_2 57 = .ok (.iload 4, 2) := dk_21 4 (dk_at dksJ7_init_2_2 9 rfl rfl)
theorem dJ7_init_2_59 : decode cJ7_init_2 59 = .ok (.invokestatic 1051, 3) := dk_184 4 27 (dk_at dksJ7_init_2_2 11 rfl rfl)
theorem dJ7_init_2_62 : decode cJ7_init_2 62 = .ok (.putfield 9, 3) := dk_181 0 9 (dk_at dksJ7_init_2_2 14 rfl rfl)
theorem dJ7_init_2_65 : decode cJ7_init_2 65 = .ok (.aload_n 0, 1) := dk_42 (dk_at dksJ7_init_2_2 17 rfl rfl)
theorem dJ7_init_2_66 : decode cJ7_init_2 66 = .ok (.aload_n 0, 1) := dk_42 (dk_at dksJ7_init_2_2 18 rfl rfl)
theorem dJ7_init_2_67 : decode cJ7_init_2 67 = .ok (.getfield 9, 3) := dk_180 0 9 (dk_at dksJ7_init_2_2 19 rfl rfl)
theorem dJ7_init_2_70 : decode cJ7_init_2 70 = .ok (.iload 4, 2) := dk_21 4 (dk_at dksJ7_init_2_2 22 rfl rfl)
theorem dJ7_init_2_72 : decode cJ7_init_2 72 = .ok (.invokestatic 47, 3) := dk_184 0 47 (dk_at dksJ7_init_2_3 0 rfl rfl)
theorem dJ7_init_2_75 : decode cJ7_init_2 75 = .ok (.putfield 15, 3) := dk_181 0 15 (dk_at dksJ7_init_2_3 3 rfl rfl)
theorem dJ7_init_2_78 : decode cJ7_init_2 78 = .ok (.return_, 1) := dk_177 (dk_at dksJ7_init_2_3 6 rfl rfl)
theorem dJ7_init_2_79 : decode cJ7_init_2 79 = .ok (.aload_n 0, 1) := dk_42 (dk_at dksJ7_init_2_3 7 rfl rfl)
theorem dJ7_init_2_80 : decode cJ7_init_2 80 = .ok (.iconst 1, 1) := dk_4 (dk_at dksJ7_init_2_3 8 rfl rfl)
theorem dJ7_init_2_81 : decode cJ7_init_2 81 = .ok (.putfield 15, 3) := dk_181 0 15 (dk_at dksJ7_init_2_3 9 rfl rfl)
theorem dJ7_init_2_84 : decode cJ7_init_2 84 = .ok (.aload_n 0, 1) := dk_42 (dk_at dksJ7_init_2_3 12 rfl rfl)
theorem dJ7_init_2_85 : decode cJ7_init_2 85 = .ok (.aload_n 3, 1) := dk_45 (dk_at dksJ7_init_2_3 13 rfl rfl)
theorem dJ7_init_2_86 : decode cJ7_init_2 86 = .ok (.iconst 0, 1) := dk_3 (dk_at dksJ7_init_2_3 14 rfl rfl)
theorem dJ7_init_2_87 : decode cJ7_init_2 87 = .ok (.iload 4, 2) := dk_21 4 (dk_at dksJ7_init_2_3 15 rfl rfl)
theorem dJ7_init_2_89 : decode cJ7_init_2 89 = .ok (.iconst 1, 1) := dk_4 (dk_at dksJ7_init_2_3 17 rfl rfl)
theorem dJ7_init_2_90 : decode cJ7_init_2 90 = .ok (.ishl, 1) := dk_120 (dk_at dksJ7_init_2_3 18 rfl rfl)
theorem dJ7_init_2_91 : decode cJ7_init_2 91 = .ok (.invokestatic 54, 3) := dk_184 0 54 (dk_at dksJ7_init_2_3 19 rfl rfl)
theorem dJ7_init_2_94 : decode cJ7_init_2 94 = .ok (.putfield 9, 3) := dk_181 0 9 (dk_at dksJ7_init_2_4 0 rfl rfl)
theorem dJ7_init_2_97 : decode cJ7_init_2 97 = .ok (.return_, 1) := dk_177 (dk_at dksJ7_init_2_4 3 rfl rfl)
abbrev cJ7_checkBoundsBeginEnd : ByteArray := prog_41_method_158_code
def yJ7_checkBoundsBeginEnd : MethodName := ⟨RJ7, "checkBoundsBeginEnd", "(III)V"⟩
def dkwJ7_checkBoundsBeginEnd_0 : List UInt8 := [26, 27, 28, 178, 4, 29, 184, 4, 38, 87, 177]
abbrev dktJ7_checkBoundsBeginEnd_0 : List UInt8 := dkwJ7_checkBoundsBeginEnd_0 ++ []
theorem dksJ7_checkBoundsBeginEnd_0 : cJ7_checkBoundsBeginEnd.data.toList.drop 0 = dktJ7_checkBoundsBeginEnd_0 := by decide +kernel
theorem dJ7_checkBoundsBeginEnd_0 : decode cJ7_checkBoundsBeginEnd 0 = .ok (.iload_n 0, 1) := dk_26 (dk_at dksJ7_checkBoundsBeginEnd_0 0 rfl rfl)
theorem dJ7_checkBoundsBeginEnd_1 : decode cJ7_checkBoundsBeginEnd 1 = .ok (.iload_n 1, 1) := dk_27 (dk_at dksJ7_checkBoundsBeginEnd_0 1 rfl rfl)
theorem dJ7_checkBoundsBeginEnd_2 : decode cJ7_checkBoundsBeginEnd 2 = .ok (.iload_n 2, 1) := dk_28 (dk_at dksJ7_checkBoundsBeginEnd_0 2 rfl rfl)
theorem dJ7_checkBoundsBeginEnd_3 : decode cJ7_checkBoundsBeginEnd 3 = .ok (.getstatic 1053, 3) := dk_178 4 29 (dk_at dksJ7_checkBoundsBeginEnd_0 3 rfl rfl)
theorem dJ7_checkBoundsBeginEnd_6 : decode cJ7_checkBoundsBeginEnd 6 = .ok (.invokestatic 1062, 3) := dk_184 4 38 (dk_at dksJ7_checkBoundsBeginEnd_0 6 rfl rfl)
theorem dJ7_checkBoundsBeginEnd_9 : decode cJ7_checkBoundsBeginEnd 9 = .ok (.pop, 1) := dk_87 (dk_at dksJ7_checkBoundsBeginEnd_0 9 rfl rfl)
theorem dJ7_checkBoundsBeginEnd_10 : decode cJ7_checkBoundsBeginEnd 10 = .ok (.return_, 1) := dk_177 (dk_at dksJ7_checkBoundsBeginEnd_0 10 rfl rfl)
abbrev cJ7_length : ByteArray := prog_41_method_54_code
def yJ7_length : MethodName := ⟨RJ7, "length", "()I"⟩
def dkwJ7_length_0 : List UInt8 := [42, 180, 0, 9, 190, 42, 182, 1, 79, 122, 172]
abbrev dktJ7_length_0 : List UInt8 := dkwJ7_length_0 ++ []
theorem dksJ7_length_0 : cJ7_length.data.toList.drop 0 = dktJ7_length_0 := by decide +kernel
theorem dJ7_length_0 : decode cJ7_length 0 = .ok (.aload_n 0, 1) := dk_42 (dk_at dksJ7_length_0 0 rfl rfl)
theorem dJ7_length_1 : decode cJ7_length 1 = .ok (.getfield 9, 3) := dk_180 0 9 (dk_at dksJ7_length_0 1 rfl rfl)
theorem dJ7_length_4 : decode cJ7_length 4 = .ok (.arraylength, 1) := dk_190 (dk_at dksJ7_length_0 4 rfl rfl)
theorem dJ7_length_5 : decode cJ7_length 5 = .ok (.aload_n 0, 1) := dk_42 (dk_at dksJ7_length_0 5 rfl rfl)
theorem dJ7_length_6 : decode cJ7_length 6 = .ok (.invokevirtual 335, 3) := dk_182 1 79 (dk_at dksJ7_length_0 6 rfl rfl)
theorem dJ7_length_9 : decode cJ7_length 9 = .ok (.ishr, 1) := dk_122 (dk_at dksJ7_length_0 9 rfl rfl)
theorem dJ7_length_10 : decode cJ7_length 10 = .ok (.ireturn, 1) := dk_172 (dk_at dksJ7_length_0 10 rfl rfl)
abbrev cJ7_coder : ByteArray := prog_41_method_152_code
def yJ7_coder : MethodName := ⟨RJ7, "coder", "()B"⟩
def dkwJ7_coder_0 : List UInt8 := [178, 0, 38, 153, 0, 10, 42, 180, 0, 15, 167, 0, 4, 4, 172]
abbrev dktJ7_coder_0 : List UInt8 := dkwJ7_coder_0 ++ []
theorem dksJ7_coder_0 : cJ7_coder.data.toList.drop 0 = dktJ7_coder_0 := by decide +kernel
theorem dJ7_coder_0 : decode cJ7_coder 0 = .ok (.getstatic 38, 3) := dk_178 0 38 (dk_at dksJ7_coder_0 0 rfl rfl)
theorem dJ7_coder_3 : decode cJ7_coder 3 = .ok (.ifCond .eq 10, 3) := dk_153 0 10 (dk_at dksJ7_coder_0 3 rfl rfl)
theorem dJ7_coder_6 : decode cJ7_coder 6 = .ok (.aload_n 0, 1) := dk_42 (dk_at dksJ7_coder_0 6 rfl rfl)
theorem dJ7_coder_7 : decode cJ7_coder 7 = .ok (.getfield 15, 3) := dk_180 0 15 (dk_at dksJ7_coder_0 7 rfl rfl)
theorem dJ7_coder_10 : decode cJ7_coder 10 = .ok (.goto 4, 3) := dk_167 0 4 (dk_at dksJ7_coder_0 10 rfl rfl)
theorem dJ7_coder_13 : decode cJ7_coder 13 = .ok (.iconst 1, 1) := dk_4 (dk_at dksJ7_coder_0 13 rfl rfl)
theorem dJ7_coder_14 : decode cJ7_coder 14 = .ok (.ireturn, 1) := dk_172 (dk_at dksJ7_coder_0 14 rfl rfl)
abbrev cJ7_getBytes : ByteArray := prog_41_method_147_code
def yJ7_getBytes : MethodName := ⟨RJ7, "getBytes", "([BIB)V"⟩
def dkwJ7_getBytes_1 : List UInt8 := [184, 0, 212, 167, 0, 18, 42, 180, 0, 9, 3, 43, 28, 42, 180, 0, 9, 190, 184, 0, 106, 177]
abbrev dktJ7_getBytes_1 : List UInt8 := dkwJ7_getBytes_1 ++ []
def dkwJ7_getBytes_0 : List UInt8 := [42, 182, 1, 79, 29, 160, 0, 23, 42, 180, 0, 9, 3, 43, 28, 29, 120, 42, 180, 0, 9, 190]
abbrev dktJ7_getBytes_0 : List UInt8 := dkwJ7_getBytes_0 ++ dktJ7_getBytes_1
theorem dksJ7_getBytes_0 : cJ7_getBytes.data.toList.drop 0 = dktJ7_getBytes_0 := by decide +kernel
theorem dksJ7_getBytes_1 : cJ7_getBytes.data.toList.drop 22 = dktJ7_getBytes_1 := dk_seg dksJ7_getBytes_0 22 rfl rfl
theorem dJ7_getBytes_0 : decode cJ7_getBytes 0 = .ok (.aload_n 0, 1) := dk_42 (dk_at dksJ7_getBytes_0 0 rfl rfl)
theorem dJ7_getBytes_1 : decode cJ7_getBytes 1 = .ok (.invokevirtual 335, 3) := dk_182 1 79 (dk_at dksJ7_getBytes_0 1 rfl rfl)
theorem dJ7_getBytes_4 : decode cJ7_getBytes 4 = .ok (.iload_n 3, 1) := dk_29 (dk_at dksJ7_getBytes_0 4 rfl rfl)
theorem dJ7_getBytes_5 : decode cJ7_getBytes 5 = .ok (.if_icmp .ne 23, 3) := dk_160 0 23 (dk_at dksJ7_getBytes_0 5 rfl rfl)
theorem dJ7_getBytes_8 : decode cJ7_getBytes 8 = .ok (.aload_n 0, 1) := dk_42 (dk_at dksJ7_getBytes_0 8 rfl rfl)
theorem dJ7_getBytes_9 : decode cJ7_getBytes 9 = .ok (.getfield 9, 3) := dk_180 0 9 (dk_at dksJ7_getBytes_0 9 rfl rfl)
theorem dJ7_getBytes_12 : decode cJ7_getBytes 12 = .ok (.iconst 0, 1) := dk_3 (dk_at dksJ7_getBytes_0 12 rfl rfl)
theorem dJ7_getBytes_13 : decode cJ7_getBytes 13 = .ok (.aload_n 1, 1) := dk_43 (dk_at dksJ7_getBytes_0 13 rfl rfl)
theorem dJ7_getBytes_14 : decode cJ7_getBytes 14 = .ok (.iload_n 2, 1) := dk_28 (dk_at dksJ7_getBytes_0 14 rfl rfl)
theorem dJ7_getBytes_15 : decode cJ7_getBytes 15 = .ok (.iload_n 3, 1) := dk_29 (dk_at dksJ7_getBytes_0 15 rfl rfl)
theorem dJ7_getBytes_16 : decode cJ7_getBytes 16 = .ok (.ishl, 1) := dk_120 (dk_at dksJ7_getBytes_0 16 rfl rfl)
theorem dJ7_getBytes_17 : decode cJ7_getBytes 17 = .ok (.aload_n 0, 1) := dk_42 (dk_at dksJ7_getBytes_0 17 rfl rfl)
theorem dJ7_getBytes_18 : decode cJ7_getBytes 18 = .ok (.getfield 9, 3) := dk_180 0 9 (dk_at dksJ7_getBytes_0 18 rfl rfl)
theorem dJ7_getBytes_21 : decode cJ7_getBytes 21 = .ok (.arraylength, 1) := dk_190 (dk_at dksJ7_getBytes_0 21 rfl rfl)
theorem dJ7_getBytes_22 : decode cJ7_getBytes 22 = .ok (.invokestatic 212, 3) := dk_184 0 212 (dk_at dksJ7_getBytes_1 0 rfl rfl)
theorem dJ7_getBytes_25 : decode cJ7_getBytes 25 = .ok (.goto 18, 3) := dk_167 0 18 (dk_at dksJ7_getBytes_1 3 rfl rfl)
theorem dJ7_getBytes_28 : decode cJ7_getBytes 28 = .ok (.aload_n 0, 1) := dk_42 (dk_at dksJ7_getBytes_1 6 rfl rfl)
theorem dJ7_getBytes_29 : decode cJ7_getBytes 29 = .ok (.getfield 9, 3) := dk_180 0 9 (dk_at dksJ7_getBytes_1 7 rfl rfl)
theorem dJ7_getBytes_32 : decode cJ7_getBytes 32 = .ok (.iconst 0, 1) := dk_3 (dk_at dksJ7_getBytes_1 10 rfl rfl)
theorem dJ7_getBytes_33 : decode cJ7_getBytes 33 = .ok (.aload_n 1, 1) := dk_43 (dk_at dksJ7_getBytes_1 11 rfl rfl)
theorem dJ7_getBytes_34 : decode cJ7_getBytes 34 = .ok (.iload_n 2, 1) := dk_28 (dk_at dksJ7_getBytes_1 12 rfl rfl)
theorem dJ7_getBytes_35 : decode cJ7_getBytes 35 = .ok (.aload_n 0, 1) := dk_42 (dk_at dksJ7_getBytes_1 13 rfl rfl)
theorem dJ7_getBytes_36 : decode cJ7_getBytes 36 = .ok (.getfield 9, 3) := dk_180 0 9 (dk_at dksJ7_getBytes_1 14 rfl rfl)
theorem dJ7_getBytes_39 : decode cJ7_getBytes 39 = .ok (.arraylength, 1) := dk_190 (dk_at dksJ7_getBytes_1 17 rfl rfl)
theorem dJ7_getBytes_40 : decode cJ7_getBytes 40 = .ok (.invokestatic 106, 3) := dk_184 0 106 (dk_at dksJ7_getBytes_1 18 rfl rfl)
theorem dJ7_getBytes_43 : decode cJ7_getBytes 43 = .ok (.return_, 1) := dk_177 (dk_at dksJ7_getBytes_1 21 rfl rfl)
abbrev cJ7_indexOf : ByteArray := prog_41_method_79_code
def yJ7_indexOf : MethodName := ⟨RJ7, "indexOf", "(I)I"⟩
def dkwJ7_indexOf_0 : List UInt8 := [42, 27, 3, 182, 2, 121, 172]
abbrev dktJ7_indexOf_0 : List UInt8 := dkwJ7_indexOf_0 ++ []
theorem dksJ7_indexOf_0 : cJ7_indexOf.data.toList.drop 0 = dktJ7_indexOf_0 := by decide +kernel
theorem dJ7_indexOf_0 : decode cJ7_indexOf 0 = .ok (.aload_n 0, 1) := dk_42 (dk_at dksJ7_indexOf_0 0 rfl rfl)
theorem dJ7_indexOf_1 : decode cJ7_indexOf 1 = .ok (.iload_n 1, 1) := dk_27 (dk_at dksJ7_indexOf_0 1 rfl rfl)
theorem dJ7_indexOf_2 : decode cJ7_indexOf 2 = .ok (.iconst 0, 1) := dk_3 (dk_at dksJ7_indexOf_0 2 rfl rfl)
theorem dJ7_indexOf_3 : decode cJ7_indexOf 3 = .ok (.invokevirtual 633, 3) := dk_182 2 121 (dk_at dksJ7_indexOf_0 3 rfl rfl)
theorem dJ7_indexOf_6 : decode cJ7_indexOf 6 = .ok (.ireturn, 1) := dk_172 (dk_at dksJ7_indexOf_0 6 rfl rfl)
abbrev cJ7_indexOf_2 : ByteArray := prog_41_method_80_code
def yJ7_indexOf_2 : MethodName := ⟨RJ7, "indexOf", "(II)I"⟩
def dkwJ7_indexOf_2_1 : List UInt8 := [180, 0, 9, 27, 28, 42, 182, 1, 249, 184, 2, 128, 172]
abbrev dktJ7_indexOf_2_1 : List UInt8 := dkwJ7_indexOf_2_1 ++ []
def dkwJ7_indexOf_2_0 : List UInt8 := [42, 182, 1, 236, 153, 0, 19, 42, 180, 0, 9, 27, 28, 42, 182, 1, 249, 184, 2, 125, 167, 0, 16, 42]
abbrev dktJ7_indexOf_2_0 : List UInt8 := dkwJ7_indexOf_2_0 ++ dktJ7_indexOf_2_1
theorem dksJ7_indexOf_2_0 : cJ7_indexOf_2.data.toList.drop 0 = dktJ7_indexOf_2_0 := by decide +kernel
theorem dksJ7_indexOf_2_1 : cJ7_indexOf_2.data.toList.drop 24 = dktJ7_indexOf_2_1 := dk_seg dksJ7_indexOf_2_0 24 rfl rfl
theorem dJ7_indexOf_2_0 : decode cJ7_indexOf_2 0 = .ok (.aload_n 0, 1) := dk_42 (dk_at dksJ7_indexOf_2_0 0 rfl rfl)
theorem dJ7_indexOf_2_1 : decode cJ7_indexOf_2 1 = .ok (.invokevirtual 492, 3) := dk_182 1 236 (dk_at dksJ7_indexOf_2_0 1 rfl rfl)
theorem dJ7_indexOf_2_4 : decode cJ7_indexOf_2 4 = .ok (.ifCond .eq 19, 3) := dk_153 0 19 (dk_at dksJ7_indexOf_2_0 4 rfl rfl)
theorem dJ7_indexOf_2_7 : decode cJ7_indexOf_2 7 = .ok (.aload_n 0, 1) := dk_42 (dk_at dksJ7_indexOf_2_0 7 rfl rfl)
theorem dJ7_indexOf_2_8 : decode cJ7_indexOf_2 8 = .ok (.getfield 9, 3) := dk_180 0 9 (dk_at dksJ7_indexOf_2_0 8 rfl rfl)
theorem dJ7_indexOf_2_11 : decode cJ7_indexOf_2 11 = .ok (.iload_n 1, 1) := dk_27 (dk_at dksJ7_indexOf_2_0 11 rfl rfl)
theorem dJ7_indexOf_2_12 : decode cJ7_indexOf_2 12 = .ok (.iload_n 2, 1) := dk_28 (dk_at dksJ7_indexOf_2_0 12 rfl rfl)
theorem dJ7_indexOf_2_13 : decode cJ7_indexOf_2 13 = .ok (.aload_n 0, 1) := dk_42 (dk_at dksJ7_indexOf_2_0 13 rfl rfl)
theorem dJ7_indexOf_2_14 : decode cJ7_indexOf_2 14 = .ok (.invokevirtual 505, 3) := dk_182 1 249 (dk_at dksJ7_indexOf_2_0 14 rfl rfl)
theorem dJ7_indexOf_2_17 : decode cJ7_indexOf_2 17 = .ok (.invokestatic 637, 3) := dk_184 2 125 (dk_at dksJ7_indexOf_2_0 17 rfl rfl)
theorem dJ7_indexOf_2_20 : decode cJ7_indexOf_2 20 = .ok (.goto 16, 3) := dk_167 0 16 (dk_at dksJ7_indexOf_2_0 20 rfl rfl)
theorem dJ7_indexOf_2_23 : decode cJ7_indexOf_2 23 = .ok (.aload_n 0, 1) := dk_42 (dk_at dksJ7_indexOf_2_0 23 rfl rfl)
theorem dJ7_indexOf_2_24 : decode cJ7_indexOf_2 24 = .ok (.getfield 9, 3) := dk_180 0 9 (dk_at dksJ7_indexOf_2_1 0 rfl rfl)
theorem dJ7_indexOf_2_27 : decode cJ7_indexOf_2 27 = .ok (.iload_n 1, 1) := dk_27 (dk_at dksJ7_indexOf_2_1 3 rfl rfl)
theorem dJ7_indexOf_2_28 : decode cJ7_indexOf_2 28 = .ok (.iload_n 2, 1) := dk_28 (dk_at dksJ7_indexOf_2_1 4 rfl rfl)
theorem dJ7_indexOf_2_29 : decode cJ7_indexOf_2 29 = .ok (.aload_n 0, 1) := dk_42 (dk_at dksJ7_indexOf_2_1 5 rfl rfl)
theorem dJ7_indexOf_2_30 : decode cJ7_indexOf_2 30 = .ok (.invokevirtual 505, 3) := dk_182 1 249 (dk_at dksJ7_indexOf_2_1 6 rfl rfl)
theorem dJ7_indexOf_2_33 : decode cJ7_indexOf_2 33 = .ok (.invokestatic 640, 3) := dk_184 2 128 (dk_at dksJ7_indexOf_2_1 9 rfl rfl)
theorem dJ7_indexOf_2_36 : decode cJ7_indexOf_2 36 = .ok (.ireturn, 1) := dk_172 (dk_at dksJ7_indexOf_2_1 12 rfl rfl)
abbrev cJ7_isLatin1 : ByteArray := prog_41_method_154_code
def yJ7_isLatin1 : MethodName := ⟨RJ7, "isLatin1", "()Z"⟩
def dkwJ7_isLatin1_0 : List UInt8 := [178, 0, 38, 153, 0, 14, 42, 180, 0, 15, 154, 0, 7, 4, 167, 0, 4, 3, 172]
abbrev dktJ7_isLatin1_0 : List UInt8 := dkwJ7_isLatin1_0 ++ []
theorem dksJ7_isLatin1_0 : cJ7_isLatin1.data.toList.drop 0 = dktJ7_isLatin1_0 := by decide +kernel
theorem dJ7_isLatin1_0 : decode cJ7_isLatin1 0 = .ok (.getstatic 38, 3) := dk_178 0 38 (dk_at dksJ7_isLatin1_0 0 rfl rfl)
theorem dJ7_isLatin1_3 : decode cJ7_isLatin1 3 = .ok (.ifCond .eq 14, 3) := dk_153 0 14 (dk_at dksJ7_isLatin1_0 3 rfl rfl)
theorem dJ7_isLatin1_6 : decode cJ7_isLatin1 6 = .ok (.aload_n 0, 1) := dk_42 (dk_at dksJ7_isLatin1_0 6 rfl rfl)
theorem dJ7_isLatin1_7 : decode cJ7_isLatin1 7 = .ok (.getfield 15, 3) := dk_180 0 15 (dk_at dksJ7_isLatin1_0 7 rfl rfl)
theorem dJ7_isLatin1_10 : decode cJ7_isLatin1 10 = .ok (.ifCond .ne 7, 3) := dk_154 0 7 (dk_at dksJ7_isLatin1_0 10 rfl rfl)
theorem dJ7_isLatin1_13 : decode cJ7_isLatin1 13 = .ok (.iconst 1, 1) := dk_4 (dk_at dksJ7_isLatin1_0 13 rfl rfl)
theorem dJ7_isLatin1_14 : decode cJ7_isLatin1 14 = .ok (.goto 4, 3) := dk_167 0 4 (dk_at dksJ7_isLatin1_0 14 rfl rfl)
theorem dJ7_isLatin1_17 : decode cJ7_isLatin1 17 = .ok (.iconst 0, 1) := dk_3 (dk_at dksJ7_isLatin1_0 17 rfl rfl)
theorem dJ7_isLatin1_18 : decode cJ7_isLatin1 18 = .ok (.ireturn, 1) := dk_172 (dk_at dksJ7_isLatin1_0 18 rfl rfl)
abbrev cJ7_equals : ByteArray := prog_41_method_66_code
def yJ7_equals : MethodName := ⟨RJ7, "equals", "(Ljava/lang/Object;)Z"⟩
def dkwJ7_equals_2 : List UInt8 := [184, 2, 29, 153, 0, 7, 4, 167, 0, 4, 3, 172]
abbrev dktJ7_equals_2 : List UInt8 := dkwJ7_equals_2 ++ []
def dkwJ7_equals_1 : List UInt8 := [153, 0, 14, 42, 180, 0, 15, 44, 180, 0, 15, 160, 0, 21, 42, 180, 0, 9, 44, 180, 0, 9]
abbrev dktJ7_equals_1 : List UInt8 := dkwJ7_equals_1 ++ dktJ7_equals_2
def dkwJ7_equals_0 : List UInt8 := [42, 43, 166, 0, 5, 4, 172, 43, 193, 0, 10, 153, 0, 43, 43, 192, 0, 10, 77, 178, 0, 38]
abbrev dktJ7_equals_0 : List UInt8 := dkwJ7_equals_0 ++ dktJ7_equals_1
theorem dksJ7_equals_0 : cJ7_equals.data.toList.drop 0 = dktJ7_equals_0 := by decide +kernel
theorem dksJ7_equals_1 : cJ7_equals.data.toList.drop 22 = dktJ7_equals_1 := dk_seg dksJ7_equals_0 22 rfl rfl
theorem dksJ7_equals_2 : cJ7_equals.data.toList.drop 44 = dktJ7_equals_2 := dk_seg dksJ7_equals_1 22 rfl rfl
theorem dJ7_equals_0 : decode cJ7_equals 0 = .ok (.aload_n 0, 1) := dk_42 (dk_at dksJ7_equals_0 0 rfl rfl)
theorem dJ7_equals_1 : decode cJ7_equals 1 = .ok (.aload_n 1, 1) := dk_43 (dk_at dksJ7_equals_0 1 rfl rfl)
theorem dJ7_equals_2 : decode cJ7_equals 2 = .ok (.if_acmp .ne 5, 3) := dk_166 0 5 (dk_at dksJ7_equals_0 2 rfl rfl)
theorem dJ7_equals_5 : decode cJ7_equals 5 = .ok (.iconst 1, 1) := dk_4 (dk_at dksJ7_equals_0 5 rfl rfl)
theorem dJ7_equals_6 : decode cJ7_equals 6 = .ok (.ireturn, 1) := dk_172 (dk_at dksJ7_equals_0 6 rfl rfl)
theorem dJ7_equals_7 : decode cJ7_equals 7 = .ok (.aload_n 1, 1) := dk_43 (dk_at dksJ7_equals_0 7 rfl rfl)
theorem dJ7_equals_8 : decode cJ7_equals 8 = .ok (.instanceof 10, 3) := dk_193 0 10 (dk_at dksJ7_equals_0 8 rfl rfl)
theorem dJ7_equals_11 : decode cJ7_equals 11 = .ok (.ifCond .eq 43, 3) := dk_153 0 43 (dk_at dksJ7_equals_0 11 rfl rfl)
theorem dJ7_equals_14 : decode cJ7_equals 14 = .ok (.aload_n 1, 1) := dk_43 (dk_at dksJ7_equals_0 14 rfl rfl)
theorem dJ7_equals_15 : decode cJ7_equals 15 = .ok (.checkcast 10, 3) := dk_192 0 10 (dk_at dksJ7_equals_0 15 rfl rfl)
theorem dJ7_equals_18 : decode cJ7_equals 18 = .ok (.astore_n 2, 1) := dk_77 (dk_at dksJ7_equals_0 18 rfl rfl)
theorem dJ7_equals_19 : decode cJ7_equals 19 = .ok (.getstatic 38, 3) := dk_178 0 38 (dk_at dksJ7_equals_0 19 rfl rfl)
theorem dJ7_equals_22 : decode cJ7_equals 22 = .ok (.ifCond .eq 14, 3) := dk_153 0 14 (dk_at dksJ7_equals_1 0 rfl rfl)
theorem dJ7_equals_25 : decode cJ7_equals 25 = .ok (.aload_n 0, 1) := dk_42 (dk_at dksJ7_equals_1 3 rfl rfl)
theorem dJ7_equals_26 : decode cJ7_equals 26 = .ok (.getfield 15, 3) := dk_180 0 15 (dk_at dksJ7_equals_1 4 rfl rfl)
theorem dJ7_equals_29 : decode cJ7_equals 29 = .ok (.aload_n 2, 1) := dk_44 (dk_at dksJ7_equals_1 7 rfl rfl)
theorem dJ7_equals_30 : decode cJ7_equals 30 = .ok (.getfield 15, 3) := dk_180 0 15 (dk_at dksJ7_equals_1 8 rfl rfl)
theorem dJ7_equals_33 : decode cJ7_equals 33 = .ok (.if_icmp .ne 21, 3) := dk_160 0 21 (dk_at dksJ7_equals_1 11 rfl rfl)
theorem dJ7_equals_36 : decode cJ7_equals 36 = .ok (.aload_n 0, 1) := dk_42 (dk_at dksJ7_equals_1 14 rfl rfl)
theorem dJ7_equals_37 : decode cJ7_equals 37 = .ok (.getfield 9, 3) := dk_180 0 9 (dk_at dksJ7_equals_1 15 rfl rfl)
theorem dJ7_equals_40 : decode cJ7_equals 40 = .ok (.aload_n 2, 1) := dk_44 (dk_at dksJ7_equals_1 18 rfl rfl)
theorem dJ7_equals_41 : decode cJ7_equals 41 = .ok (.getfield 9, 3) := dk_180 0 9 (dk_at dksJ7_equals_1 19 rfl rfl)
theorem dJ7_equals_44 : decode cJ7_equals 44 = .ok (.invokestatic 541, 3) := dk_184 2 29 (dk_at dksJ7_equals_2 0 rfl rfl)
theorem dJ7_equals_47 : decode cJ7_equals 47 = .ok (.ifCond .eq 7, 3) := dk_153 0 7 (dk_at dksJ7_equals_2 3 rfl rfl)
theorem dJ7_equals_50 : decode cJ7_equals 50 = .ok (.iconst 1, 1) := dk_4 (dk_at dksJ7_equals_2 6 rfl rfl)
theorem dJ7_equals_51 : decode cJ7_equals 51 = .ok (.goto 4, 3) := dk_167 0 4 (dk_at dksJ7_equals_2 7 rfl rfl)
theorem dJ7_equals_54 : decode cJ7_equals 54 = .ok (.iconst 0, 1) := dk_3 (dk_at dksJ7_equals_2 10 rfl rfl)
theorem dJ7_equals_55 : decode cJ7_equals 55 = .ok (.ireturn, 1) := dk_172 (dk_at dksJ7_equals_2 11 rfl rfl)
abbrev cJ7_hashCode : ByteArray := prog_41_method_78_code
def yJ7_hashCode : MethodName := ⟨RJ7, "hashCode", "()I"⟩
def dkwJ7_hashCode_2 : List UInt8 := [181, 0, 23, 167, 0, 8, 42, 27, 181, 0, 19, 27, 172]
abbrev dktJ7_hashCode_2 : List UInt8 := dkwJ7_hashCode_2 ++ []
def dkwJ7_hashCode_1 : List UInt8 := [180, 0, 9, 184, 2, 116, 167, 0, 10, 42, 180, 0, 9, 184, 2, 120, 60, 27, 154, 0, 11, 42, 4]
abbrev dktJ7_hashCode_1 : List UInt8 := dkwJ7_hashCode_1 ++ dktJ7_hashCode_2
def dkwJ7_hashCode_0 : List UInt8 := [42, 180, 0, 19, 60, 27, 154, 0, 52, 42, 180, 0, 23, 154, 0, 45, 42, 182, 1, 236, 153, 0, 13, 42]
abbrev dktJ7_hashCode_0 : List UInt8 := dkwJ7_hashCode_0 ++ dktJ7_hashCode_1
theorem dksJ7_hashCode_0 : cJ7_hashCode.data.toList.drop 0 = dktJ7_hashCode_0 := by decide +kernel
theorem dksJ7_hashCode_1 : cJ7_hashCode.data.toList.drop 24 = dktJ7_hashCode_1 := dk_seg dksJ7_hashCode_0 24 rfl rfl
theorem dksJ7_hashCode_2 : cJ7_hashCode.data.toList.drop 47 = dktJ7_hashCode_2 := dk_seg dksJ7_hashCode_1 23 rfl rfl
theorem dJ7_hashCode_0 : decode cJ7_hashCode 0 = .ok (.aload_n 0, 1) := dk_42 (dk_at dksJ7_hashCode_0 0 rfl rfl)
theorem dJ7_hashCode_1 : decode cJ7_hashCode 1 = .ok (.getfield 19, 3) := dk_180 0 19 (dk_at dksJ7_hashCode_0 1 rfl rfl)
theorem dJ7_hashCode_4 : decode cJ7_hashCode 4 = .ok (.istore_n 1, 1) := dk_60 (dk_at dksJ7_hashCode_0 4 rfl rfl)
theorem dJ7_hashCode_5 : decode cJ7_hashCode 5 = .ok (.iload_n 1, 1) := dk_27 (dk_at dksJ7_hashCode_0 5 rfl rfl)
theorem dJ7_hashCode_6 : decode cJ7_hashCode 6 = .ok (.ifCond .ne 52, 3) := dk_154 0 52 (dk_at dksJ7_hashCode_0 6 rfl rfl)
theorem dJ7_hashCode_9 : decode cJ7_hashCode 9 = .ok (.aload_n 0, 1) := dk_42 (dk_at dksJ7_hashCode_0 9 rfl rfl)
theorem dJ7_hashCode_10 : decode cJ7_hashCode 10 = .ok (.getfield 23, 3) := dk_180 0 23 (dk_at dksJ7_hashCode_0 10 rfl rfl)
theorem dJ7_hashCode_13 : decode cJ7_hashCode 13 = .ok (.ifCond .ne 45, 3) := dk_154 0 45 (dk_at dksJ7_hashCode_0 13 rfl rfl)
theorem dJ7_hashCode_16 : decode cJ7_hashCode 16 = .ok (.aload_n 0, 1) := dk_42 (dk_at dksJ7_hashCode_0 16 rfl rfl)
theorem dJ7_hashCode_17 : decode cJ7_hashCode 17 = .ok (.invokevirtual 492, 3) := dk_182 1 236 (dk_at dksJ7_hashCode_0 17 rfl rfl)
theorem dJ7_hashCode_20 : decode cJ7_hashCode 20 = .ok (.ifCond .eq 13, 3) := dk_153 0 13 (dk_at dksJ7_hashCode_0 20 rfl rfl)
theorem dJ7_hashCode_23 : decode cJ7_hashCode 23 = .ok (.aload_n 0, 1) := dk_42 (dk_at dksJ7_hashCode_0 23 rfl rfl)
theorem dJ7_hashCode_24 : decode cJ7_hashCode 24 = .ok (.getfield 9, 3) := dk_180 0 9 (dk_at dksJ7_hashCode_1 0 rfl rfl)
theorem dJ7_hashCode_27 : decode cJ7_hashCode 27 = .ok (.invokestatic 628, 3) := dk_184 2 116 (dk_at dksJ7_hashCode_1 3 rfl rfl)
theorem dJ7_hashCode_30 : decode cJ7_hashCode 30 = .ok (.goto 10, 3) := dk_167 0 10 (dk_at dksJ7_hashCode_1 6 rfl rfl)
theorem dJ7_hashCode_33 : decode cJ7_hashCode 33 = .ok (.aload_n 0, 1) := dk_42 (dk_at dksJ7_hashCode_1 9 rfl rfl)
theorem dJ7_hashCode_34 : decode cJ7_hashCode 34 = .ok (.getfield 9, 3) := dk_180 0 9 (dk_at dksJ7_hashCode_1 10 rfl rfl)
theorem dJ7_hashCode_37 : decode cJ7_hashCode 37 = .ok (.invokestatic 632, 3) := dk_184 2 120 (dk_at dksJ7_hashCode_1 13 rfl rfl)
theorem dJ7_hashCode_40 : decode cJ7_hashCode 40 = .ok (.istore_n 1, 1) := dk_60 (dk_at dksJ7_hashCode_1 16 rfl rfl)
theorem dJ7_hashCode_41 : decode cJ7_hashCode 41 = .ok (.iload_n 1, 1) := dk_27 (dk_at dksJ7_hashCode_1 17 rfl rfl)
theorem dJ7_hashCode_42 : decode cJ7_hashCode 42 = .ok (.ifCond .ne 11, 3) := dk_154 0 11 (dk_at dksJ7_hashCode_1 18 rfl rfl)
theorem dJ7_hashCode_45 : decode cJ7_hashCode 45 = .ok (.aload_n 0, 1) := dk_42 (dk_at dksJ7_hashCode_1 21 rfl rfl)
theorem dJ7_hashCode_46 : decode cJ7_hashCode 46 = .ok (.iconst 1, 1) := dk_4 (dk_at dksJ7_hashCode_1 22 rfl rfl)
theorem dJ7_hashCode_47 : decode cJ7_hashCode 47 = .ok (.putfield 23, 3) := dk_181 0 23 (dk_at dksJ7_hashCode_2 0 rfl rfl)
theorem dJ7_hashCode_50 : decode cJ7_hashCode 50 = .ok (.goto 8, 3) := dk_167 0 8 (dk_at dksJ7_hashCode_2 3 rfl rfl)
theorem dJ7_hashCode_53 : decode cJ7_hashCode 53 = .ok (.aload_n 0, 1) := dk_42 (dk_at dksJ7_hashCode_2 6 rfl rfl)
theorem dJ7_hashCode_54 : decode cJ7_hashCode 54 = .ok (.iload_n 1, 1) := dk_27 (dk_at dksJ7_hashCode_2 7 rfl rfl)
theorem dJ7_hashCode_55 : decode cJ7_hashCode 55 = .ok (.putfield 19, 3) := dk_181 0 19 (dk_at dksJ7_hashCode_2 8 rfl rfl)
theorem dJ7_hashCode_58 : decode cJ7_hashCode 58 = .ok (.iload_n 1, 1) := dk_27 (dk_at dksJ7_hashCode_2 11 rfl rfl)
theorem dJ7_hashCode_59 : decode cJ7_hashCode 59 = .ok (.ireturn, 1) := dk_172 (dk_at dksJ7_hashCode_2 12 rfl rfl)
abbrev cJ7_compareTo : ByteArray := prog_41_method_162_code
def yJ7_compareTo : MethodName := ⟨RJ7, "compareTo", "(Ljava/lang/Object;)I"⟩
def dkwJ7_compareTo_0 : List UInt8 := [42, 43, 192, 0, 10, 182, 4, 60, 172]
abbrev dktJ7_compareTo_0 : List UInt8 := dkwJ7_compareTo_0 ++ []
theorem dksJ7_compareTo_0 : cJ7_compareTo.data.toList.drop 0 = dktJ7_compareTo_0 := by decide +kernel
theorem dJ7_compareTo_0 : decode cJ7_compareTo 0 = .ok (.aload_n 0, 1) := dk_42 (dk_at dksJ7_compareTo_0 0 rfl rfl)
theorem dJ7_compareTo_1 : decode cJ7_compareTo 1 = .ok (.aload_n 1, 1) := dk_43 (dk_at dksJ7_compareTo_0 1 rfl rfl)
theorem dJ7_compareTo_2 : decode cJ7_compareTo 2 = .ok (.checkcast 10, 3) := dk_192 0 10 (dk_at dksJ7_compareTo_0 2 rfl rfl)
theorem dJ7_compareTo_5 : decode cJ7_compareTo 5 = .ok (.invokevirtual 1084, 3) := dk_182 4 60 (dk_at dksJ7_compareTo_0 5 rfl rfl)
theorem dJ7_compareTo_8 : decode cJ7_compareTo 8 = .ok (.ireturn, 1) := dk_172 (dk_at dksJ7_compareTo_0 8 rfl rfl)
abbrev cJ7_compareTo_2 : ByteArray := prog_41_method_71_code
def yJ7_compareTo_2 : MethodName := ⟨RJ7, "compareTo", "(Ljava/lang/String;)I"⟩
def dkwJ7_compareTo_2_2 : List UInt8 := [154, 0, 11, 44, 45, 184, 2, 79, 167, 0, 8, 44, 45, 184, 2, 82, 172]
abbrev dktJ7_compareTo_2_2 : List UInt8 := dkwJ7_compareTo_2_2 ++ []
def dkwJ7_compareTo_2_1 : List UInt8 := [160, 0, 22, 21, 4, 154, 0, 11, 44, 45, 184, 2, 74, 167, 0, 8, 44, 45, 184, 2, 78, 172, 21, 4]
abbrev dktJ7_compareTo_2_1 : List UInt8 := dkwJ7_compareTo_2_1 ++ dktJ7_compareTo_2_2
def dkwJ7_compareTo_2_0 : List UInt8 := [42, 180, 0, 9, 77, 43, 180, 0, 9, 78, 42, 182, 1, 79, 54, 4, 21, 4, 43, 182, 1, 79]
abbrev dktJ7_compareTo_2_0 : List UInt8 := dkwJ7_compareTo_2_0 ++ dktJ7_compareTo_2_1
theorem dksJ7_compareTo_2_0 : cJ7_compareTo_2.data.toList.drop 0 = dktJ7_compareTo_2_0 := by decide +kernel
theorem dksJ7_compareTo_2_1 : cJ7_compareTo_2.data.toList.drop 22 = dktJ7_compareTo_2_1 := dk_seg dksJ7_compareTo_2_0 22 rfl rfl
theorem dksJ7_compareTo_2_2 : cJ7_compareTo_2.data.toList.drop 46 = dktJ7_compareTo_2_2 := dk_seg dksJ7_compareTo_2_1 24 rfl rfl
theorem dJ7_compareTo_2_0 : decode cJ7_compareTo_2 0 = .ok (.aload_n 0, 1) := dk_42 (dk_at dksJ7_compareTo_2_0 0 rfl rfl)
theorem dJ7_compareTo_2_1 : decode cJ7_compareTo_2 1 = .ok (.getfield 9, 3) := dk_180 0 9 (dk_at dksJ7_compareTo_2_0 1 rfl rfl)
theorem dJ7_compareTo_2_4 : decode cJ7_compareTo_2 4 = .ok (.astore_n 2, 1) := dk_77 (dk_at dksJ7_compareTo_2_0 4 rfl rfl)
theorem dJ7_compareTo_2_5 : decode cJ7_compareTo_2 5 = .ok (.aload_n 1, 1) := dk_43 (dk_at dksJ7_compareTo_2_0 5 rfl rfl)
theorem dJ7_compareTo_2_6 : decode cJ7_compareTo_2 6 = .ok (.getfield 9, 3) := dk_180 0 9 (dk_at dksJ7_compareTo_2_0 6 rfl rfl)
theorem dJ7_compareTo_2_9 : decode cJ7_compareTo_2 9 = .ok (.astore_n 3, 1) := dk_78 (dk_at dksJ7_compareTo_2_0 9 rfl rfl)
theorem dJ7_compareTo_2_10 : decode cJ7_compareTo_2 10 = .ok (.aload_n 0, 1) := dk_42 (dk_at dksJ7_compareTo_2_0 10 rfl rfl)
theorem dJ7_compareTo_2_11 : decode cJ7_compareTo_2 11 = .ok (.invokevirtual 335, 3) := dk_182 1 79 (dk_at dksJ7_compareTo_2_0 11 rfl rfl)
theorem dJ7_compareTo_2_14 : decode cJ7_compareTo_2 14 = .ok (.istore 4, 2) := dk_54 4 (dk_at dksJ7_compareTo_2_0 14 rfl rfl)
theorem dJ7_compareTo_2_16 : decode cJ7_compareTo_2 16 = .ok (.iload 4, 2) := dk_21 4 (dk_at dksJ7_compareTo_2_0 16 rfl rfl)
theorem dJ7_compareTo_2_18 : decode cJ7_compareTo_2 18 = .ok (.aload_n 1, 1) := dk_43 (dk_at dksJ7_compareTo_2_0 18 rfl rfl)
theorem dJ7_compareTo_2_19 : decode cJ7_compareTo_2 19 = .ok (.invokevirtual 335, 3) := dk_182 1 79 (dk_at dksJ7_compareTo_2_0 19 rfl rfl)
theorem dJ7_compareTo_2_22 : decode cJ7_compareTo_2 22 = .ok (.if_icmp .ne 22, 3) := dk_160 0 22 (dk_at dksJ7_compareTo_2_1 0 rfl rfl)
theorem dJ7_compareTo_2_25 : decode cJ7_compareTo_2 25 = .ok (.iload 4, 2) := dk_21 4 (dk_at dksJ7_compareTo_2_1 3 rfl rfl)
theorem dJ7_compareTo_2_27 : decode cJ7_compareTo_2 27 = .ok (.ifCond .ne 11, 3) := dk_154 0 11 (dk_at dksJ7_compareTo_2_1 5 rfl rfl)
theorem dJ7_compareTo_2_30 : decode cJ7_compareTo_2 30 = .ok (.aload_n 2, 1) := dk_44 (dk_at dksJ7_compareTo_2_1 8 rfl rfl)
theorem dJ7_compareTo_2_31 : decode cJ7_compareTo_2 31 = .ok (.aload_n 3, 1) := dk_45 (dk_at dksJ7_compareTo_2_1 9 rfl rfl)
theorem dJ7_compareTo_2_32 : decode cJ7_compareTo_2 32 = .ok (.invokestatic 586, 3) := dk_184 2 74 (dk_at dksJ7_compareTo_2_1 10 rfl rfl)
theorem dJ7_compareTo_2_35 : decode cJ7_compareTo_2 35 = .ok (.goto 8, 3) := dk_167 0 8 (dk_at dksJ7_compareTo_2_1 13 rfl rfl)
theorem dJ7_compareTo_2_38 : decode cJ7_compareTo_2 38 = .ok (.aload_n 2, 1) := dk_44 (dk_at dksJ7_compareTo_2_1 16 rfl rfl)
theorem dJ7_compareTo_2_39 : decode cJ7_compareTo_2 39 = .ok (.aload_n 3, 1) := dk_45 (dk_at dksJ7_compareTo_2_1 17 rfl rfl)
theorem dJ7_compareTo_2_40 : decode cJ7_compareTo_2 40 = .ok (.invokestatic 590, 3) := dk_184 2 78 (dk_at dksJ7_compareTo_2_1 18 rfl rfl)
theorem dJ7_compareTo_2_43 : decode cJ7_compareTo_2 43 = .ok (.ireturn, 1) := dk_172 (dk_at dksJ7_compareTo_2_1 21 rfl rfl)
theorem dJ7_compareTo_2_44 : decode cJ7_compareTo_2 44 = .ok (.iload 4, 2) := dk_21 4 (dk_at dksJ7_compareTo_2_1 22 rfl rfl)
theorem dJ7_compareTo_2_46 : decode cJ7_compareTo_2 46 = .ok (.ifCond .ne 11, 3) := dk_154 0 11 (dk_at dksJ7_compareTo_2_2 0 rfl rfl)
theorem dJ7_compareTo_2_49 : decode cJ7_compareTo_2 49 = .ok (.aload_n 2, 1) := dk_44 (dk_at dksJ7_compareTo_2_2 3 rfl rfl)
theorem dJ7_compareTo_2_50 : decode cJ7_compareTo_2 50 = .ok (.aload_n 3, 1) := dk_45 (dk_at dksJ7_compareTo_2_2 4 rfl rfl)
theorem dJ7_compareTo_2_51 : decode cJ7_compareTo_2 51 = .ok (.invokestatic 591, 3) := dk_184 2 79 (dk_at dksJ7_compareTo_2_2 5 rfl rfl)
theorem dJ7_compareTo_2_54 : decode cJ7_compareTo_2 54 = .ok (.goto 8, 3) := dk_167 0 8 (dk_at dksJ7_compareTo_2_2 8 rfl rfl)
theorem dJ7_compareTo_2_57 : decode cJ7_compareTo_2 57 = .ok (.aload_n 2, 1) := dk_44 (dk_at dksJ7_compareTo_2_2 11 rfl rfl)
theorem dJ7_compareTo_2_58 : decode cJ7_compareTo_2 58 = .ok (.aload_n 3, 1) := dk_45 (dk_at dksJ7_compareTo_2_2 12 rfl rfl)
theorem dJ7_compareTo_2_59 : decode cJ7_compareTo_2 59 = .ok (.invokestatic 594, 3) := dk_184 2 82 (dk_at dksJ7_compareTo_2_2 13 rfl rfl)
theorem dJ7_compareTo_2_62 : decode cJ7_compareTo_2 62 = .ok (.ireturn, 1) := dk_172 (dk_at dksJ7_compareTo_2_2 16 rfl rfl)
abbrev cJ7_checkOffset : ByteArray := prog_41_method_156_code
def yJ7_checkOffset : MethodName := ⟨RJ7, "checkOffset", "(II)V"⟩
def dkwJ7_checkOffset_0 : List UInt8 := [26, 27, 27, 178, 4, 29, 184, 4, 38, 87, 177]
abbrev dktJ7_checkOffset_0 : List UInt8 := dkwJ7_checkOffset_0 ++ []
theorem dksJ7_checkOffset_0 : cJ7_checkOffset.data.toList.drop 0 = dktJ7_checkOffset_0 := by decide +kernel
theorem dJ7_checkOffset_0 : decode cJ7_checkOffset 0 = .ok (.iload_n 0, 1) := dk_26 (dk_at dksJ7_checkOffset_0 0 rfl rfl)
theorem dJ7_checkOffset_1 : decode cJ7_checkOffset 1 = .ok (.iload_n 1, 1) := dk_27 (dk_at dksJ7_checkOffset_0 1 rfl rfl)
theorem dJ7_checkOffset_2 : decode cJ7_checkOffset 2 = .ok (.iload_n 1, 1) := dk_27 (dk_at dksJ7_checkOffset_0 2 rfl rfl)
theorem dJ7_checkOffset_3 : decode cJ7_checkOffset 3 = .ok (.getstatic 1053, 3) := dk_178 4 29 (dk_at dksJ7_checkOffset_0 3 rfl rfl)
theorem dJ7_checkOffset_6 : decode cJ7_checkOffset 6 = .ok (.invokestatic 1062, 3) := dk_184 4 38 (dk_at dksJ7_checkOffset_0 6 rfl rfl)
theorem dJ7_checkOffset_9 : decode cJ7_checkOffset 9 = .ok (.pop, 1) := dk_87 (dk_at dksJ7_checkOffset_0 9 rfl rfl)
theorem dJ7_checkOffset_10 : decode cJ7_checkOffset 10 = .ok (.return_, 1) := dk_177 (dk_at dksJ7_checkOffset_0 10 rfl rfl)
theorem q110 : (Jvm.Cond.initialized "java/lang/String") ∈ lw_all := lw_g (lw_at lw_m1 12 rfl) rfl
theorem q477 : (Jvm.Cond.laysStatic "java/lang/String" "COMPACT_STRINGS" "Z") ∈ lw_tbl := lw_at lw_m2 139 rfl
theorem q488 : (Jvm.Cond.fieldLink "java/lang/String" (1048 : Nat) "java/lang/AbstractStringBuilder" "maybeLatin1" "Z") ∈ lw_all := lw_g (lw_at lw_m2 150 rfl) rfl
theorem q822 : (Jvm.Cond.selects "java/lang/String" ({ cls := "java/lang/Object", name := "getClass", desc := "()Ljava/lang/Class;" } : Jvm.MethodName) ({ cls := "java/lang/Object", name := "getClass", desc := "()Ljava/lang/Class;" } : Jvm.MethodName)) ∈ lw_all := lw_g (lw_at lw_m4 4 rfl) rfl
theorem q882 : (Jvm.Cond.static ({ cls := "java/lang/String", name := "checkIndex", desc := "(II)V" } : Jvm.MethodName)) ∈ lw_all := lw_g (lw_at lw_m4 64 rfl) rfl
theorem q883 : (Jvm.Cond.code ({ cls := "java/lang/String", name := "checkIndex", desc := "(II)V" } : Jvm.MethodName) prog_41_method_155_code (2 : Nat) (Option.none : Option Jvm.ClassFile.FieldType)) ∈ lw_all := lw_g (lw_at lw_m4 65 rfl) rfl
theorem q884 : (Jvm.Cond.fieldLink "java/lang/String" (1053 : Nat) "jdk/internal/util/Preconditions" "SIOOBE_FORMATTER" "Ljava/util/function/BiFunction;") ∈ lw_all := lw_g (lw_at lw_m4 66 rfl) rfl
theorem q886 : (Jvm.Cond.methodLink "java/lang/String" (1059 : Nat) ({ cls := "jdk/internal/util/Preconditions", name := "checkIndex", desc := "(IILjava/util/function/BiFunction;)I" } : Jvm.MethodName)) ∈ lw_all := lw_g (lw_at lw_m4 68 rfl) rfl
theorem q1046 : (Jvm.Cond.static ({ cls := "java/lang/String", name := "checkBoundsOffCount", desc := "(III)I" } : Jvm.MethodName)) ∈ lw_all := lw_g (lw_at lw_m4 228 rfl) rfl
theorem q1047 : (Jvm.Cond.code ({ cls := "java/lang/String", name := "checkBoundsOffCount", desc := "(III)I" } : Jvm.MethodName) prog_41_method_157_code (3 : Nat) (Option.some Jvm.ClassFile.FieldType.int)) ∈ lw_all := lw_g (lw_at lw_m4 229 rfl) rfl
theorem q1048 : (Jvm.Cond.methodLink "java/lang/String" (1065 : Nat) ({ cls := "jdk/internal/util/Preconditions", name := "checkFromIndexSize", desc := "(IIILjava/util/function/BiFunction;)I" } : Jvm.MethodName)) ∈ lw_all := lw_g (lw_at lw_m4 230 rfl) rfl
theorem q1066 : (Jvm.Cond.instantiable "java/lang/String" (4 : Nat)) ∈ lw_all := lw_g (lw_at lw_m5 8 rfl) rfl
theorem q1068 : (Jvm.Cond.instanceMethod ({ cls := "java/lang/String", name := "<init>", desc := "(Ljava/lang/StringBuilder;)V" } : Jvm.MethodName)) ∈ lw_all := lw_g (lw_at lw_m5 10 rfl) rfl
theorem q1069 : (Jvm.Cond.code ({ cls := "java/lang/String", name := "<init>", desc := "(Ljava/lang/StringBuilder;)V" } : Jvm.MethodName) prog_41_method_53_code (2 : Nat) (Option.none : Option Jvm.ClassFile.FieldType)) ∈ lw_all := lw_g (lw_at lw_m5 11 rfl) rfl
theorem q1070 : (Jvm.Cond.methodLink "java/lang/String" (489 : Nat) ({ cls := "java/lang/String", name := "<init>", desc := "(Ljava/lang/AbstractStringBuilder;Ljava/lang/Void;)V" } : Jvm.MethodName)) ∈ lw_all := lw_g (lw_at lw_m5 12 rfl) rfl
theorem q1071 : (Jvm.Cond.instanceMethod ({ cls := "java/lang/String", name := "<init>", desc := "(Ljava/lang/AbstractStringBuilder;Ljava/lang/Void;)V" } : Jvm.MethodName)) ∈ lw_all := lw_g (lw_at lw_m5 13 rfl) rfl
theorem q1072 : (Jvm.Cond.code ({ cls := "java/lang/String", name := "<init>", desc := "(Ljava/lang/AbstractStringBuilder;Ljava/lang/Void;)V" } : Jvm.MethodName) prog_41_method_150_code (5 : Nat) (Option.none : Option Jvm.ClassFile.FieldType)) ∈ lw_all := lw_g (lw_at lw_m5 14 rfl) rfl
theorem q1073 : (Jvm.Cond.methodLink "java/lang/String" (1 : Nat) ({ cls := "java/lang/Object", name := "<init>", desc := "()V" } : Jvm.MethodName)) ∈ lw_all := lw_g (lw_at lw_m5 15 rfl) rfl
theorem q1074 : (Jvm.Cond.methodLink "java/lang/String" (552 : Nat) ({ cls := "java/lang/AbstractStringBuilder", name := "getValue", desc := "()[B" } : Jvm.MethodName)) ∈ lw_all := lw_g (lw_at lw_m5 16 rfl) rfl
theorem q1079 : (Jvm.Cond.methodLink "java/lang/String" (549 : Nat) ({ cls := "java/lang/AbstractStringBuilder", name := "length", desc := "()I" } : Jvm.MethodName)) ∈ lw_all := lw_g (lw_at lw_m5 21 rfl) rfl
theorem q1080 : (Jvm.Cond.methodLink "java/lang/String" (1047 : Nat) ({ cls := "java/lang/AbstractStringBuilder", name := "isLatin1", desc := "()Z" } : Jvm.MethodName)) ∈ lw_all := lw_g (lw_at lw_m5 22 rfl) rfl
theorem q1081 : (Jvm.Cond.methodLink "java/lang/String" (54 : Nat) ({ cls := "java/util/Arrays", name := "copyOfRange", desc := "([BII)[B" } : Jvm.MethodName)) ∈ lw_all := lw_g (lw_at lw_m5 23 rfl) rfl
theorem q1117 : (Jvm.Cond.static ({ cls := "java/lang/String", name := "checkBoundsBeginEnd", desc := "(III)V" } : Jvm.MethodName)) ∈ lw_all := lw_g (lw_at lw_m5 59 rfl) rfl
theorem q1118 : (Jvm.Cond.code ({ cls := "java/lang/String", name := "checkBoundsBeginEnd", desc := "(III)V" } : Jvm.MethodName) prog_41_method_158_code (3 : Nat) (Option.none : Option Jvm.ClassFile.FieldType)) ∈ lw_all := lw_g (lw_at lw_m5 60 rfl) rfl
theorem q1119 : (Jvm.Cond.methodLink "java/lang/String" (1062 : Nat) ({ cls := "jdk/internal/util/Preconditions", name := "checkFromToIndex", desc := "(IIILjava/util/function/BiFunction;)I" } : Jvm.MethodName)) ∈ lw_all := lw_g (lw_at lw_m5 61 rfl) rfl
theorem q1143 : (Jvm.Cond.instanceMethod ({ cls := "java/lang/String", name := "length", desc := "()I" } : Jvm.MethodName)) ∈ lw_all := lw_g (lw_at lw_m5 85 rfl) rfl
theorem q1144 : (Jvm.Cond.selects "java/lang/String" ({ cls := "java/lang/String", name := "length", desc := "()I" } : Jvm.MethodName) ({ cls := "java/lang/String", name := "length", desc := "()I" } : Jvm.MethodName)) ∈ lw_all := lw_g (lw_at lw_m5 86 rfl) rfl
theorem q1145 : (Jvm.Cond.code ({ cls := "java/lang/String", name := "length", desc := "()I" } : Jvm.MethodName) prog_41_method_54_code (1 : Nat) (Option.some Jvm.ClassFile.FieldType.int)) ∈ lw_all := lw_g (lw_at lw_m5 87 rfl) rfl
theorem q1146 : (Jvm.Cond.methodLink "java/lang/String" (335 : Nat) ({ cls := "java/lang/String", name := "coder", desc := "()B" } : Jvm.MethodName)) ∈ lw_all := lw_g (lw_at lw_m5 88 rfl) rfl
theorem q1147 : (Jvm.Cond.instanceMethod ({ cls := "java/lang/String", name := "coder", desc := "()B" } : Jvm.MethodName)) ∈ lw_all := lw_g (lw_at lw_m5 89 rfl) rfl
theorem q1148 : (Jvm.Cond.selects "java/lang/String" ({ cls := "java/lang/String", name := "coder", desc := "()B" } : Jvm.MethodName) ({ cls := "java/lang/String", name := "coder", desc := "()B" } : Jvm.MethodName)) ∈ lw_all := lw_g (lw_at lw_m5 90 rfl) rfl
theorem q1149 : (Jvm.Cond.code ({ cls := "java/lang/String", name := "coder", desc := "()B" } : Jvm.MethodName) prog_41_method_152_code (1 : Nat) (Option.some Jvm.ClassFile.FieldType.byte)) ∈ lw_all := lw_g (lw_at lw_m5 91 rfl) rfl
theorem q1150 : (Jvm.Cond.fieldLink "java/lang/String" (38 : Nat) "java/lang/String" "COMPACT_STRINGS" "Z") ∈ lw_all := lw_g (lw_at lw_m5 92 rfl) rfl
theorem q1161 : (Jvm.Cond.instanceMethod ({ cls := "java/lang/String", name := "getBytes", desc := "([BIB)V" } : Jvm.MethodName)) ∈ lw_all := lw_g (lw_at lw_m5 103 rfl) rfl
theorem q1162 : (Jvm.Cond.selects "java/lang/String" ({ cls := "java/lang/String", name := "getBytes", desc := "([BIB)V" } : Jvm.MethodName) ({ cls := "java/lang/String", name := "getBytes", desc := "([BIB)V" } : Jvm.MethodName)) ∈ lw_all := lw_g (lw_at lw_m5 104 rfl) rfl
theorem q1163 : (Jvm.Cond.code ({ cls := "java/lang/String", name := "getBytes", desc := "([BIB)V" } : Jvm.MethodName) prog_41_method_147_code (4 : Nat) (Option.none : Option Jvm.ClassFile.FieldType)) ∈ lw_all := lw_g (lw_at lw_m5 105 rfl) rfl
theorem q1164 : (Jvm.Cond.methodLink "java/lang/String" (212 : Nat) ({ cls := "java/lang/System", name := "arraycopy", desc := "(Ljava/lang/Object;ILjava/lang/Object;II)V" } : Jvm.MethodName)) ∈ lw_all := lw_g (lw_at lw_m5 106 rfl) rfl
theorem q1165 : (Jvm.Cond.methodLink "java/lang/String" (106 : Nat) ({ cls := "java/lang/StringLatin1", name := "inflate", desc := "([BI[BII)V" } : Jvm.MethodName)) ∈ lw_all := lw_g (lw_at lw_m5 107 rfl) rfl
theorem q1179 : (Jvm.Cond.methodLink "java/lang/String" (1051 : Nat) ({ cls := "java/lang/StringUTF16", name := "compress", desc := "([BII)[B" } : Jvm.MethodName)) ∈ lw_all := lw_g (lw_at lw_m5 121 rfl) rfl
theorem q1187 : (Jvm.Cond.methodLink "java/lang/String" (47 : Nat) ({ cls := "java/lang/StringUTF16", name := "coderFromArrayLen", desc := "([BI)B" } : Jvm.MethodName)) ∈ lw_all := lw_g (lw_at lw_m5 129 rfl) rfl
theorem q1190 : (Jvm.Cond.fieldLink "java/lang/String" (9 : Nat) "java/lang/String" "value" "[B") ∈ lw_all := lw_g (lw_at lw_m5 132 rfl) rfl
theorem q1191 : (Jvm.Cond.fieldLink "java/lang/String" (15 : Nat) "java/lang/String" "coder" "B") ∈ lw_all := lw_g (lw_at lw_m5 133 rfl) rfl
theorem q1192 : (Jvm.Cond.fieldLink "java/lang/String" (19 : Nat) "java/lang/String" "hash" "I") ∈ lw_all := lw_g (lw_at lw_m5 134 rfl) rfl
theorem q1193 : (Jvm.Cond.fieldLink "java/lang/String" (23 : Nat) "java/lang/String" "hashIsZero" "Z") ∈ lw_all := lw_g (lw_at lw_m5 135 rfl) rfl
theorem q1194 : (Jvm.Cond.laysFinal "java/lang/String" "java/lang/String" "value" "[B") ∈ lw_all := lw_g (lw_at lw_m5 136 rfl) rfl
theorem q1195 : (Jvm.Cond.soleField "java/lang/String" "value") ∈ lw_all := lw_g (lw_at lw_m5 137 rfl) rfl
theorem q1196 : (Jvm.Cond.laysFinal "java/lang/String" "java/lang/String" "coder" "B") ∈ lw_all := lw_g (lw_at lw_m5 138 rfl) rfl
theorem q1197 : (Jvm.Cond.soleField "java/lang/String" "coder") ∈ lw_all := lw_g (lw_at lw_m5 139 rfl) rfl
theorem q1198 : (Jvm.Cond.lays "java/lang/String" "java/lang/String" "hash" "I") ∈ lw_all := lw_g (lw_at lw_m5 140 rfl) rfl
theorem q1199 : (Jvm.Cond.soleField "java/lang/String" "hash") ∈ lw_all := lw_g (lw_at lw_m5 141 rfl) rfl
theorem q1200 : (Jvm.Cond.lays "java/lang/String" "java/lang/String" "hashIsZero" "Z") ∈ lw_all := lw_g (lw_at lw_m5 142 rfl) rfl
theorem q1201 : (Jvm.Cond.soleField "java/lang/String" "hashIsZero") ∈ lw_all := lw_g (lw_at lw_m5 143 rfl) rfl
theorem q1202 : (Jvm.Cond.superclass "java/lang/String" "java/lang/Object") ∈ lw_all := lw_g (lw_at lw_m5 144 rfl) rfl
theorem q1214 : (Jvm.Cond.instanceMethod ({ cls := "java/lang/String", name := "indexOf", desc := "(I)I" } : Jvm.MethodName)) ∈ lw_all := lw_g (lw_at lw_m5 156 rfl) rfl
theorem q1215 : (Jvm.Cond.selects "java/lang/String" ({ cls := "java/lang/String", name := "indexOf", desc := "(I)I" } : Jvm.MethodName) ({ cls := "java/lang/String", name := "indexOf", desc := "(I)I" } : Jvm.MethodName)) ∈ lw_all := lw_g (lw_at lw_m5 157 rfl) rfl
theorem q1216 : (Jvm.Cond.code ({ cls := "java/lang/String", name := "indexOf", desc := "(I)I" } : Jvm.MethodName) prog_41_method_79_code (2 : Nat) (Option.some Jvm.ClassFile.FieldType.int)) ∈ lw_all := lw_g (lw_at lw_m5 158 rfl) rfl
theorem q1217 : (Jvm.Cond.methodLink "java/lang/String" (633 : Nat) ({ cls := "java/lang/String", name := "indexOf", desc := "(II)I" } : Jvm.MethodName)) ∈ lw_all := lw_g (lw_at lw_m5 159 rfl) rfl
theorem q1218 : (Jvm.Cond.instanceMethod ({ cls := "java/lang/String", name := "indexOf", desc := "(II)I" } : Jvm.MethodName)) ∈ lw_all := lw_g (lw_at lw_m5 160 rfl) rfl
theorem q1219 : (Jvm.Cond.selects "java/lang/String" ({ cls := "java/lang/String", name := "indexOf", desc := "(II)I" } : Jvm.MethodName) ({ cls := "java/lang/String", name := "indexOf", desc := "(II)I" } : Jvm.MethodName)) ∈ lw_all := lw_g (lw_at lw_m5 161 rfl) rfl
theorem q1220 : (Jvm.Cond.code ({ cls := "java/lang/String", name := "indexOf", desc := "(II)I" } : Jvm.MethodName) prog_41_method_80_code (3 : Nat) (Option.some Jvm.ClassFile.FieldType.int)) ∈ lw_all := lw_g (lw_at lw_m5 162 rfl) rfl
theorem q1221 : (Jvm.Cond.methodLink "java/lang/String" (492 : Nat) ({ cls := "java/lang/String", name := "isLatin1", desc := "()Z" } : Jvm.MethodName)) ∈ lw_all := lw_g (lw_at lw_m5 163 rfl) rfl
theorem q1222 : (Jvm.Cond.instanceMethod ({ cls := "java/lang/String", name := "isLatin1", desc := "()Z" } : Jvm.MethodName)) ∈ lw_all := lw_g (lw_at lw_m5 164 rfl) rfl
theorem q1223 : (Jvm.Cond.selects "java/lang/String" ({ cls := "java/lang/String", name := "isLatin1", desc := "()Z" } : Jvm.MethodName) ({ cls := "java/lang/String", name := "isLatin1", desc := "()Z" } : Jvm.MethodName)) ∈ lw_all := lw_g (lw_at lw_m5 165 rfl) rfl
theorem q1224 : (Jvm.Cond.code ({ cls := "java/lang/String", name := "isLatin1", desc := "()Z" } : Jvm.MethodName) prog_41_method_154_code (1 : Nat) (Option.some Jvm.ClassFile.FieldType.boolean)) ∈ lw_all := lw_g (lw_at lw_m5 166 rfl) rfl
theorem q1225 : (Jvm.Cond.methodLink "java/lang/String" (505 : Nat) ({ cls := "java/lang/String", name := "length", desc := "()I" } : Jvm.MethodName)) ∈ lw_all := lw_g (lw_at lw_m5 167 rfl) rfl
theorem q1226 : (Jvm.Cond.methodLink "java/lang/String" (637 : Nat) ({ cls := "java/lang/StringLatin1", name := "indexOf", desc := "([BIII)I" } : Jvm.MethodName)) ∈ lw_all := lw_g (lw_at lw_m5 168 rfl) rfl
theorem q1237 : (Jvm.Cond.methodLink "java/lang/String" (640 : Nat) ({ cls := "java/lang/StringUTF16", name := "indexOf", desc := "([BIII)I" } : Jvm.MethodName)) ∈ lw_all := lw_g (lw_at lw_m5 179 rfl) rfl
theorem q1330 : (Jvm.Cond.instanceMethod ({ cls := "java/lang/String", name := "equals", desc := "(Ljava/lang/Object;)Z" } : Jvm.MethodName)) ∈ lw_all := lw_g (lw_at lw_m6 32 rfl) rfl
theorem q1331 : (Jvm.Cond.selects "java/lang/String" ({ cls := "java/lang/String", name := "equals", desc := "(Ljava/lang/Object;)Z" } : Jvm.MethodName) ({ cls := "java/lang/String", name := "equals", desc := "(Ljava/lang/Object;)Z" } : Jvm.MethodName)) ∈ lw_all := lw_g (lw_at lw_m6 33 rfl) rfl
theorem q1332 : (Jvm.Cond.code ({ cls := "java/lang/String", name := "equals", desc := "(Ljava/lang/Object;)Z" } : Jvm.MethodName) prog_41_method_66_code (3 : Nat) (Option.some Jvm.ClassFile.FieldType.boolean)) ∈ lw_all := lw_g (lw_at lw_m6 34 rfl) rfl
theorem q1333 : (Jvm.Cond.classLink "java/lang/String" (10 : Nat) "java/lang/String") ∈ lw_all := lw_g (lw_at lw_m6 35 rfl) rfl
theorem q1334 : (Jvm.Cond.methodLink "java/lang/String" (541 : Nat) ({ cls := "java/lang/StringLatin1", name := "equals", desc := "([B[B)Z" } : Jvm.MethodName)) ∈ lw_all := lw_g (lw_at lw_m6 36 rfl) rfl
theorem q1868 : (Jvm.Cond.selects "java/lang/String" ({ cls := "java/lang/Object", name := "hashCode", desc := "()I" } : Jvm.MethodName) ({ cls := "java/lang/String", name := "hashCode", desc := "()I" } : Jvm.MethodName)) ∈ lw_all := lw_g (lw_at lw_m8 90 rfl) rfl
theorem q1869 : (Jvm.Cond.instanceMethod ({ cls := "java/lang/String", name := "hashCode", desc := "()I" } : Jvm.MethodName)) ∈ lw_all := lw_g (lw_at lw_m8 91 rfl) rfl
theorem q1870 : (Jvm.Cond.code ({ cls := "java/lang/String", name := "hashCode", desc := "()I" } : Jvm.MethodName) prog_41_method_78_code (2 : Nat) (Option.some Jvm.ClassFile.FieldType.int)) ∈ lw_all := lw_g (lw_at lw_m8 92 rfl) rfl
theorem q1871 : (Jvm.Cond.methodLink "java/lang/String" (628 : Nat) ({ cls := "java/lang/StringLatin1", name := "hashCode", desc := "([B)I" } : Jvm.MethodName)) ∈ lw_all := lw_g (lw_at lw_m8 93 rfl) rfl
theorem q1920 : (Jvm.Cond.methodLink "java/lang/String" (632 : Nat) ({ cls := "java/lang/StringUTF16", name := "hashCode", desc := "([B)I" } : Jvm.MethodName)) ∈ lw_all := lw_g (lw_at lw_m8 142 rfl) rfl
theorem q1955 : (Jvm.Cond.selects "java/lang/String" ({ cls := "java/lang/Object", name := "equals", desc := "(Ljava/lang/Object;)Z" } : Jvm.MethodName) ({ cls := "java/lang/String", name := "equals", desc := "(Ljava/lang/Object;)Z" } : Jvm.MethodName)) ∈ lw_all := lw_g (lw_at lw_m8 177 rfl) rfl
theorem q1987 : (Jvm.Cond.castable "java/lang/String" "java/lang/Comparable") ∈ lw_tbl := lw_at lw_m8 209 rfl
theorem q1988 : (Jvm.Cond.selects "java/lang/String" ({ cls := "java/lang/Comparable", name := "compareTo", desc := "(Ljava/lang/Object;)I" } : Jvm.MethodName) ({ cls := "java/lang/String", name := "compareTo", desc := "(Ljava/lang/Object;)I" } : Jvm.MethodName)) ∈ lw_all := lw_g (lw_at lw_m8 210 rfl) rfl
theorem q1989 : (Jvm.Cond.unhidden "java/lang/String" "compareTo" "(Ljava/lang/Object;)I") ∈ lw_tbl := lw_at lw_m8 211 rfl
theorem q1990 : (Jvm.Cond.instanceMethod ({ cls := "java/lang/String", name := "compareTo", desc := "(Ljava/lang/Object;)I" } : Jvm.MethodName)) ∈ lw_all := lw_g (lw_at lw_m8 212 rfl) rfl
theorem q1991 : (Jvm.Cond.publicMethod ({ cls := "java/lang/String", name := "compareTo", desc := "(Ljava/lang/Object;)I" } : Jvm.MethodName)) ∈ lw_tbl := lw_at lw_m8 213 rfl
theorem q1992 : (Jvm.Cond.code ({ cls := "java/lang/String", name := "compareTo", desc := "(Ljava/lang/Object;)I" } : Jvm.MethodName) prog_41_method_162_code (2 : Nat) (Option.some Jvm.ClassFile.FieldType.int)) ∈ lw_all := lw_g (lw_at lw_m8 214 rfl) rfl
theorem q1993 : (Jvm.Cond.methodLink "java/lang/String" (1084 : Nat) ({ cls := "java/lang/String", name := "compareTo", desc := "(Ljava/lang/String;)I" } : Jvm.MethodName)) ∈ lw_all := lw_g (lw_at lw_m8 215 rfl) rfl
theorem q1994 : (Jvm.Cond.instanceMethod ({ cls := "java/lang/String", name := "compareTo", desc := "(Ljava/lang/String;)I" } : Jvm.MethodName)) ∈ lw_all := lw_g (lw_at lw_m8 216 rfl) rfl
theorem q1995 : (Jvm.Cond.selects "java/lang/String" ({ cls := "java/lang/String", name := "compareTo", desc := "(Ljava/lang/String;)I" } : Jvm.MethodName) ({ cls := "java/lang/String", name := "compareTo", desc := "(Ljava/lang/String;)I" } : Jvm.MethodName)) ∈ lw_all := lw_g (lw_at lw_m8 217 rfl) rfl
theorem q1996 : (Jvm.Cond.code ({ cls := "java/lang/String", name := "compareTo", desc := "(Ljava/lang/String;)I" } : Jvm.MethodName) prog_41_method_71_code (5 : Nat) (Option.some Jvm.ClassFile.FieldType.int)) ∈ lw_all := lw_g (lw_at lw_m8 218 rfl) rfl
theorem q1997 : (Jvm.Cond.methodLink "java/lang/String" (586 : Nat) ({ cls := "java/lang/StringLatin1", name := "compareTo", desc := "([B[B)I" } : Jvm.MethodName)) ∈ lw_all := lw_g (lw_at lw_m8 219 rfl) rfl
theorem q2110 : (Jvm.Cond.methodLink "java/lang/String" (590 : Nat) ({ cls := "java/lang/StringUTF16", name := "compareTo", desc := "([B[B)I" } : Jvm.MethodName)) ∈ lw_all := lw_g (lw_at lw_m9 92 rfl) rfl
theorem q2116 : (Jvm.Cond.methodLink "java/lang/String" (591 : Nat) ({ cls := "java/lang/StringLatin1", name := "compareToUTF16", desc := "([B[B)I" } : Jvm.MethodName)) ∈ lw_all := lw_g (lw_at lw_m9 98 rfl) rfl
theorem q2127 : (Jvm.Cond.methodLink "java/lang/String" (594 : Nat) ({ cls := "java/lang/StringUTF16", name := "compareToLatin1", desc := "([B[B)I" } : Jvm.MethodName)) ∈ lw_all := lw_g (lw_at lw_m9 109 rfl) rfl
theorem q2153 : (Jvm.Cond.static ({ cls := "java/lang/String", name := "checkOffset", desc := "(II)V" } : Jvm.MethodName)) ∈ lw_all := lw_g (lw_at lw_m9 135 rfl) rfl
theorem q2154 : (Jvm.Cond.code ({ cls := "java/lang/String", name := "checkOffset", desc := "(II)V" } : Jvm.MethodName) prog_41_method_156_code (2 : Nat) (Option.none : Option Jvm.ClassFile.FieldType)) ∈ lw_all := lw_g (lw_at lw_m9 136 rfl) rfl
theorem q3378 : (Jvm.Cond.selects "java/lang/String" ({ cls := "java/lang/String", name := "hashCode", desc := "()I" } : Jvm.MethodName) ({ cls := "java/lang/String", name := "hashCode", desc := "()I" } : Jvm.MethodName)) ∈ lw_all := lw_g (lw_at lw_m14 160 rfl) rfl
theorem q3400 : (Jvm.Cond.castable "java/lang/String" "java/lang/Object") ∈ lw_tbl := lw_at lw_m14 182 rfl
theorem in_J7 : ∀ w ∈ wsJ70, w ∈ lw_all := lw_in wsJ70 [1194, 1196, 1198, 1200] (by decide +kernel) (by decide +kernel)
/-! java/lang/RuntimeException -/
set_option maxRecDepth 100000
def RJ9 : String := "java/lang/RuntimeException"
abbrev cJ9_init : ByteArray := prog_40_method_1_code
def yJ9_init : MethodName := ⟨RJ9, "<init>", "()V"⟩
theorem dJ9_init_0 : decode cJ9_init 0 = .ok (.aload_n 0, 1) := by decide +kernel
theorem dJ9_init_1 : decode cJ9_init 1 = .ok (.invokespecial 1, 3) := by decide +kernel
theorem dJ9_init_4 : decode cJ9_init 4 = .ok (.return_, 1) := by decide +kernel
abbrev cJ9_init_2 : ByteArray := prog_40_method_2_code
def yJ9_init_2 : MethodName := ⟨RJ9, "<init>", "(Ljava/lang/String;)V"⟩
def dkwJ9_init_2_0 : List UInt8 := [42, 43, 183, 0, 7, 177]
abbrev dktJ9_init_2_0 : List UInt8 := dkwJ9_init_2_0 ++ []
theorem dksJ9_init_2_0 : cJ9_init_2.data.toList.drop 0 = dktJ9_init_2_0 := by decide +kernel
theorem dJ9_init_2_0 : decode cJ9_init_2 0 = .ok (.aload_n 0, 1) := dk_42 (dk_at dksJ9_init_2_0 0 rfl rfl)
theorem dJ9_init_2_1 : decode cJ9_init_2 1 = .ok (.aload_n 1, 1) := dk_43 (dk_at dksJ9_init_2_0 1 rfl rfl)
theorem dJ9_init_2_2 : decode cJ9_init_2 2 = .ok (.invokespecial 7, 3) := dk_183 0 7 (dk_at dksJ9_init_2_0 2 rfl rfl)
theorem dJ9_init_2_5 : decode cJ9_init_2 5 = .ok (.return_, 1) := dk_177 (dk_at dksJ9_init_2_0 5 rfl rfl)
theorem q114 : (Jvm.Cond.initialized "java/lang/RuntimeException") ∈ lw_all := lw_g (lw_at lw_m1 16 rfl) rfl
theorem q640 : (Jvm.Cond.declares ({ cls := "java/lang/RuntimeException", name := "<init>", desc := "()V" } : Jvm.MethodName)) ∈ lw_tbl := lw_at lw_m3 62 rfl
theorem q641 : (Jvm.Cond.declares ({ cls := "java/lang/RuntimeException", name := "<init>", desc := "(Ljava/lang/String;)V" } : Jvm.MethodName)) ∈ lw_tbl := lw_at lw_m3 63 rfl
theorem q652 : (Jvm.Cond.instanceMethod ({ cls := "java/lang/RuntimeException", name := "<init>", desc := "()V" } : Jvm.MethodName)) ∈ lw_all := lw_g (lw_at lw_m3 74 rfl) rfl
theorem q653 : (Jvm.Cond.code ({ cls := "java/lang/RuntimeException", name := "<init>", desc := "()V" } : Jvm.MethodName) prog_40_method_1_code (1 : Nat) (Option.none : Option Jvm.ClassFile.FieldType)) ∈ lw_all := lw_g (lw_at lw_m3 75 rfl) rfl
theorem q654 : (Jvm.Cond.methodLink "java/lang/RuntimeException" (1 : Nat) ({ cls := "java/lang/Exception", name := "<init>", desc := "()V" } : Jvm.MethodName)) ∈ lw_all := lw_g (lw_at lw_m3 76 rfl) rfl
theorem q1171 : (Jvm.Cond.instanceMethod ({ cls := "java/lang/RuntimeException", name := "<init>", desc := "(Ljava/lang/String;)V" } : Jvm.MethodName)) ∈ lw_all := lw_g (lw_at lw_m5 113 rfl) rfl
theorem q1172 : (Jvm.Cond.code ({ cls := "java/lang/RuntimeException", name := "<init>", desc := "(Ljava/lang/String;)V" } : Jvm.MethodName) prog_40_method_2_code (2 : Nat) (Option.none : Option Jvm.ClassFile.FieldType)) ∈ lw_all := lw_g (lw_at lw_m5 114 rfl) rfl
theorem q1173 : (Jvm.Cond.methodLink "java/lang/RuntimeException" (7 : Nat) ({ cls := "java/lang/Exception", name := "<init>", desc := "(Ljava/lang/String;)V" } : Jvm.MethodName)) ∈ lw_all := lw_g (lw_at lw_m5 115 rfl) rfl
/-! java/lang/IllegalArgumentException -/
set_option maxRecDepth 100000
def RJ10 : String := "java/lang/IllegalArgumentException"
def TJ10 : u_T := fun k => match k with
  | 0 => ("java/lang/Throwable", "cause", "Ljava/lang/Throwable;", false)
  | 1 => ("java/lang/Throwable", "stackTrace", "[Ljava/lang/StackTraceElement;", false)
  | 2 => ("java/lang/Throwable", "suppressedExceptions", "Ljava/util/List;", false)
  | 3 => ("java/lang/Throwable", "detailMessage", "Ljava/lang/String;", false)
  | 4 => ("java/lang/Throwable", "backtrace", "Ljava/lang/Object;", false)
  | _ => ("java/lang/Throwable", "depth", "I", false)
def tyJ10 : Nat → FieldType := fun k => match k with
  | 0 => .object "java/lang/Throwable"
  | 1 => .array (.object "java/lang/StackTraceElement")
  | 2 => .object "java/util/List"
  | 3 => .object "java/lang/String"
  | 4 => .object "java/lang/Object"
  | _ => .int
abbrev wsJ100 : List Cond := u_ws RJ10 TJ10 6
theorem nmJ10 : ∀ a, a < 6 → ∀ b, b < 6 → a ≠ b → (TJ10 a).2.1 ≠ (TJ10 b).2.1 := by decide +kernel
theorem tyJ10_ok : ∀ k, k < 6 → parseFieldDescriptor (TJ10 k).2.2.1 = some (tyJ10 k) := by decide +kernel
abbrev cJ10_init : ByteArray := prog_34_method_1_code
def yJ10_init : MethodName := ⟨RJ10, "<init>", "()V"⟩
theorem dJ10_init_0 : decode cJ10_init 0 = .ok (.aload_n 0, 1) := by decide +kernel
theorem dJ10_init_1 : decode cJ10_init 1 = .ok (.invokespecial 1, 3) := by decide +kernel
theorem dJ10_init_4 : decode cJ10_init 4 = .ok (.return_, 1) := by decide +kernel
abbrev cJ10_init_2 : ByteArray := prog_34_method_2_code
def yJ10_init_2 : MethodName := ⟨RJ10, "<init>", "(Ljava/lang/String;)V"⟩
def dkwJ10_init_2_0 : List UInt8 := [42, 43, 183, 0, 7, 177]
abbrev dktJ10_init_2_0 : List UInt8 := dkwJ10_init_2_0 ++ []
theorem dksJ10_init_2_0 : cJ10_init_2.data.toList.drop 0 = dktJ10_init_2_0 := by decide +kernel
theorem dJ10_init_2_0 : decode cJ10_init_2 0 = .ok (.aload_n 0, 1) := dk_42 (dk_at dksJ10_init_2_0 0 rfl rfl)
theorem dJ10_init_2_1 : decode cJ10_init_2 1 = .ok (.aload_n 1, 1) := dk_43 (dk_at dksJ10_init_2_0 1 rfl rfl)
theorem dJ10_init_2_2 : decode cJ10_init_2 2 = .ok (.invokespecial 7, 3) := dk_183 0 7 (dk_at dksJ10_init_2_0 2 rfl rfl)
theorem dJ10_init_2_5 : decode cJ10_init_2 5 = .ok (.return_, 1) := dk_177 (dk_at dksJ10_init_2_0 5 rfl rfl)
theorem q115 : (Jvm.Cond.initialized "java/lang/IllegalArgumentException") ∈ lw_all := lw_g (lw_at lw_m1 17 rfl) rfl
theorem q378 : (Jvm.Cond.selects "java/lang/IllegalArgumentException" ({ cls := "java/lang/Throwable", name := "fillInStackTrace", desc := "()Ljava/lang/Throwable;" } : Jvm.MethodName) ({ cls := "java/lang/Throwable", name := "fillInStackTrace", desc := "()Ljava/lang/Throwable;" } : Jvm.MethodName)) ∈ lw_all := lw_g (lw_at lw_m2 40 rfl) rfl
theorem q821 : (Jvm.Cond.selects "java/lang/IllegalArgumentException" ({ cls := "java/lang/Object", name := "getClass", desc := "()Ljava/lang/Class;" } : Jvm.MethodName) ({ cls := "java/lang/Object", name := "getClass", desc := "()Ljava/lang/Class;" } : Jvm.MethodName)) ∈ lw_all := lw_g (lw_at lw_m4 3 rfl) rfl
theorem q952 : (Jvm.Cond.instantiable "java/lang/IllegalArgumentException" (6 : Nat)) ∈ lw_all := lw_g (lw_at lw_m4 134 rfl) rfl
theorem q953 : (Jvm.Cond.castable "java/lang/IllegalArgumentException" "java/lang/IllegalArgumentException") ∈ lw_tbl := lw_at lw_m4 135 rfl
theorem q954 : (Jvm.Cond.selects "java/lang/IllegalArgumentException" ({ cls := "java/lang/Throwable", name := "fillInStackTrace", desc := "(I)Ljava/lang/Throwable;" } : Jvm.MethodName) ({ cls := "java/lang/Throwable", name := "fillInStackTrace", desc := "(I)Ljava/lang/Throwable;" } : Jvm.MethodName)) ∈ lw_all := lw_g (lw_at lw_m4 136 rfl) rfl
theorem q955 : (Jvm.Cond.lays "java/lang/IllegalArgumentException" "java/lang/Throwable" "cause" "Ljava/lang/Throwable;") ∈ lw_all := lw_g (lw_at lw_m4 137 rfl) rfl
theorem q956 : (Jvm.Cond.lays "java/lang/IllegalArgumentException" "java/lang/Throwable" "stackTrace" "[Ljava/lang/StackTraceElement;") ∈ lw_all := lw_g (lw_at lw_m4 138 rfl) rfl
theorem q957 : (Jvm.Cond.lays "java/lang/IllegalArgumentException" "java/lang/Throwable" "suppressedExceptions" "Ljava/util/List;") ∈ lw_all := lw_g (lw_at lw_m4 139 rfl) rfl
theorem q958 : (Jvm.Cond.lays "java/lang/IllegalArgumentException" "java/lang/Throwable" "detailMessage" "Ljava/lang/String;") ∈ lw_all := lw_g (lw_at lw_m4 140 rfl) rfl
theorem q959 : (Jvm.Cond.lays "java/lang/IllegalArgumentException" "java/lang/Throwable" "backtrace" "Ljava/lang/Object;") ∈ lw_all := lw_g (lw_at lw_m4 141 rfl) rfl
theorem q961 : (Jvm.Cond.instanceMethod ({ cls := "java/lang/IllegalArgumentException", name := "<init>", desc := "()V" } : Jvm.MethodName)) ∈ lw_all := lw_g (lw_at lw_m4 143 rfl) rfl
theorem q962 : (Jvm.Cond.code ({ cls := "java/lang/IllegalArgumentException", name := "<init>", desc := "()V" } : Jvm.MethodName) prog_34_method_1_code (1 : Nat) (Option.none : Option Jvm.ClassFile.FieldType)) ∈ lw_all := lw_g (lw_at lw_m4 144 rfl) rfl
theorem q963 : (Jvm.Cond.methodLink "java/lang/IllegalArgumentException" (1 : Nat) ({ cls := "java/lang/RuntimeException", name := "<init>", desc := "()V" } : Jvm.MethodName)) ∈ lw_all := lw_g (lw_at lw_m4 145 rfl) rfl
theorem q964 : (Jvm.Cond.lays "java/lang/IllegalArgumentException" "java/lang/Throwable" "depth" "I") ∈ lw_all := lw_g (lw_at lw_m4 146 rfl) rfl
theorem q965 : (Jvm.Cond.superclass "java/lang/IllegalArgumentException" "java/lang/RuntimeException") ∈ lw_all := lw_g (lw_at lw_m4 147 rfl) rfl
theorem q1168 : (Jvm.Cond.instanceMethod ({ cls := "java/lang/IllegalArgumentException", name := "<init>", desc := "(Ljava/lang/String;)V" } : Jvm.MethodName)) ∈ lw_all := lw_g (lw_at lw_m5 110 rfl) rfl
theorem q1169 : (Jvm.Cond.code ({ cls := "java/lang/IllegalArgumentException", name := "<init>", desc := "(Ljava/lang/String;)V" } : Jvm.MethodName) prog_34_method_2_code (2 : Nat) (Option.none : Option Jvm.ClassFile.FieldType)) ∈ lw_all := lw_g (lw_at lw_m5 111 rfl) rfl
theorem q1170 : (Jvm.Cond.methodLink "java/lang/IllegalArgumentException" (7 : Nat) ({ cls := "java/lang/RuntimeException", name := "<init>", desc := "(Ljava/lang/String;)V" } : Jvm.MethodName)) ∈ lw_all := lw_g (lw_at lw_m5 112 rfl) rfl
theorem q1867 : (Jvm.Cond.selects "java/lang/IllegalArgumentException" ({ cls := "java/lang/Object", name := "hashCode", desc := "()I" } : Jvm.MethodName) ({ cls := "java/lang/Object", name := "hashCode", desc := "()I" } : Jvm.MethodName)) ∈ lw_all := lw_g (lw_at lw_m8 89 rfl) rfl
theorem q1954 : (Jvm.Cond.selects "java/lang/IllegalArgumentException" ({ cls := "java/lang/Object", name := "equals", desc := "(Ljava/lang/Object;)Z" } : Jvm.MethodName) ({ cls := "java/lang/Object", name := "equals", desc := "(Ljava/lang/Object;)Z" } : Jvm.MethodName)) ∈ lw_all := lw_g (lw_at lw_m8 176 rfl) rfl
theorem q3397 : (Jvm.Cond.castable "java/lang/IllegalArgumentException" "java/lang/Object") ∈ lw_tbl := lw_at lw_m14 179 rfl
theorem in_J10 : ∀ w ∈ wsJ100, w ∈ lw_all := lw_in wsJ100 [955, 956, 957, 958, 959, 964] (by decide +kernel) (by decide +kernel)
/-! jdk/internal/util/ArraysSupport -/
set_option maxRecDepth 100000
def RJ11 : String := "jdk/internal/util/ArraysSupport"
abbrev cJ11_newLength : ByteArray := prog_82_method_27_code
def yJ11_newLength : MethodName := ⟨RJ11, "newLength", "(III)I"⟩
def dkwJ11_newLength_1 : List UInt8 := [184, 0, 201, 172]
abbrev dktJ11_newLength_1 : List UInt8 := dkwJ11_newLength_1 ++ []
def dkwJ11_newLength_0 : List UInt8 := [26, 27, 28, 184, 0, 194, 96, 62, 3, 29, 162, 0, 11, 29, 18, 200, 163, 0, 5, 29, 172, 26, 27]
abbrev dktJ11_newLength_0 : List UInt8 := dkwJ11_newLength_0 ++ dktJ11_newLength_1
theorem dksJ11_newLength_0 : cJ11_newLength.data.toList.drop 0 = dktJ11_newLength_0 := by decide +kernel
theorem dksJ11_newLength_1 : cJ11_newLength.data.toList.drop 23 = dktJ11_newLength_1 := dk_seg dksJ11_newLength_0 23 rfl rfl
theorem dJ11_newLength_0 : decode cJ11_newLength 0 = .ok (.iload_n 0, 1) := dk_26 (dk_at dksJ11_newLength_0 0 rfl rfl)
theorem dJ11_newLength_1 : decode cJ11_newLength 1 = .ok (.iload_n 1, 1) := dk_27 (dk_at dksJ11_newLength_0 1 rfl rfl)
theorem dJ11_newLength_2 : decode cJ11_newLength 2 = .ok (.iload_n 2, 1) := dk_28 (dk_at dksJ11_newLength_0 2 rfl rfl)
theorem dJ11_newLength_3 : decode cJ11_newLength 3 = .ok (.invokestatic 194, 3) := dk_184 0 194 (dk_at dksJ11_newLength_0 3 rfl rfl)
theorem dJ11_newLength_6 : decode cJ11_newLength 6 = .ok (.iadd, 1) := dk_96 (dk_at dksJ11_newLength_0 6 rfl rfl)
theorem dJ11_newLength_7 : decode cJ11_newLength 7 = .ok (.istore_n 3, 1) := dk_62 (dk_at dksJ11_newLength_0 7 rfl rfl)
theorem dJ11_newLength_8 : decode cJ11_newLength 8 = .ok (.iconst 0, 1) := dk_3 (dk_at dksJ11_newLength_0 8 rfl rfl)
theorem dJ11_newLength_9 : decode cJ11_newLength 9 = .ok (.iload_n 3, 1) := dk_29 (dk_at dksJ11_newLength_0 9 rfl rfl)
theorem dJ11_newLength_10 : decode cJ11_newLength 10 = .ok (.if_icmp .ge 11, 3) := dk_162 0 11 (dk_at dksJ11_newLength_0 10 rfl rfl)
theorem dJ11_newLength_13 : decode cJ11_newLength 13 = .ok (.iload_n 3, 1) := dk_29 (dk_at dksJ11_newLength_0 13 rfl rfl)
theorem dJ11_newLength_14 : decode cJ11_newLength 14 = .ok (.ldc 200, 2) := dk_18 200 (dk_at dksJ11_newLength_0 14 rfl rfl)
theorem dJ11_newLength_16 : decode cJ11_newLength 16 = .ok (.if_icmp .gt 5, 3) := dk_163 0 5 (dk_at dksJ11_newLength_0 16 rfl rfl)
theorem dJ11_newLength_19 : decode cJ11_newLength 19 = .ok (.iload_n 3, 1) := dk_29 (dk_at dksJ11_newLength_0 19 rfl rfl)
theorem dJ11_newLength_20 : decode cJ11_newLength 20 = .ok (.ireturn, 1) := dk_172 (dk_at dksJ11_newLength_0 20 rfl rfl)
theorem dJ11_newLength_21 : decode cJ11_newLength 21 = .ok (.iload_n 0, 1) := dk_26 (dk_at dksJ11_newLength_0 21 rfl rfl)
theorem dJ11_newLength_22 : decode cJ11_newLength 22 = .ok (.iload_n 1, 1) := dk_27 (dk_at dksJ11_newLength_0 22 rfl rfl)
theorem dJ11_newLength_23 : decode cJ11_newLength 23 = .ok (.invokestatic 201, 3) := dk_184 0 201 (dk_at dksJ11_newLength_1 0 rfl rfl)
theorem dJ11_newLength_26 : decode cJ11_newLength 26 = .ok (.ireturn, 1) := dk_172 (dk_at dksJ11_newLength_1 3 rfl rfl)
abbrev cJ11_hugeLength : ByteArray := prog_82_method_28_code
def yJ11_hugeLength : MethodName := ⟨RJ11, "hugeLength", "(II)I"⟩
def dkwJ11_hugeLength_2 : List UInt8 := [191, 28, 18, 200, 163, 0, 6, 18, 200, 172, 28, 172]
abbrev dktJ11_hugeLength_2 : List UInt8 := dkwJ11_hugeLength_2 ++ []
def dkwJ11_hugeLength_1 : List UInt8 := [26, 182, 0, 98, 18, 208, 182, 0, 94, 27, 182, 0, 98, 18, 210, 182, 0, 94, 182, 0, 101, 183, 0, 212]
abbrev dktJ11_hugeLength_1 : List UInt8 := dkwJ11_hugeLength_1 ++ dktJ11_hugeLength_2
def dkwJ11_hugeLength_0 : List UInt8 := [26, 27, 96, 61, 28, 156, 0, 44, 187, 0, 204, 89, 187, 0, 89, 89, 183, 0, 91, 18, 206, 182, 0, 94]
abbrev dktJ11_hugeLength_0 : List UInt8 := dkwJ11_hugeLength_0 ++ dktJ11_hugeLength_1
theorem dksJ11_hugeLength_0 : cJ11_hugeLength.data.toList.drop 0 = dktJ11_hugeLength_0 := by decide +kernel
theorem dksJ11_hugeLength_1 : cJ11_hugeLength.data.toList.drop 24 = dktJ11_hugeLength_1 := dk_seg dksJ11_hugeLength_0 24 rfl rfl
theorem dksJ11_hugeLength_2 : cJ11_hugeLength.data.toList.drop 48 = dktJ11_hugeLength_2 := dk_seg dksJ11_hugeLength_1 24 rfl rfl
theorem dJ11_hugeLength_0 : decode cJ11_hugeLength 0 = .ok (.iload_n 0, 1) := dk_26 (dk_at dksJ11_hugeLength_0 0 rfl rfl)
theorem dJ11_hugeLength_1 : decode cJ11_hugeLength 1 = .ok (.iload_n 1, 1) := dk_27 (dk_at dksJ11_hugeLength_0 1 rfl rfl)
theorem dJ11_hugeLength_2 : decode cJ11_hugeLength 2 = .ok (.iadd, 1) := dk_96 (dk_at dksJ11_hugeLength_0 2 rfl rfl)
theorem dJ11_hugeLength_3 : decode cJ11_hugeLength 3 = .ok (.istore_n 2, 1) := dk_61 (dk_at dksJ11_hugeLength_0 3 rfl rfl)
theorem dJ11_hugeLength_4 : decode cJ11_hugeLength 4 = .ok (.iload_n 2, 1) := dk_28 (dk_at dksJ11_hugeLength_0 4 rfl rfl)
theorem dJ11_hugeLength_5 : decode cJ11_hugeLength 5 = .ok (.ifCond .ge 44, 3) := dk_156 0 44 (dk_at dksJ11_hugeLength_0 5 rfl rfl)
theorem dJ11_hugeLength_8 : decode cJ11_hugeLength 8 = .ok (.new 204, 3) := dk_187 0 204 (dk_at dksJ11_hugeLength_0 8 rfl rfl)
theorem dJ11_hugeLength_11 : decode cJ11_hugeLength 11 = .ok (.dup, 1) := dk_89 (dk_at dksJ11_hugeLength_0 11 rfl rfl)
theorem dJ11_hugeLength_12 : decode cJ11_hugeLength 12 = .ok (.new 89, 3) := dk_187 0 89 (dk_at dksJ11_hugeLength_0 12 rfl rfl)
theorem dJ11_hugeLength_15 : decode cJ11_hugeLength 15 = .ok (.dup, 1) := dk_89 (dk_at dksJ11_hugeLength_0 15 rfl rfl)
theorem dJ11_hugeLength_16 : decode cJ11_hugeLength 16 = .ok (.invokespecial 91, 3) := dk_183 0 91 (dk_at dksJ11_hugeLength_0 16 rfl rfl)
theorem dJ11_hugeLength_19 : decode cJ11_hugeLength 19 = .ok (.ldc 206, 2) := dk_18 206 (dk_at dksJ11_hugeLength_0 19 rfl rfl)
theorem dJ11_hugeLength_21 : decode cJ11_hugeLength 21 = .ok (.invokevirtual 94, 3) := dk_182 0 94 (dk_at dksJ11_hugeLength_0 21 rfl rfl)
theorem dJ11_hugeLength_24 : decode cJ11_hugeLength 24 = .ok (.iload_n 0, 1) := dk_26 (dk_at dksJ11_hugeLength_1 0 rfl rfl)
theorem dJ11_hugeLength_25 : decode cJ11_hugeLength 25 = .ok (.invokevirtual 98, 3) := dk_182 0 98 (dk_at dksJ11_hugeLength_1 1 rfl rfl)
theorem dJ11_hugeLength_28 : decode cJ11_hugeLength 28 = .ok (.ldc 208, 2) := dk_18 208 (dk_at dksJ11_hugeLength_1 4 rfl rfl)
theorem dJ11_hugeLength_30 : decode cJ11_hugeLength 30 = .ok (.invokevirtual 94, 3) := dk_182 0 94 (dk_at dksJ11_hugeLength_1 6 rfl rfl)
theorem dJ11_hugeLength_33 : decode cJ11_hugeLength 33 = .ok (.iload_n 1, 1) := dk_27 (dk_at dksJ11_hugeLength_1 9 rfl rfl)
theorem dJ11_hugeLength_34 : decode cJ11_hugeLength 34 = .ok (.invokevirtual 98, 3) := dk_182 0 98 (dk_at dksJ11_hugeLength_1 10 rfl rfl)
theorem dJ11_hugeLength_37 : decode cJ11_hugeLength 37 = .ok (.ldc 210, 2) := dk_18 210 (dk_at dksJ11_hugeLength_1 13 rfl rfl)
theorem dJ11_hugeLength_39 : decode cJ11_hugeLength 39 = .ok (.invokevirtual 94, 3) := dk_182 0 94 (dk_at dksJ11_hugeLength_1 15 rfl rfl)
theorem dJ11_hugeLength_42 : decode cJ11_hugeLength 42 = .ok (.invokevirtual 101, 3) := dk_182 0 101 (dk_at dksJ11_hugeLength_1 18 rfl rfl)
theorem dJ11_hugeLength_45 : decode cJ11_hugeLength 45 = .ok (.invokespecial 212, 3) := dk_183 0 212 (dk_at dksJ11_hugeLength_1 21 rfl rfl)
theorem dJ11_hugeLength_48 : decode cJ11_hugeLength 48 = .ok (.athrow, 1) := dk_191 (dk_at dksJ11_hugeLength_2 0 rfl rfl)
theorem dJ11_hugeLength_49 : decode cJ11_hugeLength 49 = .ok (.iload_n 2, 1) := dk_28 (dk_at dksJ11_hugeLength_2 1 rfl rfl)
theorem dJ11_hugeLength_50 : decode cJ11_hugeLength 50 = .ok (.ldc 200, 2) := dk_18 200 (dk_at dksJ11_hugeLength_2 2 rfl rfl)
theorem dJ11_hugeLength_52 : decode cJ11_hugeLength 52 = .ok (.if_icmp .gt 6, 3) := dk_163 0 6 (dk_at dksJ11_hugeLength_2 4 rfl rfl)
theorem dJ11_hugeLength_55 : decode cJ11_hugeLength 55 = .ok (.ldc 200, 2) := dk_18 200 (dk_at dksJ11_hugeLength_2 7 rfl rfl)
theorem dJ11_hugeLength_57 : decode cJ11_hugeLength 57 = .ok (.ireturn, 1) := dk_172 (dk_at dksJ11_hugeLength_2 9 rfl rfl)
theorem dJ11_hugeLength_58 : decode cJ11_hugeLength 58 = .ok (.iload_n 2, 1) := dk_28 (dk_at dksJ11_hugeLength_2 10 rfl rfl)
theorem dJ11_hugeLength_59 : decode cJ11_hugeLength 59 = .ok (.ireturn, 1) := dk_172 (dk_at dksJ11_hugeLength_2 11 rfl rfl)
abbrev cJ11_vectorizedHashCode : ByteArray := prog_82_method_4_code
def yJ11_vectorizedHashCode : MethodName := ⟨RJ11, "vectorizedHashCode", "(Ljava/lang/Object;IIII)I"⟩
def dkwJ11_vectorizedHashCode_6 : List UInt8 := [183, 0, 91, 18, 92, 182, 0, 94, 21, 4, 182, 0, 98, 182, 0, 101, 183, 0, 105, 191, 172]
abbrev dktJ11_vectorizedHashCode_6 : List UInt8 := dkwJ11_vectorizedHashCode_6 ++ []
def dkwJ11_vectorizedHashCode_5 : List UInt8 := [167, 0, 44, 29, 42, 192, 0, 82, 27, 28, 184, 0, 84, 167, 0, 31, 187, 0, 87, 89, 187, 0, 89, 89]
abbrev dktJ11_vectorizedHashCode_5 : List UInt8 := dkwJ11_vectorizedHashCode_5 ++ dktJ11_vectorizedHashCode_6
def dkwJ11_vectorizedHashCode_4 : List UInt8 := [29, 42, 192, 0, 60, 27, 28, 184, 0, 75, 167, 0, 57, 29, 42, 192, 0, 77, 27, 28, 184, 0, 79]
abbrev dktJ11_vectorizedHashCode_4 : List UInt8 := dkwJ11_vectorizedHashCode_4 ++ dktJ11_vectorizedHashCode_5
def dkwJ11_vectorizedHashCode_3 : List UInt8 := [192, 0, 60, 27, 28, 184, 0, 66, 167, 0, 83, 29, 42, 192, 0, 69, 27, 28, 184, 0, 71, 167, 0, 70]
abbrev dktJ11_vectorizedHashCode_3 : List UInt8 := dkwJ11_vectorizedHashCode_3 ++ dktJ11_vectorizedHashCode_4
def dkwJ11_vectorizedHashCode_2 : List UInt8 := [29, 42, 192, 0, 60, 27, 28, 184, 0, 62, 167, 0, 103, 42, 193, 0, 60, 153, 0, 16, 29, 42]
abbrev dktJ11_vectorizedHashCode_2 : List UInt8 := dkwJ11_vectorizedHashCode_2 ++ dktJ11_vectorizedHashCode_3
def dkwJ11_vectorizedHashCode_1 : List UInt8 := [170, 0, 0, 0, 0, 127, 0, 0, 0, 4, 0, 0, 0, 10, 0, 0, 0, 42, 0, 0, 0, 55, 0, 0, 0, 127, 0, 0, 0, 127, 0, 0, 0, 88, 0, 0, 0, 101, 0, 0, 0, 114]
abbrev dktJ11_vectorizedHashCode_1 : List UInt8 := dkwJ11_vectorizedHashCode_1 ++ dktJ11_vectorizedHashCode_2
def dkwJ11_vectorizedHashCode_0 : List UInt8 := [21, 4]
abbrev dktJ11_vectorizedHashCode_0 : List UInt8 := dkwJ11_vectorizedHashCode_0 ++ dktJ11_vectorizedHashCode_1
theorem dksJ11_vectorizedHashCode_0 : cJ11_vectorizedHashCode.data.toList.drop 0 = dktJ11_vectorizedHashCode_0 := by decide +kernel
theorem dksJ11_vectorizedHashCode_1 : cJ11_vectorizedHashCode.data.toList.drop 2 = dktJ11_vectorizedHashCode_1 := dk_seg dksJ11_vectorizedHashCode_0 2 rfl rfl
theorem dksJ11_vectorizedHashCode_2 : cJ11_vectorizedHashCode.data.toList.drop 44 = dktJ11_vectorizedHashCode_2 := dk_seg dksJ11_vectorizedHashCode_1 42 rfl rfl
theorem dksJ11_vectorizedHashCode_3 : cJ11_vectorizedHashCode.data.toList.drop 66 = dktJ11_vectorizedHashCode_3 := dk_seg dksJ11_vectorizedHashCode_2 22 rfl rfl
theorem dksJ11_vectorizedHashCode_4 : cJ11_vectorizedHashCode.data.toList.drop 90 = dktJ11_vectorizedHashCode_4 := dk_seg dksJ11_vectorizedHashCode_3 24 rfl rfl
theorem dksJ11_vectorizedHashCode_5 : cJ11_vectorizedHashCode.data.toList.drop 113 = dktJ11_vectorizedHashCode_5 := dk_seg dksJ11_vectorizedHashCode_4 23 rfl rfl
theorem dksJ11_vectorizedHashCode_6 : cJ11_vectorizedHashCode.data.toList.drop 137 = dktJ11_vectorizedHashCode_6 := dk_seg dksJ11_vectorizedHashCode_5 24 rfl rfl
theorem dJ11_vectorizedHashCode_0 : decode cJ11_vectorizedHashCode 0 = .ok (.iload 4, 2) := dk_21 4 (dk_at dksJ11_vectorizedHashCode_0 0 rfl rfl)
theorem dJ11_vectorizedHashCode_2 : decode cJ11_vectorizedHashCode 2 = .ok (.tableswitch 127 4 10 #[42, 55, 127, 127, 88, 101, 114], 42) := by decide +kernel
theorem dJ11_vectorizedHashCode_44 : decode cJ11_vectorizedHashCode 44 = .ok (.iload_n 3, 1) := dk_29 (dk_at dksJ11_vectorizedHashCode_2 0 rfl rfl)
theorem dJ11_vectorizedHashCode_45 : decode cJ11_vectorizedHashCode 45 = .ok (.aload_n 0, 1) := dk_42 (dk_at dksJ11_vectorizedHashCode_2 1 rfl rfl)
theorem dJ11_vectorizedHashCode_46 : decode cJ11_vectorizedHashCode 46 = .ok (.checkcast 60, 3) := dk_192 0 60 (dk_at dksJ11_vectorizedHashCode_2 2 rfl rfl)
theorem dJ11_vectorizedHashCode_49 : decode cJ11_vectorizedHashCode 49 = .ok (.iload_n 1, 1) := dk_27 (dk_at dksJ11_vectorizedHashCode_2 5 rfl rfl)
theorem dJ11_vectorizedHashCode_50 : decode cJ11_vectorizedHashCode 50 = .ok (.iload_n 2, 1) := dk_28 (dk_at dksJ11_vectorizedHashCode_2 6 rfl rfl)
theorem dJ11_vectorizedHashCode_51 : decode cJ11_vectorizedHashCode 51 = .ok (.invokestatic 62, 3) := dk_184 0 62 (dk_at dksJ11_vectorizedHashCode_2 7 rfl rfl)
theorem dJ11_vectorizedHashCode_54 : decode cJ11_vectorizedHashCode 54 = .ok (.goto 103, 3) := dk_167 0 103 (dk_at dksJ11_vectorizedHashCode_2 10 rfl rfl)
theorem dJ11_vectorizedHashCode_57 : decode cJ11_vectorizedHashCode 57 = .ok (.aload_n 0, 1) := dk_42 (dk_at dksJ11_vectorizedHashCode_2 13 rfl rfl)
theorem dJ11_vectorizedHashCode_58 : decode cJ11_vectorizedHashCode 58 = .ok (.instanceof 60, 3) := dk_193 0 60 (dk_at dksJ11_vectorizedHashCode_2 14 rfl rfl)
theorem dJ11_vectorizedHashCode_61 : decode cJ11_vectorizedHashCode 61 = .ok (.ifCond .eq 16, 3) := dk_153 0 16 (dk_at dksJ11_vectorizedHashCode_2 17 rfl rfl)
theorem dJ11_vectorizedHashCode_64 : decode cJ11_vectorizedHashCode 64 = .ok (.iload_n 3, 1) := dk_29 (dk_at dksJ11_vectorizedHashCode_2 20 rfl rfl)
theorem dJ11_vectorizedHashCode_65 : decode cJ11_vectorizedHashCode 65 = .ok (.aload_n 0, 1) := dk_42 (dk_at dksJ11_vectorizedHashCode_2 21 rfl rfl)
theorem dJ11_vectorizedHashCode_66 : decode cJ11_vectorizedHashCode 66 = .ok (.checkcast 60, 3) := dk_192 0 60 (dk_at dksJ11_vectorizedHashCode_3 0 rfl rfl)
theorem dJ11_vectorizedHashCode_69 : decode cJ11_vectorizedHashCode 69 = .ok (.iload_n 1, 1) := dk_27 (dk_at dksJ11_vectorizedHashCode_3 3 rfl rfl)
theorem dJ11_vectorizedHashCode_70 : decode cJ11_vectorizedHashCode 70 = .ok (.iload_n 2, 1) := dk_28 (dk_at dksJ11_vectorizedHashCode_3 4 rfl rfl)
theorem dJ11_vectorizedHashCode_71 : decode cJ11_vectorizedHashCode 71 = .ok (.invokestatic 66, 3) := dk_184 0 66 (dk_at dksJ11_vectorizedHashCode_3 5 rfl rfl)
theorem dJ11_vectorizedHashCode_74 : decode cJ11_vectorizedHashCode 74 = .ok (.goto 83, 3) := dk_167 0 83 (dk_at dksJ11_vectorizedHashCode_3 8 rfl rfl)
theorem dJ11_vectorizedHashCode_77 : decode cJ11_vectorizedHashCode 77 = .ok (.iload_n 3, 1) := dk_29 (dk_at dksJ11_vectorizedHashCode_3 11 rfl rfl)
theorem dJ11_vectorizedHashCode_78 : decode cJ11_vectorizedHashCode 78 = .ok (.aload_n 0, 1) := dk_42 (dk_at dksJ11_vectorizedHashCode_3 12 rfl rfl)
theorem dJ11_vectorizedHashCode_79 : decode cJ11_vectorizedHashCode 79 = .ok (.checkcast 69, 3) := dk_192 0 69 (dk_at dksJ11_vectorizedHashCode_3 13 rfl rfl)
theorem dJ11_vectorizedHashCode_82 : decode cJ11_vectorizedHashCode 82 = .ok (.iload_n 1, 1) := dk_27 (dk_at dksJ11_vectorizedHashCode_3 16 rfl rfl)
theorem dJ11_vectorizedHashCode_83 : decode cJ11_vectorizedHashCode 83 = .ok (.iload_n 2, 1) := dk_28 (dk_at dksJ11_vectorizedHashCode_3 17 rfl rfl)
theorem dJ11_vectorizedHashCode_84 : decode cJ11_vectorizedHashCode 84 = .ok (.invokestatic 71, 3) := dk_184 0 71 (dk_at dksJ11_vectorizedHashCode_3 18 rfl rfl)
theorem dJ11_vectorizedHashCode_87 : decode cJ11_vectorizedHashCode 87 = .ok (.goto 70, 3) := dk_167 0 70 (dk_at dksJ11_vectorizedHashCode_3 21 rfl rfl)
theorem dJ11_vectorizedHashCode_90 : decode cJ11_vectorizedHashCode 90 = .ok (.iload_n 3, 1) := dk_29 (dk_at dksJ11_vectorizedHashCode_4 0 rfl rfl)
theorem dJ11_vectorizedHashCode_91 : decode cJ11_vectorizedHashCode 91 = .ok (.aload_n 0, 1) := dk_42 (dk_at dksJ11_vectorizedHashCode_4 1 rfl rfl)
theorem dJ11_vectorizedHashCode_92 : decode cJ11_vectorizedHashCode 92 = .ok (.checkcast 60, 3) := dk_192 0 60 (dk_at dksJ11_vectorizedHashCode_4 2 rfl rfl)
theorem dJ11_vectorizedHashCode_95 : decode cJ11_vectorizedHashCode 95 = .ok (.iload_n 1, 1) := dk_27 (dk_at dksJ11_vectorizedHashCode_4 5 rfl rfl)
theorem dJ11_vectorizedHashCode_96 : decode cJ11_vectorizedHashCode 96 = .ok (.iload_n 2, 1) := dk_28 (dk_at dksJ11_vectorizedHashCode_4 6 rfl rfl)
theorem dJ11_vectorizedHashCode_97 : decode cJ11_vectorizedHashCode 97 = .ok (.invokestatic 75, 3) := dk_184 0 75 (dk_at dksJ11_vectorizedHashCode_4 7 rfl rfl)
theorem dJ11_vectorizedHashCode_100 : decode cJ11_vectorizedHashCode 100 = .ok (.goto 57, 3) := dk_167 0 57 (dk_at dksJ11_vectorizedHashCode_4 10 rfl rfl)
theorem dJ11_vectorizedHashCode_103 : decode cJ11_vectorizedHashCode 103 = .ok (.iload_n 3, 1) := dk_29 (dk_at dksJ11_vectorizedHashCode_4 13 rfl rfl)
theorem dJ11_vectorizedHashCode_104 : decode cJ11_vectorizedHashCode 104 = .ok (.aload_n 0, 1) := dk_42 (dk_at dksJ11_vectorizedHashCode_4 14 rfl rfl)
theorem dJ11_vectorizedHashCode_105 : decode cJ11_vectorizedHashCode 105 = .ok (.checkcast 77, 3) := dk_192 0 77 (dk_at dksJ11_vectorizedHashCode_4 15 rfl rfl)
theorem dJ11_vectorizedHashCode_108 : decode cJ11_vectorizedHashCode 108 = .ok (.iload_n 1, 1) := dk_27 (dk_at dksJ11_vectorizedHashCode_4 18 rfl rfl)
theorem dJ11_vectorizedHashCode_109 : decode cJ11_vectorizedHashCode 109 = .ok (.iload_n 2, 1) := dk_28 (dk_at dksJ11_vectorizedHashCode_4 19 rfl rfl)
theorem dJ11_vectorizedHashCode_110 : decode cJ11_vectorizedHashCode 110 = .ok (.invokestatic 79, 3) := dk_184 0 79 (dk_at dksJ11_vectorizedHashCode_4 20 rfl rfl)
theorem dJ11_vectorizedHashCode_113 : decode cJ11_vectorizedHashCode 113 = .ok (.goto 44, 3) := dk_167 0 44 (dk_at dksJ11_vectorizedHashCode_5 0 rfl rfl)
theorem dJ11_vectorizedHashCode_116 : decode cJ11_vectorizedHashCode 116 = .ok (.iload_n 3, 1) := dk_29 (dk_at dksJ11_vectorizedHashCode_5 3 rfl rfl)
theorem dJ11_vectorizedHashCode_117 : decode cJ11_vectorizedHashCode 117 = .ok (.aload_n 0, 1) := dk_42 (dk_at dksJ11_vectorizedHashCode_5 4 rfl rfl)
theorem dJ11_vectorizedHashCode_118 : decode cJ11_vectorizedHashCode 118 = .ok (.checkcast 82, 3) := dk_192 0 82 (dk_at dksJ11_vectorizedHashCode_5 5 rfl rfl)
theorem dJ11_vectorizedHashCode_121 : decode cJ11_vectorizedHashCode 121 = .ok (.iload_n 1, 1) := dk_27 (dk_at dksJ11_vectorizedHashCode_5 8 rfl rfl)
theorem dJ11_vectorizedHashCode_122 : decode cJ11_vectorizedHashCode 122 = .ok (.iload_n 2, 1) := dk_28 (dk_at dksJ11_vectorizedHashCode_5 9 rfl rfl)
theorem dJ11_vectorizedHashCode_123 : decode cJ11_vectorizedHashCode 123 = .ok (.invokestatic 84, 3) := dk_184 0 84 (dk_at dksJ11_vectorizedHashCode_5 10 rfl rfl)
theorem dJ11_vectorizedHashCode_126 : decode cJ11_vectorizedHashCode 126 = .ok (.goto 31, 3) := dk_167 0 31 (dk_at dksJ11_vectorizedHashCode_5 13 rfl rfl)
theorem dJ11_vectorizedHashCode_129 : decode cJ11_vectorizedHashCode 129 = .ok (.new 87, 3) := dk_187 0 87 (dk_at dksJ11_vectorizedHashCode_5 16 rfl rfl)
theorem dJ11_vectorizedHashCode_132 : decode cJ11_vectorizedHashCode 132 = .ok (.dup, 1) := dk_89 (dk_at dksJ11_vectorizedHashCode_5 19 rfl rfl)
theorem dJ11_vectorizedHashCode_133 : decode cJ11_vectorizedHashCode 133 = .ok (.new 89, 3) := dk_187 0 89 (dk_at dksJ11_vectorizedHashCode_5 20 rfl rfl)
theorem dJ11_vectorizedHashCode_136 : decode cJ11_vectorizedHashCode 136 = .ok (.dup, 1) := dk_89 (dk_at dksJ11_vectorizedHashCode_5 23 rfl rfl)
theorem dJ11_vectorizedHashCode_137 : decode cJ11_vectorizedHashCode 137 = .ok (.invokespecial 91, 3) := dk_183 0 91 (dk_at dksJ11_vectorizedHashCode_6 0 rfl rfl)
theorem dJ11_vectorizedHashCode_140 : decode cJ11_vectorizedHashCode 140 = .ok (.ldc 92, 2) := dk_18 92 (dk_at dksJ11_vectorizedHashCode_6 3 rfl rfl)
theorem dJ11_vectorizedHashCode_142 : decode cJ11_vectorizedHashCode 142 = .ok (.invokevirtual 94, 3) := dk_182 0 94 (dk_at dksJ11_vectorizedHashCode_6 5 rfl rfl)
theorem dJ11_vectorizedHashCode_145 : decode cJ11_vectorizedHashCode 145 = .ok (.iload 4, 2) := dk_21 4 (dk_at dksJ11_vectorizedHashCode_6 8 rfl rfl)
theorem dJ11_vectorizedHashCode_147 : decode cJ11_vectorizedHashCode 147 = .ok (.invokevirtual 98, 3) := dk_182 0 98 (dk_at dksJ11_vectorizedHashCode_6 10 rfl rfl)
theorem dJ11_vectorizedHashCode_150 : decode cJ11_vectorizedHashCode 150 = .ok (.invokevirtual 101, 3) := dk_182 0 101 (dk_at dksJ11_vectorizedHashCode_6 13 rfl rfl)
theorem dJ11_vectorizedHashCode_153 : decode cJ11_vectorizedHashCode 153 = .ok (.invokespecial 105, 3) := dk_183 0 105 (dk_at dksJ11_vectorizedHashCode_6 16 rfl rfl)
theorem dJ11_vectorizedHashCode_156 : decode cJ11_vectorizedHashCode 156 = .ok (.athrow, 1) := dk_191 (dk_at dksJ11_vectorizedHashCode_6 19 rfl rfl)
theorem dJ11_vectorizedHashCode_157 : decode cJ11_vectorizedHashCode 157 = .ok (.ireturn, 1) := dk_172 (dk_at dksJ11_vectorizedHashCode_6 20 rfl rfl)
abbrev cJ11_signedHashCode : ByteArray := prog_82_method_5_code
def yJ11_signedHashCode : MethodName := ⟨RJ11, "signedHashCode", "(I[BII)I"⟩
def dkwJ11_signedHashCode_1 : List UInt8 := [17, 0, 255, 126, 96, 59, 132, 5, 1, 167, 255, 232, 26, 172]
abbrev dktJ11_signedHashCode_1 : List UInt8 := dkwJ11_signedHashCode_1 ++ []
def dkwJ11_signedHashCode_0 : List UInt8 := [28, 29, 96, 54, 4, 28, 54, 5, 21, 5, 21, 4, 162, 0, 23, 16, 31, 26, 104, 43, 21, 5, 51]
abbrev dktJ11_signedHashCode_0 : List UInt8 := dkwJ11_signedHashCode_0 ++ dktJ11_signedHashCode_1
theorem dksJ11_signedHashCode_0 : cJ11_signedHashCode.data.toList.drop 0 = dktJ11_signedHashCode_0 := by decide +kernel
theorem dksJ11_signedHashCode_1 : cJ11_signedHashCode.data.toList.drop 23 = dktJ11_signedHashCode_1 := dk_seg dksJ11_signedHashCode_0 23 rfl rfl
theorem dJ11_signedHashCode_0 : decode cJ11_signedHashCode 0 = .ok (.iload_n 2, 1) := dk_28 (dk_at dksJ11_signedHashCode_0 0 rfl rfl)
theorem dJ11_signedHashCode_1 : decode cJ11_signedHashCode 1 = .ok (.iload_n 3, 1) := dk_29 (dk_at dksJ11_signedHashCode_0 1 rfl rfl)
theorem dJ11_signedHashCode_2 : decode cJ11_signedHashCode 2 = .ok (.iadd, 1) := dk_96 (dk_at dksJ11_signedHashCode_0 2 rfl rfl)
theorem dJ11_signedHashCode_3 : decode cJ11_signedHashCode 3 = .ok (.istore 4, 2) := dk_54 4 (dk_at dksJ11_signedHashCode_0 3 rfl rfl)
theorem dJ11_signedHashCode_5 : decode cJ11_signedHashCode 5 = .ok (.iload_n 2, 1) := dk_28 (dk_at dksJ11_signedHashCode_0 5 rfl rfl)
theorem dJ11_signedHashCode_6 : decode cJ11_signedHashCode 6 = .ok (.istore 5, 2) := dk_54 5 (dk_at dksJ11_signedHashCode_0 6 rfl rfl)
theorem dJ11_signedHashCode_8 : decode cJ11_signedHashCode 8 = .ok (.iload 5, 2) := dk_21 5 (dk_at dksJ11_signedHashCode_0 8 rfl rfl)
theorem dJ11_signedHashCode_10 : decode cJ11_signedHashCode 10 = .ok (.iload 4, 2) := dk_21 4 (dk_at dksJ11_signedHashCode_0 10 rfl rfl)
theorem dJ11_signedHashCode_12 : decode cJ11_signedHashCode 12 = .ok (.if_icmp .ge 23, 3) := dk_162 0 23 (dk_at dksJ11_signedHashCode_0 12 rfl rfl)
theorem dJ11_signedHashCode_15 : decode cJ11_signedHashCode 15 = .ok (.bipush 31, 2) := dk_16 31 (dk_at dksJ11_signedHashCode_0 15 rfl rfl)
theorem dJ11_signedHashCode_17 : decode cJ11_signedHashCode 17 = .ok (.iload_n 0, 1) := dk_26 (dk_at dksJ11_signedHashCode_0 17 rfl rfl)
theorem dJ11_signedHashCode_18 : decode cJ11_signedHashCode 18 = .ok (.imul, 1) := dk_104 (dk_at dksJ11_signedHashCode_0 18 rfl rfl)
theorem dJ11_signedHashCode_19 : decode cJ11_signedHashCode 19 = .ok (.aload_n 1, 1) := dk_43 (dk_at dksJ11_signedHashCode_0 19 rfl rfl)
theorem dJ11_signedHashCode_20 : decode cJ11_signedHashCode 20 = .ok (.iload 5, 2) := dk_21 5 (dk_at dksJ11_signedHashCode_0 20 rfl rfl)
theorem dJ11_signedHashCode_22 : decode cJ11_signedHashCode 22 = .ok (.baload, 1) := dk_51 (dk_at dksJ11_signedHashCode_0 22 rfl rfl)
theorem dJ11_signedHashCode_23 : decode cJ11_signedHashCode 23 = .ok (.sipush 255, 3) := dk_17 0 255 (dk_at dksJ11_signedHashCode_1 0 rfl rfl)
theorem dJ11_signedHashCode_26 : decode cJ11_signedHashCode 26 = .ok (.iand, 1) := dk_126 (dk_at dksJ11_signedHashCode_1 3 rfl rfl)
theorem dJ11_signedHashCode_27 : decode cJ11_signedHashCode 27 = .ok (.iadd, 1) := dk_96 (dk_at dksJ11_signedHashCode_1 4 rfl rfl)
theorem dJ11_signedHashCode_28 : decode cJ11_signedHashCode 28 = .ok (.istore_n 0, 1) := dk_59 (dk_at dksJ11_signedHashCode_1 5 rfl rfl)
theorem dJ11_signedHashCode_29 : decode cJ11_signedHashCode 29 = .ok (.iinc 5 1, 3) := dk_132 5 1 (dk_at dksJ11_signedHashCode_1 6 rfl rfl)
theorem dJ11_signedHashCode_32 : decode cJ11_signedHashCode 32 = .ok (.goto (-24), 3) := dk_167 255 232 (dk_at dksJ11_signedHashCode_1 9 rfl rfl)
theorem dJ11_signedHashCode_35 : decode cJ11_signedHashCode 35 = .ok (.iload_n 0, 1) := dk_26 (dk_at dksJ11_signedHashCode_1 12 rfl rfl)
theorem dJ11_signedHashCode_36 : decode cJ11_signedHashCode 36 = .ok (.ireturn, 1) := dk_172 (dk_at dksJ11_signedHashCode_1 13 rfl rfl)
abbrev cJ11_utf16hashCode : ByteArray := prog_82_method_10_code
def yJ11_utf16hashCode : MethodName := ⟨RJ11, "utf16hashCode", "(I[BII)I"⟩
def dkwJ11_utf16hashCode_1 : List UInt8 := [21, 5, 185, 0, 110, 3, 0, 96, 59, 132, 5, 1, 167, 255, 229, 26, 172]
abbrev dktJ11_utf16hashCode_1 : List UInt8 := dkwJ11_utf16hashCode_1 ++ []
def dkwJ11_utf16hashCode_0 : List UInt8 := [28, 29, 96, 54, 4, 28, 54, 5, 21, 5, 21, 4, 162, 0, 26, 16, 31, 26, 104, 178, 0, 106, 43]
abbrev dktJ11_utf16hashCode_0 : List UInt8 := dkwJ11_utf16hashCode_0 ++ dktJ11_utf16hashCode_1
theorem dksJ11_utf16hashCode_0 : cJ11_utf16hashCode.data.toList.drop 0 = dktJ11_utf16hashCode_0 := by decide +kernel
theorem dksJ11_utf16hashCode_1 : cJ11_utf16hashCode.data.toList.drop 23 = dktJ11_utf16hashCode_1 := dk_seg dksJ11_utf16hashCode_0 23 rfl rfl
theorem dJ11_utf16hashCode_0 : decode cJ11_utf16hashCode 0 = .ok (.iload_n 2, 1) := dk_28 (dk_at dksJ11_utf16hashCode_0 0 rfl rfl)
theorem dJ11_utf16hashCode_1 : decode cJ11_utf16hashCode 1 = .ok (.iload_n 3, 1) := dk_29 (dk_at dksJ11_utf16hashCode_0 1 rfl rfl)
theorem dJ11_utf16hashCode_2 : decode cJ11_utf16hashCode 2 = .ok (.iadd, 1) := dk_96 (dk_at dksJ11_utf16hashCode_0 2 rfl rfl)
theorem dJ11_utf16hashCode_3 : decode cJ11_utf16hashCode 3 = .ok (.istore 4, 2) := dk_54 4 (dk_at dksJ11_utf16hashCode_0 3 rfl rfl)
theorem dJ11_utf16hashCode_5 : decode cJ11_utf16hashCode 5 = .ok (.iload_n 2, 1) := dk_28 (dk_at dksJ11_utf16hashCode_0 5 rfl rfl)
theorem dJ11_utf16hashCode_6 : decode cJ11_utf16hashCode 6 = .ok (.istore 5, 2) := dk_54 5 (dk_at dksJ11_utf16hashCode_0 6 rfl rfl)
theorem dJ11_utf16hashCode_8 : decode cJ11_utf16hashCode 8 = .ok (.iload 5, 2) := dk_21 5 (dk_at dksJ11_utf16hashCode_0 8 rfl rfl)
theorem dJ11_utf16hashCode_10 : decode cJ11_utf16hashCode 10 = .ok (.iload 4, 2) := dk_21 4 (dk_at dksJ11_utf16hashCode_0 10 rfl rfl)
theorem dJ11_utf16hashCode_12 : decode cJ11_utf16hashCode 12 = .ok (.if_icmp .ge 26, 3) := dk_162 0 26 (dk_at dksJ11_utf16hashCode_0 12 rfl rfl)
theorem dJ11_utf16hashCode_15 : decode cJ11_utf16hashCode 15 = .ok (.bipush 31, 2) := dk_16 31 (dk_at dksJ11_utf16hashCode_0 15 rfl rfl)
theorem dJ11_utf16hashCode_17 : decode cJ11_utf16hashCode 17 = .ok (.iload_n 0, 1) := dk_26 (dk_at dksJ11_utf16hashCode_0 17 rfl rfl)
theorem dJ11_utf16hashCode_18 : decode cJ11_utf16hashCode 18 = .ok (.imul, 1) := dk_104 (dk_at dksJ11_utf16hashCode_0 18 rfl rfl)
theorem dJ11_utf16hashCode_19 : decode cJ11_utf16hashCode 19 = .ok (.getstatic 106, 3) := dk_178 0 106 (dk_at dksJ11_utf16hashCode_0 19 rfl rfl)
theorem dJ11_utf16hashCode_22 : decode cJ11_utf16hashCode 22 = .ok (.aload_n 1, 1) := dk_43 (dk_at dksJ11_utf16hashCode_0 22 rfl rfl)
theorem dJ11_utf16hashCode_23 : decode cJ11_utf16hashCode 23 = .ok (.iload 5, 2) := dk_21 5 (dk_at dksJ11_utf16hashCode_1 0 rfl rfl)
theorem dJ11_utf16hashCode_25 : decode cJ11_utf16hashCode 25 = .ok (.invokeinterface 110 3, 5) := by decide +kernel
theorem dJ11_utf16hashCode_30 : decode cJ11_utf16hashCode 30 = .ok (.iadd, 1) := dk_96 (dk_at dksJ11_utf16hashCode_1 7 rfl rfl)
theorem dJ11_utf16hashCode_31 : decode cJ11_utf16hashCode 31 = .ok (.istore_n 0, 1) := dk_59 (dk_at dksJ11_utf16hashCode_1 8 rfl rfl)
theorem dJ11_utf16hashCode_32 : decode cJ11_utf16hashCode 32 = .ok (.iinc 5 1, 3) := dk_132 5 1 (dk_at dksJ11_utf16hashCode_1 9 rfl rfl)
theorem dJ11_utf16hashCode_35 : decode cJ11_utf16hashCode 35 = .ok (.goto (-27), 3) := dk_167 255 229 (dk_at dksJ11_utf16hashCode_1 12 rfl rfl)
theorem dJ11_utf16hashCode_38 : decode cJ11_utf16hashCode 38 = .ok (.iload_n 0, 1) := dk_26 (dk_at dksJ11_utf16hashCode_1 15 rfl rfl)
theorem dJ11_utf16hashCode_39 : decode cJ11_utf16hashCode 39 = .ok (.ireturn, 1) := dk_172 (dk_at dksJ11_utf16hashCode_1 16 rfl rfl)
abbrev cJ11_hashCode : ByteArray := prog_82_method_7_code
def yJ11_hashCode : MethodName := ⟨RJ11, "hashCode", "(I[CII)I"⟩
def dkwJ11_hashCode_1 : List UInt8 := [59, 132, 5, 1, 167, 255, 236, 26, 172]
abbrev dktJ11_hashCode_1 : List UInt8 := dkwJ11_hashCode_1 ++ []
def dkwJ11_hashCode_0 : List UInt8 := [28, 29, 96, 54, 4, 28, 54, 5, 21, 5, 21, 4, 162, 0, 19, 16, 31, 26, 104, 43, 21, 5, 52, 96]
abbrev dktJ11_hashCode_0 : List UInt8 := dkwJ11_hashCode_0 ++ dktJ11_hashCode_1
theorem dksJ11_hashCode_0 : cJ11_hashCode.data.toList.drop 0 = dktJ11_hashCode_0 := by decide +kernel
theorem dksJ11_hashCode_1 : cJ11_hashCode.data.toList.drop 24 = dktJ11_hashCode_1 := dk_seg dksJ11_hashCode_0 24 rfl rfl
theorem dJ11_hashCode_0 : decode cJ11_hashCode 0 = .ok (.iload_n 2, 1) := dk_28 (dk_at dksJ11_hashCode_0 0 rfl rfl)
theorem dJ11_hashCode_1 : decode cJ11_hashCode 1 = .ok (.iload_n 3, 1) := dk_29 (dk_at dksJ11_hashCode_0 1 rfl rfl)
theorem dJ11_hashCode_2 : decode cJ11_hashCode 2 = .ok (.iadd, 1) := dk_96 (dk_at dksJ11_hashCode_0 2 rfl rfl)
theorem dJ11_hashCode_3 : decode cJ11_hashCode 3 = .ok (.istore 4, 2) := dk_54 4 (dk_at dksJ11_hashCode_0 3 rfl rfl)
theorem dJ11_hashCode_5 : decode cJ11_hashCode 5 = .ok (.iload_n 2, 1) := dk_28 (dk_at dksJ11_hashCode_0 5 rfl rfl)
theorem dJ11_hashCode_6 : decode cJ11_hashCode 6 = .ok (.istore 5, 2) := dk_54 5 (dk_at dksJ11_hashCode_0 6 rfl rfl)
theorem dJ11_hashCode_8 : decode cJ11_hashCode 8 = .ok (.iload 5, 2) := dk_21 5 (dk_at dksJ11_hashCode_0 8 rfl rfl)
theorem dJ11_hashCode_10 : decode cJ11_hashCode 10 = .ok (.iload 4, 2) := dk_21 4 (dk_at dksJ11_hashCode_0 10 rfl rfl)
theorem dJ11_hashCode_12 : decode cJ11_hashCode 12 = .ok (.if_icmp .ge 19, 3) := dk_162 0 19 (dk_at dksJ11_hashCode_0 12 rfl rfl)
theorem dJ11_hashCode_15 : decode cJ11_hashCode 15 = .ok (.bipush 31, 2) := dk_16 31 (dk_at dksJ11_hashCode_0 15 rfl rfl)
theorem dJ11_hashCode_17 : decode cJ11_hashCode 17 = .ok (.iload_n 0, 1) := dk_26 (dk_at dksJ11_hashCode_0 17 rfl rfl)
theorem dJ11_hashCode_18 : decode cJ11_hashCode 18 = .ok (.imul, 1) := dk_104 (dk_at dksJ11_hashCode_0 18 rfl rfl)
theorem dJ11_hashCode_19 : decode cJ11_hashCode 19 = .ok (.aload_n 1, 1) := dk_43 (dk_at dksJ11_hashCode_0 19 rfl rfl)
theorem dJ11_hashCode_20 : decode cJ11_hashCode 20 = .ok (.iload 5, 2) := dk_21 5 (dk_at dksJ11_hashCode_0 20 rfl rfl)
theorem dJ11_hashCode_22 : decode cJ11_hashCode 22 = .ok (.caload, 1) := dk_52 (dk_at dksJ11_hashCode_0 22 rfl rfl)
theorem dJ11_hashCode_23 : decode cJ11_hashCode 23 = .ok (.iadd, 1) := dk_96 (dk_at dksJ11_hashCode_0 23 rfl rfl)
theorem dJ11_hashCode_24 : decode cJ11_hashCode 24 = .ok (.istore_n 0, 1) := dk_59 (dk_at dksJ11_hashCode_1 0 rfl rfl)
theorem dJ11_hashCode_25 : decode cJ11_hashCode 25 = .ok (.iinc 5 1, 3) := dk_132 5 1 (dk_at dksJ11_hashCode_1 1 rfl rfl)
theorem dJ11_hashCode_28 : decode cJ11_hashCode 28 = .ok (.goto (-20), 3) := dk_167 255 236 (dk_at dksJ11_hashCode_1 4 rfl rfl)
theorem dJ11_hashCode_31 : decode cJ11_hashCode 31 = .ok (.iload_n 0, 1) := dk_26 (dk_at dksJ11_hashCode_1 7 rfl rfl)
theorem dJ11_hashCode_32 : decode cJ11_hashCode 32 = .ok (.ireturn, 1) := dk_172 (dk_at dksJ11_hashCode_1 8 rfl rfl)
abbrev cJ11_hashCode_2 : ByteArray := prog_82_method_6_code
def yJ11_hashCode_2 : MethodName := ⟨RJ11, "hashCode", "(I[BII)I"⟩
def dkwJ11_hashCode_2_1 : List UInt8 := [59, 132, 5, 1, 167, 255, 236, 26, 172]
abbrev dktJ11_hashCode_2_1 : List UInt8 := dkwJ11_hashCode_2_1 ++ []
def dkwJ11_hashCode_2_0 : List UInt8 := [28, 29, 96, 54, 4, 28, 54, 5, 21, 5, 21, 4, 162, 0, 19, 16, 31, 26, 104, 43, 21, 5, 51, 96]
abbrev dktJ11_hashCode_2_0 : List UInt8 := dkwJ11_hashCode_2_0 ++ dktJ11_hashCode_2_1
theorem dksJ11_hashCode_2_0 : cJ11_hashCode_2.data.toList.drop 0 = dktJ11_hashCode_2_0 := by decide +kernel
theorem dksJ11_hashCode_2_1 : cJ11_hashCode_2.data.toList.drop 24 = dktJ11_hashCode_2_1 := dk_seg dksJ11_hashCode_2_0 24 rfl rfl
theorem dJ11_hashCode_2_0 : decode cJ11_hashCode_2 0 = .ok (.iload_n 2, 1) := dk_28 (dk_at dksJ11_hashCode_2_0 0 rfl rfl)
theorem dJ11_hashCode_2_1 : decode cJ11_hashCode_2 1 = .ok (.iload_n 3, 1) := dk_29 (dk_at dksJ11_hashCode_2_0 1 rfl rfl)
theorem dJ11_hashCode_2_2 : decode cJ11_hashCode_2 2 = .ok (.iadd, 1) := dk_96 (dk_at dksJ11_hashCode_2_0 2 rfl rfl)
theorem dJ11_hashCode_2_3 : decode cJ11_hashCode_2 3 = .ok (.istore 4, 2) := dk_54 4 (dk_at dksJ11_hashCode_2_0 3 rfl rfl)
theorem dJ11_hashCode_2_5 : decode cJ11_hashCode_2 5 = .ok (.iload_n 2, 1) := dk_28 (dk_at dksJ11_hashCode_2_0 5 rfl rfl)
theorem dJ11_hashCode_2_6 : decode cJ11_hashCode_2 6 = .ok (.istore 5, 2) := dk_54 5 (dk_at dksJ11_hashCode_2_0 6 rfl rfl)
theorem dJ11_hashCode_2_8 : decode cJ11_hashCode_2 8 = .ok (.iload 5, 2) := dk_21 5 (dk_at dksJ11_hashCode_2_0 8 rfl rfl)
theorem dJ11_hashCode_2_10 : decode cJ11_hashCode_2 10 = .ok (.iload 4, 2) := dk_21 4 (dk_at dksJ11_hashCode_2_0 10 rfl rfl)
theorem dJ11_hashCode_2_12 : decode cJ11_hashCode_2 12 = .ok (.if_icmp .ge 19, 3) := dk_162 0 19 (dk_at dksJ11_hashCode_2_0 12 rfl rfl)
theorem dJ11_hashCode_2_15 : decode cJ11_hashCode_2 15 = .ok (.bipush 31, 2) := dk_16 31 (dk_at dksJ11_hashCode_2_0 15 rfl rfl)
theorem dJ11_hashCode_2_17 : decode cJ11_hashCode_2 17 = .ok (.iload_n 0, 1) := dk_26 (dk_at dksJ11_hashCode_2_0 17 rfl rfl)
theorem dJ11_hashCode_2_18 : decode cJ11_hashCode_2 18 = .ok (.imul, 1) := dk_104 (dk_at dksJ11_hashCode_2_0 18 rfl rfl)
theorem dJ11_hashCode_2_19 : decode cJ11_hashCode_2 19 = .ok (.aload_n 1, 1) := dk_43 (dk_at dksJ11_hashCode_2_0 19 rfl rfl)
theorem dJ11_hashCode_2_20 : decode cJ11_hashCode_2 20 = .ok (.iload 5, 2) := dk_21 5 (dk_at dksJ11_hashCode_2_0 20 rfl rfl)
theorem dJ11_hashCode_2_22 : decode cJ11_hashCode_2 22 = .ok (.baload, 1) := dk_51 (dk_at dksJ11_hashCode_2_0 22 rfl rfl)
theorem dJ11_hashCode_2_23 : decode cJ11_hashCode_2 23 = .ok (.iadd, 1) := dk_96 (dk_at dksJ11_hashCode_2_0 23 rfl rfl)
theorem dJ11_hashCode_2_24 : decode cJ11_hashCode_2 24 = .ok (.istore_n 0, 1) := dk_59 (dk_at dksJ11_hashCode_2_1 0 rfl rfl)
theorem dJ11_hashCode_2_25 : decode cJ11_hashCode_2 25 = .ok (.iinc 5 1, 3) := dk_132 5 1 (dk_at dksJ11_hashCode_2_1 1 rfl rfl)
theorem dJ11_hashCode_2_28 : decode cJ11_hashCode_2 28 = .ok (.goto (-20), 3) := dk_167 255 236 (dk_at dksJ11_hashCode_2_1 4 rfl rfl)
theorem dJ11_hashCode_2_31 : decode cJ11_hashCode_2 31 = .ok (.iload_n 0, 1) := dk_26 (dk_at dksJ11_hashCode_2_1 7 rfl rfl)
theorem dJ11_hashCode_2_32 : decode cJ11_hashCode_2 32 = .ok (.ireturn, 1) := dk_172 (dk_at dksJ11_hashCode_2_1 8 rfl rfl)
abbrev cJ11_hashCode_3 : ByteArray := prog_82_method_8_code
def yJ11_hashCode_3 : MethodName := ⟨RJ11, "hashCode", "(I[SII)I"⟩
def dkwJ11_hashCode_3_1 : List UInt8 := [59, 132, 5, 1, 167, 255, 236, 26, 172]
abbrev dktJ11_hashCode_3_1 : List UInt8 := dkwJ11_hashCode_3_1 ++ []
def dkwJ11_hashCode_3_0 : List UInt8 := [28, 29, 96, 54, 4, 28, 54, 5, 21, 5, 21, 4, 162, 0, 19, 16, 31, 26, 104, 43, 21, 5, 53, 96]
abbrev dktJ11_hashCode_3_0 : List UInt8 := dkwJ11_hashCode_3_0 ++ dktJ11_hashCode_3_1
theorem dksJ11_hashCode_3_0 : cJ11_hashCode_3.data.toList.drop 0 = dktJ11_hashCode_3_0 := by decide +kernel
theorem dksJ11_hashCode_3_1 : cJ11_hashCode_3.data.toList.drop 24 = dktJ11_hashCode_3_1 := dk_seg dksJ11_hashCode_3_0 24 rfl rfl
theorem dJ11_hashCode_3_0 : decode cJ11_hashCode_3 0 = .ok (.iload_n 2, 1) := dk_28 (dk_at dksJ11_hashCode_3_0 0 rfl rfl)
theorem dJ11_hashCode_3_1 : decode cJ11_hashCode_3 1 = .ok (.iload_n 3, 1) := dk_29 (dk_at dksJ11_hashCode_3_0 1 rfl rfl)
theorem dJ11_hashCode_3_2 : decode cJ11_hashCode_3 2 = .ok (.iadd, 1) := dk_96 (dk_at dksJ11_hashCode_3_0 2 rfl rfl)
theorem dJ11_hashCode_3_3 : decode cJ11_hashCode_3 3 = .ok (.istore 4, 2) := dk_54 4 (dk_at dksJ11_hashCode_3_0 3 rfl rfl)
theorem dJ11_hashCode_3_5 : decode cJ11_hashCode_3 5 = .ok (.iload_n 2, 1) := dk_28 (dk_at dksJ11_hashCode_3_0 5 rfl rfl)
theorem dJ11_hashCode_3_6 : decode cJ11_hashCode_3 6 = .ok (.istore 5, 2) := dk_54 5 (dk_at dksJ11_hashCode_3_0 6 rfl rfl)
theorem dJ11_hashCode_3_8 : decode cJ11_hashCode_3 8 = .ok (.iload 5, 2) := dk_21 5 (dk_at dksJ11_hashCode_3_0 8 rfl rfl)
theorem dJ11_hashCode_3_10 : decode cJ11_hashCode_3 10 = .ok (.iload 4, 2) := dk_21 4 (dk_at dksJ11_hashCode_3_0 10 rfl rfl)
theorem dJ11_hashCode_3_12 : decode cJ11_hashCode_3 12 = .ok (.if_icmp .ge 19, 3) := dk_162 0 19 (dk_at dksJ11_hashCode_3_0 12 rfl rfl)
theorem dJ11_hashCode_3_15 : decode cJ11_hashCode_3 15 = .ok (.bipush 31, 2) := dk_16 31 (dk_at dksJ11_hashCode_3_0 15 rfl rfl)
theorem dJ11_hashCode_3_17 : decode cJ11_hashCode_3 17 = .ok (.iload_n 0, 1) := dk_26 (dk_at dksJ11_hashCode_3_0 17 rfl rfl)
theorem dJ11_hashCode_3_18 : decode cJ11_hashCode_3 18 = .ok (.imul, 1) := dk_104 (dk_at dksJ11_hashCode_3_0 18 rfl rfl)
theorem dJ11_hashCode_3_19 : decode cJ11_hashCode_3 19 = .ok (.aload_n 1, 1) := dk_43 (dk_at dksJ11_hashCode_3_0 19 rfl rfl)
theorem dJ11_hashCode_3_20 : decode cJ11_hashCode_3 20 = .ok (.iload 5, 2) := dk_21 5 (dk_at dksJ11_hashCode_3_0 20 rfl rfl)
theorem dJ11_hashCode_3_22 : decode cJ11_hashCode_3 22 = .ok (.saload, 1) := dk_53 (dk_at dksJ11_hashCode_3_0 22 rfl rfl)
theorem dJ11_hashCode_3_23 : decode cJ11_hashCode_3 23 = .ok (.iadd, 1) := dk_96 (dk_at dksJ11_hashCode_3_0 23 rfl rfl)
theorem dJ11_hashCode_3_24 : decode cJ11_hashCode_3 24 = .ok (.istore_n 0, 1) := dk_59 (dk_at dksJ11_hashCode_3_1 0 rfl rfl)
theorem dJ11_hashCode_3_25 : decode cJ11_hashCode_3 25 = .ok (.iinc 5 1, 3) := dk_132 5 1 (dk_at dksJ11_hashCode_3_1 1 rfl rfl)
theorem dJ11_hashCode_3_28 : decode cJ11_hashCode_3 28 = .ok (.goto (-20), 3) := dk_167 255 236 (dk_at dksJ11_hashCode_3_1 4 rfl rfl)
theorem dJ11_hashCode_3_31 : decode cJ11_hashCode_3 31 = .ok (.iload_n 0, 1) := dk_26 (dk_at dksJ11_hashCode_3_1 7 rfl rfl)
theorem dJ11_hashCode_3_32 : decode cJ11_hashCode_3 32 = .ok (.ireturn, 1) := dk_172 (dk_at dksJ11_hashCode_3_1 8 rfl rfl)
abbrev cJ11_hashCode_4 : ByteArray := prog_82_method_9_code
def yJ11_hashCode_4 : MethodName := ⟨RJ11, "hashCode", "(I[III)I"⟩
def dkwJ11_hashCode_4_1 : List UInt8 := [59, 132, 5, 1, 167, 255, 236, 26, 172]
abbrev dktJ11_hashCode_4_1 : List UInt8 := dkwJ11_hashCode_4_1 ++ []
def dkwJ11_hashCode_4_0 : List UInt8 := [28, 29, 96, 54, 4, 28, 54, 5, 21, 5, 21, 4, 162, 0, 19, 16, 31, 26, 104, 43, 21, 5, 46, 96]
abbrev dktJ11_hashCode_4_0 : List UInt8 := dkwJ11_hashCode_4_0 ++ dktJ11_hashCode_4_1
theorem dksJ11_hashCode_4_0 : cJ11_hashCode_4.data.toList.drop 0 = dktJ11_hashCode_4_0 := by decide +kernel
theorem dksJ11_hashCode_4_1 : cJ11_hashCode_4.data.toList.drop 24 = dktJ11_hashCode_4_1 := dk_seg dksJ11_hashCode_4_0 24 rfl rfl
theorem dJ11_hashCode_4_0 : decode cJ11_hashCode_4 0 = .ok (.iload_n 2, 1) := dk_28 (dk_at dksJ11_hashCode_4_0 0 rfl rfl)
theorem dJ11_hashCode_4_1 : decode cJ11_hashCode_4 1 = .ok (.iload_n 3, 1) := dk_29 (dk_at dksJ11_hashCode_4_0 1 rfl rfl)
theorem dJ11_hashCode_4_2 : decode cJ11_hashCode_4 2 = .ok (.iadd, 1) := dk_96 (dk_at dksJ11_hashCode_4_0 2 rfl rfl)
theorem dJ11_hashCode_4_3 : decode cJ11_hashCode_4 3 = .ok (.istore 4, 2) := dk_54 4 (dk_at dksJ11_hashCode_4_0 3 rfl rfl)
theorem dJ11_hashCode_4_5 : decode cJ11_hashCode_4 5 = .ok (.iload_n 2, 1) := dk_28 (dk_at dksJ11_hashCode_4_0 5 rfl rfl)
theorem dJ11_hashCode_4_6 : decode cJ11_hashCode_4 6 = .ok (.istore 5, 2) := dk_54 5 (dk_at dksJ11_hashCode_4_0 6 rfl rfl)
theorem dJ11_hashCode_4_8 : decode cJ11_hashCode_4 8 = .ok (.iload 5, 2) := dk_21 5 (dk_at dksJ11_hashCode_4_0 8 rfl rfl)
theorem dJ11_hashCode_4_10 : decode cJ11_hashCode_4 10 = .ok (.iload 4, 2) := dk_21 4 (dk_at dksJ11_hashCode_4_0 10 rfl rfl)
theorem dJ11_hashCode_4_12 : decode cJ11_hashCode_4 12 = .ok (.if_icmp .ge 19, 3) := dk_162 0 19 (dk_at dksJ11_hashCode_4_0 12 rfl rfl)
theorem dJ11_hashCode_4_15 : decode cJ11_hashCode_4 15 = .ok (.bipush 31, 2) := dk_16 31 (dk_at dksJ11_hashCode_4_0 15 rfl rfl)
theorem dJ11_hashCode_4_17 : decode cJ11_hashCode_4 17 = .ok (.iload_n 0, 1) := dk_26 (dk_at dksJ11_hashCode_4_0 17 rfl rfl)
theorem dJ11_hashCode_4_18 : decode cJ11_hashCode_4 18 = .ok (.imul, 1) := dk_104 (dk_at dksJ11_hashCode_4_0 18 rfl rfl)
theorem dJ11_hashCode_4_19 : decode cJ11_hashCode_4 19 = .ok (.aload_n 1, 1) := dk_43 (dk_at dksJ11_hashCode_4_0 19 rfl rfl)
theorem dJ11_hashCode_4_20 : decode cJ11_hashCode_4 20 = .ok (.iload 5, 2) := dk_21 5 (dk_at dksJ11_hashCode_4_0 20 rfl rfl)
theorem dJ11_hashCode_4_22 : decode cJ11_hashCode_4 22 = .ok (.iaload, 1) := dk_46 (dk_at dksJ11_hashCode_4_0 22 rfl rfl)
theorem dJ11_hashCode_4_23 : decode cJ11_hashCode_4 23 = .ok (.iadd, 1) := dk_96 (dk_at dksJ11_hashCode_4_0 23 rfl rfl)
theorem dJ11_hashCode_4_24 : decode cJ11_hashCode_4 24 = .ok (.istore_n 0, 1) := dk_59 (dk_at dksJ11_hashCode_4_1 0 rfl rfl)
theorem dJ11_hashCode_4_25 : decode cJ11_hashCode_4 25 = .ok (.iinc 5 1, 3) := dk_132 5 1 (dk_at dksJ11_hashCode_4_1 1 rfl rfl)
theorem dJ11_hashCode_4_28 : decode cJ11_hashCode_4 28 = .ok (.goto (-20), 3) := dk_167 255 236 (dk_at dksJ11_hashCode_4_1 4 rfl rfl)
theorem dJ11_hashCode_4_31 : decode cJ11_hashCode_4 31 = .ok (.iload_n 0, 1) := dk_26 (dk_at dksJ11_hashCode_4_1 7 rfl rfl)
theorem dJ11_hashCode_4_32 : decode cJ11_hashCode_4 32 = .ok (.ireturn, 1) := dk_172 (dk_at dksJ11_hashCode_4_1 8 rfl rfl)
abbrev cJ11_mismatch : ByteArray := prog_82_method_13_code
def yJ11_mismatch : MethodName := ⟨RJ11, "mismatch", "([B[BI)I"⟩
def dkwJ11_mismatch_3 : List UInt8 := [172]
abbrev dktJ11_mismatch_3 : List UInt8 := dkwJ11_mismatch_3 ++ []
def dkwJ11_mismatch_2 : List UInt8 := [62, 29, 28, 162, 0, 20, 42, 29, 51, 43, 29, 51, 159, 0, 5, 29, 172, 132, 3, 1, 167, 255, 237, 2]
abbrev dktJ11_mismatch_2 : List UInt8 := dkwJ11_mismatch_2 ++ dktJ11_mismatch_3
def dkwJ11_mismatch_1 : List UInt8 := [43, 178, 0, 126, 133, 28, 178, 0, 129, 184, 0, 122, 62, 29, 155, 0, 5, 29, 172, 28, 29, 2, 130, 100]
abbrev dktJ11_mismatch_1 : List UInt8 := dkwJ11_mismatch_1 ++ dktJ11_mismatch_2
def dkwJ11_mismatch_0 : List UInt8 := [3, 62, 28, 16, 7, 164, 0, 44, 42, 3, 51, 43, 3, 51, 159, 0, 5, 3, 172, 42, 178, 0, 126, 133]
abbrev dktJ11_mismatch_0 : List UInt8 := dkwJ11_mismatch_0 ++ dktJ11_mismatch_1
theorem dksJ11_mismatch_0 : cJ11_mismatch.data.toList.drop 0 = dktJ11_mismatch_0 := by decide +kernel
theorem dksJ11_mismatch_1 : cJ11_mismatch.data.toList.drop 24 = dktJ11_mismatch_1 := dk_seg dksJ11_mismatch_0 24 rfl rfl
theorem dksJ11_mismatch_2 : cJ11_mismatch.data.toList.drop 48 = dktJ11_mismatch_2 := dk_seg dksJ11_mismatch_1 24 rfl rfl
theorem dksJ11_mismatch_3 : cJ11_mismatch.data.toList.drop 72 = dktJ11_mismatch_3 := dk_seg dksJ11_mismatch_2 24 rfl rfl
theorem dJ11_mismatch_0 : decode cJ11_mismatch 0 = .ok (.iconst 0, 1) := dk_3 (dk_at dksJ11_mismatch_0 0 rfl rfl)
theorem dJ11_mismatch_1 : decode cJ11_mismatch 1 = .ok (.istore_n 3, 1) := dk_62 (dk_at dksJ11_mismatch_0 1 rfl rfl)
theorem dJ11_mismatch_2 : decode cJ11_mismatch 2 = .ok (.iload_n 2, 1) := dk_28 (dk_at dksJ11_mismatch_0 2 rfl rfl)
theorem dJ11_mismatch_3 : decode cJ11_mismatch 3 = .ok (.bipush 7, 2) := dk_16 7 (dk_at dksJ11_mismatch_0 3 rfl rfl)
theorem dJ11_mismatch_5 : decode cJ11_mismatch 5 = .ok (.if_icmp .le 44, 3) := dk_164 0 44 (dk_at dksJ11_mismatch_0 5 rfl rfl)
theorem dJ11_mismatch_8 : decode cJ11_mismatch 8 = .ok (.aload_n 0, 1) := dk_42 (dk_at dksJ11_mismatch_0 8 rfl rfl)
theorem dJ11_mismatch_9 : decode cJ11_mismatch 9 = .ok (.iconst 0, 1) := dk_3 (dk_at dksJ11_mismatch_0 9 rfl rfl)
theorem dJ11_mismatch_10 : decode cJ11_mismatch 10 = .ok (.baload, 1) := dk_51 (dk_at dksJ11_mismatch_0 10 rfl rfl)
theorem dJ11_mismatch_11 : decode cJ11_mismatch 11 = .ok (.aload_n 1, 1) := dk_43 (dk_at dksJ11_mismatch_0 11 rfl rfl)
theorem dJ11_mismatch_12 : decode cJ11_mismatch 12 = .ok (.iconst 0, 1) := dk_3 (dk_at dksJ11_mismatch_0 12 rfl rfl)
theorem dJ11_mismatch_13 : decode cJ11_mismatch 13 = .ok (.baload, 1) := dk_51 (dk_at dksJ11_mismatch_0 13 rfl rfl)
theorem dJ11_mismatch_14 : decode cJ11_mismatch 14 = .ok (.if_icmp .eq 5, 3) := dk_159 0 5 (dk_at dksJ11_mismatch_0 14 rfl rfl)
theorem dJ11_mismatch_17 : decode cJ11_mismatch 17 = .ok (.iconst 0, 1) := dk_3 (dk_at dksJ11_mismatch_0 17 rfl rfl)
theorem dJ11_mismatch_18 : decode cJ11_mismatch 18 = .ok (.ireturn, 1) := dk_172 (dk_at dksJ11_mismatch_0 18 rfl rfl)
theorem dJ11_mismatch_19 : decode cJ11_mismatch 19 = .ok (.aload_n 0, 1) := dk_42 (dk_at dksJ11_mismatch_0 19 rfl rfl)
theorem dJ11_mismatch_20 : decode cJ11_mismatch 20 = .ok (.getstatic 126, 3) := dk_178 0 126 (dk_at dksJ11_mismatch_0 20 rfl rfl)
theorem dJ11_mismatch_23 : decode cJ11_mismatch 23 = .ok (.i2l, 1) := dk_133 (dk_at dksJ11_mismatch_0 23 rfl rfl)
theorem dJ11_mismatch_24 : decode cJ11_mismatch 24 = .ok (.aload_n 1, 1) := dk_43 (dk_at dksJ11_mismatch_1 0 rfl rfl)
theorem dJ11_mismatch_25 : decode cJ11_mismatch 25 = .ok (.getstatic 126, 3) := dk_178 0 126 (dk_at dksJ11_mismatch_1 1 rfl rfl)
theorem dJ11_mismatch_28 : decode cJ11_mismatch 28 = .ok (.i2l, 1) := dk_133 (dk_at dksJ11_mismatch_1 4 rfl rfl)
theorem dJ11_mismatch_29 : decode cJ11_mismatch 29 = .ok (.iload_n 2, 1) := dk_28 (dk_at dksJ11_mismatch_1 5 rfl rfl)
theorem dJ11_mismatch_30 : decode cJ11_mismatch 30 = .ok (.getstatic 129, 3) := dk_178 0 129 (dk_at dksJ11_mismatch_1 6 rfl rfl)
theorem dJ11_mismatch_33 : decode cJ11_mismatch 33 = .ok (.invokestatic 122, 3) := dk_184 0 122 (dk_at dksJ11_mismatch_1 9 rfl rfl)
theorem dJ11_mismatch_36 : decode cJ11_mismatch 36 = .ok (.istore_n 3, 1) := dk_62 (dk_at dksJ11_mismatch_1 12 rfl rfl)
theorem dJ11_mismatch_37 : decode cJ11_mismatch 37 = .ok (.iload_n 3, 1) := dk_29 (dk_at dksJ11_mismatch_1 13 rfl rfl)
theorem dJ11_mismatch_38 : decode cJ11_mismatch 38 = .ok (.ifCond .lt 5, 3) := dk_155 0 5 (dk_at dksJ11_mismatch_1 14 rfl rfl)
theorem dJ11_mismatch_41 : decode cJ11_mismatch 41 = .ok (.iload_n 3, 1) := dk_29 (dk_at dksJ11_mismatch_1 17 rfl rfl)
theorem dJ11_mismatch_42 : decode cJ11_mismatch 42 = .ok (.ireturn, 1) := dk_172 (dk_at dksJ11_mismatch_1 18 rfl rfl)
theorem dJ11_mismatch_43 : decode cJ11_mismatch 43 = .ok (.iload_n 2, 1) := dk_28 (dk_at dksJ11_mismatch_1 19 rfl rfl)
theorem dJ11_mismatch_44 : decode cJ11_mismatch 44 = .ok (.iload_n 3, 1) := dk_29 (dk_at dksJ11_mismatch_1 20 rfl rfl)
theorem dJ11_mismatch_45 : decode cJ11_mismatch 45 = .ok (.iconst (-1), 1) := dk_2 (dk_at dksJ11_mismatch_1 21 rfl rfl)
theorem dJ11_mismatch_46 : decode cJ11_mismatch 46 = .ok (.ixor, 1) := dk_130 (dk_at dksJ11_mismatch_1 22 rfl rfl)
theorem dJ11_mismatch_47 : decode cJ11_mismatch 47 = .ok (.isub, 1) := dk_100 (dk_at dksJ11_mismatch_1 23 rfl rfl)
theorem dJ11_mismatch_48 : decode cJ11_mismatch 48 = .ok (.istore_n 3, 1) := dk_62 (dk_at dksJ11_mismatch_2 0 rfl rfl)
theorem dJ11_mismatch_49 : decode cJ11_mismatch 49 = .ok (.iload_n 3, 1) := dk_29 (dk_at dksJ11_mismatch_2 1 rfl rfl)
theorem dJ11_mismatch_50 : decode cJ11_mismatch 50 = .ok (.iload_n 2, 1) := dk_28 (dk_at dksJ11_mismatch_2 2 rfl rfl)
theorem dJ11_mismatch_51 : decode cJ11_mismatch 51 = .ok (.if_icmp .ge 20, 3) := dk_162 0 20 (dk_at dksJ11_mismatch_2 3 rfl rfl)
theorem dJ11_mismatch_54 : decode cJ11_mismatch 54 = .ok (.aload_n 0, 1) := dk_42 (dk_at dksJ11_mismatch_2 6 rfl rfl)
theorem dJ11_mismatch_55 : decode cJ11_mismatch 55 = .ok (.iload_n 3, 1) := dk_29 (dk_at dksJ11_mismatch_2 7 rfl rfl)
theorem dJ11_mismatch_56 : decode cJ11_mismatch 56 = .ok (.baload, 1) := dk_51 (dk_at dksJ11_mismatch_2 8 rfl rfl)
theorem dJ11_mismatch_57 : decode cJ11_mismatch 57 = .ok (.aload_n 1, 1) := dk_43 (dk_at dksJ11_mismatch_2 9 rfl rfl)
theorem dJ11_mismatch_58 : decode cJ11_mismatch 58 = .ok (.iload_n 3, 1) := dk_29 (dk_at dksJ11_mismatch_2 10 rfl rfl)
theorem dJ11_mismatch_59 : decode cJ11_mismatch 59 = .ok (.baload, 1) := dk_51 (dk_at dksJ11_mismatch_2 11 rfl rfl)
theorem dJ11_mismatch_60 : decode cJ11_mismatch 60 = .ok (.if_icmp .eq 5, 3) := dk_159 0 5 (dk_at dksJ11_mismatch_2 12 rfl rfl)
theorem dJ11_mismatch_63 : decode cJ11_mismatch 63 = .ok (.iload_n 3, 1) := dk_29 (dk_at dksJ11_mismatch_2 15 rfl rfl)
theorem dJ11_mismatch_64 : decode cJ11_mismatch 64 = .ok (.ireturn, 1) := dk_172 (dk_at dksJ11_mismatch_2 16 rfl rfl)
theorem dJ11_mismatch_65 : decode cJ11_mismatch 65 = .ok (.iinc 3 1, 3) := dk_132 3 1 (dk_at dksJ11_mismatch_2 17 rfl rfl)
theorem dJ11_mismatch_68 : decode cJ11_mismatch 68 = .ok (.goto (-19), 3) := dk_167 255 237 (dk_at dksJ11_mismatch_2 20 rfl rfl)
theorem dJ11_mismatch_71 : decode cJ11_mismatch 71 = .ok (.iconst (-1), 1) := dk_2 (dk_at dksJ11_mismatch_2 23 rfl rfl)
theorem dJ11_mismatch_72 : decode cJ11_mismatch 72 = .ok (.ireturn, 1) := dk_172 (dk_at dksJ11_mismatch_3 0 rfl rfl)
abbrev cJ11_vectorizedMismatch : ByteArray := prog_82_method_3_code
def yJ11_vectorizedMismatch : MethodName := ⟨RJ11, "vectorizedMismatch", "(Ljava/lang/Object;JLjava/lang/Object;JII)I"⟩
def dkwJ11_vectorizedMismatch_11 : List UInt8 := [54, 10, 21, 10, 2, 130, 172, 21, 10, 2, 130, 172]
abbrev dktJ11_vectorizedMismatch_11 : List UInt8 := dkwJ11_vectorizedMismatch_11 ++ []
def dkwJ11_vectorizedMismatch_10 : List UInt8 := [178, 0, 46, 21, 7, 96, 122, 54, 17, 21, 9, 21, 8, 120, 21, 17, 96, 172, 21, 10, 21, 11, 100]
abbrev dktJ11_vectorizedMismatch_10 : List UInt8 := dkwJ11_vectorizedMismatch_10 ++ dktJ11_vectorizedMismatch_11
def dkwJ11_vectorizedMismatch_9 : List UInt8 := [153, 0, 18, 21, 16, 184, 0, 58, 178, 0, 46, 21, 7, 96, 122, 167, 0, 15, 21, 16, 184, 0, 11]
abbrev dktJ11_vectorizedMismatch_9 : List UInt8 := dkwJ11_vectorizedMismatch_9 ++ dktJ11_vectorizedMismatch_10
def dkwJ11_vectorizedMismatch_8 : List UInt8 := [182, 0, 54, 54, 15, 21, 14, 21, 15, 159, 0, 54, 21, 14, 21, 15, 130, 54, 16, 178, 0, 36]
abbrev dktJ11_vectorizedMismatch_8 : List UInt8 := dkwJ11_vectorizedMismatch_8 ++ dktJ11_vectorizedMismatch_9
def dkwJ11_vectorizedMismatch_7 : List UInt8 := [55, 12, 178, 0, 26, 42, 31, 22, 12, 97, 182, 0, 54, 54, 14, 178, 0, 26, 45, 22, 4, 22, 12, 97]
abbrev dktJ11_vectorizedMismatch_7 : List UInt8 := dkwJ11_vectorizedMismatch_7 ++ dktJ11_vectorizedMismatch_8
def dkwJ11_vectorizedMismatch_6 : List UInt8 := [4, 178, 0, 51, 21, 7, 100, 120, 54, 11, 21, 10, 21, 11, 161, 0, 104, 21, 9, 133, 178, 0, 20, 121]
abbrev dktJ11_vectorizedMismatch_6 : List UInt8 := dkwJ11_vectorizedMismatch_6 ++ dktJ11_vectorizedMismatch_7
def dkwJ11_vectorizedMismatch_5 : List UInt8 := [132, 9, 1, 167, 255, 148, 21, 6, 21, 9, 21, 8, 120, 100, 54, 10, 21, 7, 178, 0, 51, 162, 0, 126]
abbrev dktJ11_vectorizedMismatch_5 : List UInt8 := dkwJ11_vectorizedMismatch_5 ++ dktJ11_vectorizedMismatch_6
def dkwJ11_vectorizedMismatch_4 : List UInt8 := [22, 16, 184, 0, 49, 178, 0, 46, 21, 7, 96, 122, 54, 18, 21, 9, 21, 8, 120, 21, 18, 96, 172]
abbrev dktJ11_vectorizedMismatch_4 : List UInt8 := dkwJ11_vectorizedMismatch_4 ++ dktJ11_vectorizedMismatch_5
def dkwJ11_vectorizedMismatch_3 : List UInt8 := [55, 16, 178, 0, 36, 153, 0, 18, 22, 16, 184, 0, 40, 178, 0, 46, 21, 7, 96, 122, 167, 0, 15]
abbrev dktJ11_vectorizedMismatch_3 : List UInt8 := dkwJ11_vectorizedMismatch_3 ++ dktJ11_vectorizedMismatch_4
def dkwJ11_vectorizedMismatch_2 : List UInt8 := [22, 4, 22, 10, 97, 182, 0, 30, 55, 14, 22, 12, 22, 14, 148, 153, 0, 54, 22, 12, 22, 14, 131]
abbrev dktJ11_vectorizedMismatch_2 : List UInt8 := dkwJ11_vectorizedMismatch_2 ++ dktJ11_vectorizedMismatch_3
def dkwJ11_vectorizedMismatch_1 : List UInt8 := [178, 0, 20, 121, 55, 10, 178, 0, 26, 42, 31, 22, 10, 97, 182, 0, 30, 55, 12, 178, 0, 26, 45]
abbrev dktJ11_vectorizedMismatch_1 : List UInt8 := dkwJ11_vectorizedMismatch_1 ++ dktJ11_vectorizedMismatch_2
def dkwJ11_vectorizedMismatch_0 : List UInt8 := [178, 0, 20, 21, 7, 100, 54, 8, 3, 54, 9, 21, 9, 21, 6, 21, 8, 122, 162, 0, 104, 21, 9, 133]
abbrev dktJ11_vectorizedMismatch_0 : List UInt8 := dkwJ11_vectorizedMismatch_0 ++ dktJ11_vectorizedMismatch_1
theorem dksJ11_vectorizedMismatch_0 : cJ11_vectorizedMismatch.data.toList.drop 0 = dktJ11_vectorizedMismatch_0 := by decide +kernel
theorem dksJ11_vectorizedMismatch_1 : cJ11_vectorizedMismatch.data.toList.drop 24 = dktJ11_vectorizedMismatch_1 := dk_seg dksJ11_vectorizedMismatch_0 24 rfl rfl
theorem dksJ11_vectorizedMismatch_2 : cJ11_vectorizedMismatch.data.toList.drop 47 = dktJ11_vectorizedMismatch_2 := dk_seg dksJ11_vectorizedMismatch_1 23 rfl rfl
theorem dksJ11_vectorizedMismatch_3 : cJ11_vectorizedMismatch.data.toList.drop 70 = dktJ11_vectorizedMismatch_3 := dk_seg dksJ11_vectorizedMismatch_2 23 rfl rfl
theorem dksJ11_vectorizedMismatch_4 : cJ11_vectorizedMismatch.data.toList.drop 93 = dktJ11_vectorizedMismatch_4 := dk_seg dksJ11_vectorizedMismatch_3 23 rfl rfl
theorem dksJ11_vectorizedMismatch_5 : cJ11_vectorizedMismatch.data.toList.drop 116 = dktJ11_vectorizedMismatch_5 := dk_seg dksJ11_vectorizedMismatch_4 23 rfl rfl
theorem dksJ11_vectorizedMismatch_6 : cJ11_vectorizedMismatch.data.toList.drop 140 = dktJ11_vectorizedMismatch_6 := dk_seg dksJ11_vectorizedMismatch_5 24 rfl rfl
theorem dksJ11_vectorizedMismatch_7 : cJ11_vectorizedMismatch.data.toList.drop 164 = dktJ11_vectorizedMismatch_7 := dk_seg dksJ11_vectorizedMismatch_6 24 rfl rfl
theorem dksJ11_vectorizedMismatch_8 : cJ11_vectorizedMismatch.data.toList.drop 188 = dktJ11_vectorizedMismatch_8 := dk_seg dksJ11_vectorizedMismatch_7 24 rfl rfl
theorem dksJ11_vectorizedMismatch_9 : cJ11_vectorizedMismatch.data.toList.drop 210 = dktJ11_vectorizedMismatch_9 := dk_seg dksJ11_vectorizedMismatch_8 22 rfl rfl
theorem dksJ11_vectorizedMismatch_10 : cJ11_vectorizedMismatch.data.toList.drop 233 = dktJ11_vectorizedMismatch_10 := dk_seg dksJ11_vectorizedMismatch_9 23 rfl rfl
theorem dksJ11_vectorizedMismatch_11 : cJ11_vectorizedMismatch.data.toList.drop 256 = dktJ11_vectorizedMismatch_11 := dk_seg dksJ11_vectorizedMismatch_10 23 rfl rfl
theorem dJ11_vectorizedMismatch_0 : decode cJ11_vectorizedMismatch 0 = .ok (.getstatic 20, 3) := dk_178 0 20 (dk_at dksJ11_vectorizedMismatch_0 0 rfl rfl)
theorem dJ11_vectorizedMismatch_3 : decode cJ11_vectorizedMismatch 3 = .ok (.iload 7, 2) := dk_21 7 (dk_at dksJ11_vectorizedMismatch_0 3 rfl rfl)
theorem dJ11_vectorizedMismatch_5 : decode cJ11_vectorizedMismatch 5 = .ok (.isub, 1) := dk_100 (dk_at dksJ11_vectorizedMismatch_0 5 rfl rfl)
theorem dJ11_vectorizedMismatch_6 : decode cJ11_vectorizedMismatch 6 = .ok (.istore 8, 2) := dk_54 8 (dk_at dksJ11_vectorizedMismatch_0 6 rfl rfl)
theorem dJ11_vectorizedMismatch_8 : decode cJ11_vectorizedMismatch 8 = .ok (.iconst 0, 1) := dk_3 (dk_at dksJ11_vectorizedMismatch_0 8 rfl rfl)
theorem dJ11_vectorizedMismatch_9 : decode cJ11_vectorizedMismatch 9 = .ok (.istore 9, 2) := dk_54 9 (dk_at dksJ11_vectorizedMismatch_0 9 rfl rfl)
theorem dJ11_vectorizedMismatch_11 : decode cJ11_vectorizedMismatch 11 = .ok (.iload 9, 2) := dk_21 9 (dk_at dksJ11_vectorizedMismatch_0 11 rfl rfl)
theorem dJ11_vectorizedMismatch_13 : decode cJ11_vectorizedMismatch 13 = .ok (.iload 6, 2) := dk_21 6 (dk_at dksJ11_vectorizedMismatch_0 13 rfl rfl)
theorem dJ11_vectorizedMismatch_15 : decode cJ11_vectorizedMismatch 15 = .ok (.iload 8, 2) := dk_21 8 (dk_at dksJ11_vectorizedMismatch_0 15 rfl rfl)
theorem dJ11_vectorizedMismatch_17 : decode cJ11_vectorizedMismatch 17 = .ok (.ishr, 1) := dk_122 (dk_at dksJ11_vectorizedMismatch_0 17 rfl rfl)
theorem dJ11_vectorizedMismatch_18 : decode cJ11_vectorizedMismatch 18 = .ok (.if_icmp .ge 104, 3) := dk_162 0 104 (dk_at dksJ11_vectorizedMismatch_0 18 rfl rfl)
theorem dJ11_vectorizedMismatch_21 : decode cJ11_vectorizedMismatch 21 = .ok (.iload 9, 2) := dk_21 9 (dk_at dksJ11_vectorizedMismatch_0 21 rfl rfl)
theorem dJ11_vectorizedMismatch_23 : decode cJ11_vectorizedMismatch 23 = .ok (.i2l, 1) := dk_133 (dk_at dksJ11_vectorizedMismatch_0 23 rfl rfl)
theorem dJ11_vectorizedMismatch_24 : decode cJ11_vectorizedMismatch 24 = .ok (.getstatic 20, 3) := dk_178 0 20 (dk_at dksJ11_vectorizedMismatch_1 0 rfl rfl)
theorem dJ11_vectorizedMismatch_27 : decode cJ11_vectorizedMismatch 27 = .ok (.lshl, 1) := dk_121 (dk_at dksJ11_vectorizedMismatch_1 3 rfl rfl)
theorem dJ11_vectorizedMismatch_28 : decode cJ11_vectorizedMismatch 28 = .ok (.lstore 10, 2) := dk_55 10 (dk_at dksJ11_vectorizedMismatch_1 4 rfl rfl)
theorem dJ11_vectorizedMismatch_30 : decode cJ11_vectorizedMismatch 30 = .ok (.getstatic 26, 3) := dk_178 0 26 (dk_at dksJ11_vectorizedMismatch_1 6 rfl rfl)
theorem dJ11_vectorizedMismatch_33 : decode cJ11_vectorizedMismatch 33 = .ok (.aload_n 0, 1) := dk_42 (dk_at dksJ11_vectorizedMismatch_1 9 rfl rfl)
theorem dJ11_vectorizedMismatch_34 : decode cJ11_vectorizedMismatch 34 = .ok (.lload_n 1, 1) := dk_31 (dk_at dksJ11_vectorizedMismatch_1 10 rfl rfl)
theorem dJ11_vectorizedMismatch_35 : decode cJ11_vectorizedMismatch 35 = .ok (.lload 10, 2) := dk_22 10 (dk_at dksJ11_vectorizedMismatch_1 11 rfl rfl)
theorem dJ11_vectorizedMismatch_37 : decode cJ11_vectorizedMismatch 37 = .ok (.ladd, 1) := dk_97 (dk_at dksJ11_vectorizedMismatch_1 13 rfl rfl)
theorem dJ11_vectorizedMismatch_38 : decode cJ11_vectorizedMismatch 38 = .ok (.invokevirtual 30, 3) := dk_182 0 30 (dk_at dksJ11_vectorizedMismatch_1 14 rfl rfl)
theorem dJ11_vectorizedMismatch_41 : decode cJ11_vectorizedMismatch 41 = .ok (.lstore 12, 2) := dk_55 12 (dk_at dksJ11_vectorizedMismatch_1 17 rfl rfl)
theorem dJ11_vectorizedMismatch_43 : decode cJ11_vectorizedMismatch 43 = .ok (.getstatic 26, 3) := dk_178 0 26 (dk_at dksJ11_vectorizedMismatch_1 19 rfl rfl)
theorem dJ11_vectorizedMismatch_46 : decode cJ11_vectorizedMismatch 46 = .ok (.aload_n 3, 1) := dk_45 (dk_at dksJ11_vectorizedMismatch_1 22 rfl rfl)
theorem dJ11_vectorizedMismatch_47 : decode cJ11_vectorizedMismatch 47 = .ok (.lload 4, 2) := dk_22 4 (dk_at dksJ11_vectorizedMismatch_2 0 rfl rfl)
theorem dJ11_vectorizedMismatch_49 : decode cJ11_vectorizedMismatch 49 = .ok (.lload 10, 2) := dk_22 10 (dk_at dksJ11_vectorizedMismatch_2 2 rfl rfl)
theorem dJ11_vectorizedMismatch_51 : decode cJ11_vectorizedMismatch 51 = .ok (.ladd, 1) := dk_97 (dk_at dksJ11_vectorizedMismatch_2 4 rfl rfl)
theorem dJ11_vectorizedMismatch_52 : decode cJ11_vectorizedMismatch 52 = .ok (.invokevirtual 30, 3) := dk_182 0 30 (dk_at dksJ11_vectorizedMismatch_2 5 rfl rfl)
theorem dJ11_vectorizedMismatch_55 : decode cJ11_vectorizedMismatch 55 = .ok (.lstore 14, 2) := dk_55 14 (dk_at dksJ11_vectorizedMismatch_2 8 rfl rfl)
theorem dJ11_vectorizedMismatch_57 : decode cJ11_vectorizedMismatch 57 = .ok (.lload 12, 2) := dk_22 12 (dk_at dksJ11_vectorizedMismatch_2 10 rfl rfl)
theorem dJ11_vectorizedMismatch_59 : decode cJ11_vectorizedMismatch 59 = .ok (.lload 14, 2) := dk_22 14 (dk_at dksJ11_vectorizedMismatch_2 12 rfl rfl)
theorem dJ11_vectorizedMismatch_61 : decode cJ11_vectorizedMismatch 61 = .ok (.lcmp, 1) := dk_148 (dk_at dksJ11_vectorizedMismatch_2 14 rfl rfl)
theorem dJ11_vectorizedMismatch_62 : decode cJ11_vectorizedMismatch 62 = .ok (.ifCond .eq 54, 3) := dk_153 0 54 (dk_at dksJ11_vectorizedMismatch_2 15 rfl rfl)
theorem dJ11_vectorizedMismatch_65 : decode cJ11_vectorizedMismatch 65 = .ok (.lload 12, 2) := dk_22 12 (dk_at dksJ11_vectorizedMismatch_2 18 rfl rfl)
theorem dJ11_vectorizedMismatch_67 : decode cJ11_vectorizedMismatch 67 = .ok (.lload 14, 2) := dk_22 14 (dk_at dksJ11_vectorizedMismatch_2 20 rfl rfl)
theorem dJ11_vectorizedMismatch_69 : decode cJ11_vectorizedMismatch 69 = .ok (.lxor, 1) := dk_131 (dk_at dksJ11_vectorizedMismatch_2 22 rfl rfl)
theorem dJ11_vectorizedMismatch_70 : decode cJ11_vectorizedMismatch 70 = .ok (.lstore 16, 2) := dk_55 16 (dk_at dksJ11_vectorizedMismatch_3 0 rfl rfl)
theorem dJ11_vectorizedMismatch_72 : decode cJ11_vectorizedMismatch 72 = .ok (.getstatic 36, 3) := dk_178 0 36 (dk_at dksJ11_vectorizedMismatch_3 2 rfl rfl)
theorem dJ11_vectorizedMismatch_75 : decode cJ11_vectorizedMismatch 75 = .ok (.ifCond .eq 18, 3) := dk_153 0 18 (dk_at dksJ11_vectorizedMismatch_3 5 rfl rfl)
theorem dJ11_vectorizedMismatch_78 : decode cJ11_vectorizedMismatch 78 = .ok (.lload 16, 2) := dk_22 16 (dk_at dksJ11_vectorizedMismatch_3 8 rfl rfl)
theorem dJ11_vectorizedMismatch_80 : decode cJ11_vectorizedMismatch 80 = .ok (.invokestatic 40, 3) := dk_184 0 40 (dk_at dksJ11_vectorizedMismatch_3 10 rfl rfl)
theorem dJ11_vectorizedMismatch_83 : decode cJ11_vectorizedMismatch 83 = .ok (.getstatic 46, 3) := dk_178 0 46 (dk_at dksJ11_vectorizedMismatch_3 13 rfl rfl)
theorem dJ11_vectorizedMismatch_86 : decode cJ11_vectorizedMismatch 86 = .ok (.iload 7, 2) := dk_21 7 (dk_at dksJ11_vectorizedMismatch_3 16 rfl rfl)
theorem dJ11_vectorizedMismatch_88 : decode cJ11_vectorizedMismatch 88 = .ok (.iadd, 1) := dk_96 (dk_at dksJ11_vectorizedMismatch_3 18 rfl rfl)
theorem dJ11_vectorizedMismatch_89 : decode cJ11_vectorizedMismatch 89 = .ok (.ishr, 1) := dk_122 (dk_at dksJ11_vectorizedMismatch_3 19 rfl rfl)
theorem dJ11_vectorizedMismatch_90 : decode cJ11_vectorizedMismatch 90 = .ok (.goto 15, 3) := dk_167 0 15 (dk_at dksJ11_vectorizedMismatch_3 20 rfl rfl)
theorem dJ11_vectorizedMismatch_93 : decode cJ11_vectorizedMismatch 93 = .ok (.lload 16, 2) := dk_22 16 (dk_at dksJ11_vectorizedMismatch_4 0 rfl rfl)
theorem dJ11_vectorizedMismatch_95 : decode cJ11_vectorizedMismatch 95 = .ok (.invokestatic 49, 3) := dk_184 0 49 (dk_at dksJ11_vectorizedMismatch_4 2 rfl rfl)
theorem dJ11_vectorizedMismatch_98 : decode cJ11_vectorizedMismatch 98 = .ok (.getstatic 46, 3) := dk_178 0 46 (dk_at dksJ11_vectorizedMismatch_4 5 rfl rfl)
theorem dJ11_vectorizedMismatch_101 : decode cJ11_vectorizedMismatch 101 = .ok (.iload 7, 2) := dk_21 7 (dk_at dksJ11_vectorizedMismatch_4 8 rfl rfl)
theorem dJ11_vectorizedMismatch_103 : decode cJ11_vectorizedMismatch 103 = .ok (.iadd, 1) := dk_96 (dk_at dksJ11_vectorizedMismatch_4 10 rfl rfl)
theorem dJ11_vectorizedMismatch_104 : decode cJ11_vectorizedMismatch 104 = .ok (.ishr, 1) := dk_122 (dk_at dksJ11_vectorizedMismatch_4 11 rfl rfl)
theorem dJ11_vectorizedMismatch_105 : decode cJ11_vectorizedMismatch 105 = .ok (.istore 18, 2) := dk_54 18 (dk_at dksJ11_vectorizedMismatch_4 12 rfl rfl)
theorem dJ11_vectorizedMismatch_107 : decode cJ11_vectorizedMismatch 107 = .ok (.iload 9, 2) := dk_21 9 (dk_at dksJ11_vectorizedMismatch_4 14 rfl rfl)
theorem dJ11_vectorizedMismatch_109 : decode cJ11_vectorizedMismatch 109 = .ok (.iload 8, 2) := dk_21 8 (dk_at dksJ11_vectorizedMismatch_4 16 rfl rfl)
theorem dJ11_vectorizedMismatch_111 : decode cJ11_vectorizedMismatch 111 = .ok (.ishl, 1) := dk_120 (dk_at dksJ11_vectorizedMismatch_4 18 rfl rfl)
theorem dJ11_vectorizedMismatch_112 : decode cJ11_vectorizedMismatch 112 = .ok (.iload 18, 2) := dk_21 18 (dk_at dksJ11_vectorizedMismatch_4 19 rfl rfl)
theorem dJ11_vectorizedMismatch_114 : decode cJ11_vectorizedMismatch 114 = .ok (.iadd, 1) := dk_96 (dk_at dksJ11_vectorizedMismatch_4 21 rfl rfl)
theorem dJ11_vectorizedMismatch_115 : decode cJ11_vectorizedMismatch 115 = .ok (.ireturn, 1) := dk_172 (dk_at dksJ11_vectorizedMismatch_4 22 rfl rfl)
theorem dJ11_vectorizedMismatch_116 : decode cJ11_vectorizedMismatch 116 = .ok (.iinc 9 1, 3) := dk_132 9 1 (dk_at dksJ11_vectorizedMismatch_5 0 rfl rfl)
theorem dJ11_vectorizedMismatch_119 : decode cJ11_vectorizedMismatch 119 = .ok (.goto (-108), 3) := dk_167 255 148 (dk_at dksJ11_vectorizedMismatch_5 3 rfl rfl)
theorem dJ11_vectorizedMismatch_122 : decode cJ11_vectorizedMismatch 122 = .ok (.iload 6, 2) := dk_21 6 (dk_at dksJ11_vectorizedMismatch_5 6 rfl rfl)
theorem dJ11_vectorizedMismatch_124 : decode cJ11_vectorizedMismatch 124 = .ok (.iload 9, 2) := dk_21 9 (dk_at dksJ11_vectorizedMismatch_5 8 rfl rfl)
theorem dJ11_vectorizedMismatch_126 : decode cJ11_vectorizedMismatch 126 = .ok (.iload 8, 2) := dk_21 8 (dk_at dksJ11_vectorizedMismatch_5 10 rfl rfl)
theorem dJ11_vectorizedMismatch_128 : decode cJ11_vectorizedMismatch 128 = .ok (.ishl, 1) := dk_120 (dk_at dksJ11_vectorizedMismatch_5 12 rfl rfl)
theorem dJ11_vectorizedMismatch_129 : decode cJ11_vectorizedMismatch 129 = .ok (.isub, 1) := dk_100 (dk_at dksJ11_vectorizedMismatch_5 13 rfl rfl)
theorem dJ11_vectorizedMismatch_130 : decode cJ11_vectorizedMismatch 130 = .ok (.istore 10, 2) := dk_54 10 (dk_at dksJ11_vectorizedMismatch_5 14 rfl rfl)
theorem dJ11_vectorizedMismatch_132 : decode cJ11_vectorizedMismatch 132 = .ok (.iload 7, 2) := dk_21 7 (dk_at dksJ11_vectorizedMismatch_5 16 rfl rfl)
theorem dJ11_vectorizedMismatch_134 : decode cJ11_vectorizedMismatch 134 = .ok (.getstatic 51, 3) := dk_178 0 51 (dk_at dksJ11_vectorizedMismatch_5 18 rfl rfl)
theorem dJ11_vectorizedMismatch_137 : decode cJ11_vectorizedMismatch 137 = .ok (.if_icmp .ge 126, 3) := dk_162 0 126 (dk_at dksJ11_vectorizedMismatch_5 21 rfl rfl)
theorem dJ11_vectorizedMismatch_140 : decode cJ11_vectorizedMismatch 140 = .ok (.iconst 1, 1) := dk_4 (dk_at dksJ11_vectorizedMismatch_6 0 rfl rfl)
theorem dJ11_vectorizedMismatch_141 : decode cJ11_vectorizedMismatch 141 = .ok (.getstatic 51, 3) := dk_178 0 51 (dk_at dksJ11_vectorizedMismatch_6 1 rfl rfl)
theorem dJ11_vectorizedMismatch_144 : decode cJ11_vectorizedMismatch 144 = .ok (.iload 7, 2) := dk_21 7 (dk_at dksJ11_vectorizedMismatch_6 4 rfl rfl)
theorem dJ11_vectorizedMismatch_146 : decode cJ11_vectorizedMismatch 146 = .ok (.isub, 1) := dk_100 (dk_at dksJ11_vectorizedMismatch_6 6 rfl rfl)
theorem dJ11_vectorizedMismatch_147 : decode cJ11_vectorizedMismatch 147 = .ok (.ishl, 1) := dk_120 (dk_at dksJ11_vectorizedMismatch_6 7 rfl rfl)
theorem dJ11_vectorizedMismatch_148 : decode cJ11_vectorizedMismatch 148 = .ok (.istore 11, 2) := dk_54 11 (dk_at dksJ11_vectorizedMismatch_6 8 rfl rfl)
theorem dJ11_vectorizedMismatch_150 : decode cJ11_vectorizedMismatch 150 = .ok (.iload 10, 2) := dk_21 10 (dk_at dksJ11_vectorizedMismatch_6 10 rfl rfl)
theorem dJ11_vectorizedMismatch_152 : decode cJ11_vectorizedMismatch 152 = .ok (.iload 11, 2) := dk_21 11 (dk_at dksJ11_vectorizedMismatch_6 12 rfl rfl)
theorem dJ11_vectorizedMismatch_154 : decode cJ11_vectorizedMismatch 154 = .ok (.if_icmp .lt 104, 3) := dk_161 0 104 (dk_at dksJ11_vectorizedMismatch_6 14 rfl rfl)
theorem dJ11_vectorizedMismatch_157 : decode cJ11_vectorizedMismatch 157 = .ok (.iload 9, 2) := dk_21 9 (dk_at dksJ11_vectorizedMismatch_6 17 rfl rfl)
theorem dJ11_vectorizedMismatch_159 : decode cJ11_vectorizedMismatch 159 = .ok (.i2l, 1) := dk_133 (dk_at dksJ11_vectorizedMismatch_6 19 rfl rfl)
theorem dJ11_vectorizedMismatch_160 : decode cJ11_vectorizedMismatch 160 = .ok (.getstatic 20, 3) := dk_178 0 20 (dk_at dksJ11_vectorizedMismatch_6 20 rfl rfl)
theorem dJ11_vectorizedMismatch_163 : decode cJ11_vectorizedMismatch 163 = .ok (.lshl, 1) := dk_121 (dk_at dksJ11_vectorizedMismatch_6 23 rfl rfl)
theorem dJ11_vectorizedMismatch_164 : decode cJ11_vectorizedMismatch 164 = .ok (.lstore 12, 2) := dk_55 12 (dk_at dksJ11_vectorizedMismatch_7 0 rfl rfl)
theorem dJ11_vectorizedMismatch_166 : decode cJ11_vectorizedMismatch 166 = .ok (.getstatic 26, 3) := dk_178 0 26 (dk_at dksJ11_vectorizedMismatch_7 2 rfl rfl)
theorem dJ11_vectorizedMismatch_169 : decode cJ11_vectorizedMismatch 169 = .ok (.aload_n 0, 1) := dk_42 (dk_at dksJ11_vectorizedMismatch_7 5 rfl rfl)
theorem dJ11_vectorizedMismatch_170 : decode cJ11_vectorizedMismatch 170 = .ok (.lload_n 1, 1) := dk_31 (dk_at dksJ11_vectorizedMismatch_7 6 rfl rfl)
theorem dJ11_vectorizedMismatch_171 : decode cJ11_vectorizedMismatch 171 = .ok (.lload 12, 2) := dk_22 12 (dk_at dksJ11_vectorizedMismatch_7 7 rfl rfl)
theorem dJ11_vectorizedMismatch_173 : decode cJ11_vectorizedMismatch 173 = .ok (.ladd, 1) := dk_97 (dk_at dksJ11_vectorizedMismatch_7 9 rfl rfl)
theorem dJ11_vectorizedMismatch_174 : decode cJ11_vectorizedMismatch 174 = .ok (.invokevirtual 54, 3) := dk_182 0 54 (dk_at dksJ11_vectorizedMismatch_7 10 rfl rfl)
theorem dJ11_vectorizedMismatch_177 : decode cJ11_vectorizedMismatch 177 = .ok (.istore 14, 2) := dk_54 14 (dk_at dksJ11_vectorizedMismatch_7 13 rfl rfl)
theorem dJ11_vectorizedMismatch_179 : decode cJ11_vectorizedMismatch 179 = .ok (.getstatic 26, 3) := dk_178 0 26 (dk_at dksJ11_vectorizedMismatch_7 15 rfl rfl)
theorem dJ11_vectorizedMismatch_182 : decode cJ11_vectorizedMismatch 182 = .ok (.aload_n 3, 1) := dk_45 (dk_at dksJ11_vectorizedMismatch_7 18 rfl rfl)
theorem dJ11_vectorizedMismatch_183 : decode cJ11_vectorizedMismatch 183 = .ok (.lload 4, 2) := dk_22 4 (dk_at dksJ11_vectorizedMismatch_7 19 rfl rfl)
theorem dJ11_vectorizedMismatch_185 : decode cJ11_vectorizedMismatch 185 = .ok (.lload 12, 2) := dk_22 12 (dk_at dksJ11_vectorizedMismatch_7 21 rfl rfl)
theorem dJ11_vectorizedMismatch_187 : decode cJ11_vectorizedMismatch 187 = .ok (.ladd, 1) := dk_97 (dk_at dksJ11_vectorizedMismatch_7 23 rfl rfl)
theorem dJ11_vectorizedMismatch_188 : decode cJ11_vectorizedMismatch 188 = .ok (.invokevirtual 54, 3) := dk_182 0 54 (dk_at dksJ11_vectorizedMismatch_8 0 rfl rfl)
theorem dJ11_vectorizedMismatch_191 : decode cJ11_vectorizedMismatch 191 = .ok (.istore 15, 2) := dk_54 15 (dk_at dksJ11_vectorizedMismatch_8 3 rfl rfl)
theorem dJ11_vectorizedMismatch_193 : decode cJ11_vectorizedMismatch 193 = .ok (.iload 14, 2) := dk_21 14 (dk_at dksJ11_vectorizedMismatch_8 5 rfl rfl)
theorem dJ11_vectorizedMismatch_195 : decode cJ11_vectorizedMismatch 195 = .ok (.iload 15, 2) := dk_21 15 (dk_at dksJ11_vectorizedMismatch_8 7 rfl rfl)
theorem dJ11_vectorizedMismatch_197 : decode cJ11_vectorizedMismatch 197 = .ok (.if_icmp .eq 54, 3) := dk_159 0 54 (dk_at dksJ11_vectorizedMismatch_8 9 rfl rfl)
theorem dJ11_vectorizedMismatch_200 : decode cJ11_vectorizedMismatch 200 = .ok (.iload 14, 2) := dk_21 14 (dk_at dksJ11_vectorizedMismatch_8 12 rfl rfl)
theorem dJ11_vectorizedMismatch_202 : decode cJ11_vectorizedMismatch 202 = .ok (.iload 15, 2) := dk_21 15 (dk_at dksJ11_vectorizedMismatch_8 14 rfl rfl)
theorem dJ11_vectorizedMismatch_204 : decode cJ11_vectorizedMismatch 204 = .ok (.ixor, 1) := dk_130 (dk_at dksJ11_vectorizedMismatch_8 16 rfl rfl)
theorem dJ11_vectorizedMismatch_205 : decode cJ11_vectorizedMismatch 205 = .ok (.istore 16, 2) := dk_54 16 (dk_at dksJ11_vectorizedMismatch_8 17 rfl rfl)
theorem dJ11_vectorizedMismatch_207 : decode cJ11_vectorizedMismatch 207 = .ok (.getstatic 36, 3) := dk_178 0 36 (dk_at dksJ11_vectorizedMismatch_8 19 rfl rfl)
theorem dJ11_vectorizedMismatch_210 : decode cJ11_vectorizedMismatch 210 = .ok (.ifCond .eq 18, 3) := dk_153 0 18 (dk_at dksJ11_vectorizedMismatch_9 0 rfl rfl)
theorem dJ11_vectorizedMismatch_213 : decode cJ11_vectorizedMismatch 213 = .ok (.iload 16, 2) := dk_21 16 (dk_at dksJ11_vectorizedMismatch_9 3 rfl rfl)
theorem dJ11_vectorizedMismatch_215 : decode cJ11_vectorizedMismatch 215 = .ok (.invokestatic 58, 3) := dk_184 0 58 (dk_at dksJ11_vectorizedMismatch_9 5 rfl rfl)
theorem dJ11_vectorizedMismatch_218 : decode cJ11_vectorizedMismatch 218 = .ok (.getstatic 46, 3) := dk_178 0 46 (dk_at dksJ11_vectorizedMismatch_9 8 rfl rfl)
theorem dJ11_vectorizedMismatch_221 : decode cJ11_vectorizedMismatch 221 = .ok (.iload 7, 2) := dk_21 7 (dk_at dksJ11_vectorizedMismatch_9 11 rfl rfl)
theorem dJ11_vectorizedMismatch_223 : decode cJ11_vectorizedMismatch 223 = .ok (.iadd, 1) := dk_96 (dk_at dksJ11_vectorizedMismatch_9 13 rfl rfl)
theorem dJ11_vectorizedMismatch_224 : decode cJ11_vectorizedMismatch 224 = .ok (.ishr, 1) := dk_122 (dk_at dksJ11_vectorizedMismatch_9 14 rfl rfl)
theorem dJ11_vectorizedMismatch_225 : decode cJ11_vectorizedMismatch 225 = .ok (.goto 15, 3) := dk_167 0 15 (dk_at dksJ11_vectorizedMismatch_9 15 rfl rfl)
theorem dJ11_vectorizedMismatch_228 : decode cJ11_vectorizedMismatch 228 = .ok (.iload 16, 2) := dk_21 16 (dk_at dksJ11_vectorizedMismatch_9 18 rfl rfl)
theorem dJ11_vectorizedMismatch_230 : decode cJ11_vectorizedMismatch 230 = .ok (.invokestatic 11, 3) := dk_184 0 11 (dk_at dksJ11_vectorizedMismatch_9 20 rfl rfl)
theorem dJ11_vectorizedMismatch_233 : decode cJ11_vectorizedMismatch 233 = .ok (.getstatic 46, 3) := dk_178 0 46 (dk_at dksJ11_vectorizedMismatch_10 0 rfl rfl)
theorem dJ11_vectorizedMismatch_236 : decode cJ11_vectorizedMismatch 236 = .ok (.iload 7, 2) := dk_21 7 (dk_at dksJ11_vectorizedMismatch_10 3 rfl rfl)
theorem dJ11_vectorizedMismatch_238 : decode cJ11_vectorizedMismatch 238 = .ok (.iadd, 1) := dk_96 (dk_at dksJ11_vectorizedMismatch_10 5 rfl rfl)
theorem dJ11_vectorizedMismatch_239 : decode cJ11_vectorizedMismatch 239 = .ok (.ishr, 1) := dk_122 (dk_at dksJ11_vectorizedMismatch_10 6 rfl rfl)
theorem dJ11_vectorizedMismatch_240 : decode cJ11_vectorizedMismatch 240 = .ok (.istore 17, 2) := dk_54 17 (dk_at dksJ11_vectorizedMismatch_10 7 rfl rfl)
theorem dJ11_vectorizedMismatch_242 : decode cJ11_vectorizedMismatch 242 = .ok (.iload 9, 2) := dk_21 9 (dk_at dksJ11_vectorizedMismatch_10 9 rfl rfl)
theorem dJ11_vectorizedMismatch_244 : decode cJ11_vectorizedMismatch 244 = .ok (.iload 8, 2) := dk_21 8 (dk_at dksJ11_vectorizedMismatch_10 11 rfl rfl)
theorem dJ11_vectorizedMismatch_246 : decode cJ11_vectorizedMismatch 246 = .ok (.ishl, 1) := dk_120 (dk_at dksJ11_vectorizedMismatch_10 13 rfl rfl)
theorem dJ11_vectorizedMismatch_247 : decode cJ11_vectorizedMismatch 247 = .ok (.iload 17, 2) := dk_21 17 (dk_at dksJ11_vectorizedMismatch_10 14 rfl rfl)
theorem dJ11_vectorizedMismatch_249 : decode cJ11_vectorizedMismatch 249 = .ok (.iadd, 1) := dk_96 (dk_at dksJ11_vectorizedMismatch_10 16 rfl rfl)
theorem dJ11_vectorizedMismatch_250 : decode cJ11_vectorizedMismatch 250 = .ok (.ireturn, 1) := dk_172 (dk_at dksJ11_vectorizedMismatch_10 17 rfl rfl)
theorem dJ11_vectorizedMismatch_251 : decode cJ11_vectorizedMismatch 251 = .ok (.iload 10, 2) := dk_21 10 (dk_at dksJ11_vectorizedMismatch_10 18 rfl rfl)
theorem dJ11_vectorizedMismatch_253 : decode cJ11_vectorizedMismatch 253 = .ok (.iload 11, 2) := dk_21 11 (dk_at dksJ11_vectorizedMismatch_10 20 rfl rfl)
theorem dJ11_vectorizedMismatch_255 : decode cJ11_vectorizedMismatch 255 = .ok (.isub, 1) := dk_100 (dk_at dksJ11_vectorizedMismatch_10 22 rfl rfl)
theorem dJ11_vectorizedMismatch_256 : decode cJ11_vectorizedMismatch 256 = .ok (.istore 10, 2) := dk_54 10 (dk_at dksJ11_vectorizedMismatch_11 0 rfl rfl)
theorem dJ11_vectorizedMismatch_258 : decode cJ11_vectorizedMismatch 258 = .ok (.iload 10, 2) := dk_21 10 (dk_at dksJ11_vectorizedMismatch_11 2 rfl rfl)
theorem dJ11_vectorizedMismatch_260 : decode cJ11_vectorizedMismatch 260 = .ok (.iconst (-1), 1) := dk_2 (dk_at dksJ11_vectorizedMismatch_11 4 rfl rfl)
theorem dJ11_vectorizedMismatch_261 : decode cJ11_vectorizedMismatch 261 = .ok (.ixor, 1) := dk_130 (dk_at dksJ11_vectorizedMismatch_11 5 rfl rfl)
theorem dJ11_vectorizedMismatch_262 : decode cJ11_vectorizedMismatch 262 = .ok (.ireturn, 1) := dk_172 (dk_at dksJ11_vectorizedMismatch_11 6 rfl rfl)
theorem dJ11_vectorizedMismatch_263 : decode cJ11_vectorizedMismatch 263 = .ok (.iload 10, 2) := dk_21 10 (dk_at dksJ11_vectorizedMismatch_11 7 rfl rfl)
theorem dJ11_vectorizedMismatch_265 : decode cJ11_vectorizedMismatch 265 = .ok (.iconst (-1), 1) := dk_2 (dk_at dksJ11_vectorizedMismatch_11 9 rfl rfl)
theorem dJ11_vectorizedMismatch_266 : decode cJ11_vectorizedMismatch 266 = .ok (.ixor, 1) := dk_130 (dk_at dksJ11_vectorizedMismatch_11 10 rfl rfl)
theorem dJ11_vectorizedMismatch_267 : decode cJ11_vectorizedMismatch 267 = .ok (.ireturn, 1) := dk_172 (dk_at dksJ11_vectorizedMismatch_11 11 rfl rfl)
theorem q118 : (Jvm.Cond.initialized "jdk/internal/util/ArraysSupport") ∈ lw_all := lw_g (lw_at lw_m1 20 rfl) rfl
theorem q1006 : (Jvm.Cond.static ({ cls := "jdk/internal/util/ArraysSupport", name := "newLength", desc := "(III)I" } : Jvm.MethodName)) ∈ lw_all := lw_g (lw_at lw_m4 188 rfl) rfl
theorem q1007 : (Jvm.Cond.code ({ cls := "jdk/internal/util/ArraysSupport", name := "newLength", desc := "(III)I" } : Jvm.MethodName) prog_82_method_27_code (4 : Nat) (Option.some Jvm.ClassFile.FieldType.int)) ∈ lw_all := lw_g (lw_at lw_m4 189 rfl) rfl
theorem q1008 : (Jvm.Cond.methodLink "jdk/internal/util/ArraysSupport" (194 : Nat) ({ cls := "java/lang/Math", name := "max", desc := "(II)I" } : Jvm.MethodName)) ∈ lw_all := lw_g (lw_at lw_m4 190 rfl) rfl
theorem q1009 : (Jvm.Cond.constant "jdk/internal/util/ArraysSupport" (200 : Nat) (2147483639 : Int32)) ∈ lw_all := lw_g (lw_at lw_m4 191 rfl) rfl
theorem q1010 : (Jvm.Cond.methodLink "jdk/internal/util/ArraysSupport" (201 : Nat) ({ cls := "jdk/internal/util/ArraysSupport", name := "hugeLength", desc := "(II)I" } : Jvm.MethodName)) ∈ lw_all := lw_g (lw_at lw_m4 192 rfl) rfl
theorem q1011 : (Jvm.Cond.static ({ cls := "jdk/internal/util/ArraysSupport", name := "hugeLength", desc := "(II)I" } : Jvm.MethodName)) ∈ lw_all := lw_g (lw_at lw_m4 193 rfl) rfl
theorem q1012 : (Jvm.Cond.code ({ cls := "jdk/internal/util/ArraysSupport", name := "hugeLength", desc := "(II)I" } : Jvm.MethodName) prog_82_method_28_code (3 : Nat) (Option.some Jvm.ClassFile.FieldType.int)) ∈ lw_all := lw_g (lw_at lw_m4 194 rfl) rfl
theorem q1875 : (Jvm.Cond.static ({ cls := "jdk/internal/util/ArraysSupport", name := "vectorizedHashCode", desc := "(Ljava/lang/Object;IIII)I" } : Jvm.MethodName)) ∈ lw_all := lw_g (lw_at lw_m8 97 rfl) rfl
theorem q1876 : (Jvm.Cond.code ({ cls := "jdk/internal/util/ArraysSupport", name := "vectorizedHashCode", desc := "(Ljava/lang/Object;IIII)I" } : Jvm.MethodName) prog_82_method_4_code (5 : Nat) (Option.some Jvm.ClassFile.FieldType.int)) ∈ lw_all := lw_g (lw_at lw_m8 98 rfl) rfl
theorem q1877 : (Jvm.Cond.classLink "jdk/internal/util/ArraysSupport" (60 : Nat) "[B") ∈ lw_all := lw_g (lw_at lw_m8 99 rfl) rfl
theorem q1878 : (Jvm.Cond.methodLink "jdk/internal/util/ArraysSupport" (62 : Nat) ({ cls := "jdk/internal/util/ArraysSupport", name := "signedHashCode", desc := "(I[BII)I" } : Jvm.MethodName)) ∈ lw_all := lw_g (lw_at lw_m8 100 rfl) rfl
theorem q1879 : (Jvm.Cond.static ({ cls := "jdk/internal/util/ArraysSupport", name := "signedHashCode", desc := "(I[BII)I" } : Jvm.MethodName)) ∈ lw_all := lw_g (lw_at lw_m8 101 rfl) rfl
theorem q1880 : (Jvm.Cond.code ({ cls := "jdk/internal/util/ArraysSupport", name := "signedHashCode", desc := "(I[BII)I" } : Jvm.MethodName) prog_82_method_5_code (6 : Nat) (Option.some Jvm.ClassFile.FieldType.int)) ∈ lw_all := lw_g (lw_at lw_m8 102 rfl) rfl
theorem q1881 : (Jvm.Cond.methodLink "jdk/internal/util/ArraysSupport" (66 : Nat) ({ cls := "jdk/internal/util/ArraysSupport", name := "utf16hashCode", desc := "(I[BII)I" } : Jvm.MethodName)) ∈ lw_all := lw_g (lw_at lw_m8 103 rfl) rfl
theorem q1882 : (Jvm.Cond.static ({ cls := "jdk/internal/util/ArraysSupport", name := "utf16hashCode", desc := "(I[BII)I" } : Jvm.MethodName)) ∈ lw_all := lw_g (lw_at lw_m8 104 rfl) rfl
theorem q1883 : (Jvm.Cond.code ({ cls := "jdk/internal/util/ArraysSupport", name := "utf16hashCode", desc := "(I[BII)I" } : Jvm.MethodName) prog_82_method_10_code (6 : Nat) (Option.some Jvm.ClassFile.FieldType.int)) ∈ lw_all := lw_g (lw_at lw_m8 105 rfl) rfl
theorem q1884 : (Jvm.Cond.fieldLink "jdk/internal/util/ArraysSupport" (106 : Nat) "jdk/internal/util/ArraysSupport" "JLA" "Ljdk/internal/access/JavaLangAccess;") ∈ lw_all := lw_g (lw_at lw_m8 106 rfl) rfl
theorem q1885 : (Jvm.Cond.laysStatic "jdk/internal/util/ArraysSupport" "JLA" "Ljdk/internal/access/JavaLangAccess;") ∈ lw_tbl := lw_at lw_m8 107 rfl
theorem q1886 : (Jvm.Cond.interfaceEntry "jdk/internal/util/ArraysSupport" (110 : Nat)) ∈ lw_tbl := lw_at lw_m8 108 rfl
theorem q1887 : (Jvm.Cond.methodLink "jdk/internal/util/ArraysSupport" (110 : Nat) ({ cls := "jdk/internal/access/JavaLangAccess", name := "getUTF16Char", desc := "([BI)C" } : Jvm.MethodName)) ∈ lw_all := lw_g (lw_at lw_m8 109 rfl) rfl
theorem q1897 : (Jvm.Cond.classLink "jdk/internal/util/ArraysSupport" (69 : Nat) "[C") ∈ lw_all := lw_g (lw_at lw_m8 119 rfl) rfl
theorem q1898 : (Jvm.Cond.methodLink "jdk/internal/util/ArraysSupport" (71 : Nat) ({ cls := "jdk/internal/util/ArraysSupport", name := "hashCode", desc := "(I[CII)I" } : Jvm.MethodName)) ∈ lw_all := lw_g (lw_at lw_m8 120 rfl) rfl
theorem q1899 : (Jvm.Cond.static ({ cls := "jdk/internal/util/ArraysSupport", name := "hashCode", desc := "(I[CII)I" } : Jvm.MethodName)) ∈ lw_all := lw_g (lw_at lw_m8 121 rfl) rfl
theorem q1900 : (Jvm.Cond.code ({ cls := "jdk/internal/util/ArraysSupport", name := "hashCode", desc := "(I[CII)I" } : Jvm.MethodName) prog_82_method_7_code (6 : Nat) (Option.some Jvm.ClassFile.FieldType.int)) ∈ lw_all := lw_g (lw_at lw_m8 122 rfl) rfl
theorem q1901 : (Jvm.Cond.methodLink "jdk/internal/util/ArraysSupport" (75 : Nat) ({ cls := "jdk/internal/util/ArraysSupport", name := "hashCode", desc := "(I[BII)I" } : Jvm.MethodName)) ∈ lw_all := lw_g (lw_at lw_m8 123 rfl) rfl
theorem q1902 : (Jvm.Cond.static ({ cls := "jdk/internal/util/ArraysSupport", name := "hashCode", desc := "(I[BII)I" } : Jvm.MethodName)) ∈ lw_all := lw_g (lw_at lw_m8 124 rfl) rfl
theorem q1903 : (Jvm.Cond.code ({ cls := "jdk/internal/util/ArraysSupport", name := "hashCode", desc := "(I[BII)I" } : Jvm.MethodName) prog_82_method_6_code (6 : Nat) (Option.some Jvm.ClassFile.FieldType.int)) ∈ lw_all := lw_g (lw_at lw_m8 125 rfl) rfl
theorem q1904 : (Jvm.Cond.classLink "jdk/internal/util/ArraysSupport" (77 : Nat) "[S") ∈ lw_all := lw_g (lw_at lw_m8 126 rfl) rfl
theorem q1905 : (Jvm.Cond.methodLink "jdk/internal/util/ArraysSupport" (79 : Nat) ({ cls := "jdk/internal/util/ArraysSupport", name := "hashCode", desc := "(I[SII)I" } : Jvm.MethodName)) ∈ lw_all := lw_g (lw_at lw_m8 127 rfl) rfl
theorem q1906 : (Jvm.Cond.static ({ cls := "jdk/internal/util/ArraysSupport", name := "hashCode", desc := "(I[SII)I" } : Jvm.MethodName)) ∈ lw_all := lw_g (lw_at lw_m8 128 rfl) rfl
theorem q1907 : (Jvm.Cond.code ({ cls := "jdk/internal/util/ArraysSupport", name := "hashCode", desc := "(I[SII)I" } : Jvm.MethodName) prog_82_method_8_code (6 : Nat) (Option.some Jvm.ClassFile.FieldType.int)) ∈ lw_all := lw_g (lw_at lw_m8 129 rfl) rfl
theorem q1908 : (Jvm.Cond.classLink "jdk/internal/util/ArraysSupport" (82 : Nat) "[I") ∈ lw_all := lw_g (lw_at lw_m8 130 rfl) rfl
theorem q1909 : (Jvm.Cond.methodLink "jdk/internal/util/ArraysSupport" (84 : Nat) ({ cls := "jdk/internal/util/ArraysSupport", name := "hashCode", desc := "(I[III)I" } : Jvm.MethodName)) ∈ lw_all := lw_g (lw_at lw_m8 131 rfl) rfl
theorem q1910 : (Jvm.Cond.static ({ cls := "jdk/internal/util/ArraysSupport", name := "hashCode", desc := "(I[III)I" } : Jvm.MethodName)) ∈ lw_all := lw_g (lw_at lw_m8 132 rfl) rfl
theorem q1911 : (Jvm.Cond.code ({ cls := "jdk/internal/util/ArraysSupport", name := "hashCode", desc := "(I[III)I" } : Jvm.MethodName) prog_82_method_9_code (6 : Nat) (Option.some Jvm.ClassFile.FieldType.int)) ∈ lw_all := lw_g (lw_at lw_m8 133 rfl) rfl
theorem q1912 : (Jvm.Cond.classLink "jdk/internal/util/ArraysSupport" (87 : Nat) "java/lang/IllegalArgumentException") ∈ lw_all := lw_g (lw_at lw_m8 134 rfl) rfl
theorem q1913 : (Jvm.Cond.classLink "jdk/internal/util/ArraysSupport" (89 : Nat) "java/lang/StringBuilder") ∈ lw_all := lw_g (lw_at lw_m8 135 rfl) rfl
theorem q1914 : (Jvm.Cond.methodLink "jdk/internal/util/ArraysSupport" (91 : Nat) ({ cls := "java/lang/StringBuilder", name := "<init>", desc := "()V" } : Jvm.MethodName)) ∈ lw_all := lw_g (lw_at lw_m8 136 rfl) rfl
theorem q1915 : (Jvm.Cond.stringRef "jdk/internal/util/ArraysSupport" (92 : Nat) "unrecognized basic type: ") ∈ lw_tbl := lw_at lw_m8 137 rfl
theorem q1916 : (Jvm.Cond.methodLink "jdk/internal/util/ArraysSupport" (94 : Nat) ({ cls := "java/lang/StringBuilder", name := "append", desc := "(Ljava/lang/String;)Ljava/lang/StringBuilder;" } : Jvm.MethodName)) ∈ lw_all := lw_g (lw_at lw_m8 138 rfl) rfl
theorem q1917 : (Jvm.Cond.methodLink "jdk/internal/util/ArraysSupport" (98 : Nat) ({ cls := "java/lang/StringBuilder", name := "append", desc := "(I)Ljava/lang/StringBuilder;" } : Jvm.MethodName)) ∈ lw_all := lw_g (lw_at lw_m8 139 rfl) rfl
theorem q1918 : (Jvm.Cond.methodLink "jdk/internal/util/ArraysSupport" (101 : Nat) ({ cls := "java/lang/StringBuilder", name := "toString", desc := "()Ljava/lang/String;" } : Jvm.MethodName)) ∈ lw_all := lw_g (lw_at lw_m8 140 rfl) rfl
theorem q1919 : (Jvm.Cond.methodLink "jdk/internal/util/ArraysSupport" (105 : Nat) ({ cls := "java/lang/IllegalArgumentException", name := "<init>", desc := "(Ljava/lang/String;)V" } : Jvm.MethodName)) ∈ lw_all := lw_g (lw_at lw_m8 141 rfl) rfl
theorem q2004 : (Jvm.Cond.static ({ cls := "jdk/internal/util/ArraysSupport", name := "mismatch", desc := "([B[BI)I" } : Jvm.MethodName)) ∈ lw_all := lw_g (lw_at lw_m8 226 rfl) rfl
theorem q2005 : (Jvm.Cond.code ({ cls := "jdk/internal/util/ArraysSupport", name := "mismatch", desc := "([B[BI)I" } : Jvm.MethodName) prog_82_method_13_code (4 : Nat) (Option.some Jvm.ClassFile.FieldType.int)) ∈ lw_all := lw_g (lw_at lw_m8 227 rfl) rfl
theorem q2006 : (Jvm.Cond.fieldLink "jdk/internal/util/ArraysSupport" (126 : Nat) "jdk/internal/misc/Unsafe" "ARRAY_BYTE_BASE_OFFSET" "I") ∈ lw_all := lw_g (lw_at lw_m8 228 rfl) rfl
theorem q2008 : (Jvm.Cond.fieldLink "jdk/internal/util/ArraysSupport" (129 : Nat) "jdk/internal/util/ArraysSupport" "LOG2_ARRAY_BYTE_INDEX_SCALE" "I") ∈ lw_all := lw_g (lw_at lw_m8 230 rfl) rfl
theorem q2009 : (Jvm.Cond.laysStatic "jdk/internal/util/ArraysSupport" "LOG2_ARRAY_BYTE_INDEX_SCALE" "I") ∈ lw_tbl := lw_at lw_m8 231 rfl
theorem q2010 : (Jvm.Cond.methodLink "jdk/internal/util/ArraysSupport" (122 : Nat) ({ cls := "jdk/internal/util/ArraysSupport", name := "vectorizedMismatch", desc := "(Ljava/lang/Object;JLjava/lang/Object;JII)I" } : Jvm.MethodName)) ∈ lw_all := lw_g (lw_at lw_m8 232 rfl) rfl
theorem q2011 : (Jvm.Cond.static ({ cls := "jdk/internal/util/ArraysSupport", name := "vectorizedMismatch", desc := "(Ljava/lang/Object;JLjava/lang/Object;JII)I" } : Jvm.MethodName)) ∈ lw_all := lw_g (lw_at lw_m8 233 rfl) rfl
theorem q2012 : (Jvm.Cond.code ({ cls := "jdk/internal/util/ArraysSupport", name := "vectorizedMismatch", desc := "(Ljava/lang/Object;JLjava/lang/Object;JII)I" } : Jvm.MethodName) prog_82_method_3_code (19 : Nat) (Option.some Jvm.ClassFile.FieldType.int)) ∈ lw_all := lw_g (lw_at lw_m8 234 rfl) rfl
theorem q2013 : (Jvm.Cond.fieldLink "jdk/internal/util/ArraysSupport" (20 : Nat) "jdk/internal/util/ArraysSupport" "LOG2_ARRAY_LONG_INDEX_SCALE" "I") ∈ lw_all := lw_g (lw_at lw_m8 235 rfl) rfl
theorem q2014 : (Jvm.Cond.laysStatic "jdk/internal/util/ArraysSupport" "LOG2_ARRAY_LONG_INDEX_SCALE" "I") ∈ lw_tbl := lw_at lw_m8 236 rfl
theorem q2015 : (Jvm.Cond.fieldLink "jdk/internal/util/ArraysSupport" (26 : Nat) "jdk/internal/util/ArraysSupport" "U" "Ljdk/internal/misc/Unsafe;") ∈ lw_all := lw_g (lw_at lw_m8 237 rfl) rfl
theorem q2016 : (Jvm.Cond.laysStatic "jdk/internal/util/ArraysSupport" "U" "Ljdk/internal/misc/Unsafe;") ∈ lw_tbl := lw_at lw_m8 238 rfl
theorem q2017 : (Jvm.Cond.methodLink "jdk/internal/util/ArraysSupport" (30 : Nat) ({ cls := "jdk/internal/misc/Unsafe", name := "getLongUnaligned", desc := "(Ljava/lang/Object;J)J" } : Jvm.MethodName)) ∈ lw_all := lw_g (lw_at lw_m8 239 rfl) rfl
theorem q2069 : (Jvm.Cond.fieldLink "jdk/internal/util/ArraysSupport" (36 : Nat) "jdk/internal/util/ArraysSupport" "BIG_ENDIAN" "Z") ∈ lw_all := lw_g (lw_at lw_m9 51 rfl) rfl
theorem q2070 : (Jvm.Cond.laysStatic "jdk/internal/util/ArraysSupport" "BIG_ENDIAN" "Z") ∈ lw_tbl := lw_at lw_m9 52 rfl
theorem q2071 : (Jvm.Cond.methodLink "jdk/internal/util/ArraysSupport" (40 : Nat) ({ cls := "java/lang/Long", name := "numberOfLeadingZeros", desc := "(J)I" } : Jvm.MethodName)) ∈ lw_all := lw_g (lw_at lw_m9 53 rfl) rfl
theorem q2078 : (Jvm.Cond.fieldLink "jdk/internal/util/ArraysSupport" (46 : Nat) "jdk/internal/util/ArraysSupport" "LOG2_BYTE_BIT_SIZE" "I") ∈ lw_all := lw_g (lw_at lw_m9 60 rfl) rfl
theorem q2079 : (Jvm.Cond.laysStatic "jdk/internal/util/ArraysSupport" "LOG2_BYTE_BIT_SIZE" "I") ∈ lw_tbl := lw_at lw_m9 61 rfl
theorem q2080 : (Jvm.Cond.methodLink "jdk/internal/util/ArraysSupport" (49 : Nat) ({ cls := "java/lang/Long", name := "numberOfTrailingZeros", desc := "(J)I" } : Jvm.MethodName)) ∈ lw_all := lw_g (lw_at lw_m9 62 rfl) rfl
theorem q2086 : (Jvm.Cond.fieldLink "jdk/internal/util/ArraysSupport" (51 : Nat) "jdk/internal/util/ArraysSupport" "LOG2_ARRAY_INT_INDEX_SCALE" "I") ∈ lw_all := lw_g (lw_at lw_m9 68 rfl) rfl
theorem q2087 : (Jvm.Cond.laysStatic "jdk/internal/util/ArraysSupport" "LOG2_ARRAY_INT_INDEX_SCALE" "I") ∈ lw_tbl := lw_at lw_m9 69 rfl
theorem q2088 : (Jvm.Cond.methodLink "jdk/internal/util/ArraysSupport" (54 : Nat) ({ cls := "jdk/internal/misc/Unsafe", name := "getIntUnaligned", desc := "(Ljava/lang/Object;J)I" } : Jvm.MethodName)) ∈ lw_all := lw_g (lw_at lw_m9 70 rfl) rfl
theorem q2105 : (Jvm.Cond.methodLink "jdk/internal/util/ArraysSupport" (58 : Nat) ({ cls := "java/lang/Integer", name := "numberOfLeadingZeros", desc := "(I)I" } : Jvm.MethodName)) ∈ lw_all := lw_g (lw_at lw_m9 87 rfl) rfl
theorem q2106 : (Jvm.Cond.methodLink "jdk/internal/util/ArraysSupport" (11 : Nat) ({ cls := "java/lang/Integer", name := "numberOfTrailingZeros", desc := "(I)I" } : Jvm.MethodName)) ∈ lw_all := lw_g (lw_at lw_m9 88 rfl) rfl
/-! java/util/Arrays -/
set_option maxRecDepth 100000
def RJ12 : String := "java/util/Arrays"
abbrev cJ12_copyOf : ByteArray := prog_57_method_119_code
def yJ12_copyOf : MethodName := ⟨RJ12, "copyOf", "([Ljava/lang/Object;I)[Ljava/lang/Object;"⟩
def dkwJ12_copyOf_0 : List UInt8 := [42, 27, 42, 182, 0, 86, 184, 1, 44, 176]
abbrev dktJ12_copyOf_0 : List UInt8 := dkwJ12_copyOf_0 ++ []
theorem dksJ12_copyOf_0 : cJ12_copyOf.data.toList.drop 0 = dktJ12_copyOf_0 := by decide +kernel
theorem dJ12_copyOf_0 : decode cJ12_copyOf 0 = .ok (.aload_n 0, 1) := dk_42 (dk_at dksJ12_copyOf_0 0 rfl rfl)
theorem dJ12_copyOf_1 : decode cJ12_copyOf 1 = .ok (.iload_n 1, 1) := dk_27 (dk_at dksJ12_copyOf_0 1 rfl rfl)
theorem dJ12_copyOf_2 : decode cJ12_copyOf 2 = .ok (.aload_n 0, 1) := dk_42 (dk_at dksJ12_copyOf_0 2 rfl rfl)
theorem dJ12_copyOf_3 : decode cJ12_copyOf 3 = .ok (.invokevirtual 86, 3) := dk_182 0 86 (dk_at dksJ12_copyOf_0 3 rfl rfl)
theorem dJ12_copyOf_6 : decode cJ12_copyOf 6 = .ok (.invokestatic 300, 3) := dk_184 1 44 (dk_at dksJ12_copyOf_0 6 rfl rfl)
theorem dJ12_copyOf_9 : decode cJ12_copyOf 9 = .ok (.areturn, 1) := dk_176 (dk_at dksJ12_copyOf_0 9 rfl rfl)
abbrev cJ12_copyOf_2 : ByteArray := prog_57_method_120_code
def yJ12_copyOf_2 : MethodName := ⟨RJ12, "copyOf", "([Ljava/lang/Object;ILjava/lang/Class;)[Ljava/lang/Object;"⟩
def dkwJ12_copyOf_2_1 : List UInt8 := [78, 42, 3, 45, 3, 42, 190, 27, 184, 1, 48, 184, 0, 150, 45, 176]
abbrev dktJ12_copyOf_2_1 : List UInt8 := dkwJ12_copyOf_2_1 ++ []
def dkwJ12_copyOf_2_0 : List UInt8 := [44, 18, 110, 166, 0, 10, 27, 189, 0, 2, 167, 0, 14, 44, 182, 0, 90, 27, 184, 0, 95, 192, 0, 110]
abbrev dktJ12_copyOf_2_0 : List UInt8 := dkwJ12_copyOf_2_0 ++ dktJ12_copyOf_2_1
theorem dksJ12_copyOf_2_0 : cJ12_copyOf_2.data.toList.drop 0 = dktJ12_copyOf_2_0 := by decide +kernel
theorem dksJ12_copyOf_2_1 : cJ12_copyOf_2.data.toList.drop 24 = dktJ12_copyOf_2_1 := dk_seg dksJ12_copyOf_2_0 24 rfl rfl
theorem dJ12_copyOf_2_0 : decode cJ12_copyOf_2 0 = .ok (.aload_n 2, 1) := dk_44 (dk_at dksJ12_copyOf_2_0 0 rfl rfl)
theorem dJ12_copyOf_2_1 : decode cJ12_copyOf_2 1 = .ok (.ldc 110, 2) := dk_18 110 (dk_at dksJ12_copyOf_2_0 1 rfl rfl)
theorem dJ12_copyOf_2_3 : decode cJ12_copyOf_2 3 = .ok (.if_acmp .ne 10, 3) := dk_166 0 10 (dk_at dksJ12_copyOf_2_0 3 rfl rfl)
theorem dJ12_copyOf_2_6 : decode cJ12_copyOf_2 6 = .ok (.iload_n 1, 1) := dk_27 (dk_at dksJ12_copyOf_2_0 6 rfl rfl)
theorem dJ12_copyOf_2_7 : decode cJ12_copyOf_2 7 = .ok (.anewarray 2, 3) := dk_189 0 2 (dk_at dksJ12_copyOf_2_0 7 rfl rfl)
theorem dJ12_copyOf_2_10 : decode cJ12_copyOf_2 10 = .ok (.goto 14, 3) := dk_167 0 14 (dk_at dksJ12_copyOf_2_0 10 rfl rfl)
theorem dJ12_copyOf_2_13 : decode cJ12_copyOf_2 13 = .ok (.aload_n 2, 1) := dk_44 (dk_at dksJ12_copyOf_2_0 13 rfl rfl)
theorem dJ12_copyOf_2_14 : decode cJ12_copyOf_2 14 = .ok (.invokevirtual 90, 3) := dk_182 0 90 (dk_at dksJ12_copyOf_2_0 14 rfl rfl)
theorem dJ12_copyOf_2_17 : decode cJ12_copyOf_2 17 = .ok (.iload_n 1, 1) := dk_27 (dk_at dksJ12_copyOf_2_0 17 rfl rfl)
theorem dJ12_copyOf_2_18 : decode cJ12_copyOf_2 18 = .ok (.invokestatic 95, 3) := dk_184 0 95 (dk_at dksJ12_copyOf_2_0 18 rfl rfl)
theorem dJ12_copyOf_2_21 : decode cJ12_copyOf_2 21 = .ok (.checkcast 110, 3) := dk_192 0 110 (dk_at dksJ12_copyOf_2_0 21 rfl rfl)
theorem dJ12_copyOf_2_24 : decode cJ12_copyOf_2 24 = .ok (.astore_n 3, 1) := dk_78 (dk_at dksJ12_copyOf_2_1 0 rfl rfl)
theorem dJ12_copyOf_2_25 : decode cJ12_copyOf_2 25 = .ok (.aload_n 0, 1) := dk_42 (dk_at dksJ12_copyOf_2_1 1 rfl rfl)
theorem dJ12_copyOf_2_26 : decode cJ12_copyOf_2 26 = .ok (.iconst 0, 1) := dk_3 (dk_at dksJ12_copyOf_2_1 2 rfl rfl)
theorem dJ12_copyOf_2_27 : decode cJ12_copyOf_2 27 = .ok (.aload_n 3, 1) := dk_45 (dk_at dksJ12_copyOf_2_1 3 rfl rfl)
theorem dJ12_copyOf_2_28 : decode cJ12_copyOf_2 28 = .ok (.iconst 0, 1) := dk_3 (dk_at dksJ12_copyOf_2_1 4 rfl rfl)
theorem dJ12_copyOf_2_29 : decode cJ12_copyOf_2 29 = .ok (.aload_n 0, 1) := dk_42 (dk_at dksJ12_copyOf_2_1 5 rfl rfl)
theorem dJ12_copyOf_2_30 : decode cJ12_copyOf_2 30 = .ok (.arraylength, 1) := dk_190 (dk_at dksJ12_copyOf_2_1 6 rfl rfl)
theorem dJ12_copyOf_2_31 : decode cJ12_copyOf_2 31 = .ok (.iload_n 1, 1) := dk_27 (dk_at dksJ12_copyOf_2_1 7 rfl rfl)
theorem dJ12_copyOf_2_32 : decode cJ12_copyOf_2 32 = .ok (.invokestatic 304, 3) := dk_184 1 48 (dk_at dksJ12_copyOf_2_1 8 rfl rfl)
theorem dJ12_copyOf_2_35 : decode cJ12_copyOf_2 35 = .ok (.invokestatic 150, 3) := dk_184 0 150 (dk_at dksJ12_copyOf_2_1 11 rfl rfl)
theorem dJ12_copyOf_2_38 : decode cJ12_copyOf_2 38 = .ok (.aload_n 3, 1) := dk_45 (dk_at dksJ12_copyOf_2_1 14 rfl rfl)
theorem dJ12_copyOf_2_39 : decode cJ12_copyOf_2 39 = .ok (.areturn, 1) := dk_176 (dk_at dksJ12_copyOf_2_1 15 rfl rfl)
abbrev cJ12_copyOf_3 : ByteArray := prog_57_method_121_code
def yJ12_copyOf_3 : MethodName := ⟨RJ12, "copyOf", "([BI)[B"⟩
def dkwJ12_copyOf_3_1 : List UInt8 := [27, 184, 1, 48, 184, 0, 150, 44, 176]
abbrev dktJ12_copyOf_3_1 : List UInt8 := dkwJ12_copyOf_3_1 ++ []
def dkwJ12_copyOf_3_0 : List UInt8 := [27, 42, 190, 160, 0, 11, 42, 182, 1, 54, 192, 1, 55, 176, 27, 188, 8, 77, 42, 3, 44, 3, 42, 190]
abbrev dktJ12_copyOf_3_0 : List UInt8 := dkwJ12_copyOf_3_0 ++ dktJ12_copyOf_3_1
theorem dksJ12_copyOf_3_0 : cJ12_copyOf_3.data.toList.drop 0 = dktJ12_copyOf_3_0 := by decide +kernel
theorem dksJ12_copyOf_3_1 : cJ12_copyOf_3.data.toList.drop 24 = dktJ12_copyOf_3_1 := dk_seg dksJ12_copyOf_3_0 24 rfl rfl
theorem dJ12_copyOf_3_0 : decode cJ12_copyOf_3 0 = .ok (.iload_n 1, 1) := dk_27 (dk_at dksJ12_copyOf_3_0 0 rfl rfl)
theorem dJ12_copyOf_3_1 : decode cJ12_copyOf_3 1 = .ok (.aload_n 0, 1) := dk_42 (dk_at dksJ12_copyOf_3_0 1 rfl rfl)
theorem dJ12_copyOf_3_2 : decode cJ12_copyOf_3 2 = .ok (.arraylength, 1) := dk_190 (dk_at dksJ12_copyOf_3_0 2 rfl rfl)
theorem dJ12_copyOf_3_3 : decode cJ12_copyOf_3 3 = .ok (.if_icmp .ne 11, 3) := dk_160 0 11 (dk_at dksJ12_copyOf_3_0 3 rfl rfl)
theorem dJ12_copyOf_3_6 : decode cJ12_copyOf_3 6 = .ok (.aload_n 0, 1) := dk_42 (dk_at dksJ12_copyOf_3_0 6 rfl rfl)
theorem dJ12_copyOf_3_7 : decode cJ12_copyOf_3 7 = .ok (.invokevirtual 310, 3) := dk_182 1 54 (dk_at dksJ12_copyOf_3_0 7 rfl rfl)
theorem dJ12_copyOf_3_10 : decode cJ12_copyOf_3 10 = .ok (.checkcast 311, 3) := dk_192 1 55 (dk_at dksJ12_copyOf_3_0 10 rfl rfl)
theorem dJ12_copyOf_3_13 : decode cJ12_copyOf_3 13 = .ok (.areturn, 1) := dk_176 (dk_at dksJ12_copyOf_3_0 13 rfl rfl)
theorem dJ12_copyOf_3_14 : decode cJ12_copyOf_3 14 = .ok (.iload_n 1, 1) := dk_27 (dk_at dksJ12_copyOf_3_0 14 rfl rfl)
theorem dJ12_copyOf_3_15 : decode cJ12_copyOf_3 15 = .ok (.newarray .byte, 2) := dk_188_8 (dk_at dksJ12_copyOf_3_0 15 rfl rfl)
theorem dJ12_copyOf_3_17 : decode cJ12_copyOf_3 17 = .ok (.astore_n 2, 1) := dk_77 (dk_at dksJ12_copyOf_3_0 17 rfl rfl)
theorem dJ12_copyOf_3_18 : decode cJ12_copyOf_3 18 = .ok (.aload_n 0, 1) := dk_42 (dk_at dksJ12_copyOf_3_0 18 rfl rfl)
theorem dJ12_copyOf_3_19 : decode cJ12_copyOf_3 19 = .ok (.iconst 0, 1) := dk_3 (dk_at dksJ12_copyOf_3_0 19 rfl rfl)
theorem dJ12_copyOf_3_20 : decode cJ12_copyOf_3 20 = .ok (.aload_n 2, 1) := dk_44 (dk_at dksJ12_copyOf_3_0 20 rfl rfl)
theorem dJ12_copyOf_3_21 : decode cJ12_copyOf_3 21 = .ok (.iconst 0, 1) := dk_3 (dk_at dksJ12_copyOf_3_0 21 rfl rfl)
theorem dJ12_copyOf_3_22 : decode cJ12_copyOf_3 22 = .ok (.aload_n 0, 1) := dk_42 (dk_at dksJ12_copyOf_3_0 22 rfl rfl)
theorem dJ12_copyOf_3_23 : decode cJ12_copyOf_3 23 = .ok (.arraylength, 1) := dk_190 (dk_at dksJ12_copyOf_3_0 23 rfl rfl)
theorem dJ12_copyOf_3_24 : decode cJ12_copyOf_3 24 = .ok (.iload_n 1, 1) := dk_27 (dk_at dksJ12_copyOf_3_1 0 rfl rfl)
theorem dJ12_copyOf_3_25 : decode cJ12_copyOf_3 25 = .ok (.invokestatic 304, 3) := dk_184 1 48 (dk_at dksJ12_copyOf_3_1 1 rfl rfl)
theorem dJ12_copyOf_3_28 : decode cJ12_copyOf_3 28 = .ok (.invokestatic 150, 3) := dk_184 0 150 (dk_at dksJ12_copyOf_3_1 4 rfl rfl)
theorem dJ12_copyOf_3_31 : decode cJ12_copyOf_3 31 = .ok (.aload_n 2, 1) := dk_44 (dk_at dksJ12_copyOf_3_1 7 rfl rfl)
theorem dJ12_copyOf_3_32 : decode cJ12_copyOf_3 32 = .ok (.areturn, 1) := dk_176 (dk_at dksJ12_copyOf_3_1 8 rfl rfl)
abbrev cJ12_copyOfRange : ByteArray := prog_57_method_132_code
def yJ12_copyOfRange : MethodName := ⟨RJ12, "copyOfRange", "([BII)[B"⟩
def dkwJ12_copyOfRange_1 : List UInt8 := [176]
abbrev dktJ12_copyOfRange_1 : List UInt8 := dkwJ12_copyOfRange_1 ++ []
def dkwJ12_copyOfRange_0 : List UInt8 := [27, 154, 0, 9, 28, 42, 190, 159, 0, 10, 42, 27, 28, 184, 1, 83, 176, 42, 182, 1, 54, 192, 1, 55]
abbrev dktJ12_copyOfRange_0 : List UInt8 := dkwJ12_copyOfRange_0 ++ dktJ12_copyOfRange_1
theorem dksJ12_copyOfRange_0 : cJ12_copyOfRange.data.toList.drop 0 = dktJ12_copyOfRange_0 := by decide +kernel
theorem dksJ12_copyOfRange_1 : cJ12_copyOfRange.data.toList.drop 24 = dktJ12_copyOfRange_1 := dk_seg dksJ12_copyOfRange_0 24 rfl rfl
theorem dJ12_copyOfRange_0 : decode cJ12_copyOfRange 0 = .ok (.iload_n 1, 1) := dk_27 (dk_at dksJ12_copyOfRange_0 0 rfl rfl)
theorem dJ12_copyOfRange_1 : decode cJ12_copyOfRange 1 = .ok (.ifCond .ne 9, 3) := dk_154 0 9 (dk_at dksJ12_copyOfRange_0 1 rfl rfl)
theorem dJ12_copyOfRange_4 : decode cJ12_copyOfRange 4 = .ok (.iload_n 2, 1) := dk_28 (dk_at dksJ12_copyOfRange_0 4 rfl rfl)
theorem dJ12_copyOfRange_5 : decode cJ12_copyOfRange 5 = .ok (.aload_n 0, 1) := dk_42 (dk_at dksJ12_copyOfRange_0 5 rfl rfl)
theorem dJ12_copyOfRange_6 : decode cJ12_copyOfRange 6 = .ok (.arraylength, 1) := dk_190 (dk_at dksJ12_copyOfRange_0 6 rfl rfl)
theorem dJ12_copyOfRange_7 : decode cJ12_copyOfRange 7 = .ok (.if_icmp .eq 10, 3) := dk_159 0 10 (dk_at dksJ12_copyOfRange_0 7 rfl rfl)
theorem dJ12_copyOfRange_10 : decode cJ12_copyOfRange 10 = .ok (.aload_n 0, 1) := dk_42 (dk_at dksJ12_copyOfRange_0 10 rfl rfl)
theorem dJ12_copyOfRange_11 : decode cJ12_copyOfRange 11 = .ok (.iload_n 1, 1) := dk_27 (dk_at dksJ12_copyOfRange_0 11 rfl rfl)
theorem dJ12_copyOfRange_12 : decode cJ12_copyOfRange 12 = .ok (.iload_n 2, 1) := dk_28 (dk_at dksJ12_copyOfRange_0 12 rfl rfl)
theorem dJ12_copyOfRange_13 : decode cJ12_copyOfRange 13 = .ok (.invokestatic 339, 3) := dk_184 1 83 (dk_at dksJ12_copyOfRange_0 13 rfl rfl)
theorem dJ12_copyOfRange_16 : decode cJ12_copyOfRange 16 = .ok (.areturn, 1) := dk_176 (dk_at dksJ12_copyOfRange_0 16 rfl rfl)
theorem dJ12_copyOfRange_17 : decode cJ12_copyOfRange 17 = .ok (.aload_n 0, 1) := dk_42 (dk_at dksJ12_copyOfRange_0 17 rfl rfl)
theorem dJ12_copyOfRange_18 : decode cJ12_copyOfRange 18 = .ok (.invokevirtual 310, 3) := dk_182 1 54 (dk_at dksJ12_copyOfRange_0 18 rfl rfl)
theorem dJ12_copyOfRange_21 : decode cJ12_copyOfRange 21 = .ok (.checkcast 311, 3) := dk_192 1 55 (dk_at dksJ12_copyOfRange_0 21 rfl rfl)
theorem dJ12_copyOfRange_24 : decode cJ12_copyOfRange 24 = .ok (.areturn, 1) := dk_176 (dk_at dksJ12_copyOfRange_1 0 rfl rfl)
abbrev cJ12_copyOfRangeByte : ByteArray := prog_57_method_133_code
def yJ12_copyOfRangeByte : MethodName := ⟨RJ12, "copyOfRangeByte", "([BII)[B"⟩
def dkwJ12_copyOfRangeByte_1 : List UInt8 := [184, 1, 48, 184, 0, 150, 25, 4, 176]
abbrev dktJ12_copyOfRangeByte_1 : List UInt8 := dkwJ12_copyOfRangeByte_1 ++ []
def dkwJ12_copyOfRangeByte_0 : List UInt8 := [27, 28, 184, 1, 87, 28, 27, 100, 62, 29, 188, 8, 58, 4, 42, 27, 25, 4, 3, 42, 190, 27, 100, 29]
abbrev dktJ12_copyOfRangeByte_0 : List UInt8 := dkwJ12_copyOfRangeByte_0 ++ dktJ12_copyOfRangeByte_1
theorem dksJ12_copyOfRangeByte_0 : cJ12_copyOfRangeByte.data.toList.drop 0 = dktJ12_copyOfRangeByte_0 := by decide +kernel
theorem dksJ12_copyOfRangeByte_1 : cJ12_copyOfRangeByte.data.toList.drop 24 = dktJ12_copyOfRangeByte_1 := dk_seg dksJ12_copyOfRangeByte_0 24 rfl rfl
theorem dJ12_copyOfRangeByte_0 : decode cJ12_copyOfRangeByte 0 = .ok (.iload_n 1, 1) := dk_27 (dk_at dksJ12_copyOfRangeByte_0 0 rfl rfl)
theorem dJ12_copyOfRangeByte_1 : decode cJ12_copyOfRangeByte 1 = .ok (.iload_n 2, 1) := dk_28 (dk_at dksJ12_copyOfRangeByte_0 1 rfl rfl)
theorem dJ12_copyOfRangeByte_2 : decode cJ12_copyOfRangeByte 2 = .ok (.invokestatic 343, 3) := dk_184 1 87 (dk_at dksJ12_copyOfRangeByte_0 2 rfl rfl)
theorem dJ12_copyOfRangeByte_5 : decode cJ12_copyOfRangeByte 5 = .ok (.iload_n 2, 1) := dk_28 (dk_at dksJ12_copyOfRangeByte_0 5 rfl rfl)
theorem dJ12_copyOfRangeByte_6 : decode cJ12_copyOfRangeByte 6 = .ok (.iload_n 1, 1) := dk_27 (dk_at dksJ12_copyOfRangeByte_0 6 rfl rfl)
theorem dJ12_copyOfRangeByte_7 : decode cJ12_copyOfRangeByte 7 = .ok (.isub, 1) := dk_100 (dk_at dksJ12_copyOfRangeByte_0 7 rfl rfl)
theorem dJ12_copyOfRangeByte_8 : decode cJ12_copyOfRangeByte 8 = .ok (.istore_n 3, 1) := dk_62 (dk_at dksJ12_copyOfRangeByte_0 8 rfl rfl)
theorem dJ12_copyOfRangeByte_9 : decode cJ12_copyOfRangeByte 9 = .ok (.iload_n 3, 1) := dk_29 (dk_at dksJ12_copyOfRangeByte_0 9 rfl rfl)
theorem dJ12_copyOfRangeByte_10 : decode cJ12_copyOfRangeByte 10 = .ok (.newarray .byte, 2) := dk_188_8 (dk_at dksJ12_copyOfRangeByte_0 10 rfl rfl)
theorem dJ12_copyOfRangeByte_12 : decode cJ12_copyOfRangeByte 12 = .ok (.astore 4, 2) := dk_58 4 (dk_at dksJ12_copyOfRangeByte_0 12 rfl rfl)
theorem dJ12_copyOfRangeByte_14 : decode cJ12_copyOfRangeByte 14 = .ok (.aload_n 0, 1) := dk_42 (dk_at dksJ12_copyOfRangeByte_0 14 rfl rfl)
theorem dJ12_copyOfRangeByte_15 : decode cJ12_copyOfRangeByte 15 = .ok (.iload_n 1, 1) := dk_27 (dk_at dksJ12_copyOfRangeByte_0 15 rfl rfl)
theorem dJ12_copyOfRangeByte_16 : decode cJ12_copyOfRangeByte 16 = .ok (.aload 4, 2) := dk_25 4 (dk_at dksJ12_copyOfRangeByte_0 16 rfl rfl)
theorem dJ12_copyOfRangeByte_18 : decode cJ12_copyOfRangeByte 18 = .ok (.iconst 0, 1) := dk_3 (dk_at dksJ12_copyOfRangeByte_0 18 rfl rfl)
theorem dJ12_copyOfRangeByte_19 : decode cJ12_copyOfRangeByte 19 = .ok (.aload_n 0, 1) := dk_42 (dk_at dksJ12_copyOfRangeByte_0 19 rfl rfl)
theorem dJ12_copyOfRangeByte_20 : decode cJ12_copyOfRangeByte 20 = .ok (.arraylength, 1) := dk_190 (dk_at dksJ12_copyOfRangeByte_0 20 rfl rfl)
theorem dJ12_copyOfRangeByte_21 : decode cJ12_copyOfRangeByte 21 = .ok (.iload_n 1, 1) := dk_27 (dk_at dksJ12_copyOfRangeByte_0 21 rfl rfl)
theorem dJ12_copyOfRangeByte_22 : decode cJ12_copyOfRangeByte 22 = .ok (.isub, 1) := dk_100 (dk_at dksJ12_copyOfRangeByte_0 22 rfl rfl)
theorem dJ12_copyOfRangeByte_23 : decode cJ12_copyOfRangeByte 23 = .ok (.iload_n 3, 1) := dk_29 (dk_at dksJ12_copyOfRangeByte_0 23 rfl rfl)
theorem dJ12_copyOfRangeByte_24 : decode cJ12_copyOfRangeByte 24 = .ok (.invokestatic 304, 3) := dk_184 1 48 (dk_at dksJ12_copyOfRangeByte_1 0 rfl rfl)
theorem dJ12_copyOfRangeByte_27 : decode cJ12_copyOfRangeByte 27 = .ok (.invokestatic 150, 3) := dk_184 0 150 (dk_at dksJ12_copyOfRangeByte_1 3 rfl rfl)
theorem dJ12_copyOfRangeByte_30 : decode cJ12_copyOfRangeByte 30 = .ok (.aload 4, 2) := dk_25 4 (dk_at dksJ12_copyOfRangeByte_1 6 rfl rfl)
theorem dJ12_copyOfRangeByte_32 : decode cJ12_copyOfRangeByte 32 = .ok (.areturn, 1) := dk_176 (dk_at dksJ12_copyOfRangeByte_1 8 rfl rfl)
abbrev cJ12_checkLength : ByteArray := prog_57_method_131_code
def yJ12_checkLength : MethodName := ⟨RJ12, "checkLength", "(II)V"⟩
def dkwJ12_checkLength_1 : List UInt8 := [182, 0, 50, 27, 182, 0, 54, 182, 0, 61, 183, 0, 65, 191, 177]
abbrev dktJ12_checkLength_1 : List UInt8 := dkwJ12_checkLength_1 ++ []
def dkwJ12_checkLength_0 : List UInt8 := [27, 26, 162, 0, 35, 187, 0, 43, 89, 187, 0, 45, 89, 183, 0, 47, 26, 182, 0, 54, 19, 1, 81]
abbrev dktJ12_checkLength_0 : List UInt8 := dkwJ12_checkLength_0 ++ dktJ12_checkLength_1
theorem dksJ12_checkLength_0 : cJ12_checkLength.data.toList.drop 0 = dktJ12_checkLength_0 := by decide +kernel
theorem dksJ12_checkLength_1 : cJ12_checkLength.data.toList.drop 23 = dktJ12_checkLength_1 := dk_seg dksJ12_checkLength_0 23 rfl rfl
theorem dJ12_checkLength_0 : decode cJ12_checkLength 0 = .ok (.iload_n 1, 1) := dk_27 (dk_at dksJ12_checkLength_0 0 rfl rfl)
theorem dJ12_checkLength_1 : decode cJ12_checkLength 1 = .ok (.iload_n 0, 1) := dk_26 (dk_at dksJ12_checkLength_0 1 rfl rfl)
theorem dJ12_checkLength_2 : decode cJ12_checkLength 2 = .ok (.if_icmp .ge 35, 3) := dk_162 0 35 (dk_at dksJ12_checkLength_0 2 rfl rfl)
theorem dJ12_checkLength_5 : decode cJ12_checkLength 5 = .ok (.new 43, 3) := dk_187 0 43 (dk_at dksJ12_checkLength_0 5 rfl rfl)
theorem dJ12_checkLength_8 : decode cJ12_checkLength 8 = .ok (.dup, 1) := dk_89 (dk_at dksJ12_checkLength_0 8 rfl rfl)
theorem dJ12_checkLength_9 : decode cJ12_checkLength 9 = .ok (.new 45, 3) := dk_187 0 45 (dk_at dksJ12_checkLength_0 9 rfl rfl)
theorem dJ12_checkLength_12 : decode cJ12_checkLength 12 = .ok (.dup, 1) := dk_89 (dk_at dksJ12_checkLength_0 12 rfl rfl)
theorem dJ12_checkLength_13 : decode cJ12_checkLength 13 = .ok (.invokespecial 47, 3) := dk_183 0 47 (dk_at dksJ12_checkLength_0 13 rfl rfl)
theorem dJ12_checkLength_16 : decode cJ12_checkLength 16 = .ok (.iload_n 0, 1) := dk_26 (dk_at dksJ12_checkLength_0 16 rfl rfl)
theorem dJ12_checkLength_17 : decode cJ12_checkLength 17 = .ok (.invokevirtual 54, 3) := dk_182 0 54 (dk_at dksJ12_checkLength_0 17 rfl rfl)
theorem dJ12_checkLength_20 : decode cJ12_checkLength 20 = .ok (.ldc_w 337, 3) := dk_19 1 81 (dk_at dksJ12_checkLength_0 20 rfl rfl)
theorem dJ12_checkLength_23 : decode cJ12_checkLength 23 = .ok (.invokevirtual 50, 3) := dk_182 0 50 (dk_at dksJ12_checkLength_1 0 rfl rfl)
theorem dJ12_checkLength_26 : decode cJ12_checkLength 26 = .ok (.iload_n 1, 1) := dk_27 (dk_at dksJ12_checkLength_1 3 rfl rfl)
theorem dJ12_checkLength_27 : decode cJ12_checkLength 27 = .ok (.invokevirtual 54, 3) := dk_182 0 54 (dk_at dksJ12_checkLength_1 4 rfl rfl)
theorem dJ12_checkLength_30 : decode cJ12_checkLength 30 = .ok (.invokevirtual 61, 3) := dk_182 0 61 (dk_at dksJ12_checkLength_1 7 rfl rfl)
theorem dJ12_checkLength_33 : decode cJ12_checkLength 33 = .ok (.invokespecial 65, 3) := dk_183 0 65 (dk_at dksJ12_checkLength_1 10 rfl rfl)
theorem dJ12_checkLength_36 : decode cJ12_checkLength 36 = .ok (.athrow, 1) := dk_191 (dk_at dksJ12_checkLength_1 13 rfl rfl)
theorem dJ12_checkLength_37 : decode cJ12_checkLength 37 = .ok (.return_, 1) := dk_177 (dk_at dksJ12_checkLength_1 14 rfl rfl)
abbrev cJ12_fill : ByteArray := prog_57_method_110_code
def yJ12_fill : MethodName := ⟨RJ12, "fill", "([BIIB)V"⟩
def dkwJ12_fill_1 : List UInt8 := [167, 255, 242, 177]
abbrev dktJ12_fill_1 : List UInt8 := dkwJ12_fill_1 ++ []
def dkwJ12_fill_0 : List UInt8 := [42, 190, 27, 28, 184, 0, 13, 27, 54, 4, 21, 4, 28, 162, 0, 14, 42, 21, 4, 29, 84, 132, 4, 1]
abbrev dktJ12_fill_0 : List UInt8 := dkwJ12_fill_0 ++ dktJ12_fill_1
theorem dksJ12_fill_0 : cJ12_fill.data.toList.drop 0 = dktJ12_fill_0 := by decide +kernel
theorem dksJ12_fill_1 : cJ12_fill.data.toList.drop 24 = dktJ12_fill_1 := dk_seg dksJ12_fill_0 24 rfl rfl
theorem dJ12_fill_0 : decode cJ12_fill 0 = .ok (.aload_n 0, 1) := dk_42 (dk_at dksJ12_fill_0 0 rfl rfl)
theorem dJ12_fill_1 : decode cJ12_fill 1 = .ok (.arraylength, 1) := dk_190 (dk_at dksJ12_fill_0 1 rfl rfl)
theorem dJ12_fill_2 : decode cJ12_fill 2 = .ok (.iload_n 1, 1) := dk_27 (dk_at dksJ12_fill_0 2 rfl rfl)
theorem dJ12_fill_3 : decode cJ12_fill 3 = .ok (.iload_n 2, 1) := dk_28 (dk_at dksJ12_fill_0 3 rfl rfl)
theorem dJ12_fill_4 : decode cJ12_fill 4 = .ok (.invokestatic 13, 3) := dk_184 0 13 (dk_at dksJ12_fill_0 4 rfl rfl)
theorem dJ12_fill_7 : decode cJ12_fill 7 = .ok (.iload_n 1, 1) := dk_27 (dk_at dksJ12_fill_0 7 rfl rfl)
theorem dJ12_fill_8 : decode cJ12_fill 8 = .ok (.istore 4, 2) := dk_54 4 (dk_at dksJ12_fill_0 8 rfl rfl)
theorem dJ12_fill_10 : decode cJ12_fill 10 = .ok (.iload 4, 2) := dk_21 4 (dk_at dksJ12_fill_0 10 rfl rfl)
theorem dJ12_fill_12 : decode cJ12_fill 12 = .ok (.iload_n 2, 1) := dk_28 (dk_at dksJ12_fill_0 12 rfl rfl)
theorem dJ12_fill_13 : decode cJ12_fill 13 = .ok (.if_icmp .ge 14, 3) := dk_162 0 14 (dk_at dksJ12_fill_0 13 rfl rfl)
theorem dJ12_fill_16 : decode cJ12_fill 16 = .ok (.aload_n 0, 1) := dk_42 (dk_at dksJ12_fill_0 16 rfl rfl)
theorem dJ12_fill_17 : decode cJ12_fill 17 = .ok (.iload 4, 2) := dk_21 4 (dk_at dksJ12_fill_0 17 rfl rfl)
theorem dJ12_fill_19 : decode cJ12_fill 19 = .ok (.iload_n 3, 1) := dk_29 (dk_at dksJ12_fill_0 19 rfl rfl)
theorem dJ12_fill_20 : decode cJ12_fill 20 = .ok (.bastore, 1) := dk_84 (dk_at dksJ12_fill_0 20 rfl rfl)
theorem dJ12_fill_21 : decode cJ12_fill 21 = .ok (.iinc 4 1, 3) := dk_132 4 1 (dk_at dksJ12_fill_0 21 rfl rfl)
theorem dJ12_fill_24 : decode cJ12_fill 24 = .ok (.goto (-14), 3) := dk_167 255 242 (dk_at dksJ12_fill_1 0 rfl rfl)
theorem dJ12_fill_27 : decode cJ12_fill 27 = .ok (.return_, 1) := dk_177 (dk_at dksJ12_fill_1 3 rfl rfl)
abbrev cJ12_rangeCheck : ByteArray := prog_57_method_30_code
def yJ12_rangeCheck : MethodName := ⟨RJ12, "rangeCheck", "(III)V"⟩
def dkwJ12_rangeCheck_3 : List UInt8 := [183, 0, 70, 191, 177]
abbrev dktJ12_rangeCheck_3 : List UInt8 := dkwJ12_rangeCheck_3 ++ []
def dkwJ12_rangeCheck_2 : List UInt8 := [27, 156, 0, 12, 187, 0, 68, 89, 27, 183, 0, 70, 191, 28, 26, 164, 0, 12, 187, 0, 68, 89, 28]
abbrev dktJ12_rangeCheck_2 : List UInt8 := dkwJ12_rangeCheck_2 ++ dktJ12_rangeCheck_3
def dkwJ12_rangeCheck_1 : List UInt8 := [182, 0, 54, 18, 57, 182, 0, 50, 28, 182, 0, 54, 18, 59, 182, 0, 50, 182, 0, 61, 183, 0, 65, 191]
abbrev dktJ12_rangeCheck_1 : List UInt8 := dkwJ12_rangeCheck_1 ++ dktJ12_rangeCheck_2
def dkwJ12_rangeCheck_0 : List UInt8 := [27, 28, 164, 0, 44, 187, 0, 43, 89, 187, 0, 45, 89, 183, 0, 47, 18, 48, 182, 0, 50, 27]
abbrev dktJ12_rangeCheck_0 : List UInt8 := dkwJ12_rangeCheck_0 ++ dktJ12_rangeCheck_1
theorem dksJ12_rangeCheck_0 : cJ12_rangeCheck.data.toList.drop 0 = dktJ12_rangeCheck_0 := by decide +kernel
theorem dksJ12_rangeCheck_1 : cJ12_rangeCheck.data.toList.drop 22 = dktJ12_rangeCheck_1 := dk_seg dksJ12_rangeCheck_0 22 rfl rfl
theorem dksJ12_rangeCheck_2 : cJ12_rangeCheck.data.toList.drop 46 = dktJ12_rangeCheck_2 := dk_seg dksJ12_rangeCheck_1 24 rfl rfl
theorem dksJ12_rangeCheck_3 : cJ12_rangeCheck.data.toList.drop 69 = dktJ12_rangeCheck_3 := dk_seg dksJ12_rangeCheck_2 23 rfl rfl
theorem dJ12_rangeCheck_0 : decode cJ12_rangeCheck 0 = .ok (.iload_n 1, 1) := dk_27 (dk_at dksJ12_rangeCheck_0 0 rfl rfl)
theorem dJ12_rangeCheck_1 : decode cJ12_rangeCheck 1 = .ok (.iload_n 2, 1) := dk_28 (dk_at dksJ12_rangeCheck_0 1 rfl rfl)
theorem dJ12_rangeCheck_2 : decode cJ12_rangeCheck 2 = .ok (.if_icmp .le 44, 3) := dk_164 0 44 (dk_at dksJ12_rangeCheck_0 2 rfl rfl)
theorem dJ12_rangeCheck_5 : decode cJ12_rangeCheck 5 = .ok (.new 43, 3) := dk_187 0 43 (dk_at dksJ12_rangeCheck_0 5 rfl rfl)
theorem dJ12_rangeCheck_8 : decode cJ12_rangeCheck 8 = .ok (.dup, 1) := dk_89 (dk_at dksJ12_rangeCheck_0 8 rfl rfl)
theorem dJ12_rangeCheck_9 : decode cJ12_rangeCheck 9 = .ok (.new 45, 3) := dk_187 0 45 (dk_at dksJ12_rangeCheck_0 9 rfl rfl)
theorem dJ12_rangeCheck_12 : decode cJ12_rangeCheck 12 = .ok (.dup, 1) := dk_89 (dk_at dksJ12_rangeCheck_0 12 rfl rfl)
theorem dJ12_rangeCheck_13 : decode cJ12_rangeCheck 13 = .ok (.invokespecial 47, 3) := dk_183 0 47 (dk_at dksJ12_rangeCheck_0 13 rfl rfl)
theorem dJ12_rangeCheck_16 : decode cJ12_rangeCheck 16 = .ok (.ldc 48, 2) := dk_18 48 (dk_at dksJ12_rangeCheck_0 16 rfl rfl)
theorem dJ12_rangeCheck_18 : decode cJ12_rangeCheck 18 = .ok (.invokevirtual 50, 3) := dk_182 0 50 (dk_at dksJ12_rangeCheck_0 18 rfl rfl)
theorem dJ12_rangeCheck_21 : decode cJ12_rangeCheck 21 = .ok (.iload_n 1, 1) := dk_27 (dk_at dksJ12_rangeCheck_0 21 rfl rfl)
theorem dJ12_rangeCheck_22 : decode cJ12_rangeCheck 22 = .ok (.invokevirtual 54, 3) := dk_182 0 54 (dk_at dksJ12_rangeCheck_1 0 rfl rfl)
theorem dJ12_rangeCheck_25 : decode cJ12_rangeCheck 25 = .ok (.ldc 57, 2) := dk_18 57 (dk_at dksJ12_rangeCheck_1 3 rfl rfl)
theorem dJ12_rangeCheck_27 : decode cJ12_rangeCheck 27 = .ok (.invokevirtual 50, 3) := dk_182 0 50 (dk_at dksJ12_rangeCheck_1 5 rfl rfl)
theorem dJ12_rangeCheck_30 : decode cJ12_rangeCheck 30 = .ok (.iload_n 2, 1) := dk_28 (dk_at dksJ12_rangeCheck_1 8 rfl rfl)
theorem dJ12_rangeCheck_31 : decode cJ12_rangeCheck 31 = .ok (.invokevirtual 54, 3) := dk_182 0 54 (dk_at dksJ12_rangeCheck_1 9 rfl rfl)
theorem dJ12_rangeCheck_34 : decode cJ12_rangeCheck 34 = .ok (.ldc 59, 2) := dk_18 59 (dk_at dksJ12_rangeCheck_1 12 rfl rfl)
theorem dJ12_rangeCheck_36 : decode cJ12_rangeCheck 36 = .ok (.invokevirtual 50, 3) := dk_182 0 50 (dk_at dksJ12_rangeCheck_1 14 rfl rfl)
theorem dJ12_rangeCheck_39 : decode cJ12_rangeCheck 39 = .ok (.invokevirtual 61, 3) := dk_182 0 61 (dk_at dksJ12_rangeCheck_1 17 rfl rfl)
theorem dJ12_rangeCheck_42 : decode cJ12_rangeCheck 42 = .ok (.invokespecial 65, 3) := dk_183 0 65 (dk_at dksJ12_rangeCheck_1 20 rfl rfl)
theorem dJ12_rangeCheck_45 : decode cJ12_rangeCheck 45 = .ok (.athrow, 1) := dk_191 (dk_at dksJ12_rangeCheck_1 23 rfl rfl)
theorem dJ12_rangeCheck_46 : decode cJ12_rangeCheck 46 = .ok (.iload_n 1, 1) := dk_27 (dk_at dksJ12_rangeCheck_2 0 rfl rfl)
theorem dJ12_rangeCheck_47 : decode cJ12_rangeCheck 47 = .ok (.ifCond .ge 12, 3) := dk_156 0 12 (dk_at dksJ12_rangeCheck_2 1 rfl rfl)
theorem dJ12_rangeCheck_50 : decode cJ12_rangeCheck 50 = .ok (.new 68, 3) := dk_187 0 68 (dk_at dksJ12_rangeCheck_2 4 rfl rfl)
theorem dJ12_rangeCheck_53 : decode cJ12_rangeCheck 53 = .ok (.dup, 1) := dk_89 (dk_at dksJ12_rangeCheck_2 7 rfl rfl)
theorem dJ12_rangeCheck_54 : decode cJ12_rangeCheck 54 = .ok (.iload_n 1, 1) := dk_27 (dk_at dksJ12_rangeCheck_2 8 rfl rfl)
theorem dJ12_rangeCheck_55 : decode cJ12_rangeCheck 55 = .ok (.invokespecial 70, 3) := dk_183 0 70 (dk_at dksJ12_rangeCheck_2 9 rfl rfl)
theorem dJ12_rangeCheck_58 : decode cJ12_rangeCheck 58 = .ok (.athrow, 1) := dk_191 (dk_at dksJ12_rangeCheck_2 12 rfl rfl)
theorem dJ12_rangeCheck_59 : decode cJ12_rangeCheck 59 = .ok (.iload_n 2, 1) := dk_28 (dk_at dksJ12_rangeCheck_2 13 rfl rfl)
theorem dJ12_rangeCheck_60 : decode cJ12_rangeCheck 60 = .ok (.iload_n 0, 1) := dk_26 (dk_at dksJ12_rangeCheck_2 14 rfl rfl)
theorem dJ12_rangeCheck_61 : decode cJ12_rangeCheck 61 = .ok (.if_icmp .le 12, 3) := dk_164 0 12 (dk_at dksJ12_rangeCheck_2 15 rfl rfl)
theorem dJ12_rangeCheck_64 : decode cJ12_rangeCheck 64 = .ok (.new 68, 3) := dk_187 0 68 (dk_at dksJ12_rangeCheck_2 18 rfl rfl)
theorem dJ12_rangeCheck_67 : decode cJ12_rangeCheck 67 = .ok (.dup, 1) := dk_89 (dk_at dksJ12_rangeCheck_2 21 rfl rfl)
theorem dJ12_rangeCheck_68 : decode cJ12_rangeCheck 68 = .ok (.iload_n 2, 1) := dk_28 (dk_at dksJ12_rangeCheck_2 22 rfl rfl)
theorem dJ12_rangeCheck_69 : decode cJ12_rangeCheck 69 = .ok (.invokespecial 70, 3) := dk_183 0 70 (dk_at dksJ12_rangeCheck_3 0 rfl rfl)
theorem dJ12_rangeCheck_72 : decode cJ12_rangeCheck 72 = .ok (.athrow, 1) := dk_191 (dk_at dksJ12_rangeCheck_3 3 rfl rfl)
theorem dJ12_rangeCheck_73 : decode cJ12_rangeCheck 73 = .ok (.return_, 1) := dk_177 (dk_at dksJ12_rangeCheck_3 4 rfl rfl)
theorem q119 : (Jvm.Cond.initialized "java/util/Arrays") ∈ lw_all := lw_g (lw_at lw_m1 21 rfl) rfl
theorem q797 : (Jvm.Cond.static ({ cls := "java/util/Arrays", name := "copyOf", desc := "([Ljava/lang/Object;I)[Ljava/lang/Object;" } : Jvm.MethodName)) ∈ lw_all := lw_g (lw_at lw_m3 219 rfl) rfl
theorem q798 : (Jvm.Cond.code ({ cls := "java/util/Arrays", name := "copyOf", desc := "([Ljava/lang/Object;I)[Ljava/lang/Object;" } : Jvm.MethodName) prog_57_method_119_code (2 : Nat) (Option.some (Jvm.ClassFile.FieldType.array (Jvm.ClassFile.FieldType.object "java/lang/Object")))) ∈ lw_all := lw_g (lw_at lw_m3 220 rfl) rfl
theorem q799 : (Jvm.Cond.methodLink "java/util/Arrays" (86 : Nat) ({ cls := "java/lang/Object", name := "getClass", desc := "()Ljava/lang/Class;" } : Jvm.MethodName)) ∈ lw_all := lw_g (lw_at lw_m3 221 rfl) rfl
theorem q836 : (Jvm.Cond.methodLink "java/util/Arrays" (300 : Nat) ({ cls := "java/util/Arrays", name := "copyOf", desc := "([Ljava/lang/Object;ILjava/lang/Class;)[Ljava/lang/Object;" } : Jvm.MethodName)) ∈ lw_all := lw_g (lw_at lw_m4 18 rfl) rfl
theorem q837 : (Jvm.Cond.static ({ cls := "java/util/Arrays", name := "copyOf", desc := "([Ljava/lang/Object;ILjava/lang/Class;)[Ljava/lang/Object;" } : Jvm.MethodName)) ∈ lw_all := lw_g (lw_at lw_m4 19 rfl) rfl
theorem q838 : (Jvm.Cond.code ({ cls := "java/util/Arrays", name := "copyOf", desc := "([Ljava/lang/Object;ILjava/lang/Class;)[Ljava/lang/Object;" } : Jvm.MethodName) prog_57_method_120_code (4 : Nat) (Option.some (Jvm.ClassFile.FieldType.array (Jvm.ClassFile.FieldType.object "java/lang/Object")))) ∈ lw_all := lw_g (lw_at lw_m4 20 rfl) rfl
theorem q839 : (Jvm.Cond.classLink "java/util/Arrays" (110 : Nat) "[Ljava/lang/Object;") ∈ lw_all := lw_g (lw_at lw_m4 21 rfl) rfl
theorem q840 : (Jvm.Cond.classLink "java/util/Arrays" (2 : Nat) "java/lang/Object") ∈ lw_all := lw_g (lw_at lw_m4 22 rfl) rfl
theorem q841 : (Jvm.Cond.methodLink "java/util/Arrays" (304 : Nat) ({ cls := "java/lang/Math", name := "min", desc := "(II)I" } : Jvm.MethodName)) ∈ lw_all := lw_g (lw_at lw_m4 23 rfl) rfl
theorem q844 : (Jvm.Cond.methodLink "java/util/Arrays" (150 : Nat) ({ cls := "java/lang/System", name := "arraycopy", desc := "(Ljava/lang/Object;ILjava/lang/Object;II)V" } : Jvm.MethodName)) ∈ lw_all := lw_g (lw_at lw_m4 26 rfl) rfl
theorem q1015 : (Jvm.Cond.static ({ cls := "java/util/Arrays", name := "copyOf", desc := "([BI)[B" } : Jvm.MethodName)) ∈ lw_all := lw_g (lw_at lw_m4 197 rfl) rfl
theorem q1016 : (Jvm.Cond.code ({ cls := "java/util/Arrays", name := "copyOf", desc := "([BI)[B" } : Jvm.MethodName) prog_57_method_121_code (3 : Nat) (Option.some (Jvm.ClassFile.FieldType.array Jvm.ClassFile.FieldType.byte))) ∈ lw_all := lw_g (lw_at lw_m4 198 rfl) rfl
theorem q1017 : (Jvm.Cond.methodLink "java/util/Arrays" (310 : Nat) ({ cls := "[B", name := "clone", desc := "()Ljava/lang/Object;" } : Jvm.MethodName)) ∈ lw_all := lw_g (lw_at lw_m4 199 rfl) rfl
theorem q1023 : (Jvm.Cond.classLink "java/util/Arrays" (311 : Nat) "[B") ∈ lw_all := lw_g (lw_at lw_m4 205 rfl) rfl
theorem q1082 : (Jvm.Cond.static ({ cls := "java/util/Arrays", name := "copyOfRange", desc := "([BII)[B" } : Jvm.MethodName)) ∈ lw_all := lw_g (lw_at lw_m5 24 rfl) rfl
theorem q1083 : (Jvm.Cond.code ({ cls := "java/util/Arrays", name := "copyOfRange", desc := "([BII)[B" } : Jvm.MethodName) prog_57_method_132_code (3 : Nat) (Option.some (Jvm.ClassFile.FieldType.array Jvm.ClassFile.FieldType.byte))) ∈ lw_all := lw_g (lw_at lw_m5 25 rfl) rfl
theorem q1084 : (Jvm.Cond.methodLink "java/util/Arrays" (339 : Nat) ({ cls := "java/util/Arrays", name := "copyOfRangeByte", desc := "([BII)[B" } : Jvm.MethodName)) ∈ lw_all := lw_g (lw_at lw_m5 26 rfl) rfl
theorem q1085 : (Jvm.Cond.static ({ cls := "java/util/Arrays", name := "copyOfRangeByte", desc := "([BII)[B" } : Jvm.MethodName)) ∈ lw_all := lw_g (lw_at lw_m5 27 rfl) rfl
theorem q1086 : (Jvm.Cond.code ({ cls := "java/util/Arrays", name := "copyOfRangeByte", desc := "([BII)[B" } : Jvm.MethodName) prog_57_method_133_code (5 : Nat) (Option.some (Jvm.ClassFile.FieldType.array Jvm.ClassFile.FieldType.byte))) ∈ lw_all := lw_g (lw_at lw_m5 28 rfl) rfl
theorem q1087 : (Jvm.Cond.methodLink "java/util/Arrays" (343 : Nat) ({ cls := "java/util/Arrays", name := "checkLength", desc := "(II)V" } : Jvm.MethodName)) ∈ lw_all := lw_g (lw_at lw_m5 29 rfl) rfl
theorem q1088 : (Jvm.Cond.static ({ cls := "java/util/Arrays", name := "checkLength", desc := "(II)V" } : Jvm.MethodName)) ∈ lw_all := lw_g (lw_at lw_m5 30 rfl) rfl
theorem q1089 : (Jvm.Cond.code ({ cls := "java/util/Arrays", name := "checkLength", desc := "(II)V" } : Jvm.MethodName) prog_57_method_131_code (2 : Nat) (Option.none : Option Jvm.ClassFile.FieldType)) ∈ lw_all := lw_g (lw_at lw_m5 31 rfl) rfl
theorem q1090 : (Jvm.Cond.classLink "java/util/Arrays" (43 : Nat) "java/lang/IllegalArgumentException") ∈ lw_all := lw_g (lw_at lw_m5 32 rfl) rfl
theorem q1091 : (Jvm.Cond.classLink "java/util/Arrays" (45 : Nat) "java/lang/StringBuilder") ∈ lw_all := lw_g (lw_at lw_m5 33 rfl) rfl
theorem q1092 : (Jvm.Cond.methodLink "java/util/Arrays" (47 : Nat) ({ cls := "java/lang/StringBuilder", name := "<init>", desc := "()V" } : Jvm.MethodName)) ∈ lw_all := lw_g (lw_at lw_m5 34 rfl) rfl
theorem q1093 : (Jvm.Cond.methodLink "java/util/Arrays" (54 : Nat) ({ cls := "java/lang/StringBuilder", name := "append", desc := "(I)Ljava/lang/StringBuilder;" } : Jvm.MethodName)) ∈ lw_all := lw_g (lw_at lw_m5 35 rfl) rfl
theorem q1127 : (Jvm.Cond.stringRef "java/util/Arrays" (337 : Nat) " > ") ∈ lw_tbl := lw_at lw_m5 69 rfl
theorem q1128 : (Jvm.Cond.methodLink "java/util/Arrays" (50 : Nat) ({ cls := "java/lang/StringBuilder", name := "append", desc := "(Ljava/lang/String;)Ljava/lang/StringBuilder;" } : Jvm.MethodName)) ∈ lw_all := lw_g (lw_at lw_m5 70 rfl) rfl
theorem q1166 : (Jvm.Cond.methodLink "java/util/Arrays" (61 : Nat) ({ cls := "java/lang/StringBuilder", name := "toString", desc := "()Ljava/lang/String;" } : Jvm.MethodName)) ∈ lw_all := lw_g (lw_at lw_m5 108 rfl) rfl
theorem q1167 : (Jvm.Cond.methodLink "java/util/Arrays" (65 : Nat) ({ cls := "java/lang/IllegalArgumentException", name := "<init>", desc := "(Ljava/lang/String;)V" } : Jvm.MethodName)) ∈ lw_all := lw_g (lw_at lw_m5 109 rfl) rfl
theorem q2498 : (Jvm.Cond.static ({ cls := "java/util/Arrays", name := "fill", desc := "([BIIB)V" } : Jvm.MethodName)) ∈ lw_all := lw_g (lw_at lw_m11 0 rfl) rfl
theorem q2499 : (Jvm.Cond.code ({ cls := "java/util/Arrays", name := "fill", desc := "([BIIB)V" } : Jvm.MethodName) prog_57_method_110_code (5 : Nat) (Option.none : Option Jvm.ClassFile.FieldType)) ∈ lw_all := lw_g (lw_at lw_m11 1 rfl) rfl
theorem q2500 : (Jvm.Cond.methodLink "java/util/Arrays" (13 : Nat) ({ cls := "java/util/Arrays", name := "rangeCheck", desc := "(III)V" } : Jvm.MethodName)) ∈ lw_all := lw_g (lw_at lw_m11 2 rfl) rfl
theorem q2501 : (Jvm.Cond.static ({ cls := "java/util/Arrays", name := "rangeCheck", desc := "(III)V" } : Jvm.MethodName)) ∈ lw_all := lw_g (lw_at lw_m11 3 rfl) rfl
theorem q2502 : (Jvm.Cond.code ({ cls := "java/util/Arrays", name := "rangeCheck", desc := "(III)V" } : Jvm.MethodName) prog_57_method_30_code (3 : Nat) (Option.none : Option Jvm.ClassFile.FieldType)) ∈ lw_all := lw_g (lw_at lw_m11 4 rfl) rfl
theorem q2503 : (Jvm.Cond.stringRef "java/util/Arrays" (48 : Nat) "fromIndex(") ∈ lw_tbl := lw_at lw_m11 5 rfl
theorem q2504 : (Jvm.Cond.stringRef "java/util/Arrays" (57 : Nat) ") > toIndex(") ∈ lw_tbl := lw_at lw_m11 6 rfl
theorem q2505 : (Jvm.Cond.stringRef "java/util/Arrays" (59 : Nat) ")") ∈ lw_tbl := lw_at lw_m11 7 rfl
/-! java/lang/StringLatin1 -/
set_option maxRecDepth 100000
def RJ13 : String := "java/lang/StringLatin1"
abbrev cJ13_canEncode : ByteArray := prog_43_method_3_code
def yJ13_canEncode : MethodName := ⟨RJ13, "canEncode", "(C)Z"⟩
def dkwJ13_canEncode_0 : List UInt8 := [26, 17, 0, 255, 163, 0, 7, 4, 167, 0, 4, 3, 172]
abbrev dktJ13_canEncode_0 : List UInt8 := dkwJ13_canEncode_0 ++ []
theorem dksJ13_canEncode_0 : cJ13_canEncode.data.toList.drop 0 = dktJ13_canEncode_0 := by decide +kernel
theorem dJ13_canEncode_0 : decode cJ13_canEncode 0 = .ok (.iload_n 0, 1) := dk_26 (dk_at dksJ13_canEncode_0 0 rfl rfl)
theorem dJ13_canEncode_1 : decode cJ13_canEncode 1 = .ok (.sipush 255, 3) := dk_17 0 255 (dk_at dksJ13_canEncode_0 1 rfl rfl)
theorem dJ13_canEncode_4 : decode cJ13_canEncode 4 = .ok (.if_icmp .gt 7, 3) := dk_163 0 7 (dk_at dksJ13_canEncode_0 4 rfl rfl)
theorem dJ13_canEncode_7 : decode cJ13_canEncode 7 = .ok (.iconst 1, 1) := dk_4 (dk_at dksJ13_canEncode_0 7 rfl rfl)
theorem dJ13_canEncode_8 : decode cJ13_canEncode 8 = .ok (.goto 4, 3) := dk_167 0 4 (dk_at dksJ13_canEncode_0 8 rfl rfl)
theorem dJ13_canEncode_11 : decode cJ13_canEncode 11 = .ok (.iconst 0, 1) := dk_3 (dk_at dksJ13_canEncode_0 11 rfl rfl)
theorem dJ13_canEncode_12 : decode cJ13_canEncode 12 = .ok (.ireturn, 1) := dk_172 (dk_at dksJ13_canEncode_0 12 rfl rfl)
abbrev cJ13_inflate : ByteArray := prog_43_method_50_code
def yJ13_inflate : MethodName := ⟨RJ13, "inflate", "([BI[BII)V"⟩
def dkwJ13_inflate_0 : List UInt8 := [42, 27, 44, 29, 21, 4, 184, 0, 240, 177]
abbrev dktJ13_inflate_0 : List UInt8 := dkwJ13_inflate_0 ++ []
theorem dksJ13_inflate_0 : cJ13_inflate.data.toList.drop 0 = dktJ13_inflate_0 := by decide +kernel
theorem dJ13_inflate_0 : decode cJ13_inflate 0 = .ok (.aload_n 0, 1) := dk_42 (dk_at dksJ13_inflate_0 0 rfl rfl)
theorem dJ13_inflate_1 : decode cJ13_inflate 1 = .ok (.iload_n 1, 1) := dk_27 (dk_at dksJ13_inflate_0 1 rfl rfl)
theorem dJ13_inflate_2 : decode cJ13_inflate 2 = .ok (.aload_n 2, 1) := dk_44 (dk_at dksJ13_inflate_0 2 rfl rfl)
theorem dJ13_inflate_3 : decode cJ13_inflate 3 = .ok (.iload_n 3, 1) := dk_29 (dk_at dksJ13_inflate_0 3 rfl rfl)
theorem dJ13_inflate_4 : decode cJ13_inflate 4 = .ok (.iload 4, 2) := dk_21 4 (dk_at dksJ13_inflate_0 4 rfl rfl)
theorem dJ13_inflate_6 : decode cJ13_inflate 6 = .ok (.invokestatic 240, 3) := dk_184 0 240 (dk_at dksJ13_inflate_0 6 rfl rfl)
theorem dJ13_inflate_9 : decode cJ13_inflate 9 = .ok (.return_, 1) := dk_177 (dk_at dksJ13_inflate_0 9 rfl rfl)
abbrev cJ13_indexOf : ByteArray := prog_43_method_22_code
def yJ13_indexOf : MethodName := ⟨RJ13, "indexOf", "([BIII)I"⟩
def dkwJ13_indexOf_1 : List UInt8 := [161, 0, 5, 2, 172, 42, 27, 28, 29, 184, 0, 95, 172]
abbrev dktJ13_indexOf_1 : List UInt8 := dkwJ13_indexOf_1 ++ []
def dkwJ13_indexOf_0 : List UInt8 := [27, 184, 0, 88, 154, 0, 5, 2, 172, 28, 3, 184, 0, 92, 61, 29, 42, 190, 184, 0, 38, 62, 28, 29]
abbrev dktJ13_indexOf_0 : List UInt8 := dkwJ13_indexOf_0 ++ dktJ13_indexOf_1
theorem dksJ13_indexOf_0 : cJ13_indexOf.data.toList.drop 0 = dktJ13_indexOf_0 := by decide +kernel
theorem dksJ13_indexOf_1 : cJ13_indexOf.data.toList.drop 24 = dktJ13_indexOf_1 := dk_seg dksJ13_indexOf_0 24 rfl rfl
theorem dJ13_indexOf_0 : decode cJ13_indexOf 0 = .ok (.iload_n 1, 1) := dk_27 (dk_at dksJ13_indexOf_0 0 rfl rfl)
theorem dJ13_indexOf_1 : decode cJ13_indexOf 1 = .ok (.invokestatic 88, 3) := dk_184 0 88 (dk_at dksJ13_indexOf_0 1 rfl rfl)
theorem dJ13_indexOf_4 : decode cJ13_indexOf 4 = .ok (.ifCond .ne 5, 3) := dk_154 0 5 (dk_at dksJ13_indexOf_0 4 rfl rfl)
theorem dJ13_indexOf_7 : decode cJ13_indexOf 7 = .ok (.iconst (-1), 1) := dk_2 (dk_at dksJ13_indexOf_0 7 rfl rfl)
theorem dJ13_indexOf_8 : decode cJ13_indexOf 8 = .ok (.ireturn, 1) := dk_172 (dk_at dksJ13_indexOf_0 8 rfl rfl)
theorem dJ13_indexOf_9 : decode cJ13_indexOf 9 = .ok (.iload_n 2, 1) := dk_28 (dk_at dksJ13_indexOf_0 9 rfl rfl)
theorem dJ13_indexOf_10 : decode cJ13_indexOf 10 = .ok (.iconst 0, 1) := dk_3 (dk_at dksJ13_indexOf_0 10 rfl rfl)
theorem dJ13_indexOf_11 : decode cJ13_indexOf 11 = .ok (.invokestatic 92, 3) := dk_184 0 92 (dk_at dksJ13_indexOf_0 11 rfl rfl)
theorem dJ13_indexOf_14 : decode cJ13_indexOf 14 = .ok (.istore_n 2, 1) := dk_61 (dk_at dksJ13_indexOf_0 14 rfl rfl)
theorem dJ13_indexOf_15 : decode cJ13_indexOf 15 = .ok (.iload_n 3, 1) := dk_29 (dk_at dksJ13_indexOf_0 15 rfl rfl)
theorem dJ13_indexOf_16 : decode cJ13_indexOf 16 = .ok (.aload_n 0, 1) := dk_42 (dk_at dksJ13_indexOf_0 16 rfl rfl)
theorem dJ13_indexOf_17 : decode cJ13_indexOf 17 = .ok (.arraylength, 1) := dk_190 (dk_at dksJ13_indexOf_0 17 rfl rfl)
theorem dJ13_indexOf_18 : decode cJ13_indexOf 18 = .ok (.invokestatic 38, 3) := dk_184 0 38 (dk_at dksJ13_indexOf_0 18 rfl rfl)
theorem dJ13_indexOf_21 : decode cJ13_indexOf 21 = .ok (.istore_n 3, 1) := dk_62 (dk_at dksJ13_indexOf_0 21 rfl rfl)
theorem dJ13_indexOf_22 : decode cJ13_indexOf 22 = .ok (.iload_n 2, 1) := dk_28 (dk_at dksJ13_indexOf_0 22 rfl rfl)
theorem dJ13_indexOf_23 : decode cJ13_indexOf 23 = .ok (.iload_n 3, 1) := dk_29 (dk_at dksJ13_indexOf_0 23 rfl rfl)
theorem dJ13_indexOf_24 : decode cJ13_indexOf 24 = .ok (.if_icmp .lt 5, 3) := dk_161 0 5 (dk_at dksJ13_indexOf_1 0 rfl rfl)
theorem dJ13_indexOf_27 : decode cJ13_indexOf 27 = .ok (.iconst (-1), 1) := dk_2 (dk_at dksJ13_indexOf_1 3 rfl rfl)
theorem dJ13_indexOf_28 : decode cJ13_indexOf 28 = .ok (.ireturn, 1) := dk_172 (dk_at dksJ13_indexOf_1 4 rfl rfl)
theorem dJ13_indexOf_29 : decode cJ13_indexOf 29 = .ok (.aload_n 0, 1) := dk_42 (dk_at dksJ13_indexOf_1 5 rfl rfl)
theorem dJ13_indexOf_30 : decode cJ13_indexOf 30 = .ok (.iload_n 1, 1) := dk_27 (dk_at dksJ13_indexOf_1 6 rfl rfl)
theorem dJ13_indexOf_31 : decode cJ13_indexOf 31 = .ok (.iload_n 2, 1) := dk_28 (dk_at dksJ13_indexOf_1 7 rfl rfl)
theorem dJ13_indexOf_32 : decode cJ13_indexOf 32 = .ok (.iload_n 3, 1) := dk_29 (dk_at dksJ13_indexOf_1 8 rfl rfl)
theorem dJ13_indexOf_33 : decode cJ13_indexOf 33 = .ok (.invokestatic 95, 3) := dk_184 0 95 (dk_at dksJ13_indexOf_1 9 rfl rfl)
theorem dJ13_indexOf_36 : decode cJ13_indexOf 36 = .ok (.ireturn, 1) := dk_172 (dk_at dksJ13_indexOf_1 12 rfl rfl)
abbrev cJ13_canEncode_2 : ByteArray := prog_43_method_4_code
def yJ13_canEncode_2 : MethodName := ⟨RJ13, "canEncode", "(I)Z"⟩
def dkwJ13_canEncode_2_0 : List UInt8 := [26, 155, 0, 14, 26, 17, 0, 255, 163, 0, 7, 4, 167, 0, 4, 3, 172]
abbrev dktJ13_canEncode_2_0 : List UInt8 := dkwJ13_canEncode_2_0 ++ []
theorem dksJ13_canEncode_2_0 : cJ13_canEncode_2.data.toList.drop 0 = dktJ13_canEncode_2_0 := by decide +kernel
theorem dJ13_canEncode_2_0 : decode cJ13_canEncode_2 0 = .ok (.iload_n 0, 1) := dk_26 (dk_at dksJ13_canEncode_2_0 0 rfl rfl)
theorem dJ13_canEncode_2_1 : decode cJ13_canEncode_2 1 = .ok (.ifCond .lt 14, 3) := dk_155 0 14 (dk_at dksJ13_canEncode_2_0 1 rfl rfl)
theorem dJ13_canEncode_2_4 : decode cJ13_canEncode_2 4 = .ok (.iload_n 0, 1) := dk_26 (dk_at dksJ13_canEncode_2_0 4 rfl rfl)
theorem dJ13_canEncode_2_5 : decode cJ13_canEncode_2 5 = .ok (.sipush 255, 3) := dk_17 0 255 (dk_at dksJ13_canEncode_2_0 5 rfl rfl)
theorem dJ13_canEncode_2_8 : decode cJ13_canEncode_2 8 = .ok (.if_icmp .gt 7, 3) := dk_163 0 7 (dk_at dksJ13_canEncode_2_0 8 rfl rfl)
theorem dJ13_canEncode_2_11 : decode cJ13_canEncode_2 11 = .ok (.iconst 1, 1) := dk_4 (dk_at dksJ13_canEncode_2_0 11 rfl rfl)
theorem dJ13_canEncode_2_12 : decode cJ13_canEncode_2 12 = .ok (.goto 4, 3) := dk_167 0 4 (dk_at dksJ13_canEncode_2_0 12 rfl rfl)
theorem dJ13_canEncode_2_15 : decode cJ13_canEncode_2 15 = .ok (.iconst 0, 1) := dk_3 (dk_at dksJ13_canEncode_2_0 15 rfl rfl)
theorem dJ13_canEncode_2_16 : decode cJ13_canEncode_2 16 = .ok (.ireturn, 1) := dk_172 (dk_at dksJ13_canEncode_2_0 16 rfl rfl)
abbrev cJ13_indexOfChar : ByteArray := prog_43_method_23_code
def yJ13_indexOfChar : MethodName := ⟨RJ13, "indexOfChar", "([BIII)I"⟩
def dkwJ13_indexOfChar_1 : List UInt8 := [172, 132, 5, 1, 167, 255, 235, 2, 172]
abbrev dktJ13_indexOfChar_1 : List UInt8 := dkwJ13_indexOfChar_1 ++ []
def dkwJ13_indexOfChar_0 : List UInt8 := [27, 145, 54, 4, 28, 54, 5, 21, 5, 29, 162, 0, 21, 42, 21, 5, 51, 21, 4, 160, 0, 6, 21, 5]
abbrev dktJ13_indexOfChar_0 : List UInt8 := dkwJ13_indexOfChar_0 ++ dktJ13_indexOfChar_1
theorem dksJ13_indexOfChar_0 : cJ13_indexOfChar.data.toList.drop 0 = dktJ13_indexOfChar_0 := by decide +kernel
theorem dksJ13_indexOfChar_1 : cJ13_indexOfChar.data.toList.drop 24 = dktJ13_indexOfChar_1 := dk_seg dksJ13_indexOfChar_0 24 rfl rfl
theorem dJ13_indexOfChar_0 : decode cJ13_indexOfChar 0 = .ok (.iload_n 1, 1) := dk_27 (dk_at dksJ13_indexOfChar_0 0 rfl rfl)
theorem dJ13_indexOfChar_1 : decode cJ13_indexOfChar 1 = .ok (.i2b, 1) := dk_145 (dk_at dksJ13_indexOfChar_0 1 rfl rfl)
theorem dJ13_indexOfChar_2 : decode cJ13_indexOfChar 2 = .ok (.istore 4, 2) := dk_54 4 (dk_at dksJ13_indexOfChar_0 2 rfl rfl)
theorem dJ13_indexOfChar_4 : decode cJ13_indexOfChar 4 = .ok (.iload_n 2, 1) := dk_28 (dk_at dksJ13_indexOfChar_0 4 rfl rfl)
theorem dJ13_indexOfChar_5 : decode cJ13_indexOfChar 5 = .ok (.istore 5, 2) := dk_54 5 (dk_at dksJ13_indexOfChar_0 5 rfl rfl)
theorem dJ13_indexOfChar_7 : decode cJ13_indexOfChar 7 = .ok (.iload 5, 2) := dk_21 5 (dk_at dksJ13_indexOfChar_0 7 rfl rfl)
theorem dJ13_indexOfChar_9 : decode cJ13_indexOfChar 9 = .ok (.iload_n 3, 1) := dk_29 (dk_at dksJ13_indexOfChar_0 9 rfl rfl)
theorem dJ13_indexOfChar_10 : decode cJ13_indexOfChar 10 = .ok (.if_icmp .ge 21, 3) := dk_162 0 21 (dk_at dksJ13_indexOfChar_0 10 rfl rfl)
theorem dJ13_indexOfChar_13 : decode cJ13_indexOfChar 13 = .ok (.aload_n 0, 1) := dk_42 (dk_at dksJ13_indexOfChar_0 13 rfl rfl)
theorem dJ13_indexOfChar_14 : decode cJ13_indexOfChar 14 = .ok (.iload 5, 2) := dk_21 5 (dk_at dksJ13_indexOfChar_0 14 rfl rfl)
theorem dJ13_indexOfChar_16 : decode cJ13_indexOfChar 16 = .ok (.baload, 1) := dk_51 (dk_at dksJ13_indexOfChar_0 16 rfl rfl)
theorem dJ13_indexOfChar_17 : decode cJ13_indexOfChar 17 = .ok (.iload 4, 2) := dk_21 4 (dk_at dksJ13_indexOfChar_0 17 rfl rfl)
theorem dJ13_indexOfChar_19 : decode cJ13_indexOfChar 19 = .ok (.if_icmp .ne 6, 3) := dk_160 0 6 (dk_at dksJ13_indexOfChar_0 19 rfl rfl)
theorem dJ13_indexOfChar_22 : decode cJ13_indexOfChar 22 = .ok (.iload 5, 2) := dk_21 5 (dk_at dksJ13_indexOfChar_0 22 rfl rfl)
theorem dJ13_indexOfChar_24 : decode cJ13_indexOfChar 24 = .ok (.ireturn, 1) := dk_172 (dk_at dksJ13_indexOfChar_1 0 rfl rfl)
theorem dJ13_indexOfChar_25 : decode cJ13_indexOfChar 25 = .ok (.iinc 5 1, 3) := dk_132 5 1 (dk_at dksJ13_indexOfChar_1 1 rfl rfl)
theorem dJ13_indexOfChar_28 : decode cJ13_indexOfChar 28 = .ok (.goto (-21), 3) := dk_167 255 235 (dk_at dksJ13_indexOfChar_1 4 rfl rfl)
theorem dJ13_indexOfChar_31 : decode cJ13_indexOfChar 31 = .ok (.iconst (-1), 1) := dk_2 (dk_at dksJ13_indexOfChar_1 7 rfl rfl)
theorem dJ13_indexOfChar_32 : decode cJ13_indexOfChar 32 = .ok (.ireturn, 1) := dk_172 (dk_at dksJ13_indexOfChar_1 8 rfl rfl)
abbrev cJ13_equals : ByteArray := prog_43_method_13_code
def yJ13_equals : MethodName := ⟨RJ13, "equals", "([B[B)Z"⟩
def dkwJ13_equals_1 : List UInt8 := [3, 172, 132, 2, 1, 167, 255, 236, 4, 172, 3, 172]
abbrev dktJ13_equals_1 : List UInt8 := dkwJ13_equals_1 ++ []
def dkwJ13_equals_0 : List UInt8 := [42, 190, 43, 190, 160, 0, 30, 3, 61, 28, 42, 190, 162, 0, 20, 42, 28, 51, 43, 28, 51, 159, 0, 5]
abbrev dktJ13_equals_0 : List UInt8 := dkwJ13_equals_0 ++ dktJ13_equals_1
theorem dksJ13_equals_0 : cJ13_equals.data.toList.drop 0 = dktJ13_equals_0 := by decide +kernel
theorem dksJ13_equals_1 : cJ13_equals.data.toList.drop 24 = dktJ13_equals_1 := dk_seg dksJ13_equals_0 24 rfl rfl
theorem dJ13_equals_0 : decode cJ13_equals 0 = .ok (.aload_n 0, 1) := dk_42 (dk_at dksJ13_equals_0 0 rfl rfl)
theorem dJ13_equals_1 : decode cJ13_equals 1 = .ok (.arraylength, 1) := dk_190 (dk_at dksJ13_equals_0 1 rfl rfl)
theorem dJ13_equals_2 : decode cJ13_equals 2 = .ok (.aload_n 1, 1) := dk_43 (dk_at dksJ13_equals_0 2 rfl rfl)
theorem dJ13_equals_3 : decode cJ13_equals 3 = .ok (.arraylength, 1) := dk_190 (dk_at dksJ13_equals_0 3 rfl rfl)
theorem dJ13_equals_4 : decode cJ13_equals 4 = .ok (.if_icmp .ne 30, 3) := dk_160 0 30 (dk_at dksJ13_equals_0 4 rfl rfl)
theorem dJ13_equals_7 : decode cJ13_equals 7 = .ok (.iconst 0, 1) := dk_3 (dk_at dksJ13_equals_0 7 rfl rfl)
theorem dJ13_equals_8 : decode cJ13_equals 8 = .ok (.istore_n 2, 1) := dk_61 (dk_at dksJ13_equals_0 8 rfl rfl)
theorem dJ13_equals_9 : decode cJ13_equals 9 = .ok (.iload_n 2, 1) := dk_28 (dk_at dksJ13_equals_0 9 rfl rfl)
theorem dJ13_equals_10 : decode cJ13_equals 10 = .ok (.aload_n 0, 1) := dk_42 (dk_at dksJ13_equals_0 10 rfl rfl)
theorem dJ13_equals_11 : decode cJ13_equals 11 = .ok (.arraylength, 1) := dk_190 (dk_at dksJ13_equals_0 11 rfl rfl)
theorem dJ13_equals_12 : decode cJ13_equals 12 = .ok (.if_icmp .ge 20, 3) := dk_162 0 20 (dk_at dksJ13_equals_0 12 rfl rfl)
theorem dJ13_equals_15 : decode cJ13_equals 15 = .ok (.aload_n 0, 1) := dk_42 (dk_at dksJ13_equals_0 15 rfl rfl)
theorem dJ13_equals_16 : decode cJ13_equals 16 = .ok (.iload_n 2, 1) := dk_28 (dk_at dksJ13_equals_0 16 rfl rfl)
theorem dJ13_equals_17 : decode cJ13_equals 17 = .ok (.baload, 1) := dk_51 (dk_at dksJ13_equals_0 17 rfl rfl)
theorem dJ13_equals_18 : decode cJ13_equals 18 = .ok (.aload_n 1, 1) := dk_43 (dk_at dksJ13_equals_0 18 rfl rfl)
theorem dJ13_equals_19 : decode cJ13_equals 19 = .ok (.iload_n 2, 1) := dk_28 (dk_at dksJ13_equals_0 19 rfl rfl)
theorem dJ13_equals_20 : decode cJ13_equals 20 = .ok (.baload, 1) := dk_51 (dk_at dksJ13_equals_0 20 rfl rfl)
theorem dJ13_equals_21 : decode cJ13_equals 21 = .ok (.if_icmp .eq 5, 3) := dk_159 0 5 (dk_at dksJ13_equals_0 21 rfl rfl)
theorem dJ13_equals_24 : decode cJ13_equals 24 = .ok (.iconst 0, 1) := dk_3 (dk_at dksJ13_equals_1 0 rfl rfl)
theorem dJ13_equals_25 : decode cJ13_equals 25 = .ok (.ireturn, 1) := dk_172 (dk_at dksJ13_equals_1 1 rfl rfl)
theorem dJ13_equals_26 : decode cJ13_equals 26 = .ok (.iinc 2 1, 3) := dk_132 2 1 (dk_at dksJ13_equals_1 2 rfl rfl)
theorem dJ13_equals_29 : decode cJ13_equals 29 = .ok (.goto (-20), 3) := dk_167 255 236 (dk_at dksJ13_equals_1 5 rfl rfl)
theorem dJ13_equals_32 : decode cJ13_equals 32 = .ok (.iconst 1, 1) := dk_4 (dk_at dksJ13_equals_1 8 rfl rfl)
theorem dJ13_equals_33 : decode cJ13_equals 33 = .ok (.ireturn, 1) := dk_172 (dk_at dksJ13_equals_1 9 rfl rfl)
theorem dJ13_equals_34 : decode cJ13_equals 34 = .ok (.iconst 0, 1) := dk_3 (dk_at dksJ13_equals_1 10 rfl rfl)
theorem dJ13_equals_35 : decode cJ13_equals 35 = .ok (.ireturn, 1) := dk_172 (dk_at dksJ13_equals_1 11 rfl rfl)
abbrev cJ13_hashCode : ByteArray := prog_43_method_21_code
def yJ13_hashCode : MethodName := ⟨RJ13, "hashCode", "([B)I"⟩
def dkwJ13_hashCode_2 : List UInt8 := [3, 167, 0, 22, 42, 3, 51, 17, 0, 255, 126, 167, 0, 12, 42, 3, 42, 190, 3, 7, 184, 0, 84, 172]
abbrev dktJ13_hashCode_2 : List UInt8 := dkwJ13_hashCode_2 ++ []
def dkwJ13_hashCode_1 : List UInt8 := [171, 0, 0, 0, 0, 40, 0, 0, 0, 2, 0, 0, 0, 0, 0, 0, 0, 26, 0, 0, 0, 1, 0, 0, 0, 30]
abbrev dktJ13_hashCode_1 : List UInt8 := dkwJ13_hashCode_1 ++ dktJ13_hashCode_2
def dkwJ13_hashCode_0 : List UInt8 := [42, 190]
abbrev dktJ13_hashCode_0 : List UInt8 := dkwJ13_hashCode_0 ++ dktJ13_hashCode_1
theorem dksJ13_hashCode_0 : cJ13_hashCode.data.toList.drop 0 = dktJ13_hashCode_0 := by decide +kernel
theorem dksJ13_hashCode_1 : cJ13_hashCode.data.toList.drop 2 = dktJ13_hashCode_1 := dk_seg dksJ13_hashCode_0 2 rfl rfl
theorem dksJ13_hashCode_2 : cJ13_hashCode.data.toList.drop 28 = dktJ13_hashCode_2 := dk_seg dksJ13_hashCode_1 26 rfl rfl
theorem dJ13_hashCode_0 : decode cJ13_hashCode 0 = .ok (.aload_n 0, 1) := dk_42 (dk_at dksJ13_hashCode_0 0 rfl rfl)
theorem dJ13_hashCode_1 : decode cJ13_hashCode 1 = .ok (.arraylength, 1) := dk_190 (dk_at dksJ13_hashCode_0 1 rfl rfl)
theorem dJ13_hashCode_2 : decode cJ13_hashCode 2 = .ok (.lookupswitch 40 #[(0, 26), (1, 30)], 26) := by decide +kernel
theorem dJ13_hashCode_28 : decode cJ13_hashCode 28 = .ok (.iconst 0, 1) := dk_3 (dk_at dksJ13_hashCode_2 0 rfl rfl)
theorem dJ13_hashCode_29 : decode cJ13_hashCode 29 = .ok (.goto 22, 3) := dk_167 0 22 (dk_at dksJ13_hashCode_2 1 rfl rfl)
theorem dJ13_hashCode_32 : decode cJ13_hashCode 32 = .ok (.aload_n 0, 1) := dk_42 (dk_at dksJ13_hashCode_2 4 rfl rfl)
theorem dJ13_hashCode_33 : decode cJ13_hashCode 33 = .ok (.iconst 0, 1) := dk_3 (dk_at dksJ13_hashCode_2 5 rfl rfl)
theorem dJ13_hashCode_34 : decode cJ13_hashCode 34 = .ok (.baload, 1) := dk_51 (dk_at dksJ13_hashCode_2 6 rfl rfl)
theorem dJ13_hashCode_35 : decode cJ13_hashCode 35 = .ok (.sipush 255, 3) := dk_17 0 255 (dk_at dksJ13_hashCode_2 7 rfl rfl)
theorem dJ13_hashCode_38 : decode cJ13_hashCode 38 = .ok (.iand, 1) := dk_126 (dk_at dksJ13_hashCode_2 10 rfl rfl)
theorem dJ13_hashCode_39 : decode cJ13_hashCode 39 = .ok (.goto 12, 3) := dk_167 0 12 (dk_at dksJ13_hashCode_2 11 rfl rfl)
theorem dJ13_hashCode_42 : decode cJ13_hashCode 42 = .ok (.aload_n 0, 1) := dk_42 (dk_at dksJ13_hashCode_2 14 rfl rfl)
theorem dJ13_hashCode_43 : decode cJ13_hashCode 43 = .ok (.iconst 0, 1) := dk_3 (dk_at dksJ13_hashCode_2 15 rfl rfl)
theorem dJ13_hashCode_44 : decode cJ13_hashCode 44 = .ok (.aload_n 0, 1) := dk_42 (dk_at dksJ13_hashCode_2 16 rfl rfl)
theorem dJ13_hashCode_45 : decode cJ13_hashCode 45 = .ok (.arraylength, 1) := dk_190 (dk_at dksJ13_hashCode_2 17 rfl rfl)
theorem dJ13_hashCode_46 : decode cJ13_hashCode 46 = .ok (.iconst 0, 1) := dk_3 (dk_at dksJ13_hashCode_2 18 rfl rfl)
theorem dJ13_hashCode_47 : decode cJ13_hashCode 47 = .ok (.iconst 4, 1) := dk_7 (dk_at dksJ13_hashCode_2 19 rfl rfl)
theorem dJ13_hashCode_48 : decode cJ13_hashCode 48 = .ok (.invokestatic 84, 3) := dk_184 0 84 (dk_at dksJ13_hashCode_2 20 rfl rfl)
theorem dJ13_hashCode_51 : decode cJ13_hashCode 51 = .ok (.ireturn, 1) := dk_172 (dk_at dksJ13_hashCode_2 23 rfl rfl)
abbrev cJ13_compareTo : ByteArray := prog_43_method_14_code
def yJ13_compareTo : MethodName := ⟨RJ13, "compareTo", "([B[B)I"⟩
def dkwJ13_compareTo_0 : List UInt8 := [42, 190, 61, 43, 190, 62, 42, 43, 28, 29, 184, 0, 34, 172]
abbrev dktJ13_compareTo_0 : List UInt8 := dkwJ13_compareTo_0 ++ []
theorem dksJ13_compareTo_0 : cJ13_compareTo.data.toList.drop 0 = dktJ13_compareTo_0 := by decide +kernel
theorem dJ13_compareTo_0 : decode cJ13_compareTo 0 = .ok (.aload_n 0, 1) := dk_42 (dk_at dksJ13_compareTo_0 0 rfl rfl)
theorem dJ13_compareTo_1 : decode cJ13_compareTo 1 = .ok (.arraylength, 1) := dk_190 (dk_at dksJ13_compareTo_0 1 rfl rfl)
theorem dJ13_compareTo_2 : decode cJ13_compareTo 2 = .ok (.istore_n 2, 1) := dk_61 (dk_at dksJ13_compareTo_0 2 rfl rfl)
theorem dJ13_compareTo_3 : decode cJ13_compareTo 3 = .ok (.aload_n 1, 1) := dk_43 (dk_at dksJ13_compareTo_0 3 rfl rfl)
theorem dJ13_compareTo_4 : decode cJ13_compareTo 4 = .ok (.arraylength, 1) := dk_190 (dk_at dksJ13_compareTo_0 4 rfl rfl)
theorem dJ13_compareTo_5 : decode cJ13_compareTo 5 = .ok (.istore_n 3, 1) := dk_62 (dk_at dksJ13_compareTo_0 5 rfl rfl)
theorem dJ13_compareTo_6 : decode cJ13_compareTo 6 = .ok (.aload_n 0, 1) := dk_42 (dk_at dksJ13_compareTo_0 6 rfl rfl)
theorem dJ13_compareTo_7 : decode cJ13_compareTo 7 = .ok (.aload_n 1, 1) := dk_43 (dk_at dksJ13_compareTo_0 7 rfl rfl)
theorem dJ13_compareTo_8 : decode cJ13_compareTo 8 = .ok (.iload_n 2, 1) := dk_28 (dk_at dksJ13_compareTo_0 8 rfl rfl)
theorem dJ13_compareTo_9 : decode cJ13_compareTo 9 = .ok (.iload_n 3, 1) := dk_29 (dk_at dksJ13_compareTo_0 9 rfl rfl)
theorem dJ13_compareTo_10 : decode cJ13_compareTo 10 = .ok (.invokestatic 34, 3) := dk_184 0 34 (dk_at dksJ13_compareTo_0 10 rfl rfl)
theorem dJ13_compareTo_13 : decode cJ13_compareTo 13 = .ok (.ireturn, 1) := dk_172 (dk_at dksJ13_compareTo_0 13 rfl rfl)
abbrev cJ13_compareTo_2 : ByteArray := prog_43_method_15_code
def yJ13_compareTo_2 : MethodName := ⟨RJ13, "compareTo", "([B[BII)I"⟩
def dkwJ13_compareTo_2_1 : List UInt8 := [167, 0, 16, 42, 21, 5, 184, 0, 50, 43, 21, 5, 184, 0, 50, 100, 172]
abbrev dktJ13_compareTo_2_1 : List UInt8 := dkwJ13_compareTo_2_1 ++ []
def dkwJ13_compareTo_2_0 : List UInt8 := [28, 29, 184, 0, 38, 54, 4, 42, 43, 21, 4, 184, 0, 44, 54, 5, 21, 5, 156, 0, 9, 28, 29, 100]
abbrev dktJ13_compareTo_2_0 : List UInt8 := dkwJ13_compareTo_2_0 ++ dktJ13_compareTo_2_1
theorem dksJ13_compareTo_2_0 : cJ13_compareTo_2.data.toList.drop 0 = dktJ13_compareTo_2_0 := by decide +kernel
theorem dksJ13_compareTo_2_1 : cJ13_compareTo_2.data.toList.drop 24 = dktJ13_compareTo_2_1 := dk_seg dksJ13_compareTo_2_0 24 rfl rfl
theorem dJ13_compareTo_2_0 : decode cJ13_compareTo_2 0 = .ok (.iload_n 2, 1) := dk_28 (dk_at dksJ13_compareTo_2_0 0 rfl rfl)
theorem dJ13_compareTo_2_1 : decode cJ13_compareTo_2 1 = .ok (.iload_n 3, 1) := dk_29 (dk_at dksJ13_compareTo_2_0 1 rfl rfl)
theorem dJ13_compareTo_2_2 : decode cJ13_compareTo_2 2 = .ok (.invokestatic 38, 3) := dk_184 0 38 (dk_at dksJ13_compareTo_2_0 2 rfl rfl)
theorem dJ13_compareTo_2_5 : decode cJ13_compareTo_2 5 = .ok (.istore 4, 2) := dk_54 4 (dk_at dksJ13_compareTo_2_0 5 rfl rfl)
theorem dJ13_compareTo_2_7 : decode cJ13_compareTo_2 7 = .ok (.aload_n 0, 1) := dk_42 (dk_at dksJ13_compareTo_2_0 7 rfl rfl)
theorem dJ13_compareTo_2_8 : decode cJ13_compareTo_2 8 = .ok (.aload_n 1, 1) := dk_43 (dk_at dksJ13_compareTo_2_0 8 rfl rfl)
theorem dJ13_compareTo_2_9 : decode cJ13_compareTo_2 9 = .ok (.iload 4, 2) := dk_21 4 (dk_at dksJ13_compareTo_2_0 9 rfl rfl)
theorem dJ13_compareTo_2_11 : decode cJ13_compareTo_2 11 = .ok (.invokestatic 44, 3) := dk_184 0 44 (dk_at dksJ13_compareTo_2_0 11 rfl rfl)
theorem dJ13_compareTo_2_14 : decode cJ13_compareTo_2 14 = .ok (.istore 5, 2) := dk_54 5 (dk_at dksJ13_compareTo_2_0 14 rfl rfl)
theorem dJ13_compareTo_2_16 : decode cJ13_compareTo_2 16 = .ok (.iload 5, 2) := dk_21 5 (dk_at dksJ13_compareTo_2_0 16 rfl rfl)
theorem dJ13_compareTo_2_18 : decode cJ13_compareTo_2 18 = .ok (.ifCond .ge 9, 3) := dk_156 0 9 (dk_at dksJ13_compareTo_2_0 18 rfl rfl)
theorem dJ13_compareTo_2_21 : decode cJ13_compareTo_2 21 = .ok (.iload_n 2, 1) := dk_28 (dk_at dksJ13_compareTo_2_0 21 rfl rfl)
theorem dJ13_compareTo_2_22 : decode cJ13_compareTo_2 22 = .ok (.iload_n 3, 1) := dk_29 (dk_at dksJ13_compareTo_2_0 22 rfl rfl)
theorem dJ13_compareTo_2_23 : decode cJ13_compareTo_2 23 = .ok (.isub, 1) := dk_100 (dk_at dksJ13_compareTo_2_0 23 rfl rfl)
theorem dJ13_compareTo_2_24 : decode cJ13_compareTo_2 24 = .ok (.goto 16, 3) := dk_167 0 16 (dk_at dksJ13_compareTo_2_1 0 rfl rfl)
theorem dJ13_compareTo_2_27 : decode cJ13_compareTo_2 27 = .ok (.aload_n 0, 1) := dk_42 (dk_at dksJ13_compareTo_2_1 3 rfl rfl)
theorem dJ13_compareTo_2_28 : decode cJ13_compareTo_2 28 = .ok (.iload 5, 2) := dk_21 5 (dk_at dksJ13_compareTo_2_1 4 rfl rfl)
theorem dJ13_compareTo_2_30 : decode cJ13_compareTo_2 30 = .ok (.invokestatic 50, 3) := dk_184 0 50 (dk_at dksJ13_compareTo_2_1 6 rfl rfl)
theorem dJ13_compareTo_2_33 : decode cJ13_compareTo_2 33 = .ok (.aload_n 1, 1) := dk_43 (dk_at dksJ13_compareTo_2_1 9 rfl rfl)
theorem dJ13_compareTo_2_34 : decode cJ13_compareTo_2 34 = .ok (.iload 5, 2) := dk_21 5 (dk_at dksJ13_compareTo_2_1 10 rfl rfl)
theorem dJ13_compareTo_2_36 : decode cJ13_compareTo_2 36 = .ok (.invokestatic 50, 3) := dk_184 0 50 (dk_at dksJ13_compareTo_2_1 12 rfl rfl)
theorem dJ13_compareTo_2_39 : decode cJ13_compareTo_2 39 = .ok (.isub, 1) := dk_100 (dk_at dksJ13_compareTo_2_1 15 rfl rfl)
theorem dJ13_compareTo_2_40 : decode cJ13_compareTo_2 40 = .ok (.ireturn, 1) := dk_172 (dk_at dksJ13_compareTo_2_1 16 rfl rfl)
abbrev cJ13_getChar : ByteArray := prog_43_method_44_code
def yJ13_getChar : MethodName := ⟨RJ13, "getChar", "([BI)C"⟩
def dkwJ13_getChar_0 : List UInt8 := [42, 27, 51, 17, 0, 255, 126, 146, 172]
abbrev dktJ13_getChar_0 : List UInt8 := dkwJ13_getChar_0 ++ []
theorem dksJ13_getChar_0 : cJ13_getChar.data.toList.drop 0 = dktJ13_getChar_0 := by decide +kernel
theorem dJ13_getChar_0 : decode cJ13_getChar 0 = .ok (.aload_n 0, 1) := dk_42 (dk_at dksJ13_getChar_0 0 rfl rfl)
theorem dJ13_getChar_1 : decode cJ13_getChar 1 = .ok (.iload_n 1, 1) := dk_27 (dk_at dksJ13_getChar_0 1 rfl rfl)
theorem dJ13_getChar_2 : decode cJ13_getChar 2 = .ok (.baload, 1) := dk_51 (dk_at dksJ13_getChar_0 2 rfl rfl)
theorem dJ13_getChar_3 : decode cJ13_getChar 3 = .ok (.sipush 255, 3) := dk_17 0 255 (dk_at dksJ13_getChar_0 3 rfl rfl)
theorem dJ13_getChar_6 : decode cJ13_getChar 6 = .ok (.iand, 1) := dk_126 (dk_at dksJ13_getChar_0 6 rfl rfl)
theorem dJ13_getChar_7 : decode cJ13_getChar 7 = .ok (.i2c, 1) := dk_146 (dk_at dksJ13_getChar_0 7 rfl rfl)
theorem dJ13_getChar_8 : decode cJ13_getChar 8 = .ok (.ireturn, 1) := dk_172 (dk_at dksJ13_getChar_0 8 rfl rfl)
abbrev cJ13_compareToUTF16 : ByteArray := prog_43_method_16_code
def yJ13_compareToUTF16 : MethodName := ⟨RJ13, "compareToUTF16", "([B[B)I"⟩
def dkwJ13_compareToUTF16_0 : List UInt8 := [42, 184, 0, 54, 61, 43, 184, 0, 58, 62, 42, 43, 28, 29, 184, 0, 59, 172]
abbrev dktJ13_compareToUTF16_0 : List UInt8 := dkwJ13_compareToUTF16_0 ++ []
theorem dksJ13_compareToUTF16_0 : cJ13_compareToUTF16.data.toList.drop 0 = dktJ13_compareToUTF16_0 := by decide +kernel
theorem dJ13_compareToUTF16_0 : decode cJ13_compareToUTF16 0 = .ok (.aload_n 0, 1) := dk_42 (dk_at dksJ13_compareToUTF16_0 0 rfl rfl)
theorem dJ13_compareToUTF16_1 : decode cJ13_compareToUTF16 1 = .ok (.invokestatic 54, 3) := dk_184 0 54 (dk_at dksJ13_compareToUTF16_0 1 rfl rfl)
theorem dJ13_compareToUTF16_4 : decode cJ13_compareToUTF16 4 = .ok (.istore_n 2, 1) := dk_61 (dk_at dksJ13_compareToUTF16_0 4 rfl rfl)
theorem dJ13_compareToUTF16_5 : decode cJ13_compareToUTF16 5 = .ok (.aload_n 1, 1) := dk_43 (dk_at dksJ13_compareToUTF16_0 5 rfl rfl)
theorem dJ13_compareToUTF16_6 : decode cJ13_compareToUTF16 6 = .ok (.invokestatic 58, 3) := dk_184 0 58 (dk_at dksJ13_compareToUTF16_0 6 rfl rfl)
theorem dJ13_compareToUTF16_9 : decode cJ13_compareToUTF16 9 = .ok (.istore_n 3, 1) := dk_62 (dk_at dksJ13_compareToUTF16_0 9 rfl rfl)
theorem dJ13_compareToUTF16_10 : decode cJ13_compareToUTF16 10 = .ok (.aload_n 0, 1) := dk_42 (dk_at dksJ13_compareToUTF16_0 10 rfl rfl)
theorem dJ13_compareToUTF16_11 : decode cJ13_compareToUTF16 11 = .ok (.aload_n 1, 1) := dk_43 (dk_at dksJ13_compareToUTF16_0 11 rfl rfl)
theorem dJ13_compareToUTF16_12 : decode cJ13_compareToUTF16 12 = .ok (.iload_n 2, 1) := dk_28 (dk_at dksJ13_compareToUTF16_0 12 rfl rfl)
theorem dJ13_compareToUTF16_13 : decode cJ13_compareToUTF16 13 = .ok (.iload_n 3, 1) := dk_29 (dk_at dksJ13_compareToUTF16_0 13 rfl rfl)
theorem dJ13_compareToUTF16_14 : decode cJ13_compareToUTF16 14 = .ok (.invokestatic 59, 3) := dk_184 0 59 (dk_at dksJ13_compareToUTF16_0 14 rfl rfl)
theorem dJ13_compareToUTF16_17 : decode cJ13_compareToUTF16 17 = .ok (.ireturn, 1) := dk_172 (dk_at dksJ13_compareToUTF16_0 17 rfl rfl)
abbrev cJ13_length : ByteArray := prog_43_method_5_code
def yJ13_length : MethodName := ⟨RJ13, "length", "([B)I"⟩
theorem dJ13_length_0 : decode cJ13_length 0 = .ok (.aload_n 0, 1) := by decide +kernel
theorem dJ13_length_1 : decode cJ13_length 1 = .ok (.arraylength, 1) := by decide +kernel
theorem dJ13_length_2 : decode cJ13_length 2 = .ok (.ireturn, 1) := by decide +kernel
abbrev cJ13_compareToUTF16Values : ByteArray := prog_43_method_18_code
def yJ13_compareToUTF16Values : MethodName := ⟨RJ13, "compareToUTF16Values", "([B[BII)I"⟩
def dkwJ13_compareToUTF16Values_2 : List UInt8 := [132, 5, 1, 167, 255, 217, 28, 29, 100, 172]
abbrev dktJ13_compareToUTF16Values_2 : List UInt8 := dkwJ13_compareToUTF16Values_2 ++ []
def dkwJ13_compareToUTF16Values_1 : List UInt8 := [54, 6, 43, 21, 5, 184, 0, 65, 54, 7, 21, 6, 21, 7, 159, 0, 9, 21, 6, 21, 7, 100, 172]
abbrev dktJ13_compareToUTF16Values_1 : List UInt8 := dkwJ13_compareToUTF16Values_1 ++ dktJ13_compareToUTF16Values_2
def dkwJ13_compareToUTF16Values_0 : List UInt8 := [28, 29, 184, 0, 38, 54, 4, 3, 54, 5, 21, 5, 21, 4, 162, 0, 38, 42, 21, 5, 184, 0, 50]
abbrev dktJ13_compareToUTF16Values_0 : List UInt8 := dkwJ13_compareToUTF16Values_0 ++ dktJ13_compareToUTF16Values_1
theorem dksJ13_compareToUTF16Values_0 : cJ13_compareToUTF16Values.data.toList.drop 0 = dktJ13_compareToUTF16Values_0 := by decide +kernel
theorem dksJ13_compareToUTF16Values_1 : cJ13_compareToUTF16Values.data.toList.drop 23 = dktJ13_compareToUTF16Values_1 := dk_seg dksJ13_compareToUTF16Values_0 23 rfl rfl
theorem dksJ13_compareToUTF16Values_2 : cJ13_compareToUTF16Values.data.toList.drop 46 = dktJ13_compareToUTF16Values_2 := dk_seg dksJ13_compareToUTF16Values_1 23 rfl rfl
theorem dJ13_compareToUTF16Values_0 : decode cJ13_compareToUTF16Values 0 = .ok (.iload_n 2, 1) := dk_28 (dk_at dksJ13_compareToUTF16Values_0 0 rfl rfl)
theorem dJ13_compareToUTF16Values_1 : decode cJ13_compareToUTF16Values 1 = .ok (.iload_n 3, 1) := dk_29 (dk_at dksJ13_compareToUTF16Values_0 1 rfl rfl)
theorem dJ13_compareToUTF16Values_2 : decode cJ13_compareToUTF16Values 2 = .ok (.invokestatic 38, 3) := dk_184 0 38 (dk_at dksJ13_compareToUTF16Values_0 2 rfl rfl)
theorem dJ13_compareToUTF16Values_5 : decode cJ13_compareToUTF16Values 5 = .ok (.istore 4, 2) := dk_54 4 (dk_at dksJ13_compareToUTF16Values_0 5 rfl rfl)
theorem dJ13_compareToUTF16Values_7 : decode cJ13_compareToUTF16Values 7 = .ok (.iconst 0, 1) := dk_3 (dk_at dksJ13_compareToUTF16Values_0 7 rfl rfl)
theorem dJ13_compareToUTF16Values_8 : decode cJ13_compareToUTF16Values 8 = .ok (.istore 5, 2) := dk_54 5 (dk_at dksJ13_compareToUTF16Values_0 8 rfl rfl)
theorem dJ13_compareToUTF16Values_10 : decode cJ13_compareToUTF16Values 10 = .ok (.iload 5, 2) := dk_21 5 (dk_at dksJ13_compareToUTF16Values_0 10 rfl rfl)
theorem dJ13_compareToUTF16Values_12 : decode cJ13_compareToUTF16Values 12 = .ok (.iload 4, 2) := dk_21 4 (dk_at dksJ13_compareToUTF16Values_0 12 rfl rfl)
theorem dJ13_compareToUTF16Values_14 : decode cJ13_compareToUTF16Values 14 = .ok (.if_icmp .ge 38, 3) := dk_162 0 38 (dk_at dksJ13_compareToUTF16Values_0 14 rfl rfl)
theorem dJ13_compareToUTF16Values_17 : decode cJ13_compareToUTF16Values 17 = .ok (.aload_n 0, 1) := dk_42 (dk_at dksJ13_compareToUTF16Values_0 17 rfl rfl)
theorem dJ13_compareToUTF16Values_18 : decode cJ13_compareToUTF16Values 18 = .ok (.iload 5, 2) := dk_21 5 (dk_at dksJ13_compareToUTF16Values_0 18 rfl rfl)
theorem dJ13_compareToUTF16Values_20 : decode cJ13_compareToUTF16Values 20 = .ok (.invokestatic 50, 3) := dk_184 0 50 (dk_at dksJ13_compareToUTF16Values_0 20 rfl rfl)
theorem dJ13_compareToUTF16Values_23 : decode cJ13_compareToUTF16Values 23 = .ok (.istore 6, 2) := dk_54 6 (dk_at dksJ13_compareToUTF16Values_1 0 rfl rfl)
theorem dJ13_compareToUTF16Values_25 : decode cJ13_compareToUTF16Values 25 = .ok (.aload_n 1, 1) := dk_43 (dk_at dksJ13_compareToUTF16Values_1 2 rfl rfl)
theorem dJ13_compareToUTF16Values_26 : decode cJ13_compareToUTF16Values 26 = .ok (.iload 5, 2) := dk_21 5 (dk_at dksJ13_compareToUTF16Values_1 3 rfl rfl)
theorem dJ13_compareToUTF16Values_28 : decode cJ13_compareToUTF16Values 28 = .ok (.invokestatic 65, 3) := dk_184 0 65 (dk_at dksJ13_compareToUTF16Values_1 5 rfl rfl)
theorem dJ13_compareToUTF16Values_31 : decode cJ13_compareToUTF16Values 31 = .ok (.istore 7, 2) := dk_54 7 (dk_at dksJ13_compareToUTF16Values_1 8 rfl rfl)
theorem dJ13_compareToUTF16Values_33 : decode cJ13_compareToUTF16Values 33 = .ok (.iload 6, 2) := dk_21 6 (dk_at dksJ13_compareToUTF16Values_1 10 rfl rfl)
theorem dJ13_compareToUTF16Values_35 : decode cJ13_compareToUTF16Values 35 = .ok (.iload 7, 2) := dk_21 7 (dk_at dksJ13_compareToUTF16Values_1 12 rfl rfl)
theorem dJ13_compareToUTF16Values_37 : decode cJ13_compareToUTF16Values 37 = .ok (.if_icmp .eq 9, 3) := dk_159 0 9 (dk_at dksJ13_compareToUTF16Values_1 14 rfl rfl)
theorem dJ13_compareToUTF16Values_40 : decode cJ13_compareToUTF16Values 40 = .ok (.iload 6, 2) := dk_21 6 (dk_at dksJ13_compareToUTF16Values_1 17 rfl rfl)
theorem dJ13_compareToUTF16Values_42 : decode cJ13_compareToUTF16Values 42 = .ok (.iload 7, 2) := dk_21 7 (dk_at dksJ13_compareToUTF16Values_1 19 rfl rfl)
theorem dJ13_compareToUTF16Values_44 : decode cJ13_compareToUTF16Values 44 = .ok (.isub, 1) := dk_100 (dk_at dksJ13_compareToUTF16Values_1 21 rfl rfl)
theorem dJ13_compareToUTF16Values_45 : decode cJ13_compareToUTF16Values 45 = .ok (.ireturn, 1) := dk_172 (dk_at dksJ13_compareToUTF16Values_1 22 rfl rfl)
theorem dJ13_compareToUTF16Values_46 : decode cJ13_compareToUTF16Values 46 = .ok (.iinc 5 1, 3) := dk_132 5 1 (dk_at dksJ13_compareToUTF16Values_2 0 rfl rfl)
theorem dJ13_compareToUTF16Values_49 : decode cJ13_compareToUTF16Values 49 = .ok (.goto (-39), 3) := dk_167 255 217 (dk_at dksJ13_compareToUTF16Values_2 3 rfl rfl)
theorem dJ13_compareToUTF16Values_52 : decode cJ13_compareToUTF16Values 52 = .ok (.iload_n 2, 1) := dk_28 (dk_at dksJ13_compareToUTF16Values_2 6 rfl rfl)
theorem dJ13_compareToUTF16Values_53 : decode cJ13_compareToUTF16Values 53 = .ok (.iload_n 3, 1) := dk_29 (dk_at dksJ13_compareToUTF16Values_2 7 rfl rfl)
theorem dJ13_compareToUTF16Values_54 : decode cJ13_compareToUTF16Values 54 = .ok (.isub, 1) := dk_100 (dk_at dksJ13_compareToUTF16Values_2 8 rfl rfl)
theorem dJ13_compareToUTF16Values_55 : decode cJ13_compareToUTF16Values 55 = .ok (.ireturn, 1) := dk_172 (dk_at dksJ13_compareToUTF16Values_2 9 rfl rfl)
abbrev cJ13_compareToUTF16_2 : ByteArray := prog_43_method_17_code
def yJ13_compareToUTF16_2 : MethodName := ⟨RJ13, "compareToUTF16", "([B[BII)I"⟩
def dkwJ13_compareToUTF16_2_0 : List UInt8 := [28, 42, 184, 0, 54, 184, 0, 62, 29, 43, 184, 0, 58, 184, 0, 62, 42, 43, 28, 29, 184, 0, 59, 172]
abbrev dktJ13_compareToUTF16_2_0 : List UInt8 := dkwJ13_compareToUTF16_2_0 ++ []
theorem dksJ13_compareToUTF16_2_0 : cJ13_compareToUTF16_2.data.toList.drop 0 = dktJ13_compareToUTF16_2_0 := by decide +kernel
theorem dJ13_compareToUTF16_2_0 : decode cJ13_compareToUTF16_2 0 = .ok (.iload_n 2, 1) := dk_28 (dk_at dksJ13_compareToUTF16_2_0 0 rfl rfl)
theorem dJ13_compareToUTF16_2_1 : decode cJ13_compareToUTF16_2 1 = .ok (.aload_n 0, 1) := dk_42 (dk_at dksJ13_compareToUTF16_2_0 1 rfl rfl)
theorem dJ13_compareToUTF16_2_2 : decode cJ13_compareToUTF16_2 2 = .ok (.invokestatic 54, 3) := dk_184 0 54 (dk_at dksJ13_compareToUTF16_2_0 2 rfl rfl)
theorem dJ13_compareToUTF16_2_5 : decode cJ13_compareToUTF16_2 5 = .ok (.invokestatic 62, 3) := dk_184 0 62 (dk_at dksJ13_compareToUTF16_2_0 5 rfl rfl)
theorem dJ13_compareToUTF16_2_8 : decode cJ13_compareToUTF16_2 8 = .ok (.iload_n 3, 1) := dk_29 (dk_at dksJ13_compareToUTF16_2_0 8 rfl rfl)
theorem dJ13_compareToUTF16_2_9 : decode cJ13_compareToUTF16_2 9 = .ok (.aload_n 1, 1) := dk_43 (dk_at dksJ13_compareToUTF16_2_0 9 rfl rfl)
theorem dJ13_compareToUTF16_2_10 : decode cJ13_compareToUTF16_2 10 = .ok (.invokestatic 58, 3) := dk_184 0 58 (dk_at dksJ13_compareToUTF16_2_0 10 rfl rfl)
theorem dJ13_compareToUTF16_2_13 : decode cJ13_compareToUTF16_2 13 = .ok (.invokestatic 62, 3) := dk_184 0 62 (dk_at dksJ13_compareToUTF16_2_0 13 rfl rfl)
theorem dJ13_compareToUTF16_2_16 : decode cJ13_compareToUTF16_2 16 = .ok (.aload_n 0, 1) := dk_42 (dk_at dksJ13_compareToUTF16_2_0 16 rfl rfl)
theorem dJ13_compareToUTF16_2_17 : decode cJ13_compareToUTF16_2 17 = .ok (.aload_n 1, 1) := dk_43 (dk_at dksJ13_compareToUTF16_2_0 17 rfl rfl)
theorem dJ13_compareToUTF16_2_18 : decode cJ13_compareToUTF16_2 18 = .ok (.iload_n 2, 1) := dk_28 (dk_at dksJ13_compareToUTF16_2_0 18 rfl rfl)
theorem dJ13_compareToUTF16_2_19 : decode cJ13_compareToUTF16_2 19 = .ok (.iload_n 3, 1) := dk_29 (dk_at dksJ13_compareToUTF16_2_0 19 rfl rfl)
theorem dJ13_compareToUTF16_2_20 : decode cJ13_compareToUTF16_2 20 = .ok (.invokestatic 59, 3) := dk_184 0 59 (dk_at dksJ13_compareToUTF16_2_0 20 rfl rfl)
theorem dJ13_compareToUTF16_2_23 : decode cJ13_compareToUTF16_2 23 = .ok (.ireturn, 1) := dk_172 (dk_at dksJ13_compareToUTF16_2_0 23 rfl rfl)
abbrev cJ13_fillNull : ByteArray := prog_43_method_48_code
def yJ13_fillNull : MethodName := ⟨RJ13, "fillNull", "([BII)V"⟩
def dkwJ13_fillNull_0 : List UInt8 := [42, 27, 28, 3, 184, 0, 236, 177]
abbrev dktJ13_fillNull_0 : List UInt8 := dkwJ13_fillNull_0 ++ []
theorem dksJ13_fillNull_0 : cJ13_fillNull.data.toList.drop 0 = dktJ13_fillNull_0 := by decide +kernel
theorem dJ13_fillNull_0 : decode cJ13_fillNull 0 = .ok (.aload_n 0, 1) := dk_42 (dk_at dksJ13_fillNull_0 0 rfl rfl)
theorem dJ13_fillNull_1 : decode cJ13_fillNull 1 = .ok (.iload_n 1, 1) := dk_27 (dk_at dksJ13_fillNull_0 1 rfl rfl)
theorem dJ13_fillNull_2 : decode cJ13_fillNull 2 = .ok (.iload_n 2, 1) := dk_28 (dk_at dksJ13_fillNull_0 2 rfl rfl)
theorem dJ13_fillNull_3 : decode cJ13_fillNull 3 = .ok (.iconst 0, 1) := dk_3 (dk_at dksJ13_fillNull_0 3 rfl rfl)
theorem dJ13_fillNull_4 : decode cJ13_fillNull 4 = .ok (.invokestatic 236, 3) := dk_184 0 236 (dk_at dksJ13_fillNull_0 4 rfl rfl)
theorem dJ13_fillNull_7 : decode cJ13_fillNull 7 = .ok (.return_, 1) := dk_177 (dk_at dksJ13_fillNull_0 7 rfl rfl)
theorem q121 : (Jvm.Cond.initialized "java/lang/StringLatin1") ∈ lw_all := lw_g (lw_at lw_m1 23 rfl) rfl
theorem q1030 : (Jvm.Cond.static ({ cls := "java/lang/StringLatin1", name := "canEncode", desc := "(C)Z" } : Jvm.MethodName)) ∈ lw_all := lw_g (lw_at lw_m4 212 rfl) rfl
theorem q1031 : (Jvm.Cond.code ({ cls := "java/lang/StringLatin1", name := "canEncode", desc := "(C)Z" } : Jvm.MethodName) prog_43_method_3_code (1 : Nat) (Option.some Jvm.ClassFile.FieldType.boolean)) ∈ lw_all := lw_g (lw_at lw_m4 213 rfl) rfl
theorem q1037 : (Jvm.Cond.static ({ cls := "java/lang/StringLatin1", name := "inflate", desc := "([BI[BII)V" } : Jvm.MethodName)) ∈ lw_all := lw_g (lw_at lw_m4 219 rfl) rfl
theorem q1038 : (Jvm.Cond.code ({ cls := "java/lang/StringLatin1", name := "inflate", desc := "([BI[BII)V" } : Jvm.MethodName) prog_43_method_50_code (5 : Nat) (Option.none : Option Jvm.ClassFile.FieldType)) ∈ lw_all := lw_g (lw_at lw_m4 220 rfl) rfl
theorem q1039 : (Jvm.Cond.methodLink "java/lang/StringLatin1" (240 : Nat) ({ cls := "java/lang/StringUTF16", name := "inflate", desc := "([BI[BII)V" } : Jvm.MethodName)) ∈ lw_all := lw_g (lw_at lw_m4 221 rfl) rfl
theorem q1227 : (Jvm.Cond.static ({ cls := "java/lang/StringLatin1", name := "indexOf", desc := "([BIII)I" } : Jvm.MethodName)) ∈ lw_all := lw_g (lw_at lw_m5 169 rfl) rfl
theorem q1228 : (Jvm.Cond.code ({ cls := "java/lang/StringLatin1", name := "indexOf", desc := "([BIII)I" } : Jvm.MethodName) prog_43_method_22_code (4 : Nat) (Option.some Jvm.ClassFile.FieldType.int)) ∈ lw_all := lw_g (lw_at lw_m5 170 rfl) rfl
theorem q1229 : (Jvm.Cond.methodLink "java/lang/StringLatin1" (88 : Nat) ({ cls := "java/lang/StringLatin1", name := "canEncode", desc := "(I)Z" } : Jvm.MethodName)) ∈ lw_all := lw_g (lw_at lw_m5 171 rfl) rfl
theorem q1230 : (Jvm.Cond.static ({ cls := "java/lang/StringLatin1", name := "canEncode", desc := "(I)Z" } : Jvm.MethodName)) ∈ lw_all := lw_g (lw_at lw_m5 172 rfl) rfl
theorem q1231 : (Jvm.Cond.code ({ cls := "java/lang/StringLatin1", name := "canEncode", desc := "(I)Z" } : Jvm.MethodName) prog_43_method_4_code (1 : Nat) (Option.some Jvm.ClassFile.FieldType.boolean)) ∈ lw_all := lw_g (lw_at lw_m5 173 rfl) rfl
theorem q1232 : (Jvm.Cond.methodLink "java/lang/StringLatin1" (92 : Nat) ({ cls := "java/lang/Math", name := "max", desc := "(II)I" } : Jvm.MethodName)) ∈ lw_all := lw_g (lw_at lw_m5 174 rfl) rfl
theorem q1233 : (Jvm.Cond.methodLink "java/lang/StringLatin1" (38 : Nat) ({ cls := "java/lang/Math", name := "min", desc := "(II)I" } : Jvm.MethodName)) ∈ lw_all := lw_g (lw_at lw_m5 175 rfl) rfl
theorem q1234 : (Jvm.Cond.methodLink "java/lang/StringLatin1" (95 : Nat) ({ cls := "java/lang/StringLatin1", name := "indexOfChar", desc := "([BIII)I" } : Jvm.MethodName)) ∈ lw_all := lw_g (lw_at lw_m5 176 rfl) rfl
theorem q1235 : (Jvm.Cond.static ({ cls := "java/lang/StringLatin1", name := "indexOfChar", desc := "([BIII)I" } : Jvm.MethodName)) ∈ lw_all := lw_g (lw_at lw_m5 177 rfl) rfl
theorem q1236 : (Jvm.Cond.code ({ cls := "java/lang/StringLatin1", name := "indexOfChar", desc := "([BIII)I" } : Jvm.MethodName) prog_43_method_23_code (6 : Nat) (Option.some Jvm.ClassFile.FieldType.int)) ∈ lw_all := lw_g (lw_at lw_m5 178 rfl) rfl
theorem q1335 : (Jvm.Cond.static ({ cls := "java/lang/StringLatin1", name := "equals", desc := "([B[B)Z" } : Jvm.MethodName)) ∈ lw_all := lw_g (lw_at lw_m6 37 rfl) rfl
theorem q1336 : (Jvm.Cond.code ({ cls := "java/lang/StringLatin1", name := "equals", desc := "([B[B)Z" } : Jvm.MethodName) prog_43_method_13_code (3 : Nat) (Option.some Jvm.ClassFile.FieldType.boolean)) ∈ lw_all := lw_g (lw_at lw_m6 38 rfl) rfl
theorem q1872 : (Jvm.Cond.static ({ cls := "java/lang/StringLatin1", name := "hashCode", desc := "([B)I" } : Jvm.MethodName)) ∈ lw_all := lw_g (lw_at lw_m8 94 rfl) rfl
theorem q1873 : (Jvm.Cond.code ({ cls := "java/lang/StringLatin1", name := "hashCode", desc := "([B)I" } : Jvm.MethodName) prog_43_method_21_code (1 : Nat) (Option.some Jvm.ClassFile.FieldType.int)) ∈ lw_all := lw_g (lw_at lw_m8 95 rfl) rfl
theorem q1874 : (Jvm.Cond.methodLink "java/lang/StringLatin1" (84 : Nat) ({ cls := "jdk/internal/util/ArraysSupport", name := "vectorizedHashCode", desc := "(Ljava/lang/Object;IIII)I" } : Jvm.MethodName)) ∈ lw_all := lw_g (lw_at lw_m8 96 rfl) rfl
theorem q1998 : (Jvm.Cond.static ({ cls := "java/lang/StringLatin1", name := "compareTo", desc := "([B[B)I" } : Jvm.MethodName)) ∈ lw_all := lw_g (lw_at lw_m8 220 rfl) rfl
theorem q1999 : (Jvm.Cond.code ({ cls := "java/lang/StringLatin1", name := "compareTo", desc := "([B[B)I" } : Jvm.MethodName) prog_43_method_14_code (4 : Nat) (Option.some Jvm.ClassFile.FieldType.int)) ∈ lw_all := lw_g (lw_at lw_m8 221 rfl) rfl
theorem q2000 : (Jvm.Cond.methodLink "java/lang/StringLatin1" (34 : Nat) ({ cls := "java/lang/StringLatin1", name := "compareTo", desc := "([B[BII)I" } : Jvm.MethodName)) ∈ lw_all := lw_g (lw_at lw_m8 222 rfl) rfl
theorem q2001 : (Jvm.Cond.static ({ cls := "java/lang/StringLatin1", name := "compareTo", desc := "([B[BII)I" } : Jvm.MethodName)) ∈ lw_all := lw_g (lw_at lw_m8 223 rfl) rfl
theorem q2002 : (Jvm.Cond.code ({ cls := "java/lang/StringLatin1", name := "compareTo", desc := "([B[BII)I" } : Jvm.MethodName) prog_43_method_15_code (6 : Nat) (Option.some Jvm.ClassFile.FieldType.int)) ∈ lw_all := lw_g (lw_at lw_m8 224 rfl) rfl
theorem q2003 : (Jvm.Cond.methodLink "java/lang/StringLatin1" (44 : Nat) ({ cls := "jdk/internal/util/ArraysSupport", name := "mismatch", desc := "([B[BI)I" } : Jvm.MethodName)) ∈ lw_all := lw_g (lw_at lw_m8 225 rfl) rfl
theorem q2107 : (Jvm.Cond.methodLink "java/lang/StringLatin1" (50 : Nat) ({ cls := "java/lang/StringLatin1", name := "getChar", desc := "([BI)C" } : Jvm.MethodName)) ∈ lw_all := lw_g (lw_at lw_m9 89 rfl) rfl
theorem q2108 : (Jvm.Cond.static ({ cls := "java/lang/StringLatin1", name := "getChar", desc := "([BI)C" } : Jvm.MethodName)) ∈ lw_all := lw_g (lw_at lw_m9 90 rfl) rfl
theorem q2109 : (Jvm.Cond.code ({ cls := "java/lang/StringLatin1", name := "getChar", desc := "([BI)C" } : Jvm.MethodName) prog_43_method_44_code (2 : Nat) (Option.some Jvm.ClassFile.FieldType.char)) ∈ lw_all := lw_g (lw_at lw_m9 91 rfl) rfl
theorem q2117 : (Jvm.Cond.static ({ cls := "java/lang/StringLatin1", name := "compareToUTF16", desc := "([B[B)I" } : Jvm.MethodName)) ∈ lw_all := lw_g (lw_at lw_m9 99 rfl) rfl
theorem q2118 : (Jvm.Cond.code ({ cls := "java/lang/StringLatin1", name := "compareToUTF16", desc := "([B[B)I" } : Jvm.MethodName) prog_43_method_16_code (4 : Nat) (Option.some Jvm.ClassFile.FieldType.int)) ∈ lw_all := lw_g (lw_at lw_m9 100 rfl) rfl
theorem q2119 : (Jvm.Cond.methodLink "java/lang/StringLatin1" (54 : Nat) ({ cls := "java/lang/StringLatin1", name := "length", desc := "([B)I" } : Jvm.MethodName)) ∈ lw_all := lw_g (lw_at lw_m9 101 rfl) rfl
theorem q2120 : (Jvm.Cond.static ({ cls := "java/lang/StringLatin1", name := "length", desc := "([B)I" } : Jvm.MethodName)) ∈ lw_all := lw_g (lw_at lw_m9 102 rfl) rfl
theorem q2121 : (Jvm.Cond.code ({ cls := "java/lang/StringLatin1", name := "length", desc := "([B)I" } : Jvm.MethodName) prog_43_method_5_code (1 : Nat) (Option.some Jvm.ClassFile.FieldType.int)) ∈ lw_all := lw_g (lw_at lw_m9 103 rfl) rfl
theorem q2122 : (Jvm.Cond.methodLink "java/lang/StringLatin1" (58 : Nat) ({ cls := "java/lang/StringUTF16", name := "length", desc := "([B)I" } : Jvm.MethodName)) ∈ lw_all := lw_g (lw_at lw_m9 104 rfl) rfl
theorem q2123 : (Jvm.Cond.methodLink "java/lang/StringLatin1" (59 : Nat) ({ cls := "java/lang/StringLatin1", name := "compareToUTF16Values", desc := "([B[BII)I" } : Jvm.MethodName)) ∈ lw_all := lw_g (lw_at lw_m9 105 rfl) rfl
theorem q2124 : (Jvm.Cond.static ({ cls := "java/lang/StringLatin1", name := "compareToUTF16Values", desc := "([B[BII)I" } : Jvm.MethodName)) ∈ lw_all := lw_g (lw_at lw_m9 106 rfl) rfl
theorem q2125 : (Jvm.Cond.code ({ cls := "java/lang/StringLatin1", name := "compareToUTF16Values", desc := "([B[BII)I" } : Jvm.MethodName) prog_43_method_18_code (8 : Nat) (Option.some Jvm.ClassFile.FieldType.int)) ∈ lw_all := lw_g (lw_at lw_m9 107 rfl) rfl
theorem q2126 : (Jvm.Cond.methodLink "java/lang/StringLatin1" (65 : Nat) ({ cls := "java/lang/StringUTF16", name := "getChar", desc := "([BI)C" } : Jvm.MethodName)) ∈ lw_all := lw_g (lw_at lw_m9 108 rfl) rfl
theorem q2156 : (Jvm.Cond.static ({ cls := "java/lang/StringLatin1", name := "compareToUTF16", desc := "([B[BII)I" } : Jvm.MethodName)) ∈ lw_all := lw_g (lw_at lw_m9 138 rfl) rfl
theorem q2157 : (Jvm.Cond.code ({ cls := "java/lang/StringLatin1", name := "compareToUTF16", desc := "([B[BII)I" } : Jvm.MethodName) prog_43_method_17_code (4 : Nat) (Option.some Jvm.ClassFile.FieldType.int)) ∈ lw_all := lw_g (lw_at lw_m9 139 rfl) rfl
theorem q2158 : (Jvm.Cond.methodLink "java/lang/StringLatin1" (62 : Nat) ({ cls := "java/lang/String", name := "checkOffset", desc := "(II)V" } : Jvm.MethodName)) ∈ lw_all := lw_g (lw_at lw_m9 140 rfl) rfl
theorem q2495 : (Jvm.Cond.static ({ cls := "java/lang/StringLatin1", name := "fillNull", desc := "([BII)V" } : Jvm.MethodName)) ∈ lw_all := lw_g (lw_at lw_m10 237 rfl) rfl
theorem q2496 : (Jvm.Cond.code ({ cls := "java/lang/StringLatin1", name := "fillNull", desc := "([BII)V" } : Jvm.MethodName) prog_43_method_48_code (3 : Nat) (Option.none : Option Jvm.ClassFile.FieldType)) ∈ lw_all := lw_g (lw_at lw_m10 238 rfl) rfl
theorem q2497 : (Jvm.Cond.methodLink "java/lang/StringLatin1" (236 : Nat) ({ cls := "java/util/Arrays", name := "fill", desc := "([BIIB)V" } : Jvm.MethodName)) ∈ lw_all := lw_g (lw_at lw_m10 239 rfl) rfl
/-! jdk/internal/util/Preconditions -/
set_option maxRecDepth 100000
def RJ14 : String := "jdk/internal/util/Preconditions"
abbrev cJ14_checkIndex : ByteArray := prog_83_method_11_code
def yJ14_checkIndex : MethodName := ⟨RJ14, "checkIndex", "(IILjava/util/function/BiFunction;)I"⟩
def dkwJ14_checkIndex_0 : List UInt8 := [26, 155, 0, 8, 26, 27, 161, 0, 10, 44, 26, 27, 184, 0, 95, 191, 26, 172]
abbrev dktJ14_checkIndex_0 : List UInt8 := dkwJ14_checkIndex_0 ++ []
theorem dksJ14_checkIndex_0 : cJ14_checkIndex.data.toList.drop 0 = dktJ14_checkIndex_0 := by decide +kernel
theorem dJ14_checkIndex_0 : decode cJ14_checkIndex 0 = .ok (.iload_n 0, 1) := dk_26 (dk_at dksJ14_checkIndex_0 0 rfl rfl)
theorem dJ14_checkIndex_1 : decode cJ14_checkIndex 1 = .ok (.ifCond .lt 8, 3) := dk_155 0 8 (dk_at dksJ14_checkIndex_0 1 rfl rfl)
theorem dJ14_checkIndex_4 : decode cJ14_checkIndex 4 = .ok (.iload_n 0, 1) := dk_26 (dk_at dksJ14_checkIndex_0 4 rfl rfl)
theorem dJ14_checkIndex_5 : decode cJ14_checkIndex 5 = .ok (.iload_n 1, 1) := dk_27 (dk_at dksJ14_checkIndex_0 5 rfl rfl)
theorem dJ14_checkIndex_6 : decode cJ14_checkIndex 6 = .ok (.if_icmp .lt 10, 3) := dk_161 0 10 (dk_at dksJ14_checkIndex_0 6 rfl rfl)
theorem dJ14_checkIndex_9 : decode cJ14_checkIndex 9 = .ok (.aload_n 2, 1) := dk_44 (dk_at dksJ14_checkIndex_0 9 rfl rfl)
theorem dJ14_checkIndex_10 : decode cJ14_checkIndex 10 = .ok (.iload_n 0, 1) := dk_26 (dk_at dksJ14_checkIndex_0 10 rfl rfl)
theorem dJ14_checkIndex_11 : decode cJ14_checkIndex 11 = .ok (.iload_n 1, 1) := dk_27 (dk_at dksJ14_checkIndex_0 11 rfl rfl)
theorem dJ14_checkIndex_12 : decode cJ14_checkIndex 12 = .ok (.invokestatic 95, 3) := dk_184 0 95 (dk_at dksJ14_checkIndex_0 12 rfl rfl)
theorem dJ14_checkIndex_15 : decode cJ14_checkIndex 15 = .ok (.athrow, 1) := dk_191 (dk_at dksJ14_checkIndex_0 15 rfl rfl)
theorem dJ14_checkIndex_16 : decode cJ14_checkIndex 16 = .ok (.iload_n 0, 1) := dk_26 (dk_at dksJ14_checkIndex_0 16 rfl rfl)
theorem dJ14_checkIndex_17 : decode cJ14_checkIndex 17 = .ok (.ireturn, 1) := dk_172 (dk_at dksJ14_checkIndex_0 17 rfl rfl)
abbrev cJ14_checkFromIndexSize : ByteArray := prog_83_method_13_code
def yJ14_checkFromIndexSize : MethodName := ⟨RJ14, "checkFromIndexSize", "(IIILjava/util/function/BiFunction;)I"⟩
def dkwJ14_checkFromIndexSize_1 : List UInt8 := [172]
abbrev dktJ14_checkFromIndexSize_1 : List UInt8 := dkwJ14_checkFromIndexSize_1 ++ []
def dkwJ14_checkFromIndexSize_0 : List UInt8 := [28, 26, 128, 27, 128, 155, 0, 10, 27, 28, 26, 100, 164, 0, 11, 45, 26, 27, 28, 184, 0, 103, 191, 26]
abbrev dktJ14_checkFromIndexSize_0 : List UInt8 := dkwJ14_checkFromIndexSize_0 ++ dktJ14_checkFromIndexSize_1
theorem dksJ14_checkFromIndexSize_0 : cJ14_checkFromIndexSize.data.toList.drop 0 = dktJ14_checkFromIndexSize_0 := by decide +kernel
theorem dksJ14_checkFromIndexSize_1 : cJ14_checkFromIndexSize.data.toList.drop 24 = dktJ14_checkFromIndexSize_1 := dk_seg dksJ14_checkFromIndexSize_0 24 rfl rfl
theorem dJ14_checkFromIndexSize_0 : decode cJ14_checkFromIndexSize 0 = .ok (.iload_n 2, 1) := dk_28 (dk_at dksJ14_checkFromIndexSize_0 0 rfl rfl)
theorem dJ14_checkFromIndexSize_1 : decode cJ14_checkFromIndexSize 1 = .ok (.iload_n 0, 1) := dk_26 (dk_at dksJ14_checkFromIndexSize_0 1 rfl rfl)
theorem dJ14_checkFromIndexSize_2 : decode cJ14_checkFromIndexSize 2 = .ok (.ior, 1) := dk_128 (dk_at dksJ14_checkFromIndexSize_0 2 rfl rfl)
theorem dJ14_checkFromIndexSize_3 : decode cJ14_checkFromIndexSize 3 = .ok (.iload_n 1, 1) := dk_27 (dk_at dksJ14_checkFromIndexSize_0 3 rfl rfl)
theorem dJ14_checkFromIndexSize_4 : decode cJ14_checkFromIndexSize 4 = .ok (.ior, 1) := dk_128 (dk_at dksJ14_checkFromIndexSize_0 4 rfl rfl)
theorem dJ14_checkFromIndexSize_5 : decode cJ14_checkFromIndexSize 5 = .ok (.ifCond .lt 10, 3) := dk_155 0 10 (dk_at dksJ14_checkFromIndexSize_0 5 rfl rfl)
theorem dJ14_checkFromIndexSize_8 : decode cJ14_checkFromIndexSize 8 = .ok (.iload_n 1, 1) := dk_27 (dk_at dksJ14_checkFromIndexSize_0 8 rfl rfl)
theorem dJ14_checkFromIndexSize_9 : decode cJ14_checkFromIndexSize 9 = .ok (.iload_n 2, 1) := dk_28 (dk_at dksJ14_checkFromIndexSize_0 9 rfl rfl)
theorem dJ14_checkFromIndexSize_10 : decode cJ14_checkFromIndexSize 10 = .ok (.iload_n 0, 1) := dk_26 (dk_at dksJ14_checkFromIndexSize_0 10 rfl rfl)
theorem dJ14_checkFromIndexSize_11 : decode cJ14_checkFromIndexSize 11 = .ok (.isub, 1) := dk_100 (dk_at dksJ14_checkFromIndexSize_0 11 rfl rfl)
theorem dJ14_checkFromIndexSize_12 : decode cJ14_checkFromIndexSize 12 = .ok (.if_icmp .le 11, 3) := dk_164 0 11 (dk_at dksJ14_checkFromIndexSize_0 12 rfl rfl)
theorem dJ14_checkFromIndexSize_15 : decode cJ14_checkFromIndexSize 15 = .ok (.aload_n 3, 1) := dk_45 (dk_at dksJ14_checkFromIndexSize_0 15 rfl rfl)
theorem dJ14_checkFromIndexSize_16 : decode cJ14_checkFromIndexSize 16 = .ok (.iload_n 0, 1) := dk_26 (dk_at dksJ14_checkFromIndexSize_0 16 rfl rfl)
theorem dJ14_checkFromIndexSize_17 : decode cJ14_checkFromIndexSize 17 = .ok (.iload_n 1, 1) := dk_27 (dk_at dksJ14_checkFromIndexSize_0 17 rfl rfl)
theorem dJ14_checkFromIndexSize_18 : decode cJ14_checkFromIndexSize 18 = .ok (.iload_n 2, 1) := dk_28 (dk_at dksJ14_checkFromIndexSize_0 18 rfl rfl)
theorem dJ14_checkFromIndexSize_19 : decode cJ14_checkFromIndexSize 19 = .ok (.invokestatic 103, 3) := dk_184 0 103 (dk_at dksJ14_checkFromIndexSize_0 19 rfl rfl)
theorem dJ14_checkFromIndexSize_22 : decode cJ14_checkFromIndexSize 22 = .ok (.athrow, 1) := dk_191 (dk_at dksJ14_checkFromIndexSize_0 22 rfl rfl)
theorem dJ14_checkFromIndexSize_23 : decode cJ14_checkFromIndexSize 23 = .ok (.iload_n 0, 1) := dk_26 (dk_at dksJ14_checkFromIndexSize_0 23 rfl rfl)
theorem dJ14_checkFromIndexSize_24 : decode cJ14_checkFromIndexSize 24 = .ok (.ireturn, 1) := dk_172 (dk_at dksJ14_checkFromIndexSize_1 0 rfl rfl)
abbrev cJ14_checkFromToIndex : ByteArray := prog_83_method_12_code
def yJ14_checkFromToIndex : MethodName := ⟨RJ14, "checkFromToIndex", "(IIILjava/util/function/BiFunction;)I"⟩
def dkwJ14_checkFromToIndex_0 : List UInt8 := [26, 155, 0, 13, 26, 27, 163, 0, 8, 27, 28, 164, 0, 11, 45, 26, 27, 28, 184, 0, 99, 191, 26, 172]
abbrev dktJ14_checkFromToIndex_0 : List UInt8 := dkwJ14_checkFromToIndex_0 ++ []
theorem dksJ14_checkFromToIndex_0 : cJ14_checkFromToIndex.data.toList.drop 0 = dktJ14_checkFromToIndex_0 := by decide +kernel
theorem dJ14_checkFromToIndex_0 : decode cJ14_checkFromToIndex 0 = .ok (.iload_n 0, 1) := dk_26 (dk_at dksJ14_checkFromToIndex_0 0 rfl rfl)
theorem dJ14_checkFromToIndex_1 : decode cJ14_checkFromToIndex 1 = .ok (.ifCond .lt 13, 3) := dk_155 0 13 (dk_at dksJ14_checkFromToIndex_0 1 rfl rfl)
theorem dJ14_checkFromToIndex_4 : decode cJ14_checkFromToIndex 4 = .ok (.iload_n 0, 1) := dk_26 (dk_at dksJ14_checkFromToIndex_0 4 rfl rfl)
theorem dJ14_checkFromToIndex_5 : decode cJ14_checkFromToIndex 5 = .ok (.iload_n 1, 1) := dk_27 (dk_at dksJ14_checkFromToIndex_0 5 rfl rfl)
theorem dJ14_checkFromToIndex_6 : decode cJ14_checkFromToIndex 6 = .ok (.if_icmp .gt 8, 3) := dk_163 0 8 (dk_at dksJ14_checkFromToIndex_0 6 rfl rfl)
theorem dJ14_checkFromToIndex_9 : decode cJ14_checkFromToIndex 9 = .ok (.iload_n 1, 1) := dk_27 (dk_at dksJ14_checkFromToIndex_0 9 rfl rfl)
theorem dJ14_checkFromToIndex_10 : decode cJ14_checkFromToIndex 10 = .ok (.iload_n 2, 1) := dk_28 (dk_at dksJ14_checkFromToIndex_0 10 rfl rfl)
theorem dJ14_checkFromToIndex_11 : decode cJ14_checkFromToIndex 11 = .ok (.if_icmp .le 11, 3) := dk_164 0 11 (dk_at dksJ14_checkFromToIndex_0 11 rfl rfl)
theorem dJ14_checkFromToIndex_14 : decode cJ14_checkFromToIndex 14 = .ok (.aload_n 3, 1) := dk_45 (dk_at dksJ14_checkFromToIndex_0 14 rfl rfl)
theorem dJ14_checkFromToIndex_15 : decode cJ14_checkFromToIndex 15 = .ok (.iload_n 0, 1) := dk_26 (dk_at dksJ14_checkFromToIndex_0 15 rfl rfl)
theorem dJ14_checkFromToIndex_16 : decode cJ14_checkFromToIndex 16 = .ok (.iload_n 1, 1) := dk_27 (dk_at dksJ14_checkFromToIndex_0 16 rfl rfl)
theorem dJ14_checkFromToIndex_17 : decode cJ14_checkFromToIndex 17 = .ok (.iload_n 2, 1) := dk_28 (dk_at dksJ14_checkFromToIndex_0 17 rfl rfl)
theorem dJ14_checkFromToIndex_18 : decode cJ14_checkFromToIndex 18 = .ok (.invokestatic 99, 3) := dk_184 0 99 (dk_at dksJ14_checkFromToIndex_0 18 rfl rfl)
theorem dJ14_checkFromToIndex_21 : decode cJ14_checkFromToIndex 21 = .ok (.athrow, 1) := dk_191 (dk_at dksJ14_checkFromToIndex_0 21 rfl rfl)
theorem dJ14_checkFromToIndex_22 : decode cJ14_checkFromToIndex 22 = .ok (.iload_n 0, 1) := dk_26 (dk_at dksJ14_checkFromToIndex_0 22 rfl rfl)
theorem dJ14_checkFromToIndex_23 : decode cJ14_checkFromToIndex 23 = .ok (.ireturn, 1) := dk_172 (dk_at dksJ14_checkFromToIndex_0 23 rfl rfl)
theorem q122 : (Jvm.Cond.initialized "jdk/internal/util/Preconditions") ∈ lw_all := lw_g (lw_at lw_m1 24 rfl) rfl
theorem q885 : (Jvm.Cond.laysStatic "jdk/internal/util/Preconditions" "SIOOBE_FORMATTER" "Ljava/util/function/BiFunction;") ∈ lw_tbl := lw_at lw_m4 67 rfl
theorem q887 : (Jvm.Cond.static ({ cls := "jdk/internal/util/Preconditions", name := "checkIndex", desc := "(IILjava/util/function/BiFunction;)I" } : Jvm.MethodName)) ∈ lw_all := lw_g (lw_at lw_m4 69 rfl) rfl
theorem q888 : (Jvm.Cond.code ({ cls := "jdk/internal/util/Preconditions", name := "checkIndex", desc := "(IILjava/util/function/BiFunction;)I" } : Jvm.MethodName) prog_83_method_11_code (3 : Nat) (Option.some Jvm.ClassFile.FieldType.int)) ∈ lw_all := lw_g (lw_at lw_m4 70 rfl) rfl
theorem q1049 : (Jvm.Cond.static ({ cls := "jdk/internal/util/Preconditions", name := "checkFromIndexSize", desc := "(IIILjava/util/function/BiFunction;)I" } : Jvm.MethodName)) ∈ lw_all := lw_g (lw_at lw_m4 231 rfl) rfl
theorem q1050 : (Jvm.Cond.code ({ cls := "jdk/internal/util/Preconditions", name := "checkFromIndexSize", desc := "(IIILjava/util/function/BiFunction;)I" } : Jvm.MethodName) prog_83_method_13_code (4 : Nat) (Option.some Jvm.ClassFile.FieldType.int)) ∈ lw_all := lw_g (lw_at lw_m4 232 rfl) rfl
theorem q1120 : (Jvm.Cond.static ({ cls := "jdk/internal/util/Preconditions", name := "checkFromToIndex", desc := "(IIILjava/util/function/BiFunction;)I" } : Jvm.MethodName)) ∈ lw_all := lw_g (lw_at lw_m5 62 rfl) rfl
theorem q1121 : (Jvm.Cond.code ({ cls := "jdk/internal/util/Preconditions", name := "checkFromToIndex", desc := "(IIILjava/util/function/BiFunction;)I" } : Jvm.MethodName) prog_83_method_12_code (4 : Nat) (Option.some Jvm.ClassFile.FieldType.int)) ∈ lw_all := lw_g (lw_at lw_m5 63 rfl) rfl
/-! java/lang/Integer -/
set_option maxRecDepth 100000
def RJ15 : String := "java/lang/Integer"
abbrev cJ15_stringSize : ByteArray := prog_35_method_13_code
def yJ15_stringSize : MethodName := ⟨RJ15, "stringSize", "(I)I"⟩
def dkwJ15_stringSize_1 : List UInt8 := [164, 0, 7, 29, 27, 96, 172, 16, 10, 28, 104, 61, 132, 3, 1, 167, 255, 233, 16, 10, 27, 96, 172]
abbrev dktJ15_stringSize_1 : List UInt8 := dkwJ15_stringSize_1 ++ []
def dkwJ15_stringSize_0 : List UInt8 := [4, 60, 26, 155, 0, 8, 3, 60, 26, 116, 59, 16, 246, 61, 4, 62, 29, 16, 10, 162, 0, 23, 26, 28]
abbrev dktJ15_stringSize_0 : List UInt8 := dkwJ15_stringSize_0 ++ dktJ15_stringSize_1
theorem dksJ15_stringSize_0 : cJ15_stringSize.data.toList.drop 0 = dktJ15_stringSize_0 := by decide +kernel
theorem dksJ15_stringSize_1 : cJ15_stringSize.data.toList.drop 24 = dktJ15_stringSize_1 := dk_seg dksJ15_stringSize_0 24 rfl rfl
theorem dJ15_stringSize_0 : decode cJ15_stringSize 0 = .ok (.iconst 1, 1) := dk_4 (dk_at dksJ15_stringSize_0 0 rfl rfl)
theorem dJ15_stringSize_1 : decode cJ15_stringSize 1 = .ok (.istore_n 1, 1) := dk_60 (dk_at dksJ15_stringSize_0 1 rfl rfl)
theorem dJ15_stringSize_2 : decode cJ15_stringSize 2 = .ok (.iload_n 0, 1) := dk_26 (dk_at dksJ15_stringSize_0 2 rfl rfl)
theorem dJ15_stringSize_3 : decode cJ15_stringSize 3 = .ok (.ifCond .lt 8, 3) := dk_155 0 8 (dk_at dksJ15_stringSize_0 3 rfl rfl)
theorem dJ15_stringSize_6 : decode cJ15_stringSize 6 = .ok (.iconst 0, 1) := dk_3 (dk_at dksJ15_stringSize_0 6 rfl rfl)
theorem dJ15_stringSize_7 : decode cJ15_stringSize 7 = .ok (.istore_n 1, 1) := dk_60 (dk_at dksJ15_stringSize_0 7 rfl rfl)
theorem dJ15_stringSize_8 : decode cJ15_stringSize 8 = .ok (.iload_n 0, 1) := dk_26 (dk_at dksJ15_stringSize_0 8 rfl rfl)
theorem dJ15_stringSize_9 : decode cJ15_stringSize 9 = .ok (.ineg, 1) := dk_116 (dk_at dksJ15_stringSize_0 9 rfl rfl)
theorem dJ15_stringSize_10 : decode cJ15_stringSize 10 = .ok (.istore_n 0, 1) := dk_59 (dk_at dksJ15_stringSize_0 10 rfl rfl)
theorem dJ15_stringSize_11 : decode cJ15_stringSize 11 = .ok (.bipush (-10), 2) := dk_16 246 (dk_at dksJ15_stringSize_0 11 rfl rfl)
theorem dJ15_stringSize_13 : decode cJ15_stringSize 13 = .ok (.istore_n 2, 1) := dk_61 (dk_at dksJ15_stringSize_0 13 rfl rfl)
theorem dJ15_stringSize_14 : decode cJ15_stringSize 14 = .ok (.iconst 1, 1) := dk_4 (dk_at dksJ15_stringSize_0 14 rfl rfl)
theorem dJ15_stringSize_15 : decode cJ15_stringSize 15 = .ok (.istore_n 3, 1) := dk_62 (dk_at dksJ15_stringSize_0 15 rfl rfl)
theorem dJ15_stringSize_16 : decode cJ15_stringSize 16 = .ok (.iload_n 3, 1) := dk_29 (dk_at dksJ15_stringSize_0 16 rfl rfl)
theorem dJ15_stringSize_17 : decode cJ15_stringSize 17 = .ok (.bipush 10, 2) := dk_16 10 (dk_at dksJ15_stringSize_0 17 rfl rfl)
theorem dJ15_stringSize_19 : decode cJ15_stringSize 19 = .ok (.if_icmp .ge 23, 3) := dk_162 0 23 (dk_at dksJ15_stringSize_0 19 rfl rfl)
theorem dJ15_stringSize_22 : decode cJ15_stringSize 22 = .ok (.iload_n 0, 1) := dk_26 (dk_at dksJ15_stringSize_0 22 rfl rfl)
theorem dJ15_stringSize_23 : decode cJ15_stringSize 23 = .ok (.iload_n 2, 1) := dk_28 (dk_at dksJ15_stringSize_0 23 rfl rfl)
theorem dJ15_stringSize_24 : decode cJ15_stringSize 24 = .ok (.if_icmp .le 7, 3) := dk_164 0 7 (dk_at dksJ15_stringSize_1 0 rfl rfl)
theorem dJ15_stringSize_27 : decode cJ15_stringSize 27 = .ok (.iload_n 3, 1) := dk_29 (dk_at dksJ15_stringSize_1 3 rfl rfl)
theorem dJ15_stringSize_28 : decode cJ15_stringSize 28 = .ok (.iload_n 1, 1) := dk_27 (dk_at dksJ15_stringSize_1 4 rfl rfl)
theorem dJ15_stringSize_29 : decode cJ15_stringSize 29 = .ok (.iadd, 1) := dk_96 (dk_at dksJ15_stringSize_1 5 rfl rfl)
theorem dJ15_stringSize_30 : decode cJ15_stringSize 30 = .ok (.ireturn, 1) := dk_172 (dk_at dksJ15_stringSize_1 6 rfl rfl)
theorem dJ15_stringSize_31 : decode cJ15_stringSize 31 = .ok (.bipush 10, 2) := dk_16 10 (dk_at dksJ15_stringSize_1 7 rfl rfl)
theorem dJ15_stringSize_33 : decode cJ15_stringSize 33 = .ok (.iload_n 2, 1) := dk_28 (dk_at dksJ15_stringSize_1 9 rfl rfl)
theorem dJ15_stringSize_34 : decode cJ15_stringSize 34 = .ok (.imul, 1) := dk_104 (dk_at dksJ15_stringSize_1 10 rfl rfl)
theorem dJ15_stringSize_35 : decode cJ15_stringSize 35 = .ok (.istore_n 2, 1) := dk_61 (dk_at dksJ15_stringSize_1 11 rfl rfl)
theorem dJ15_stringSize_36 : decode cJ15_stringSize 36 = .ok (.iinc 3 1, 3) := dk_132 3 1 (dk_at dksJ15_stringSize_1 12 rfl rfl)
theorem dJ15_stringSize_39 : decode cJ15_stringSize 39 = .ok (.goto (-23), 3) := dk_167 255 233 (dk_at dksJ15_stringSize_1 15 rfl rfl)
theorem dJ15_stringSize_42 : decode cJ15_stringSize 42 = .ok (.bipush 10, 2) := dk_16 10 (dk_at dksJ15_stringSize_1 18 rfl rfl)
theorem dJ15_stringSize_44 : decode cJ15_stringSize 44 = .ok (.iload_n 1, 1) := dk_27 (dk_at dksJ15_stringSize_1 20 rfl rfl)
theorem dJ15_stringSize_45 : decode cJ15_stringSize 45 = .ok (.iadd, 1) := dk_96 (dk_at dksJ15_stringSize_1 21 rfl rfl)
theorem dJ15_stringSize_46 : decode cJ15_stringSize 46 = .ok (.ireturn, 1) := dk_172 (dk_at dksJ15_stringSize_1 22 rfl rfl)
abbrev cJ15_getChars : ByteArray := prog_35_method_12_code
def yJ15_getChars : MethodName := ⟨RJ15, "getChars", "(II[B)I"⟩
def dkwJ15_getChars_5 : List UInt8 := [16, 45, 84, 21, 5, 172]
abbrev dktJ15_getChars_5 : List UInt8 := dkwJ15_getChars_5 ++ []
def dkwJ15_getChars_4 : List UInt8 := [132, 5, 255, 21, 5, 178, 0, 87, 26, 116, 51, 84, 21, 6, 153, 0, 12, 44, 132, 5, 255, 21, 5]
abbrev dktJ15_getChars_4 : List UInt8 := dkwJ15_getChars_4 ++ dktJ15_getChars_5
def dkwJ15_getChars_3 : List UInt8 := [167, 255, 209, 44, 132, 5, 255, 21, 5, 178, 0, 83, 26, 116, 51, 84, 26, 16, 247, 162, 0, 16, 44]
abbrev dktJ15_getChars_3 : List UInt8 := dkwJ15_getChars_3 ++ dktJ15_getChars_4
def dkwJ15_getChars_2 : List UInt8 := [21, 5, 178, 0, 83, 21, 4, 51, 84, 44, 132, 5, 255, 21, 5, 178, 0, 87, 21, 4, 51, 84]
abbrev dktJ15_getChars_2 : List UInt8 := dkwJ15_getChars_2 ++ dktJ15_getChars_3
def dkwJ15_getChars_1 : List UInt8 := [16, 156, 163, 0, 47, 26, 16, 100, 108, 62, 29, 16, 100, 104, 26, 100, 54, 4, 29, 59, 44, 132, 5, 255]
abbrev dktJ15_getChars_1 : List UInt8 := dkwJ15_getChars_1 ++ dktJ15_getChars_2
def dkwJ15_getChars_0 : List UInt8 := [27, 54, 5, 26, 156, 0, 7, 4, 167, 0, 4, 3, 54, 6, 21, 6, 154, 0, 6, 26, 116, 59, 26]
abbrev dktJ15_getChars_0 : List UInt8 := dkwJ15_getChars_0 ++ dktJ15_getChars_1
theorem dksJ15_getChars_0 : cJ15_getChars.data.toList.drop 0 = dktJ15_getChars_0 := by decide +kernel
theorem dksJ15_getChars_1 : cJ15_getChars.data.toList.drop 23 = dktJ15_getChars_1 := dk_seg dksJ15_getChars_0 23 rfl rfl
theorem dksJ15_getChars_2 : cJ15_getChars.data.toList.drop 47 = dktJ15_getChars_2 := dk_seg dksJ15_getChars_1 24 rfl rfl
theorem dksJ15_getChars_3 : cJ15_getChars.data.toList.drop 69 = dktJ15_getChars_3 := dk_seg dksJ15_getChars_2 22 rfl rfl
theorem dksJ15_getChars_4 : cJ15_getChars.data.toList.drop 92 = dktJ15_getChars_4 := dk_seg dksJ15_getChars_3 23 rfl rfl
theorem dksJ15_getChars_5 : cJ15_getChars.data.toList.drop 115 = dktJ15_getChars_5 := dk_seg dksJ15_getChars_4 23 rfl rfl
theorem dJ15_getChars_0 : decode cJ15_getChars 0 = .ok (.iload_n 1, 1) := dk_27 (dk_at dksJ15_getChars_0 0 rfl rfl)
theorem dJ15_getChars_1 : decode cJ15_getChars 1 = .ok (.istore 5, 2) := dk_54 5 (dk_at dksJ15_getChars_0 1 rfl rfl)
theorem dJ15_getChars_3 : decode cJ15_getChars 3 = .ok (.iload_n 0, 1) := dk_26 (dk_at dksJ15_getChars_0 3 rfl rfl)
theorem dJ15_getChars_4 : decode cJ15_getChars 4 = .ok (.ifCond .ge 7, 3) := dk_156 0 7 (dk_at dksJ15_getChars_0 4 rfl rfl)
theorem dJ15_getChars_7 : decode cJ15_getChars 7 = .ok (.iconst 1, 1) := dk_4 (dk_at dksJ15_getChars_0 7 rfl rfl)
theorem dJ15_getChars_8 : decode cJ15_getChars 8 = .ok (.goto 4, 3) := dk_167 0 4 (dk_at dksJ15_getChars_0 8 rfl rfl)
theorem dJ15_getChars_11 : decode cJ15_getChars 11 = .ok (.iconst 0, 1) := dk_3 (dk_at dksJ15_getChars_0 11 rfl rfl)
theorem dJ15_getChars_12 : decode cJ15_getChars 12 = .ok (.istore 6, 2) := dk_54 6 (dk_at dksJ15_getChars_0 12 rfl rfl)
theorem dJ15_getChars_14 : decode cJ15_getChars 14 = .ok (.iload 6, 2) := dk_21 6 (dk_at dksJ15_getChars_0 14 rfl rfl)
theorem dJ15_getChars_16 : decode cJ15_getChars 16 = .ok (.ifCond .ne 6, 3) := dk_154 0 6 (dk_at dksJ15_getChars_0 16 rfl rfl)
theorem dJ15_getChars_19 : decode cJ15_getChars 19 = .ok (.iload_n 0, 1) := dk_26 (dk_at dksJ15_getChars_0 19 rfl rfl)
theorem dJ15_getChars_20 : decode cJ15_getChars 20 = .ok (.ineg, 1) := dk_116 (dk_at dksJ15_getChars_0 20 rfl rfl)
theorem dJ15_getChars_21 : decode cJ15_getChars 21 = .ok (.istore_n 0, 1) := dk_59 (dk_at dksJ15_getChars_0 21 rfl rfl)
theorem dJ15_getChars_22 : decode cJ15_getChars 22 = .ok (.iload_n 0, 1) := dk_26 (dk_at dksJ15_getChars_0 22 rfl rfl)
theorem dJ15_getChars_23 : decode cJ15_getChars 23 = .ok (.bipush (-100), 2) := dk_16 156 (dk_at dksJ15_getChars_1 0 rfl rfl)
theorem dJ15_getChars_25 : decode cJ15_getChars 25 = .ok (.if_icmp .gt 47, 3) := dk_163 0 47 (dk_at dksJ15_getChars_1 2 rfl rfl)
theorem dJ15_getChars_28 : decode cJ15_getChars 28 = .ok (.iload_n 0, 1) := dk_26 (dk_at dksJ15_getChars_1 5 rfl rfl)
theorem dJ15_getChars_29 : decode cJ15_getChars 29 = .ok (.bipush 100, 2) := dk_16 100 (dk_at dksJ15_getChars_1 6 rfl rfl)
theorem dJ15_getChars_31 : decode cJ15_getChars 31 = .ok (.idiv, 1) := dk_108 (dk_at dksJ15_getChars_1 8 rfl rfl)
theorem dJ15_getChars_32 : decode cJ15_getChars 32 = .ok (.istore_n 3, 1) := dk_62 (dk_at dksJ15_getChars_1 9 rfl rfl)
theorem dJ15_getChars_33 : decode cJ15_getChars 33 = .ok (.iload_n 3, 1) := dk_29 (dk_at dksJ15_getChars_1 10 rfl rfl)
theorem dJ15_getChars_34 : decode cJ15_getChars 34 = .ok (.bipush 100, 2) := dk_16 100 (dk_at dksJ15_getChars_1 11 rfl rfl)
theorem dJ15_getChars_36 : decode cJ15_getChars 36 = .ok (.imul, 1) := dk_104 (dk_at dksJ15_getChars_1 13 rfl rfl)
theorem dJ15_getChars_37 : decode cJ15_getChars 37 = .ok (.iload_n 0, 1) := dk_26 (dk_at dksJ15_getChars_1 14 rfl rfl)
theorem dJ15_getChars_38 : decode cJ15_getChars 38 = .ok (.isub, 1) := dk_100 (dk_at dksJ15_getChars_1 15 rfl rfl)
theorem dJ15_getChars_39 : decode cJ15_getChars 39 = .ok (.istore 4, 2) := dk_54 4 (dk_at dksJ15_getChars_1 16 rfl rfl)
theorem dJ15_getChars_41 : decode cJ15_getChars 41 = .ok (.iload_n 3, 1) := dk_29 (dk_at dksJ15_getChars_1 18 rfl rfl)
theorem dJ15_getChars_42 : decode cJ15_getChars 42 = .ok (.istore_n 0, 1) := dk_59 (dk_at dksJ15_getChars_1 19 rfl rfl)
theorem dJ15_getChars_43 : decode cJ15_getChars 43 = .ok (.aload_n 2, 1) := dk_44 (dk_at dksJ15_getChars_1 20 rfl rfl)
theorem dJ15_getChars_44 : decode cJ15_getChars 44 = .ok (.iinc 5 (-1), 3) := dk_132 5 255 (dk_at dksJ15_getChars_1 21 rfl rfl)
theorem dJ15_getChars_47 : decode cJ15_getChars 47 = .ok (.iload 5, 2) := dk_21 5 (dk_at dksJ15_getChars_2 0 rfl rfl)
theorem dJ15_getChars_49 : decode cJ15_getChars 49 = .ok (.getstatic 83, 3) := dk_178 0 83 (dk_at dksJ15_getChars_2 2 rfl rfl)
theorem dJ15_getChars_52 : decode cJ15_getChars 52 = .ok (.iload 4, 2) := dk_21 4 (dk_at dksJ15_getChars_2 5 rfl rfl)
theorem dJ15_getChars_54 : decode cJ15_getChars 54 = .ok (.baload, 1) := dk_51 (dk_at dksJ15_getChars_2 7 rfl rfl)
theorem dJ15_getChars_55 : decode cJ15_getChars 55 = .ok (.bastore, 1) := dk_84 (dk_at dksJ15_getChars_2 8 rfl rfl)
theorem dJ15_getChars_56 : decode cJ15_getChars 56 = .ok (.aload_n 2, 1) := dk_44 (dk_at dksJ15_getChars_2 9 rfl rfl)
theorem dJ15_getChars_57 : decode cJ15_getChars 57 = .ok (.iinc 5 (-1), 3) := dk_132 5 255 (dk_at dksJ15_getChars_2 10 rfl rfl)
theorem dJ15_getChars_60 : decode cJ15_getChars 60 = .ok (.iload 5, 2) := dk_21 5 (dk_at dksJ15_getChars_2 13 rfl rfl)
theorem dJ15_getChars_62 : decode cJ15_getChars 62 = .ok (.getstatic 87, 3) := dk_178 0 87 (dk_at dksJ15_getChars_2 15 rfl rfl)
theorem dJ15_getChars_65 : decode cJ15_getChars 65 = .ok (.iload 4, 2) := dk_21 4 (dk_at dksJ15_getChars_2 18 rfl rfl)
theorem dJ15_getChars_67 : decode cJ15_getChars 67 = .ok (.baload, 1) := dk_51 (dk_at dksJ15_getChars_2 20 rfl rfl)
theorem dJ15_getChars_68 : decode cJ15_getChars 68 = .ok (.bastore, 1) := dk_84 (dk_at dksJ15_getChars_2 21 rfl rfl)
theorem dJ15_getChars_69 : decode cJ15_getChars 69 = .ok (.goto (-47), 3) := dk_167 255 209 (dk_at dksJ15_getChars_3 0 rfl rfl)
theorem dJ15_getChars_72 : decode cJ15_getChars 72 = .ok (.aload_n 2, 1) := dk_44 (dk_at dksJ15_getChars_3 3 rfl rfl)
theorem dJ15_getChars_73 : decode cJ15_getChars 73 = .ok (.iinc 5 (-1), 3) := dk_132 5 255 (dk_at dksJ15_getChars_3 4 rfl rfl)
theorem dJ15_getChars_76 : decode cJ15_getChars 76 = .ok (.iload 5, 2) := dk_21 5 (dk_at dksJ15_getChars_3 7 rfl rfl)
theorem dJ15_getChars_78 : decode cJ15_getChars 78 = .ok (.getstatic 83, 3) := dk_178 0 83 (dk_at dksJ15_getChars_3 9 rfl rfl)
theorem dJ15_getChars_81 : decode cJ15_getChars 81 = .ok (.iload_n 0, 1) := dk_26 (dk_at dksJ15_getChars_3 12 rfl rfl)
theorem dJ15_getChars_82 : decode cJ15_getChars 82 = .ok (.ineg, 1) := dk_116 (dk_at dksJ15_getChars_3 13 rfl rfl)
theorem dJ15_getChars_83 : decode cJ15_getChars 83 = .ok (.baload, 1) := dk_51 (dk_at dksJ15_getChars_3 14 rfl rfl)
theorem dJ15_getChars_84 : decode cJ15_getChars 84 = .ok (.bastore, 1) := dk_84 (dk_at dksJ15_getChars_3 15 rfl rfl)
theorem dJ15_getChars_85 : decode cJ15_getChars 85 = .ok (.iload_n 0, 1) := dk_26 (dk_at dksJ15_getChars_3 16 rfl rfl)
theorem dJ15_getChars_86 : decode cJ15_getChars 86 = .ok (.bipush (-9), 2) := dk_16 247 (dk_at dksJ15_getChars_3 17 rfl rfl)
theorem dJ15_getChars_88 : decode cJ15_getChars 88 = .ok (.if_icmp .ge 16, 3) := dk_162 0 16 (dk_at dksJ15_getChars_3 19 rfl rfl)
theorem dJ15_getChars_91 : decode cJ15_getChars 91 = .ok (.aload_n 2, 1) := dk_44 (dk_at dksJ15_getChars_3 22 rfl rfl)
theorem dJ15_getChars_92 : decode cJ15_getChars 92 = .ok (.iinc 5 (-1), 3) := dk_132 5 255 (dk_at dksJ15_getChars_4 0 rfl rfl)
theorem dJ15_getChars_95 : decode cJ15_getChars 95 = .ok (.iload 5, 2) := dk_21 5 (dk_at dksJ15_getChars_4 3 rfl rfl)
theorem dJ15_getChars_97 : decode cJ15_getChars 97 = .ok (.getstatic 87, 3) := dk_178 0 87 (dk_at dksJ15_getChars_4 5 rfl rfl)
theorem dJ15_getChars_100 : decode cJ15_getChars 100 = .ok (.iload_n 0, 1) := dk_26 (dk_at dksJ15_getChars_4 8 rfl rfl)
theorem dJ15_getChars_101 : decode cJ15_getChars 101 = .ok (.ineg, 1) := dk_116 (dk_at dksJ15_getChars_4 9 rfl rfl)
theorem dJ15_getChars_102 : decode cJ15_getChars 102 = .ok (.baload, 1) := dk_51 (dk_at dksJ15_getChars_4 10 rfl rfl)
theorem dJ15_getChars_103 : decode cJ15_getChars 103 = .ok (.bastore, 1) := dk_84 (dk_at dksJ15_getChars_4 11 rfl rfl)
theorem dJ15_getChars_104 : decode cJ15_getChars 104 = .ok (.iload 6, 2) := dk_21 6 (dk_at dksJ15_getChars_4 12 rfl rfl)
theorem dJ15_getChars_106 : decode cJ15_getChars 106 = .ok (.ifCond .eq 12, 3) := dk_153 0 12 (dk_at dksJ15_getChars_4 14 rfl rfl)
theorem dJ15_getChars_109 : decode cJ15_getChars 109 = .ok (.aload_n 2, 1) := dk_44 (dk_at dksJ15_getChars_4 17 rfl rfl)
theorem dJ15_getChars_110 : decode cJ15_getChars 110 = .ok (.iinc 5 (-1), 3) := dk_132 5 255 (dk_at dksJ15_getChars_4 18 rfl rfl)
theorem dJ15_getChars_113 : decode cJ15_getChars 113 = .ok (.iload 5, 2) := dk_21 5 (dk_at dksJ15_getChars_4 21 rfl rfl)
theorem dJ15_getChars_115 : decode cJ15_getChars 115 = .ok (.bipush 45, 2) := dk_16 45 (dk_at dksJ15_getChars_5 0 rfl rfl)
theorem dJ15_getChars_117 : decode cJ15_getChars 117 = .ok (.bastore, 1) := dk_84 (dk_at dksJ15_getChars_5 2 rfl rfl)
theorem dJ15_getChars_118 : decode cJ15_getChars 118 = .ok (.iload 5, 2) := dk_21 5 (dk_at dksJ15_getChars_5 3 rfl rfl)
theorem dJ15_getChars_120 : decode cJ15_getChars 120 = .ok (.ireturn, 1) := dk_172 (dk_at dksJ15_getChars_5 5 rfl rfl)
abbrev cJ15_numberOfLeadingZeros : ByteArray := prog_35_method_47_code
def yJ15_numberOfLeadingZeros : MethodName := ⟨RJ15, "numberOfLeadingZeros", "(I)I"⟩
def dkwJ15_numberOfLeadingZeros_3 : List UInt8 := [5, 124, 59, 27, 26, 4, 124, 100, 172]
abbrev dktJ15_numberOfLeadingZeros_3 : List UInt8 := dkwJ15_numberOfLeadingZeros_3 ++ []
def dkwJ15_numberOfLeadingZeros_2 : List UInt8 := [124, 59, 26, 16, 16, 161, 0, 10, 132, 1, 252, 26, 7, 124, 59, 26, 7, 161, 0, 10, 132, 1, 254, 26]
abbrev dktJ15_numberOfLeadingZeros_2 : List UInt8 := dkwJ15_numberOfLeadingZeros_2 ++ dktJ15_numberOfLeadingZeros_3
def dkwJ15_numberOfLeadingZeros_1 : List UInt8 := [161, 0, 11, 132, 1, 240, 26, 16, 16, 124, 59, 26, 17, 1, 0, 161, 0, 11, 132, 1, 248, 26, 16, 8]
abbrev dktJ15_numberOfLeadingZeros_1 : List UInt8 := dkwJ15_numberOfLeadingZeros_1 ++ dktJ15_numberOfLeadingZeros_2
def dkwJ15_numberOfLeadingZeros_0 : List UInt8 := [26, 157, 0, 14, 26, 154, 0, 8, 16, 32, 167, 0, 4, 3, 172, 16, 31, 60, 26, 19, 1, 8]
abbrev dktJ15_numberOfLeadingZeros_0 : List UInt8 := dkwJ15_numberOfLeadingZeros_0 ++ dktJ15_numberOfLeadingZeros_1
theorem dksJ15_numberOfLeadingZeros_0 : cJ15_numberOfLeadingZeros.data.toList.drop 0 = dktJ15_numberOfLeadingZeros_0 := by decide +kernel
theorem dksJ15_numberOfLeadingZeros_1 : cJ15_numberOfLeadingZeros.data.toList.drop 22 = dktJ15_numberOfLeadingZeros_1 := dk_seg dksJ15_numberOfLeadingZeros_0 22 rfl rfl
theorem dksJ15_numberOfLeadingZeros_2 : cJ15_numberOfLeadingZeros.data.toList.drop 46 = dktJ15_numberOfLeadingZeros_2 := dk_seg dksJ15_numberOfLeadingZeros_1 24 rfl rfl
theorem dksJ15_numberOfLeadingZeros_3 : cJ15_numberOfLeadingZeros.data.toList.drop 70 = dktJ15_numberOfLeadingZeros_3 := dk_seg dksJ15_numberOfLeadingZeros_2 24 rfl rfl
theorem dJ15_numberOfLeadingZeros_0 : decode cJ15_numberOfLeadingZeros 0 = .ok (.iload_n 0, 1) := dk_26 (dk_at dksJ15_numberOfLeadingZeros_0 0 rfl rfl)
theorem dJ15_numberOfLeadingZeros_1 : decode cJ15_numberOfLeadingZeros 1 = .ok (.ifCond .gt 14, 3) := dk_157 0 14 (dk_at dksJ15_numberOfLeadingZeros_0 1 rfl rfl)
theorem dJ15_numberOfLeadingZeros_4 : decode cJ15_numberOfLeadingZeros 4 = .ok (.iload_n 0, 1) := dk_26 (dk_at dksJ15_numberOfLeadingZeros_0 4 rfl rfl)
theorem dJ15_numberOfLeadingZeros_5 : decode cJ15_numberOfLeadingZeros 5 = .ok (.ifCond .ne 8, 3) := dk_154 0 8 (dk_at dksJ15_numberOfLeadingZeros_0 5 rfl rfl)
theorem dJ15_numberOfLeadingZeros_8 : decode cJ15_numberOfLeadingZeros 8 = .ok (.bipush 32, 2) := dk_16 32 (dk_at dksJ15_numberOfLeadingZeros_0 8 rfl rfl)
theorem dJ15_numberOfLeadingZeros_10 : decode cJ15_numberOfLeadingZeros 10 = .ok (.goto 4, 3) := dk_167 0 4 (dk_at dksJ15_numberOfLeadingZeros_0 10 rfl rfl)
theorem dJ15_numberOfLeadingZeros_13 : decode cJ15_numberOfLeadingZeros 13 = .ok (.iconst 0, 1) := dk_3 (dk_at dksJ15_numberOfLeadingZeros_0 13 rfl rfl)
theorem dJ15_numberOfLeadingZeros_14 : decode cJ15_numberOfLeadingZeros 14 = .ok (.ireturn, 1) := dk_172 (dk_at dksJ15_numberOfLeadingZeros_0 14 rfl rfl)
theorem dJ15_numberOfLeadingZeros_15 : decode cJ15_numberOfLeadingZeros 15 = .ok (.bipush 31, 2) := dk_16 31 (dk_at dksJ15_numberOfLeadingZeros_0 15 rfl rfl)
theorem dJ15_numberOfLeadingZeros_17 : decode cJ15_numberOfLeadingZeros 17 = .ok (.istore_n 1, 1) := dk_60 (dk_at dksJ15_numberOfLeadingZeros_0 17 rfl rfl)
theorem dJ15_numberOfLeadingZeros_18 : decode cJ15_numberOfLeadingZeros 18 = .ok (.iload_n 0, 1) := dk_26 (dk_at dksJ15_numberOfLeadingZeros_0 18 rfl rfl)
theorem dJ15_numberOfLeadingZeros_19 : decode cJ15_numberOfLeadingZeros 19 = .ok (.ldc_w 264, 3) := dk_19 1 8 (dk_at dksJ15_numberOfLeadingZeros_0 19 rfl rfl)
theorem dJ15_numberOfLeadingZeros_22 : decode cJ15_numberOfLeadingZeros 22 = .ok (.if_icmp .lt 11, 3) := dk_161 0 11 (dk_at dksJ15_numberOfLeadingZeros_1 0 rfl rfl)
theorem dJ15_numberOfLeadingZeros_25 : decode cJ15_numberOfLeadingZeros 25 = .ok (.iinc 1 (-16), 3) := dk_132 1 240 (dk_at dksJ15_numberOfLeadingZeros_1 3 rfl rfl)
theorem dJ15_numberOfLeadingZeros_28 : decode cJ15_numberOfLeadingZeros 28 = .ok (.iload_n 0, 1) := dk_26 (dk_at dksJ15_numberOfLeadingZeros_1 6 rfl rfl)
theorem dJ15_numberOfLeadingZeros_29 : decode cJ15_numberOfLeadingZeros 29 = .ok (.bipush 16, 2) := dk_16 16 (dk_at dksJ15_numberOfLeadingZeros_1 7 rfl rfl)
theorem dJ15_numberOfLeadingZeros_31 : decode cJ15_numberOfLeadingZeros 31 = .ok (.iushr, 1) := dk_124 (dk_at dksJ15_numberOfLeadingZeros_1 9 rfl rfl)
theorem dJ15_numberOfLeadingZeros_32 : decode cJ15_numberOfLeadingZeros 32 = .ok (.istore_n 0, 1) := dk_59 (dk_at dksJ15_numberOfLeadingZeros_1 10 rfl rfl)
theorem dJ15_numberOfLeadingZeros_33 : decode cJ15_numberOfLeadingZeros 33 = .ok (.iload_n 0, 1) := dk_26 (dk_at dksJ15_numberOfLeadingZeros_1 11 rfl rfl)
theorem dJ15_numberOfLeadingZeros_34 : decode cJ15_numberOfLeadingZeros 34 = .ok (.sipush 256, 3) := dk_17 1 0 (dk_at dksJ15_numberOfLeadingZeros_1 12 rfl rfl)
theorem dJ15_numberOfLeadingZeros_37 : decode cJ15_numberOfLeadingZeros 37 = .ok (.if_icmp .lt 11, 3) := dk_161 0 11 (dk_at dksJ15_numberOfLeadingZeros_1 15 rfl rfl)
theorem dJ15_numberOfLeadingZeros_40 : decode cJ15_numberOfLeadingZeros 40 = .ok (.iinc 1 (-8), 3) := dk_132 1 248 (dk_at dksJ15_numberOfLeadingZeros_1 18 rfl rfl)
theorem dJ15_numberOfLeadingZeros_43 : decode cJ15_numberOfLeadingZeros 43 = .ok (.iload_n 0, 1) := dk_26 (dk_at dksJ15_numberOfLeadingZeros_1 21 rfl rfl)
theorem dJ15_numberOfLeadingZeros_44 : decode cJ15_numberOfLeadingZeros 44 = .ok (.bipush 8, 2) := dk_16 8 (dk_at dksJ15_numberOfLeadingZeros_1 22 rfl rfl)
theorem dJ15_numberOfLeadingZeros_46 : decode cJ15_numberOfLeadingZeros 46 = .ok (.iushr, 1) := dk_124 (dk_at dksJ15_numberOfLeadingZeros_2 0 rfl rfl)
theorem dJ15_numberOfLeadingZeros_47 : decode cJ15_numberOfLeadingZeros 47 = .ok (.istore_n 0, 1) := dk_59 (dk_at dksJ15_numberOfLeadingZeros_2 1 rfl rfl)
theorem dJ15_numberOfLeadingZeros_48 : decode cJ15_numberOfLeadingZeros 48 = .ok (.iload_n 0, 1) := dk_26 (dk_at dksJ15_numberOfLeadingZeros_2 2 rfl rfl)
theorem dJ15_numberOfLeadingZeros_49 : decode cJ15_numberOfLeadingZeros 49 = .ok (.bipush 16, 2) := dk_16 16 (dk_at dksJ15_numberOfLeadingZeros_2 3 rfl rfl)
theorem dJ15_numberOfLeadingZeros_51 : decode cJ15_numberOfLeadingZeros 51 = .ok (.if_icmp .lt 10, 3) := dk_161 0 10 (dk_at dksJ15_numberOfLeadingZeros_2 5 rfl rfl)
theorem dJ15_numberOfLeadingZeros_54 : decode cJ15_numberOfLeadingZeros 54 = .ok (.iinc 1 (-4), 3) := dk_132 1 252 (dk_at dksJ15_numberOfLeadingZeros_2 8 rfl rfl)
theorem dJ15_numberOfLeadingZeros_57 : decode cJ15_numberOfLeadingZeros 57 = .ok (.iload_n 0, 1) := dk_26 (dk_at dksJ15_numberOfLeadingZeros_2 11 rfl rfl)
theorem dJ15_numberOfLeadingZeros_58 : decode cJ15_numberOfLeadingZeros 58 = .ok (.iconst 4, 1) := dk_7 (dk_at dksJ15_numberOfLeadingZeros_2 12 rfl rfl)
theorem dJ15_numberOfLeadingZeros_59 : decode cJ15_numberOfLeadingZeros 59 = .ok (.iushr, 1) := dk_124 (dk_at dksJ15_numberOfLeadingZeros_2 13 rfl rfl)
theorem dJ15_numberOfLeadingZeros_60 : decode cJ15_numberOfLeadingZeros 60 = .ok (.istore_n 0, 1) := dk_59 (dk_at dksJ15_numberOfLeadingZeros_2 14 rfl rfl)
theorem dJ15_numberOfLeadingZeros_61 : decode cJ15_numberOfLeadingZeros 61 = .ok (.iload_n 0, 1) := dk_26 (dk_at dksJ15_numberOfLeadingZeros_2 15 rfl rfl)
theorem dJ15_numberOfLeadingZeros_62 : decode cJ15_numberOfLeadingZeros 62 = .ok (.iconst 4, 1) := dk_7 (dk_at dksJ15_numberOfLeadingZeros_2 16 rfl rfl)
theorem dJ15_numberOfLeadingZeros_63 : decode cJ15_numberOfLeadingZeros 63 = .ok (.if_icmp .lt 10, 3) := dk_161 0 10 (dk_at dksJ15_numberOfLeadingZeros_2 17 rfl rfl)
theorem dJ15_numberOfLeadingZeros_66 : decode cJ15_numberOfLeadingZeros 66 = .ok (.iinc 1 (-2), 3) := dk_132 1 254 (dk_at dksJ15_numberOfLeadingZeros_2 20 rfl rfl)
theorem dJ15_numberOfLeadingZeros_69 : decode cJ15_numberOfLeadingZeros 69 = .ok (.iload_n 0, 1) := dk_26 (dk_at dksJ15_numberOfLeadingZeros_2 23 rfl rfl)
theorem dJ15_numberOfLeadingZeros_70 : decode cJ15_numberOfLeadingZeros 70 = .ok (.iconst 2, 1) := dk_5 (dk_at dksJ15_numberOfLeadingZeros_3 0 rfl rfl)
theorem dJ15_numberOfLeadingZeros_71 : decode cJ15_numberOfLeadingZeros 71 = .ok (.iushr, 1) := dk_124 (dk_at dksJ15_numberOfLeadingZeros_3 1 rfl rfl)
theorem dJ15_numberOfLeadingZeros_72 : decode cJ15_numberOfLeadingZeros 72 = .ok (.istore_n 0, 1) := dk_59 (dk_at dksJ15_numberOfLeadingZeros_3 2 rfl rfl)
theorem dJ15_numberOfLeadingZeros_73 : decode cJ15_numberOfLeadingZeros 73 = .ok (.iload_n 1, 1) := dk_27 (dk_at dksJ15_numberOfLeadingZeros_3 3 rfl rfl)
theorem dJ15_numberOfLeadingZeros_74 : decode cJ15_numberOfLeadingZeros 74 = .ok (.iload_n 0, 1) := dk_26 (dk_at dksJ15_numberOfLeadingZeros_3 4 rfl rfl)
theorem dJ15_numberOfLeadingZeros_75 : decode cJ15_numberOfLeadingZeros 75 = .ok (.iconst 1, 1) := dk_4 (dk_at dksJ15_numberOfLeadingZeros_3 5 rfl rfl)
theorem dJ15_numberOfLeadingZeros_76 : decode cJ15_numberOfLeadingZeros 76 = .ok (.iushr, 1) := dk_124 (dk_at dksJ15_numberOfLeadingZeros_3 6 rfl rfl)
theorem dJ15_numberOfLeadingZeros_77 : decode cJ15_numberOfLeadingZeros 77 = .ok (.isub, 1) := dk_100 (dk_at dksJ15_numberOfLeadingZeros_3 7 rfl rfl)
theorem dJ15_numberOfLeadingZeros_78 : decode cJ15_numberOfLeadingZeros 78 = .ok (.ireturn, 1) := dk_172 (dk_at dksJ15_numberOfLeadingZeros_3 8 rfl rfl)
abbrev cJ15_numberOfTrailingZeros : ByteArray := prog_35_method_48_code
def yJ15_numberOfTrailingZeros : MethodName := ⟨RJ15, "numberOfTrailingZeros", "(I)I"⟩
def dkwJ15_numberOfTrailingZeros_3 : List UInt8 := [5, 124, 59, 27, 26, 4, 124, 96, 172]
abbrev dktJ15_numberOfTrailingZeros_3 : List UInt8 := dkwJ15_numberOfTrailingZeros_3 ++ []
def dkwJ15_numberOfTrailingZeros_2 : List UInt8 := [124, 59, 26, 16, 16, 164, 0, 10, 132, 1, 4, 26, 7, 124, 59, 26, 7, 164, 0, 10, 132, 1, 2, 26]
abbrev dktJ15_numberOfTrailingZeros_2 : List UInt8 := dkwJ15_numberOfTrailingZeros_2 ++ dktJ15_numberOfTrailingZeros_3
def dkwJ15_numberOfTrailingZeros_1 : List UInt8 := [164, 0, 11, 132, 1, 16, 26, 16, 16, 124, 59, 26, 17, 1, 0, 164, 0, 11, 132, 1, 8, 26, 16, 8]
abbrev dktJ15_numberOfTrailingZeros_1 : List UInt8 := dkwJ15_numberOfTrailingZeros_1 ++ dktJ15_numberOfTrailingZeros_2
def dkwJ15_numberOfTrailingZeros_0 : List UInt8 := [26, 2, 130, 26, 4, 100, 126, 59, 26, 157, 0, 8, 26, 16, 32, 126, 172, 4, 60, 26, 19, 1, 8]
abbrev dktJ15_numberOfTrailingZeros_0 : List UInt8 := dkwJ15_numberOfTrailingZeros_0 ++ dktJ15_numberOfTrailingZeros_1
theorem dksJ15_numberOfTrailingZeros_0 : cJ15_numberOfTrailingZeros.data.toList.drop 0 = dktJ15_numberOfTrailingZeros_0 := by decide +kernel
theorem dksJ15_numberOfTrailingZeros_1 : cJ15_numberOfTrailingZeros.data.toList.drop 23 = dktJ15_numberOfTrailingZeros_1 := dk_seg dksJ15_numberOfTrailingZeros_0 23 rfl rfl
theorem dksJ15_numberOfTrailingZeros_2 : cJ15_numberOfTrailingZeros.data.toList.drop 47 = dktJ15_numberOfTrailingZeros_2 := dk_seg dksJ15_numberOfTrailingZeros_1 24 rfl rfl
theorem dksJ15_numberOfTrailingZeros_3 : cJ15_numberOfTrailingZeros.data.toList.drop 71 = dktJ15_numberOfTrailingZeros_3 := dk_seg dksJ15_numberOfTrailingZeros_2 24 rfl rfl
theorem dJ15_numberOfTrailingZeros_0 : decode cJ15_numberOfTrailingZeros 0 = .ok (.iload_n 0, 1) := dk_26 (dk_at dksJ15_numberOfTrailingZeros_0 0 rfl rfl)
theorem dJ15_numberOfTrailingZeros_1 : decode cJ15_numberOfTrailingZeros 1 = .ok (.iconst (-1), 1) := dk_2 (dk_at dksJ15_numberOfTrailingZeros_0 1 rfl rfl)
theorem dJ15_numberOfTrailingZeros_2 : decode cJ15_numberOfTrailingZeros 2 = .ok (.ixor, 1) := dk_130 (dk_at dksJ15_numberOfTrailingZeros_0 2 rfl rfl)
theorem dJ15_numberOfTrailingZeros_3 : decode cJ15_numberOfTrailingZeros 3 = .ok (.iload_n 0, 1) := dk_26 (dk_at dksJ15_numberOfTrailingZeros_0 3 rfl rfl)
theorem dJ15_numberOfTrailingZeros_4 : decode cJ15_numberOfTrailingZeros 4 = .ok (.iconst 1, 1) := dk_4 (dk_at dksJ15_numberOfTrailingZeros_0 4 rfl rfl)
theorem dJ15_numberOfTrailingZeros_5 : decode cJ15_numberOfTrailingZeros 5 = .ok (.isub, 1) := dk_100 (dk_at dksJ15_numberOfTrailingZeros_0 5 rfl rfl)
theorem dJ15_numberOfTrailingZeros_6 : decode cJ15_numberOfTrailingZeros 6 = .ok (.iand, 1) := dk_126 (dk_at dksJ15_numberOfTrailingZeros_0 6 rfl rfl)
theorem dJ15_numberOfTrailingZeros_7 : decode cJ15_numberOfTrailingZeros 7 = .ok (.istore_n 0, 1) := dk_59 (dk_at dksJ15_numberOfTrailingZeros_0 7 rfl rfl)
theorem dJ15_numberOfTrailingZeros_8 : decode cJ15_numberOfTrailingZeros 8 = .ok (.iload_n 0, 1) := dk_26 (dk_at dksJ15_numberOfTrailingZeros_0 8 rfl rfl)
theorem dJ15_numberOfTrailingZeros_9 : decode cJ15_numberOfTrailingZeros 9 = .ok (.ifCond .gt 8, 3) := dk_157 0 8 (dk_at dksJ15_numberOfTrailingZeros_0 9 rfl rfl)
theorem dJ15_numberOfTrailingZeros_12 : decode cJ15_numberOfTrailingZeros 12 = .ok (.iload_n 0, 1) := dk_26 (dk_at dksJ15_numberOfTrailingZeros_0 12 rfl rfl)
theorem dJ15_numberOfTrailingZeros_13 : decode cJ15_numberOfTrailingZeros 13 = .ok (.bipush 32, 2) := dk_16 32 (dk_at dksJ15_numberOfTrailingZeros_0 13 rfl rfl)
theorem dJ15_numberOfTrailingZeros_15 : decode cJ15_numberOfTrailingZeros 15 = .ok (.iand, 1) := dk_126 (dk_at dksJ15_numberOfTrailingZeros_0 15 rfl rfl)
theorem dJ15_numberOfTrailingZeros_16 : decode cJ15_numberOfTrailingZeros 16 = .ok (.ireturn, 1) := dk_172 (dk_at dksJ15_numberOfTrailingZeros_0 16 rfl rfl)
theorem dJ15_numberOfTrailingZeros_17 : decode cJ15_numberOfTrailingZeros 17 = .ok (.iconst 1, 1) := dk_4 (dk_at dksJ15_numberOfTrailingZeros_0 17 rfl rfl)
theorem dJ15_numberOfTrailingZeros_18 : decode cJ15_numberOfTrailingZeros 18 = .ok (.istore_n 1, 1) := dk_60 (dk_at dksJ15_numberOfTrailingZeros_0 18 rfl rfl)
theorem dJ15_numberOfTrailingZeros_19 : decode cJ15_numberOfTrailingZeros 19 = .ok (.iload_n 0, 1) := dk_26 (dk_at dksJ15_numberOfTrailingZeros_0 19 rfl rfl)
theorem dJ15_numberOfTrailingZeros_20 : decode cJ15_numberOfTrailingZeros 20 = .ok (.ldc_w 264, 3) := dk_19 1 8 (dk_at dksJ15_numberOfTrailingZeros_0 20 rfl rfl)
theorem dJ15_numberOfTrailingZeros_23 : decode cJ15_numberOfTrailingZeros 23 = .ok (.if_icmp .le 11, 3) := dk_164 0 11 (dk_at dksJ15_numberOfTrailingZeros_1 0 rfl rfl)
theorem dJ15_numberOfTrailingZeros_26 : decode cJ15_numberOfTrailingZeros 26 = .ok (.iinc 1 16, 3) := dk_132 1 16 (dk_at dksJ15_numberOfTrailingZeros_1 3 rfl rfl)
theorem dJ15_numberOfTrailingZeros_29 : decode cJ15_numberOfTrailingZeros 29 = .ok (.iload_n 0, 1) := dk_26 (dk_at dksJ15_numberOfTrailingZeros_1 6 rfl rfl)
theorem dJ15_numberOfTrailingZeros_30 : decode cJ15_numberOfTrailingZeros 30 = .ok (.bipush 16, 2) := dk_16 16 (dk_at dksJ15_numberOfTrailingZeros_1 7 rfl rfl)
theorem dJ15_numberOfTrailingZeros_32 : decode cJ15_numberOfTrailingZeros 32 = .ok (.iushr, 1) := dk_124 (dk_at dksJ15_numberOfTrailingZeros_1 9 rfl rfl)
theorem dJ15_numberOfTrailingZeros_33 : decode cJ15_numberOfTrailingZeros 33 = .ok (.istore_n 0, 1) := dk_59 (dk_at dksJ15_numberOfTrailingZeros_1 10 rfl rfl)
theorem dJ15_numberOfTrailingZeros_34 : decode cJ15_numberOfTrailingZeros 34 = .ok (.iload_n 0, 1) := dk_26 (dk_at dksJ15_numberOfTrailingZeros_1 11 rfl rfl)
theorem dJ15_numberOfTrailingZeros_35 : decode cJ15_numberOfTrailingZeros 35 = .ok (.sipush 256, 3) := dk_17 1 0 (dk_at dksJ15_numberOfTrailingZeros_1 12 rfl rfl)
theorem dJ15_numberOfTrailingZeros_38 : decode cJ15_numberOfTrailingZeros 38 = .ok (.if_icmp .le 11, 3) := dk_164 0 11 (dk_at dksJ15_numberOfTrailingZeros_1 15 rfl rfl)
theorem dJ15_numberOfTrailingZeros_41 : decode cJ15_numberOfTrailingZeros 41 = .ok (.iinc 1 8, 3) := dk_132 1 8 (dk_at dksJ15_numberOfTrailingZeros_1 18 rfl rfl)
theorem dJ15_numberOfTrailingZeros_44 : decode cJ15_numberOfTrailingZeros 44 = .ok (.iload_n 0, 1) := dk_26 (dk_at dksJ15_numberOfTrailingZeros_1 21 rfl rfl)
theorem dJ15_numberOfTrailingZeros_45 : decode cJ15_numberOfTrailingZeros 45 = .ok (.bipush 8, 2) := dk_16 8 (dk_at dksJ15_numberOfTrailingZeros_1 22 rfl rfl)
theorem dJ15_numberOfTrailingZeros_47 : decode cJ15_numberOfTrailingZeros 47 = .ok (.iushr, 1) := dk_124 (dk_at dksJ15_numberOfTrailingZeros_2 0 rfl rfl)
theorem dJ15_numberOfTrailingZeros_48 : decode cJ15_numberOfTrailingZeros 48 = .ok (.istore_n 0, 1) := dk_59 (dk_at dksJ15_numberOfTrailingZeros_2 1 rfl rfl)
theorem dJ15_numberOfTrailingZeros_49 : decode cJ15_numberOfTrailingZeros 49 = .ok (.iload_n 0, 1) := dk_26 (dk_at dksJ15_numberOfTrailingZeros_2 2 rfl rfl)
theorem dJ15_numberOfTrailingZeros_50 : decode cJ15_numberOfTrailingZeros 50 = .ok (.bipush 16, 2) := dk_16 16 (dk_at dksJ15_numberOfTrailingZeros_2 3 rfl rfl)
theorem dJ15_numberOfTrailingZeros_52 : decode cJ15_numberOfTrailingZeros 52 = .ok (.if_icmp .le 10, 3) := dk_164 0 10 (dk_at dksJ15_numberOfTrailingZeros_2 5 rfl rfl)
theorem dJ15_numberOfTrailingZeros_55 : decode cJ15_numberOfTrailingZeros 55 = .ok (.iinc 1 4, 3) := dk_132 1 4 (dk_at dksJ15_numberOfTrailingZeros_2 8 rfl rfl)
theorem dJ15_numberOfTrailingZeros_58 : decode cJ15_numberOfTrailingZeros 58 = .ok (.iload_n 0, 1) := dk_26 (dk_at dksJ15_numberOfTrailingZeros_2 11 rfl rfl)
theorem dJ15_numberOfTrailingZeros_59 : decode cJ15_numberOfTrailingZeros 59 = .ok (.iconst 4, 1) := dk_7 (dk_at dksJ15_numberOfTrailingZeros_2 12 rfl rfl)
theorem dJ15_numberOfTrailingZeros_60 : decode cJ15_numberOfTrailingZeros 60 = .ok (.iushr, 1) := dk_124 (dk_at dksJ15_numberOfTrailingZeros_2 13 rfl rfl)
theorem dJ15_numberOfTrailingZeros_61 : decode cJ15_numberOfTrailingZeros 61 = .ok (.istore_n 0, 1) := dk_59 (dk_at dksJ15_numberOfTrailingZeros_2 14 rfl rfl)
theorem dJ15_numberOfTrailingZeros_62 : decode cJ15_numberOfTrailingZeros 62 = .ok (.iload_n 0, 1) := dk_26 (dk_at dksJ15_numberOfTrailingZeros_2 15 rfl rfl)
theorem dJ15_numberOfTrailingZeros_63 : decode cJ15_numberOfTrailingZeros 63 = .ok (.iconst 4, 1) := dk_7 (dk_at dksJ15_numberOfTrailingZeros_2 16 rfl rfl)
theorem dJ15_numberOfTrailingZeros_64 : decode cJ15_numberOfTrailingZeros 64 = .ok (.if_icmp .le 10, 3) := dk_164 0 10 (dk_at dksJ15_numberOfTrailingZeros_2 17 rfl rfl)
theorem dJ15_numberOfTrailingZeros_67 : decode cJ15_numberOfTrailingZeros 67 = .ok (.iinc 1 2, 3) := dk_132 1 2 (dk_at dksJ15_numberOfTrailingZeros_2 20 rfl rfl)
theorem dJ15_numberOfTrailingZeros_70 : decode cJ15_numberOfTrailingZeros 70 = .ok (.iload_n 0, 1) := dk_26 (dk_at dksJ15_numberOfTrailingZeros_2 23 rfl rfl)
theorem dJ15_numberOfTrailingZeros_71 : decode cJ15_numberOfTrailingZeros 71 = .ok (.iconst 2, 1) := dk_5 (dk_at dksJ15_numberOfTrailingZeros_3 0 rfl rfl)
theorem dJ15_numberOfTrailingZeros_72 : decode cJ15_numberOfTrailingZeros 72 = .ok (.iushr, 1) := dk_124 (dk_at dksJ15_numberOfTrailingZeros_3 1 rfl rfl)
theorem dJ15_numberOfTrailingZeros_73 : decode cJ15_numberOfTrailingZeros 73 = .ok (.istore_n 0, 1) := dk_59 (dk_at dksJ15_numberOfTrailingZeros_3 2 rfl rfl)
theorem dJ15_numberOfTrailingZeros_74 : decode cJ15_numberOfTrailingZeros 74 = .ok (.iload_n 1, 1) := dk_27 (dk_at dksJ15_numberOfTrailingZeros_3 3 rfl rfl)
theorem dJ15_numberOfTrailingZeros_75 : decode cJ15_numberOfTrailingZeros 75 = .ok (.iload_n 0, 1) := dk_26 (dk_at dksJ15_numberOfTrailingZeros_3 4 rfl rfl)
theorem dJ15_numberOfTrailingZeros_76 : decode cJ15_numberOfTrailingZeros 76 = .ok (.iconst 1, 1) := dk_4 (dk_at dksJ15_numberOfTrailingZeros_3 5 rfl rfl)
theorem dJ15_numberOfTrailingZeros_77 : decode cJ15_numberOfTrailingZeros 77 = .ok (.iushr, 1) := dk_124 (dk_at dksJ15_numberOfTrailingZeros_3 6 rfl rfl)
theorem dJ15_numberOfTrailingZeros_78 : decode cJ15_numberOfTrailingZeros 78 = .ok (.iadd, 1) := dk_96 (dk_at dksJ15_numberOfTrailingZeros_3 7 rfl rfl)
theorem dJ15_numberOfTrailingZeros_79 : decode cJ15_numberOfTrailingZeros 79 = .ok (.ireturn, 1) := dk_172 (dk_at dksJ15_numberOfTrailingZeros_3 8 rfl rfl)
theorem q124 : (Jvm.Cond.initialized "java/lang/Integer") ∈ lw_all := lw_g (lw_at lw_m1 26 rfl) rfl
theorem q1101 : (Jvm.Cond.static ({ cls := "java/lang/Integer", name := "stringSize", desc := "(I)I" } : Jvm.MethodName)) ∈ lw_all := lw_g (lw_at lw_m5 43 rfl) rfl
theorem q1102 : (Jvm.Cond.code ({ cls := "java/lang/Integer", name := "stringSize", desc := "(I)I" } : Jvm.MethodName) prog_35_method_13_code (4 : Nat) (Option.some Jvm.ClassFile.FieldType.int)) ∈ lw_all := lw_g (lw_at lw_m5 44 rfl) rfl
theorem q1104 : (Jvm.Cond.static ({ cls := "java/lang/Integer", name := "getChars", desc := "(II[B)I" } : Jvm.MethodName)) ∈ lw_all := lw_g (lw_at lw_m5 46 rfl) rfl
theorem q1105 : (Jvm.Cond.code ({ cls := "java/lang/Integer", name := "getChars", desc := "(II[B)I" } : Jvm.MethodName) prog_35_method_12_code (7 : Nat) (Option.some Jvm.ClassFile.FieldType.int)) ∈ lw_all := lw_g (lw_at lw_m5 47 rfl) rfl
theorem q1106 : (Jvm.Cond.fieldLink "java/lang/Integer" (83 : Nat) "java/lang/Integer" "DigitOnes" "[B") ∈ lw_all := lw_g (lw_at lw_m5 48 rfl) rfl
theorem q1107 : (Jvm.Cond.laysStatic "java/lang/Integer" "DigitOnes" "[B") ∈ lw_tbl := lw_at lw_m5 49 rfl
theorem q1108 : (Jvm.Cond.fieldLink "java/lang/Integer" (87 : Nat) "java/lang/Integer" "DigitTens" "[B") ∈ lw_all := lw_g (lw_at lw_m5 50 rfl) rfl
theorem q1109 : (Jvm.Cond.laysStatic "java/lang/Integer" "DigitTens" "[B") ∈ lw_tbl := lw_at lw_m5 51 rfl
theorem q2075 : (Jvm.Cond.static ({ cls := "java/lang/Integer", name := "numberOfLeadingZeros", desc := "(I)I" } : Jvm.MethodName)) ∈ lw_all := lw_g (lw_at lw_m9 57 rfl) rfl
theorem q2076 : (Jvm.Cond.code ({ cls := "java/lang/Integer", name := "numberOfLeadingZeros", desc := "(I)I" } : Jvm.MethodName) prog_35_method_47_code (2 : Nat) (Option.some Jvm.ClassFile.FieldType.int)) ∈ lw_all := lw_g (lw_at lw_m9 58 rfl) rfl
theorem q2077 : (Jvm.Cond.constant "java/lang/Integer" (264 : Nat) (65536 : Int32)) ∈ lw_all := lw_g (lw_at lw_m9 59 rfl) rfl
theorem q2084 : (Jvm.Cond.static ({ cls := "java/lang/Integer", name := "numberOfTrailingZeros", desc := "(I)I" } : Jvm.MethodName)) ∈ lw_all := lw_g (lw_at lw_m9 66 rfl) rfl
theorem q2085 : (Jvm.Cond.code ({ cls := "java/lang/Integer", name := "numberOfTrailingZeros", desc := "(I)I" } : Jvm.MethodName) prog_35_method_48_code (2 : Nat) (Option.some Jvm.ClassFile.FieldType.int)) ∈ lw_all := lw_g (lw_at lw_m9 67 rfl) rfl
/-! java/lang/Character -/
set_option maxRecDepth 100000
def RJ16 : String := "java/lang/Character"
abbrev cJ16_isValidCodePoint : ByteArray := prog_30_method_11_code
def yJ16_isValidCodePoint : MethodName := ⟨RJ16, "isValidCodePoint", "(I)Z"⟩
def dkwJ16_isValidCodePoint_0 : List UInt8 := [26, 16, 16, 124, 60, 27, 16, 17, 162, 0, 7, 4, 167, 0, 4, 3, 172]
abbrev dktJ16_isValidCodePoint_0 : List UInt8 := dkwJ16_isValidCodePoint_0 ++ []
theorem dksJ16_isValidCodePoint_0 : cJ16_isValidCodePoint.data.toList.drop 0 = dktJ16_isValidCodePoint_0 := by decide +kernel
theorem dJ16_isValidCodePoint_0 : decode cJ16_isValidCodePoint 0 = .ok (.iload_n 0, 1) := dk_26 (dk_at dksJ16_isValidCodePoint_0 0 rfl rfl)
theorem dJ16_isValidCodePoint_1 : decode cJ16_isValidCodePoint 1 = .ok (.bipush 16, 2) := dk_16 16 (dk_at dksJ16_isValidCodePoint_0 1 rfl rfl)
theorem dJ16_isValidCodePoint_3 : decode cJ16_isValidCodePoint 3 = .ok (.iushr, 1) := dk_124 (dk_at dksJ16_isValidCodePoint_0 3 rfl rfl)
theorem dJ16_isValidCodePoint_4 : decode cJ16_isValidCodePoint 4 = .ok (.istore_n 1, 1) := dk_60 (dk_at dksJ16_isValidCodePoint_0 4 rfl rfl)
theorem dJ16_isValidCodePoint_5 : decode cJ16_isValidCodePoint 5 = .ok (.iload_n 1, 1) := dk_27 (dk_at dksJ16_isValidCodePoint_0 5 rfl rfl)
theorem dJ16_isValidCodePoint_6 : decode cJ16_isValidCodePoint 6 = .ok (.bipush 17, 2) := dk_16 17 (dk_at dksJ16_isValidCodePoint_0 6 rfl rfl)
theorem dJ16_isValidCodePoint_8 : decode cJ16_isValidCodePoint 8 = .ok (.if_icmp .ge 7, 3) := dk_162 0 7 (dk_at dksJ16_isValidCodePoint_0 8 rfl rfl)
theorem dJ16_isValidCodePoint_11 : decode cJ16_isValidCodePoint 11 = .ok (.iconst 1, 1) := dk_4 (dk_at dksJ16_isValidCodePoint_0 11 rfl rfl)
theorem dJ16_isValidCodePoint_12 : decode cJ16_isValidCodePoint 12 = .ok (.goto 4, 3) := dk_167 0 4 (dk_at dksJ16_isValidCodePoint_0 12 rfl rfl)
theorem dJ16_isValidCodePoint_15 : decode cJ16_isValidCodePoint 15 = .ok (.iconst 0, 1) := dk_3 (dk_at dksJ16_isValidCodePoint_0 15 rfl rfl)
theorem dJ16_isValidCodePoint_16 : decode cJ16_isValidCodePoint 16 = .ok (.ireturn, 1) := dk_172 (dk_at dksJ16_isValidCodePoint_0 16 rfl rfl)
abbrev cJ16_highSurrogate : ByteArray := prog_30_method_28_code
def yJ16_highSurrogate : MethodName := ⟨RJ16, "highSurrogate", "(I)C"⟩
def dkwJ16_highSurrogate_0 : List UInt8 := [26, 16, 10, 124, 18, 110, 96, 146, 172]
abbrev dktJ16_highSurrogate_0 : List UInt8 := dkwJ16_highSurrogate_0 ++ []
theorem dksJ16_highSurrogate_0 : cJ16_highSurrogate.data.toList.drop 0 = dktJ16_highSurrogate_0 := by decide +kernel
theorem dJ16_highSurrogate_0 : decode cJ16_highSurrogate 0 = .ok (.iload_n 0, 1) := dk_26 (dk_at dksJ16_highSurrogate_0 0 rfl rfl)
theorem dJ16_highSurrogate_1 : decode cJ16_highSurrogate 1 = .ok (.bipush 10, 2) := dk_16 10 (dk_at dksJ16_highSurrogate_0 1 rfl rfl)
theorem dJ16_highSurrogate_3 : decode cJ16_highSurrogate 3 = .ok (.iushr, 1) := dk_124 (dk_at dksJ16_highSurrogate_0 3 rfl rfl)
theorem dJ16_highSurrogate_4 : decode cJ16_highSurrogate 4 = .ok (.ldc 110, 2) := dk_18 110 (dk_at dksJ16_highSurrogate_0 4 rfl rfl)
theorem dJ16_highSurrogate_6 : decode cJ16_highSurrogate 6 = .ok (.iadd, 1) := dk_96 (dk_at dksJ16_highSurrogate_0 6 rfl rfl)
theorem dJ16_highSurrogate_7 : decode cJ16_highSurrogate 7 = .ok (.i2c, 1) := dk_146 (dk_at dksJ16_highSurrogate_0 7 rfl rfl)
theorem dJ16_highSurrogate_8 : decode cJ16_highSurrogate 8 = .ok (.ireturn, 1) := dk_172 (dk_at dksJ16_highSurrogate_0 8 rfl rfl)
abbrev cJ16_lowSurrogate : ByteArray := prog_30_method_29_code
def yJ16_lowSurrogate : MethodName := ⟨RJ16, "lowSurrogate", "(I)C"⟩
def dkwJ16_lowSurrogate_0 : List UInt8 := [26, 17, 3, 255, 126, 18, 76, 96, 146, 172]
abbrev dktJ16_lowSurrogate_0 : List UInt8 := dkwJ16_lowSurrogate_0 ++ []
theorem dksJ16_lowSurrogate_0 : cJ16_lowSurrogate.data.toList.drop 0 = dktJ16_lowSurrogate_0 := by decide +kernel
theorem dJ16_lowSurrogate_0 : decode cJ16_lowSurrogate 0 = .ok (.iload_n 0, 1) := dk_26 (dk_at dksJ16_lowSurrogate_0 0 rfl rfl)
theorem dJ16_lowSurrogate_1 : decode cJ16_lowSurrogate 1 = .ok (.sipush 1023, 3) := dk_17 3 255 (dk_at dksJ16_lowSurrogate_0 1 rfl rfl)
theorem dJ16_lowSurrogate_4 : decode cJ16_lowSurrogate 4 = .ok (.iand, 1) := dk_126 (dk_at dksJ16_lowSurrogate_0 4 rfl rfl)
theorem dJ16_lowSurrogate_5 : decode cJ16_lowSurrogate 5 = .ok (.ldc 76, 2) := dk_18 76 (dk_at dksJ16_lowSurrogate_0 5 rfl rfl)
theorem dJ16_lowSurrogate_7 : decode cJ16_lowSurrogate 7 = .ok (.iadd, 1) := dk_96 (dk_at dksJ16_lowSurrogate_0 7 rfl rfl)
theorem dJ16_lowSurrogate_8 : decode cJ16_lowSurrogate 8 = .ok (.i2c, 1) := dk_146 (dk_at dksJ16_lowSurrogate_0 8 rfl rfl)
theorem dJ16_lowSurrogate_9 : decode cJ16_lowSurrogate 9 = .ok (.ireturn, 1) := dk_172 (dk_at dksJ16_lowSurrogate_0 9 rfl rfl)
theorem q125 : (Jvm.Cond.initialized "java/lang/Character") ∈ lw_all := lw_g (lw_at lw_m1 27 rfl) rfl
theorem q1253 : (Jvm.Cond.static ({ cls := "java/lang/Character", name := "isValidCodePoint", desc := "(I)Z" } : Jvm.MethodName)) ∈ lw_all := lw_g (lw_at lw_m5 195 rfl) rfl
theorem q1254 : (Jvm.Cond.code ({ cls := "java/lang/Character", name := "isValidCodePoint", desc := "(I)Z" } : Jvm.MethodName) prog_30_method_11_code (2 : Nat) (Option.some Jvm.ClassFile.FieldType.boolean)) ∈ lw_all := lw_g (lw_at lw_m5 196 rfl) rfl
theorem q1256 : (Jvm.Cond.static ({ cls := "java/lang/Character", name := "highSurrogate", desc := "(I)C" } : Jvm.MethodName)) ∈ lw_all := lw_g (lw_at lw_m5 198 rfl) rfl
theorem q1257 : (Jvm.Cond.code ({ cls := "java/lang/Character", name := "highSurrogate", desc := "(I)C" } : Jvm.MethodName) prog_30_method_28_code (1 : Nat) (Option.some Jvm.ClassFile.FieldType.char)) ∈ lw_all := lw_g (lw_at lw_m5 199 rfl) rfl
theorem q1258 : (Jvm.Cond.constant "java/lang/Character" (110 : Nat) (55232 : Int32)) ∈ lw_all := lw_g (lw_at lw_m5 200 rfl) rfl
theorem q1260 : (Jvm.Cond.static ({ cls := "java/lang/Character", name := "lowSurrogate", desc := "(I)C" } : Jvm.MethodName)) ∈ lw_all := lw_g (lw_at lw_m5 202 rfl) rfl
theorem q1261 : (Jvm.Cond.code ({ cls := "java/lang/Character", name := "lowSurrogate", desc := "(I)C" } : Jvm.MethodName) prog_30_method_29_code (1 : Nat) (Option.some Jvm.ClassFile.FieldType.char)) ∈ lw_all := lw_g (lw_at lw_m5 203 rfl) rfl
theorem q1262 : (Jvm.Cond.constant "java/lang/Character" (76 : Nat) (56320 : Int32)) ∈ lw_all := lw_g (lw_at lw_m5 204 rfl) rfl
/-! java/util/NoSuchElementException -/
set_option maxRecDepth 100000
def RJ17 : String := "java/util/NoSuchElementException"
def TJ17 : u_T := fun k => match k with
  | 0 => ("java/lang/Throwable", "cause", "Ljava/lang/Throwable;", false)
  | 1 => ("java/lang/Throwable", "stackTrace", "[Ljava/lang/StackTraceElement;", false)
  | 2 => ("java/lang/Throwable", "suppressedExceptions", "Ljava/util/List;", false)
  | 3 => ("java/lang/Throwable", "detailMessage", "Ljava/lang/String;", false)
  | 4 => ("java/lang/Throwable", "backtrace", "Ljava/lang/Object;", false)
  | _ => ("java/lang/Throwable", "depth", "I", false)
def tyJ17 : Nat → FieldType := fun k => match k with
  | 0 => .object "java/lang/Throwable"
  | 1 => .array (.object "java/lang/StackTraceElement")
  | 2 => .object "java/util/List"
  | 3 => .object "java/lang/String"
  | 4 => .object "java/lang/Object"
  | _ => .int
abbrev wsJ170 : List Cond := u_ws RJ17 TJ17 6
theorem nmJ17 : ∀ a, a < 6 → ∀ b, b < 6 → a ≠ b → (TJ17 a).2.1 ≠ (TJ17 b).2.1 := by decide +kernel
theorem tyJ17_ok : ∀ k, k < 6 → parseFieldDescriptor (TJ17 k).2.2.1 = some (tyJ17 k) := by decide +kernel
abbrev cJ17_init : ByteArray := prog_72_method_1_code
def yJ17_init : MethodName := ⟨RJ17, "<init>", "()V"⟩
theorem dJ17_init_0 : decode cJ17_init 0 = .ok (.aload_n 0, 1) := by decide +kernel
theorem dJ17_init_1 : decode cJ17_init 1 = .ok (.invokespecial 1, 3) := by decide +kernel
theorem dJ17_init_4 : decode cJ17_init 4 = .ok (.return_, 1) := by decide +kernel
theorem q131 : (Jvm.Cond.initialized "java/util/NoSuchElementException") ∈ lw_all := lw_g (lw_at lw_m1 33 rfl) rfl
theorem q379 : (Jvm.Cond.selects "java/util/NoSuchElementException" ({ cls := "java/lang/Throwable", name := "fillInStackTrace", desc := "()Ljava/lang/Throwable;" } : Jvm.MethodName) ({ cls := "java/lang/Throwable", name := "fillInStackTrace", desc := "()Ljava/lang/Throwable;" } : Jvm.MethodName)) ∈ lw_all := lw_g (lw_at lw_m2 41 rfl) rfl
theorem q638 : (Jvm.Cond.instantiable "java/util/NoSuchElementException" (6 : Nat)) ∈ lw_all := lw_g (lw_at lw_m3 60 rfl) rfl
theorem q639 : (Jvm.Cond.castable "java/util/NoSuchElementException" "java/util/NoSuchElementException") ∈ lw_tbl := lw_at lw_m3 61 rfl
theorem q642 : (Jvm.Cond.selects "java/util/NoSuchElementException" ({ cls := "java/lang/Throwable", name := "fillInStackTrace", desc := "(I)Ljava/lang/Throwable;" } : Jvm.MethodName) ({ cls := "java/lang/Throwable", name := "fillInStackTrace", desc := "(I)Ljava/lang/Throwable;" } : Jvm.MethodName)) ∈ lw_all := lw_g (lw_at lw_m3 64 rfl) rfl
theorem q643 : (Jvm.Cond.lays "java/util/NoSuchElementException" "java/lang/Throwable" "cause" "Ljava/lang/Throwable;") ∈ lw_all := lw_g (lw_at lw_m3 65 rfl) rfl
theorem q644 : (Jvm.Cond.lays "java/util/NoSuchElementException" "java/lang/Throwable" "stackTrace" "[Ljava/lang/StackTraceElement;") ∈ lw_all := lw_g (lw_at lw_m3 66 rfl) rfl
theorem q645 : (Jvm.Cond.lays "java/util/NoSuchElementException" "java/lang/Throwable" "suppressedExceptions" "Ljava/util/List;") ∈ lw_all := lw_g (lw_at lw_m3 67 rfl) rfl
theorem q646 : (Jvm.Cond.lays "java/util/NoSuchElementException" "java/lang/Throwable" "detailMessage" "Ljava/lang/String;") ∈ lw_all := lw_g (lw_at lw_m3 68 rfl) rfl
theorem q647 : (Jvm.Cond.lays "java/util/NoSuchElementException" "java/lang/Throwable" "backtrace" "Ljava/lang/Object;") ∈ lw_all := lw_g (lw_at lw_m3 69 rfl) rfl
theorem q649 : (Jvm.Cond.instanceMethod ({ cls := "java/util/NoSuchElementException", name := "<init>", desc := "()V" } : Jvm.MethodName)) ∈ lw_all := lw_g (lw_at lw_m3 71 rfl) rfl
theorem q650 : (Jvm.Cond.code ({ cls := "java/util/NoSuchElementException", name := "<init>", desc := "()V" } : Jvm.MethodName) prog_72_method_1_code (1 : Nat) (Option.none : Option Jvm.ClassFile.FieldType)) ∈ lw_all := lw_g (lw_at lw_m3 72 rfl) rfl
theorem q651 : (Jvm.Cond.methodLink "java/util/NoSuchElementException" (1 : Nat) ({ cls := "java/lang/RuntimeException", name := "<init>", desc := "()V" } : Jvm.MethodName)) ∈ lw_all := lw_g (lw_at lw_m3 73 rfl) rfl
theorem q658 : (Jvm.Cond.lays "java/util/NoSuchElementException" "java/lang/Throwable" "depth" "I") ∈ lw_all := lw_g (lw_at lw_m3 80 rfl) rfl
theorem q659 : (Jvm.Cond.superclass "java/util/NoSuchElementException" "java/lang/RuntimeException") ∈ lw_all := lw_g (lw_at lw_m3 81 rfl) rfl
theorem q833 : (Jvm.Cond.selects "java/util/NoSuchElementException" ({ cls := "java/lang/Object", name := "getClass", desc := "()Ljava/lang/Class;" } : Jvm.MethodName) ({ cls := "java/lang/Object", name := "getClass", desc := "()Ljava/lang/Class;" } : Jvm.MethodName)) ∈ lw_all := lw_g (lw_at lw_m4 15 rfl) rfl
theorem q3405 : (Jvm.Cond.castable "java/util/NoSuchElementException" "java/lang/Object") ∈ lw_tbl := lw_at lw_m14 187 rfl
theorem in_J17 : ∀ w ∈ wsJ170, w ∈ lw_all := lw_in wsJ170 [643, 644, 645, 646, 647, 658] (by decide +kernel) (by decide +kernel)
/-! java/util/ArrayDeque$DeqIterator -/
set_option maxRecDepth 100000
def RJ18 : String := "java/util/ArrayDeque$DeqIterator"
def TJ18 : u_T := fun k => match k with
  | 0 => ("java/util/ArrayDeque$DeqIterator", "cursor", "I", false)
  | 1 => ("java/util/ArrayDeque$DeqIterator", "remaining", "I", false)
  | 2 => ("java/util/ArrayDeque$DeqIterator", "lastRet", "I", false)
  | _ => ("java/util/ArrayDeque$DeqIterator", "this$0", "Ljava/util/ArrayDeque;", true)
def tyJ18 : Nat → FieldType := fun k => match k with
  | 0 => .int
  | 1 => .int
  | 2 => .int
  | _ => .object "java/util/ArrayDeque"
abbrev wsJ180 : List Cond := u_ws RJ18 TJ18 4
theorem nmJ18 : ∀ a, a < 4 → ∀ b, b < 4 → a ≠ b → (TJ18 a).2.1 ≠ (TJ18 b).2.1 := by decide +kernel
theorem tyJ18_ok : ∀ k, k < 4 → parseFieldDescriptor (TJ18 k).2.2.1 = some (tyJ18 k) := by decide +kernel
abbrev cJ18_init : ByteArray := prog_55_method_1_code
def yJ18_init : MethodName := ⟨RJ18, "<init>", "(Ljava/util/ArrayDeque;)V"⟩
def dkwJ18_init_1 : List UInt8 := [181, 0, 23, 42, 43, 180, 0, 26, 181, 0, 29, 177]
abbrev dktJ18_init_1 : List UInt8 := dkwJ18_init_1 ++ []
def dkwJ18_init_0 : List UInt8 := [42, 43, 181, 0, 1, 42, 183, 0, 7, 42, 42, 180, 0, 1, 182, 0, 13, 181, 0, 19, 42, 2]
abbrev dktJ18_init_0 : List UInt8 := dkwJ18_init_0 ++ dktJ18_init_1
theorem dksJ18_init_0 : cJ18_init.data.toList.drop 0 = dktJ18_init_0 := by decide +kernel
theorem dksJ18_init_1 : cJ18_init.data.toList.drop 22 = dktJ18_init_1 := dk_seg dksJ18_init_0 22 rfl rfl
theorem dJ18_init_0 : decode cJ18_init 0 = .ok (.aload_n 0, 1) := dk_42 (dk_at dksJ18_init_0 0 rfl rfl)
theorem dJ18_init_1 : decode cJ18_init 1 = .ok (.aload_n 1, 1) := dk_43 (dk_at dksJ18_init_0 1 rfl rfl)
theorem dJ18_init_2 : decode cJ18_init 2 = .ok (.putfield 1, 3) := dk_181 0 1 (dk_at dksJ18_init_0 2 rfl rfl)
theorem dJ18_init_5 : decode cJ18_init 5 = .ok (.aload_n 0, 1) := dk_42 (dk_at dksJ18_init_0 5 rfl rfl)
theorem dJ18_init_6 : decode cJ18_init 6 = .ok (.invokespecial 7, 3) := dk_183 0 7 (dk_at dksJ18_init_0 6 rfl rfl)
theorem dJ18_init_9 : decode cJ18_init 9 = .ok (.aload_n 0, 1) := dk_42 (dk_at dksJ18_init_0 9 rfl rfl)
theorem dJ18_init_10 : decode cJ18_init 10 = .ok (.aload_n 0, 1) := dk_42 (dk_at dksJ18_init_0 10 rfl rfl)
theorem dJ18_init_11 : decode cJ18_init 11 = .ok (.getfield 1, 3) := dk_180 0 1 (dk_at dksJ18_init_0 11 rfl rfl)
theorem dJ18_init_14 : decode cJ18_init 14 = .ok (.invokevirtual 13, 3) := dk_182 0 13 (dk_at dksJ18_init_0 14 rfl rfl)
theorem dJ18_init_17 : decode cJ18_init 17 = .ok (.putfield 19, 3) := dk_181 0 19 (dk_at dksJ18_init_0 17 rfl rfl)
theorem dJ18_init_20 : decode cJ18_init 20 = .ok (.aload_n 0, 1) := dk_42 (dk_at dksJ18_init_0 20 rfl rfl)
theorem dJ18_init_21 : decode cJ18_init 21 = .ok (.iconst (-1), 1) := dk_2 (dk_at dksJ18_init_0 21 rfl rfl)
theorem dJ18_init_22 : decode cJ18_init 22 = .ok (.putfield 23, 3) := dk_181 0 23 (dk_at dksJ18_init_1 0 rfl rfl)
theorem dJ18_init_25 : decode cJ18_init 25 = .ok (.aload_n 0, 1) := dk_42 (dk_at dksJ18_init_1 3 rfl rfl)
theorem dJ18_init_26 : decode cJ18_init 26 = .ok (.aload_n 1, 1) := dk_43 (dk_at dksJ18_init_1 4 rfl rfl)
theorem dJ18_init_27 : decode cJ18_init 27 = .ok (.getfield 26, 3) := dk_180 0 26 (dk_at dksJ18_init_1 5 rfl rfl)
theorem dJ18_init_30 : decode cJ18_init 30 = .ok (.putfield 29, 3) := dk_181 0 29 (dk_at dksJ18_init_1 8 rfl rfl)
theorem dJ18_init_33 : decode cJ18_init 33 = .ok (.return_, 1) := dk_177 (dk_at dksJ18_init_1 11 rfl rfl)
abbrev cJ18_hasNext : ByteArray := prog_55_method_2_code
def yJ18_hasNext : MethodName := ⟨RJ18, "hasNext", "()Z"⟩
def dkwJ18_hasNext_0 : List UInt8 := [42, 180, 0, 19, 158, 0, 7, 4, 167, 0, 4, 3, 172]
abbrev dktJ18_hasNext_0 : List UInt8 := dkwJ18_hasNext_0 ++ []
theorem dksJ18_hasNext_0 : cJ18_hasNext.data.toList.drop 0 = dktJ18_hasNext_0 := by decide +kernel
theorem dJ18_hasNext_0 : decode cJ18_hasNext 0 = .ok (.aload_n 0, 1) := dk_42 (dk_at dksJ18_hasNext_0 0 rfl rfl)
theorem dJ18_hasNext_1 : decode cJ18_hasNext 1 = .ok (.getfield 19, 3) := dk_180 0 19 (dk_at dksJ18_hasNext_0 1 rfl rfl)
theorem dJ18_hasNext_4 : decode cJ18_hasNext 4 = .ok (.ifCond .le 7, 3) := dk_158 0 7 (dk_at dksJ18_hasNext_0 4 rfl rfl)
theorem dJ18_hasNext_7 : decode cJ18_hasNext 7 = .ok (.iconst 1, 1) := dk_4 (dk_at dksJ18_hasNext_0 7 rfl rfl)
theorem dJ18_hasNext_8 : decode cJ18_hasNext 8 = .ok (.goto 4, 3) := dk_167 0 4 (dk_at dksJ18_hasNext_0 8 rfl rfl)
theorem dJ18_hasNext_11 : decode cJ18_hasNext 11 = .ok (.iconst 0, 1) := dk_3 (dk_at dksJ18_hasNext_0 11 rfl rfl)
theorem dJ18_hasNext_12 : decode cJ18_hasNext 12 = .ok (.ireturn, 1) := dk_172 (dk_at dksJ18_hasNext_0 12 rfl rfl)
abbrev cJ18_next : ByteArray := prog_55_method_3_code
def yJ18_next : MethodName := ⟨RJ18, "next", "()Ljava/lang/Object;"⟩
def dkwJ18_next_2 : List UInt8 := [181, 0, 29, 42, 89, 180, 0, 19, 4, 100, 181, 0, 19, 44, 176]
abbrev dktJ18_next_2 : List UInt8 := dkwJ18_next_2 ++ []
def dkwJ18_next_1 : List UInt8 := [42, 180, 0, 29, 184, 0, 39, 77, 42, 42, 42, 180, 0, 29, 90, 181, 0, 23, 43, 190, 184, 0, 43]
abbrev dktJ18_next_1 : List UInt8 := dkwJ18_next_1 ++ dktJ18_next_2
def dkwJ18_next_0 : List UInt8 := [42, 180, 0, 19, 157, 0, 11, 187, 0, 32, 89, 183, 0, 34, 191, 42, 180, 0, 1, 180, 0, 35, 76, 43]
abbrev dktJ18_next_0 : List UInt8 := dkwJ18_next_0 ++ dktJ18_next_1
theorem dksJ18_next_0 : cJ18_next.data.toList.drop 0 = dktJ18_next_0 := by decide +kernel
theorem dksJ18_next_1 : cJ18_next.data.toList.drop 24 = dktJ18_next_1 := dk_seg dksJ18_next_0 24 rfl rfl
theorem dksJ18_next_2 : cJ18_next.data.toList.drop 47 = dktJ18_next_2 := dk_seg dksJ18_next_1 23 rfl rfl
theorem dJ18_next_0 : decode cJ18_next 0 = .ok (.aload_n 0, 1) := dk_42 (dk_at dksJ18_next_0 0 rfl rfl)
theorem dJ18_next_1 : decode cJ18_next 1 = .ok (.getfield 19, 3) := dk_180 0 19 (dk_at dksJ18_next_0 1 rfl rfl)
theorem dJ18_next_4 : decode cJ18_next 4 = .ok (.ifCond .gt 11, 3) := dk_157 0 11 (dk_at dksJ18_next_0 4 rfl rfl)
theorem dJ18_next_7 : decode cJ18_next 7 = .ok (.new 32, 3) := dk_187 0 32 (dk_at dksJ18_next_0 7 rfl rfl)
theorem dJ18_next_10 : decode cJ18_next 10 = .ok (.dup, 1) := dk_89 (dk_at dksJ18_next_0 10 rfl rfl)
theorem dJ18_next_11 : decode cJ18_next 11 = .ok (.invokespecial 34, 3) := dk_183 0 34 (dk_at dksJ18_next_0 11 rfl rfl)
theorem dJ18_next_14 : decode cJ18_next 14 = .ok (.athrow, 1) := dk_191 (dk_at dksJ18_next_0 14 rfl rfl)
theorem dJ18_next_15 : decode cJ18_next 15 = .ok (.aload_n 0, 1) := dk_42 (dk_at dksJ18_next_0 15 rfl rfl)
theorem dJ18_next_16 : decode cJ18_next 16 = .ok (.getfield 1, 3) := dk_180 0 1 (dk_at dksJ18_next_0 16 rfl rfl)
theorem dJ18_next_19 : decode cJ18_next 19 = .ok (.getfield 35, 3) := dk_180 0 35 (dk_at dksJ18_next_0 19 rfl rfl)
theorem dJ18_next_22 : decode cJ18_next 22 = .ok (.astore_n 1, 1) := dk_76 (dk_at dksJ18_next_0 22 rfl rfl)
theorem dJ18_next_23 : decode cJ18_next 23 = .ok (.aload_n 1, 1) := dk_43 (dk_at dksJ18_next_0 23 rfl rfl)
theorem dJ18_next_24 : decode cJ18_next 24 = .ok (.aload_n 0, 1) := dk_42 (dk_at dksJ18_next_1 0 rfl rfl)
theorem dJ18_next_25 : decode cJ18_next 25 = .ok (.getfield 29, 3) := dk_180 0 29 (dk_at dksJ18_next_1 1 rfl rfl)
theorem dJ18_next_28 : decode cJ18_next 28 = .ok (.invokestatic 39, 3) := dk_184 0 39 (dk_at dksJ18_next_1 4 rfl rfl)
theorem dJ18_next_31 : decode cJ18_next 31 = .ok (.astore_n 2, 1) := dk_77 (dk_at dksJ18_next_1 7 rfl rfl)
theorem dJ18_next_32 : decode cJ18_next 32 = .ok (.aload_n 0, 1) := dk_42 (dk_at dksJ18_next_1 8 rfl rfl)
theorem dJ18_next_33 : decode cJ18_next 33 = .ok (.aload_n 0, 1) := dk_42 (dk_at dksJ18_next_1 9 rfl rfl)
theorem dJ18_next_34 : decode cJ18_next 34 = .ok (.aload_n 0, 1) := dk_42 (dk_at dksJ18_next_1 10 rfl rfl)
theorem dJ18_next_35 : decode cJ18_next 35 = .ok (.getfield 29, 3) := dk_180 0 29 (dk_at dksJ18_next_1 11 rfl rfl)
theorem dJ18_next_38 : decode cJ18_next 38 = .ok (.dup_x1, 1) := dk_90 (dk_at dksJ18_next_1 14 rfl rfl)
theorem dJ18_next_39 : decode cJ18_next 39 = .ok (.putfield 23, 3) := dk_181 0 23 (dk_at dksJ18_next_1 15 rfl rfl)
theorem dJ18_next_42 : decode cJ18_next 42 = .ok (.aload_n 1, 1) := dk_43 (dk_at dksJ18_next_1 18 rfl rfl)
theorem dJ18_next_43 : decode cJ18_next 43 = .ok (.arraylength, 1) := dk_190 (dk_at dksJ18_next_1 19 rfl rfl)
theorem dJ18_next_44 : decode cJ18_next 44 = .ok (.invokestatic 43, 3) := dk_184 0 43 (dk_at dksJ18_next_1 20 rfl rfl)
theorem dJ18_next_47 : decode cJ18_next 47 = .ok (.putfield 29, 3) := dk_181 0 29 (dk_at dksJ18_next_2 0 rfl rfl)
theorem dJ18_next_50 : decode cJ18_next 50 = .ok (.aload_n 0, 1) := dk_42 (dk_at dksJ18_next_2 3 rfl rfl)
theorem dJ18_next_51 : decode cJ18_next 51 = .ok (.dup, 1) := dk_89 (dk_at dksJ18_next_2 4 rfl rfl)
theorem dJ18_next_52 : decode cJ18_next 52 = .ok (.getfield 19, 3) := dk_180 0 19 (dk_at dksJ18_next_2 5 rfl rfl)
theorem dJ18_next_55 : decode cJ18_next 55 = .ok (.iconst 1, 1) := dk_4 (dk_at dksJ18_next_2 8 rfl rfl)
theorem dJ18_next_56 : decode cJ18_next 56 = .ok (.isub, 1) := dk_100 (dk_at dksJ18_next_2 9 rfl rfl)
theorem dJ18_next_57 : decode cJ18_next 57 = .ok (.putfield 19, 3) := dk_181 0 19 (dk_at dksJ18_next_2 10 rfl rfl)
theorem dJ18_next_60 : decode cJ18_next 60 = .ok (.aload_n 2, 1) := dk_44 (dk_at dksJ18_next_2 13 rfl rfl)
theorem dJ18_next_61 : decode cJ18_next 61 = .ok (.areturn, 1) := dk_176 (dk_at dksJ18_next_2 14 rfl rfl)
theorem q132 : (Jvm.Cond.initialized "java/util/ArrayDeque$DeqIterator") ∈ lw_all := lw_g (lw_at lw_m1 34 rfl) rfl
theorem q239 : (Jvm.Cond.fieldLink "java/util/ArrayDeque$DeqIterator" (35 : Nat) "java/util/ArrayDeque" "elements" "[Ljava/lang/Object;") ∈ lw_all := lw_g (lw_at lw_m1 141 rfl) rfl
theorem q240 : (Jvm.Cond.fieldLink "java/util/ArrayDeque$DeqIterator" (26 : Nat) "java/util/ArrayDeque" "head" "I") ∈ lw_all := lw_g (lw_at lw_m1 142 rfl) rfl
theorem q678 : (Jvm.Cond.instantiable "java/util/ArrayDeque$DeqIterator" (4 : Nat)) ∈ lw_all := lw_g (lw_at lw_m3 100 rfl) rfl
theorem q680 : (Jvm.Cond.instanceMethod ({ cls := "java/util/ArrayDeque$DeqIterator", name := "<init>", desc := "(Ljava/util/ArrayDeque;)V" } : Jvm.MethodName)) ∈ lw_all := lw_g (lw_at lw_m3 102 rfl) rfl
theorem q681 : (Jvm.Cond.code ({ cls := "java/util/ArrayDeque$DeqIterator", name := "<init>", desc := "(Ljava/util/ArrayDeque;)V" } : Jvm.MethodName) prog_55_method_1_code (2 : Nat) (Option.none : Option Jvm.ClassFile.FieldType)) ∈ lw_all := lw_g (lw_at lw_m3 103 rfl) rfl
theorem q682 : (Jvm.Cond.methodLink "java/util/ArrayDeque$DeqIterator" (7 : Nat) ({ cls := "java/lang/Object", name := "<init>", desc := "()V" } : Jvm.MethodName)) ∈ lw_all := lw_g (lw_at lw_m3 104 rfl) rfl
theorem q683 : (Jvm.Cond.methodLink "java/util/ArrayDeque$DeqIterator" (13 : Nat) ({ cls := "java/util/ArrayDeque", name := "size", desc := "()I" } : Jvm.MethodName)) ∈ lw_all := lw_g (lw_at lw_m3 105 rfl) rfl
theorem q684 : (Jvm.Cond.fieldLink "java/util/ArrayDeque$DeqIterator" (29 : Nat) "java/util/ArrayDeque$DeqIterator" "cursor" "I") ∈ lw_all := lw_g (lw_at lw_m3 106 rfl) rfl
theorem q685 : (Jvm.Cond.fieldLink "java/util/ArrayDeque$DeqIterator" (19 : Nat) "java/util/ArrayDeque$DeqIterator" "remaining" "I") ∈ lw_all := lw_g (lw_at lw_m3 107 rfl) rfl
theorem q686 : (Jvm.Cond.fieldLink "java/util/ArrayDeque$DeqIterator" (23 : Nat) "java/util/ArrayDeque$DeqIterator" "lastRet" "I") ∈ lw_all := lw_g (lw_at lw_m3 108 rfl) rfl
theorem q687 : (Jvm.Cond.fieldLink "java/util/ArrayDeque$DeqIterator" (1 : Nat) "java/util/ArrayDeque$DeqIterator" "this$0" "Ljava/util/ArrayDeque;") ∈ lw_all := lw_g (lw_at lw_m3 109 rfl) rfl
theorem q688 : (Jvm.Cond.lays "java/util/ArrayDeque$DeqIterator" "java/util/ArrayDeque$DeqIterator" "cursor" "I") ∈ lw_all := lw_g (lw_at lw_m3 110 rfl) rfl
theorem q689 : (Jvm.Cond.soleField "java/util/ArrayDeque$DeqIterator" "cursor") ∈ lw_all := lw_g (lw_at lw_m3 111 rfl) rfl
theorem q690 : (Jvm.Cond.lays "java/util/ArrayDeque$DeqIterator" "java/util/ArrayDeque$DeqIterator" "remaining" "I") ∈ lw_all := lw_g (lw_at lw_m3 112 rfl) rfl
theorem q691 : (Jvm.Cond.soleField "java/util/ArrayDeque$DeqIterator" "remaining") ∈ lw_all := lw_g (lw_at lw_m3 113 rfl) rfl
theorem q692 : (Jvm.Cond.lays "java/util/ArrayDeque$DeqIterator" "java/util/ArrayDeque$DeqIterator" "lastRet" "I") ∈ lw_all := lw_g (lw_at lw_m3 114 rfl) rfl
theorem q693 : (Jvm.Cond.soleField "java/util/ArrayDeque$DeqIterator" "lastRet") ∈ lw_all := lw_g (lw_at lw_m3 115 rfl) rfl
theorem q694 : (Jvm.Cond.laysFinal "java/util/ArrayDeque$DeqIterator" "java/util/ArrayDeque$DeqIterator" "this$0" "Ljava/util/ArrayDeque;") ∈ lw_all := lw_g (lw_at lw_m3 116 rfl) rfl
theorem q695 : (Jvm.Cond.soleField "java/util/ArrayDeque$DeqIterator" "this$0") ∈ lw_all := lw_g (lw_at lw_m3 117 rfl) rfl
theorem q696 : (Jvm.Cond.superclass "java/util/ArrayDeque$DeqIterator" "java/lang/Object") ∈ lw_all := lw_g (lw_at lw_m3 118 rfl) rfl
theorem q725 : (Jvm.Cond.castable "java/util/ArrayDeque$DeqIterator" "java/util/Iterator") ∈ lw_tbl := lw_at lw_m3 147 rfl
theorem q726 : (Jvm.Cond.selects "java/util/ArrayDeque$DeqIterator" ({ cls := "java/util/Iterator", name := "hasNext", desc := "()Z" } : Jvm.MethodName) ({ cls := "java/util/ArrayDeque$DeqIterator", name := "hasNext", desc := "()Z" } : Jvm.MethodName)) ∈ lw_all := lw_g (lw_at lw_m3 148 rfl) rfl
theorem q727 : (Jvm.Cond.unhidden "java/util/ArrayDeque$DeqIterator" "hasNext" "()Z") ∈ lw_tbl := lw_at lw_m3 149 rfl
theorem q728 : (Jvm.Cond.instanceMethod ({ cls := "java/util/ArrayDeque$DeqIterator", name := "hasNext", desc := "()Z" } : Jvm.MethodName)) ∈ lw_all := lw_g (lw_at lw_m3 150 rfl) rfl
theorem q729 : (Jvm.Cond.publicMethod ({ cls := "java/util/ArrayDeque$DeqIterator", name := "hasNext", desc := "()Z" } : Jvm.MethodName)) ∈ lw_tbl := lw_at lw_m3 151 rfl
theorem q730 : (Jvm.Cond.code ({ cls := "java/util/ArrayDeque$DeqIterator", name := "hasNext", desc := "()Z" } : Jvm.MethodName) prog_55_method_2_code (1 : Nat) (Option.some Jvm.ClassFile.FieldType.boolean)) ∈ lw_all := lw_g (lw_at lw_m3 152 rfl) rfl
theorem q753 : (Jvm.Cond.selects "java/util/ArrayDeque$DeqIterator" ({ cls := "java/util/Iterator", name := "next", desc := "()Ljava/lang/Object;" } : Jvm.MethodName) ({ cls := "java/util/ArrayDeque$DeqIterator", name := "next", desc := "()Ljava/lang/Object;" } : Jvm.MethodName)) ∈ lw_all := lw_g (lw_at lw_m3 175 rfl) rfl
theorem q754 : (Jvm.Cond.unhidden "java/util/ArrayDeque$DeqIterator" "next" "()Ljava/lang/Object;") ∈ lw_tbl := lw_at lw_m3 176 rfl
theorem q755 : (Jvm.Cond.instanceMethod ({ cls := "java/util/ArrayDeque$DeqIterator", name := "next", desc := "()Ljava/lang/Object;" } : Jvm.MethodName)) ∈ lw_all := lw_g (lw_at lw_m3 177 rfl) rfl
theorem q756 : (Jvm.Cond.publicMethod ({ cls := "java/util/ArrayDeque$DeqIterator", name := "next", desc := "()Ljava/lang/Object;" } : Jvm.MethodName)) ∈ lw_tbl := lw_at lw_m3 178 rfl
theorem q757 : (Jvm.Cond.code ({ cls := "java/util/ArrayDeque$DeqIterator", name := "next", desc := "()Ljava/lang/Object;" } : Jvm.MethodName) prog_55_method_3_code (3 : Nat) (Option.some (Jvm.ClassFile.FieldType.object "java/lang/Object"))) ∈ lw_all := lw_g (lw_at lw_m3 179 rfl) rfl
theorem q758 : (Jvm.Cond.classLink "java/util/ArrayDeque$DeqIterator" (32 : Nat) "java/util/NoSuchElementException") ∈ lw_all := lw_g (lw_at lw_m3 180 rfl) rfl
theorem q759 : (Jvm.Cond.methodLink "java/util/ArrayDeque$DeqIterator" (34 : Nat) ({ cls := "java/util/NoSuchElementException", name := "<init>", desc := "()V" } : Jvm.MethodName)) ∈ lw_all := lw_g (lw_at lw_m3 181 rfl) rfl
theorem q760 : (Jvm.Cond.methodLink "java/util/ArrayDeque$DeqIterator" (39 : Nat) ({ cls := "java/util/ArrayDeque", name := "nonNullElementAt", desc := "([Ljava/lang/Object;I)Ljava/lang/Object;" } : Jvm.MethodName)) ∈ lw_all := lw_g (lw_at lw_m3 182 rfl) rfl
theorem q763 : (Jvm.Cond.methodLink "java/util/ArrayDeque$DeqIterator" (43 : Nat) ({ cls := "java/util/ArrayDeque", name := "inc", desc := "(II)I" } : Jvm.MethodName)) ∈ lw_all := lw_g (lw_at lw_m3 185 rfl) rfl
theorem q826 : (Jvm.Cond.selects "java/util/ArrayDeque$DeqIterator" ({ cls := "java/lang/Object", name := "getClass", desc := "()Ljava/lang/Class;" } : Jvm.MethodName) ({ cls := "java/lang/Object", name := "getClass", desc := "()Ljava/lang/Class;" } : Jvm.MethodName)) ∈ lw_all := lw_g (lw_at lw_m4 8 rfl) rfl
theorem q3406 : (Jvm.Cond.castable "java/util/ArrayDeque$DeqIterator" "java/lang/Object") ∈ lw_tbl := lw_at lw_m14 188 rfl
theorem in_J18 : ∀ w ∈ wsJ180, w ∈ lw_all := lw_in wsJ180 [688, 690, 692, 694] (by decide +kernel) (by decide +kernel)
/-! java/util/AbstractMap -/
set_option maxRecDepth 100000
def RJ19 : String := "java/util/AbstractMap"
abbrev cJ19_init : ByteArray := prog_52_method_1_code
def yJ19_init : MethodName := ⟨RJ19, "<init>", "()V"⟩
theorem dJ19_init_0 : decode cJ19_init 0 = .ok (.aload_n 0, 1) := by decide +kernel
theorem dJ19_init_1 : decode cJ19_init 1 = .ok (.invokespecial 1, 3) := by decide +kernel
theorem dJ19_init_4 : decode cJ19_init 4 = .ok (.return_, 1) := by decide +kernel
theorem q135 : (Jvm.Cond.initialized "java/util/AbstractMap") ∈ lw_all := lw_g (lw_at lw_m1 37 rfl) rfl
theorem q1760 : (Jvm.Cond.instanceMethod ({ cls := "java/util/AbstractMap", name := "<init>", desc := "()V" } : Jvm.MethodName)) ∈ lw_all := lw_g (lw_at lw_m7 222 rfl) rfl
theorem q1761 : (Jvm.Cond.code ({ cls := "java/util/AbstractMap", name := "<init>", desc := "()V" } : Jvm.MethodName) prog_52_method_1_code (1 : Nat) (Option.none : Option Jvm.ClassFile.FieldType)) ∈ lw_all := lw_g (lw_at lw_m7 223 rfl) rfl
theorem q1762 : (Jvm.Cond.methodLink "java/util/AbstractMap" (1 : Nat) ({ cls := "java/lang/Object", name := "<init>", desc := "()V" } : Jvm.MethodName)) ∈ lw_all := lw_g (lw_at lw_m7 224 rfl) rfl
theorem q1801 : (Jvm.Cond.soleField "java/util/AbstractMap" "keySet") ∈ lw_all := lw_g (lw_at lw_m8 23 rfl) rfl
theorem q1803 : (Jvm.Cond.soleField "java/util/AbstractMap" "values") ∈ lw_all := lw_g (lw_at lw_m8 25 rfl) rfl
