/-! java/util/HashMap -/
set_option maxRecDepth 100000
def RJ20 : String := "java/util/HashMap"
abbrev cJ20_init : ByteArray := prog_60_method_7_code
def yJ20_init : MethodName := ⟨RJ20, "<init>", "()V"⟩
def dkwJ20_init_0 : List UInt8 := [42, 183, 0, 43, 42, 18, 92, 181, 0, 81, 177]
abbrev dktJ20_init_0 : List UInt8 := dkwJ20_init_0 ++ []
theorem dksJ20_init_0 : cJ20_init.data.toList.drop 0 = dktJ20_init_0 := by decide +kernel
theorem dJ20_init_0 : decode cJ20_init 0 = .ok (.aload_n 0, 1) := dk_42 (dk_at dksJ20_init_0 0 rfl rfl)
theorem dJ20_init_1 : decode cJ20_init 1 = .ok (.invokespecial 43, 3) := dk_183 0 43 (dk_at dksJ20_init_0 1 rfl rfl)
theorem dJ20_init_4 : decode cJ20_init 4 = .ok (.aload_n 0, 1) := dk_42 (dk_at dksJ20_init_0 4 rfl rfl)
theorem dJ20_init_5 : decode cJ20_init 5 = .ok (.ldc 92, 2) := dk_18 92 (dk_at dksJ20_init_0 5 rfl rfl)
theorem dJ20_init_7 : decode cJ20_init 7 = .ok (.putfield 81, 3) := dk_181 0 81 (dk_at dksJ20_init_0 7 rfl rfl)
theorem dJ20_init_10 : decode cJ20_init 10 = .ok (.return_, 1) := dk_177 (dk_at dksJ20_init_0 10 rfl rfl)
abbrev cJ20_getNode : ByteArray := prog_60_method_13_code
def yJ20_getNode : MethodName := ⟨RJ20, "getNode", "(Ljava/lang/Object;)Ljava/util/HashMap$Node;"⟩
def dkwJ20_getNode_6 : List UInt8 := [89, 58, 4, 199, 255, 210, 1, 176]
abbrev dktJ20_getNode_6 : List UInt8 := dkwJ20_getNode_6 ++ []
def dkwJ20_getNode_5 : List UInt8 := [165, 0, 16, 43, 198, 0, 15, 43, 25, 7, 182, 0, 173, 153, 0, 6, 25, 4, 176, 25, 4, 180, 0, 177]
abbrev dktJ20_getNode_5 : List UInt8 := dkwJ20_getNode_5 ++ dktJ20_getNode_6
def dkwJ20_getNode_4 : List UInt8 := [43, 182, 0, 182, 176, 25, 4, 180, 0, 168, 21, 6, 160, 0, 31, 25, 4, 180, 0, 170, 89, 58, 7, 43]
abbrev dktJ20_getNode_4 : List UInt8 := dkwJ20_getNode_4 ++ dktJ20_getNode_5
def dkwJ20_getNode_3 : List UInt8 := [176, 45, 180, 0, 177, 89, 58, 4, 198, 0, 70, 45, 193, 0, 180, 153, 0, 14, 45, 192, 0, 180, 21, 6]
abbrev dktJ20_getNode_3 : List UInt8 := dkwJ20_getNode_3 ++ dktJ20_getNode_4
def dkwJ20_getNode_2 : List UInt8 := [180, 0, 170, 89, 58, 7, 43, 165, 0, 16, 43, 198, 0, 14, 43, 25, 7, 182, 0, 173, 153, 0, 5, 45]
abbrev dktJ20_getNode_2 : List UInt8 := dkwJ20_getNode_2 ++ dktJ20_getNode_3
def dkwJ20_getNode_1 : List UInt8 := [184, 0, 149, 89, 54, 6, 126, 50, 89, 78, 198, 0, 115, 45, 180, 0, 168, 21, 6, 160, 0, 29, 45]
abbrev dktJ20_getNode_1 : List UInt8 := dkwJ20_getNode_1 ++ dktJ20_getNode_2
def dkwJ20_getNode_0 : List UInt8 := [42, 180, 0, 105, 89, 77, 198, 0, 142, 44, 190, 89, 54, 5, 158, 0, 134, 44, 21, 5, 4, 100, 43]
abbrev dktJ20_getNode_0 : List UInt8 := dkwJ20_getNode_0 ++ dktJ20_getNode_1
theorem dksJ20_getNode_0 : cJ20_getNode.data.toList.drop 0 = dktJ20_getNode_0 := by decide +kernel
theorem dksJ20_getNode_1 : cJ20_getNode.data.toList.drop 23 = dktJ20_getNode_1 := dk_seg dksJ20_getNode_0 23 rfl rfl
theorem dksJ20_getNode_2 : cJ20_getNode.data.toList.drop 46 = dktJ20_getNode_2 := dk_seg dksJ20_getNode_1 23 rfl rfl
theorem dksJ20_getNode_3 : cJ20_getNode.data.toList.drop 70 = dktJ20_getNode_3 := dk_seg dksJ20_getNode_2 24 rfl rfl
theorem dksJ20_getNode_4 : cJ20_getNode.data.toList.drop 94 = dktJ20_getNode_4 := dk_seg dksJ20_getNode_3 24 rfl rfl
theorem dksJ20_getNode_5 : cJ20_getNode.data.toList.drop 118 = dktJ20_getNode_5 := dk_seg dksJ20_getNode_4 24 rfl rfl
theorem dksJ20_getNode_6 : cJ20_getNode.data.toList.drop 142 = dktJ20_getNode_6 := dk_seg dksJ20_getNode_5 24 rfl rfl
theorem dJ20_getNode_0 : decode cJ20_getNode 0 = .ok (.aload_n 0, 1) := dk_42 (dk_at dksJ20_getNode_0 0 rfl rfl)
theorem dJ20_getNode_1 : decode cJ20_getNode 1 = .ok (.getfield 105, 3) := dk_180 0 105 (dk_at dksJ20_getNode_0 1 rfl rfl)
theorem dJ20_getNode_4 : decode cJ20_getNode 4 = .ok (.dup, 1) := dk_89 (dk_at dksJ20_getNode_0 4 rfl rfl)
theorem dJ20_getNode_5 : decode cJ20_getNode 5 = .ok (.astore_n 2, 1) := dk_77 (dk_at dksJ20_getNode_0 5 rfl rfl)
theorem dJ20_getNode_6 : decode cJ20_getNode 6 = .ok (.ifnull 142, 3) := dk_198 0 142 (dk_at dksJ20_getNode_0 6 rfl rfl)
theorem dJ20_getNode_9 : decode cJ20_getNode 9 = .ok (.aload_n 2, 1) := dk_44 (dk_at dksJ20_getNode_0 9 rfl rfl)
theorem dJ20_getNode_10 : decode cJ20_getNode 10 = .ok (.arraylength, 1) := dk_190 (dk_at dksJ20_getNode_0 10 rfl rfl)
theorem dJ20_getNode_11 : decode cJ20_getNode 11 = .ok (.dup, 1) := dk_89 (dk_at dksJ20_getNode_0 11 rfl rfl)
theorem dJ20_getNode_12 : decode cJ20_getNode 12 = .ok (.istore 5, 2) := dk_54 5 (dk_at dksJ20_getNode_0 12 rfl rfl)
theorem dJ20_getNode_14 : decode cJ20_getNode 14 = .ok (.ifCond .le 134, 3) := dk_158 0 134 (dk_at dksJ20_getNode_0 14 rfl rfl)
theorem dJ20_getNode_17 : decode cJ20_getNode 17 = .ok (.aload_n 2, 1) := dk_44 (dk_at dksJ20_getNode_0 17 rfl rfl)
theorem dJ20_getNode_18 : decode cJ20_getNode 18 = .ok (.iload 5, 2) := dk_21 5 (dk_at dksJ20_getNode_0 18 rfl rfl)
theorem dJ20_getNode_20 : decode cJ20_getNode 20 = .ok (.iconst 1, 1) := dk_4 (dk_at dksJ20_getNode_0 20 rfl rfl)
theorem dJ20_getNode_21 : decode cJ20_getNode 21 = .ok (.isub, 1) := dk_100 (dk_at dksJ20_getNode_0 21 rfl rfl)
theorem dJ20_getNode_22 : decode cJ20_getNode 22 = .ok (.aload_n 1, 1) := dk_43 (dk_at dksJ20_getNode_0 22 rfl rfl)
theorem dJ20_getNode_23 : decode cJ20_getNode 23 = .ok (.invokestatic 149, 3) := dk_184 0 149 (dk_at dksJ20_getNode_1 0 rfl rfl)
theorem dJ20_getNode_26 : decode cJ20_getNode 26 = .ok (.dup, 1) := dk_89 (dk_at dksJ20_getNode_1 3 rfl rfl)
theorem dJ20_getNode_27 : decode cJ20_getNode 27 = .ok (.istore 6, 2) := dk_54 6 (dk_at dksJ20_getNode_1 4 rfl rfl)
theorem dJ20_getNode_29 : decode cJ20_getNode 29 = .ok (.iand, 1) := dk_126 (dk_at dksJ20_getNode_1 6 rfl rfl)
theorem dJ20_getNode_30 : decode cJ20_getNode 30 = .ok (.aaload, 1) := dk_50 (dk_at dksJ20_getNode_1 7 rfl rfl)
theorem dJ20_getNode_31 : decode cJ20_getNode 31 = .ok (.dup, 1) := dk_89 (dk_at dksJ20_getNode_1 8 rfl rfl)
theorem dJ20_getNode_32 : decode cJ20_getNode 32 = .ok (.astore_n 3, 1) := dk_78 (dk_at dksJ20_getNode_1 9 rfl rfl)
theorem dJ20_getNode_33 : decode cJ20_getNode 33 = .ok (.ifnull 115, 3) := dk_198 0 115 (dk_at dksJ20_getNode_1 10 rfl rfl)
theorem dJ20_getNode_36 : decode cJ20_getNode 36 = .ok (.aload_n 3, 1) := dk_45 (dk_at dksJ20_getNode_1 13 rfl rfl)
theorem dJ20_getNode_37 : decode cJ20_getNode 37 = .ok (.getfield 168, 3) := dk_180 0 168 (dk_at dksJ20_getNode_1 14 rfl rfl)
theorem dJ20_getNode_40 : decode cJ20_getNode 40 = .ok (.iload 6, 2) := dk_21 6 (dk_at dksJ20_getNode_1 17 rfl rfl)
theorem dJ20_getNode_42 : decode cJ20_getNode 42 = .ok (.if_icmp .ne 29, 3) := dk_160 0 29 (dk_at dksJ20_getNode_1 19 rfl rfl)
theorem dJ20_getNode_45 : decode cJ20_getNode 45 = .ok (.aload_n 3, 1) := dk_45 (dk_at dksJ20_getNode_1 22 rfl rfl)
theorem dJ20_getNode_46 : decode cJ20_getNode 46 = .ok (.getfield 170, 3) := dk_180 0 170 (dk_at dksJ20_getNode_2 0 rfl rfl)
theorem dJ20_getNode_49 : decode cJ20_getNode 49 = .ok (.dup, 1) := dk_89 (dk_at dksJ20_getNode_2 3 rfl rfl)
theorem dJ20_getNode_50 : decode cJ20_getNode 50 = .ok (.astore 7, 2) := dk_58 7 (dk_at dksJ20_getNode_2 4 rfl rfl)
theorem dJ20_getNode_52 : decode cJ20_getNode 52 = .ok (.aload_n 1, 1) := dk_43 (dk_at dksJ20_getNode_2 6 rfl rfl)
theorem dJ20_getNode_53 : decode cJ20_getNode 53 = .ok (.if_acmp .eq 16, 3) := dk_165 0 16 (dk_at dksJ20_getNode_2 7 rfl rfl)
theorem dJ20_getNode_56 : decode cJ20_getNode 56 = .ok (.aload_n 1, 1) := dk_43 (dk_at dksJ20_getNode_2 10 rfl rfl)
theorem dJ20_getNode_57 : decode cJ20_getNode 57 = .ok (.ifnull 14, 3) := dk_198 0 14 (dk_at dksJ20_getNode_2 11 rfl rfl)
theorem dJ20_getNode_60 : decode cJ20_getNode 60 = .ok (.aload_n 1, 1) := dk_43 (dk_at dksJ20_getNode_2 14 rfl rfl)
theorem dJ20_getNode_61 : decode cJ20_getNode 61 = .ok (.aload 7, 2) := dk_25 7 (dk_at dksJ20_getNode_2 15 rfl rfl)
theorem dJ20_getNode_63 : decode cJ20_getNode 63 = .ok (.invokevirtual 173, 3) := dk_182 0 173 (dk_at dksJ20_getNode_2 17 rfl rfl)
theorem dJ20_getNode_66 : decode cJ20_getNode 66 = .ok (.ifCond .eq 5, 3) := dk_153 0 5 (dk_at dksJ20_getNode_2 20 rfl rfl)
theorem dJ20_getNode_69 : decode cJ20_getNode 69 = .ok (.aload_n 3, 1) := dk_45 (dk_at dksJ20_getNode_2 23 rfl rfl)
theorem dJ20_getNode_70 : decode cJ20_getNode 70 = .ok (.areturn, 1) := dk_176 (dk_at dksJ20_getNode_3 0 rfl rfl)
theorem dJ20_getNode_71 : decode cJ20_getNode 71 = .ok (.aload_n 3, 1) := dk_45 (dk_at dksJ20_getNode_3 1 rfl rfl)
theorem dJ20_getNode_72 : decode cJ20_getNode 72 = .ok (.getfield 177, 3) := dk_180 0 177 (dk_at dksJ20_getNode_3 2 rfl rfl)
theorem dJ20_getNode_75 : decode cJ20_getNode 75 = .ok (.dup, 1) := dk_89 (dk_at dksJ20_getNode_3 5 rfl rfl)
theorem dJ20_getNode_76 : decode cJ20_getNode 76 = .ok (.astore 4, 2) := dk_58 4 (dk_at dksJ20_getNode_3 6 rfl rfl)
theorem dJ20_getNode_78 : decode cJ20_getNode 78 = .ok (.ifnull 70, 3) := dk_198 0 70 (dk_at dksJ20_getNode_3 8 rfl rfl)
theorem dJ20_getNode_81 : decode cJ20_getNode 81 = .ok (.aload_n 3, 1) := dk_45 (dk_at dksJ20_getNode_3 11 rfl rfl)
theorem dJ20_getNode_82 : decode cJ20_getNode 82 = .ok (.instanceof 180, 3) := dk_193 0 180 (dk_at dksJ20_getNode_3 12 rfl rfl)
theorem dJ20_getNode_85 : decode cJ20_getNode 85 = .ok (.ifCond .eq 14, 3) := dk_153 0 14 (dk_at dksJ20_getNode_3 15 rfl rfl)
theorem dJ20_getNode_88 : decode cJ20_getNode 88 = .ok (.aload_n 3, 1) := dk_45 (dk_at dksJ20_getNode_3 18 rfl rfl)
theorem dJ20_getNode_89 : decode cJ20_getNode 89 = .ok (.checkcast 180, 3) := dk_192 0 180 (dk_at dksJ20_getNode_3 19 rfl rfl)
theorem dJ20_getNode_92 : decode cJ20_getNode 92 = .ok (.iload 6, 2) := dk_21 6 (dk_at dksJ20_getNode_3 22 rfl rfl)
theorem dJ20_getNode_94 : decode cJ20_getNode 94 = .ok (.aload_n 1, 1) := dk_43 (dk_at dksJ20_getNode_4 0 rfl rfl)
theorem dJ20_getNode_95 : decode cJ20_getNode 95 = .ok (.invokevirtual 182, 3) := dk_182 0 182 (dk_at dksJ20_getNode_4 1 rfl rfl)
theorem dJ20_getNode_98 : decode cJ20_getNode 98 = .ok (.areturn, 1) := dk_176 (dk_at dksJ20_getNode_4 4 rfl rfl)
theorem dJ20_getNode_99 : decode cJ20_getNode 99 = .ok (.aload 4, 2) := dk_25 4 (dk_at dksJ20_getNode_4 5 rfl rfl)
theorem dJ20_getNode_101 : decode cJ20_getNode 101 = .ok (.getfield 168, 3) := dk_180 0 168 (dk_at dksJ20_getNode_4 7 rfl rfl)
theorem dJ20_getNode_104 : decode cJ20_getNode 104 = .ok (.iload 6, 2) := dk_21 6 (dk_at dksJ20_getNode_4 10 rfl rfl)
theorem dJ20_getNode_106 : decode cJ20_getNode 106 = .ok (.if_icmp .ne 31, 3) := dk_160 0 31 (dk_at dksJ20_getNode_4 12 rfl rfl)
theorem dJ20_getNode_109 : decode cJ20_getNode 109 = .ok (.aload 4, 2) := dk_25 4 (dk_at dksJ20_getNode_4 15 rfl rfl)
theorem dJ20_getNode_111 : decode cJ20_getNode 111 = .ok (.getfield 170, 3) := dk_180 0 170 (dk_at dksJ20_getNode_4 17 rfl rfl)
theorem dJ20_getNode_114 : decode cJ20_getNode 114 = .ok (.dup, 1) := dk_89 (dk_at dksJ20_getNode_4 20 rfl rfl)
theorem dJ20_getNode_115 : decode cJ20_getNode 115 = .ok (.astore 7, 2) := dk_58 7 (dk_at dksJ20_getNode_4 21 rfl rfl)
theorem dJ20_getNode_117 : decode cJ20_getNode 117 = .ok (.aload_n 1, 1) := dk_43 (dk_at dksJ20_getNode_4 23 rfl rfl)
theorem dJ20_getNode_118 : decode cJ20_getNode 118 = .ok (.if_acmp .eq 16, 3) := dk_165 0 16 (dk_at dksJ20_getNode_5 0 rfl rfl)
theorem dJ20_getNode_121 : decode cJ20_getNode 121 = .ok (.aload_n 1, 1) := dk_43 (dk_at dksJ20_getNode_5 3 rfl rfl)
theorem dJ20_getNode_122 : decode cJ20_getNode 122 = .ok (.ifnull 15, 3) := dk_198 0 15 (dk_at dksJ20_getNode_5 4 rfl rfl)
theorem dJ20_getNode_125 : decode cJ20_getNode 125 = .ok (.aload_n 1, 1) := dk_43 (dk_at dksJ20_getNode_5 7 rfl rfl)
theorem dJ20_getNode_126 : decode cJ20_getNode 126 = .ok (.aload 7, 2) := dk_25 7 (dk_at dksJ20_getNode_5 8 rfl rfl)
theorem dJ20_getNode_128 : decode cJ20_getNode 128 = .ok (.invokevirtual 173, 3) := dk_182 0 173 (dk_at dksJ20_getNode_5 10 rfl rfl)
theorem dJ20_getNode_131 : decode cJ20_getNode 131 = .ok (.ifCond .eq 6, 3) := dk_153 0 6 (dk_at dksJ20_getNode_5 13 rfl rfl)
theorem dJ20_getNode_134 : decode cJ20_getNode 134 = .ok (.aload 4, 2) := dk_25 4 (dk_at dksJ20_getNode_5 16 rfl rfl)
theorem dJ20_getNode_136 : decode cJ20_getNode 136 = .ok (.areturn, 1) := dk_176 (dk_at dksJ20_getNode_5 18 rfl rfl)
theorem dJ20_getNode_137 : decode cJ20_getNode 137 = .ok (.aload 4, 2) := dk_25 4 (dk_at dksJ20_getNode_5 19 rfl rfl)
theorem dJ20_getNode_139 : decode cJ20_getNode 139 = .ok (.getfield 177, 3) := dk_180 0 177 (dk_at dksJ20_getNode_5 21 rfl rfl)
theorem dJ20_getNode_142 : decode cJ20_getNode 142 = .ok (.dup, 1) := dk_89 (dk_at dksJ20_getNode_6 0 rfl rfl)
theorem dJ20_getNode_143 : decode cJ20_getNode 143 = .ok (.astore 4, 2) := dk_58 4 (dk_at dksJ20_getNode_6 1 rfl rfl)
theorem dJ20_getNode_145 : decode cJ20_getNode 145 = .ok (.ifnonnull (-46), 3) := dk_199 255 210 (dk_at dksJ20_getNode_6 3 rfl rfl)
theorem dJ20_getNode_148 : decode cJ20_getNode 148 = .ok (.aconst_null, 1) := dk_1 (dk_at dksJ20_getNode_6 6 rfl rfl)
theorem dJ20_getNode_149 : decode cJ20_getNode 149 = .ok (.areturn, 1) := dk_176 (dk_at dksJ20_getNode_6 7 rfl rfl)
abbrev cJ20_hash : ByteArray := prog_60_method_1_code
def yJ20_hash : MethodName := ⟨RJ20, "hash", "(Ljava/lang/Object;)I"⟩
def dkwJ20_hash_0 : List UInt8 := [42, 199, 0, 7, 3, 167, 0, 14, 42, 182, 0, 1, 89, 60, 27, 16, 16, 124, 130, 172]
abbrev dktJ20_hash_0 : List UInt8 := dkwJ20_hash_0 ++ []
theorem dksJ20_hash_0 : cJ20_hash.data.toList.drop 0 = dktJ20_hash_0 := by decide +kernel
theorem dJ20_hash_0 : decode cJ20_hash 0 = .ok (.aload_n 0, 1) := dk_42 (dk_at dksJ20_hash_0 0 rfl rfl)
theorem dJ20_hash_1 : decode cJ20_hash 1 = .ok (.ifnonnull 7, 3) := dk_199 0 7 (dk_at dksJ20_hash_0 1 rfl rfl)
theorem dJ20_hash_4 : decode cJ20_hash 4 = .ok (.iconst 0, 1) := dk_3 (dk_at dksJ20_hash_0 4 rfl rfl)
theorem dJ20_hash_5 : decode cJ20_hash 5 = .ok (.goto 14, 3) := dk_167 0 14 (dk_at dksJ20_hash_0 5 rfl rfl)
theorem dJ20_hash_8 : decode cJ20_hash 8 = .ok (.aload_n 0, 1) := dk_42 (dk_at dksJ20_hash_0 8 rfl rfl)
theorem dJ20_hash_9 : decode cJ20_hash 9 = .ok (.invokevirtual 1, 3) := dk_182 0 1 (dk_at dksJ20_hash_0 9 rfl rfl)
theorem dJ20_hash_12 : decode cJ20_hash 12 = .ok (.dup, 1) := dk_89 (dk_at dksJ20_hash_0 12 rfl rfl)
theorem dJ20_hash_13 : decode cJ20_hash 13 = .ok (.istore_n 1, 1) := dk_60 (dk_at dksJ20_hash_0 13 rfl rfl)
theorem dJ20_hash_14 : decode cJ20_hash 14 = .ok (.iload_n 1, 1) := dk_27 (dk_at dksJ20_hash_0 14 rfl rfl)
theorem dJ20_hash_15 : decode cJ20_hash 15 = .ok (.bipush 16, 2) := dk_16 16 (dk_at dksJ20_hash_0 15 rfl rfl)
theorem dJ20_hash_17 : decode cJ20_hash 17 = .ok (.iushr, 1) := dk_124 (dk_at dksJ20_hash_0 17 rfl rfl)
theorem dJ20_hash_18 : decode cJ20_hash 18 = .ok (.ixor, 1) := dk_130 (dk_at dksJ20_hash_0 18 rfl rfl)
theorem dJ20_hash_19 : decode cJ20_hash 19 = .ok (.ireturn, 1) := dk_172 (dk_at dksJ20_hash_0 19 rfl rfl)
abbrev cJ20_comparableClassFor : ByteArray := prog_60_method_2_code
def yJ20_comparableClassFor : MethodName := ⟨RJ20, "comparableClassFor", "(Ljava/lang/Object;)Ljava/lang/Class;"⟩
def dkwJ20_comparableClassFor_4 : List UInt8 := [4, 160, 0, 12, 45, 3, 50, 43, 166, 0, 5, 43, 176, 132, 7, 1, 167, 255, 186, 1, 176]
abbrev dktJ20_comparableClassFor_4 : List UInt8 := dkwJ20_comparableClassFor_4 ++ []
def dkwJ20_comparableClassFor_3 : List UInt8 := [185, 0, 23, 1, 0, 18, 7, 166, 0, 30, 25, 4, 185, 0, 27, 1, 0, 89, 78, 198, 0, 18, 45, 190]
abbrev dktJ20_comparableClassFor_3 : List UInt8 := dkwJ20_comparableClassFor_3 ++ dktJ20_comparableClassFor_4
def dkwJ20_comparableClassFor_2 : List UInt8 := [25, 5, 21, 7, 50, 58, 8, 25, 8, 193, 0, 21, 153, 0, 48, 25, 8, 192, 0, 21, 89, 58, 4]
abbrev dktJ20_comparableClassFor_2 : List UInt8 := dkwJ20_comparableClassFor_2 ++ dktJ20_comparableClassFor_3
def dkwJ20_comparableClassFor_1 : List UInt8 := [89, 77, 198, 0, 87, 44, 58, 5, 25, 5, 190, 54, 6, 3, 54, 7, 21, 7, 21, 6, 162, 0, 69]
abbrev dktJ20_comparableClassFor_1 : List UInt8 := dkwJ20_comparableClassFor_1 ++ dktJ20_comparableClassFor_2
def dkwJ20_comparableClassFor_0 : List UInt8 := [42, 193, 0, 7, 153, 0, 109, 42, 182, 0, 9, 89, 76, 18, 13, 166, 0, 5, 43, 176, 43, 182, 0, 15]
abbrev dktJ20_comparableClassFor_0 : List UInt8 := dkwJ20_comparableClassFor_0 ++ dktJ20_comparableClassFor_1
theorem dksJ20_comparableClassFor_0 : cJ20_comparableClassFor.data.toList.drop 0 = dktJ20_comparableClassFor_0 := by decide +kernel
theorem dksJ20_comparableClassFor_1 : cJ20_comparableClassFor.data.toList.drop 24 = dktJ20_comparableClassFor_1 := dk_seg dksJ20_comparableClassFor_0 24 rfl rfl
theorem dksJ20_comparableClassFor_2 : cJ20_comparableClassFor.data.toList.drop 47 = dktJ20_comparableClassFor_2 := dk_seg dksJ20_comparableClassFor_1 23 rfl rfl
theorem dksJ20_comparableClassFor_3 : cJ20_comparableClassFor.data.toList.drop 70 = dktJ20_comparableClassFor_3 := dk_seg dksJ20_comparableClassFor_2 23 rfl rfl
theorem dksJ20_comparableClassFor_4 : cJ20_comparableClassFor.data.toList.drop 94 = dktJ20_comparableClassFor_4 := dk_seg dksJ20_comparableClassFor_3 24 rfl rfl
theorem dJ20_comparableClassFor_0 : decode cJ20_comparableClassFor 0 = .ok (.aload_n 0, 1) := dk_42 (dk_at dksJ20_comparableClassFor_0 0 rfl rfl)
theorem dJ20_comparableClassFor_1 : decode cJ20_comparableClassFor 1 = .ok (.instanceof 7, 3) := dk_193 0 7 (dk_at dksJ20_comparableClassFor_0 1 rfl rfl)
theorem dJ20_comparableClassFor_4 : decode cJ20_comparableClassFor 4 = .ok (.ifCond .eq 109, 3) := dk_153 0 109 (dk_at dksJ20_comparableClassFor_0 4 rfl rfl)
theorem dJ20_comparableClassFor_7 : decode cJ20_comparableClassFor 7 = .ok (.aload_n 0, 1) := dk_42 (dk_at dksJ20_comparableClassFor_0 7 rfl rfl)
theorem dJ20_comparableClassFor_8 : decode cJ20_comparableClassFor 8 = .ok (.invokevirtual 9, 3) := dk_182 0 9 (dk_at dksJ20_comparableClassFor_0 8 rfl rfl)
theorem dJ20_comparableClassFor_11 : decode cJ20_comparableClassFor 11 = .ok (.dup, 1) := dk_89 (dk_at dksJ20_comparableClassFor_0 11 rfl rfl)
theorem dJ20_comparableClassFor_12 : decode cJ20_comparableClassFor 12 = .ok (.astore_n 1, 1) := dk_76 (dk_at dksJ20_comparableClassFor_0 12 rfl rfl)
theorem dJ20_comparableClassFor_13 : decode cJ20_comparableClassFor 13 = .ok (.ldc 13, 2) := dk_18 13 (dk_at dksJ20_comparableClassFor_0 13 rfl rfl)
theorem dJ20_comparableClassFor_15 : decode cJ20_comparableClassFor 15 = .ok (.if_acmp .ne 5, 3) := dk_166 0 5 (dk_at dksJ20_comparableClassFor_0 15 rfl rfl)
theorem dJ20_comparableClassFor_18 : decode cJ20_comparableClassFor 18 = .ok (.aload_n 1, 1) := dk_43 (dk_at dksJ20_comparableClassFor_0 18 rfl rfl)
theorem dJ20_comparableClassFor_19 : decode cJ20_comparableClassFor 19 = .ok (.areturn, 1) := dk_176 (dk_at dksJ20_comparableClassFor_0 19 rfl rfl)
theorem dJ20_comparableClassFor_20 : decode cJ20_comparableClassFor 20 = .ok (.aload_n 1, 1) := dk_43 (dk_at dksJ20_comparableClassFor_0 20 rfl rfl)
theorem dJ20_comparableClassFor_21 : decode cJ20_comparableClassFor 21 = .ok (.invokevirtual 15, 3) := dk_182 0 15 (dk_at dksJ20_comparableClassFor_0 21 rfl rfl)
theorem dJ20_comparableClassFor_24 : decode cJ20_comparableClassFor 24 = .ok (.dup, 1) := dk_89 (dk_at dksJ20_comparableClassFor_1 0 rfl rfl)
theorem dJ20_comparableClassFor_25 : decode cJ20_comparableClassFor 25 = .ok (.astore_n 2, 1) := dk_77 (dk_at dksJ20_comparableClassFor_1 1 rfl rfl)
theorem dJ20_comparableClassFor_26 : decode cJ20_comparableClassFor 26 = .ok (.ifnull 87, 3) := dk_198 0 87 (dk_at dksJ20_comparableClassFor_1 2 rfl rfl)
theorem dJ20_comparableClassFor_29 : decode cJ20_comparableClassFor 29 = .ok (.aload_n 2, 1) := dk_44 (dk_at dksJ20_comparableClassFor_1 5 rfl rfl)
theorem dJ20_comparableClassFor_30 : decode cJ20_comparableClassFor 30 = .ok (.astore 5, 2) := dk_58 5 (dk_at dksJ20_comparableClassFor_1 6 rfl rfl)
theorem dJ20_comparableClassFor_32 : decode cJ20_comparableClassFor 32 = .ok (.aload 5, 2) := dk_25 5 (dk_at dksJ20_comparableClassFor_1 8 rfl rfl)
theorem dJ20_comparableClassFor_34 : decode cJ20_comparableClassFor 34 = .ok (.arraylength, 1) := dk_190 (dk_at dksJ20_comparableClassFor_1 10 rfl rfl)
theorem dJ20_comparableClassFor_35 : decode cJ20_comparableClassFor 35 = .ok (.istore 6, 2) := dk_54 6 (dk_at dksJ20_comparableClassFor_1 11 rfl rfl)
theorem dJ20_comparableClassFor_37 : decode cJ20_comparableClassFor 37 = .ok (.iconst 0, 1) := dk_3 (dk_at dksJ20_comparableClassFor_1 13 rfl rfl)
theorem dJ20_comparableClassFor_38 : decode cJ20_comparableClassFor 38 = .ok (.istore 7, 2) := dk_54 7 (dk_at dksJ20_comparableClassFor_1 14 rfl rfl)
theorem dJ20_comparableClassFor_40 : decode cJ20_comparableClassFor 40 = .ok (.iload 7, 2) := dk_21 7 (dk_at dksJ20_comparableClassFor_1 16 rfl rfl)
theorem dJ20_comparableClassFor_42 : decode cJ20_comparableClassFor 42 = .ok (.iload 6, 2) := dk_21 6 (dk_at dksJ20_comparableClassFor_1 18 rfl rfl)
theorem dJ20_comparableClassFor_44 : decode cJ20_comparableClassFor 44 = .ok (.if_icmp .ge 69, 3) := dk_162 0 69 (dk_at dksJ20_comparableClassFor_1 20 rfl rfl)
theorem dJ20_comparableClassFor_47 : decode cJ20_comparableClassFor 47 = .ok (.aload 5, 2) := dk_25 5 (dk_at dksJ20_comparableClassFor_2 0 rfl rfl)
theorem dJ20_comparableClassFor_49 : decode cJ20_comparableClassFor 49 = .ok (.iload 7, 2) := dk_21 7 (dk_at dksJ20_comparableClassFor_2 2 rfl rfl)
theorem dJ20_comparableClassFor_51 : decode cJ20_comparableClassFor 51 = .ok (.aaload, 1) := dk_50 (dk_at dksJ20_comparableClassFor_2 4 rfl rfl)
theorem dJ20_comparableClassFor_52 : decode cJ20_comparableClassFor 52 = .ok (.astore 8, 2) := dk_58 8 (dk_at dksJ20_comparableClassFor_2 5 rfl rfl)
theorem dJ20_comparableClassFor_54 : decode cJ20_comparableClassFor 54 = .ok (.aload 8, 2) := dk_25 8 (dk_at dksJ20_comparableClassFor_2 7 rfl rfl)
theorem dJ20_comparableClassFor_56 : decode cJ20_comparableClassFor 56 = .ok (.instanceof 21, 3) := dk_193 0 21 (dk_at dksJ20_comparableClassFor_2 9 rfl rfl)
theorem dJ20_comparableClassFor_59 : decode cJ20_comparableClassFor 59 = .ok (.ifCond .eq 48, 3) := dk_153 0 48 (dk_at dksJ20_comparableClassFor_2 12 rfl rfl)
theorem dJ20_comparableClassFor_62 : decode cJ20_comparableClassFor 62 = .ok (.aload 8, 2) := dk_25 8 (dk_at dksJ20_comparableClassFor_2 15 rfl rfl)
theorem dJ20_comparableClassFor_64 : decode cJ20_comparableClassFor 64 = .ok (.checkcast 21, 3) := dk_192 0 21 (dk_at dksJ20_comparableClassFor_2 17 rfl rfl)
theorem dJ20_comparableClassFor_67 : decode cJ20_comparableClassFor 67 = .ok (.dup, 1) := dk_89 (dk_at dksJ20_comparableClassFor_2 20 rfl rfl)
theorem dJ20_comparableClassFor_68 : decode cJ20_comparableClassFor 68 = .ok (.astore 4, 2) := dk_58 4 (dk_at dksJ20_comparableClassFor_2 21 rfl rfl)
theorem dJ20_comparableClassFor_70 : decode cJ20_comparableClassFor 70 = .ok (.invokeinterface 23 1, 5) := by decide +kernel
theorem dJ20_comparableClassFor_75 : decode cJ20_comparableClassFor 75 = .ok (.ldc 7, 2) := dk_18 7 (dk_at dksJ20_comparableClassFor_3 5 rfl rfl)
theorem dJ20_comparableClassFor_77 : decode cJ20_comparableClassFor 77 = .ok (.if_acmp .ne 30, 3) := dk_166 0 30 (dk_at dksJ20_comparableClassFor_3 7 rfl rfl)
theorem dJ20_comparableClassFor_80 : decode cJ20_comparableClassFor 80 = .ok (.aload 4, 2) := dk_25 4 (dk_at dksJ20_comparableClassFor_3 10 rfl rfl)
theorem dJ20_comparableClassFor_82 : decode cJ20_comparableClassFor 82 = .ok (.invokeinterface 27 1, 5) := by decide +kernel
theorem dJ20_comparableClassFor_87 : decode cJ20_comparableClassFor 87 = .ok (.dup, 1) := dk_89 (dk_at dksJ20_comparableClassFor_3 17 rfl rfl)
theorem dJ20_comparableClassFor_88 : decode cJ20_comparableClassFor 88 = .ok (.astore_n 3, 1) := dk_78 (dk_at dksJ20_comparableClassFor_3 18 rfl rfl)
theorem dJ20_comparableClassFor_89 : decode cJ20_comparableClassFor 89 = .ok (.ifnull 18, 3) := dk_198 0 18 (dk_at dksJ20_comparableClassFor_3 19 rfl rfl)
theorem dJ20_comparableClassFor_92 : decode cJ20_comparableClassFor 92 = .ok (.aload_n 3, 1) := dk_45 (dk_at dksJ20_comparableClassFor_3 22 rfl rfl)
theorem dJ20_comparableClassFor_93 : decode cJ20_comparableClassFor 93 = .ok (.arraylength, 1) := dk_190 (dk_at dksJ20_comparableClassFor_3 23 rfl rfl)
theorem dJ20_comparableClassFor_94 : decode cJ20_comparableClassFor 94 = .ok (.iconst 1, 1) := dk_4 (dk_at dksJ20_comparableClassFor_4 0 rfl rfl)
theorem dJ20_comparableClassFor_95 : decode cJ20_comparableClassFor 95 = .ok (.if_icmp .ne 12, 3) := dk_160 0 12 (dk_at dksJ20_comparableClassFor_4 1 rfl rfl)
theorem dJ20_comparableClassFor_98 : decode cJ20_comparableClassFor 98 = .ok (.aload_n 3, 1) := dk_45 (dk_at dksJ20_comparableClassFor_4 4 rfl rfl)
theorem dJ20_comparableClassFor_99 : decode cJ20_comparableClassFor 99 = .ok (.iconst 0, 1) := dk_3 (dk_at dksJ20_comparableClassFor_4 5 rfl rfl)
theorem dJ20_comparableClassFor_100 : decode cJ20_comparableClassFor 100 = .ok (.aaload, 1) := dk_50 (dk_at dksJ20_comparableClassFor_4 6 rfl rfl)
theorem dJ20_comparableClassFor_101 : decode cJ20_comparableClassFor 101 = .ok (.aload_n 1, 1) := dk_43 (dk_at dksJ20_comparableClassFor_4 7 rfl rfl)
theorem dJ20_comparableClassFor_102 : decode cJ20_comparableClassFor 102 = .ok (.if_acmp .ne 5, 3) := dk_166 0 5 (dk_at dksJ20_comparableClassFor_4 8 rfl rfl)
theorem dJ20_comparableClassFor_105 : decode cJ20_comparableClassFor 105 = .ok (.aload_n 1, 1) := dk_43 (dk_at dksJ20_comparableClassFor_4 11 rfl rfl)
theorem dJ20_comparableClassFor_106 : decode cJ20_comparableClassFor 106 = .ok (.areturn, 1) := dk_176 (dk_at dksJ20_comparableClassFor_4 12 rfl rfl)
theorem dJ20_comparableClassFor_107 : decode cJ20_comparableClassFor 107 = .ok (.iinc 7 1, 3) := dk_132 7 1 (dk_at dksJ20_comparableClassFor_4 13 rfl rfl)
theorem dJ20_comparableClassFor_110 : decode cJ20_comparableClassFor 110 = .ok (.goto (-70), 3) := dk_167 255 186 (dk_at dksJ20_comparableClassFor_4 16 rfl rfl)
theorem dJ20_comparableClassFor_113 : decode cJ20_comparableClassFor 113 = .ok (.aconst_null, 1) := dk_1 (dk_at dksJ20_comparableClassFor_4 19 rfl rfl)
theorem dJ20_comparableClassFor_114 : decode cJ20_comparableClassFor 114 = .ok (.areturn, 1) := dk_176 (dk_at dksJ20_comparableClassFor_4 20 rfl rfl)
abbrev cJ20_compareComparables : ByteArray := prog_60_method_3_code
def yJ20_compareComparables : MethodName := ⟨RJ20, "compareComparables", "(Ljava/lang/Class;Ljava/lang/Object;Ljava/lang/Object;)I"⟩
def dkwJ20_compareComparables_1 : List UInt8 := [185, 0, 30, 2, 0, 172]
abbrev dktJ20_compareComparables_1 : List UInt8 := dkwJ20_compareComparables_1 ++ []
def dkwJ20_compareComparables_0 : List UInt8 := [44, 198, 0, 11, 44, 182, 0, 9, 42, 165, 0, 7, 3, 167, 0, 13, 43, 192, 0, 7, 44]
abbrev dktJ20_compareComparables_0 : List UInt8 := dkwJ20_compareComparables_0 ++ dktJ20_compareComparables_1
theorem dksJ20_compareComparables_0 : cJ20_compareComparables.data.toList.drop 0 = dktJ20_compareComparables_0 := by decide +kernel
theorem dksJ20_compareComparables_1 : cJ20_compareComparables.data.toList.drop 21 = dktJ20_compareComparables_1 := dk_seg dksJ20_compareComparables_0 21 rfl rfl
theorem dJ20_compareComparables_0 : decode cJ20_compareComparables 0 = .ok (.aload_n 2, 1) := dk_44 (dk_at dksJ20_compareComparables_0 0 rfl rfl)
theorem dJ20_compareComparables_1 : decode cJ20_compareComparables 1 = .ok (.ifnull 11, 3) := dk_198 0 11 (dk_at dksJ20_compareComparables_0 1 rfl rfl)
theorem dJ20_compareComparables_4 : decode cJ20_compareComparables 4 = .ok (.aload_n 2, 1) := dk_44 (dk_at dksJ20_compareComparables_0 4 rfl rfl)
theorem dJ20_compareComparables_5 : decode cJ20_compareComparables 5 = .ok (.invokevirtual 9, 3) := dk_182 0 9 (dk_at dksJ20_compareComparables_0 5 rfl rfl)
theorem dJ20_compareComparables_8 : decode cJ20_compareComparables 8 = .ok (.aload_n 0, 1) := dk_42 (dk_at dksJ20_compareComparables_0 8 rfl rfl)
theorem dJ20_compareComparables_9 : decode cJ20_compareComparables 9 = .ok (.if_acmp .eq 7, 3) := dk_165 0 7 (dk_at dksJ20_compareComparables_0 9 rfl rfl)
theorem dJ20_compareComparables_12 : decode cJ20_compareComparables 12 = .ok (.iconst 0, 1) := dk_3 (dk_at dksJ20_compareComparables_0 12 rfl rfl)
theorem dJ20_compareComparables_13 : decode cJ20_compareComparables 13 = .ok (.goto 13, 3) := dk_167 0 13 (dk_at dksJ20_compareComparables_0 13 rfl rfl)
theorem dJ20_compareComparables_16 : decode cJ20_compareComparables 16 = .ok (.aload_n 1, 1) := dk_43 (dk_at dksJ20_compareComparables_0 16 rfl rfl)
theorem dJ20_compareComparables_17 : decode cJ20_compareComparables 17 = .ok (.checkcast 7, 3) := dk_192 0 7 (dk_at dksJ20_compareComparables_0 17 rfl rfl)
theorem dJ20_compareComparables_20 : decode cJ20_compareComparables 20 = .ok (.aload_n 2, 1) := dk_44 (dk_at dksJ20_compareComparables_0 20 rfl rfl)
theorem dJ20_compareComparables_21 : decode cJ20_compareComparables 21 = .ok (.invokeinterface 30 2, 5) := by decide +kernel
theorem dJ20_compareComparables_26 : decode cJ20_compareComparables 26 = .ok (.ireturn, 1) := dk_172 (dk_at dksJ20_compareComparables_1 5 rfl rfl)
abbrev cJ20_put : ByteArray := prog_60_method_15_code
def yJ20_put : MethodName := ⟨RJ20, "put", "(Ljava/lang/Object;Ljava/lang/Object;)Ljava/lang/Object;"⟩
def dkwJ20_put_0 : List UInt8 := [42, 43, 184, 0, 149, 43, 44, 3, 4, 182, 0, 152, 176]
abbrev dktJ20_put_0 : List UInt8 := dkwJ20_put_0 ++ []
theorem dksJ20_put_0 : cJ20_put.data.toList.drop 0 = dktJ20_put_0 := by decide +kernel
theorem dJ20_put_0 : decode cJ20_put 0 = .ok (.aload_n 0, 1) := dk_42 (dk_at dksJ20_put_0 0 rfl rfl)
theorem dJ20_put_1 : decode cJ20_put 1 = .ok (.aload_n 1, 1) := dk_43 (dk_at dksJ20_put_0 1 rfl rfl)
theorem dJ20_put_2 : decode cJ20_put 2 = .ok (.invokestatic 149, 3) := dk_184 0 149 (dk_at dksJ20_put_0 2 rfl rfl)
theorem dJ20_put_5 : decode cJ20_put 5 = .ok (.aload_n 1, 1) := dk_43 (dk_at dksJ20_put_0 5 rfl rfl)
theorem dJ20_put_6 : decode cJ20_put 6 = .ok (.aload_n 2, 1) := dk_44 (dk_at dksJ20_put_0 6 rfl rfl)
theorem dJ20_put_7 : decode cJ20_put 7 = .ok (.iconst 0, 1) := dk_3 (dk_at dksJ20_put_0 7 rfl rfl)
theorem dJ20_put_8 : decode cJ20_put 8 = .ok (.iconst 1, 1) := dk_4 (dk_at dksJ20_put_0 8 rfl rfl)
theorem dJ20_put_9 : decode cJ20_put 9 = .ok (.invokevirtual 152, 3) := dk_182 0 152 (dk_at dksJ20_put_0 9 rfl rfl)
theorem dJ20_put_12 : decode cJ20_put 12 = .ok (.areturn, 1) := dk_176 (dk_at dksJ20_put_0 12 rfl rfl)
abbrev cJ20_putVal : ByteArray := prog_60_method_16_code
def yJ20_putVal : MethodName := ⟨RJ20, "putVal", "(ILjava/lang/Object;Ljava/lang/Object;ZZ)Ljava/lang/Object;"⟩
def dkwJ20_putVal_12 : List UInt8 := [181, 0, 156, 42, 180, 0, 88, 164, 0, 8, 42, 182, 0, 117, 87, 42, 21, 5, 182, 0, 205, 1, 176]
abbrev dktJ20_putVal_12 : List UInt8 := dkwJ20_putVal_12 ++ []
def dkwJ20_putVal_11 : List UInt8 := [182, 0, 198, 25, 12, 176, 42, 89, 180, 0, 202, 4, 96, 181, 0, 202, 42, 89, 180, 0, 156, 4, 96, 90]
abbrev dktJ20_putVal_11 : List UInt8 := dkwJ20_putVal_11 ++ dktJ20_putVal_12
def dkwJ20_putVal_10 : List UInt8 := [180, 0, 162, 58, 12, 21, 4, 153, 0, 8, 25, 12, 199, 0, 9, 25, 10, 45, 181, 0, 162, 42, 25, 10]
abbrev dktJ20_putVal_10 : List UInt8 := dkwJ20_putVal_10 ++ dktJ20_putVal_11
def dkwJ20_putVal_9 : List UInt8 := [153, 0, 6, 167, 0, 13, 25, 10, 58, 7, 132, 12, 1, 167, 255, 171, 25, 10, 198, 0, 35, 25, 10]
abbrev dktJ20_putVal_9 : List UInt8 := dkwJ20_putVal_9 ++ dktJ20_putVal_10
def dkwJ20_putVal_8 : List UInt8 := [25, 10, 180, 0, 170, 89, 58, 11, 44, 165, 0, 29, 44, 198, 0, 15, 44, 25, 11, 182, 0, 173]
abbrev dktJ20_putVal_8 : List UInt8 := dkwJ20_putVal_8 ++ dktJ20_putVal_9
def dkwJ20_putVal_7 : List UInt8 := [16, 7, 161, 0, 60, 42, 25, 6, 27, 182, 0, 194, 167, 0, 50, 25, 10, 180, 0, 168, 27, 160, 0, 31]
abbrev dktJ20_putVal_7 : List UInt8 := dkwJ20_putVal_7 ++ dktJ20_putVal_8
def dkwJ20_putVal_6 : List UInt8 := [180, 0, 177, 89, 58, 10, 199, 0, 33, 25, 7, 42, 27, 44, 45, 1, 182, 0, 186, 181, 0, 177, 21, 12]
abbrev dktJ20_putVal_6 : List UInt8 := dkwJ20_putVal_6 ++ dktJ20_putVal_7
def dkwJ20_putVal_5 : List UInt8 := [192, 0, 180, 42, 25, 6, 27, 44, 45, 182, 0, 190, 58, 10, 167, 0, 94, 3, 54, 12, 25, 7]
abbrev dktJ20_putVal_5 : List UInt8 := dkwJ20_putVal_5 ++ dktJ20_putVal_6
def dkwJ20_putVal_4 : List UInt8 := [182, 0, 173, 153, 0, 10, 25, 7, 58, 10, 167, 0, 121, 25, 7, 193, 0, 180, 153, 0, 22, 25, 7]
abbrev dktJ20_putVal_4 : List UInt8 := dkwJ20_putVal_4 ++ dktJ20_putVal_5
def dkwJ20_putVal_3 : List UInt8 := [160, 0, 35, 25, 7, 180, 0, 170, 89, 58, 11, 44, 165, 0, 16, 44, 198, 0, 19, 44, 25, 11]
abbrev dktJ20_putVal_3 : List UInt8 := dkwJ20_putVal_3 ++ dktJ20_putVal_4
def dkwJ20_putVal_2 : List UInt8 := [25, 6, 21, 9, 42, 27, 44, 45, 1, 182, 0, 186, 83, 167, 0, 199, 25, 7, 180, 0, 168, 27]
abbrev dktJ20_putVal_2 : List UInt8 := dkwJ20_putVal_2 ++ dktJ20_putVal_3
def dkwJ20_putVal_1 : List UInt8 := [58, 6, 190, 54, 8, 25, 6, 21, 8, 4, 100, 27, 126, 89, 54, 9, 50, 89, 58, 7, 199, 0, 19]
abbrev dktJ20_putVal_1 : List UInt8 := dkwJ20_putVal_1 ++ dktJ20_putVal_2
def dkwJ20_putVal_0 : List UInt8 := [42, 180, 0, 105, 89, 58, 6, 198, 0, 12, 25, 6, 190, 89, 54, 8, 154, 0, 13, 42, 182, 0, 117, 89]
abbrev dktJ20_putVal_0 : List UInt8 := dkwJ20_putVal_0 ++ dktJ20_putVal_1
theorem dksJ20_putVal_0 : cJ20_putVal.data.toList.drop 0 = dktJ20_putVal_0 := by decide +kernel
theorem dksJ20_putVal_1 : cJ20_putVal.data.toList.drop 24 = dktJ20_putVal_1 := dk_seg dksJ20_putVal_0 24 rfl rfl
theorem dksJ20_putVal_2 : cJ20_putVal.data.toList.drop 47 = dktJ20_putVal_2 := dk_seg dksJ20_putVal_1 23 rfl rfl
theorem dksJ20_putVal_3 : cJ20_putVal.data.toList.drop 69 = dktJ20_putVal_3 := dk_seg dksJ20_putVal_2 22 rfl rfl
theorem dksJ20_putVal_4 : cJ20_putVal.data.toList.drop 91 = dktJ20_putVal_4 := dk_seg dksJ20_putVal_3 22 rfl rfl
theorem dksJ20_putVal_5 : cJ20_putVal.data.toList.drop 114 = dktJ20_putVal_5 := dk_seg dksJ20_putVal_4 23 rfl rfl
theorem dksJ20_putVal_6 : cJ20_putVal.data.toList.drop 136 = dktJ20_putVal_6 := dk_seg dksJ20_putVal_5 22 rfl rfl
theorem dksJ20_putVal_7 : cJ20_putVal.data.toList.drop 160 = dktJ20_putVal_7 := dk_seg dksJ20_putVal_6 24 rfl rfl
theorem dksJ20_putVal_8 : cJ20_putVal.data.toList.drop 184 = dktJ20_putVal_8 := dk_seg dksJ20_putVal_7 24 rfl rfl
theorem dksJ20_putVal_9 : cJ20_putVal.data.toList.drop 206 = dktJ20_putVal_9 := dk_seg dksJ20_putVal_8 22 rfl rfl
theorem dksJ20_putVal_10 : cJ20_putVal.data.toList.drop 229 = dktJ20_putVal_10 := dk_seg dksJ20_putVal_9 23 rfl rfl
theorem dksJ20_putVal_11 : cJ20_putVal.data.toList.drop 253 = dktJ20_putVal_11 := dk_seg dksJ20_putVal_10 24 rfl rfl
theorem dksJ20_putVal_12 : cJ20_putVal.data.toList.drop 277 = dktJ20_putVal_12 := dk_seg dksJ20_putVal_11 24 rfl rfl
theorem dJ20_putVal_0 : decode cJ20_putVal 0 = .ok (.aload_n 0, 1) := dk_42 (dk_at dksJ20_putVal_0 0 rfl rfl)
theorem dJ20_putVal_1 : decode cJ20_putVal 1 = .ok (.getfield 105, 3) := dk_180 0 105 (dk_at dksJ20_putVal_0 1 rfl rfl)
theorem dJ20_putVal_4 : decode cJ20_putVal 4 = .ok (.dup, 1) := dk_89 (dk_at dksJ20_putVal_0 4 rfl rfl)
theorem dJ20_putVal_5 : decode cJ20_putVal 5 = .ok (.astore 6, 2) := dk_58 6 (dk_at dksJ20_putVal_0 5 rfl rfl)
theorem dJ20_putVal_7 : decode cJ20_putVal 7 = .ok (.ifnull 12, 3) := dk_198 0 12 (dk_at dksJ20_putVal_0 7 rfl rfl)
theorem dJ20_putVal_10 : decode cJ20_putVal 10 = .ok (.aload 6, 2) := dk_25 6 (dk_at dksJ20_putVal_0 10 rfl rfl)
theorem dJ20_putVal_12 : decode cJ20_putVal 12 = .ok (.arraylength, 1) := dk_190 (dk_at dksJ20_putVal_0 12 rfl rfl)
theorem dJ20_putVal_13 : decode cJ20_putVal 13 = .ok (.dup, 1) := dk_89 (dk_at dksJ20_putVal_0 13 rfl rfl)
theorem dJ20_putVal_14 : decode cJ20_putVal 14 = .ok (.istore 8, 2) := dk_54 8 (dk_at dksJ20_putVal_0 14 rfl rfl)
theorem dJ20_putVal_16 : decode cJ20_putVal 16 = .ok (.ifCond .ne 13, 3) := dk_154 0 13 (dk_at dksJ20_putVal_0 16 rfl rfl)
theorem dJ20_putVal_19 : decode cJ20_putVal 19 = .ok (.aload_n 0, 1) := dk_42 (dk_at dksJ20_putVal_0 19 rfl rfl)
theorem dJ20_putVal_20 : decode cJ20_putVal 20 = .ok (.invokevirtual 117, 3) := dk_182 0 117 (dk_at dksJ20_putVal_0 20 rfl rfl)
theorem dJ20_putVal_23 : decode cJ20_putVal 23 = .ok (.dup, 1) := dk_89 (dk_at dksJ20_putVal_0 23 rfl rfl)
theorem dJ20_putVal_24 : decode cJ20_putVal 24 = .ok (.astore 6, 2) := dk_58 6 (dk_at dksJ20_putVal_1 0 rfl rfl)
theorem dJ20_putVal_26 : decode cJ20_putVal 26 = .ok (.arraylength, 1) := dk_190 (dk_at dksJ20_putVal_1 2 rfl rfl)
theorem dJ20_putVal_27 : decode cJ20_putVal 27 = .ok (.istore 8, 2) := dk_54 8 (dk_at dksJ20_putVal_1 3 rfl rfl)
theorem dJ20_putVal_29 : decode cJ20_putVal 29 = .ok (.aload 6, 2) := dk_25 6 (dk_at dksJ20_putVal_1 5 rfl rfl)
theorem dJ20_putVal_31 : decode cJ20_putVal 31 = .ok (.iload 8, 2) := dk_21 8 (dk_at dksJ20_putVal_1 7 rfl rfl)
theorem dJ20_putVal_33 : decode cJ20_putVal 33 = .ok (.iconst 1, 1) := dk_4 (dk_at dksJ20_putVal_1 9 rfl rfl)
theorem dJ20_putVal_34 : decode cJ20_putVal 34 = .ok (.isub, 1) := dk_100 (dk_at dksJ20_putVal_1 10 rfl rfl)
theorem dJ20_putVal_35 : decode cJ20_putVal 35 = .ok (.iload_n 1, 1) := dk_27 (dk_at dksJ20_putVal_1 11 rfl rfl)
theorem dJ20_putVal_36 : decode cJ20_putVal 36 = .ok (.iand, 1) := dk_126 (dk_at dksJ20_putVal_1 12 rfl rfl)
theorem dJ20_putVal_37 : decode cJ20_putVal 37 = .ok (.dup, 1) := dk_89 (dk_at dksJ20_putVal_1 13 rfl rfl)
theorem dJ20_putVal_38 : decode cJ20_putVal 38 = .ok (.istore 9, 2) := dk_54 9 (dk_at dksJ20_putVal_1 14 rfl rfl)
theorem dJ20_putVal_40 : decode cJ20_putVal 40 = .ok (.aaload, 1) := dk_50 (dk_at dksJ20_putVal_1 16 rfl rfl)
theorem dJ20_putVal_41 : decode cJ20_putVal 41 = .ok (.dup, 1) := dk_89 (dk_at dksJ20_putVal_1 17 rfl rfl)
theorem dJ20_putVal_42 : decode cJ20_putVal 42 = .ok (.astore 7, 2) := dk_58 7 (dk_at dksJ20_putVal_1 18 rfl rfl)
theorem dJ20_putVal_44 : decode cJ20_putVal 44 = .ok (.ifnonnull 19, 3) := dk_199 0 19 (dk_at dksJ20_putVal_1 20 rfl rfl)
theorem dJ20_putVal_47 : decode cJ20_putVal 47 = .ok (.aload 6, 2) := dk_25 6 (dk_at dksJ20_putVal_2 0 rfl rfl)
theorem dJ20_putVal_49 : decode cJ20_putVal 49 = .ok (.iload 9, 2) := dk_21 9 (dk_at dksJ20_putVal_2 2 rfl rfl)
theorem dJ20_putVal_51 : decode cJ20_putVal 51 = .ok (.aload_n 0, 1) := dk_42 (dk_at dksJ20_putVal_2 4 rfl rfl)
theorem dJ20_putVal_52 : decode cJ20_putVal 52 = .ok (.iload_n 1, 1) := dk_27 (dk_at dksJ20_putVal_2 5 rfl rfl)
theorem dJ20_putVal_53 : decode cJ20_putVal 53 = .ok (.aload_n 2, 1) := dk_44 (dk_at dksJ20_putVal_2 6 rfl rfl)
theorem dJ20_putVal_54 : decode cJ20_putVal 54 = .ok (.aload_n 3, 1) := dk_45 (dk_at dksJ20_putVal_2 7 rfl rfl)
theorem dJ20_putVal_55 : decode cJ20_putVal 55 = .ok (.aconst_null, 1) := dk_1 (dk_at dksJ20_putVal_2 8 rfl rfl)
theorem dJ20_putVal_56 : decode cJ20_putVal 56 = .ok (.invokevirtual 186, 3) := dk_182 0 186 (dk_at dksJ20_putVal_2 9 rfl rfl)
theorem dJ20_putVal_59 : decode cJ20_putVal 59 = .ok (.aastore, 1) := dk_83 (dk_at dksJ20_putVal_2 12 rfl rfl)
theorem dJ20_putVal_60 : decode cJ20_putVal 60 = .ok (.goto 199, 3) := dk_167 0 199 (dk_at dksJ20_putVal_2 13 rfl rfl)
theorem dJ20_putVal_63 : decode cJ20_putVal 63 = .ok (.aload 7, 2) := dk_25 7 (dk_at dksJ20_putVal_2 16 rfl rfl)
theorem dJ20_putVal_65 : decode cJ20_putVal 65 = .ok (.getfield 168, 3) := dk_180 0 168 (dk_at dksJ20_putVal_2 18 rfl rfl)
theorem dJ20_putVal_68 : decode cJ20_putVal 68 = .ok (.iload_n 1, 1) := dk_27 (dk_at dksJ20_putVal_2 21 rfl rfl)
theorem dJ20_putVal_69 : decode cJ20_putVal 69 = .ok (.if_icmp .ne 35, 3) := dk_160 0 35 (dk_at dksJ20_putVal_3 0 rfl rfl)
theorem dJ20_putVal_72 : decode cJ20_putVal 72 = .ok (.aload 7, 2) := dk_25 7 (dk_at dksJ20_putVal_3 3 rfl rfl)
theorem dJ20_putVal_74 : decode cJ20_putVal 74 = .ok (.getfield 170, 3) := dk_180 0 170 (dk_at dksJ20_putVal_3 5 rfl rfl)
theorem dJ20_putVal_77 : decode cJ20_putVal 77 = .ok (.dup, 1) := dk_89 (dk_at dksJ20_putVal_3 8 rfl rfl)
theorem dJ20_putVal_78 : decode cJ20_putVal 78 = .ok (.astore 11, 2) := dk_58 11 (dk_at dksJ20_putVal_3 9 rfl rfl)
theorem dJ20_putVal_80 : decode cJ20_putVal 80 = .ok (.aload_n 2, 1) := dk_44 (dk_at dksJ20_putVal_3 11 rfl rfl)
theorem dJ20_putVal_81 : decode cJ20_putVal 81 = .ok (.if_acmp .eq 16, 3) := dk_165 0 16 (dk_at dksJ20_putVal_3 12 rfl rfl)
theorem dJ20_putVal_84 : decode cJ20_putVal 84 = .ok (.aload_n 2, 1) := dk_44 (dk_at dksJ20_putVal_3 15 rfl rfl)
theorem dJ20_putVal_85 : decode cJ20_putVal 85 = .ok (.ifnull 19, 3) := dk_198 0 19 (dk_at dksJ20_putVal_3 16 rfl rfl)
theorem dJ20_putVal_88 : decode cJ20_putVal 88 = .ok (.aload_n 2, 1) := dk_44 (dk_at dksJ20_putVal_3 19 rfl rfl)
theorem dJ20_putVal_89 : decode cJ20_putVal 89 = .ok (.aload 11, 2) := dk_25 11 (dk_at dksJ20_putVal_3 20 rfl rfl)
theorem dJ20_putVal_91 : decode cJ20_putVal 91 = .ok (.invokevirtual 173, 3) := dk_182 0 173 (dk_at dksJ20_putVal_4 0 rfl rfl)
theorem dJ20_putVal_94 : decode cJ20_putVal 94 = .ok (.ifCond .eq 10, 3) := dk_153 0 10 (dk_at dksJ20_putVal_4 3 rfl rfl)
theorem dJ20_putVal_97 : decode cJ20_putVal 97 = .ok (.aload 7, 2) := dk_25 7 (dk_at dksJ20_putVal_4 6 rfl rfl)
theorem dJ20_putVal_99 : decode cJ20_putVal 99 = .ok (.astore 10, 2) := dk_58 10 (dk_at dksJ20_putVal_4 8 rfl rfl)
theorem dJ20_putVal_101 : decode cJ20_putVal 101 = .ok (.goto 121, 3) := dk_167 0 121 (dk_at dksJ20_putVal_4 10 rfl rfl)
theorem dJ20_putVal_104 : decode cJ20_putVal 104 = .ok (.aload 7, 2) := dk_25 7 (dk_at dksJ20_putVal_4 13 rfl rfl)
theorem dJ20_putVal_106 : decode cJ20_putVal 106 = .ok (.instanceof 180, 3) := dk_193 0 180 (dk_at dksJ20_putVal_4 15 rfl rfl)
theorem dJ20_putVal_109 : decode cJ20_putVal 109 = .ok (.ifCond .eq 22, 3) := dk_153 0 22 (dk_at dksJ20_putVal_4 18 rfl rfl)
theorem dJ20_putVal_112 : decode cJ20_putVal 112 = .ok (.aload 7, 2) := dk_25 7 (dk_at dksJ20_putVal_4 21 rfl rfl)
theorem dJ20_putVal_114 : decode cJ20_putVal 114 = .ok (.checkcast 180, 3) := dk_192 0 180 (dk_at dksJ20_putVal_5 0 rfl rfl)
theorem dJ20_putVal_117 : decode cJ20_putVal 117 = .ok (.aload_n 0, 1) := dk_42 (dk_at dksJ20_putVal_5 3 rfl rfl)
theorem dJ20_putVal_118 : decode cJ20_putVal 118 = .ok (.aload 6, 2) := dk_25 6 (dk_at dksJ20_putVal_5 4 rfl rfl)
theorem dJ20_putVal_120 : decode cJ20_putVal 120 = .ok (.iload_n 1, 1) := dk_27 (dk_at dksJ20_putVal_5 6 rfl rfl)
theorem dJ20_putVal_121 : decode cJ20_putVal 121 = .ok (.aload_n 2, 1) := dk_44 (dk_at dksJ20_putVal_5 7 rfl rfl)
theorem dJ20_putVal_122 : decode cJ20_putVal 122 = .ok (.aload_n 3, 1) := dk_45 (dk_at dksJ20_putVal_5 8 rfl rfl)
theorem dJ20_putVal_123 : decode cJ20_putVal 123 = .ok (.invokevirtual 190, 3) := dk_182 0 190 (dk_at dksJ20_putVal_5 9 rfl rfl)
theorem dJ20_putVal_126 : decode cJ20_putVal 126 = .ok (.astore 10, 2) := dk_58 10 (dk_at dksJ20_putVal_5 12 rfl rfl)
theorem dJ20_putVal_128 : decode cJ20_putVal 128 = .ok (.goto 94, 3) := dk_167 0 94 (dk_at dksJ20_putVal_5 14 rfl rfl)
theorem dJ20_putVal_131 : decode cJ20_putVal 131 = .ok (.iconst 0, 1) := dk_3 (dk_at dksJ20_putVal_5 17 rfl rfl)
theorem dJ20_putVal_132 : decode cJ20_putVal 132 = .ok (.istore 12, 2) := dk_54 12 (dk_at dksJ20_putVal_5 18 rfl rfl)
theorem dJ20_putVal_134 : decode cJ20_putVal 134 = .ok (.aload 7, 2) := dk_25 7 (dk_at dksJ20_putVal_5 20 rfl rfl)
theorem dJ20_putVal_136 : decode cJ20_putVal 136 = .ok (.getfield 177, 3) := dk_180 0 177 (dk_at dksJ20_putVal_6 0 rfl rfl)
theorem dJ20_putVal_139 : decode cJ20_putVal 139 = .ok (.dup, 1) := dk_89 (dk_at dksJ20_putVal_6 3 rfl rfl)
theorem dJ20_putVal_140 : decode cJ20_putVal 140 = .ok (.astore 10, 2) := dk_58 10 (dk_at dksJ20_putVal_6 4 rfl rfl)
theorem dJ20_putVal_142 : decode cJ20_putVal 142 = .ok (.ifnonnull 33, 3) := dk_199 0 33 (dk_at dksJ20_putVal_6 6 rfl rfl)
theorem dJ20_putVal_145 : decode cJ20_putVal 145 = .ok (.aload 7, 2) := dk_25 7 (dk_at dksJ20_putVal_6 9 rfl rfl)
theorem dJ20_putVal_147 : decode cJ20_putVal 147 = .ok (.aload_n 0, 1) := dk_42 (dk_at dksJ20_putVal_6 11 rfl rfl)
theorem dJ20_putVal_148 : decode cJ20_putVal 148 = .ok (.iload_n 1, 1) := dk_27 (dk_at dksJ20_putVal_6 12 rfl rfl)
theorem dJ20_putVal_149 : decode cJ20_putVal 149 = .ok (.aload_n 2, 1) := dk_44 (dk_at dksJ20_putVal_6 13 rfl rfl)
theorem dJ20_putVal_150 : decode cJ20_putVal 150 = .ok (.aload_n 3, 1) := dk_45 (dk_at dksJ20_putVal_6 14 rfl rfl)
theorem dJ20_putVal_151 : decode cJ20_putVal 151 = .ok (.aconst_null, 1) := dk_1 (dk_at dksJ20_putVal_6 15 rfl rfl)
theorem dJ20_putVal_152 : decode cJ20_putVal 152 = .ok (.invokevirtual 186, 3) := dk_182 0 186 (dk_at dksJ20_putVal_6 16 rfl rfl)
theorem dJ20_putVal_155 : decode cJ20_putVal 155 = .ok (.putfield 177, 3) := dk_181 0 177 (dk_at dksJ20_putVal_6 19 rfl rfl)
theorem dJ20_putVal_158 : decode cJ20_putVal 158 = .ok (.iload 12, 2) := dk_21 12 (dk_at dksJ20_putVal_6 22 rfl rfl)
theorem dJ20_putVal_160 : decode cJ20_putVal 160 = .ok (.bipush 7, 2) := dk_16 7 (dk_at dksJ20_putVal_7 0 rfl rfl)
theorem dJ20_putVal_162 : decode cJ20_putVal 162 = .ok (.if_icmp .lt 60, 3) := dk_161 0 60 (dk_at dksJ20_putVal_7 2 rfl rfl)
theorem dJ20_putVal_165 : decode cJ20_putVal 165 = .ok (.aload_n 0, 1) := dk_42 (dk_at dksJ20_putVal_7 5 rfl rfl)
theorem dJ20_putVal_166 : decode cJ20_putVal 166 = .ok (.aload 6, 2) := dk_25 6 (dk_at dksJ20_putVal_7 6 rfl rfl)
theorem dJ20_putVal_168 : decode cJ20_putVal 168 = .ok (.iload_n 1, 1) := dk_27 (dk_at dksJ20_putVal_7 8 rfl rfl)
theorem dJ20_putVal_169 : decode cJ20_putVal 169 = .ok (.invokevirtual 194, 3) := dk_182 0 194 (dk_at dksJ20_putVal_7 9 rfl rfl)
theorem dJ20_putVal_172 : decode cJ20_putVal 172 = .ok (.goto 50, 3) := dk_167 0 50 (dk_at dksJ20_putVal_7 12 rfl rfl)
theorem dJ20_putVal_175 : decode cJ20_putVal 175 = .ok (.aload 10, 2) := dk_25 10 (dk_at dksJ20_putVal_7 15 rfl rfl)
theorem dJ20_putVal_177 : decode cJ20_putVal 177 = .ok (.getfield 168, 3) := dk_180 0 168 (dk_at dksJ20_putVal_7 17 rfl rfl)
theorem dJ20_putVal_180 : decode cJ20_putVal 180 = .ok (.iload_n 1, 1) := dk_27 (dk_at dksJ20_putVal_7 20 rfl rfl)
theorem dJ20_putVal_181 : decode cJ20_putVal 181 = .ok (.if_icmp .ne 31, 3) := dk_160 0 31 (dk_at dksJ20_putVal_7 21 rfl rfl)
theorem dJ20_putVal_184 : decode cJ20_putVal 184 = .ok (.aload 10, 2) := dk_25 10 (dk_at dksJ20_putVal_8 0 rfl rfl)
theorem dJ20_putVal_186 : decode cJ20_putVal 186 = .ok (.getfield 170, 3) := dk_180 0 170 (dk_at dksJ20_putVal_8 2 rfl rfl)
theorem dJ20_putVal_189 : decode cJ20_putVal 189 = .ok (.dup, 1) := dk_89 (dk_at dksJ20_putVal_8 5 rfl rfl)
theorem dJ20_putVal_190 : decode cJ20_putVal 190 = .ok (.astore 11, 2) := dk_58 11 (dk_at dksJ20_putVal_8 6 rfl rfl)
theorem dJ20_putVal_192 : decode cJ20_putVal 192 = .ok (.aload_n 2, 1) := dk_44 (dk_at dksJ20_putVal_8 8 rfl rfl)
theorem dJ20_putVal_193 : decode cJ20_putVal 193 = .ok (.if_acmp .eq 29, 3) := dk_165 0 29 (dk_at dksJ20_putVal_8 9 rfl rfl)
theorem dJ20_putVal_196 : decode cJ20_putVal 196 = .ok (.aload_n 2, 1) := dk_44 (dk_at dksJ20_putVal_8 12 rfl rfl)
theorem dJ20_putVal_197 : decode cJ20_putVal 197 = .ok (.ifnull 15, 3) := dk_198 0 15 (dk_at dksJ20_putVal_8 13 rfl rfl)
theorem dJ20_putVal_200 : decode cJ20_putVal 200 = .ok (.aload_n 2, 1) := dk_44 (dk_at dksJ20_putVal_8 16 rfl rfl)
theorem dJ20_putVal_201 : decode cJ20_putVal 201 = .ok (.aload 11, 2) := dk_25 11 (dk_at dksJ20_putVal_8 17 rfl rfl)
theorem dJ20_putVal_203 : decode cJ20_putVal 203 = .ok (.invokevirtual 173, 3) := dk_182 0 173 (dk_at dksJ20_putVal_8 19 rfl rfl)
theorem dJ20_putVal_206 : decode cJ20_putVal 206 = .ok (.ifCond .eq 6, 3) := dk_153 0 6 (dk_at dksJ20_putVal_9 0 rfl rfl)
theorem dJ20_putVal_209 : decode cJ20_putVal 209 = .ok (.goto 13, 3) := dk_167 0 13 (dk_at dksJ20_putVal_9 3 rfl rfl)
theorem dJ20_putVal_212 : decode cJ20_putVal 212 = .ok (.aload 10, 2) := dk_25 10 (dk_at dksJ20_putVal_9 6 rfl rfl)
theorem dJ20_putVal_214 : decode cJ20_putVal 214 = .ok (.astore 7, 2) := dk_58 7 (dk_at dksJ20_putVal_9 8 rfl rfl)
theorem dJ20_putVal_216 : decode cJ20_putVal 216 = .ok (.iinc 12 1, 3) := dk_132 12 1 (dk_at dksJ20_putVal_9 10 rfl rfl)
theorem dJ20_putVal_219 : decode cJ20_putVal 219 = .ok (.goto (-85), 3) := dk_167 255 171 (dk_at dksJ20_putVal_9 13 rfl rfl)
theorem dJ20_putVal_222 : decode cJ20_putVal 222 = .ok (.aload 10, 2) := dk_25 10 (dk_at dksJ20_putVal_9 16 rfl rfl)
theorem dJ20_putVal_224 : decode cJ20_putVal 224 = .ok (.ifnull 35, 3) := dk_198 0 35 (dk_at dksJ20_putVal_9 18 rfl rfl)
theorem dJ20_putVal_227 : decode cJ20_putVal 227 = .ok (.aload 10, 2) := dk_25 10 (dk_at dksJ20_putVal_9 21 rfl rfl)
theorem dJ20_putVal_229 : decode cJ20_putVal 229 = .ok (.getfield 162, 3) := dk_180 0 162 (dk_at dksJ20_putVal_10 0 rfl rfl)
theorem dJ20_putVal_232 : decode cJ20_putVal 232 = .ok (.astore 12, 2) := dk_58 12 (dk_at dksJ20_putVal_10 3 rfl rfl)
theorem dJ20_putVal_234 : decode cJ20_putVal 234 = .ok (.iload 4, 2) := dk_21 4 (dk_at dksJ20_putVal_10 5 rfl rfl)
theorem dJ20_putVal_236 : decode cJ20_putVal 236 = .ok (.ifCond .eq 8, 3) := dk_153 0 8 (dk_at dksJ20_putVal_10 7 rfl rfl)
theorem dJ20_putVal_239 : decode cJ20_putVal 239 = .ok (.aload 12, 2) := dk_25 12 (dk_at dksJ20_putVal_10 10 rfl rfl)
theorem dJ20_putVal_241 : decode cJ20_putVal 241 = .ok (.ifnonnull 9, 3) := dk_199 0 9 (dk_at dksJ20_putVal_10 12 rfl rfl)
theorem dJ20_putVal_244 : decode cJ20_putVal 244 = .ok (.aload 10, 2) := dk_25 10 (dk_at dksJ20_putVal_10 15 rfl rfl)
theorem dJ20_putVal_246 : decode cJ20_putVal 246 = .ok (.aload_n 3, 1) := dk_45 (dk_at dksJ20_putVal_10 17 rfl rfl)
theorem dJ20_putVal_247 : decode cJ20_putVal 247 = .ok (.putfield 162, 3) := dk_181 0 162 (dk_at dksJ20_putVal_10 18 rfl rfl)
theorem dJ20_putVal_250 : decode cJ20_putVal 250 = .ok (.aload_n 0, 1) := dk_42 (dk_at dksJ20_putVal_10 21 rfl rfl)
theorem dJ20_putVal_251 : decode cJ20_putVal 251 = .ok (.aload 10, 2) := dk_25 10 (dk_at dksJ20_putVal_10 22 rfl rfl)
theorem dJ20_putVal_253 : decode cJ20_putVal 253 = .ok (.invokevirtual 198, 3) := dk_182 0 198 (dk_at dksJ20_putVal_11 0 rfl rfl)
theorem dJ20_putVal_256 : decode cJ20_putVal 256 = .ok (.aload 12, 2) := dk_25 12 (dk_at dksJ20_putVal_11 3 rfl rfl)
theorem dJ20_putVal_258 : decode cJ20_putVal 258 = .ok (.areturn, 1) := dk_176 (dk_at dksJ20_putVal_11 5 rfl rfl)
theorem dJ20_putVal_259 : decode cJ20_putVal 259 = .ok (.aload_n 0, 1) := dk_42 (dk_at dksJ20_putVal_11 6 rfl rfl)
theorem dJ20_putVal_260 : decode cJ20_putVal 260 = .ok (.dup, 1) := dk_89 (dk_at dksJ20_putVal_11 7 rfl rfl)
theorem dJ20_putVal_261 : decode cJ20_putVal 261 = .ok (.getfield 202, 3) := dk_180 0 202 (dk_at dksJ20_putVal_11 8 rfl rfl)
theorem dJ20_putVal_264 : decode cJ20_putVal 264 = .ok (.iconst 1, 1) := dk_4 (dk_at dksJ20_putVal_11 11 rfl rfl)
theorem dJ20_putVal_265 : decode cJ20_putVal 265 = .ok (.iadd, 1) := dk_96 (dk_at dksJ20_putVal_11 12 rfl rfl)
theorem dJ20_putVal_266 : decode cJ20_putVal 266 = .ok (.putfield 202, 3) := dk_181 0 202 (dk_at dksJ20_putVal_11 13 rfl rfl)
theorem dJ20_putVal_269 : decode cJ20_putVal 269 = .ok (.aload_n 0, 1) := dk_42 (dk_at dksJ20_putVal_11 16 rfl rfl)
theorem dJ20_putVal_270 : decode cJ20_putVal 270 = .ok (.dup, 1) := dk_89 (dk_at dksJ20_putVal_11 17 rfl rfl)
theorem dJ20_putVal_271 : decode cJ20_putVal 271 = .ok (.getfield 156, 3) := dk_180 0 156 (dk_at dksJ20_putVal_11 18 rfl rfl)
theorem dJ20_putVal_274 : decode cJ20_putVal 274 = .ok (.iconst 1, 1) := dk_4 (dk_at dksJ20_putVal_11 21 rfl rfl)
theorem dJ20_putVal_275 : decode cJ20_putVal 275 = .ok (.iadd, 1) := dk_96 (dk_at dksJ20_putVal_11 22 rfl rfl)
theorem dJ20_putVal_276 : decode cJ20_putVal 276 = .ok (.dup_x1, 1) := dk_90 (dk_at dksJ20_putVal_11 23 rfl rfl)
theorem dJ20_putVal_277 : decode cJ20_putVal 277 = .ok (.putfield 156, 3) := dk_181 0 156 (dk_at dksJ20_putVal_12 0 rfl rfl)
theorem dJ20_putVal_280 : decode cJ20_putVal 280 = .ok (.aload_n 0, 1) := dk_42 (dk_at dksJ20_putVal_12 3 rfl rfl)
theorem dJ20_putVal_281 : decode cJ20_putVal 281 = .ok (.getfield 88, 3) := dk_180 0 88 (dk_at dksJ20_putVal_12 4 rfl rfl)
theorem dJ20_putVal_284 : decode cJ20_putVal 284 = .ok (.if_icmp .le 8, 3) := dk_164 0 8 (dk_at dksJ20_putVal_12 7 rfl rfl)
theorem dJ20_putVal_287 : decode cJ20_putVal 287 = .ok (.aload_n 0, 1) := dk_42 (dk_at dksJ20_putVal_12 10 rfl rfl)
theorem dJ20_putVal_288 : decode cJ20_putVal 288 = .ok (.invokevirtual 117, 3) := dk_182 0 117 (dk_at dksJ20_putVal_12 11 rfl rfl)
theorem dJ20_putVal_291 : decode cJ20_putVal 291 = .ok (.pop, 1) := dk_87 (dk_at dksJ20_putVal_12 14 rfl rfl)
theorem dJ20_putVal_292 : decode cJ20_putVal 292 = .ok (.aload_n 0, 1) := dk_42 (dk_at dksJ20_putVal_12 15 rfl rfl)
theorem dJ20_putVal_293 : decode cJ20_putVal 293 = .ok (.iload 5, 2) := dk_21 5 (dk_at dksJ20_putVal_12 16 rfl rfl)
theorem dJ20_putVal_295 : decode cJ20_putVal 295 = .ok (.invokevirtual 205, 3) := dk_182 0 205 (dk_at dksJ20_putVal_12 18 rfl rfl)
theorem dJ20_putVal_298 : decode cJ20_putVal 298 = .ok (.aconst_null, 1) := dk_1 (dk_at dksJ20_putVal_12 21 rfl rfl)
theorem dJ20_putVal_299 : decode cJ20_putVal 299 = .ok (.areturn, 1) := dk_176 (dk_at dksJ20_putVal_12 22 rfl rfl)
abbrev cJ20_resize : ByteArray := prog_60_method_17_code
def yJ20_resize : MethodName := ⟨RJ20, "resize", "()[Ljava/util/HashMap$Node;"⟩
def dkwJ20_resize_15 : List UInt8 := [25, 6, 176]
abbrev dktJ20_resize_15 : List UInt8 := dkwJ20_resize_15 ++ []
def dkwJ20_resize_14 : List UInt8 := [198, 0, 18, 25, 12, 1, 181, 0, 177, 25, 6, 21, 7, 28, 96, 25, 11, 83, 132, 7, 1, 167, 255, 57]
abbrev dktJ20_resize_14 : List UInt8 := dkwJ20_resize_14 ++ dktJ20_resize_15
def dkwJ20_resize_13 : List UInt8 := [199, 255, 185, 25, 10, 198, 0, 16, 25, 10, 1, 181, 0, 177, 25, 6, 21, 7, 25, 9, 83, 25, 12]
abbrev dktJ20_resize_13 : List UInt8 := dkwJ20_resize_13 ++ dktJ20_resize_14
def dkwJ20_resize_12 : List UInt8 := [25, 8, 58, 11, 167, 0, 10, 25, 12, 25, 8, 181, 0, 177, 25, 8, 58, 12, 25, 13, 89, 58, 8]
abbrev dktJ20_resize_12 : List UInt8 := dkwJ20_resize_12 ++ dktJ20_resize_13
def dkwJ20_resize_11 : List UInt8 := [58, 9, 167, 0, 10, 25, 10, 25, 8, 181, 0, 177, 25, 8, 58, 10, 167, 0, 26, 25, 12, 199, 0, 10]
abbrev dktJ20_resize_11 : List UInt8 := dkwJ20_resize_11 ++ dktJ20_resize_12
def dkwJ20_resize_10 : List UInt8 := [25, 8, 180, 0, 177, 58, 13, 25, 8, 180, 0, 168, 28, 126, 154, 0, 29, 25, 10, 199, 0, 10, 25, 8]
abbrev dktJ20_resize_10 : List UInt8 := dkwJ20_resize_10 ++ dktJ20_resize_11
def dkwJ20_resize_9 : List UInt8 := [42, 25, 6, 21, 7, 28, 182, 0, 211, 167, 0, 127, 1, 58, 9, 1, 58, 10, 1, 58, 11, 1, 58, 12]
abbrev dktJ20_resize_9 : List UInt8 := dkwJ20_resize_9 ++ dktJ20_resize_10
def dkwJ20_resize_8 : List UInt8 := [21, 4, 4, 100, 126, 25, 8, 83, 167, 0, 152, 25, 8, 193, 0, 180, 153, 0, 20, 25, 8, 192, 0, 180]
abbrev dktJ20_resize_8 : List UInt8 := dkwJ20_resize_8 ++ dktJ20_resize_9
def dkwJ20_resize_7 : List UInt8 := [198, 0, 183, 43, 21, 7, 1, 83, 25, 8, 180, 0, 177, 199, 0, 21, 25, 6, 25, 8, 180, 0, 168]
abbrev dktJ20_resize_7 : List UInt8 := dkwJ20_resize_7 ++ dktJ20_resize_8
def dkwJ20_resize_6 : List UInt8 := [181, 0, 105, 43, 198, 0, 208, 3, 54, 7, 21, 7, 28, 162, 0, 199, 43, 21, 7, 50, 89, 58, 8]
abbrev dktJ20_resize_6 : List UInt8 := dkwJ20_resize_6 ++ dktJ20_resize_7
def dkwJ20_resize_5 : List UInt8 := [167, 0, 5, 18, 209, 54, 5, 42, 21, 5, 181, 0, 88, 21, 4, 189, 0, 163, 58, 6, 42, 25, 6]
abbrev dktJ20_resize_5 : List UInt8 := dkwJ20_resize_5 ++ dktJ20_resize_6
def dkwJ20_resize_4 : List UInt8 := [180, 0, 81, 106, 56, 6, 21, 4, 18, 42, 162, 0, 17, 23, 6, 18, 210, 150, 156, 0, 9, 23, 6, 139]
abbrev dktJ20_resize_4 : List UInt8 := dkwJ20_resize_4 ++ dktJ20_resize_5
def dkwJ20_resize_3 : List UInt8 := [54, 4, 167, 0, 11, 16, 16, 54, 4, 16, 12, 54, 5, 21, 5, 154, 0, 38, 21, 4, 134, 42]
abbrev dktJ20_resize_3 : List UInt8 := dkwJ20_resize_3 ++ dktJ20_resize_4
def dkwJ20_resize_2 : List UInt8 := [18, 42, 162, 0, 35, 28, 16, 16, 161, 0, 29, 29, 4, 120, 54, 5, 167, 0, 21, 29, 158, 0, 9, 29]
abbrev dktJ20_resize_2 : List UInt8 := dkwJ20_resize_2 ++ dktJ20_resize_3
def dkwJ20_resize_1 : List UInt8 := [28, 158, 0, 42, 28, 18, 42, 161, 0, 11, 42, 18, 209, 181, 0, 88, 43, 176, 28, 4, 120, 89, 54, 4]
abbrev dktJ20_resize_1 : List UInt8 := dkwJ20_resize_1 ++ dktJ20_resize_2
def dkwJ20_resize_0 : List UInt8 := [42, 180, 0, 105, 76, 43, 199, 0, 7, 3, 167, 0, 5, 43, 190, 61, 42, 180, 0, 88, 62, 3, 54, 5]
abbrev dktJ20_resize_0 : List UInt8 := dkwJ20_resize_0 ++ dktJ20_resize_1
theorem dksJ20_resize_0 : cJ20_resize.data.toList.drop 0 = dktJ20_resize_0 := by decide +kernel
theorem dksJ20_resize_1 : cJ20_resize.data.toList.drop 24 = dktJ20_resize_1 := dk_seg dksJ20_resize_0 24 rfl rfl
theorem dksJ20_resize_2 : cJ20_resize.data.toList.drop 48 = dktJ20_resize_2 := dk_seg dksJ20_resize_1 24 rfl rfl
theorem dksJ20_resize_3 : cJ20_resize.data.toList.drop 72 = dktJ20_resize_3 := dk_seg dksJ20_resize_2 24 rfl rfl
theorem dksJ20_resize_4 : cJ20_resize.data.toList.drop 94 = dktJ20_resize_4 := dk_seg dksJ20_resize_3 22 rfl rfl
theorem dksJ20_resize_5 : cJ20_resize.data.toList.drop 118 = dktJ20_resize_5 := dk_seg dksJ20_resize_4 24 rfl rfl
theorem dksJ20_resize_6 : cJ20_resize.data.toList.drop 141 = dktJ20_resize_6 := dk_seg dksJ20_resize_5 23 rfl rfl
theorem dksJ20_resize_7 : cJ20_resize.data.toList.drop 164 = dktJ20_resize_7 := dk_seg dksJ20_resize_6 23 rfl rfl
theorem dksJ20_resize_8 : cJ20_resize.data.toList.drop 187 = dktJ20_resize_8 := dk_seg dksJ20_resize_7 23 rfl rfl
theorem dksJ20_resize_9 : cJ20_resize.data.toList.drop 211 = dktJ20_resize_9 := dk_seg dksJ20_resize_8 24 rfl rfl
theorem dksJ20_resize_10 : cJ20_resize.data.toList.drop 235 = dktJ20_resize_10 := dk_seg dksJ20_resize_9 24 rfl rfl
theorem dksJ20_resize_11 : cJ20_resize.data.toList.drop 259 = dktJ20_resize_11 := dk_seg dksJ20_resize_10 24 rfl rfl
theorem dksJ20_resize_12 : cJ20_resize.data.toList.drop 283 = dktJ20_resize_12 := dk_seg dksJ20_resize_11 24 rfl rfl
theorem dksJ20_resize_13 : cJ20_resize.data.toList.drop 306 = dktJ20_resize_13 := dk_seg dksJ20_resize_12 23 rfl rfl
theorem dksJ20_resize_14 : cJ20_resize.data.toList.drop 329 = dktJ20_resize_14 := dk_seg dksJ20_resize_13 23 rfl rfl
theorem dksJ20_resize_15 : cJ20_resize.data.toList.drop 353 = dktJ20_resize_15 := dk_seg dksJ20_resize_14 24 rfl rfl
theorem dJ20_resize_0 : decode cJ20_resize 0 = .ok (.aload_n 0, 1) := dk_42 (dk_at dksJ20_resize_0 0 rfl rfl)
theorem dJ20_resize_1 : decode cJ20_resize 1 = .ok (.getfield 105, 3) := dk_180 0 105 (dk_at dksJ20_resize_0 1 rfl rfl)
theorem dJ20_resize_4 : decode cJ20_resize 4 = .ok (.astore_n 1, 1) := dk_76 (dk_at dksJ20_resize_0 4 rfl rfl)
theorem dJ20_resize_5 : decode cJ20_resize 5 = .ok (.aload_n 1, 1) := dk_43 (dk_at dksJ20_resize_0 5 rfl rfl)
theorem dJ20_resize_6 : decode cJ20_resize 6 = .ok (.ifnonnull 7, 3) := dk_199 0 7 (dk_at dksJ20_resize_0 6 rfl rfl)
theorem dJ20_resize_9 : decode cJ20_resize 9 = .ok (.iconst 0, 1) := dk_3 (dk_at dksJ20_resize_0 9 rfl rfl)
theorem dJ20_resize_10 : decode cJ20_resize 10 = .ok (.goto 5, 3) := dk_167 0 5 (dk_at dksJ20_resize_0 10 rfl rfl)
theorem dJ20_resize_13 : decode cJ20_resize 13 = .ok (.aload_n 1, 1) := dk_43 (dk_at dksJ20_resize_0 13 rfl rfl)
theorem dJ20_resize_14 : decode cJ20_resize 14 = .ok (.arraylength, 1) := dk_190 (dk_at dksJ20_resize_0 14 rfl rfl)
theorem dJ20_resize_15 : decode cJ20_resize 15 = .ok (.istore_n 2, 1) := dk_61 (dk_at dksJ20_resize_0 15 rfl rfl)
theorem dJ20_resize_16 : decode cJ20_resize 16 = .ok (.aload_n 0, 1) := dk_42 (dk_at dksJ20_resize_0 16 rfl rfl)
theorem dJ20_resize_17 : decode cJ20_resize 17 = .ok (.getfield 88, 3) := dk_180 0 88 (dk_at dksJ20_resize_0 17 rfl rfl)
theorem dJ20_resize_20 : decode cJ20_resize 20 = .ok (.istore_n 3, 1) := dk_62 (dk_at dksJ20_resize_0 20 rfl rfl)
theorem dJ20_resize_21 : decode cJ20_resize 21 = .ok (.iconst 0, 1) := dk_3 (dk_at dksJ20_resize_0 21 rfl rfl)
theorem dJ20_resize_22 : decode cJ20_resize 22 = .ok (.istore 5, 2) := dk_54 5 (dk_at dksJ20_resize_0 22 rfl rfl)
theorem dJ20_resize_24 : decode cJ20_resize 24 = .ok (.iload_n 2, 1) := dk_28 (dk_at dksJ20_resize_1 0 rfl rfl)
theorem dJ20_resize_25 : decode cJ20_resize 25 = .ok (.ifCond .le 42, 3) := dk_158 0 42 (dk_at dksJ20_resize_1 1 rfl rfl)
theorem dJ20_resize_28 : decode cJ20_resize 28 = .ok (.iload_n 2, 1) := dk_28 (dk_at dksJ20_resize_1 4 rfl rfl)
theorem dJ20_resize_29 : decode cJ20_resize 29 = .ok (.ldc 42, 2) := dk_18 42 (dk_at dksJ20_resize_1 5 rfl rfl)
theorem dJ20_resize_31 : decode cJ20_resize 31 = .ok (.if_icmp .lt 11, 3) := dk_161 0 11 (dk_at dksJ20_resize_1 7 rfl rfl)
theorem dJ20_resize_34 : decode cJ20_resize 34 = .ok (.aload_n 0, 1) := dk_42 (dk_at dksJ20_resize_1 10 rfl rfl)
theorem dJ20_resize_35 : decode cJ20_resize 35 = .ok (.ldc 209, 2) := dk_18 209 (dk_at dksJ20_resize_1 11 rfl rfl)
theorem dJ20_resize_37 : decode cJ20_resize 37 = .ok (.putfield 88, 3) := dk_181 0 88 (dk_at dksJ20_resize_1 13 rfl rfl)
theorem dJ20_resize_40 : decode cJ20_resize 40 = .ok (.aload_n 1, 1) := dk_43 (dk_at dksJ20_resize_1 16 rfl rfl)
theorem dJ20_resize_41 : decode cJ20_resize 41 = .ok (.areturn, 1) := dk_176 (dk_at dksJ20_resize_1 17 rfl rfl)
theorem dJ20_resize_42 : decode cJ20_resize 42 = .ok (.iload_n 2, 1) := dk_28 (dk_at dksJ20_resize_1 18 rfl rfl)
theorem dJ20_resize_43 : decode cJ20_resize 43 = .ok (.iconst 1, 1) := dk_4 (dk_at dksJ20_resize_1 19 rfl rfl)
theorem dJ20_resize_44 : decode cJ20_resize 44 = .ok (.ishl, 1) := dk_120 (dk_at dksJ20_resize_1 20 rfl rfl)
theorem dJ20_resize_45 : decode cJ20_resize 45 = .ok (.dup, 1) := dk_89 (dk_at dksJ20_resize_1 21 rfl rfl)
theorem dJ20_resize_46 : decode cJ20_resize 46 = .ok (.istore 4, 2) := dk_54 4 (dk_at dksJ20_resize_1 22 rfl rfl)
theorem dJ20_resize_48 : decode cJ20_resize 48 = .ok (.ldc 42, 2) := dk_18 42 (dk_at dksJ20_resize_2 0 rfl rfl)
theorem dJ20_resize_50 : decode cJ20_resize 50 = .ok (.if_icmp .ge 35, 3) := dk_162 0 35 (dk_at dksJ20_resize_2 2 rfl rfl)
theorem dJ20_resize_53 : decode cJ20_resize 53 = .ok (.iload_n 2, 1) := dk_28 (dk_at dksJ20_resize_2 5 rfl rfl)
theorem dJ20_resize_54 : decode cJ20_resize 54 = .ok (.bipush 16, 2) := dk_16 16 (dk_at dksJ20_resize_2 6 rfl rfl)
theorem dJ20_resize_56 : decode cJ20_resize 56 = .ok (.if_icmp .lt 29, 3) := dk_161 0 29 (dk_at dksJ20_resize_2 8 rfl rfl)
theorem dJ20_resize_59 : decode cJ20_resize 59 = .ok (.iload_n 3, 1) := dk_29 (dk_at dksJ20_resize_2 11 rfl rfl)
theorem dJ20_resize_60 : decode cJ20_resize 60 = .ok (.iconst 1, 1) := dk_4 (dk_at dksJ20_resize_2 12 rfl rfl)
theorem dJ20_resize_61 : decode cJ20_resize 61 = .ok (.ishl, 1) := dk_120 (dk_at dksJ20_resize_2 13 rfl rfl)
theorem dJ20_resize_62 : decode cJ20_resize 62 = .ok (.istore 5, 2) := dk_54 5 (dk_at dksJ20_resize_2 14 rfl rfl)
theorem dJ20_resize_64 : decode cJ20_resize 64 = .ok (.goto 21, 3) := dk_167 0 21 (dk_at dksJ20_resize_2 16 rfl rfl)
theorem dJ20_resize_67 : decode cJ20_resize 67 = .ok (.iload_n 3, 1) := dk_29 (dk_at dksJ20_resize_2 19 rfl rfl)
theorem dJ20_resize_68 : decode cJ20_resize 68 = .ok (.ifCond .le 9, 3) := dk_158 0 9 (dk_at dksJ20_resize_2 20 rfl rfl)
theorem dJ20_resize_71 : decode cJ20_resize 71 = .ok (.iload_n 3, 1) := dk_29 (dk_at dksJ20_resize_2 23 rfl rfl)
theorem dJ20_resize_72 : decode cJ20_resize 72 = .ok (.istore 4, 2) := dk_54 4 (dk_at dksJ20_resize_3 0 rfl rfl)
theorem dJ20_resize_74 : decode cJ20_resize 74 = .ok (.goto 11, 3) := dk_167 0 11 (dk_at dksJ20_resize_3 2 rfl rfl)
theorem dJ20_resize_77 : decode cJ20_resize 77 = .ok (.bipush 16, 2) := dk_16 16 (dk_at dksJ20_resize_3 5 rfl rfl)
theorem dJ20_resize_79 : decode cJ20_resize 79 = .ok (.istore 4, 2) := dk_54 4 (dk_at dksJ20_resize_3 7 rfl rfl)
theorem dJ20_resize_81 : decode cJ20_resize 81 = .ok (.bipush 12, 2) := dk_16 12 (dk_at dksJ20_resize_3 9 rfl rfl)
theorem dJ20_resize_83 : decode cJ20_resize 83 = .ok (.istore 5, 2) := dk_54 5 (dk_at dksJ20_resize_3 11 rfl rfl)
theorem dJ20_resize_85 : decode cJ20_resize 85 = .ok (.iload 5, 2) := dk_21 5 (dk_at dksJ20_resize_3 13 rfl rfl)
theorem dJ20_resize_87 : decode cJ20_resize 87 = .ok (.ifCond .ne 38, 3) := dk_154 0 38 (dk_at dksJ20_resize_3 15 rfl rfl)
theorem dJ20_resize_90 : decode cJ20_resize 90 = .ok (.iload 4, 2) := dk_21 4 (dk_at dksJ20_resize_3 18 rfl rfl)
theorem dJ20_resize_92 : decode cJ20_resize 92 = .ok (.i2f, 1) := dk_134 (dk_at dksJ20_resize_3 20 rfl rfl)
theorem dJ20_resize_93 : decode cJ20_resize 93 = .ok (.aload_n 0, 1) := dk_42 (dk_at dksJ20_resize_3 21 rfl rfl)
theorem dJ20_resize_94 : decode cJ20_resize 94 = .ok (.getfield 81, 3) := dk_180 0 81 (dk_at dksJ20_resize_4 0 rfl rfl)
theorem dJ20_resize_97 : decode cJ20_resize 97 = .ok (.fmul, 1) := dk_106 (dk_at dksJ20_resize_4 3 rfl rfl)
theorem dJ20_resize_98 : decode cJ20_resize 98 = .ok (.fstore 6, 2) := dk_56 6 (dk_at dksJ20_resize_4 4 rfl rfl)
theorem dJ20_resize_100 : decode cJ20_resize 100 = .ok (.iload 4, 2) := dk_21 4 (dk_at dksJ20_resize_4 6 rfl rfl)
theorem dJ20_resize_102 : decode cJ20_resize 102 = .ok (.ldc 42, 2) := dk_18 42 (dk_at dksJ20_resize_4 8 rfl rfl)
theorem dJ20_resize_104 : decode cJ20_resize 104 = .ok (.if_icmp .ge 17, 3) := dk_162 0 17 (dk_at dksJ20_resize_4 10 rfl rfl)
theorem dJ20_resize_107 : decode cJ20_resize 107 = .ok (.fload 6, 2) := dk_23 6 (dk_at dksJ20_resize_4 13 rfl rfl)
theorem dJ20_resize_109 : decode cJ20_resize 109 = .ok (.ldc 210, 2) := dk_18 210 (dk_at dksJ20_resize_4 15 rfl rfl)
theorem dJ20_resize_111 : decode cJ20_resize 111 = .ok (.fcmp .g, 1) := dk_150 (dk_at dksJ20_resize_4 17 rfl rfl)
theorem dJ20_resize_112 : decode cJ20_resize 112 = .ok (.ifCond .ge 9, 3) := dk_156 0 9 (dk_at dksJ20_resize_4 18 rfl rfl)
theorem dJ20_resize_115 : decode cJ20_resize 115 = .ok (.fload 6, 2) := dk_23 6 (dk_at dksJ20_resize_4 21 rfl rfl)
theorem dJ20_resize_117 : decode cJ20_resize 117 = .ok (.f2i, 1) := dk_139 (dk_at dksJ20_resize_4 23 rfl rfl)
theorem dJ20_resize_118 : decode cJ20_resize 118 = .ok (.goto 5, 3) := dk_167 0 5 (dk_at dksJ20_resize_5 0 rfl rfl)
theorem dJ20_resize_121 : decode cJ20_resize 121 = .ok (.ldc 209, 2) := dk_18 209 (dk_at dksJ20_resize_5 3 rfl rfl)
theorem dJ20_resize_123 : decode cJ20_resize 123 = .ok (.istore 5, 2) := dk_54 5 (dk_at dksJ20_resize_5 5 rfl rfl)
theorem dJ20_resize_125 : decode cJ20_resize 125 = .ok (.aload_n 0, 1) := dk_42 (dk_at dksJ20_resize_5 7 rfl rfl)
theorem dJ20_resize_126 : decode cJ20_resize 126 = .ok (.iload 5, 2) := dk_21 5 (dk_at dksJ20_resize_5 8 rfl rfl)
theorem dJ20_resize_128 : decode cJ20_resize 128 = .ok (.putfield 88, 3) := dk_181 0 88 (dk_at dksJ20_resize_5 10 rfl rfl)
theorem dJ20_resize_131 : decode cJ20_resize 131 = .ok (.iload 4, 2) := dk_21 4 (dk_at dksJ20_resize_5 13 rfl rfl)
theorem dJ20_resize_133 : decode cJ20_resize 133 = .ok (.anewarray 163, 3) := dk_189 0 163 (dk_at dksJ20_resize_5 15 rfl rfl)
theorem dJ20_resize_136 : decode cJ20_resize 136 = .ok (.astore 6, 2) := dk_58 6 (dk_at dksJ20_resize_5 18 rfl rfl)
theorem dJ20_resize_138 : decode cJ20_resize 138 = .ok (.aload_n 0, 1) := dk_42 (dk_at dksJ20_resize_5 20 rfl rfl)
theorem dJ20_resize_139 : decode cJ20_resize 139 = .ok (.aload 6, 2) := dk_25 6 (dk_at dksJ20_resize_5 21 rfl rfl)
theorem dJ20_resize_141 : decode cJ20_resize 141 = .ok (.putfield 105, 3) := dk_181 0 105 (dk_at dksJ20_resize_6 0 rfl rfl)
theorem dJ20_resize_144 : decode cJ20_resize 144 = .ok (.aload_n 1, 1) := dk_43 (dk_at dksJ20_resize_6 3 rfl rfl)
theorem dJ20_resize_145 : decode cJ20_resize 145 = .ok (.ifnull 208, 3) := dk_198 0 208 (dk_at dksJ20_resize_6 4 rfl rfl)
theorem dJ20_resize_148 : decode cJ20_resize 148 = .ok (.iconst 0, 1) := dk_3 (dk_at dksJ20_resize_6 7 rfl rfl)
theorem dJ20_resize_149 : decode cJ20_resize 149 = .ok (.istore 7, 2) := dk_54 7 (dk_at dksJ20_resize_6 8 rfl rfl)
theorem dJ20_resize_151 : decode cJ20_resize 151 = .ok (.iload 7, 2) := dk_21 7 (dk_at dksJ20_resize_6 10 rfl rfl)
theorem dJ20_resize_153 : decode cJ20_resize 153 = .ok (.iload_n 2, 1) := dk_28 (dk_at dksJ20_resize_6 12 rfl rfl)
theorem dJ20_resize_154 : decode cJ20_resize 154 = .ok (.if_icmp .ge 199, 3) := dk_162 0 199 (dk_at dksJ20_resize_6 13 rfl rfl)
theorem dJ20_resize_157 : decode cJ20_resize 157 = .ok (.aload_n 1, 1) := dk_43 (dk_at dksJ20_resize_6 16 rfl rfl)
theorem dJ20_resize_158 : decode cJ20_resize 158 = .ok (.iload 7, 2) := dk_21 7 (dk_at dksJ20_resize_6 17 rfl rfl)
theorem dJ20_resize_160 : decode cJ20_resize 160 = .ok (.aaload, 1) := dk_50 (dk_at dksJ20_resize_6 19 rfl rfl)
theorem dJ20_resize_161 : decode cJ20_resize 161 = .ok (.dup, 1) := dk_89 (dk_at dksJ20_resize_6 20 rfl rfl)
theorem dJ20_resize_162 : decode cJ20_resize 162 = .ok (.astore 8, 2) := dk_58 8 (dk_at dksJ20_resize_6 21 rfl rfl)
theorem dJ20_resize_164 : decode cJ20_resize 164 = .ok (.ifnull 183, 3) := dk_198 0 183 (dk_at dksJ20_resize_7 0 rfl rfl)
theorem dJ20_resize_167 : decode cJ20_resize 167 = .ok (.aload_n 1, 1) := dk_43 (dk_at dksJ20_resize_7 3 rfl rfl)
theorem dJ20_resize_168 : decode cJ20_resize 168 = .ok (.iload 7, 2) := dk_21 7 (dk_at dksJ20_resize_7 4 rfl rfl)
theorem dJ20_resize_170 : decode cJ20_resize 170 = .ok (.aconst_null, 1) := dk_1 (dk_at dksJ20_resize_7 6 rfl rfl)
theorem dJ20_resize_171 : decode cJ20_resize 171 = .ok (.aastore, 1) := dk_83 (dk_at dksJ20_resize_7 7 rfl rfl)
theorem dJ20_resize_172 : decode cJ20_resize 172 = .ok (.aload 8, 2) := dk_25 8 (dk_at dksJ20_resize_7 8 rfl rfl)
theorem dJ20_resize_174 : decode cJ20_resize 174 = .ok (.getfield 177, 3) := dk_180 0 177 (dk_at dksJ20_resize_7 10 rfl rfl)
theorem dJ20_resize_177 : decode cJ20_resize 177 = .ok (.ifnonnull 21, 3) := dk_199 0 21 (dk_at dksJ20_resize_7 13 rfl rfl)
theorem dJ20_resize_180 : decode cJ20_resize 180 = .ok (.aload 6, 2) := dk_25 6 (dk_at dksJ20_resize_7 16 rfl rfl)
theorem dJ20_resize_182 : decode cJ20_resize 182 = .ok (.aload 8, 2) := dk_25 8 (dk_at dksJ20_resize_7 18 rfl rfl)
theorem dJ20_resize_184 : decode cJ20_resize 184 = .ok (.getfield 168, 3) := dk_180 0 168 (dk_at dksJ20_resize_7 20 rfl rfl)
theorem dJ20_resize_187 : decode cJ20_resize 187 = .ok (.iload 4, 2) := dk_21 4 (dk_at dksJ20_resize_8 0 rfl rfl)
theorem dJ20_resize_189 : decode cJ20_resize 189 = .ok (.iconst 1, 1) := dk_4 (dk_at dksJ20_resize_8 2 rfl rfl)
theorem dJ20_resize_190 : decode cJ20_resize 190 = .ok (.isub, 1) := dk_100 (dk_at dksJ20_resize_8 3 rfl rfl)
theorem dJ20_resize_191 : decode cJ20_resize 191 = .ok (.iand, 1) := dk_126 (dk_at dksJ20_resize_8 4 rfl rfl)
theorem dJ20_resize_192 : decode cJ20_resize 192 = .ok (.aload 8, 2) := dk_25 8 (dk_at dksJ20_resize_8 5 rfl rfl)
theorem dJ20_resize_194 : decode cJ20_resize 194 = .ok (.aastore, 1) := dk_83 (dk_at dksJ20_resize_8 7 rfl rfl)
theorem dJ20_resize_195 : decode cJ20_resize 195 = .ok (.goto 152, 3) := dk_167 0 152 (dk_at dksJ20_resize_8 8 rfl rfl)
theorem dJ20_resize_198 : decode cJ20_resize 198 = .ok (.aload 8, 2) := dk_25 8 (dk_at dksJ20_resize_8 11 rfl rfl)
theorem dJ20_resize_200 : decode cJ20_resize 200 = .ok (.instanceof 180, 3) := dk_193 0 180 (dk_at dksJ20_resize_8 13 rfl rfl)
theorem dJ20_resize_203 : decode cJ20_resize 203 = .ok (.ifCond .eq 20, 3) := dk_153 0 20 (dk_at dksJ20_resize_8 16 rfl rfl)
theorem dJ20_resize_206 : decode cJ20_resize 206 = .ok (.aload 8, 2) := dk_25 8 (dk_at dksJ20_resize_8 19 rfl rfl)
theorem dJ20_resize_208 : decode cJ20_resize 208 = .ok (.checkcast 180, 3) := dk_192 0 180 (dk_at dksJ20_resize_8 21 rfl rfl)
theorem dJ20_resize_211 : decode cJ20_resize 211 = .ok (.aload_n 0, 1) := dk_42 (dk_at dksJ20_resize_9 0 rfl rfl)
theorem dJ20_resize_212 : decode cJ20_resize 212 = .ok (.aload 6, 2) := dk_25 6 (dk_at dksJ20_resize_9 1 rfl rfl)
theorem dJ20_resize_214 : decode cJ20_resize 214 = .ok (.iload 7, 2) := dk_21 7 (dk_at dksJ20_resize_9 3 rfl rfl)
theorem dJ20_resize_216 : decode cJ20_resize 216 = .ok (.iload_n 2, 1) := dk_28 (dk_at dksJ20_resize_9 5 rfl rfl)
theorem dJ20_resize_217 : decode cJ20_resize 217 = .ok (.invokevirtual 211, 3) := dk_182 0 211 (dk_at dksJ20_resize_9 6 rfl rfl)
theorem dJ20_resize_220 : decode cJ20_resize 220 = .ok (.goto 127, 3) := dk_167 0 127 (dk_at dksJ20_resize_9 9 rfl rfl)
theorem dJ20_resize_223 : decode cJ20_resize 223 = .ok (.aconst_null, 1) := dk_1 (dk_at dksJ20_resize_9 12 rfl rfl)
theorem dJ20_resize_224 : decode cJ20_resize 224 = .ok (.astore 9, 2) := dk_58 9 (dk_at dksJ20_resize_9 13 rfl rfl)
theorem dJ20_resize_226 : decode cJ20_resize 226 = .ok (.aconst_null, 1) := dk_1 (dk_at dksJ20_resize_9 15 rfl rfl)
theorem dJ20_resize_227 : decode cJ20_resize 227 = .ok (.astore 10, 2) := dk_58 10 (dk_at dksJ20_resize_9 16 rfl rfl)
theorem dJ20_resize_229 : decode cJ20_resize 229 = .ok (.aconst_null, 1) := dk_1 (dk_at dksJ20_resize_9 18 rfl rfl)
theorem dJ20_resize_230 : decode cJ20_resize 230 = .ok (.astore 11, 2) := dk_58 11 (dk_at dksJ20_resize_9 19 rfl rfl)
theorem dJ20_resize_232 : decode cJ20_resize 232 = .ok (.aconst_null, 1) := dk_1 (dk_at dksJ20_resize_9 21 rfl rfl)
theorem dJ20_resize_233 : decode cJ20_resize 233 = .ok (.astore 12, 2) := dk_58 12 (dk_at dksJ20_resize_9 22 rfl rfl)
theorem dJ20_resize_235 : decode cJ20_resize 235 = .ok (.aload 8, 2) := dk_25 8 (dk_at dksJ20_resize_10 0 rfl rfl)
theorem dJ20_resize_237 : decode cJ20_resize 237 = .ok (.getfield 177, 3) := dk_180 0 177 (dk_at dksJ20_resize_10 2 rfl rfl)
theorem dJ20_resize_240 : decode cJ20_resize 240 = .ok (.astore 13, 2) := dk_58 13 (dk_at dksJ20_resize_10 5 rfl rfl)
theorem dJ20_resize_242 : decode cJ20_resize 242 = .ok (.aload 8, 2) := dk_25 8 (dk_at dksJ20_resize_10 7 rfl rfl)
theorem dJ20_resize_244 : decode cJ20_resize 244 = .ok (.getfield 168, 3) := dk_180 0 168 (dk_at dksJ20_resize_10 9 rfl rfl)
theorem dJ20_resize_247 : decode cJ20_resize 247 = .ok (.iload_n 2, 1) := dk_28 (dk_at dksJ20_resize_10 12 rfl rfl)
theorem dJ20_resize_248 : decode cJ20_resize 248 = .ok (.iand, 1) := dk_126 (dk_at dksJ20_resize_10 13 rfl rfl)
theorem dJ20_resize_249 : decode cJ20_resize 249 = .ok (.ifCond .ne 29, 3) := dk_154 0 29 (dk_at dksJ20_resize_10 14 rfl rfl)
theorem dJ20_resize_252 : decode cJ20_resize 252 = .ok (.aload 10, 2) := dk_25 10 (dk_at dksJ20_resize_10 17 rfl rfl)
theorem dJ20_resize_254 : decode cJ20_resize 254 = .ok (.ifnonnull 10, 3) := dk_199 0 10 (dk_at dksJ20_resize_10 19 rfl rfl)
theorem dJ20_resize_257 : decode cJ20_resize 257 = .ok (.aload 8, 2) := dk_25 8 (dk_at dksJ20_resize_10 22 rfl rfl)
theorem dJ20_resize_259 : decode cJ20_resize 259 = .ok (.astore 9, 2) := dk_58 9 (dk_at dksJ20_resize_11 0 rfl rfl)
theorem dJ20_resize_261 : decode cJ20_resize 261 = .ok (.goto 10, 3) := dk_167 0 10 (dk_at dksJ20_resize_11 2 rfl rfl)
theorem dJ20_resize_264 : decode cJ20_resize 264 = .ok (.aload 10, 2) := dk_25 10 (dk_at dksJ20_resize_11 5 rfl rfl)
theorem dJ20_resize_266 : decode cJ20_resize 266 = .ok (.aload 8, 2) := dk_25 8 (dk_at dksJ20_resize_11 7 rfl rfl)
theorem dJ20_resize_268 : decode cJ20_resize 268 = .ok (.putfield 177, 3) := dk_181 0 177 (dk_at dksJ20_resize_11 9 rfl rfl)
theorem dJ20_resize_271 : decode cJ20_resize 271 = .ok (.aload 8, 2) := dk_25 8 (dk_at dksJ20_resize_11 12 rfl rfl)
theorem dJ20_resize_273 : decode cJ20_resize 273 = .ok (.astore 10, 2) := dk_58 10 (dk_at dksJ20_resize_11 14 rfl rfl)
theorem dJ20_resize_275 : decode cJ20_resize 275 = .ok (.goto 26, 3) := dk_167 0 26 (dk_at dksJ20_resize_11 16 rfl rfl)
theorem dJ20_resize_278 : decode cJ20_resize 278 = .ok (.aload 12, 2) := dk_25 12 (dk_at dksJ20_resize_11 19 rfl rfl)
theorem dJ20_resize_280 : decode cJ20_resize 280 = .ok (.ifnonnull 10, 3) := dk_199 0 10 (dk_at dksJ20_resize_11 21 rfl rfl)
theorem dJ20_resize_283 : decode cJ20_resize 283 = .ok (.aload 8, 2) := dk_25 8 (dk_at dksJ20_resize_12 0 rfl rfl)
theorem dJ20_resize_285 : decode cJ20_resize 285 = .ok (.astore 11, 2) := dk_58 11 (dk_at dksJ20_resize_12 2 rfl rfl)
theorem dJ20_resize_287 : decode cJ20_resize 287 = .ok (.goto 10, 3) := dk_167 0 10 (dk_at dksJ20_resize_12 4 rfl rfl)
theorem dJ20_resize_290 : decode cJ20_resize 290 = .ok (.aload 12, 2) := dk_25 12 (dk_at dksJ20_resize_12 7 rfl rfl)
theorem dJ20_resize_292 : decode cJ20_resize 292 = .ok (.aload 8, 2) := dk_25 8 (dk_at dksJ20_resize_12 9 rfl rfl)
theorem dJ20_resize_294 : decode cJ20_resize 294 = .ok (.putfield 177, 3) := dk_181 0 177 (dk_at dksJ20_resize_12 11 rfl rfl)
theorem dJ20_resize_297 : decode cJ20_resize 297 = .ok (.aload 8, 2) := dk_25 8 (dk_at dksJ20_resize_12 14 rfl rfl)
theorem dJ20_resize_299 : decode cJ20_resize 299 = .ok (.astore 12, 2) := dk_58 12 (dk_at dksJ20_resize_12 16 rfl rfl)
theorem dJ20_resize_301 : decode cJ20_resize 301 = .ok (.aload 13, 2) := dk_25 13 (dk_at dksJ20_resize_12 18 rfl rfl)
theorem dJ20_resize_303 : decode cJ20_resize 303 = .ok (.dup, 1) := dk_89 (dk_at dksJ20_resize_12 20 rfl rfl)
theorem dJ20_resize_304 : decode cJ20_resize 304 = .ok (.astore 8, 2) := dk_58 8 (dk_at dksJ20_resize_12 21 rfl rfl)
theorem dJ20_resize_306 : decode cJ20_resize 306 = .ok (.ifnonnull (-71), 3) := dk_199 255 185 (dk_at dksJ20_resize_13 0 rfl rfl)
theorem dJ20_resize_309 : decode cJ20_resize 309 = .ok (.aload 10, 2) := dk_25 10 (dk_at dksJ20_resize_13 3 rfl rfl)
theorem dJ20_resize_311 : decode cJ20_resize 311 = .ok (.ifnull 16, 3) := dk_198 0 16 (dk_at dksJ20_resize_13 5 rfl rfl)
theorem dJ20_resize_314 : decode cJ20_resize 314 = .ok (.aload 10, 2) := dk_25 10 (dk_at dksJ20_resize_13 8 rfl rfl)
theorem dJ20_resize_316 : decode cJ20_resize 316 = .ok (.aconst_null, 1) := dk_1 (dk_at dksJ20_resize_13 10 rfl rfl)
theorem dJ20_resize_317 : decode cJ20_resize 317 = .ok (.putfield 177, 3) := dk_181 0 177 (dk_at dksJ20_resize_13 11 rfl rfl)
theorem dJ20_resize_320 : decode cJ20_resize 320 = .ok (.aload 6, 2) := dk_25 6 (dk_at dksJ20_resize_13 14 rfl rfl)
theorem dJ20_resize_322 : decode cJ20_resize 322 = .ok (.iload 7, 2) := dk_21 7 (dk_at dksJ20_resize_13 16 rfl rfl)
theorem dJ20_resize_324 : decode cJ20_resize 324 = .ok (.aload 9, 2) := dk_25 9 (dk_at dksJ20_resize_13 18 rfl rfl)
theorem dJ20_resize_326 : decode cJ20_resize 326 = .ok (.aastore, 1) := dk_83 (dk_at dksJ20_resize_13 20 rfl rfl)
theorem dJ20_resize_327 : decode cJ20_resize 327 = .ok (.aload 12, 2) := dk_25 12 (dk_at dksJ20_resize_13 21 rfl rfl)
theorem dJ20_resize_329 : decode cJ20_resize 329 = .ok (.ifnull 18, 3) := dk_198 0 18 (dk_at dksJ20_resize_14 0 rfl rfl)
theorem dJ20_resize_332 : decode cJ20_resize 332 = .ok (.aload 12, 2) := dk_25 12 (dk_at dksJ20_resize_14 3 rfl rfl)
theorem dJ20_resize_334 : decode cJ20_resize 334 = .ok (.aconst_null, 1) := dk_1 (dk_at dksJ20_resize_14 5 rfl rfl)
theorem dJ20_resize_335 : decode cJ20_resize 335 = .ok (.putfield 177, 3) := dk_181 0 177 (dk_at dksJ20_resize_14 6 rfl rfl)
theorem dJ20_resize_338 : decode cJ20_resize 338 = .ok (.aload 6, 2) := dk_25 6 (dk_at dksJ20_resize_14 9 rfl rfl)
theorem dJ20_resize_340 : decode cJ20_resize 340 = .ok (.iload 7, 2) := dk_21 7 (dk_at dksJ20_resize_14 11 rfl rfl)
theorem dJ20_resize_342 : decode cJ20_resize 342 = .ok (.iload_n 2, 1) := dk_28 (dk_at dksJ20_resize_14 13 rfl rfl)
theorem dJ20_resize_343 : decode cJ20_resize 343 = .ok (.iadd, 1) := dk_96 (dk_at dksJ20_resize_14 14 rfl rfl)
theorem dJ20_resize_344 : decode cJ20_resize 344 = .ok (.aload 11, 2) := dk_25 11 (dk_at dksJ20_resize_14 15 rfl rfl)
theorem dJ20_resize_346 : decode cJ20_resize 346 = .ok (.aastore, 1) := dk_83 (dk_at dksJ20_resize_14 17 rfl rfl)
theorem dJ20_resize_347 : decode cJ20_resize 347 = .ok (.iinc 7 1, 3) := dk_132 7 1 (dk_at dksJ20_resize_14 18 rfl rfl)
theorem dJ20_resize_350 : decode cJ20_resize 350 = .ok (.goto (-199), 3) := dk_167 255 57 (dk_at dksJ20_resize_14 21 rfl rfl)
theorem dJ20_resize_353 : decode cJ20_resize 353 = .ok (.aload 6, 2) := dk_25 6 (dk_at dksJ20_resize_15 0 rfl rfl)
theorem dJ20_resize_355 : decode cJ20_resize 355 = .ok (.areturn, 1) := dk_176 (dk_at dksJ20_resize_15 2 rfl rfl)
abbrev cJ20_treeifyBin : ByteArray := prog_60_method_18_code
def yJ20_treeifyBin : MethodName := ⟨RJ20, "treeifyBin", "([Ljava/util/HashMap$Node;I)V"⟩
def dkwJ20_treeifyBin_4 : List UInt8 := [21, 4, 25, 6, 91, 83, 198, 0, 9, 25, 6, 43, 182, 0, 224, 177]
abbrev dktJ20_treeifyBin_4 : List UInt8 := dkwJ20_treeifyBin_4 ++ []
def dkwJ20_treeifyBin_3 : List UInt8 := [25, 7, 25, 8, 181, 0, 223, 25, 8, 58, 7, 25, 5, 180, 0, 177, 89, 58, 5, 199, 255, 209, 43]
abbrev dktJ20_treeifyBin_3 : List UInt8 := dkwJ20_treeifyBin_3 ++ dktJ20_treeifyBin_4
def dkwJ20_treeifyBin_2 : List UInt8 := [182, 0, 215, 58, 8, 25, 7, 199, 0, 10, 25, 8, 58, 6, 167, 0, 17, 25, 8, 25, 7, 181, 0, 219]
abbrev dktJ20_treeifyBin_2 : List UInt8 := dkwJ20_treeifyBin_2 ++ dktJ20_treeifyBin_3
def dkwJ20_treeifyBin_1 : List UInt8 := [100, 28, 126, 89, 54, 4, 50, 89, 58, 5, 198, 0, 75, 1, 58, 6, 1, 58, 7, 42, 25, 5, 1]
abbrev dktJ20_treeifyBin_1 : List UInt8 := dkwJ20_treeifyBin_1 ++ dktJ20_treeifyBin_2
def dkwJ20_treeifyBin_0 : List UInt8 := [43, 198, 0, 12, 43, 190, 89, 62, 16, 64, 162, 0, 11, 42, 182, 0, 117, 87, 167, 0, 91, 43, 29, 4]
abbrev dktJ20_treeifyBin_0 : List UInt8 := dkwJ20_treeifyBin_0 ++ dktJ20_treeifyBin_1
theorem dksJ20_treeifyBin_0 : cJ20_treeifyBin.data.toList.drop 0 = dktJ20_treeifyBin_0 := by decide +kernel
theorem dksJ20_treeifyBin_1 : cJ20_treeifyBin.data.toList.drop 24 = dktJ20_treeifyBin_1 := dk_seg dksJ20_treeifyBin_0 24 rfl rfl
theorem dksJ20_treeifyBin_2 : cJ20_treeifyBin.data.toList.drop 47 = dktJ20_treeifyBin_2 := dk_seg dksJ20_treeifyBin_1 23 rfl rfl
theorem dksJ20_treeifyBin_3 : cJ20_treeifyBin.data.toList.drop 71 = dktJ20_treeifyBin_3 := dk_seg dksJ20_treeifyBin_2 24 rfl rfl
theorem dksJ20_treeifyBin_4 : cJ20_treeifyBin.data.toList.drop 94 = dktJ20_treeifyBin_4 := dk_seg dksJ20_treeifyBin_3 23 rfl rfl
theorem dJ20_treeifyBin_0 : decode cJ20_treeifyBin 0 = .ok (.aload_n 1, 1) := dk_43 (dk_at dksJ20_treeifyBin_0 0 rfl rfl)
theorem dJ20_treeifyBin_1 : decode cJ20_treeifyBin 1 = .ok (.ifnull 12, 3) := dk_198 0 12 (dk_at dksJ20_treeifyBin_0 1 rfl rfl)
theorem dJ20_treeifyBin_4 : decode cJ20_treeifyBin 4 = .ok (.aload_n 1, 1) := dk_43 (dk_at dksJ20_treeifyBin_0 4 rfl rfl)
theorem dJ20_treeifyBin_5 : decode cJ20_treeifyBin 5 = .ok (.arraylength, 1) := dk_190 (dk_at dksJ20_treeifyBin_0 5 rfl rfl)
theorem dJ20_treeifyBin_6 : decode cJ20_treeifyBin 6 = .ok (.dup, 1) := dk_89 (dk_at dksJ20_treeifyBin_0 6 rfl rfl)
theorem dJ20_treeifyBin_7 : decode cJ20_treeifyBin 7 = .ok (.istore_n 3, 1) := dk_62 (dk_at dksJ20_treeifyBin_0 7 rfl rfl)
theorem dJ20_treeifyBin_8 : decode cJ20_treeifyBin 8 = .ok (.bipush 64, 2) := dk_16 64 (dk_at dksJ20_treeifyBin_0 8 rfl rfl)
theorem dJ20_treeifyBin_10 : decode cJ20_treeifyBin 10 = .ok (.if_icmp .ge 11, 3) := dk_162 0 11 (dk_at dksJ20_treeifyBin_0 10 rfl rfl)
theorem dJ20_treeifyBin_13 : decode cJ20_treeifyBin 13 = .ok (.aload_n 0, 1) := dk_42 (dk_at dksJ20_treeifyBin_0 13 rfl rfl)
theorem dJ20_treeifyBin_14 : decode cJ20_treeifyBin 14 = .ok (.invokevirtual 117, 3) := dk_182 0 117 (dk_at dksJ20_treeifyBin_0 14 rfl rfl)
theorem dJ20_treeifyBin_17 : decode cJ20_treeifyBin 17 = .ok (.pop, 1) := dk_87 (dk_at dksJ20_treeifyBin_0 17 rfl rfl)
theorem dJ20_treeifyBin_18 : decode cJ20_treeifyBin 18 = .ok (.goto 91, 3) := dk_167 0 91 (dk_at dksJ20_treeifyBin_0 18 rfl rfl)
theorem dJ20_treeifyBin_21 : decode cJ20_treeifyBin 21 = .ok (.aload_n 1, 1) := dk_43 (dk_at dksJ20_treeifyBin_0 21 rfl rfl)
theorem dJ20_treeifyBin_22 : decode cJ20_treeifyBin 22 = .ok (.iload_n 3, 1) := dk_29 (dk_at dksJ20_treeifyBin_0 22 rfl rfl)
theorem dJ20_treeifyBin_23 : decode cJ20_treeifyBin 23 = .ok (.iconst 1, 1) := dk_4 (dk_at dksJ20_treeifyBin_0 23 rfl rfl)
theorem dJ20_treeifyBin_24 : decode cJ20_treeifyBin 24 = .ok (.isub, 1) := dk_100 (dk_at dksJ20_treeifyBin_1 0 rfl rfl)
theorem dJ20_treeifyBin_25 : decode cJ20_treeifyBin 25 = .ok (.iload_n 2, 1) := dk_28 (dk_at dksJ20_treeifyBin_1 1 rfl rfl)
theorem dJ20_treeifyBin_26 : decode cJ20_treeifyBin 26 = .ok (.iand, 1) := dk_126 (dk_at dksJ20_treeifyBin_1 2 rfl rfl)
theorem dJ20_treeifyBin_27 : decode cJ20_treeifyBin 27 = .ok (.dup, 1) := dk_89 (dk_at dksJ20_treeifyBin_1 3 rfl rfl)
theorem dJ20_treeifyBin_28 : decode cJ20_treeifyBin 28 = .ok (.istore 4, 2) := dk_54 4 (dk_at dksJ20_treeifyBin_1 4 rfl rfl)
theorem dJ20_treeifyBin_30 : decode cJ20_treeifyBin 30 = .ok (.aaload, 1) := dk_50 (dk_at dksJ20_treeifyBin_1 6 rfl rfl)
theorem dJ20_treeifyBin_31 : decode cJ20_treeifyBin 31 = .ok (.dup, 1) := dk_89 (dk_at dksJ20_treeifyBin_1 7 rfl rfl)
theorem dJ20_treeifyBin_32 : decode cJ20_treeifyBin 32 = .ok (.astore 5, 2) := dk_58 5 (dk_at dksJ20_treeifyBin_1 8 rfl rfl)
theorem dJ20_treeifyBin_34 : decode cJ20_treeifyBin 34 = .ok (.ifnull 75, 3) := dk_198 0 75 (dk_at dksJ20_treeifyBin_1 10 rfl rfl)
theorem dJ20_treeifyBin_37 : decode cJ20_treeifyBin 37 = .ok (.aconst_null, 1) := dk_1 (dk_at dksJ20_treeifyBin_1 13 rfl rfl)
theorem dJ20_treeifyBin_38 : decode cJ20_treeifyBin 38 = .ok (.astore 6, 2) := dk_58 6 (dk_at dksJ20_treeifyBin_1 14 rfl rfl)
theorem dJ20_treeifyBin_40 : decode cJ20_treeifyBin 40 = .ok (.aconst_null, 1) := dk_1 (dk_at dksJ20_treeifyBin_1 16 rfl rfl)
theorem dJ20_treeifyBin_41 : decode cJ20_treeifyBin 41 = .ok (.astore 7, 2) := dk_58 7 (dk_at dksJ20_treeifyBin_1 17 rfl rfl)
theorem dJ20_treeifyBin_43 : decode cJ20_treeifyBin 43 = .ok (.aload_n 0, 1) := dk_42 (dk_at dksJ20_treeifyBin_1 19 rfl rfl)
theorem dJ20_treeifyBin_44 : decode cJ20_treeifyBin 44 = .ok (.aload 5, 2) := dk_25 5 (dk_at dksJ20_treeifyBin_1 20 rfl rfl)
theorem dJ20_treeifyBin_46 : decode cJ20_treeifyBin 46 = .ok (.aconst_null, 1) := dk_1 (dk_at dksJ20_treeifyBin_1 22 rfl rfl)
theorem dJ20_treeifyBin_47 : decode cJ20_treeifyBin 47 = .ok (.invokevirtual 215, 3) := dk_182 0 215 (dk_at dksJ20_treeifyBin_2 0 rfl rfl)
theorem dJ20_treeifyBin_50 : decode cJ20_treeifyBin 50 = .ok (.astore 8, 2) := dk_58 8 (dk_at dksJ20_treeifyBin_2 3 rfl rfl)
theorem dJ20_treeifyBin_52 : decode cJ20_treeifyBin 52 = .ok (.aload 7, 2) := dk_25 7 (dk_at dksJ20_treeifyBin_2 5 rfl rfl)
theorem dJ20_treeifyBin_54 : decode cJ20_treeifyBin 54 = .ok (.ifnonnull 10, 3) := dk_199 0 10 (dk_at dksJ20_treeifyBin_2 7 rfl rfl)
theorem dJ20_treeifyBin_57 : decode cJ20_treeifyBin 57 = .ok (.aload 8, 2) := dk_25 8 (dk_at dksJ20_treeifyBin_2 10 rfl rfl)
theorem dJ20_treeifyBin_59 : decode cJ20_treeifyBin 59 = .ok (.astore 6, 2) := dk_58 6 (dk_at dksJ20_treeifyBin_2 12 rfl rfl)
theorem dJ20_treeifyBin_61 : decode cJ20_treeifyBin 61 = .ok (.goto 17, 3) := dk_167 0 17 (dk_at dksJ20_treeifyBin_2 14 rfl rfl)
theorem dJ20_treeifyBin_64 : decode cJ20_treeifyBin 64 = .ok (.aload 8, 2) := dk_25 8 (dk_at dksJ20_treeifyBin_2 17 rfl rfl)
theorem dJ20_treeifyBin_66 : decode cJ20_treeifyBin 66 = .ok (.aload 7, 2) := dk_25 7 (dk_at dksJ20_treeifyBin_2 19 rfl rfl)
theorem dJ20_treeifyBin_68 : decode cJ20_treeifyBin 68 = .ok (.putfield 219, 3) := dk_181 0 219 (dk_at dksJ20_treeifyBin_2 21 rfl rfl)
theorem dJ20_treeifyBin_71 : decode cJ20_treeifyBin 71 = .ok (.aload 7, 2) := dk_25 7 (dk_at dksJ20_treeifyBin_3 0 rfl rfl)
theorem dJ20_treeifyBin_73 : decode cJ20_treeifyBin 73 = .ok (.aload 8, 2) := dk_25 8 (dk_at dksJ20_treeifyBin_3 2 rfl rfl)
theorem dJ20_treeifyBin_75 : decode cJ20_treeifyBin 75 = .ok (.putfield 223, 3) := dk_181 0 223 (dk_at dksJ20_treeifyBin_3 4 rfl rfl)
theorem dJ20_treeifyBin_78 : decode cJ20_treeifyBin 78 = .ok (.aload 8, 2) := dk_25 8 (dk_at dksJ20_treeifyBin_3 7 rfl rfl)
theorem dJ20_treeifyBin_80 : decode cJ20_treeifyBin 80 = .ok (.astore 7, 2) := dk_58 7 (dk_at dksJ20_treeifyBin_3 9 rfl rfl)
theorem dJ20_treeifyBin_82 : decode cJ20_treeifyBin 82 = .ok (.aload 5, 2) := dk_25 5 (dk_at dksJ20_treeifyBin_3 11 rfl rfl)
theorem dJ20_treeifyBin_84 : decode cJ20_treeifyBin 84 = .ok (.getfield 177, 3) := dk_180 0 177 (dk_at dksJ20_treeifyBin_3 13 rfl rfl)
theorem dJ20_treeifyBin_87 : decode cJ20_treeifyBin 87 = .ok (.dup, 1) := dk_89 (dk_at dksJ20_treeifyBin_3 16 rfl rfl)
theorem dJ20_treeifyBin_88 : decode cJ20_treeifyBin 88 = .ok (.astore 5, 2) := dk_58 5 (dk_at dksJ20_treeifyBin_3 17 rfl rfl)
theorem dJ20_treeifyBin_90 : decode cJ20_treeifyBin 90 = .ok (.ifnonnull (-47), 3) := dk_199 255 209 (dk_at dksJ20_treeifyBin_3 19 rfl rfl)
theorem dJ20_treeifyBin_93 : decode cJ20_treeifyBin 93 = .ok (.aload_n 1, 1) := dk_43 (dk_at dksJ20_treeifyBin_3 22 rfl rfl)
theorem dJ20_treeifyBin_94 : decode cJ20_treeifyBin 94 = .ok (.iload 4, 2) := dk_21 4 (dk_at dksJ20_treeifyBin_4 0 rfl rfl)
theorem dJ20_treeifyBin_96 : decode cJ20_treeifyBin 96 = .ok (.aload 6, 2) := dk_25 6 (dk_at dksJ20_treeifyBin_4 2 rfl rfl)
theorem dJ20_treeifyBin_98 : decode cJ20_treeifyBin 98 = .ok (.dup_x2, 1) := dk_91 (dk_at dksJ20_treeifyBin_4 4 rfl rfl)
theorem dJ20_treeifyBin_99 : decode cJ20_treeifyBin 99 = .ok (.aastore, 1) := dk_83 (dk_at dksJ20_treeifyBin_4 5 rfl rfl)
theorem dJ20_treeifyBin_100 : decode cJ20_treeifyBin 100 = .ok (.ifnull 9, 3) := dk_198 0 9 (dk_at dksJ20_treeifyBin_4 6 rfl rfl)
theorem dJ20_treeifyBin_103 : decode cJ20_treeifyBin 103 = .ok (.aload 6, 2) := dk_25 6 (dk_at dksJ20_treeifyBin_4 9 rfl rfl)
theorem dJ20_treeifyBin_105 : decode cJ20_treeifyBin 105 = .ok (.aload_n 1, 1) := dk_43 (dk_at dksJ20_treeifyBin_4 11 rfl rfl)
theorem dJ20_treeifyBin_106 : decode cJ20_treeifyBin 106 = .ok (.invokevirtual 224, 3) := dk_182 0 224 (dk_at dksJ20_treeifyBin_4 12 rfl rfl)
theorem dJ20_treeifyBin_109 : decode cJ20_treeifyBin 109 = .ok (.return_, 1) := dk_177 (dk_at dksJ20_treeifyBin_4 15 rfl rfl)
abbrev cJ20_size : ByteArray := prog_60_method_10_code
def yJ20_size : MethodName := ⟨RJ20, "size", "()I"⟩
theorem dJ20_size_0 : decode cJ20_size 0 = .ok (.aload_n 0, 1) := by decide +kernel
theorem dJ20_size_1 : decode cJ20_size 1 = .ok (.getfield 156, 3) := by decide +kernel
theorem dJ20_size_4 : decode cJ20_size 4 = .ok (.ireturn, 1) := by decide +kernel
theorem q136 : (Jvm.Cond.initialized "java/util/HashMap") ∈ lw_all := lw_g (lw_at lw_m1 38 rfl) rfl
theorem q1757 : (Jvm.Cond.instanceMethod ({ cls := "java/util/HashMap", name := "<init>", desc := "()V" } : Jvm.MethodName)) ∈ lw_all := lw_g (lw_at lw_m7 219 rfl) rfl
theorem q1758 : (Jvm.Cond.code ({ cls := "java/util/HashMap", name := "<init>", desc := "()V" } : Jvm.MethodName) prog_60_method_7_code (1 : Nat) (Option.none : Option Jvm.ClassFile.FieldType)) ∈ lw_all := lw_g (lw_at lw_m7 220 rfl) rfl
theorem q1759 : (Jvm.Cond.methodLink "java/util/HashMap" (43 : Nat) ({ cls := "java/util/AbstractMap", name := "<init>", desc := "()V" } : Jvm.MethodName)) ∈ lw_all := lw_g (lw_at lw_m7 221 rfl) rfl
theorem q1763 : (Jvm.Cond.constantFloat "java/util/HashMap" (92 : Nat) (1061158912 : UInt32)) ∈ lw_all := lw_g (lw_at lw_m7 225 rfl) rfl
theorem q1770 : (Jvm.Cond.fieldLink "java/util/HashMap" (105 : Nat) "java/util/HashMap" "table" "[Ljava/util/HashMap$Node;") ∈ lw_all := lw_g (lw_at lw_m7 232 rfl) rfl
theorem q1773 : (Jvm.Cond.fieldLink "java/util/HashMap" (156 : Nat) "java/util/HashMap" "size" "I") ∈ lw_all := lw_g (lw_at lw_m7 235 rfl) rfl
theorem q1777 : (Jvm.Cond.fieldLink "java/util/HashMap" (202 : Nat) "java/util/HashMap" "modCount" "I") ∈ lw_all := lw_g (lw_at lw_m7 239 rfl) rfl
theorem q1778 : (Jvm.Cond.fieldLink "java/util/HashMap" (88 : Nat) "java/util/HashMap" "threshold" "I") ∈ lw_all := lw_g (lw_at lw_m8 0 rfl) rfl
theorem q1779 : (Jvm.Cond.fieldLink "java/util/HashMap" (81 : Nat) "java/util/HashMap" "loadFactor" "F") ∈ lw_all := lw_g (lw_at lw_m8 1 rfl) rfl
theorem q1789 : (Jvm.Cond.soleField "java/util/HashMap" "table") ∈ lw_all := lw_g (lw_at lw_m8 11 rfl) rfl
theorem q1791 : (Jvm.Cond.soleField "java/util/HashMap" "entrySet") ∈ lw_all := lw_g (lw_at lw_m8 13 rfl) rfl
theorem q1793 : (Jvm.Cond.soleField "java/util/HashMap" "size") ∈ lw_all := lw_g (lw_at lw_m8 15 rfl) rfl
theorem q1795 : (Jvm.Cond.soleField "java/util/HashMap" "modCount") ∈ lw_all := lw_g (lw_at lw_m8 17 rfl) rfl
theorem q1797 : (Jvm.Cond.soleField "java/util/HashMap" "threshold") ∈ lw_all := lw_g (lw_at lw_m8 19 rfl) rfl
theorem q1799 : (Jvm.Cond.soleField "java/util/HashMap" "loadFactor") ∈ lw_all := lw_g (lw_at lw_m8 21 rfl) rfl
theorem q1835 : (Jvm.Cond.declares ({ cls := "java/util/HashMap", name := "getNode", desc := "(Ljava/lang/Object;)Ljava/util/HashMap$Node;" } : Jvm.MethodName)) ∈ lw_tbl := lw_at lw_m8 57 rfl
theorem q1837 : (Jvm.Cond.instanceMethod ({ cls := "java/util/HashMap", name := "getNode", desc := "(Ljava/lang/Object;)Ljava/util/HashMap$Node;" } : Jvm.MethodName)) ∈ lw_all := lw_g (lw_at lw_m8 59 rfl) rfl
theorem q1838 : (Jvm.Cond.code ({ cls := "java/util/HashMap", name := "getNode", desc := "(Ljava/lang/Object;)Ljava/util/HashMap$Node;" } : Jvm.MethodName) prog_60_method_13_code (8 : Nat) (Option.some (Jvm.ClassFile.FieldType.object "java/util/HashMap$Node"))) ∈ lw_all := lw_g (lw_at lw_m8 60 rfl) rfl
theorem q1839 : (Jvm.Cond.methodLink "java/util/HashMap" (149 : Nat) ({ cls := "java/util/HashMap", name := "hash", desc := "(Ljava/lang/Object;)I" } : Jvm.MethodName)) ∈ lw_all := lw_g (lw_at lw_m8 61 rfl) rfl
theorem q1840 : (Jvm.Cond.static ({ cls := "java/util/HashMap", name := "hash", desc := "(Ljava/lang/Object;)I" } : Jvm.MethodName)) ∈ lw_all := lw_g (lw_at lw_m8 62 rfl) rfl
theorem q1841 : (Jvm.Cond.code ({ cls := "java/util/HashMap", name := "hash", desc := "(Ljava/lang/Object;)I" } : Jvm.MethodName) prog_60_method_1_code (2 : Nat) (Option.some Jvm.ClassFile.FieldType.int)) ∈ lw_all := lw_g (lw_at lw_m8 63 rfl) rfl
theorem q1843 : (Jvm.Cond.methodLink "java/util/HashMap" (1 : Nat) ({ cls := "java/lang/Object", name := "hashCode", desc := "()I" } : Jvm.MethodName)) ∈ lw_all := lw_g (lw_at lw_m8 65 rfl) rfl
theorem q1929 : (Jvm.Cond.methodLink "java/util/HashMap" (173 : Nat) ({ cls := "java/lang/Object", name := "equals", desc := "(Ljava/lang/Object;)Z" } : Jvm.MethodName)) ∈ lw_all := lw_g (lw_at lw_m8 151 rfl) rfl
theorem q1960 : (Jvm.Cond.classLink "java/util/HashMap" (180 : Nat) "java/util/HashMap$TreeNode") ∈ lw_all := lw_g (lw_at lw_m8 182 rfl) rfl
theorem q1961 : (Jvm.Cond.methodLink "java/util/HashMap" (182 : Nat) ({ cls := "java/util/HashMap$TreeNode", name := "getTreeNode", desc := "(ILjava/lang/Object;)Ljava/util/HashMap$TreeNode;" } : Jvm.MethodName)) ∈ lw_all := lw_g (lw_at lw_m8 183 rfl) rfl
theorem q1975 : (Jvm.Cond.static ({ cls := "java/util/HashMap", name := "comparableClassFor", desc := "(Ljava/lang/Object;)Ljava/lang/Class;" } : Jvm.MethodName)) ∈ lw_all := lw_g (lw_at lw_m8 197 rfl) rfl
theorem q1976 : (Jvm.Cond.code ({ cls := "java/util/HashMap", name := "comparableClassFor", desc := "(Ljava/lang/Object;)Ljava/lang/Class;" } : Jvm.MethodName) prog_60_method_2_code (9 : Nat) (Option.some (Jvm.ClassFile.FieldType.object "java/lang/Class"))) ∈ lw_all := lw_g (lw_at lw_m8 198 rfl) rfl
theorem q1977 : (Jvm.Cond.classLink "java/util/HashMap" (7 : Nat) "java/lang/Comparable") ∈ lw_all := lw_g (lw_at lw_m8 199 rfl) rfl
theorem q1978 : (Jvm.Cond.methodLink "java/util/HashMap" (9 : Nat) ({ cls := "java/lang/Object", name := "getClass", desc := "()Ljava/lang/Class;" } : Jvm.MethodName)) ∈ lw_all := lw_g (lw_at lw_m8 200 rfl) rfl
theorem q1979 : (Jvm.Cond.classLink "java/util/HashMap" (13 : Nat) "java/lang/String") ∈ lw_all := lw_g (lw_at lw_m8 201 rfl) rfl
theorem q1981 : (Jvm.Cond.static ({ cls := "java/util/HashMap", name := "compareComparables", desc := "(Ljava/lang/Class;Ljava/lang/Object;Ljava/lang/Object;)I" } : Jvm.MethodName)) ∈ lw_all := lw_g (lw_at lw_m8 203 rfl) rfl
theorem q1982 : (Jvm.Cond.code ({ cls := "java/util/HashMap", name := "compareComparables", desc := "(Ljava/lang/Class;Ljava/lang/Object;Ljava/lang/Object;)I" } : Jvm.MethodName) prog_60_method_3_code (3 : Nat) (Option.some Jvm.ClassFile.FieldType.int)) ∈ lw_all := lw_g (lw_at lw_m8 204 rfl) rfl
theorem q1983 : (Jvm.Cond.interfaceEntry "java/util/HashMap" (30 : Nat)) ∈ lw_tbl := lw_at lw_m8 205 rfl
theorem q1984 : (Jvm.Cond.methodLink "java/util/HashMap" (30 : Nat) ({ cls := "java/lang/Comparable", name := "compareTo", desc := "(Ljava/lang/Object;)I" } : Jvm.MethodName)) ∈ lw_all := lw_g (lw_at lw_m8 206 rfl) rfl
theorem q2184 : (Jvm.Cond.instanceMethod ({ cls := "java/util/HashMap", name := "put", desc := "(Ljava/lang/Object;Ljava/lang/Object;)Ljava/lang/Object;" } : Jvm.MethodName)) ∈ lw_all := lw_g (lw_at lw_m9 166 rfl) rfl
theorem q2185 : (Jvm.Cond.publicMethod ({ cls := "java/util/HashMap", name := "put", desc := "(Ljava/lang/Object;Ljava/lang/Object;)Ljava/lang/Object;" } : Jvm.MethodName)) ∈ lw_tbl := lw_at lw_m9 167 rfl
theorem q2186 : (Jvm.Cond.code ({ cls := "java/util/HashMap", name := "put", desc := "(Ljava/lang/Object;Ljava/lang/Object;)Ljava/lang/Object;" } : Jvm.MethodName) prog_60_method_15_code (3 : Nat) (Option.some (Jvm.ClassFile.FieldType.object "java/lang/Object"))) ∈ lw_all := lw_g (lw_at lw_m9 168 rfl) rfl
theorem q2187 : (Jvm.Cond.methodLink "java/util/HashMap" (152 : Nat) ({ cls := "java/util/HashMap", name := "putVal", desc := "(ILjava/lang/Object;Ljava/lang/Object;ZZ)Ljava/lang/Object;" } : Jvm.MethodName)) ∈ lw_all := lw_g (lw_at lw_m9 169 rfl) rfl
theorem q2188 : (Jvm.Cond.instanceMethod ({ cls := "java/util/HashMap", name := "putVal", desc := "(ILjava/lang/Object;Ljava/lang/Object;ZZ)Ljava/lang/Object;" } : Jvm.MethodName)) ∈ lw_all := lw_g (lw_at lw_m9 170 rfl) rfl
theorem q2189 : (Jvm.Cond.sameMethod "java/util/HashMap" "java/util/HashMap" "putVal" "(ILjava/lang/Object;Ljava/lang/Object;ZZ)Ljava/lang/Object;") ∈ lw_all := lw_g (lw_at lw_m9 171 rfl) rfl
theorem q2191 : (Jvm.Cond.code ({ cls := "java/util/HashMap", name := "putVal", desc := "(ILjava/lang/Object;Ljava/lang/Object;ZZ)Ljava/lang/Object;" } : Jvm.MethodName) prog_60_method_16_code (13 : Nat) (Option.some (Jvm.ClassFile.FieldType.object "java/lang/Object"))) ∈ lw_all := lw_g (lw_at lw_m9 173 rfl) rfl
theorem q2192 : (Jvm.Cond.methodLink "java/util/HashMap" (117 : Nat) ({ cls := "java/util/HashMap", name := "resize", desc := "()[Ljava/util/HashMap$Node;" } : Jvm.MethodName)) ∈ lw_all := lw_g (lw_at lw_m9 174 rfl) rfl
theorem q2193 : (Jvm.Cond.instanceMethod ({ cls := "java/util/HashMap", name := "resize", desc := "()[Ljava/util/HashMap$Node;" } : Jvm.MethodName)) ∈ lw_all := lw_g (lw_at lw_m9 175 rfl) rfl
theorem q2194 : (Jvm.Cond.sameMethod "java/util/HashMap" "java/util/HashMap" "resize" "()[Ljava/util/HashMap$Node;") ∈ lw_all := lw_g (lw_at lw_m9 176 rfl) rfl
theorem q2196 : (Jvm.Cond.code ({ cls := "java/util/HashMap", name := "resize", desc := "()[Ljava/util/HashMap$Node;" } : Jvm.MethodName) prog_60_method_17_code (14 : Nat) (Option.some (Jvm.ClassFile.FieldType.array (Jvm.ClassFile.FieldType.object "java/util/HashMap$Node")))) ∈ lw_all := lw_g (lw_at lw_m9 178 rfl) rfl
theorem q2197 : (Jvm.Cond.constant "java/util/HashMap" (42 : Nat) (1073741824 : Int32)) ∈ lw_all := lw_g (lw_at lw_m9 179 rfl) rfl
theorem q2198 : (Jvm.Cond.constant "java/util/HashMap" (209 : Nat) (2147483647 : Int32)) ∈ lw_all := lw_g (lw_at lw_m9 180 rfl) rfl
theorem q2199 : (Jvm.Cond.constantFloat "java/util/HashMap" (210 : Nat) (1317011456 : UInt32)) ∈ lw_all := lw_g (lw_at lw_m9 181 rfl) rfl
theorem q2200 : (Jvm.Cond.classLink "java/util/HashMap" (163 : Nat) "java/util/HashMap$Node") ∈ lw_all := lw_g (lw_at lw_m9 182 rfl) rfl
theorem q2202 : (Jvm.Cond.methodLink "java/util/HashMap" (211 : Nat) ({ cls := "java/util/HashMap$TreeNode", name := "split", desc := "(Ljava/util/HashMap;[Ljava/util/HashMap$Node;II)V" } : Jvm.MethodName)) ∈ lw_all := lw_g (lw_at lw_m9 184 rfl) rfl
theorem q2212 : (Jvm.Cond.instanceMethod ({ cls := "java/util/HashMap", name := "replacementNode", desc := "(Ljava/util/HashMap$Node;Ljava/util/HashMap$Node;)Ljava/util/HashMap$Node;" } : Jvm.MethodName)) ∈ lw_all := lw_g (lw_at lw_m9 194 rfl) rfl
theorem q2213 : (Jvm.Cond.sameMethod "java/util/HashMap" "java/util/HashMap" "replacementNode" "(Ljava/util/HashMap$Node;Ljava/util/HashMap$Node;)Ljava/util/HashMap$Node;") ∈ lw_all := lw_g (lw_at lw_m9 195 rfl) rfl
theorem q2234 : (Jvm.Cond.fieldLink "java/util/HashMap" (168 : Nat) "java/util/HashMap$Node" "hash" "I") ∈ lw_all := lw_g (lw_at lw_m9 216 rfl) rfl
theorem q2240 : (Jvm.Cond.fieldLink "java/util/HashMap" (170 : Nat) "java/util/HashMap$Node" "key" "Ljava/lang/Object;") ∈ lw_all := lw_g (lw_at lw_m9 222 rfl) rfl
theorem q2244 : (Jvm.Cond.fieldLink "java/util/HashMap" (162 : Nat) "java/util/HashMap$Node" "value" "Ljava/lang/Object;") ∈ lw_all := lw_g (lw_at lw_m9 226 rfl) rfl
theorem q2250 : (Jvm.Cond.fieldLink "java/util/HashMap" (177 : Nat) "java/util/HashMap$Node" "next" "Ljava/util/HashMap$Node;") ∈ lw_all := lw_g (lw_at lw_m9 232 rfl) rfl
theorem q2251 : (Jvm.Cond.fieldLink "java/util/HashMap" (223 : Nat) "java/util/HashMap$TreeNode" "next" "Ljava/util/HashMap$Node;") ∈ lw_all := lw_g (lw_at lw_m9 233 rfl) rfl
theorem q2269 : (Jvm.Cond.declares ({ cls := "java/util/HashMap", name := "replacementNode", desc := "(Ljava/util/HashMap$Node;Ljava/util/HashMap$Node;)Ljava/util/HashMap$Node;" } : Jvm.MethodName)) ∈ lw_tbl := lw_at lw_m10 11 rfl
theorem q2288 : (Jvm.Cond.methodLink "java/util/HashMap" (186 : Nat) ({ cls := "java/util/HashMap", name := "newNode", desc := "(ILjava/lang/Object;Ljava/lang/Object;Ljava/util/HashMap$Node;)Ljava/util/HashMap$Node;" } : Jvm.MethodName)) ∈ lw_all := lw_g (lw_at lw_m10 30 rfl) rfl
theorem q2289 : (Jvm.Cond.instanceMethod ({ cls := "java/util/HashMap", name := "newNode", desc := "(ILjava/lang/Object;Ljava/lang/Object;Ljava/util/HashMap$Node;)Ljava/util/HashMap$Node;" } : Jvm.MethodName)) ∈ lw_all := lw_g (lw_at lw_m10 31 rfl) rfl
theorem q2290 : (Jvm.Cond.sameMethod "java/util/HashMap" "java/util/HashMap" "newNode" "(ILjava/lang/Object;Ljava/lang/Object;Ljava/util/HashMap$Node;)Ljava/util/HashMap$Node;") ∈ lw_all := lw_g (lw_at lw_m10 32 rfl) rfl
theorem q2298 : (Jvm.Cond.declares ({ cls := "java/util/HashMap", name := "newNode", desc := "(ILjava/lang/Object;Ljava/lang/Object;Ljava/util/HashMap$Node;)Ljava/util/HashMap$Node;" } : Jvm.MethodName)) ∈ lw_tbl := lw_at lw_m10 40 rfl
theorem q2299 : (Jvm.Cond.methodLink "java/util/HashMap" (190 : Nat) ({ cls := "java/util/HashMap$TreeNode", name := "putTreeVal", desc := "(Ljava/util/HashMap;[Ljava/util/HashMap$Node;ILjava/lang/Object;Ljava/lang/Object;)Ljava/util/HashMap$TreeNode;" } : Jvm.MethodName)) ∈ lw_all := lw_g (lw_at lw_m10 41 rfl) rfl
theorem q2304 : (Jvm.Cond.instanceMethod ({ cls := "java/util/HashMap", name := "newTreeNode", desc := "(ILjava/lang/Object;Ljava/lang/Object;Ljava/util/HashMap$Node;)Ljava/util/HashMap$TreeNode;" } : Jvm.MethodName)) ∈ lw_all := lw_g (lw_at lw_m10 46 rfl) rfl
theorem q2305 : (Jvm.Cond.sameMethod "java/util/HashMap" "java/util/HashMap" "newTreeNode" "(ILjava/lang/Object;Ljava/lang/Object;Ljava/util/HashMap$Node;)Ljava/util/HashMap$TreeNode;") ∈ lw_all := lw_g (lw_at lw_m10 47 rfl) rfl
theorem q2319 : (Jvm.Cond.fieldLink "java/util/HashMap" (219 : Nat) "java/util/HashMap$TreeNode" "prev" "Ljava/util/HashMap$TreeNode;") ∈ lw_all := lw_g (lw_at lw_m10 61 rfl) rfl
theorem q2338 : (Jvm.Cond.declares ({ cls := "java/util/HashMap", name := "newTreeNode", desc := "(ILjava/lang/Object;Ljava/lang/Object;Ljava/util/HashMap$Node;)Ljava/util/HashMap$TreeNode;" } : Jvm.MethodName)) ∈ lw_tbl := lw_at lw_m10 80 rfl
theorem q2339 : (Jvm.Cond.methodLink "java/util/HashMap" (194 : Nat) ({ cls := "java/util/HashMap", name := "treeifyBin", desc := "([Ljava/util/HashMap$Node;I)V" } : Jvm.MethodName)) ∈ lw_all := lw_g (lw_at lw_m10 81 rfl) rfl
theorem q2340 : (Jvm.Cond.instanceMethod ({ cls := "java/util/HashMap", name := "treeifyBin", desc := "([Ljava/util/HashMap$Node;I)V" } : Jvm.MethodName)) ∈ lw_all := lw_g (lw_at lw_m10 82 rfl) rfl
theorem q2341 : (Jvm.Cond.sameMethod "java/util/HashMap" "java/util/HashMap" "treeifyBin" "([Ljava/util/HashMap$Node;I)V") ∈ lw_all := lw_g (lw_at lw_m10 83 rfl) rfl
theorem q2343 : (Jvm.Cond.code ({ cls := "java/util/HashMap", name := "treeifyBin", desc := "([Ljava/util/HashMap$Node;I)V" } : Jvm.MethodName) prog_60_method_18_code (9 : Nat) (Option.none : Option Jvm.ClassFile.FieldType)) ∈ lw_all := lw_g (lw_at lw_m10 85 rfl) rfl
theorem q2344 : (Jvm.Cond.methodLink "java/util/HashMap" (215 : Nat) ({ cls := "java/util/HashMap", name := "replacementTreeNode", desc := "(Ljava/util/HashMap$Node;Ljava/util/HashMap$Node;)Ljava/util/HashMap$TreeNode;" } : Jvm.MethodName)) ∈ lw_all := lw_g (lw_at lw_m10 86 rfl) rfl
theorem q2345 : (Jvm.Cond.instanceMethod ({ cls := "java/util/HashMap", name := "replacementTreeNode", desc := "(Ljava/util/HashMap$Node;Ljava/util/HashMap$Node;)Ljava/util/HashMap$TreeNode;" } : Jvm.MethodName)) ∈ lw_all := lw_g (lw_at lw_m10 87 rfl) rfl
theorem q2346 : (Jvm.Cond.sameMethod "java/util/HashMap" "java/util/HashMap" "replacementTreeNode" "(Ljava/util/HashMap$Node;Ljava/util/HashMap$Node;)Ljava/util/HashMap$TreeNode;") ∈ lw_all := lw_g (lw_at lw_m10 88 rfl) rfl
theorem q2350 : (Jvm.Cond.declares ({ cls := "java/util/HashMap", name := "replacementTreeNode", desc := "(Ljava/util/HashMap$Node;Ljava/util/HashMap$Node;)Ljava/util/HashMap$TreeNode;" } : Jvm.MethodName)) ∈ lw_tbl := lw_at lw_m10 92 rfl
theorem q2351 : (Jvm.Cond.methodLink "java/util/HashMap" (224 : Nat) ({ cls := "java/util/HashMap$TreeNode", name := "treeify", desc := "([Ljava/util/HashMap$Node;)V" } : Jvm.MethodName)) ∈ lw_all := lw_g (lw_at lw_m10 93 rfl) rfl
theorem q2352 : (Jvm.Cond.methodLink "java/util/HashMap" (198 : Nat) ({ cls := "java/util/HashMap", name := "afterNodeAccess", desc := "(Ljava/util/HashMap$Node;)V" } : Jvm.MethodName)) ∈ lw_all := lw_g (lw_at lw_m10 94 rfl) rfl
theorem q2353 : (Jvm.Cond.instanceMethod ({ cls := "java/util/HashMap", name := "afterNodeAccess", desc := "(Ljava/util/HashMap$Node;)V" } : Jvm.MethodName)) ∈ lw_all := lw_g (lw_at lw_m10 95 rfl) rfl
theorem q2354 : (Jvm.Cond.sameMethod "java/util/HashMap" "java/util/HashMap" "afterNodeAccess" "(Ljava/util/HashMap$Node;)V") ∈ lw_all := lw_g (lw_at lw_m10 96 rfl) rfl
theorem q2356 : (Jvm.Cond.declares ({ cls := "java/util/HashMap", name := "afterNodeAccess", desc := "(Ljava/util/HashMap$Node;)V" } : Jvm.MethodName)) ∈ lw_tbl := lw_at lw_m10 98 rfl
theorem q2357 : (Jvm.Cond.methodLink "java/util/HashMap" (205 : Nat) ({ cls := "java/util/HashMap", name := "afterNodeInsertion", desc := "(Z)V" } : Jvm.MethodName)) ∈ lw_all := lw_g (lw_at lw_m10 99 rfl) rfl
theorem q2358 : (Jvm.Cond.instanceMethod ({ cls := "java/util/HashMap", name := "afterNodeInsertion", desc := "(Z)V" } : Jvm.MethodName)) ∈ lw_all := lw_g (lw_at lw_m10 100 rfl) rfl
theorem q2359 : (Jvm.Cond.sameMethod "java/util/HashMap" "java/util/HashMap" "afterNodeInsertion" "(Z)V") ∈ lw_all := lw_g (lw_at lw_m10 101 rfl) rfl
theorem q2367 : (Jvm.Cond.declares ({ cls := "java/util/HashMap", name := "afterNodeInsertion", desc := "(Z)V" } : Jvm.MethodName)) ∈ lw_tbl := lw_at lw_m10 109 rfl
theorem q2374 : (Jvm.Cond.instanceMethod ({ cls := "java/util/HashMap", name := "size", desc := "()I" } : Jvm.MethodName)) ∈ lw_all := lw_g (lw_at lw_m10 116 rfl) rfl
theorem q2375 : (Jvm.Cond.publicMethod ({ cls := "java/util/HashMap", name := "size", desc := "()I" } : Jvm.MethodName)) ∈ lw_tbl := lw_at lw_m10 117 rfl
theorem q2376 : (Jvm.Cond.code ({ cls := "java/util/HashMap", name := "size", desc := "()I" } : Jvm.MethodName) prog_60_method_10_code (1 : Nat) (Option.some Jvm.ClassFile.FieldType.int)) ∈ lw_all := lw_g (lw_at lw_m10 118 rfl) rfl
/-! java/util/LinkedHashMap -/
set_option maxRecDepth 100000
def RJ21 : String := "java/util/LinkedHashMap"
def TJ21 : u_T := fun k => match k with
  | 0 => ("java/util/HashMap", "table", "[Ljava/util/HashMap$Node;", false)
  | 1 => ("java/util/HashMap", "entrySet", "Ljava/util/Set;", false)
  | 2 => ("java/util/HashMap", "size", "I", false)
  | 3 => ("java/util/HashMap", "modCount", "I", false)
  | 4 => ("java/util/HashMap", "threshold", "I", false)
  | 5 => ("java/util/HashMap", "loadFactor", "F", true)
  | 6 => ("java/util/AbstractMap", "keySet", "Ljava/util/Set;", false)
  | 7 => ("java/util/AbstractMap", "values", "Ljava/util/Collection;", false)
  | 8 => ("java/util/LinkedHashMap", "head", "Ljava/util/LinkedHashMap$Entry;", false)
  | 9 => ("java/util/LinkedHashMap", "tail", "Ljava/util/LinkedHashMap$Entry;", false)
  | 10 => ("java/util/LinkedHashMap", "accessOrder", "Z", true)
  | _ => ("java/util/LinkedHashMap", "putMode", "I", false)
def tyJ21 : Nat → FieldType := fun k => match k with
  | 0 => .array (.object "java/util/HashMap$Node")
  | 1 => .object "java/util/Set"
  | 2 => .int
  | 3 => .int
  | 4 => .int
  | 5 => .float
  | 6 => .object "java/util/Set"
  | 7 => .object "java/util/Collection"
  | 8 => .object "java/util/LinkedHashMap$Entry"
  | 9 => .object "java/util/LinkedHashMap$Entry"
  | 10 => .boolean
  | _ => .int
abbrev wsJ210 : List Cond := u_ws RJ21 TJ21 12
theorem nmJ21 : ∀ a, a < 12 → ∀ b, b < 12 → a ≠ b → (TJ21 a).2.1 ≠ (TJ21 b).2.1 := by decide +kernel
theorem tyJ21_ok : ∀ k, k < 12 → parseFieldDescriptor (TJ21 k).2.2.1 = some (tyJ21 k) := by decide +kernel
abbrev cJ21_init : ByteArray := prog_64_method_16_code
def yJ21_init : MethodName := ⟨RJ21, "<init>", "()V"⟩
def dkwJ21_init_0 : List UInt8 := [42, 183, 0, 87, 42, 3, 181, 0, 1, 42, 3, 181, 0, 64, 177]
abbrev dktJ21_init_0 : List UInt8 := dkwJ21_init_0 ++ []
theorem dksJ21_init_0 : cJ21_init.data.toList.drop 0 = dktJ21_init_0 := by decide +kernel
theorem dJ21_init_0 : decode cJ21_init 0 = .ok (.aload_n 0, 1) := dk_42 (dk_at dksJ21_init_0 0 rfl rfl)
theorem dJ21_init_1 : decode cJ21_init 1 = .ok (.invokespecial 87, 3) := dk_183 0 87 (dk_at dksJ21_init_0 1 rfl rfl)
theorem dJ21_init_4 : decode cJ21_init 4 = .ok (.aload_n 0, 1) := dk_42 (dk_at dksJ21_init_0 4 rfl rfl)
theorem dJ21_init_5 : decode cJ21_init 5 = .ok (.iconst 0, 1) := dk_3 (dk_at dksJ21_init_0 5 rfl rfl)
theorem dJ21_init_6 : decode cJ21_init 6 = .ok (.putfield 1, 3) := dk_181 0 1 (dk_at dksJ21_init_0 6 rfl rfl)
theorem dJ21_init_9 : decode cJ21_init 9 = .ok (.aload_n 0, 1) := dk_42 (dk_at dksJ21_init_0 9 rfl rfl)
theorem dJ21_init_10 : decode cJ21_init 10 = .ok (.iconst 0, 1) := dk_3 (dk_at dksJ21_init_0 10 rfl rfl)
theorem dJ21_init_11 : decode cJ21_init 11 = .ok (.putfield 64, 3) := dk_181 0 64 (dk_at dksJ21_init_0 11 rfl rfl)
theorem dJ21_init_14 : decode cJ21_init 14 = .ok (.return_, 1) := dk_177 (dk_at dksJ21_init_0 14 rfl rfl)
abbrev cJ21_get : ByteArray := prog_64_method_20_code
def yJ21_get : MethodName := ⟨RJ21, "get", "(Ljava/lang/Object;)Ljava/lang/Object;"⟩
def dkwJ21_get_1 : List UInt8 := [44, 180, 0, 107, 176]
abbrev dktJ21_get_1 : List UInt8 := dkwJ21_get_1 ++ []
def dkwJ21_get_0 : List UInt8 := [42, 43, 182, 0, 99, 89, 77, 199, 0, 5, 1, 176, 42, 180, 0, 64, 153, 0, 8, 42, 44, 182, 0, 103]
abbrev dktJ21_get_0 : List UInt8 := dkwJ21_get_0 ++ dktJ21_get_1
theorem dksJ21_get_0 : cJ21_get.data.toList.drop 0 = dktJ21_get_0 := by decide +kernel
theorem dksJ21_get_1 : cJ21_get.data.toList.drop 24 = dktJ21_get_1 := dk_seg dksJ21_get_0 24 rfl rfl
theorem dJ21_get_0 : decode cJ21_get 0 = .ok (.aload_n 0, 1) := dk_42 (dk_at dksJ21_get_0 0 rfl rfl)
theorem dJ21_get_1 : decode cJ21_get 1 = .ok (.aload_n 1, 1) := dk_43 (dk_at dksJ21_get_0 1 rfl rfl)
theorem dJ21_get_2 : decode cJ21_get 2 = .ok (.invokevirtual 99, 3) := dk_182 0 99 (dk_at dksJ21_get_0 2 rfl rfl)
theorem dJ21_get_5 : decode cJ21_get 5 = .ok (.dup, 1) := dk_89 (dk_at dksJ21_get_0 5 rfl rfl)
theorem dJ21_get_6 : decode cJ21_get 6 = .ok (.astore_n 2, 1) := dk_77 (dk_at dksJ21_get_0 6 rfl rfl)
theorem dJ21_get_7 : decode cJ21_get 7 = .ok (.ifnonnull 5, 3) := dk_199 0 5 (dk_at dksJ21_get_0 7 rfl rfl)
theorem dJ21_get_10 : decode cJ21_get 10 = .ok (.aconst_null, 1) := dk_1 (dk_at dksJ21_get_0 10 rfl rfl)
theorem dJ21_get_11 : decode cJ21_get 11 = .ok (.areturn, 1) := dk_176 (dk_at dksJ21_get_0 11 rfl rfl)
theorem dJ21_get_12 : decode cJ21_get 12 = .ok (.aload_n 0, 1) := dk_42 (dk_at dksJ21_get_0 12 rfl rfl)
theorem dJ21_get_13 : decode cJ21_get 13 = .ok (.getfield 64, 3) := dk_180 0 64 (dk_at dksJ21_get_0 13 rfl rfl)
theorem dJ21_get_16 : decode cJ21_get 16 = .ok (.ifCond .eq 8, 3) := dk_153 0 8 (dk_at dksJ21_get_0 16 rfl rfl)
theorem dJ21_get_19 : decode cJ21_get 19 = .ok (.aload_n 0, 1) := dk_42 (dk_at dksJ21_get_0 19 rfl rfl)
theorem dJ21_get_20 : decode cJ21_get 20 = .ok (.aload_n 2, 1) := dk_44 (dk_at dksJ21_get_0 20 rfl rfl)
theorem dJ21_get_21 : decode cJ21_get 21 = .ok (.invokevirtual 103, 3) := dk_182 0 103 (dk_at dksJ21_get_0 21 rfl rfl)
theorem dJ21_get_24 : decode cJ21_get 24 = .ok (.aload_n 2, 1) := dk_44 (dk_at dksJ21_get_1 0 rfl rfl)
theorem dJ21_get_25 : decode cJ21_get 25 = .ok (.getfield 107, 3) := dk_180 0 107 (dk_at dksJ21_get_1 1 rfl rfl)
theorem dJ21_get_28 : decode cJ21_get 28 = .ok (.areturn, 1) := dk_176 (dk_at dksJ21_get_1 4 rfl rfl)
abbrev cJ21_afterNodeAccess : ByteArray := prog_64_method_10_code
def yJ21_afterNodeAccess : MethodName := ⟨RJ21, "afterNodeAccess", "(Ljava/util/HashMap$Node;)V"⟩
def dkwJ21_afterNodeAccess_11 : List UInt8 := [181, 0, 7, 42, 89, 180, 0, 68, 4, 96, 181, 0, 68, 177]
abbrev dktJ21_afterNodeAccess_11 : List UInt8 := dkwJ21_afterNodeAccess_11 ++ []
def dkwJ21_afterNodeAccess_10 : List UInt8 := [25, 4, 181, 0, 11, 167, 0, 15, 25, 4, 45, 181, 0, 14, 45, 25, 4, 181, 0, 19, 42, 25, 4]
abbrev dktJ21_afterNodeAccess_10 : List UInt8 := dkwJ21_afterNodeAccess_10 ++ dktJ21_afterNodeAccess_11
def dkwJ21_afterNodeAccess_9 : List UInt8 := [25, 5, 198, 0, 13, 25, 5, 25, 6, 181, 0, 14, 167, 0, 6, 25, 6, 78, 45, 199, 0, 12, 42]
abbrev dktJ21_afterNodeAccess_9 : List UInt8 := dkwJ21_afterNodeAccess_9 ++ dktJ21_afterNodeAccess_10
def dkwJ21_afterNodeAccess_8 : List UInt8 := [181, 0, 19, 25, 6, 199, 0, 12, 42, 25, 5, 181, 0, 11, 167, 0, 10, 25, 6, 25, 5, 181, 0, 19]
abbrev dktJ21_afterNodeAccess_8 : List UInt8 := dkwJ21_afterNodeAccess_8 ++ dktJ21_afterNodeAccess_9
def dkwJ21_afterNodeAccess_7 : List UInt8 := [43, 192, 0, 15, 58, 4, 25, 4, 180, 0, 19, 58, 5, 25, 4, 180, 0, 14, 58, 6, 25, 4, 1]
abbrev dktJ21_afterNodeAccess_7 : List UInt8 := dkwJ21_afterNodeAccess_7 ++ dktJ21_afterNodeAccess_8
def dkwJ21_afterNodeAccess_6 : List UInt8 := [181, 0, 68, 167, 0, 127, 42, 180, 0, 1, 4, 160, 0, 119, 42, 180, 0, 7, 89, 78, 43, 165, 0, 109]
abbrev dktJ21_afterNodeAccess_6 : List UInt8 := dkwJ21_afterNodeAccess_6 ++ dktJ21_afterNodeAccess_7
def dkwJ21_afterNodeAccess_5 : List UInt8 := [181, 0, 19, 44, 25, 4, 181, 0, 14, 42, 25, 4, 181, 0, 11, 42, 89, 180, 0, 68, 4, 96]
abbrev dktJ21_afterNodeAccess_5 : List UInt8 := dkwJ21_afterNodeAccess_5 ++ dktJ21_afterNodeAccess_6
def dkwJ21_afterNodeAccess_4 : List UInt8 := [167, 0, 6, 25, 5, 77, 44, 199, 0, 12, 42, 25, 4, 181, 0, 7, 167, 0, 15, 25, 4, 44]
abbrev dktJ21_afterNodeAccess_4 : List UInt8 := dkwJ21_afterNodeAccess_4 ++ dktJ21_afterNodeAccess_5
def dkwJ21_afterNodeAccess_3 : List UInt8 := [167, 0, 10, 25, 5, 25, 6, 181, 0, 14, 25, 6, 198, 0, 13, 25, 6, 25, 5, 181, 0, 19]
abbrev dktJ21_afterNodeAccess_3 : List UInt8 := dkwJ21_afterNodeAccess_3 ++ dktJ21_afterNodeAccess_4
def dkwJ21_afterNodeAccess_2 : List UInt8 := [180, 0, 14, 58, 6, 25, 4, 1, 181, 0, 14, 25, 5, 199, 0, 12, 42, 25, 6, 181, 0, 7]
abbrev dktJ21_afterNodeAccess_2 : List UInt8 := dkwJ21_afterNodeAccess_2 ++ dktJ21_afterNodeAccess_3
def dkwJ21_afterNodeAccess_1 : List UInt8 := [180, 0, 11, 89, 77, 43, 165, 0, 112, 43, 192, 0, 15, 58, 4, 25, 4, 180, 0, 19, 58, 5, 25, 4]
abbrev dktJ21_afterNodeAccess_1 : List UInt8 := dkwJ21_afterNodeAccess_1 ++ dktJ21_afterNodeAccess_2
def dkwJ21_afterNodeAccess_0 : List UInt8 := [42, 180, 0, 1, 5, 159, 0, 17, 42, 180, 0, 1, 154, 0, 129, 42, 180, 0, 64, 153, 0, 122, 42]
abbrev dktJ21_afterNodeAccess_0 : List UInt8 := dkwJ21_afterNodeAccess_0 ++ dktJ21_afterNodeAccess_1
theorem dksJ21_afterNodeAccess_0 : cJ21_afterNodeAccess.data.toList.drop 0 = dktJ21_afterNodeAccess_0 := by decide +kernel
theorem dksJ21_afterNodeAccess_1 : cJ21_afterNodeAccess.data.toList.drop 23 = dktJ21_afterNodeAccess_1 := dk_seg dksJ21_afterNodeAccess_0 23 rfl rfl
theorem dksJ21_afterNodeAccess_2 : cJ21_afterNodeAccess.data.toList.drop 47 = dktJ21_afterNodeAccess_2 := dk_seg dksJ21_afterNodeAccess_1 24 rfl rfl
theorem dksJ21_afterNodeAccess_3 : cJ21_afterNodeAccess.data.toList.drop 69 = dktJ21_afterNodeAccess_3 := dk_seg dksJ21_afterNodeAccess_2 22 rfl rfl
theorem dksJ21_afterNodeAccess_4 : cJ21_afterNodeAccess.data.toList.drop 91 = dktJ21_afterNodeAccess_4 := dk_seg dksJ21_afterNodeAccess_3 22 rfl rfl
theorem dksJ21_afterNodeAccess_5 : cJ21_afterNodeAccess.data.toList.drop 113 = dktJ21_afterNodeAccess_5 := dk_seg dksJ21_afterNodeAccess_4 22 rfl rfl
theorem dksJ21_afterNodeAccess_6 : cJ21_afterNodeAccess.data.toList.drop 135 = dktJ21_afterNodeAccess_6 := dk_seg dksJ21_afterNodeAccess_5 22 rfl rfl
theorem dksJ21_afterNodeAccess_7 : cJ21_afterNodeAccess.data.toList.drop 159 = dktJ21_afterNodeAccess_7 := dk_seg dksJ21_afterNodeAccess_6 24 rfl rfl
theorem dksJ21_afterNodeAccess_8 : cJ21_afterNodeAccess.data.toList.drop 182 = dktJ21_afterNodeAccess_8 := dk_seg dksJ21_afterNodeAccess_7 23 rfl rfl
theorem dksJ21_afterNodeAccess_9 : cJ21_afterNodeAccess.data.toList.drop 206 = dktJ21_afterNodeAccess_9 := dk_seg dksJ21_afterNodeAccess_8 24 rfl rfl
theorem dksJ21_afterNodeAccess_10 : cJ21_afterNodeAccess.data.toList.drop 229 = dktJ21_afterNodeAccess_10 := dk_seg dksJ21_afterNodeAccess_9 23 rfl rfl
theorem dksJ21_afterNodeAccess_11 : cJ21_afterNodeAccess.data.toList.drop 252 = dktJ21_afterNodeAccess_11 := dk_seg dksJ21_afterNodeAccess_10 23 rfl rfl
theorem dJ21_afterNodeAccess_0 : decode cJ21_afterNodeAccess 0 = .ok (.aload_n 0, 1) := dk_42 (dk_at dksJ21_afterNodeAccess_0 0 rfl rfl)
theorem dJ21_afterNodeAccess_1 : decode cJ21_afterNodeAccess 1 = .ok (.getfield 1, 3) := dk_180 0 1 (dk_at dksJ21_afterNodeAccess_0 1 rfl rfl)
theorem dJ21_afterNodeAccess_4 : decode cJ21_afterNodeAccess 4 = .ok (.iconst 2, 1) := dk_5 (dk_at dksJ21_afterNodeAccess_0 4 rfl rfl)
theorem dJ21_afterNodeAccess_5 : decode cJ21_afterNodeAccess 5 = .ok (.if_icmp .eq 17, 3) := dk_159 0 17 (dk_at dksJ21_afterNodeAccess_0 5 rfl rfl)
theorem dJ21_afterNodeAccess_8 : decode cJ21_afterNodeAccess 8 = .ok (.aload_n 0, 1) := dk_42 (dk_at dksJ21_afterNodeAccess_0 8 rfl rfl)
theorem dJ21_afterNodeAccess_9 : decode cJ21_afterNodeAccess 9 = .ok (.getfield 1, 3) := dk_180 0 1 (dk_at dksJ21_afterNodeAccess_0 9 rfl rfl)
theorem dJ21_afterNodeAccess_12 : decode cJ21_afterNodeAccess 12 = .ok (.ifCond .ne 129, 3) := dk_154 0 129 (dk_at dksJ21_afterNodeAccess_0 12 rfl rfl)
theorem dJ21_afterNodeAccess_15 : decode cJ21_afterNodeAccess 15 = .ok (.aload_n 0, 1) := dk_42 (dk_at dksJ21_afterNodeAccess_0 15 rfl rfl)
theorem dJ21_afterNodeAccess_16 : decode cJ21_afterNodeAccess 16 = .ok (.getfield 64, 3) := dk_180 0 64 (dk_at dksJ21_afterNodeAccess_0 16 rfl rfl)
theorem dJ21_afterNodeAccess_19 : decode cJ21_afterNodeAccess 19 = .ok (.ifCond .eq 122, 3) := dk_153 0 122 (dk_at dksJ21_afterNodeAccess_0 19 rfl rfl)
theorem dJ21_afterNodeAccess_22 : decode cJ21_afterNodeAccess 22 = .ok (.aload_n 0, 1) := dk_42 (dk_at dksJ21_afterNodeAccess_0 22 rfl rfl)
theorem dJ21_afterNodeAccess_23 : decode cJ21_afterNodeAccess 23 = .ok (.getfield 11, 3) := dk_180 0 11 (dk_at dksJ21_afterNodeAccess_1 0 rfl rfl)
theorem dJ21_afterNodeAccess_26 : decode cJ21_afterNodeAccess 26 = .ok (.dup, 1) := dk_89 (dk_at dksJ21_afterNodeAccess_1 3 rfl rfl)
theorem dJ21_afterNodeAccess_27 : decode cJ21_afterNodeAccess 27 = .ok (.astore_n 2, 1) := dk_77 (dk_at dksJ21_afterNodeAccess_1 4 rfl rfl)
theorem dJ21_afterNodeAccess_28 : decode cJ21_afterNodeAccess 28 = .ok (.aload_n 1, 1) := dk_43 (dk_at dksJ21_afterNodeAccess_1 5 rfl rfl)
theorem dJ21_afterNodeAccess_29 : decode cJ21_afterNodeAccess 29 = .ok (.if_acmp .eq 112, 3) := dk_165 0 112 (dk_at dksJ21_afterNodeAccess_1 6 rfl rfl)
theorem dJ21_afterNodeAccess_32 : decode cJ21_afterNodeAccess 32 = .ok (.aload_n 1, 1) := dk_43 (dk_at dksJ21_afterNodeAccess_1 9 rfl rfl)
theorem dJ21_afterNodeAccess_33 : decode cJ21_afterNodeAccess 33 = .ok (.checkcast 15, 3) := dk_192 0 15 (dk_at dksJ21_afterNodeAccess_1 10 rfl rfl)
theorem dJ21_afterNodeAccess_36 : decode cJ21_afterNodeAccess 36 = .ok (.astore 4, 2) := dk_58 4 (dk_at dksJ21_afterNodeAccess_1 13 rfl rfl)
theorem dJ21_afterNodeAccess_38 : decode cJ21_afterNodeAccess 38 = .ok (.aload 4, 2) := dk_25 4 (dk_at dksJ21_afterNodeAccess_1 15 rfl rfl)
theorem dJ21_afterNodeAccess_40 : decode cJ21_afterNodeAccess 40 = .ok (.getfield 19, 3) := dk_180 0 19 (dk_at dksJ21_afterNodeAccess_1 17 rfl rfl)
theorem dJ21_afterNodeAccess_43 : decode cJ21_afterNodeAccess 43 = .ok (.astore 5, 2) := dk_58 5 (dk_at dksJ21_afterNodeAccess_1 20 rfl rfl)
theorem dJ21_afterNodeAccess_45 : decode cJ21_afterNodeAccess 45 = .ok (.aload 4, 2) := dk_25 4 (dk_at dksJ21_afterNodeAccess_1 22 rfl rfl)
theorem dJ21_afterNodeAccess_47 : decode cJ21_afterNodeAccess 47 = .ok (.getfield 14, 3) := dk_180 0 14 (dk_at dksJ21_afterNodeAccess_2 0 rfl rfl)
theorem dJ21_afterNodeAccess_50 : decode cJ21_afterNodeAccess 50 = .ok (.astore 6, 2) := dk_58 6 (dk_at dksJ21_afterNodeAccess_2 3 rfl rfl)
theorem dJ21_afterNodeAccess_52 : decode cJ21_afterNodeAccess 52 = .ok (.aload 4, 2) := dk_25 4 (dk_at dksJ21_afterNodeAccess_2 5 rfl rfl)
theorem dJ21_afterNodeAccess_54 : decode cJ21_afterNodeAccess 54 = .ok (.aconst_null, 1) := dk_1 (dk_at dksJ21_afterNodeAccess_2 7 rfl rfl)
theorem dJ21_afterNodeAccess_55 : decode cJ21_afterNodeAccess 55 = .ok (.putfield 14, 3) := dk_181 0 14 (dk_at dksJ21_afterNodeAccess_2 8 rfl rfl)
theorem dJ21_afterNodeAccess_58 : decode cJ21_afterNodeAccess 58 = .ok (.aload 5, 2) := dk_25 5 (dk_at dksJ21_afterNodeAccess_2 11 rfl rfl)
theorem dJ21_afterNodeAccess_60 : decode cJ21_afterNodeAccess 60 = .ok (.ifnonnull 12, 3) := dk_199 0 12 (dk_at dksJ21_afterNodeAccess_2 13 rfl rfl)
theorem dJ21_afterNodeAccess_63 : decode cJ21_afterNodeAccess 63 = .ok (.aload_n 0, 1) := dk_42 (dk_at dksJ21_afterNodeAccess_2 16 rfl rfl)
theorem dJ21_afterNodeAccess_64 : decode cJ21_afterNodeAccess 64 = .ok (.aload 6, 2) := dk_25 6 (dk_at dksJ21_afterNodeAccess_2 17 rfl rfl)
theorem dJ21_afterNodeAccess_66 : decode cJ21_afterNodeAccess 66 = .ok (.putfield 7, 3) := dk_181 0 7 (dk_at dksJ21_afterNodeAccess_2 19 rfl rfl)
theorem dJ21_afterNodeAccess_69 : decode cJ21_afterNodeAccess 69 = .ok (.goto 10, 3) := dk_167 0 10 (dk_at dksJ21_afterNodeAccess_3 0 rfl rfl)
theorem dJ21_afterNodeAccess_72 : decode cJ21_afterNodeAccess 72 = .ok (.aload 5, 2) := dk_25 5 (dk_at dksJ21_afterNodeAccess_3 3 rfl rfl)
theorem dJ21_afterNodeAccess_74 : decode cJ21_afterNodeAccess 74 = .ok (.aload 6, 2) := dk_25 6 (dk_at dksJ21_afterNodeAccess_3 5 rfl rfl)
theorem dJ21_afterNodeAccess_76 : decode cJ21_afterNodeAccess 76 = .ok (.putfield 14, 3) := dk_181 0 14 (dk_at dksJ21_afterNodeAccess_3 7 rfl rfl)
theorem dJ21_afterNodeAccess_79 : decode cJ21_afterNodeAccess 79 = .ok (.aload 6, 2) := dk_25 6 (dk_at dksJ21_afterNodeAccess_3 10 rfl rfl)
theorem dJ21_afterNodeAccess_81 : decode cJ21_afterNodeAccess 81 = .ok (.ifnull 13, 3) := dk_198 0 13 (dk_at dksJ21_afterNodeAccess_3 12 rfl rfl)
theorem dJ21_afterNodeAccess_84 : decode cJ21_afterNodeAccess 84 = .ok (.aload 6, 2) := dk_25 6 (dk_at dksJ21_afterNodeAccess_3 15 rfl rfl)
theorem dJ21_afterNodeAccess_86 : decode cJ21_afterNodeAccess 86 = .ok (.aload 5, 2) := dk_25 5 (dk_at dksJ21_afterNodeAccess_3 17 rfl rfl)
theorem dJ21_afterNodeAccess_88 : decode cJ21_afterNodeAccess 88 = .ok (.putfield 19, 3) := dk_181 0 19 (dk_at dksJ21_afterNodeAccess_3 19 rfl rfl)
theorem dJ21_afterNodeAccess_91 : decode cJ21_afterNodeAccess 91 = .ok (.goto 6, 3) := dk_167 0 6 (dk_at dksJ21_afterNodeAccess_4 0 rfl rfl)
theorem dJ21_afterNodeAccess_94 : decode cJ21_afterNodeAccess 94 = .ok (.aload 5, 2) := dk_25 5 (dk_at dksJ21_afterNodeAccess_4 3 rfl rfl)
theorem dJ21_afterNodeAccess_96 : decode cJ21_afterNodeAccess 96 = .ok (.astore_n 2, 1) := dk_77 (dk_at dksJ21_afterNodeAccess_4 5 rfl rfl)
theorem dJ21_afterNodeAccess_97 : decode cJ21_afterNodeAccess 97 = .ok (.aload_n 2, 1) := dk_44 (dk_at dksJ21_afterNodeAccess_4 6 rfl rfl)
theorem dJ21_afterNodeAccess_98 : decode cJ21_afterNodeAccess 98 = .ok (.ifnonnull 12, 3) := dk_199 0 12 (dk_at dksJ21_afterNodeAccess_4 7 rfl rfl)
theorem dJ21_afterNodeAccess_101 : decode cJ21_afterNodeAccess 101 = .ok (.aload_n 0, 1) := dk_42 (dk_at dksJ21_afterNodeAccess_4 10 rfl rfl)
theorem dJ21_afterNodeAccess_102 : decode cJ21_afterNodeAccess 102 = .ok (.aload 4, 2) := dk_25 4 (dk_at dksJ21_afterNodeAccess_4 11 rfl rfl)
theorem dJ21_afterNodeAccess_104 : decode cJ21_afterNodeAccess 104 = .ok (.putfield 7, 3) := dk_181 0 7 (dk_at dksJ21_afterNodeAccess_4 13 rfl rfl)
theorem dJ21_afterNodeAccess_107 : decode cJ21_afterNodeAccess 107 = .ok (.goto 15, 3) := dk_167 0 15 (dk_at dksJ21_afterNodeAccess_4 16 rfl rfl)
theorem dJ21_afterNodeAccess_110 : decode cJ21_afterNodeAccess 110 = .ok (.aload 4, 2) := dk_25 4 (dk_at dksJ21_afterNodeAccess_4 19 rfl rfl)
theorem dJ21_afterNodeAccess_112 : decode cJ21_afterNodeAccess 112 = .ok (.aload_n 2, 1) := dk_44 (dk_at dksJ21_afterNodeAccess_4 21 rfl rfl)
theorem dJ21_afterNodeAccess_113 : decode cJ21_afterNodeAccess 113 = .ok (.putfield 19, 3) := dk_181 0 19 (dk_at dksJ21_afterNodeAccess_5 0 rfl rfl)
theorem dJ21_afterNodeAccess_116 : decode cJ21_afterNodeAccess 116 = .ok (.aload_n 2, 1) := dk_44 (dk_at dksJ21_afterNodeAccess_5 3 rfl rfl)
theorem dJ21_afterNodeAccess_117 : decode cJ21_afterNodeAccess 117 = .ok (.aload 4, 2) := dk_25 4 (dk_at dksJ21_afterNodeAccess_5 4 rfl rfl)
theorem dJ21_afterNodeAccess_119 : decode cJ21_afterNodeAccess 119 = .ok (.putfield 14, 3) := dk_181 0 14 (dk_at dksJ21_afterNodeAccess_5 6 rfl rfl)
theorem dJ21_afterNodeAccess_122 : decode cJ21_afterNodeAccess 122 = .ok (.aload_n 0, 1) := dk_42 (dk_at dksJ21_afterNodeAccess_5 9 rfl rfl)
theorem dJ21_afterNodeAccess_123 : decode cJ21_afterNodeAccess 123 = .ok (.aload 4, 2) := dk_25 4 (dk_at dksJ21_afterNodeAccess_5 10 rfl rfl)
theorem dJ21_afterNodeAccess_125 : decode cJ21_afterNodeAccess 125 = .ok (.putfield 11, 3) := dk_181 0 11 (dk_at dksJ21_afterNodeAccess_5 12 rfl rfl)
theorem dJ21_afterNodeAccess_128 : decode cJ21_afterNodeAccess 128 = .ok (.aload_n 0, 1) := dk_42 (dk_at dksJ21_afterNodeAccess_5 15 rfl rfl)
theorem dJ21_afterNodeAccess_129 : decode cJ21_afterNodeAccess 129 = .ok (.dup, 1) := dk_89 (dk_at dksJ21_afterNodeAccess_5 16 rfl rfl)
theorem dJ21_afterNodeAccess_130 : decode cJ21_afterNodeAccess 130 = .ok (.getfield 68, 3) := dk_180 0 68 (dk_at dksJ21_afterNodeAccess_5 17 rfl rfl)
theorem dJ21_afterNodeAccess_133 : decode cJ21_afterNodeAccess 133 = .ok (.iconst 1, 1) := dk_4 (dk_at dksJ21_afterNodeAccess_5 20 rfl rfl)
theorem dJ21_afterNodeAccess_134 : decode cJ21_afterNodeAccess 134 = .ok (.iadd, 1) := dk_96 (dk_at dksJ21_afterNodeAccess_5 21 rfl rfl)
theorem dJ21_afterNodeAccess_135 : decode cJ21_afterNodeAccess 135 = .ok (.putfield 68, 3) := dk_181 0 68 (dk_at dksJ21_afterNodeAccess_6 0 rfl rfl)
theorem dJ21_afterNodeAccess_138 : decode cJ21_afterNodeAccess 138 = .ok (.goto 127, 3) := dk_167 0 127 (dk_at dksJ21_afterNodeAccess_6 3 rfl rfl)
theorem dJ21_afterNodeAccess_141 : decode cJ21_afterNodeAccess 141 = .ok (.aload_n 0, 1) := dk_42 (dk_at dksJ21_afterNodeAccess_6 6 rfl rfl)
theorem dJ21_afterNodeAccess_142 : decode cJ21_afterNodeAccess 142 = .ok (.getfield 1, 3) := dk_180 0 1 (dk_at dksJ21_afterNodeAccess_6 7 rfl rfl)
theorem dJ21_afterNodeAccess_145 : decode cJ21_afterNodeAccess 145 = .ok (.iconst 1, 1) := dk_4 (dk_at dksJ21_afterNodeAccess_6 10 rfl rfl)
theorem dJ21_afterNodeAccess_146 : decode cJ21_afterNodeAccess 146 = .ok (.if_icmp .ne 119, 3) := dk_160 0 119 (dk_at dksJ21_afterNodeAccess_6 11 rfl rfl)
theorem dJ21_afterNodeAccess_149 : decode cJ21_afterNodeAccess 149 = .ok (.aload_n 0, 1) := dk_42 (dk_at dksJ21_afterNodeAccess_6 14 rfl rfl)
theorem dJ21_afterNodeAccess_150 : decode cJ21_afterNodeAccess 150 = .ok (.getfield 7, 3) := dk_180 0 7 (dk_at dksJ21_afterNodeAccess_6 15 rfl rfl)
theorem dJ21_afterNodeAccess_153 : decode cJ21_afterNodeAccess 153 = .ok (.dup, 1) := dk_89 (dk_at dksJ21_afterNodeAccess_6 18 rfl rfl)
theorem dJ21_afterNodeAccess_154 : decode cJ21_afterNodeAccess 154 = .ok (.astore_n 3, 1) := dk_78 (dk_at dksJ21_afterNodeAccess_6 19 rfl rfl)
theorem dJ21_afterNodeAccess_155 : decode cJ21_afterNodeAccess 155 = .ok (.aload_n 1, 1) := dk_43 (dk_at dksJ21_afterNodeAccess_6 20 rfl rfl)
theorem dJ21_afterNodeAccess_156 : decode cJ21_afterNodeAccess 156 = .ok (.if_acmp .eq 109, 3) := dk_165 0 109 (dk_at dksJ21_afterNodeAccess_6 21 rfl rfl)
theorem dJ21_afterNodeAccess_159 : decode cJ21_afterNodeAccess 159 = .ok (.aload_n 1, 1) := dk_43 (dk_at dksJ21_afterNodeAccess_7 0 rfl rfl)
theorem dJ21_afterNodeAccess_160 : decode cJ21_afterNodeAccess 160 = .ok (.checkcast 15, 3) := dk_192 0 15 (dk_at dksJ21_afterNodeAccess_7 1 rfl rfl)
theorem dJ21_afterNodeAccess_163 : decode cJ21_afterNodeAccess 163 = .ok (.astore 4, 2) := dk_58 4 (dk_at dksJ21_afterNodeAccess_7 4 rfl rfl)
theorem dJ21_afterNodeAccess_165 : decode cJ21_afterNodeAccess 165 = .ok (.aload 4, 2) := dk_25 4 (dk_at dksJ21_afterNodeAccess_7 6 rfl rfl)
theorem dJ21_afterNodeAccess_167 : decode cJ21_afterNodeAccess 167 = .ok (.getfield 19, 3) := dk_180 0 19 (dk_at dksJ21_afterNodeAccess_7 8 rfl rfl)
theorem dJ21_afterNodeAccess_170 : decode cJ21_afterNodeAccess 170 = .ok (.astore 5, 2) := dk_58 5 (dk_at dksJ21_afterNodeAccess_7 11 rfl rfl)
theorem dJ21_afterNodeAccess_172 : decode cJ21_afterNodeAccess 172 = .ok (.aload 4, 2) := dk_25 4 (dk_at dksJ21_afterNodeAccess_7 13 rfl rfl)
theorem dJ21_afterNodeAccess_174 : decode cJ21_afterNodeAccess 174 = .ok (.getfield 14, 3) := dk_180 0 14 (dk_at dksJ21_afterNodeAccess_7 15 rfl rfl)
theorem dJ21_afterNodeAccess_177 : decode cJ21_afterNodeAccess 177 = .ok (.astore 6, 2) := dk_58 6 (dk_at dksJ21_afterNodeAccess_7 18 rfl rfl)
theorem dJ21_afterNodeAccess_179 : decode cJ21_afterNodeAccess 179 = .ok (.aload 4, 2) := dk_25 4 (dk_at dksJ21_afterNodeAccess_7 20 rfl rfl)
theorem dJ21_afterNodeAccess_181 : decode cJ21_afterNodeAccess 181 = .ok (.aconst_null, 1) := dk_1 (dk_at dksJ21_afterNodeAccess_7 22 rfl rfl)
theorem dJ21_afterNodeAccess_182 : decode cJ21_afterNodeAccess 182 = .ok (.putfield 19, 3) := dk_181 0 19 (dk_at dksJ21_afterNodeAccess_8 0 rfl rfl)
theorem dJ21_afterNodeAccess_185 : decode cJ21_afterNodeAccess 185 = .ok (.aload 6, 2) := dk_25 6 (dk_at dksJ21_afterNodeAccess_8 3 rfl rfl)
theorem dJ21_afterNodeAccess_187 : decode cJ21_afterNodeAccess 187 = .ok (.ifnonnull 12, 3) := dk_199 0 12 (dk_at dksJ21_afterNodeAccess_8 5 rfl rfl)
theorem dJ21_afterNodeAccess_190 : decode cJ21_afterNodeAccess 190 = .ok (.aload_n 0, 1) := dk_42 (dk_at dksJ21_afterNodeAccess_8 8 rfl rfl)
theorem dJ21_afterNodeAccess_191 : decode cJ21_afterNodeAccess 191 = .ok (.aload 5, 2) := dk_25 5 (dk_at dksJ21_afterNodeAccess_8 9 rfl rfl)
theorem dJ21_afterNodeAccess_193 : decode cJ21_afterNodeAccess 193 = .ok (.putfield 11, 3) := dk_181 0 11 (dk_at dksJ21_afterNodeAccess_8 11 rfl rfl)
theorem dJ21_afterNodeAccess_196 : decode cJ21_afterNodeAccess 196 = .ok (.goto 10, 3) := dk_167 0 10 (dk_at dksJ21_afterNodeAccess_8 14 rfl rfl)
theorem dJ21_afterNodeAccess_199 : decode cJ21_afterNodeAccess 199 = .ok (.aload 6, 2) := dk_25 6 (dk_at dksJ21_afterNodeAccess_8 17 rfl rfl)
theorem dJ21_afterNodeAccess_201 : decode cJ21_afterNodeAccess 201 = .ok (.aload 5, 2) := dk_25 5 (dk_at dksJ21_afterNodeAccess_8 19 rfl rfl)
theorem dJ21_afterNodeAccess_203 : decode cJ21_afterNodeAccess 203 = .ok (.putfield 19, 3) := dk_181 0 19 (dk_at dksJ21_afterNodeAccess_8 21 rfl rfl)
theorem dJ21_afterNodeAccess_206 : decode cJ21_afterNodeAccess 206 = .ok (.aload 5, 2) := dk_25 5 (dk_at dksJ21_afterNodeAccess_9 0 rfl rfl)
theorem dJ21_afterNodeAccess_208 : decode cJ21_afterNodeAccess 208 = .ok (.ifnull 13, 3) := dk_198 0 13 (dk_at dksJ21_afterNodeAccess_9 2 rfl rfl)
theorem dJ21_afterNodeAccess_211 : decode cJ21_afterNodeAccess 211 = .ok (.aload 5, 2) := dk_25 5 (dk_at dksJ21_afterNodeAccess_9 5 rfl rfl)
theorem dJ21_afterNodeAccess_213 : decode cJ21_afterNodeAccess 213 = .ok (.aload 6, 2) := dk_25 6 (dk_at dksJ21_afterNodeAccess_9 7 rfl rfl)
theorem dJ21_afterNodeAccess_215 : decode cJ21_afterNodeAccess 215 = .ok (.putfield 14, 3) := dk_181 0 14 (dk_at dksJ21_afterNodeAccess_9 9 rfl rfl)
theorem dJ21_afterNodeAccess_218 : decode cJ21_afterNodeAccess 218 = .ok (.goto 6, 3) := dk_167 0 6 (dk_at dksJ21_afterNodeAccess_9 12 rfl rfl)
theorem dJ21_afterNodeAccess_221 : decode cJ21_afterNodeAccess 221 = .ok (.aload 6, 2) := dk_25 6 (dk_at dksJ21_afterNodeAccess_9 15 rfl rfl)
theorem dJ21_afterNodeAccess_223 : decode cJ21_afterNodeAccess 223 = .ok (.astore_n 3, 1) := dk_78 (dk_at dksJ21_afterNodeAccess_9 17 rfl rfl)
theorem dJ21_afterNodeAccess_224 : decode cJ21_afterNodeAccess 224 = .ok (.aload_n 3, 1) := dk_45 (dk_at dksJ21_afterNodeAccess_9 18 rfl rfl)
theorem dJ21_afterNodeAccess_225 : decode cJ21_afterNodeAccess 225 = .ok (.ifnonnull 12, 3) := dk_199 0 12 (dk_at dksJ21_afterNodeAccess_9 19 rfl rfl)
theorem dJ21_afterNodeAccess_228 : decode cJ21_afterNodeAccess 228 = .ok (.aload_n 0, 1) := dk_42 (dk_at dksJ21_afterNodeAccess_9 22 rfl rfl)
theorem dJ21_afterNodeAccess_229 : decode cJ21_afterNodeAccess 229 = .ok (.aload 4, 2) := dk_25 4 (dk_at dksJ21_afterNodeAccess_10 0 rfl rfl)
theorem dJ21_afterNodeAccess_231 : decode cJ21_afterNodeAccess 231 = .ok (.putfield 11, 3) := dk_181 0 11 (dk_at dksJ21_afterNodeAccess_10 2 rfl rfl)
theorem dJ21_afterNodeAccess_234 : decode cJ21_afterNodeAccess 234 = .ok (.goto 15, 3) := dk_167 0 15 (dk_at dksJ21_afterNodeAccess_10 5 rfl rfl)
theorem dJ21_afterNodeAccess_237 : decode cJ21_afterNodeAccess 237 = .ok (.aload 4, 2) := dk_25 4 (dk_at dksJ21_afterNodeAccess_10 8 rfl rfl)
theorem dJ21_afterNodeAccess_239 : decode cJ21_afterNodeAccess 239 = .ok (.aload_n 3, 1) := dk_45 (dk_at dksJ21_afterNodeAccess_10 10 rfl rfl)
theorem dJ21_afterNodeAccess_240 : decode cJ21_afterNodeAccess 240 = .ok (.putfield 14, 3) := dk_181 0 14 (dk_at dksJ21_afterNodeAccess_10 11 rfl rfl)
theorem dJ21_afterNodeAccess_243 : decode cJ21_afterNodeAccess 243 = .ok (.aload_n 3, 1) := dk_45 (dk_at dksJ21_afterNodeAccess_10 14 rfl rfl)
theorem dJ21_afterNodeAccess_244 : decode cJ21_afterNodeAccess 244 = .ok (.aload 4, 2) := dk_25 4 (dk_at dksJ21_afterNodeAccess_10 15 rfl rfl)
theorem dJ21_afterNodeAccess_246 : decode cJ21_afterNodeAccess 246 = .ok (.putfield 19, 3) := dk_181 0 19 (dk_at dksJ21_afterNodeAccess_10 17 rfl rfl)
theorem dJ21_afterNodeAccess_249 : decode cJ21_afterNodeAccess 249 = .ok (.aload_n 0, 1) := dk_42 (dk_at dksJ21_afterNodeAccess_10 20 rfl rfl)
theorem dJ21_afterNodeAccess_250 : decode cJ21_afterNodeAccess 250 = .ok (.aload 4, 2) := dk_25 4 (dk_at dksJ21_afterNodeAccess_10 21 rfl rfl)
theorem dJ21_afterNodeAccess_252 : decode cJ21_afterNodeAccess 252 = .ok (.putfield 7, 3) := dk_181 0 7 (dk_at dksJ21_afterNodeAccess_11 0 rfl rfl)
theorem dJ21_afterNodeAccess_255 : decode cJ21_afterNodeAccess 255 = .ok (.aload_n 0, 1) := dk_42 (dk_at dksJ21_afterNodeAccess_11 3 rfl rfl)
theorem dJ21_afterNodeAccess_256 : decode cJ21_afterNodeAccess 256 = .ok (.dup, 1) := dk_89 (dk_at dksJ21_afterNodeAccess_11 4 rfl rfl)
theorem dJ21_afterNodeAccess_257 : decode cJ21_afterNodeAccess 257 = .ok (.getfield 68, 3) := dk_180 0 68 (dk_at dksJ21_afterNodeAccess_11 5 rfl rfl)
theorem dJ21_afterNodeAccess_260 : decode cJ21_afterNodeAccess 260 = .ok (.iconst 1, 1) := dk_4 (dk_at dksJ21_afterNodeAccess_11 8 rfl rfl)
theorem dJ21_afterNodeAccess_261 : decode cJ21_afterNodeAccess 261 = .ok (.iadd, 1) := dk_96 (dk_at dksJ21_afterNodeAccess_11 9 rfl rfl)
theorem dJ21_afterNodeAccess_262 : decode cJ21_afterNodeAccess 262 = .ok (.putfield 68, 3) := dk_181 0 68 (dk_at dksJ21_afterNodeAccess_11 10 rfl rfl)
theorem dJ21_afterNodeAccess_265 : decode cJ21_afterNodeAccess 265 = .ok (.return_, 1) := dk_177 (dk_at dksJ21_afterNodeAccess_11 13 rfl rfl)
abbrev cJ21_replacementNode : ByteArray := prog_64_method_5_code
def yJ21_replacementNode : MethodName := ⟨RJ21, "replacementNode", "(Ljava/util/HashMap$Node;Ljava/util/HashMap$Node;)Ljava/util/HashMap$Node;"⟩
def dkwJ21_replacementNode_1 : List UInt8 := [183, 0, 28, 58, 4, 42, 45, 25, 4, 182, 0, 46, 25, 4, 176]
abbrev dktJ21_replacementNode_1 : List UInt8 := dkwJ21_replacementNode_1 ++ []
def dkwJ21_replacementNode_0 : List UInt8 := [43, 192, 0, 15, 78, 187, 0, 15, 89, 45, 180, 0, 36, 45, 180, 0, 39, 45, 180, 0, 43, 44]
abbrev dktJ21_replacementNode_0 : List UInt8 := dkwJ21_replacementNode_0 ++ dktJ21_replacementNode_1
theorem dksJ21_replacementNode_0 : cJ21_replacementNode.data.toList.drop 0 = dktJ21_replacementNode_0 := by decide +kernel
theorem dksJ21_replacementNode_1 : cJ21_replacementNode.data.toList.drop 22 = dktJ21_replacementNode_1 := dk_seg dksJ21_replacementNode_0 22 rfl rfl
theorem dJ21_replacementNode_0 : decode cJ21_replacementNode 0 = .ok (.aload_n 1, 1) := dk_43 (dk_at dksJ21_replacementNode_0 0 rfl rfl)
theorem dJ21_replacementNode_1 : decode cJ21_replacementNode 1 = .ok (.checkcast 15, 3) := dk_192 0 15 (dk_at dksJ21_replacementNode_0 1 rfl rfl)
theorem dJ21_replacementNode_4 : decode cJ21_replacementNode 4 = .ok (.astore_n 3, 1) := dk_78 (dk_at dksJ21_replacementNode_0 4 rfl rfl)
theorem dJ21_replacementNode_5 : decode cJ21_replacementNode 5 = .ok (.new 15, 3) := dk_187 0 15 (dk_at dksJ21_replacementNode_0 5 rfl rfl)
theorem dJ21_replacementNode_8 : decode cJ21_replacementNode 8 = .ok (.dup, 1) := dk_89 (dk_at dksJ21_replacementNode_0 8 rfl rfl)
theorem dJ21_replacementNode_9 : decode cJ21_replacementNode 9 = .ok (.aload_n 3, 1) := dk_45 (dk_at dksJ21_replacementNode_0 9 rfl rfl)
theorem dJ21_replacementNode_10 : decode cJ21_replacementNode 10 = .ok (.getfield 36, 3) := dk_180 0 36 (dk_at dksJ21_replacementNode_0 10 rfl rfl)
theorem dJ21_replacementNode_13 : decode cJ21_replacementNode 13 = .ok (.aload_n 3, 1) := dk_45 (dk_at dksJ21_replacementNode_0 13 rfl rfl)
theorem dJ21_replacementNode_14 : decode cJ21_replacementNode 14 = .ok (.getfield 39, 3) := dk_180 0 39 (dk_at dksJ21_replacementNode_0 14 rfl rfl)
theorem dJ21_replacementNode_17 : decode cJ21_replacementNode 17 = .ok (.aload_n 3, 1) := dk_45 (dk_at dksJ21_replacementNode_0 17 rfl rfl)
theorem dJ21_replacementNode_18 : decode cJ21_replacementNode 18 = .ok (.getfield 43, 3) := dk_180 0 43 (dk_at dksJ21_replacementNode_0 18 rfl rfl)
theorem dJ21_replacementNode_21 : decode cJ21_replacementNode 21 = .ok (.aload_n 2, 1) := dk_44 (dk_at dksJ21_replacementNode_0 21 rfl rfl)
theorem dJ21_replacementNode_22 : decode cJ21_replacementNode 22 = .ok (.invokespecial 28, 3) := dk_183 0 28 (dk_at dksJ21_replacementNode_1 0 rfl rfl)
theorem dJ21_replacementNode_25 : decode cJ21_replacementNode 25 = .ok (.astore 4, 2) := dk_58 4 (dk_at dksJ21_replacementNode_1 3 rfl rfl)
theorem dJ21_replacementNode_27 : decode cJ21_replacementNode 27 = .ok (.aload_n 0, 1) := dk_42 (dk_at dksJ21_replacementNode_1 5 rfl rfl)
theorem dJ21_replacementNode_28 : decode cJ21_replacementNode 28 = .ok (.aload_n 3, 1) := dk_45 (dk_at dksJ21_replacementNode_1 6 rfl rfl)
theorem dJ21_replacementNode_29 : decode cJ21_replacementNode 29 = .ok (.aload 4, 2) := dk_25 4 (dk_at dksJ21_replacementNode_1 7 rfl rfl)
theorem dJ21_replacementNode_31 : decode cJ21_replacementNode 31 = .ok (.invokevirtual 46, 3) := dk_182 0 46 (dk_at dksJ21_replacementNode_1 9 rfl rfl)
theorem dJ21_replacementNode_34 : decode cJ21_replacementNode 34 = .ok (.aload 4, 2) := dk_25 4 (dk_at dksJ21_replacementNode_1 12 rfl rfl)
theorem dJ21_replacementNode_36 : decode cJ21_replacementNode 36 = .ok (.areturn, 1) := dk_176 (dk_at dksJ21_replacementNode_1 14 rfl rfl)
abbrev cJ21_transferLinks : ByteArray := prog_64_method_2_code
def yJ21_transferLinks : MethodName := ⟨RJ21, "transferLinks", "(Ljava/util/LinkedHashMap$Entry;Ljava/util/LinkedHashMap$Entry;)V"⟩
def dkwJ21_transferLinks_2 : List UInt8 := [181, 0, 11, 167, 0, 9, 25, 4, 44, 181, 0, 19, 177]
abbrev dktJ21_transferLinks_2 : List UInt8 := dkwJ21_transferLinks_2 ++ []
def dkwJ21_transferLinks_1 : List UInt8 := [199, 0, 11, 42, 44, 181, 0, 7, 167, 0, 8, 45, 44, 181, 0, 14, 25, 4, 199, 0, 11, 42, 44]
abbrev dktJ21_transferLinks_1 : List UInt8 := dkwJ21_transferLinks_1 ++ dktJ21_transferLinks_2
def dkwJ21_transferLinks_0 : List UInt8 := [44, 43, 180, 0, 19, 90, 181, 0, 19, 78, 44, 43, 180, 0, 14, 90, 181, 0, 14, 58, 4, 45]
abbrev dktJ21_transferLinks_0 : List UInt8 := dkwJ21_transferLinks_0 ++ dktJ21_transferLinks_1
theorem dksJ21_transferLinks_0 : cJ21_transferLinks.data.toList.drop 0 = dktJ21_transferLinks_0 := by decide +kernel
theorem dksJ21_transferLinks_1 : cJ21_transferLinks.data.toList.drop 22 = dktJ21_transferLinks_1 := dk_seg dksJ21_transferLinks_0 22 rfl rfl
theorem dksJ21_transferLinks_2 : cJ21_transferLinks.data.toList.drop 45 = dktJ21_transferLinks_2 := dk_seg dksJ21_transferLinks_1 23 rfl rfl
theorem dJ21_transferLinks_0 : decode cJ21_transferLinks 0 = .ok (.aload_n 2, 1) := dk_44 (dk_at dksJ21_transferLinks_0 0 rfl rfl)
theorem dJ21_transferLinks_1 : decode cJ21_transferLinks 1 = .ok (.aload_n 1, 1) := dk_43 (dk_at dksJ21_transferLinks_0 1 rfl rfl)
theorem dJ21_transferLinks_2 : decode cJ21_transferLinks 2 = .ok (.getfield 19, 3) := dk_180 0 19 (dk_at dksJ21_transferLinks_0 2 rfl rfl)
theorem dJ21_transferLinks_5 : decode cJ21_transferLinks 5 = .ok (.dup_x1, 1) := dk_90 (dk_at dksJ21_transferLinks_0 5 rfl rfl)
theorem dJ21_transferLinks_6 : decode cJ21_transferLinks 6 = .ok (.putfield 19, 3) := dk_181 0 19 (dk_at dksJ21_transferLinks_0 6 rfl rfl)
theorem dJ21_transferLinks_9 : decode cJ21_transferLinks 9 = .ok (.astore_n 3, 1) := dk_78 (dk_at dksJ21_transferLinks_0 9 rfl rfl)
theorem dJ21_transferLinks_10 : decode cJ21_transferLinks 10 = .ok (.aload_n 2, 1) := dk_44 (dk_at dksJ21_transferLinks_0 10 rfl rfl)
theorem dJ21_transferLinks_11 : decode cJ21_transferLinks 11 = .ok (.aload_n 1, 1) := dk_43 (dk_at dksJ21_transferLinks_0 11 rfl rfl)
theorem dJ21_transferLinks_12 : decode cJ21_transferLinks 12 = .ok (.getfield 14, 3) := dk_180 0 14 (dk_at dksJ21_transferLinks_0 12 rfl rfl)
theorem dJ21_transferLinks_15 : decode cJ21_transferLinks 15 = .ok (.dup_x1, 1) := dk_90 (dk_at dksJ21_transferLinks_0 15 rfl rfl)
theorem dJ21_transferLinks_16 : decode cJ21_transferLinks 16 = .ok (.putfield 14, 3) := dk_181 0 14 (dk_at dksJ21_transferLinks_0 16 rfl rfl)
theorem dJ21_transferLinks_19 : decode cJ21_transferLinks 19 = .ok (.astore 4, 2) := dk_58 4 (dk_at dksJ21_transferLinks_0 19 rfl rfl)
theorem dJ21_transferLinks_21 : decode cJ21_transferLinks 21 = .ok (.aload_n 3, 1) := dk_45 (dk_at dksJ21_transferLinks_0 21 rfl rfl)
theorem dJ21_transferLinks_22 : decode cJ21_transferLinks 22 = .ok (.ifnonnull 11, 3) := dk_199 0 11 (dk_at dksJ21_transferLinks_1 0 rfl rfl)
theorem dJ21_transferLinks_25 : decode cJ21_transferLinks 25 = .ok (.aload_n 0, 1) := dk_42 (dk_at dksJ21_transferLinks_1 3 rfl rfl)
theorem dJ21_transferLinks_26 : decode cJ21_transferLinks 26 = .ok (.aload_n 2, 1) := dk_44 (dk_at dksJ21_transferLinks_1 4 rfl rfl)
theorem dJ21_transferLinks_27 : decode cJ21_transferLinks 27 = .ok (.putfield 7, 3) := dk_181 0 7 (dk_at dksJ21_transferLinks_1 5 rfl rfl)
theorem dJ21_transferLinks_30 : decode cJ21_transferLinks 30 = .ok (.goto 8, 3) := dk_167 0 8 (dk_at dksJ21_transferLinks_1 8 rfl rfl)
theorem dJ21_transferLinks_33 : decode cJ21_transferLinks 33 = .ok (.aload_n 3, 1) := dk_45 (dk_at dksJ21_transferLinks_1 11 rfl rfl)
theorem dJ21_transferLinks_34 : decode cJ21_transferLinks 34 = .ok (.aload_n 2, 1) := dk_44 (dk_at dksJ21_transferLinks_1 12 rfl rfl)
theorem dJ21_transferLinks_35 : decode cJ21_transferLinks 35 = .ok (.putfield 14, 3) := dk_181 0 14 (dk_at dksJ21_transferLinks_1 13 rfl rfl)
theorem dJ21_transferLinks_38 : decode cJ21_transferLinks 38 = .ok (.aload 4, 2) := dk_25 4 (dk_at dksJ21_transferLinks_1 16 rfl rfl)
theorem dJ21_transferLinks_40 : decode cJ21_transferLinks 40 = .ok (.ifnonnull 11, 3) := dk_199 0 11 (dk_at dksJ21_transferLinks_1 18 rfl rfl)
theorem dJ21_transferLinks_43 : decode cJ21_transferLinks 43 = .ok (.aload_n 0, 1) := dk_42 (dk_at dksJ21_transferLinks_1 21 rfl rfl)
theorem dJ21_transferLinks_44 : decode cJ21_transferLinks 44 = .ok (.aload_n 2, 1) := dk_44 (dk_at dksJ21_transferLinks_1 22 rfl rfl)
theorem dJ21_transferLinks_45 : decode cJ21_transferLinks 45 = .ok (.putfield 11, 3) := dk_181 0 11 (dk_at dksJ21_transferLinks_2 0 rfl rfl)
theorem dJ21_transferLinks_48 : decode cJ21_transferLinks 48 = .ok (.goto 9, 3) := dk_167 0 9 (dk_at dksJ21_transferLinks_2 3 rfl rfl)
theorem dJ21_transferLinks_51 : decode cJ21_transferLinks 51 = .ok (.aload 4, 2) := dk_25 4 (dk_at dksJ21_transferLinks_2 6 rfl rfl)
theorem dJ21_transferLinks_53 : decode cJ21_transferLinks 53 = .ok (.aload_n 2, 1) := dk_44 (dk_at dksJ21_transferLinks_2 8 rfl rfl)
theorem dJ21_transferLinks_54 : decode cJ21_transferLinks 54 = .ok (.putfield 19, 3) := dk_181 0 19 (dk_at dksJ21_transferLinks_2 9 rfl rfl)
theorem dJ21_transferLinks_57 : decode cJ21_transferLinks 57 = .ok (.return_, 1) := dk_177 (dk_at dksJ21_transferLinks_2 12 rfl rfl)
abbrev cJ21_newNode : ByteArray := prog_64_method_4_code
def yJ21_newNode : MethodName := ⟨RJ21, "newNode", "(ILjava/lang/Object;Ljava/lang/Object;Ljava/util/HashMap$Node;)Ljava/util/HashMap$Node;"⟩
def dkwJ21_newNode_0 : List UInt8 := [187, 0, 15, 89, 27, 44, 45, 25, 4, 183, 0, 28, 58, 5, 42, 25, 5, 182, 0, 32, 25, 5, 176]
abbrev dktJ21_newNode_0 : List UInt8 := dkwJ21_newNode_0 ++ []
theorem dksJ21_newNode_0 : cJ21_newNode.data.toList.drop 0 = dktJ21_newNode_0 := by decide +kernel
theorem dJ21_newNode_0 : decode cJ21_newNode 0 = .ok (.new 15, 3) := dk_187 0 15 (dk_at dksJ21_newNode_0 0 rfl rfl)
theorem dJ21_newNode_3 : decode cJ21_newNode 3 = .ok (.dup, 1) := dk_89 (dk_at dksJ21_newNode_0 3 rfl rfl)
theorem dJ21_newNode_4 : decode cJ21_newNode 4 = .ok (.iload_n 1, 1) := dk_27 (dk_at dksJ21_newNode_0 4 rfl rfl)
theorem dJ21_newNode_5 : decode cJ21_newNode 5 = .ok (.aload_n 2, 1) := dk_44 (dk_at dksJ21_newNode_0 5 rfl rfl)
theorem dJ21_newNode_6 : decode cJ21_newNode 6 = .ok (.aload_n 3, 1) := dk_45 (dk_at dksJ21_newNode_0 6 rfl rfl)
theorem dJ21_newNode_7 : decode cJ21_newNode 7 = .ok (.aload 4, 2) := dk_25 4 (dk_at dksJ21_newNode_0 7 rfl rfl)
theorem dJ21_newNode_9 : decode cJ21_newNode 9 = .ok (.invokespecial 28, 3) := dk_183 0 28 (dk_at dksJ21_newNode_0 9 rfl rfl)
theorem dJ21_newNode_12 : decode cJ21_newNode 12 = .ok (.astore 5, 2) := dk_58 5 (dk_at dksJ21_newNode_0 12 rfl rfl)
theorem dJ21_newNode_14 : decode cJ21_newNode 14 = .ok (.aload_n 0, 1) := dk_42 (dk_at dksJ21_newNode_0 14 rfl rfl)
theorem dJ21_newNode_15 : decode cJ21_newNode 15 = .ok (.aload 5, 2) := dk_25 5 (dk_at dksJ21_newNode_0 15 rfl rfl)
theorem dJ21_newNode_17 : decode cJ21_newNode 17 = .ok (.invokevirtual 32, 3) := dk_182 0 32 (dk_at dksJ21_newNode_0 17 rfl rfl)
theorem dJ21_newNode_20 : decode cJ21_newNode 20 = .ok (.aload 5, 2) := dk_25 5 (dk_at dksJ21_newNode_0 20 rfl rfl)
theorem dJ21_newNode_22 : decode cJ21_newNode 22 = .ok (.areturn, 1) := dk_176 (dk_at dksJ21_newNode_0 22 rfl rfl)
abbrev cJ21_linkNodeAtEnd : ByteArray := prog_64_method_1_code
def yJ21_linkNodeAtEnd : MethodName := ⟨RJ21, "linkNodeAtEnd", "(Ljava/util/LinkedHashMap$Entry;)V"⟩
def dkwJ21_linkNodeAtEnd_3 : List UInt8 := [181, 0, 14, 177]
abbrev dktJ21_linkNodeAtEnd_3 : List UInt8 := dkwJ21_linkNodeAtEnd_3 ++ []
def dkwJ21_linkNodeAtEnd_2 : List UInt8 := [42, 43, 181, 0, 11, 44, 199, 0, 11, 42, 43, 181, 0, 7, 167, 0, 13, 43, 44, 181, 0, 19, 44, 43]
abbrev dktJ21_linkNodeAtEnd_2 : List UInt8 := dkwJ21_linkNodeAtEnd_2 ++ dktJ21_linkNodeAtEnd_3
def dkwJ21_linkNodeAtEnd_1 : List UInt8 := [181, 0, 11, 167, 0, 13, 43, 44, 181, 0, 14, 44, 43, 181, 0, 19, 167, 0, 35, 42, 180, 0, 11, 77]
abbrev dktJ21_linkNodeAtEnd_1 : List UInt8 := dkwJ21_linkNodeAtEnd_1 ++ dktJ21_linkNodeAtEnd_2
def dkwJ21_linkNodeAtEnd_0 : List UInt8 := [42, 180, 0, 1, 4, 160, 0, 38, 42, 180, 0, 7, 77, 42, 43, 181, 0, 7, 44, 199, 0, 11, 42, 43]
abbrev dktJ21_linkNodeAtEnd_0 : List UInt8 := dkwJ21_linkNodeAtEnd_0 ++ dktJ21_linkNodeAtEnd_1
theorem dksJ21_linkNodeAtEnd_0 : cJ21_linkNodeAtEnd.data.toList.drop 0 = dktJ21_linkNodeAtEnd_0 := by decide +kernel
theorem dksJ21_linkNodeAtEnd_1 : cJ21_linkNodeAtEnd.data.toList.drop 24 = dktJ21_linkNodeAtEnd_1 := dk_seg dksJ21_linkNodeAtEnd_0 24 rfl rfl
theorem dksJ21_linkNodeAtEnd_2 : cJ21_linkNodeAtEnd.data.toList.drop 48 = dktJ21_linkNodeAtEnd_2 := dk_seg dksJ21_linkNodeAtEnd_1 24 rfl rfl
theorem dksJ21_linkNodeAtEnd_3 : cJ21_linkNodeAtEnd.data.toList.drop 72 = dktJ21_linkNodeAtEnd_3 := dk_seg dksJ21_linkNodeAtEnd_2 24 rfl rfl
theorem dJ21_linkNodeAtEnd_0 : decode cJ21_linkNodeAtEnd 0 = .ok (.aload_n 0, 1) := dk_42 (dk_at dksJ21_linkNodeAtEnd_0 0 rfl rfl)
theorem dJ21_linkNodeAtEnd_1 : decode cJ21_linkNodeAtEnd 1 = .ok (.getfield 1, 3) := dk_180 0 1 (dk_at dksJ21_linkNodeAtEnd_0 1 rfl rfl)
theorem dJ21_linkNodeAtEnd_4 : decode cJ21_linkNodeAtEnd 4 = .ok (.iconst 1, 1) := dk_4 (dk_at dksJ21_linkNodeAtEnd_0 4 rfl rfl)
theorem dJ21_linkNodeAtEnd_5 : decode cJ21_linkNodeAtEnd 5 = .ok (.if_icmp .ne 38, 3) := dk_160 0 38 (dk_at dksJ21_linkNodeAtEnd_0 5 rfl rfl)
theorem dJ21_linkNodeAtEnd_8 : decode cJ21_linkNodeAtEnd 8 = .ok (.aload_n 0, 1) := dk_42 (dk_at dksJ21_linkNodeAtEnd_0 8 rfl rfl)
theorem dJ21_linkNodeAtEnd_9 : decode cJ21_linkNodeAtEnd 9 = .ok (.getfield 7, 3) := dk_180 0 7 (dk_at dksJ21_linkNodeAtEnd_0 9 rfl rfl)
theorem dJ21_linkNodeAtEnd_12 : decode cJ21_linkNodeAtEnd 12 = .ok (.astore_n 2, 1) := dk_77 (dk_at dksJ21_linkNodeAtEnd_0 12 rfl rfl)
theorem dJ21_linkNodeAtEnd_13 : decode cJ21_linkNodeAtEnd 13 = .ok (.aload_n 0, 1) := dk_42 (dk_at dksJ21_linkNodeAtEnd_0 13 rfl rfl)
theorem dJ21_linkNodeAtEnd_14 : decode cJ21_linkNodeAtEnd 14 = .ok (.aload_n 1, 1) := dk_43 (dk_at dksJ21_linkNodeAtEnd_0 14 rfl rfl)
theorem dJ21_linkNodeAtEnd_15 : decode cJ21_linkNodeAtEnd 15 = .ok (.putfield 7, 3) := dk_181 0 7 (dk_at dksJ21_linkNodeAtEnd_0 15 rfl rfl)
theorem dJ21_linkNodeAtEnd_18 : decode cJ21_linkNodeAtEnd 18 = .ok (.aload_n 2, 1) := dk_44 (dk_at dksJ21_linkNodeAtEnd_0 18 rfl rfl)
theorem dJ21_linkNodeAtEnd_19 : decode cJ21_linkNodeAtEnd 19 = .ok (.ifnonnull 11, 3) := dk_199 0 11 (dk_at dksJ21_linkNodeAtEnd_0 19 rfl rfl)
theorem dJ21_linkNodeAtEnd_22 : decode cJ21_linkNodeAtEnd 22 = .ok (.aload_n 0, 1) := dk_42 (dk_at dksJ21_linkNodeAtEnd_0 22 rfl rfl)
theorem dJ21_linkNodeAtEnd_23 : decode cJ21_linkNodeAtEnd 23 = .ok (.aload_n 1, 1) := dk_43 (dk_at dksJ21_linkNodeAtEnd_0 23 rfl rfl)
theorem dJ21_linkNodeAtEnd_24 : decode cJ21_linkNodeAtEnd 24 = .ok (.putfield 11, 3) := dk_181 0 11 (dk_at dksJ21_linkNodeAtEnd_1 0 rfl rfl)
theorem dJ21_linkNodeAtEnd_27 : decode cJ21_linkNodeAtEnd 27 = .ok (.goto 13, 3) := dk_167 0 13 (dk_at dksJ21_linkNodeAtEnd_1 3 rfl rfl)
theorem dJ21_linkNodeAtEnd_30 : decode cJ21_linkNodeAtEnd 30 = .ok (.aload_n 1, 1) := dk_43 (dk_at dksJ21_linkNodeAtEnd_1 6 rfl rfl)
theorem dJ21_linkNodeAtEnd_31 : decode cJ21_linkNodeAtEnd 31 = .ok (.aload_n 2, 1) := dk_44 (dk_at dksJ21_linkNodeAtEnd_1 7 rfl rfl)
theorem dJ21_linkNodeAtEnd_32 : decode cJ21_linkNodeAtEnd 32 = .ok (.putfield 14, 3) := dk_181 0 14 (dk_at dksJ21_linkNodeAtEnd_1 8 rfl rfl)
theorem dJ21_linkNodeAtEnd_35 : decode cJ21_linkNodeAtEnd 35 = .ok (.aload_n 2, 1) := dk_44 (dk_at dksJ21_linkNodeAtEnd_1 11 rfl rfl)
theorem dJ21_linkNodeAtEnd_36 : decode cJ21_linkNodeAtEnd 36 = .ok (.aload_n 1, 1) := dk_43 (dk_at dksJ21_linkNodeAtEnd_1 12 rfl rfl)
theorem dJ21_linkNodeAtEnd_37 : decode cJ21_linkNodeAtEnd 37 = .ok (.putfield 19, 3) := dk_181 0 19 (dk_at dksJ21_linkNodeAtEnd_1 13 rfl rfl)
theorem dJ21_linkNodeAtEnd_40 : decode cJ21_linkNodeAtEnd 40 = .ok (.goto 35, 3) := dk_167 0 35 (dk_at dksJ21_linkNodeAtEnd_1 16 rfl rfl)
theorem dJ21_linkNodeAtEnd_43 : decode cJ21_linkNodeAtEnd 43 = .ok (.aload_n 0, 1) := dk_42 (dk_at dksJ21_linkNodeAtEnd_1 19 rfl rfl)
theorem dJ21_linkNodeAtEnd_44 : decode cJ21_linkNodeAtEnd 44 = .ok (.getfield 11, 3) := dk_180 0 11 (dk_at dksJ21_linkNodeAtEnd_1 20 rfl rfl)
theorem dJ21_linkNodeAtEnd_47 : decode cJ21_linkNodeAtEnd 47 = .ok (.astore_n 2, 1) := dk_77 (dk_at dksJ21_linkNodeAtEnd_1 23 rfl rfl)
theorem dJ21_linkNodeAtEnd_48 : decode cJ21_linkNodeAtEnd 48 = .ok (.aload_n 0, 1) := dk_42 (dk_at dksJ21_linkNodeAtEnd_2 0 rfl rfl)
theorem dJ21_linkNodeAtEnd_49 : decode cJ21_linkNodeAtEnd 49 = .ok (.aload_n 1, 1) := dk_43 (dk_at dksJ21_linkNodeAtEnd_2 1 rfl rfl)
theorem dJ21_linkNodeAtEnd_50 : decode cJ21_linkNodeAtEnd 50 = .ok (.putfield 11, 3) := dk_181 0 11 (dk_at dksJ21_linkNodeAtEnd_2 2 rfl rfl)
theorem dJ21_linkNodeAtEnd_53 : decode cJ21_linkNodeAtEnd 53 = .ok (.aload_n 2, 1) := dk_44 (dk_at dksJ21_linkNodeAtEnd_2 5 rfl rfl)
theorem dJ21_linkNodeAtEnd_54 : decode cJ21_linkNodeAtEnd 54 = .ok (.ifnonnull 11, 3) := dk_199 0 11 (dk_at dksJ21_linkNodeAtEnd_2 6 rfl rfl)
theorem dJ21_linkNodeAtEnd_57 : decode cJ21_linkNodeAtEnd 57 = .ok (.aload_n 0, 1) := dk_42 (dk_at dksJ21_linkNodeAtEnd_2 9 rfl rfl)
theorem dJ21_linkNodeAtEnd_58 : decode cJ21_linkNodeAtEnd 58 = .ok (.aload_n 1, 1) := dk_43 (dk_at dksJ21_linkNodeAtEnd_2 10 rfl rfl)
theorem dJ21_linkNodeAtEnd_59 : decode cJ21_linkNodeAtEnd 59 = .ok (.putfield 7, 3) := dk_181 0 7 (dk_at dksJ21_linkNodeAtEnd_2 11 rfl rfl)
theorem dJ21_linkNodeAtEnd_62 : decode cJ21_linkNodeAtEnd 62 = .ok (.goto 13, 3) := dk_167 0 13 (dk_at dksJ21_linkNodeAtEnd_2 14 rfl rfl)
theorem dJ21_linkNodeAtEnd_65 : decode cJ21_linkNodeAtEnd 65 = .ok (.aload_n 1, 1) := dk_43 (dk_at dksJ21_linkNodeAtEnd_2 17 rfl rfl)
theorem dJ21_linkNodeAtEnd_66 : decode cJ21_linkNodeAtEnd 66 = .ok (.aload_n 2, 1) := dk_44 (dk_at dksJ21_linkNodeAtEnd_2 18 rfl rfl)
theorem dJ21_linkNodeAtEnd_67 : decode cJ21_linkNodeAtEnd 67 = .ok (.putfield 19, 3) := dk_181 0 19 (dk_at dksJ21_linkNodeAtEnd_2 19 rfl rfl)
theorem dJ21_linkNodeAtEnd_70 : decode cJ21_linkNodeAtEnd 70 = .ok (.aload_n 2, 1) := dk_44 (dk_at dksJ21_linkNodeAtEnd_2 22 rfl rfl)
theorem dJ21_linkNodeAtEnd_71 : decode cJ21_linkNodeAtEnd 71 = .ok (.aload_n 1, 1) := dk_43 (dk_at dksJ21_linkNodeAtEnd_2 23 rfl rfl)
theorem dJ21_linkNodeAtEnd_72 : decode cJ21_linkNodeAtEnd 72 = .ok (.putfield 14, 3) := dk_181 0 14 (dk_at dksJ21_linkNodeAtEnd_3 0 rfl rfl)
theorem dJ21_linkNodeAtEnd_75 : decode cJ21_linkNodeAtEnd 75 = .ok (.return_, 1) := dk_177 (dk_at dksJ21_linkNodeAtEnd_3 3 rfl rfl)
abbrev cJ21_newTreeNode : ByteArray := prog_64_method_6_code
def yJ21_newTreeNode : MethodName := ⟨RJ21, "newTreeNode", "(ILjava/lang/Object;Ljava/lang/Object;Ljava/util/HashMap$Node;)Ljava/util/HashMap$TreeNode;"⟩
def dkwJ21_newTreeNode_0 : List UInt8 := [187, 0, 50, 89, 27, 44, 45, 25, 4, 183, 0, 52, 58, 5, 42, 25, 5, 182, 0, 32, 25, 5, 176]
abbrev dktJ21_newTreeNode_0 : List UInt8 := dkwJ21_newTreeNode_0 ++ []
theorem dksJ21_newTreeNode_0 : cJ21_newTreeNode.data.toList.drop 0 = dktJ21_newTreeNode_0 := by decide +kernel
theorem dJ21_newTreeNode_0 : decode cJ21_newTreeNode 0 = .ok (.new 50, 3) := dk_187 0 50 (dk_at dksJ21_newTreeNode_0 0 rfl rfl)
theorem dJ21_newTreeNode_3 : decode cJ21_newTreeNode 3 = .ok (.dup, 1) := dk_89 (dk_at dksJ21_newTreeNode_0 3 rfl rfl)
theorem dJ21_newTreeNode_4 : decode cJ21_newTreeNode 4 = .ok (.iload_n 1, 1) := dk_27 (dk_at dksJ21_newTreeNode_0 4 rfl rfl)
theorem dJ21_newTreeNode_5 : decode cJ21_newTreeNode 5 = .ok (.aload_n 2, 1) := dk_44 (dk_at dksJ21_newTreeNode_0 5 rfl rfl)
theorem dJ21_newTreeNode_6 : decode cJ21_newTreeNode 6 = .ok (.aload_n 3, 1) := dk_45 (dk_at dksJ21_newTreeNode_0 6 rfl rfl)
theorem dJ21_newTreeNode_7 : decode cJ21_newTreeNode 7 = .ok (.aload 4, 2) := dk_25 4 (dk_at dksJ21_newTreeNode_0 7 rfl rfl)
theorem dJ21_newTreeNode_9 : decode cJ21_newTreeNode 9 = .ok (.invokespecial 52, 3) := dk_183 0 52 (dk_at dksJ21_newTreeNode_0 9 rfl rfl)
theorem dJ21_newTreeNode_12 : decode cJ21_newTreeNode 12 = .ok (.astore 5, 2) := dk_58 5 (dk_at dksJ21_newTreeNode_0 12 rfl rfl)
theorem dJ21_newTreeNode_14 : decode cJ21_newTreeNode 14 = .ok (.aload_n 0, 1) := dk_42 (dk_at dksJ21_newTreeNode_0 14 rfl rfl)
theorem dJ21_newTreeNode_15 : decode cJ21_newTreeNode 15 = .ok (.aload 5, 2) := dk_25 5 (dk_at dksJ21_newTreeNode_0 15 rfl rfl)
theorem dJ21_newTreeNode_17 : decode cJ21_newTreeNode 17 = .ok (.invokevirtual 32, 3) := dk_182 0 32 (dk_at dksJ21_newTreeNode_0 17 rfl rfl)
theorem dJ21_newTreeNode_20 : decode cJ21_newTreeNode 20 = .ok (.aload 5, 2) := dk_25 5 (dk_at dksJ21_newTreeNode_0 20 rfl rfl)
theorem dJ21_newTreeNode_22 : decode cJ21_newTreeNode 22 = .ok (.areturn, 1) := dk_176 (dk_at dksJ21_newTreeNode_0 22 rfl rfl)
abbrev cJ21_replacementTreeNode : ByteArray := prog_64_method_7_code
def yJ21_replacementTreeNode : MethodName := ⟨RJ21, "replacementTreeNode", "(Ljava/util/HashMap$Node;Ljava/util/HashMap$Node;)Ljava/util/HashMap$TreeNode;"⟩
def dkwJ21_replacementTreeNode_1 : List UInt8 := [183, 0, 52, 58, 4, 42, 45, 25, 4, 182, 0, 46, 25, 4, 176]
abbrev dktJ21_replacementTreeNode_1 : List UInt8 := dkwJ21_replacementTreeNode_1 ++ []
def dkwJ21_replacementTreeNode_0 : List UInt8 := [43, 192, 0, 15, 78, 187, 0, 50, 89, 45, 180, 0, 36, 45, 180, 0, 39, 45, 180, 0, 43, 44]
abbrev dktJ21_replacementTreeNode_0 : List UInt8 := dkwJ21_replacementTreeNode_0 ++ dktJ21_replacementTreeNode_1
theorem dksJ21_replacementTreeNode_0 : cJ21_replacementTreeNode.data.toList.drop 0 = dktJ21_replacementTreeNode_0 := by decide +kernel
theorem dksJ21_replacementTreeNode_1 : cJ21_replacementTreeNode.data.toList.drop 22 = dktJ21_replacementTreeNode_1 := dk_seg dksJ21_replacementTreeNode_0 22 rfl rfl
theorem dJ21_replacementTreeNode_0 : decode cJ21_replacementTreeNode 0 = .ok (.aload_n 1, 1) := dk_43 (dk_at dksJ21_replacementTreeNode_0 0 rfl rfl)
theorem dJ21_replacementTreeNode_1 : decode cJ21_replacementTreeNode 1 = .ok (.checkcast 15, 3) := dk_192 0 15 (dk_at dksJ21_replacementTreeNode_0 1 rfl rfl)
theorem dJ21_replacementTreeNode_4 : decode cJ21_replacementTreeNode 4 = .ok (.astore_n 3, 1) := dk_78 (dk_at dksJ21_replacementTreeNode_0 4 rfl rfl)
theorem dJ21_replacementTreeNode_5 : decode cJ21_replacementTreeNode 5 = .ok (.new 50, 3) := dk_187 0 50 (dk_at dksJ21_replacementTreeNode_0 5 rfl rfl)
theorem dJ21_replacementTreeNode_8 : decode cJ21_replacementTreeNode 8 = .ok (.dup, 1) := dk_89 (dk_at dksJ21_replacementTreeNode_0 8 rfl rfl)
theorem dJ21_replacementTreeNode_9 : decode cJ21_replacementTreeNode 9 = .ok (.aload_n 3, 1) := dk_45 (dk_at dksJ21_replacementTreeNode_0 9 rfl rfl)
theorem dJ21_replacementTreeNode_10 : decode cJ21_replacementTreeNode 10 = .ok (.getfield 36, 3) := dk_180 0 36 (dk_at dksJ21_replacementTreeNode_0 10 rfl rfl)
theorem dJ21_replacementTreeNode_13 : decode cJ21_replacementTreeNode 13 = .ok (.aload_n 3, 1) := dk_45 (dk_at dksJ21_replacementTreeNode_0 13 rfl rfl)
theorem dJ21_replacementTreeNode_14 : decode cJ21_replacementTreeNode 14 = .ok (.getfield 39, 3) := dk_180 0 39 (dk_at dksJ21_replacementTreeNode_0 14 rfl rfl)
theorem dJ21_replacementTreeNode_17 : decode cJ21_replacementTreeNode 17 = .ok (.aload_n 3, 1) := dk_45 (dk_at dksJ21_replacementTreeNode_0 17 rfl rfl)
theorem dJ21_replacementTreeNode_18 : decode cJ21_replacementTreeNode 18 = .ok (.getfield 43, 3) := dk_180 0 43 (dk_at dksJ21_replacementTreeNode_0 18 rfl rfl)
theorem dJ21_replacementTreeNode_21 : decode cJ21_replacementTreeNode 21 = .ok (.aload_n 2, 1) := dk_44 (dk_at dksJ21_replacementTreeNode_0 21 rfl rfl)
theorem dJ21_replacementTreeNode_22 : decode cJ21_replacementTreeNode 22 = .ok (.invokespecial 52, 3) := dk_183 0 52 (dk_at dksJ21_replacementTreeNode_1 0 rfl rfl)
theorem dJ21_replacementTreeNode_25 : decode cJ21_replacementTreeNode 25 = .ok (.astore 4, 2) := dk_58 4 (dk_at dksJ21_replacementTreeNode_1 3 rfl rfl)
theorem dJ21_replacementTreeNode_27 : decode cJ21_replacementTreeNode 27 = .ok (.aload_n 0, 1) := dk_42 (dk_at dksJ21_replacementTreeNode_1 5 rfl rfl)
theorem dJ21_replacementTreeNode_28 : decode cJ21_replacementTreeNode 28 = .ok (.aload_n 3, 1) := dk_45 (dk_at dksJ21_replacementTreeNode_1 6 rfl rfl)
theorem dJ21_replacementTreeNode_29 : decode cJ21_replacementTreeNode 29 = .ok (.aload 4, 2) := dk_25 4 (dk_at dksJ21_replacementTreeNode_1 7 rfl rfl)
theorem dJ21_replacementTreeNode_31 : decode cJ21_replacementTreeNode 31 = .ok (.invokevirtual 46, 3) := dk_182 0 46 (dk_at dksJ21_replacementTreeNode_1 9 rfl rfl)
theorem dJ21_replacementTreeNode_34 : decode cJ21_replacementTreeNode 34 = .ok (.aload 4, 2) := dk_25 4 (dk_at dksJ21_replacementTreeNode_1 12 rfl rfl)
theorem dJ21_replacementTreeNode_36 : decode cJ21_replacementTreeNode 36 = .ok (.areturn, 1) := dk_176 (dk_at dksJ21_replacementTreeNode_1 14 rfl rfl)
abbrev cJ21_afterNodeInsertion : ByteArray := prog_64_method_9_code
def yJ21_afterNodeInsertion : MethodName := ⟨RJ21, "afterNodeInsertion", "(Z)V"⟩
def dkwJ21_afterNodeInsertion_1 : List UInt8 := [180, 0, 39, 78, 42, 45, 184, 0, 57, 45, 1, 3, 4, 182, 0, 60, 87, 177]
abbrev dktJ21_afterNodeInsertion_1 : List UInt8 := dkwJ21_afterNodeInsertion_1 ++ []
def dkwJ21_afterNodeInsertion_0 : List UInt8 := [27, 153, 0, 38, 42, 180, 0, 7, 89, 77, 198, 0, 29, 42, 44, 182, 0, 53, 153, 0, 21, 44]
abbrev dktJ21_afterNodeInsertion_0 : List UInt8 := dkwJ21_afterNodeInsertion_0 ++ dktJ21_afterNodeInsertion_1
theorem dksJ21_afterNodeInsertion_0 : cJ21_afterNodeInsertion.data.toList.drop 0 = dktJ21_afterNodeInsertion_0 := by decide +kernel
theorem dksJ21_afterNodeInsertion_1 : cJ21_afterNodeInsertion.data.toList.drop 22 = dktJ21_afterNodeInsertion_1 := dk_seg dksJ21_afterNodeInsertion_0 22 rfl rfl
theorem dJ21_afterNodeInsertion_0 : decode cJ21_afterNodeInsertion 0 = .ok (.iload_n 1, 1) := dk_27 (dk_at dksJ21_afterNodeInsertion_0 0 rfl rfl)
theorem dJ21_afterNodeInsertion_1 : decode cJ21_afterNodeInsertion 1 = .ok (.ifCond .eq 38, 3) := dk_153 0 38 (dk_at dksJ21_afterNodeInsertion_0 1 rfl rfl)
theorem dJ21_afterNodeInsertion_4 : decode cJ21_afterNodeInsertion 4 = .ok (.aload_n 0, 1) := dk_42 (dk_at dksJ21_afterNodeInsertion_0 4 rfl rfl)
theorem dJ21_afterNodeInsertion_5 : decode cJ21_afterNodeInsertion 5 = .ok (.getfield 7, 3) := dk_180 0 7 (dk_at dksJ21_afterNodeInsertion_0 5 rfl rfl)
theorem dJ21_afterNodeInsertion_8 : decode cJ21_afterNodeInsertion 8 = .ok (.dup, 1) := dk_89 (dk_at dksJ21_afterNodeInsertion_0 8 rfl rfl)
theorem dJ21_afterNodeInsertion_9 : decode cJ21_afterNodeInsertion 9 = .ok (.astore_n 2, 1) := dk_77 (dk_at dksJ21_afterNodeInsertion_0 9 rfl rfl)
theorem dJ21_afterNodeInsertion_10 : decode cJ21_afterNodeInsertion 10 = .ok (.ifnull 29, 3) := dk_198 0 29 (dk_at dksJ21_afterNodeInsertion_0 10 rfl rfl)
theorem dJ21_afterNodeInsertion_13 : decode cJ21_afterNodeInsertion 13 = .ok (.aload_n 0, 1) := dk_42 (dk_at dksJ21_afterNodeInsertion_0 13 rfl rfl)
theorem dJ21_afterNodeInsertion_14 : decode cJ21_afterNodeInsertion 14 = .ok (.aload_n 2, 1) := dk_44 (dk_at dksJ21_afterNodeInsertion_0 14 rfl rfl)
theorem dJ21_afterNodeInsertion_15 : decode cJ21_afterNodeInsertion 15 = .ok (.invokevirtual 53, 3) := dk_182 0 53 (dk_at dksJ21_afterNodeInsertion_0 15 rfl rfl)
theorem dJ21_afterNodeInsertion_18 : decode cJ21_afterNodeInsertion 18 = .ok (.ifCond .eq 21, 3) := dk_153 0 21 (dk_at dksJ21_afterNodeInsertion_0 18 rfl rfl)
theorem dJ21_afterNodeInsertion_21 : decode cJ21_afterNodeInsertion 21 = .ok (.aload_n 2, 1) := dk_44 (dk_at dksJ21_afterNodeInsertion_0 21 rfl rfl)
theorem dJ21_afterNodeInsertion_22 : decode cJ21_afterNodeInsertion 22 = .ok (.getfield 39, 3) := dk_180 0 39 (dk_at dksJ21_afterNodeInsertion_1 0 rfl rfl)
theorem dJ21_afterNodeInsertion_25 : decode cJ21_afterNodeInsertion 25 = .ok (.astore_n 3, 1) := dk_78 (dk_at dksJ21_afterNodeInsertion_1 3 rfl rfl)
theorem dJ21_afterNodeInsertion_26 : decode cJ21_afterNodeInsertion 26 = .ok (.aload_n 0, 1) := dk_42 (dk_at dksJ21_afterNodeInsertion_1 4 rfl rfl)
theorem dJ21_afterNodeInsertion_27 : decode cJ21_afterNodeInsertion 27 = .ok (.aload_n 3, 1) := dk_45 (dk_at dksJ21_afterNodeInsertion_1 5 rfl rfl)
theorem dJ21_afterNodeInsertion_28 : decode cJ21_afterNodeInsertion 28 = .ok (.invokestatic 57, 3) := dk_184 0 57 (dk_at dksJ21_afterNodeInsertion_1 6 rfl rfl)
theorem dJ21_afterNodeInsertion_31 : decode cJ21_afterNodeInsertion 31 = .ok (.aload_n 3, 1) := dk_45 (dk_at dksJ21_afterNodeInsertion_1 9 rfl rfl)
theorem dJ21_afterNodeInsertion_32 : decode cJ21_afterNodeInsertion 32 = .ok (.aconst_null, 1) := dk_1 (dk_at dksJ21_afterNodeInsertion_1 10 rfl rfl)
theorem dJ21_afterNodeInsertion_33 : decode cJ21_afterNodeInsertion 33 = .ok (.iconst 0, 1) := dk_3 (dk_at dksJ21_afterNodeInsertion_1 11 rfl rfl)
theorem dJ21_afterNodeInsertion_34 : decode cJ21_afterNodeInsertion 34 = .ok (.iconst 1, 1) := dk_4 (dk_at dksJ21_afterNodeInsertion_1 12 rfl rfl)
theorem dJ21_afterNodeInsertion_35 : decode cJ21_afterNodeInsertion 35 = .ok (.invokevirtual 60, 3) := dk_182 0 60 (dk_at dksJ21_afterNodeInsertion_1 13 rfl rfl)
theorem dJ21_afterNodeInsertion_38 : decode cJ21_afterNodeInsertion 38 = .ok (.pop, 1) := dk_87 (dk_at dksJ21_afterNodeInsertion_1 16 rfl rfl)
theorem dJ21_afterNodeInsertion_39 : decode cJ21_afterNodeInsertion 39 = .ok (.return_, 1) := dk_177 (dk_at dksJ21_afterNodeInsertion_1 17 rfl rfl)
abbrev cJ21_removeEldestEntry : ByteArray := prog_64_method_23_code
def yJ21_removeEldestEntry : MethodName := ⟨RJ21, "removeEldestEntry", "(Ljava/util/Map$Entry;)Z"⟩
theorem dJ21_removeEldestEntry_0 : decode cJ21_removeEldestEntry 0 = .ok (.iconst 0, 1) := by decide +kernel
theorem dJ21_removeEldestEntry_1 : decode cJ21_removeEldestEntry 1 = .ok (.ireturn, 1) := by decide +kernel
abbrev cJ21_entrySet : ByteArray := prog_64_method_32_code
def yJ21_entrySet : MethodName := ⟨RJ21, "entrySet", "()Ljava/util/Set;"⟩
theorem dJ21_entrySet_0 : decode cJ21_entrySet 0 = .ok (.aload_n 0, 1) := by decide +kernel
theorem dJ21_entrySet_1 : decode cJ21_entrySet 1 = .ok (.invokevirtual 148, 3) := by decide +kernel
theorem dJ21_entrySet_4 : decode cJ21_entrySet 4 = .ok (.areturn, 1) := by decide +kernel
abbrev cJ21_sequencedEntrySet : ByteArray := prog_64_method_33_code
def yJ21_sequencedEntrySet : MethodName := ⟨RJ21, "sequencedEntrySet", "()Ljava/util/SequencedSet;"⟩
def dkwJ21_sequencedEntrySet_1 : List UInt8 := [44, 176, 43, 192, 0, 126, 176]
abbrev dktJ21_sequencedEntrySet_1 : List UInt8 := dkwJ21_sequencedEntrySet_1 ++ []
def dkwJ21_sequencedEntrySet_0 : List UInt8 := [42, 180, 0, 151, 76, 43, 199, 0, 20, 187, 0, 154, 89, 42, 3, 183, 0, 156, 77, 42, 44, 181, 0, 151]
abbrev dktJ21_sequencedEntrySet_0 : List UInt8 := dkwJ21_sequencedEntrySet_0 ++ dktJ21_sequencedEntrySet_1
theorem dksJ21_sequencedEntrySet_0 : cJ21_sequencedEntrySet.data.toList.drop 0 = dktJ21_sequencedEntrySet_0 := by decide +kernel
theorem dksJ21_sequencedEntrySet_1 : cJ21_sequencedEntrySet.data.toList.drop 24 = dktJ21_sequencedEntrySet_1 := dk_seg dksJ21_sequencedEntrySet_0 24 rfl rfl
theorem dJ21_sequencedEntrySet_0 : decode cJ21_sequencedEntrySet 0 = .ok (.aload_n 0, 1) := dk_42 (dk_at dksJ21_sequencedEntrySet_0 0 rfl rfl)
theorem dJ21_sequencedEntrySet_1 : decode cJ21_sequencedEntrySet 1 = .ok (.getfield 151, 3) := dk_180 0 151 (dk_at dksJ21_sequencedEntrySet_0 1 rfl rfl)
theorem dJ21_sequencedEntrySet_4 : decode cJ21_sequencedEntrySet 4 = .ok (.astore_n 1, 1) := dk_76 (dk_at dksJ21_sequencedEntrySet_0 4 rfl rfl)
theorem dJ21_sequencedEntrySet_5 : decode cJ21_sequencedEntrySet 5 = .ok (.aload_n 1, 1) := dk_43 (dk_at dksJ21_sequencedEntrySet_0 5 rfl rfl)
theorem dJ21_sequencedEntrySet_6 : decode cJ21_sequencedEntrySet 6 = .ok (.ifnonnull 20, 3) := dk_199 0 20 (dk_at dksJ21_sequencedEntrySet_0 6 rfl rfl)
theorem dJ21_sequencedEntrySet_9 : decode cJ21_sequencedEntrySet 9 = .ok (.new 154, 3) := dk_187 0 154 (dk_at dksJ21_sequencedEntrySet_0 9 rfl rfl)
theorem dJ21_sequencedEntrySet_12 : decode cJ21_sequencedEntrySet 12 = .ok (.dup, 1) := dk_89 (dk_at dksJ21_sequencedEntrySet_0 12 rfl rfl)
theorem dJ21_sequencedEntrySet_13 : decode cJ21_sequencedEntrySet 13 = .ok (.aload_n 0, 1) := dk_42 (dk_at dksJ21_sequencedEntrySet_0 13 rfl rfl)
theorem dJ21_sequencedEntrySet_14 : decode cJ21_sequencedEntrySet 14 = .ok (.iconst 0, 1) := dk_3 (dk_at dksJ21_sequencedEntrySet_0 14 rfl rfl)
theorem dJ21_sequencedEntrySet_15 : decode cJ21_sequencedEntrySet 15 = .ok (.invokespecial 156, 3) := dk_183 0 156 (dk_at dksJ21_sequencedEntrySet_0 15 rfl rfl)
theorem dJ21_sequencedEntrySet_18 : decode cJ21_sequencedEntrySet 18 = .ok (.astore_n 2, 1) := dk_77 (dk_at dksJ21_sequencedEntrySet_0 18 rfl rfl)
theorem dJ21_sequencedEntrySet_19 : decode cJ21_sequencedEntrySet 19 = .ok (.aload_n 0, 1) := dk_42 (dk_at dksJ21_sequencedEntrySet_0 19 rfl rfl)
theorem dJ21_sequencedEntrySet_20 : decode cJ21_sequencedEntrySet 20 = .ok (.aload_n 2, 1) := dk_44 (dk_at dksJ21_sequencedEntrySet_0 20 rfl rfl)
theorem dJ21_sequencedEntrySet_21 : decode cJ21_sequencedEntrySet 21 = .ok (.putfield 151, 3) := dk_181 0 151 (dk_at dksJ21_sequencedEntrySet_0 21 rfl rfl)
theorem dJ21_sequencedEntrySet_24 : decode cJ21_sequencedEntrySet 24 = .ok (.aload_n 2, 1) := dk_44 (dk_at dksJ21_sequencedEntrySet_1 0 rfl rfl)
theorem dJ21_sequencedEntrySet_25 : decode cJ21_sequencedEntrySet 25 = .ok (.areturn, 1) := dk_176 (dk_at dksJ21_sequencedEntrySet_1 1 rfl rfl)
theorem dJ21_sequencedEntrySet_26 : decode cJ21_sequencedEntrySet 26 = .ok (.aload_n 1, 1) := dk_43 (dk_at dksJ21_sequencedEntrySet_1 2 rfl rfl)
theorem dJ21_sequencedEntrySet_27 : decode cJ21_sequencedEntrySet 27 = .ok (.checkcast 126, 3) := dk_192 0 126 (dk_at dksJ21_sequencedEntrySet_1 3 rfl rfl)
theorem dJ21_sequencedEntrySet_30 : decode cJ21_sequencedEntrySet 30 = .ok (.areturn, 1) := dk_176 (dk_at dksJ21_sequencedEntrySet_1 6 rfl rfl)
theorem q137 : (Jvm.Cond.initialized "java/util/LinkedHashMap") ∈ lw_all := lw_g (lw_at lw_m1 39 rfl) rfl
theorem q829 : (Jvm.Cond.selects "java/util/LinkedHashMap" ({ cls := "java/lang/Object", name := "getClass", desc := "()Ljava/lang/Class;" } : Jvm.MethodName) ({ cls := "java/lang/Object", name := "getClass", desc := "()Ljava/lang/Class;" } : Jvm.MethodName)) ∈ lw_all := lw_g (lw_at lw_m4 11 rfl) rfl
theorem q1752 : (Jvm.Cond.instantiable "java/util/LinkedHashMap" (12 : Nat)) ∈ lw_all := lw_g (lw_at lw_m7 214 rfl) rfl
theorem q1754 : (Jvm.Cond.instanceMethod ({ cls := "java/util/LinkedHashMap", name := "<init>", desc := "()V" } : Jvm.MethodName)) ∈ lw_all := lw_g (lw_at lw_m7 216 rfl) rfl
theorem q1755 : (Jvm.Cond.code ({ cls := "java/util/LinkedHashMap", name := "<init>", desc := "()V" } : Jvm.MethodName) prog_64_method_16_code (1 : Nat) (Option.none : Option Jvm.ClassFile.FieldType)) ∈ lw_all := lw_g (lw_at lw_m7 217 rfl) rfl
theorem q1756 : (Jvm.Cond.methodLink "java/util/LinkedHashMap" (87 : Nat) ({ cls := "java/util/HashMap", name := "<init>", desc := "()V" } : Jvm.MethodName)) ∈ lw_all := lw_g (lw_at lw_m7 218 rfl) rfl
theorem q1764 : (Jvm.Cond.fieldLink "java/util/LinkedHashMap" (7 : Nat) "java/util/LinkedHashMap" "head" "Ljava/util/LinkedHashMap$Entry;") ∈ lw_all := lw_g (lw_at lw_m7 226 rfl) rfl
theorem q1767 : (Jvm.Cond.fieldLink "java/util/LinkedHashMap" (11 : Nat) "java/util/LinkedHashMap" "tail" "Ljava/util/LinkedHashMap$Entry;") ∈ lw_all := lw_g (lw_at lw_m7 229 rfl) rfl
theorem q1768 : (Jvm.Cond.fieldLink "java/util/LinkedHashMap" (64 : Nat) "java/util/LinkedHashMap" "accessOrder" "Z") ∈ lw_all := lw_g (lw_at lw_m7 230 rfl) rfl
theorem q1769 : (Jvm.Cond.fieldLink "java/util/LinkedHashMap" (1 : Nat) "java/util/LinkedHashMap" "putMode" "I") ∈ lw_all := lw_g (lw_at lw_m7 231 rfl) rfl
theorem q1771 : (Jvm.Cond.fieldLink "java/util/LinkedHashMap" (151 : Nat) "java/util/LinkedHashMap" "entrySet" "Ljava/util/Set;") ∈ lw_all := lw_g (lw_at lw_m7 233 rfl) rfl
theorem q1772 : (Jvm.Cond.sameField "java/util/LinkedHashMap" "java/util/HashMap" "entrySet" "Ljava/util/Set;") ∈ lw_all := lw_g (lw_at lw_m7 234 rfl) rfl
theorem q1775 : (Jvm.Cond.sameField "java/util/LinkedHashMap" "java/util/HashMap" "modCount" "I") ∈ lw_all := lw_g (lw_at lw_m7 237 rfl) rfl
theorem q1776 : (Jvm.Cond.fieldLink "java/util/LinkedHashMap" (68 : Nat) "java/util/LinkedHashMap" "modCount" "I") ∈ lw_all := lw_g (lw_at lw_m7 238 rfl) rfl
theorem q1780 : (Jvm.Cond.lays "java/util/LinkedHashMap" "java/util/LinkedHashMap" "head" "Ljava/util/LinkedHashMap$Entry;") ∈ lw_all := lw_g (lw_at lw_m8 2 rfl) rfl
theorem q1781 : (Jvm.Cond.soleField "java/util/LinkedHashMap" "head") ∈ lw_all := lw_g (lw_at lw_m8 3 rfl) rfl
theorem q1782 : (Jvm.Cond.lays "java/util/LinkedHashMap" "java/util/LinkedHashMap" "tail" "Ljava/util/LinkedHashMap$Entry;") ∈ lw_all := lw_g (lw_at lw_m8 4 rfl) rfl
theorem q1783 : (Jvm.Cond.soleField "java/util/LinkedHashMap" "tail") ∈ lw_all := lw_g (lw_at lw_m8 5 rfl) rfl
theorem q1784 : (Jvm.Cond.laysFinal "java/util/LinkedHashMap" "java/util/LinkedHashMap" "accessOrder" "Z") ∈ lw_all := lw_g (lw_at lw_m8 6 rfl) rfl
theorem q1785 : (Jvm.Cond.soleField "java/util/LinkedHashMap" "accessOrder") ∈ lw_all := lw_g (lw_at lw_m8 7 rfl) rfl
theorem q1786 : (Jvm.Cond.lays "java/util/LinkedHashMap" "java/util/LinkedHashMap" "putMode" "I") ∈ lw_all := lw_g (lw_at lw_m8 8 rfl) rfl
theorem q1787 : (Jvm.Cond.soleField "java/util/LinkedHashMap" "putMode") ∈ lw_all := lw_g (lw_at lw_m8 9 rfl) rfl
theorem q1788 : (Jvm.Cond.lays "java/util/LinkedHashMap" "java/util/HashMap" "table" "[Ljava/util/HashMap$Node;") ∈ lw_all := lw_g (lw_at lw_m8 10 rfl) rfl
theorem q1790 : (Jvm.Cond.lays "java/util/LinkedHashMap" "java/util/HashMap" "entrySet" "Ljava/util/Set;") ∈ lw_all := lw_g (lw_at lw_m8 12 rfl) rfl
theorem q1792 : (Jvm.Cond.lays "java/util/LinkedHashMap" "java/util/HashMap" "size" "I") ∈ lw_all := lw_g (lw_at lw_m8 14 rfl) rfl
theorem q1794 : (Jvm.Cond.lays "java/util/LinkedHashMap" "java/util/HashMap" "modCount" "I") ∈ lw_all := lw_g (lw_at lw_m8 16 rfl) rfl
theorem q1796 : (Jvm.Cond.lays "java/util/LinkedHashMap" "java/util/HashMap" "threshold" "I") ∈ lw_all := lw_g (lw_at lw_m8 18 rfl) rfl
theorem q1798 : (Jvm.Cond.laysFinal "java/util/LinkedHashMap" "java/util/HashMap" "loadFactor" "F") ∈ lw_all := lw_g (lw_at lw_m8 20 rfl) rfl
theorem q1800 : (Jvm.Cond.lays "java/util/LinkedHashMap" "java/util/AbstractMap" "keySet" "Ljava/util/Set;") ∈ lw_all := lw_g (lw_at lw_m8 22 rfl) rfl
theorem q1802 : (Jvm.Cond.lays "java/util/LinkedHashMap" "java/util/AbstractMap" "values" "Ljava/util/Collection;") ∈ lw_all := lw_g (lw_at lw_m8 24 rfl) rfl
theorem q1804 : (Jvm.Cond.superclass "java/util/LinkedHashMap" "java/util/HashMap") ∈ lw_all := lw_g (lw_at lw_m8 26 rfl) rfl
theorem q1827 : (Jvm.Cond.castable "java/util/LinkedHashMap" "java/util/Map") ∈ lw_tbl := lw_at lw_m8 49 rfl
theorem q1828 : (Jvm.Cond.selects "java/util/LinkedHashMap" ({ cls := "java/util/Map", name := "get", desc := "(Ljava/lang/Object;)Ljava/lang/Object;" } : Jvm.MethodName) ({ cls := "java/util/LinkedHashMap", name := "get", desc := "(Ljava/lang/Object;)Ljava/lang/Object;" } : Jvm.MethodName)) ∈ lw_all := lw_g (lw_at lw_m8 50 rfl) rfl
theorem q1829 : (Jvm.Cond.unhidden "java/util/LinkedHashMap" "get" "(Ljava/lang/Object;)Ljava/lang/Object;") ∈ lw_tbl := lw_at lw_m8 51 rfl
theorem q1830 : (Jvm.Cond.instanceMethod ({ cls := "java/util/LinkedHashMap", name := "get", desc := "(Ljava/lang/Object;)Ljava/lang/Object;" } : Jvm.MethodName)) ∈ lw_all := lw_g (lw_at lw_m8 52 rfl) rfl
theorem q1831 : (Jvm.Cond.publicMethod ({ cls := "java/util/LinkedHashMap", name := "get", desc := "(Ljava/lang/Object;)Ljava/lang/Object;" } : Jvm.MethodName)) ∈ lw_tbl := lw_at lw_m8 53 rfl
theorem q1832 : (Jvm.Cond.code ({ cls := "java/util/LinkedHashMap", name := "get", desc := "(Ljava/lang/Object;)Ljava/lang/Object;" } : Jvm.MethodName) prog_64_method_20_code (3 : Nat) (Option.some (Jvm.ClassFile.FieldType.object "java/lang/Object"))) ∈ lw_all := lw_g (lw_at lw_m8 54 rfl) rfl
theorem q1833 : (Jvm.Cond.methodLink "java/util/LinkedHashMap" (99 : Nat) ({ cls := "java/util/LinkedHashMap", name := "getNode", desc := "(Ljava/lang/Object;)Ljava/util/HashMap$Node;" } : Jvm.MethodName)) ∈ lw_all := lw_g (lw_at lw_m8 55 rfl) rfl
theorem q1834 : (Jvm.Cond.sameMethod "java/util/LinkedHashMap" "java/util/HashMap" "getNode" "(Ljava/lang/Object;)Ljava/util/HashMap$Node;") ∈ lw_all := lw_g (lw_at lw_m8 56 rfl) rfl
theorem q1836 : (Jvm.Cond.selects "java/util/LinkedHashMap" ({ cls := "java/util/LinkedHashMap", name := "getNode", desc := "(Ljava/lang/Object;)Ljava/util/HashMap$Node;" } : Jvm.MethodName) ({ cls := "java/util/HashMap", name := "getNode", desc := "(Ljava/lang/Object;)Ljava/util/HashMap$Node;" } : Jvm.MethodName)) ∈ lw_all := lw_g (lw_at lw_m8 58 rfl) rfl
theorem q2163 : (Jvm.Cond.methodLink "java/util/LinkedHashMap" (103 : Nat) ({ cls := "java/util/LinkedHashMap", name := "afterNodeAccess", desc := "(Ljava/util/HashMap$Node;)V" } : Jvm.MethodName)) ∈ lw_all := lw_g (lw_at lw_m9 145 rfl) rfl
theorem q2164 : (Jvm.Cond.instanceMethod ({ cls := "java/util/LinkedHashMap", name := "afterNodeAccess", desc := "(Ljava/util/HashMap$Node;)V" } : Jvm.MethodName)) ∈ lw_all := lw_g (lw_at lw_m9 146 rfl) rfl
theorem q2165 : (Jvm.Cond.selects "java/util/LinkedHashMap" ({ cls := "java/util/LinkedHashMap", name := "afterNodeAccess", desc := "(Ljava/util/HashMap$Node;)V" } : Jvm.MethodName) ({ cls := "java/util/LinkedHashMap", name := "afterNodeAccess", desc := "(Ljava/util/HashMap$Node;)V" } : Jvm.MethodName)) ∈ lw_all := lw_g (lw_at lw_m9 147 rfl) rfl
theorem q2166 : (Jvm.Cond.code ({ cls := "java/util/LinkedHashMap", name := "afterNodeAccess", desc := "(Ljava/util/HashMap$Node;)V" } : Jvm.MethodName) prog_64_method_10_code (7 : Nat) (Option.none : Option Jvm.ClassFile.FieldType)) ∈ lw_all := lw_g (lw_at lw_m9 148 rfl) rfl
theorem q2167 : (Jvm.Cond.classLink "java/util/LinkedHashMap" (15 : Nat) "java/util/LinkedHashMap$Entry") ∈ lw_all := lw_g (lw_at lw_m9 149 rfl) rfl
theorem q2182 : (Jvm.Cond.selects "java/util/LinkedHashMap" ({ cls := "java/util/Map", name := "put", desc := "(Ljava/lang/Object;Ljava/lang/Object;)Ljava/lang/Object;" } : Jvm.MethodName) ({ cls := "java/util/HashMap", name := "put", desc := "(Ljava/lang/Object;Ljava/lang/Object;)Ljava/lang/Object;" } : Jvm.MethodName)) ∈ lw_all := lw_g (lw_at lw_m9 164 rfl) rfl
theorem q2183 : (Jvm.Cond.unhidden "java/util/LinkedHashMap" "put" "(Ljava/lang/Object;Ljava/lang/Object;)Ljava/lang/Object;") ∈ lw_tbl := lw_at lw_m9 165 rfl
theorem q2190 : (Jvm.Cond.selects "java/util/LinkedHashMap" ({ cls := "java/util/HashMap", name := "putVal", desc := "(ILjava/lang/Object;Ljava/lang/Object;ZZ)Ljava/lang/Object;" } : Jvm.MethodName) ({ cls := "java/util/HashMap", name := "putVal", desc := "(ILjava/lang/Object;Ljava/lang/Object;ZZ)Ljava/lang/Object;" } : Jvm.MethodName)) ∈ lw_all := lw_g (lw_at lw_m9 172 rfl) rfl
theorem q2195 : (Jvm.Cond.selects "java/util/LinkedHashMap" ({ cls := "java/util/HashMap", name := "resize", desc := "()[Ljava/util/HashMap$Node;" } : Jvm.MethodName) ({ cls := "java/util/HashMap", name := "resize", desc := "()[Ljava/util/HashMap$Node;" } : Jvm.MethodName)) ∈ lw_all := lw_g (lw_at lw_m9 177 rfl) rfl
theorem q2214 : (Jvm.Cond.selects "java/util/LinkedHashMap" ({ cls := "java/util/HashMap", name := "replacementNode", desc := "(Ljava/util/HashMap$Node;Ljava/util/HashMap$Node;)Ljava/util/HashMap$Node;" } : Jvm.MethodName) ({ cls := "java/util/LinkedHashMap", name := "replacementNode", desc := "(Ljava/util/HashMap$Node;Ljava/util/HashMap$Node;)Ljava/util/HashMap$Node;" } : Jvm.MethodName)) ∈ lw_all := lw_g (lw_at lw_m9 196 rfl) rfl
theorem q2215 : (Jvm.Cond.instanceMethod ({ cls := "java/util/LinkedHashMap", name := "replacementNode", desc := "(Ljava/util/HashMap$Node;Ljava/util/HashMap$Node;)Ljava/util/HashMap$Node;" } : Jvm.MethodName)) ∈ lw_all := lw_g (lw_at lw_m9 197 rfl) rfl
theorem q2216 : (Jvm.Cond.code ({ cls := "java/util/LinkedHashMap", name := "replacementNode", desc := "(Ljava/util/HashMap$Node;Ljava/util/HashMap$Node;)Ljava/util/HashMap$Node;" } : Jvm.MethodName) prog_64_method_5_code (5 : Nat) (Option.some (Jvm.ClassFile.FieldType.object "java/util/HashMap$Node"))) ∈ lw_all := lw_g (lw_at lw_m9 198 rfl) rfl
theorem q2218 : (Jvm.Cond.methodLink "java/util/LinkedHashMap" (28 : Nat) ({ cls := "java/util/LinkedHashMap$Entry", name := "<init>", desc := "(ILjava/lang/Object;Ljava/lang/Object;Ljava/util/HashMap$Node;)V" } : Jvm.MethodName)) ∈ lw_all := lw_g (lw_at lw_m9 200 rfl) rfl
theorem q2225 : (Jvm.Cond.fieldLink "java/util/LinkedHashMap" (19 : Nat) "java/util/LinkedHashMap$Entry" "before" "Ljava/util/LinkedHashMap$Entry;") ∈ lw_all := lw_g (lw_at lw_m9 207 rfl) rfl
theorem q2227 : (Jvm.Cond.fieldLink "java/util/LinkedHashMap" (14 : Nat) "java/util/LinkedHashMap$Entry" "after" "Ljava/util/LinkedHashMap$Entry;") ∈ lw_all := lw_g (lw_at lw_m9 209 rfl) rfl
theorem q2232 : (Jvm.Cond.fieldLink "java/util/LinkedHashMap" (36 : Nat) "java/util/LinkedHashMap$Entry" "hash" "I") ∈ lw_all := lw_g (lw_at lw_m9 214 rfl) rfl
theorem q2238 : (Jvm.Cond.fieldLink "java/util/LinkedHashMap" (39 : Nat) "java/util/LinkedHashMap$Entry" "key" "Ljava/lang/Object;") ∈ lw_all := lw_g (lw_at lw_m9 220 rfl) rfl
theorem q2242 : (Jvm.Cond.fieldLink "java/util/LinkedHashMap" (43 : Nat) "java/util/LinkedHashMap$Entry" "value" "Ljava/lang/Object;") ∈ lw_all := lw_g (lw_at lw_m9 224 rfl) rfl
theorem q2245 : (Jvm.Cond.fieldLink "java/util/LinkedHashMap" (107 : Nat) "java/util/HashMap$Node" "value" "Ljava/lang/Object;") ∈ lw_all := lw_g (lw_at lw_m9 227 rfl) rfl
theorem q2265 : (Jvm.Cond.methodLink "java/util/LinkedHashMap" (46 : Nat) ({ cls := "java/util/LinkedHashMap", name := "transferLinks", desc := "(Ljava/util/LinkedHashMap$Entry;Ljava/util/LinkedHashMap$Entry;)V" } : Jvm.MethodName)) ∈ lw_all := lw_g (lw_at lw_m10 7 rfl) rfl
theorem q2266 : (Jvm.Cond.privateMethod ({ cls := "java/util/LinkedHashMap", name := "transferLinks", desc := "(Ljava/util/LinkedHashMap$Entry;Ljava/util/LinkedHashMap$Entry;)V" } : Jvm.MethodName)) ∈ lw_tbl := lw_at lw_m10 8 rfl
theorem q2267 : (Jvm.Cond.instanceMethod ({ cls := "java/util/LinkedHashMap", name := "transferLinks", desc := "(Ljava/util/LinkedHashMap$Entry;Ljava/util/LinkedHashMap$Entry;)V" } : Jvm.MethodName)) ∈ lw_all := lw_g (lw_at lw_m10 9 rfl) rfl
theorem q2268 : (Jvm.Cond.code ({ cls := "java/util/LinkedHashMap", name := "transferLinks", desc := "(Ljava/util/LinkedHashMap$Entry;Ljava/util/LinkedHashMap$Entry;)V" } : Jvm.MethodName) prog_64_method_2_code (5 : Nat) (Option.none : Option Jvm.ClassFile.FieldType)) ∈ lw_all := lw_g (lw_at lw_m10 10 rfl) rfl
theorem q2291 : (Jvm.Cond.selects "java/util/LinkedHashMap" ({ cls := "java/util/HashMap", name := "newNode", desc := "(ILjava/lang/Object;Ljava/lang/Object;Ljava/util/HashMap$Node;)Ljava/util/HashMap$Node;" } : Jvm.MethodName) ({ cls := "java/util/LinkedHashMap", name := "newNode", desc := "(ILjava/lang/Object;Ljava/lang/Object;Ljava/util/HashMap$Node;)Ljava/util/HashMap$Node;" } : Jvm.MethodName)) ∈ lw_all := lw_g (lw_at lw_m10 33 rfl) rfl
theorem q2292 : (Jvm.Cond.instanceMethod ({ cls := "java/util/LinkedHashMap", name := "newNode", desc := "(ILjava/lang/Object;Ljava/lang/Object;Ljava/util/HashMap$Node;)Ljava/util/HashMap$Node;" } : Jvm.MethodName)) ∈ lw_all := lw_g (lw_at lw_m10 34 rfl) rfl
theorem q2293 : (Jvm.Cond.code ({ cls := "java/util/LinkedHashMap", name := "newNode", desc := "(ILjava/lang/Object;Ljava/lang/Object;Ljava/util/HashMap$Node;)Ljava/util/HashMap$Node;" } : Jvm.MethodName) prog_64_method_4_code (6 : Nat) (Option.some (Jvm.ClassFile.FieldType.object "java/util/HashMap$Node"))) ∈ lw_all := lw_g (lw_at lw_m10 35 rfl) rfl
theorem q2294 : (Jvm.Cond.methodLink "java/util/LinkedHashMap" (32 : Nat) ({ cls := "java/util/LinkedHashMap", name := "linkNodeAtEnd", desc := "(Ljava/util/LinkedHashMap$Entry;)V" } : Jvm.MethodName)) ∈ lw_all := lw_g (lw_at lw_m10 36 rfl) rfl
theorem q2295 : (Jvm.Cond.privateMethod ({ cls := "java/util/LinkedHashMap", name := "linkNodeAtEnd", desc := "(Ljava/util/LinkedHashMap$Entry;)V" } : Jvm.MethodName)) ∈ lw_tbl := lw_at lw_m10 37 rfl
theorem q2296 : (Jvm.Cond.instanceMethod ({ cls := "java/util/LinkedHashMap", name := "linkNodeAtEnd", desc := "(Ljava/util/LinkedHashMap$Entry;)V" } : Jvm.MethodName)) ∈ lw_all := lw_g (lw_at lw_m10 38 rfl) rfl
theorem q2297 : (Jvm.Cond.code ({ cls := "java/util/LinkedHashMap", name := "linkNodeAtEnd", desc := "(Ljava/util/LinkedHashMap$Entry;)V" } : Jvm.MethodName) prog_64_method_1_code (3 : Nat) (Option.none : Option Jvm.ClassFile.FieldType)) ∈ lw_all := lw_g (lw_at lw_m10 39 rfl) rfl
theorem q2306 : (Jvm.Cond.selects "java/util/LinkedHashMap" ({ cls := "java/util/HashMap", name := "newTreeNode", desc := "(ILjava/lang/Object;Ljava/lang/Object;Ljava/util/HashMap$Node;)Ljava/util/HashMap$TreeNode;" } : Jvm.MethodName) ({ cls := "java/util/LinkedHashMap", name := "newTreeNode", desc := "(ILjava/lang/Object;Ljava/lang/Object;Ljava/util/HashMap$Node;)Ljava/util/HashMap$TreeNode;" } : Jvm.MethodName)) ∈ lw_all := lw_g (lw_at lw_m10 48 rfl) rfl
theorem q2307 : (Jvm.Cond.instanceMethod ({ cls := "java/util/LinkedHashMap", name := "newTreeNode", desc := "(ILjava/lang/Object;Ljava/lang/Object;Ljava/util/HashMap$Node;)Ljava/util/HashMap$TreeNode;" } : Jvm.MethodName)) ∈ lw_all := lw_g (lw_at lw_m10 49 rfl) rfl
theorem q2308 : (Jvm.Cond.code ({ cls := "java/util/LinkedHashMap", name := "newTreeNode", desc := "(ILjava/lang/Object;Ljava/lang/Object;Ljava/util/HashMap$Node;)Ljava/util/HashMap$TreeNode;" } : Jvm.MethodName) prog_64_method_6_code (6 : Nat) (Option.some (Jvm.ClassFile.FieldType.object "java/util/HashMap$TreeNode"))) ∈ lw_all := lw_g (lw_at lw_m10 50 rfl) rfl
theorem q2309 : (Jvm.Cond.classLink "java/util/LinkedHashMap" (50 : Nat) "java/util/HashMap$TreeNode") ∈ lw_all := lw_g (lw_at lw_m10 51 rfl) rfl
theorem q2311 : (Jvm.Cond.methodLink "java/util/LinkedHashMap" (52 : Nat) ({ cls := "java/util/HashMap$TreeNode", name := "<init>", desc := "(ILjava/lang/Object;Ljava/lang/Object;Ljava/util/HashMap$Node;)V" } : Jvm.MethodName)) ∈ lw_all := lw_g (lw_at lw_m10 53 rfl) rfl
theorem q2342 : (Jvm.Cond.selects "java/util/LinkedHashMap" ({ cls := "java/util/HashMap", name := "treeifyBin", desc := "([Ljava/util/HashMap$Node;I)V" } : Jvm.MethodName) ({ cls := "java/util/HashMap", name := "treeifyBin", desc := "([Ljava/util/HashMap$Node;I)V" } : Jvm.MethodName)) ∈ lw_all := lw_g (lw_at lw_m10 84 rfl) rfl
theorem q2347 : (Jvm.Cond.selects "java/util/LinkedHashMap" ({ cls := "java/util/HashMap", name := "replacementTreeNode", desc := "(Ljava/util/HashMap$Node;Ljava/util/HashMap$Node;)Ljava/util/HashMap$TreeNode;" } : Jvm.MethodName) ({ cls := "java/util/LinkedHashMap", name := "replacementTreeNode", desc := "(Ljava/util/HashMap$Node;Ljava/util/HashMap$Node;)Ljava/util/HashMap$TreeNode;" } : Jvm.MethodName)) ∈ lw_all := lw_g (lw_at lw_m10 89 rfl) rfl
theorem q2348 : (Jvm.Cond.instanceMethod ({ cls := "java/util/LinkedHashMap", name := "replacementTreeNode", desc := "(Ljava/util/HashMap$Node;Ljava/util/HashMap$Node;)Ljava/util/HashMap$TreeNode;" } : Jvm.MethodName)) ∈ lw_all := lw_g (lw_at lw_m10 90 rfl) rfl
theorem q2349 : (Jvm.Cond.code ({ cls := "java/util/LinkedHashMap", name := "replacementTreeNode", desc := "(Ljava/util/HashMap$Node;Ljava/util/HashMap$Node;)Ljava/util/HashMap$TreeNode;" } : Jvm.MethodName) prog_64_method_7_code (5 : Nat) (Option.some (Jvm.ClassFile.FieldType.object "java/util/HashMap$TreeNode"))) ∈ lw_all := lw_g (lw_at lw_m10 91 rfl) rfl
theorem q2355 : (Jvm.Cond.selects "java/util/LinkedHashMap" ({ cls := "java/util/HashMap", name := "afterNodeAccess", desc := "(Ljava/util/HashMap$Node;)V" } : Jvm.MethodName) ({ cls := "java/util/LinkedHashMap", name := "afterNodeAccess", desc := "(Ljava/util/HashMap$Node;)V" } : Jvm.MethodName)) ∈ lw_all := lw_g (lw_at lw_m10 97 rfl) rfl
theorem q2360 : (Jvm.Cond.selects "java/util/LinkedHashMap" ({ cls := "java/util/HashMap", name := "afterNodeInsertion", desc := "(Z)V" } : Jvm.MethodName) ({ cls := "java/util/LinkedHashMap", name := "afterNodeInsertion", desc := "(Z)V" } : Jvm.MethodName)) ∈ lw_all := lw_g (lw_at lw_m10 102 rfl) rfl
theorem q2361 : (Jvm.Cond.instanceMethod ({ cls := "java/util/LinkedHashMap", name := "afterNodeInsertion", desc := "(Z)V" } : Jvm.MethodName)) ∈ lw_all := lw_g (lw_at lw_m10 103 rfl) rfl
theorem q2362 : (Jvm.Cond.code ({ cls := "java/util/LinkedHashMap", name := "afterNodeInsertion", desc := "(Z)V" } : Jvm.MethodName) prog_64_method_9_code (4 : Nat) (Option.none : Option Jvm.ClassFile.FieldType)) ∈ lw_all := lw_g (lw_at lw_m10 104 rfl) rfl
theorem q2363 : (Jvm.Cond.methodLink "java/util/LinkedHashMap" (53 : Nat) ({ cls := "java/util/LinkedHashMap", name := "removeEldestEntry", desc := "(Ljava/util/Map$Entry;)Z" } : Jvm.MethodName)) ∈ lw_all := lw_g (lw_at lw_m10 105 rfl) rfl
theorem q2364 : (Jvm.Cond.instanceMethod ({ cls := "java/util/LinkedHashMap", name := "removeEldestEntry", desc := "(Ljava/util/Map$Entry;)Z" } : Jvm.MethodName)) ∈ lw_all := lw_g (lw_at lw_m10 106 rfl) rfl
theorem q2365 : (Jvm.Cond.selects "java/util/LinkedHashMap" ({ cls := "java/util/LinkedHashMap", name := "removeEldestEntry", desc := "(Ljava/util/Map$Entry;)Z" } : Jvm.MethodName) ({ cls := "java/util/LinkedHashMap", name := "removeEldestEntry", desc := "(Ljava/util/Map$Entry;)Z" } : Jvm.MethodName)) ∈ lw_all := lw_g (lw_at lw_m10 107 rfl) rfl
theorem q2366 : (Jvm.Cond.code ({ cls := "java/util/LinkedHashMap", name := "removeEldestEntry", desc := "(Ljava/util/Map$Entry;)Z" } : Jvm.MethodName) prog_64_method_23_code (2 : Nat) (Option.some Jvm.ClassFile.FieldType.boolean)) ∈ lw_all := lw_g (lw_at lw_m10 108 rfl) rfl
theorem q2372 : (Jvm.Cond.selects "java/util/LinkedHashMap" ({ cls := "java/util/Map", name := "size", desc := "()I" } : Jvm.MethodName) ({ cls := "java/util/HashMap", name := "size", desc := "()I" } : Jvm.MethodName)) ∈ lw_all := lw_g (lw_at lw_m10 114 rfl) rfl
theorem q2373 : (Jvm.Cond.unhidden "java/util/LinkedHashMap" "size" "()I") ∈ lw_tbl := lw_at lw_m10 115 rfl
theorem q2389 : (Jvm.Cond.selects "java/util/LinkedHashMap" ({ cls := "java/util/Map", name := "entrySet", desc := "()Ljava/util/Set;" } : Jvm.MethodName) ({ cls := "java/util/LinkedHashMap", name := "entrySet", desc := "()Ljava/util/Set;" } : Jvm.MethodName)) ∈ lw_all := lw_g (lw_at lw_m10 131 rfl) rfl
theorem q2390 : (Jvm.Cond.unhidden "java/util/LinkedHashMap" "entrySet" "()Ljava/util/Set;") ∈ lw_tbl := lw_at lw_m10 132 rfl
theorem q2391 : (Jvm.Cond.instanceMethod ({ cls := "java/util/LinkedHashMap", name := "entrySet", desc := "()Ljava/util/Set;" } : Jvm.MethodName)) ∈ lw_all := lw_g (lw_at lw_m10 133 rfl) rfl
theorem q2392 : (Jvm.Cond.publicMethod ({ cls := "java/util/LinkedHashMap", name := "entrySet", desc := "()Ljava/util/Set;" } : Jvm.MethodName)) ∈ lw_tbl := lw_at lw_m10 134 rfl
theorem q2393 : (Jvm.Cond.code ({ cls := "java/util/LinkedHashMap", name := "entrySet", desc := "()Ljava/util/Set;" } : Jvm.MethodName) prog_64_method_32_code (1 : Nat) (Option.some (Jvm.ClassFile.FieldType.object "java/util/Set"))) ∈ lw_all := lw_g (lw_at lw_m10 135 rfl) rfl
theorem q2394 : (Jvm.Cond.methodLink "java/util/LinkedHashMap" (148 : Nat) ({ cls := "java/util/LinkedHashMap", name := "sequencedEntrySet", desc := "()Ljava/util/SequencedSet;" } : Jvm.MethodName)) ∈ lw_all := lw_g (lw_at lw_m10 136 rfl) rfl
theorem q2395 : (Jvm.Cond.instanceMethod ({ cls := "java/util/LinkedHashMap", name := "sequencedEntrySet", desc := "()Ljava/util/SequencedSet;" } : Jvm.MethodName)) ∈ lw_all := lw_g (lw_at lw_m10 137 rfl) rfl
theorem q2396 : (Jvm.Cond.selects "java/util/LinkedHashMap" ({ cls := "java/util/LinkedHashMap", name := "sequencedEntrySet", desc := "()Ljava/util/SequencedSet;" } : Jvm.MethodName) ({ cls := "java/util/LinkedHashMap", name := "sequencedEntrySet", desc := "()Ljava/util/SequencedSet;" } : Jvm.MethodName)) ∈ lw_all := lw_g (lw_at lw_m10 138 rfl) rfl
theorem q2397 : (Jvm.Cond.code ({ cls := "java/util/LinkedHashMap", name := "sequencedEntrySet", desc := "()Ljava/util/SequencedSet;" } : Jvm.MethodName) prog_64_method_33_code (3 : Nat) (Option.some (Jvm.ClassFile.FieldType.object "java/util/SequencedSet"))) ∈ lw_all := lw_g (lw_at lw_m10 139 rfl) rfl
theorem q2398 : (Jvm.Cond.classLink "java/util/LinkedHashMap" (154 : Nat) "java/util/LinkedHashMap$LinkedEntrySet") ∈ lw_all := lw_g (lw_at lw_m10 140 rfl) rfl
theorem q2400 : (Jvm.Cond.methodLink "java/util/LinkedHashMap" (156 : Nat) ({ cls := "java/util/LinkedHashMap$LinkedEntrySet", name := "<init>", desc := "(Ljava/util/LinkedHashMap;Z)V" } : Jvm.MethodName)) ∈ lw_all := lw_g (lw_at lw_m10 142 rfl) rfl
theorem q2414 : (Jvm.Cond.classLink "java/util/LinkedHashMap" (126 : Nat) "java/util/SequencedSet") ∈ lw_all := lw_g (lw_at lw_m10 156 rfl) rfl
theorem q3409 : (Jvm.Cond.castable "java/util/LinkedHashMap" "java/lang/Object") ∈ lw_tbl := lw_at lw_m14 191 rfl
theorem in_J21 : ∀ w ∈ wsJ210, w ∈ lw_all := lw_in wsJ210 [1788, 1790, 1792, 1794, 1796, 1798, 1800, 1802, 1780, 1782, 1784, 1786] (by decide +kernel) (by decide +kernel)
/-! java/lang/Long -/
set_option maxRecDepth 100000
def RJ23 : String := "java/lang/Long"
abbrev cJ23_numberOfLeadingZeros : ByteArray := prog_37_method_48_code
def yJ23_numberOfLeadingZeros : MethodName := ⟨RJ23, "numberOfLeadingZeros", "(J)I"⟩
def dkwJ23_numberOfLeadingZeros_1 : List UInt8 := [184, 1, 52, 172]
abbrev dktJ23_numberOfLeadingZeros_1 : List UInt8 := dkwJ23_numberOfLeadingZeros_1 ++ []
def dkwJ23_numberOfLeadingZeros_0 : List UInt8 := [30, 16, 32, 125, 136, 61, 28, 154, 0, 14, 16, 32, 30, 136, 184, 1, 52, 96, 167, 0, 7, 28]
abbrev dktJ23_numberOfLeadingZeros_0 : List UInt8 := dkwJ23_numberOfLeadingZeros_0 ++ dktJ23_numberOfLeadingZeros_1
theorem dksJ23_numberOfLeadingZeros_0 : cJ23_numberOfLeadingZeros.data.toList.drop 0 = dktJ23_numberOfLeadingZeros_0 := by decide +kernel
theorem dksJ23_numberOfLeadingZeros_1 : cJ23_numberOfLeadingZeros.data.toList.drop 22 = dktJ23_numberOfLeadingZeros_1 := dk_seg dksJ23_numberOfLeadingZeros_0 22 rfl rfl
theorem dJ23_numberOfLeadingZeros_0 : decode cJ23_numberOfLeadingZeros 0 = .ok (.lload_n 0, 1) := dk_30 (dk_at dksJ23_numberOfLeadingZeros_0 0 rfl rfl)
theorem dJ23_numberOfLeadingZeros_1 : decode cJ23_numberOfLeadingZeros 1 = .ok (.bipush 32, 2) := dk_16 32 (dk_at dksJ23_numberOfLeadingZeros_0 1 rfl rfl)
theorem dJ23_numberOfLeadingZeros_3 : decode cJ23_numberOfLeadingZeros 3 = .ok (.lushr, 1) := dk_125 (dk_at dksJ23_numberOfLeadingZeros_0 3 rfl rfl)
theorem dJ23_numberOfLeadingZeros_4 : decode cJ23_numberOfLeadingZeros 4 = .ok (.l2i, 1) := dk_136 (dk_at dksJ23_numberOfLeadingZeros_0 4 rfl rfl)
theorem dJ23_numberOfLeadingZeros_5 : decode cJ23_numberOfLeadingZeros 5 = .ok (.istore_n 2, 1) := dk_61 (dk_at dksJ23_numberOfLeadingZeros_0 5 rfl rfl)
theorem dJ23_numberOfLeadingZeros_6 : decode cJ23_numberOfLeadingZeros 6 = .ok (.iload_n 2, 1) := dk_28 (dk_at dksJ23_numberOfLeadingZeros_0 6 rfl rfl)
theorem dJ23_numberOfLeadingZeros_7 : decode cJ23_numberOfLeadingZeros 7 = .ok (.ifCond .ne 14, 3) := dk_154 0 14 (dk_at dksJ23_numberOfLeadingZeros_0 7 rfl rfl)
theorem dJ23_numberOfLeadingZeros_10 : decode cJ23_numberOfLeadingZeros 10 = .ok (.bipush 32, 2) := dk_16 32 (dk_at dksJ23_numberOfLeadingZeros_0 10 rfl rfl)
theorem dJ23_numberOfLeadingZeros_12 : decode cJ23_numberOfLeadingZeros 12 = .ok (.lload_n 0, 1) := dk_30 (dk_at dksJ23_numberOfLeadingZeros_0 12 rfl rfl)
theorem dJ23_numberOfLeadingZeros_13 : decode cJ23_numberOfLeadingZeros 13 = .ok (.l2i, 1) := dk_136 (dk_at dksJ23_numberOfLeadingZeros_0 13 rfl rfl)
theorem dJ23_numberOfLeadingZeros_14 : decode cJ23_numberOfLeadingZeros 14 = .ok (.invokestatic 308, 3) := dk_184 1 52 (dk_at dksJ23_numberOfLeadingZeros_0 14 rfl rfl)
theorem dJ23_numberOfLeadingZeros_17 : decode cJ23_numberOfLeadingZeros 17 = .ok (.iadd, 1) := dk_96 (dk_at dksJ23_numberOfLeadingZeros_0 17 rfl rfl)
theorem dJ23_numberOfLeadingZeros_18 : decode cJ23_numberOfLeadingZeros 18 = .ok (.goto 7, 3) := dk_167 0 7 (dk_at dksJ23_numberOfLeadingZeros_0 18 rfl rfl)
theorem dJ23_numberOfLeadingZeros_21 : decode cJ23_numberOfLeadingZeros 21 = .ok (.iload_n 2, 1) := dk_28 (dk_at dksJ23_numberOfLeadingZeros_0 21 rfl rfl)
theorem dJ23_numberOfLeadingZeros_22 : decode cJ23_numberOfLeadingZeros 22 = .ok (.invokestatic 308, 3) := dk_184 1 52 (dk_at dksJ23_numberOfLeadingZeros_1 0 rfl rfl)
theorem dJ23_numberOfLeadingZeros_25 : decode cJ23_numberOfLeadingZeros 25 = .ok (.ireturn, 1) := dk_172 (dk_at dksJ23_numberOfLeadingZeros_1 3 rfl rfl)
abbrev cJ23_numberOfTrailingZeros : ByteArray := prog_37_method_49_code
def yJ23_numberOfTrailingZeros : MethodName := ⟨RJ23, "numberOfTrailingZeros", "(J)I"⟩
def dkwJ23_numberOfTrailingZeros_1 : List UInt8 := [184, 1, 55, 172]
abbrev dktJ23_numberOfTrailingZeros_1 : List UInt8 := dkwJ23_numberOfTrailingZeros_1 ++ []
def dkwJ23_numberOfTrailingZeros_0 : List UInt8 := [30, 136, 61, 28, 154, 0, 17, 16, 32, 30, 16, 32, 125, 136, 184, 1, 55, 96, 167, 0, 7, 28]
abbrev dktJ23_numberOfTrailingZeros_0 : List UInt8 := dkwJ23_numberOfTrailingZeros_0 ++ dktJ23_numberOfTrailingZeros_1
theorem dksJ23_numberOfTrailingZeros_0 : cJ23_numberOfTrailingZeros.data.toList.drop 0 = dktJ23_numberOfTrailingZeros_0 := by decide +kernel
theorem dksJ23_numberOfTrailingZeros_1 : cJ23_numberOfTrailingZeros.data.toList.drop 22 = dktJ23_numberOfTrailingZeros_1 := dk_seg dksJ23_numberOfTrailingZeros_0 22 rfl rfl
theorem dJ23_numberOfTrailingZeros_0 : decode cJ23_numberOfTrailingZeros 0 = .ok (.lload_n 0, 1) := dk_30 (dk_at dksJ23_numberOfTrailingZeros_0 0 rfl rfl)
theorem dJ23_numberOfTrailingZeros_1 : decode cJ23_numberOfTrailingZeros 1 = .ok (.l2i, 1) := dk_136 (dk_at dksJ23_numberOfTrailingZeros_0 1 rfl rfl)
theorem dJ23_numberOfTrailingZeros_2 : decode cJ23_numberOfTrailingZeros 2 = .ok (.istore_n 2, 1) := dk_61 (dk_at dksJ23_numberOfTrailingZeros_0 2 rfl rfl)
theorem dJ23_numberOfTrailingZeros_3 : decode cJ23_numberOfTrailingZeros 3 = .ok (.iload_n 2, 1) := dk_28 (dk_at dksJ23_numberOfTrailingZeros_0 3 rfl rfl)
theorem dJ23_numberOfTrailingZeros_4 : decode cJ23_numberOfTrailingZeros 4 = .ok (.ifCond .ne 17, 3) := dk_154 0 17 (dk_at dksJ23_numberOfTrailingZeros_0 4 rfl rfl)
theorem dJ23_numberOfTrailingZeros_7 : decode cJ23_numberOfTrailingZeros 7 = .ok (.bipush 32, 2) := dk_16 32 (dk_at dksJ23_numberOfTrailingZeros_0 7 rfl rfl)
theorem dJ23_numberOfTrailingZeros_9 : decode cJ23_numberOfTrailingZeros 9 = .ok (.lload_n 0, 1) := dk_30 (dk_at dksJ23_numberOfTrailingZeros_0 9 rfl rfl)
theorem dJ23_numberOfTrailingZeros_10 : decode cJ23_numberOfTrailingZeros 10 = .ok (.bipush 32, 2) := dk_16 32 (dk_at dksJ23_numberOfTrailingZeros_0 10 rfl rfl)
theorem dJ23_numberOfTrailingZeros_12 : decode cJ23_numberOfTrailingZeros 12 = .ok (.lushr, 1) := dk_125 (dk_at dksJ23_numberOfTrailingZeros_0 12 rfl rfl)
theorem dJ23_numberOfTrailingZeros_13 : decode cJ23_numberOfTrailingZeros 13 = .ok (.l2i, 1) := dk_136 (dk_at dksJ23_numberOfTrailingZeros_0 13 rfl rfl)
theorem dJ23_numberOfTrailingZeros_14 : decode cJ23_numberOfTrailingZeros 14 = .ok (.invokestatic 311, 3) := dk_184 1 55 (dk_at dksJ23_numberOfTrailingZeros_0 14 rfl rfl)
theorem dJ23_numberOfTrailingZeros_17 : decode cJ23_numberOfTrailingZeros 17 = .ok (.iadd, 1) := dk_96 (dk_at dksJ23_numberOfTrailingZeros_0 17 rfl rfl)
theorem dJ23_numberOfTrailingZeros_18 : decode cJ23_numberOfTrailingZeros 18 = .ok (.goto 7, 3) := dk_167 0 7 (dk_at dksJ23_numberOfTrailingZeros_0 18 rfl rfl)
theorem dJ23_numberOfTrailingZeros_21 : decode cJ23_numberOfTrailingZeros 21 = .ok (.iload_n 2, 1) := dk_28 (dk_at dksJ23_numberOfTrailingZeros_0 21 rfl rfl)
theorem dJ23_numberOfTrailingZeros_22 : decode cJ23_numberOfTrailingZeros 22 = .ok (.invokestatic 311, 3) := dk_184 1 55 (dk_at dksJ23_numberOfTrailingZeros_1 0 rfl rfl)
theorem dJ23_numberOfTrailingZeros_25 : decode cJ23_numberOfTrailingZeros 25 = .ok (.ireturn, 1) := dk_172 (dk_at dksJ23_numberOfTrailingZeros_1 3 rfl rfl)
abbrev cJ23_stringSize : ByteArray := prog_37_method_15_code
def yJ23_stringSize : MethodName := ⟨RJ23, "stringSize", "(J)I"⟩
def dkwJ23_stringSize_2 : List UInt8 := [167, 255, 229, 16, 19, 28, 96, 172]
abbrev dktJ23_stringSize_2 : List UInt8 := dkwJ23_stringSize_2 ++ []
def dkwJ23_stringSize_1 : List UInt8 := [162, 0, 26, 30, 33, 148, 158, 0, 8, 21, 5, 28, 96, 172, 20, 0, 53, 33, 105, 66, 132, 5, 1]
abbrev dktJ23_stringSize_1 : List UInt8 := dkwJ23_stringSize_1 ++ dktJ23_stringSize_2
def dkwJ23_stringSize_0 : List UInt8 := [4, 61, 30, 9, 148, 155, 0, 8, 3, 61, 30, 117, 63, 20, 0, 140, 66, 4, 54, 5, 21, 5, 16, 19]
abbrev dktJ23_stringSize_0 : List UInt8 := dkwJ23_stringSize_0 ++ dktJ23_stringSize_1
theorem dksJ23_stringSize_0 : cJ23_stringSize.data.toList.drop 0 = dktJ23_stringSize_0 := by decide +kernel
theorem dksJ23_stringSize_1 : cJ23_stringSize.data.toList.drop 24 = dktJ23_stringSize_1 := dk_seg dksJ23_stringSize_0 24 rfl rfl
theorem dksJ23_stringSize_2 : cJ23_stringSize.data.toList.drop 47 = dktJ23_stringSize_2 := dk_seg dksJ23_stringSize_1 23 rfl rfl
theorem dJ23_stringSize_0 : decode cJ23_stringSize 0 = .ok (.iconst 1, 1) := dk_4 (dk_at dksJ23_stringSize_0 0 rfl rfl)
theorem dJ23_stringSize_1 : decode cJ23_stringSize 1 = .ok (.istore_n 2, 1) := dk_61 (dk_at dksJ23_stringSize_0 1 rfl rfl)
theorem dJ23_stringSize_2 : decode cJ23_stringSize 2 = .ok (.lload_n 0, 1) := dk_30 (dk_at dksJ23_stringSize_0 2 rfl rfl)
theorem dJ23_stringSize_3 : decode cJ23_stringSize 3 = .ok (.lconst 0, 1) := dk_9 (dk_at dksJ23_stringSize_0 3 rfl rfl)
theorem dJ23_stringSize_4 : decode cJ23_stringSize 4 = .ok (.lcmp, 1) := dk_148 (dk_at dksJ23_stringSize_0 4 rfl rfl)
theorem dJ23_stringSize_5 : decode cJ23_stringSize 5 = .ok (.ifCond .lt 8, 3) := dk_155 0 8 (dk_at dksJ23_stringSize_0 5 rfl rfl)
theorem dJ23_stringSize_8 : decode cJ23_stringSize 8 = .ok (.iconst 0, 1) := dk_3 (dk_at dksJ23_stringSize_0 8 rfl rfl)
theorem dJ23_stringSize_9 : decode cJ23_stringSize 9 = .ok (.istore_n 2, 1) := dk_61 (dk_at dksJ23_stringSize_0 9 rfl rfl)
theorem dJ23_stringSize_10 : decode cJ23_stringSize 10 = .ok (.lload_n 0, 1) := dk_30 (dk_at dksJ23_stringSize_0 10 rfl rfl)
theorem dJ23_stringSize_11 : decode cJ23_stringSize 11 = .ok (.lneg, 1) := dk_117 (dk_at dksJ23_stringSize_0 11 rfl rfl)
theorem dJ23_stringSize_12 : decode cJ23_stringSize 12 = .ok (.lstore_n 0, 1) := dk_63 (dk_at dksJ23_stringSize_0 12 rfl rfl)
theorem dJ23_stringSize_13 : decode cJ23_stringSize 13 = .ok (.ldc2_w 140, 3) := dk_20 0 140 (dk_at dksJ23_stringSize_0 13 rfl rfl)
theorem dJ23_stringSize_16 : decode cJ23_stringSize 16 = .ok (.lstore_n 3, 1) := dk_66 (dk_at dksJ23_stringSize_0 16 rfl rfl)
theorem dJ23_stringSize_17 : decode cJ23_stringSize 17 = .ok (.iconst 1, 1) := dk_4 (dk_at dksJ23_stringSize_0 17 rfl rfl)
theorem dJ23_stringSize_18 : decode cJ23_stringSize 18 = .ok (.istore 5, 2) := dk_54 5 (dk_at dksJ23_stringSize_0 18 rfl rfl)
theorem dJ23_stringSize_20 : decode cJ23_stringSize 20 = .ok (.iload 5, 2) := dk_21 5 (dk_at dksJ23_stringSize_0 20 rfl rfl)
theorem dJ23_stringSize_22 : decode cJ23_stringSize 22 = .ok (.bipush 19, 2) := dk_16 19 (dk_at dksJ23_stringSize_0 22 rfl rfl)
theorem dJ23_stringSize_24 : decode cJ23_stringSize 24 = .ok (.if_icmp .ge 26, 3) := dk_162 0 26 (dk_at dksJ23_stringSize_1 0 rfl rfl)
theorem dJ23_stringSize_27 : decode cJ23_stringSize 27 = .ok (.lload_n 0, 1) := dk_30 (dk_at dksJ23_stringSize_1 3 rfl rfl)
theorem dJ23_stringSize_28 : decode cJ23_stringSize 28 = .ok (.lload_n 3, 1) := dk_33 (dk_at dksJ23_stringSize_1 4 rfl rfl)
theorem dJ23_stringSize_29 : decode cJ23_stringSize 29 = .ok (.lcmp, 1) := dk_148 (dk_at dksJ23_stringSize_1 5 rfl rfl)
theorem dJ23_stringSize_30 : decode cJ23_stringSize 30 = .ok (.ifCond .le 8, 3) := dk_158 0 8 (dk_at dksJ23_stringSize_1 6 rfl rfl)
theorem dJ23_stringSize_33 : decode cJ23_stringSize 33 = .ok (.iload 5, 2) := dk_21 5 (dk_at dksJ23_stringSize_1 9 rfl rfl)
theorem dJ23_stringSize_35 : decode cJ23_stringSize 35 = .ok (.iload_n 2, 1) := dk_28 (dk_at dksJ23_stringSize_1 11 rfl rfl)
theorem dJ23_stringSize_36 : decode cJ23_stringSize 36 = .ok (.iadd, 1) := dk_96 (dk_at dksJ23_stringSize_1 12 rfl rfl)
theorem dJ23_stringSize_37 : decode cJ23_stringSize 37 = .ok (.ireturn, 1) := dk_172 (dk_at dksJ23_stringSize_1 13 rfl rfl)
theorem dJ23_stringSize_38 : decode cJ23_stringSize 38 = .ok (.ldc2_w 53, 3) := dk_20 0 53 (dk_at dksJ23_stringSize_1 14 rfl rfl)
theorem dJ23_stringSize_41 : decode cJ23_stringSize 41 = .ok (.lload_n 3, 1) := dk_33 (dk_at dksJ23_stringSize_1 17 rfl rfl)
theorem dJ23_stringSize_42 : decode cJ23_stringSize 42 = .ok (.lmul, 1) := dk_105 (dk_at dksJ23_stringSize_1 18 rfl rfl)
theorem dJ23_stringSize_43 : decode cJ23_stringSize 43 = .ok (.lstore_n 3, 1) := dk_66 (dk_at dksJ23_stringSize_1 19 rfl rfl)
theorem dJ23_stringSize_44 : decode cJ23_stringSize 44 = .ok (.iinc 5 1, 3) := dk_132 5 1 (dk_at dksJ23_stringSize_1 20 rfl rfl)
theorem dJ23_stringSize_47 : decode cJ23_stringSize 47 = .ok (.goto (-27), 3) := dk_167 255 229 (dk_at dksJ23_stringSize_2 0 rfl rfl)
theorem dJ23_stringSize_50 : decode cJ23_stringSize 50 = .ok (.bipush 19, 2) := dk_16 19 (dk_at dksJ23_stringSize_2 3 rfl rfl)
theorem dJ23_stringSize_52 : decode cJ23_stringSize 52 = .ok (.iload_n 2, 1) := dk_28 (dk_at dksJ23_stringSize_2 5 rfl rfl)
theorem dJ23_stringSize_53 : decode cJ23_stringSize 53 = .ok (.iadd, 1) := dk_96 (dk_at dksJ23_stringSize_2 6 rfl rfl)
theorem dJ23_stringSize_54 : decode cJ23_stringSize 54 = .ok (.ireturn, 1) := dk_172 (dk_at dksJ23_stringSize_2 7 rfl rfl)
abbrev cJ23_getChars : ByteArray := prog_37_method_14_code
def yJ23_getChars : MethodName := ⟨RJ23, "getChars", "(JI[B)I"⟩
def dkwJ23_getChars_8 : List UInt8 := [21, 7, 16, 45, 84, 21, 7, 172]
abbrev dktJ23_getChars_8 : List UInt8 := dkwJ23_getChars_8 ++ []
def dkwJ23_getChars_7 : List UInt8 := [45, 132, 7, 255, 21, 7, 178, 0, 137, 21, 10, 116, 51, 84, 21, 8, 153, 0, 12, 45, 132, 7, 255]
abbrev dktJ23_getChars_7 : List UInt8 := dkwJ23_getChars_7 ++ dktJ23_getChars_8
def dkwJ23_getChars_6 : List UInt8 := [167, 255, 202, 45, 132, 7, 255, 21, 7, 178, 0, 133, 21, 10, 116, 51, 84, 21, 10, 16, 247, 162, 0, 17]
abbrev dktJ23_getChars_6 : List UInt8 := dkwJ23_getChars_6 ++ dktJ23_getChars_7
def dkwJ23_getChars_5 : List UInt8 := [21, 7, 178, 0, 133, 21, 6, 51, 84, 45, 132, 7, 255, 21, 7, 178, 0, 137, 21, 6, 51, 84]
abbrev dktJ23_getChars_5 : List UInt8 := dkwJ23_getChars_5 ++ dktJ23_getChars_6
def dkwJ23_getChars_4 : List UInt8 := [16, 100, 108, 54, 9, 21, 9, 16, 100, 104, 21, 10, 100, 54, 6, 21, 9, 54, 10, 45, 132, 7, 255]
abbrev dktJ23_getChars_4 : List UInt8 := dkwJ23_getChars_4 ++ dktJ23_getChars_5
def dkwJ23_getChars_3 : List UInt8 := [178, 0, 137, 21, 6, 51, 84, 167, 255, 201, 30, 136, 54, 10, 21, 10, 16, 156, 163, 0, 53, 21, 10]
abbrev dktJ23_getChars_3 : List UInt8 := dkwJ23_getChars_3 ++ dktJ23_getChars_4
def dkwJ23_getChars_2 : List UInt8 := [54, 6, 22, 4, 63, 45, 132, 7, 255, 21, 7, 178, 0, 133, 21, 6, 51, 84, 45, 132, 7, 255, 21, 7]
abbrev dktJ23_getChars_2 : List UInt8 := dkwJ23_getChars_2 ++ dktJ23_getChars_3
def dkwJ23_getChars_1 : List UInt8 := [30, 20, 0, 129, 148, 157, 0, 53, 30, 20, 0, 131, 109, 55, 4, 22, 4, 20, 0, 131, 105, 30, 101, 136]
abbrev dktJ23_getChars_1 : List UInt8 := dkwJ23_getChars_1 ++ dktJ23_getChars_2
def dkwJ23_getChars_0 : List UInt8 := [28, 54, 7, 30, 9, 148, 156, 0, 7, 4, 167, 0, 4, 3, 54, 8, 21, 8, 154, 0, 6, 30, 117, 63]
abbrev dktJ23_getChars_0 : List UInt8 := dkwJ23_getChars_0 ++ dktJ23_getChars_1
theorem dksJ23_getChars_0 : cJ23_getChars.data.toList.drop 0 = dktJ23_getChars_0 := by decide +kernel
theorem dksJ23_getChars_1 : cJ23_getChars.data.toList.drop 24 = dktJ23_getChars_1 := dk_seg dksJ23_getChars_0 24 rfl rfl
theorem dksJ23_getChars_2 : cJ23_getChars.data.toList.drop 48 = dktJ23_getChars_2 := dk_seg dksJ23_getChars_1 24 rfl rfl
theorem dksJ23_getChars_3 : cJ23_getChars.data.toList.drop 72 = dktJ23_getChars_3 := dk_seg dksJ23_getChars_2 24 rfl rfl
theorem dksJ23_getChars_4 : cJ23_getChars.data.toList.drop 95 = dktJ23_getChars_4 := dk_seg dksJ23_getChars_3 23 rfl rfl
theorem dksJ23_getChars_5 : cJ23_getChars.data.toList.drop 118 = dktJ23_getChars_5 := dk_seg dksJ23_getChars_4 23 rfl rfl
theorem dksJ23_getChars_6 : cJ23_getChars.data.toList.drop 140 = dktJ23_getChars_6 := dk_seg dksJ23_getChars_5 22 rfl rfl
theorem dksJ23_getChars_7 : cJ23_getChars.data.toList.drop 164 = dktJ23_getChars_7 := dk_seg dksJ23_getChars_6 24 rfl rfl
theorem dksJ23_getChars_8 : cJ23_getChars.data.toList.drop 187 = dktJ23_getChars_8 := dk_seg dksJ23_getChars_7 23 rfl rfl
theorem dJ23_getChars_0 : decode cJ23_getChars 0 = .ok (.iload_n 2, 1) := dk_28 (dk_at dksJ23_getChars_0 0 rfl rfl)
theorem dJ23_getChars_1 : decode cJ23_getChars 1 = .ok (.istore 7, 2) := dk_54 7 (dk_at dksJ23_getChars_0 1 rfl rfl)
theorem dJ23_getChars_3 : decode cJ23_getChars 3 = .ok (.lload_n 0, 1) := dk_30 (dk_at dksJ23_getChars_0 3 rfl rfl)
theorem dJ23_getChars_4 : decode cJ23_getChars 4 = .ok (.lconst 0, 1) := dk_9 (dk_at dksJ23_getChars_0 4 rfl rfl)
theorem dJ23_getChars_5 : decode cJ23_getChars 5 = .ok (.lcmp, 1) := dk_148 (dk_at dksJ23_getChars_0 5 rfl rfl)
theorem dJ23_getChars_6 : decode cJ23_getChars 6 = .ok (.ifCond .ge 7, 3) := dk_156 0 7 (dk_at dksJ23_getChars_0 6 rfl rfl)
theorem dJ23_getChars_9 : decode cJ23_getChars 9 = .ok (.iconst 1, 1) := dk_4 (dk_at dksJ23_getChars_0 9 rfl rfl)
theorem dJ23_getChars_10 : decode cJ23_getChars 10 = .ok (.goto 4, 3) := dk_167 0 4 (dk_at dksJ23_getChars_0 10 rfl rfl)
theorem dJ23_getChars_13 : decode cJ23_getChars 13 = .ok (.iconst 0, 1) := dk_3 (dk_at dksJ23_getChars_0 13 rfl rfl)
theorem dJ23_getChars_14 : decode cJ23_getChars 14 = .ok (.istore 8, 2) := dk_54 8 (dk_at dksJ23_getChars_0 14 rfl rfl)
theorem dJ23_getChars_16 : decode cJ23_getChars 16 = .ok (.iload 8, 2) := dk_21 8 (dk_at dksJ23_getChars_0 16 rfl rfl)
theorem dJ23_getChars_18 : decode cJ23_getChars 18 = .ok (.ifCond .ne 6, 3) := dk_154 0 6 (dk_at dksJ23_getChars_0 18 rfl rfl)
theorem dJ23_getChars_21 : decode cJ23_getChars 21 = .ok (.lload_n 0, 1) := dk_30 (dk_at dksJ23_getChars_0 21 rfl rfl)
theorem dJ23_getChars_22 : decode cJ23_getChars 22 = .ok (.lneg, 1) := dk_117 (dk_at dksJ23_getChars_0 22 rfl rfl)
theorem dJ23_getChars_23 : decode cJ23_getChars 23 = .ok (.lstore_n 0, 1) := dk_63 (dk_at dksJ23_getChars_0 23 rfl rfl)
theorem dJ23_getChars_24 : decode cJ23_getChars 24 = .ok (.lload_n 0, 1) := dk_30 (dk_at dksJ23_getChars_1 0 rfl rfl)
theorem dJ23_getChars_25 : decode cJ23_getChars 25 = .ok (.ldc2_w 129, 3) := dk_20 0 129 (dk_at dksJ23_getChars_1 1 rfl rfl)
theorem dJ23_getChars_28 : decode cJ23_getChars 28 = .ok (.lcmp, 1) := dk_148 (dk_at dksJ23_getChars_1 4 rfl rfl)
theorem dJ23_getChars_29 : decode cJ23_getChars 29 = .ok (.ifCond .gt 53, 3) := dk_157 0 53 (dk_at dksJ23_getChars_1 5 rfl rfl)
theorem dJ23_getChars_32 : decode cJ23_getChars 32 = .ok (.lload_n 0, 1) := dk_30 (dk_at dksJ23_getChars_1 8 rfl rfl)
theorem dJ23_getChars_33 : decode cJ23_getChars 33 = .ok (.ldc2_w 131, 3) := dk_20 0 131 (dk_at dksJ23_getChars_1 9 rfl rfl)
theorem dJ23_getChars_36 : decode cJ23_getChars 36 = .ok (.ldiv, 1) := dk_109 (dk_at dksJ23_getChars_1 12 rfl rfl)
theorem dJ23_getChars_37 : decode cJ23_getChars 37 = .ok (.lstore 4, 2) := dk_55 4 (dk_at dksJ23_getChars_1 13 rfl rfl)
theorem dJ23_getChars_39 : decode cJ23_getChars 39 = .ok (.lload 4, 2) := dk_22 4 (dk_at dksJ23_getChars_1 15 rfl rfl)
theorem dJ23_getChars_41 : decode cJ23_getChars 41 = .ok (.ldc2_w 131, 3) := dk_20 0 131 (dk_at dksJ23_getChars_1 17 rfl rfl)
theorem dJ23_getChars_44 : decode cJ23_getChars 44 = .ok (.lmul, 1) := dk_105 (dk_at dksJ23_getChars_1 20 rfl rfl)
theorem dJ23_getChars_45 : decode cJ23_getChars 45 = .ok (.lload_n 0, 1) := dk_30 (dk_at dksJ23_getChars_1 21 rfl rfl)
theorem dJ23_getChars_46 : decode cJ23_getChars 46 = .ok (.lsub, 1) := dk_101 (dk_at dksJ23_getChars_1 22 rfl rfl)
theorem dJ23_getChars_47 : decode cJ23_getChars 47 = .ok (.l2i, 1) := dk_136 (dk_at dksJ23_getChars_1 23 rfl rfl)
theorem dJ23_getChars_48 : decode cJ23_getChars 48 = .ok (.istore 6, 2) := dk_54 6 (dk_at dksJ23_getChars_2 0 rfl rfl)
theorem dJ23_getChars_50 : decode cJ23_getChars 50 = .ok (.lload 4, 2) := dk_22 4 (dk_at dksJ23_getChars_2 2 rfl rfl)
theorem dJ23_getChars_52 : decode cJ23_getChars 52 = .ok (.lstore_n 0, 1) := dk_63 (dk_at dksJ23_getChars_2 4 rfl rfl)
theorem dJ23_getChars_53 : decode cJ23_getChars 53 = .ok (.aload_n 3, 1) := dk_45 (dk_at dksJ23_getChars_2 5 rfl rfl)
theorem dJ23_getChars_54 : decode cJ23_getChars 54 = .ok (.iinc 7 (-1), 3) := dk_132 7 255 (dk_at dksJ23_getChars_2 6 rfl rfl)
theorem dJ23_getChars_57 : decode cJ23_getChars 57 = .ok (.iload 7, 2) := dk_21 7 (dk_at dksJ23_getChars_2 9 rfl rfl)
theorem dJ23_getChars_59 : decode cJ23_getChars 59 = .ok (.getstatic 133, 3) := dk_178 0 133 (dk_at dksJ23_getChars_2 11 rfl rfl)
theorem dJ23_getChars_62 : decode cJ23_getChars 62 = .ok (.iload 6, 2) := dk_21 6 (dk_at dksJ23_getChars_2 14 rfl rfl)
theorem dJ23_getChars_64 : decode cJ23_getChars 64 = .ok (.baload, 1) := dk_51 (dk_at dksJ23_getChars_2 16 rfl rfl)
theorem dJ23_getChars_65 : decode cJ23_getChars 65 = .ok (.bastore, 1) := dk_84 (dk_at dksJ23_getChars_2 17 rfl rfl)
theorem dJ23_getChars_66 : decode cJ23_getChars 66 = .ok (.aload_n 3, 1) := dk_45 (dk_at dksJ23_getChars_2 18 rfl rfl)
theorem dJ23_getChars_67 : decode cJ23_getChars 67 = .ok (.iinc 7 (-1), 3) := dk_132 7 255 (dk_at dksJ23_getChars_2 19 rfl rfl)
theorem dJ23_getChars_70 : decode cJ23_getChars 70 = .ok (.iload 7, 2) := dk_21 7 (dk_at dksJ23_getChars_2 22 rfl rfl)
theorem dJ23_getChars_72 : decode cJ23_getChars 72 = .ok (.getstatic 137, 3) := dk_178 0 137 (dk_at dksJ23_getChars_3 0 rfl rfl)
theorem dJ23_getChars_75 : decode cJ23_getChars 75 = .ok (.iload 6, 2) := dk_21 6 (dk_at dksJ23_getChars_3 3 rfl rfl)
theorem dJ23_getChars_77 : decode cJ23_getChars 77 = .ok (.baload, 1) := dk_51 (dk_at dksJ23_getChars_3 5 rfl rfl)
theorem dJ23_getChars_78 : decode cJ23_getChars 78 = .ok (.bastore, 1) := dk_84 (dk_at dksJ23_getChars_3 6 rfl rfl)
theorem dJ23_getChars_79 : decode cJ23_getChars 79 = .ok (.goto (-55), 3) := dk_167 255 201 (dk_at dksJ23_getChars_3 7 rfl rfl)
theorem dJ23_getChars_82 : decode cJ23_getChars 82 = .ok (.lload_n 0, 1) := dk_30 (dk_at dksJ23_getChars_3 10 rfl rfl)
theorem dJ23_getChars_83 : decode cJ23_getChars 83 = .ok (.l2i, 1) := dk_136 (dk_at dksJ23_getChars_3 11 rfl rfl)
theorem dJ23_getChars_84 : decode cJ23_getChars 84 = .ok (.istore 10, 2) := dk_54 10 (dk_at dksJ23_getChars_3 12 rfl rfl)
theorem dJ23_getChars_86 : decode cJ23_getChars 86 = .ok (.iload 10, 2) := dk_21 10 (dk_at dksJ23_getChars_3 14 rfl rfl)
theorem dJ23_getChars_88 : decode cJ23_getChars 88 = .ok (.bipush (-100), 2) := dk_16 156 (dk_at dksJ23_getChars_3 16 rfl rfl)
theorem dJ23_getChars_90 : decode cJ23_getChars 90 = .ok (.if_icmp .gt 53, 3) := dk_163 0 53 (dk_at dksJ23_getChars_3 18 rfl rfl)
theorem dJ23_getChars_93 : decode cJ23_getChars 93 = .ok (.iload 10, 2) := dk_21 10 (dk_at dksJ23_getChars_3 21 rfl rfl)
theorem dJ23_getChars_95 : decode cJ23_getChars 95 = .ok (.bipush 100, 2) := dk_16 100 (dk_at dksJ23_getChars_4 0 rfl rfl)
theorem dJ23_getChars_97 : decode cJ23_getChars 97 = .ok (.idiv, 1) := dk_108 (dk_at dksJ23_getChars_4 2 rfl rfl)
theorem dJ23_getChars_98 : decode cJ23_getChars 98 = .ok (.istore 9, 2) := dk_54 9 (dk_at dksJ23_getChars_4 3 rfl rfl)
theorem dJ23_getChars_100 : decode cJ23_getChars 100 = .ok (.iload 9, 2) := dk_21 9 (dk_at dksJ23_getChars_4 5 rfl rfl)
theorem dJ23_getChars_102 : decode cJ23_getChars 102 = .ok (.bipush 100, 2) := dk_16 100 (dk_at dksJ23_getChars_4 7 rfl rfl)
theorem dJ23_getChars_104 : decode cJ23_getChars 104 = .ok (.imul, 1) := dk_104 (dk_at dksJ23_getChars_4 9 rfl rfl)
theorem dJ23_getChars_105 : decode cJ23_getChars 105 = .ok (.iload 10, 2) := dk_21 10 (dk_at dksJ23_getChars_4 10 rfl rfl)
theorem dJ23_getChars_107 : decode cJ23_getChars 107 = .ok (.isub, 1) := dk_100 (dk_at dksJ23_getChars_4 12 rfl rfl)
theorem dJ23_getChars_108 : decode cJ23_getChars 108 = .ok (.istore 6, 2) := dk_54 6 (dk_at dksJ23_getChars_4 13 rfl rfl)
theorem dJ23_getChars_110 : decode cJ23_getChars 110 = .ok (.iload 9, 2) := dk_21 9 (dk_at dksJ23_getChars_4 15 rfl rfl)
theorem dJ23_getChars_112 : decode cJ23_getChars 112 = .ok (.istore 10, 2) := dk_54 10 (dk_at dksJ23_getChars_4 17 rfl rfl)
theorem dJ23_getChars_114 : decode cJ23_getChars 114 = .ok (.aload_n 3, 1) := dk_45 (dk_at dksJ23_getChars_4 19 rfl rfl)
theorem dJ23_getChars_115 : decode cJ23_getChars 115 = .ok (.iinc 7 (-1), 3) := dk_132 7 255 (dk_at dksJ23_getChars_4 20 rfl rfl)
theorem dJ23_getChars_118 : decode cJ23_getChars 118 = .ok (.iload 7, 2) := dk_21 7 (dk_at dksJ23_getChars_5 0 rfl rfl)
theorem dJ23_getChars_120 : decode cJ23_getChars 120 = .ok (.getstatic 133, 3) := dk_178 0 133 (dk_at dksJ23_getChars_5 2 rfl rfl)
theorem dJ23_getChars_123 : decode cJ23_getChars 123 = .ok (.iload 6, 2) := dk_21 6 (dk_at dksJ23_getChars_5 5 rfl rfl)
theorem dJ23_getChars_125 : decode cJ23_getChars 125 = .ok (.baload, 1) := dk_51 (dk_at dksJ23_getChars_5 7 rfl rfl)
theorem dJ23_getChars_126 : decode cJ23_getChars 126 = .ok (.bastore, 1) := dk_84 (dk_at dksJ23_getChars_5 8 rfl rfl)
theorem dJ23_getChars_127 : decode cJ23_getChars 127 = .ok (.aload_n 3, 1) := dk_45 (dk_at dksJ23_getChars_5 9 rfl rfl)
theorem dJ23_getChars_128 : decode cJ23_getChars 128 = .ok (.iinc 7 (-1), 3) := dk_132 7 255 (dk_at dksJ23_getChars_5 10 rfl rfl)
theorem dJ23_getChars_131 : decode cJ23_getChars 131 = .ok (.iload 7, 2) := dk_21 7 (dk_at dksJ23_getChars_5 13 rfl rfl)
theorem dJ23_getChars_133 : decode cJ23_getChars 133 = .ok (.getstatic 137, 3) := dk_178 0 137 (dk_at dksJ23_getChars_5 15 rfl rfl)
theorem dJ23_getChars_136 : decode cJ23_getChars 136 = .ok (.iload 6, 2) := dk_21 6 (dk_at dksJ23_getChars_5 18 rfl rfl)
theorem dJ23_getChars_138 : decode cJ23_getChars 138 = .ok (.baload, 1) := dk_51 (dk_at dksJ23_getChars_5 20 rfl rfl)
theorem dJ23_getChars_139 : decode cJ23_getChars 139 = .ok (.bastore, 1) := dk_84 (dk_at dksJ23_getChars_5 21 rfl rfl)
theorem dJ23_getChars_140 : decode cJ23_getChars 140 = .ok (.goto (-54), 3) := dk_167 255 202 (dk_at dksJ23_getChars_6 0 rfl rfl)
theorem dJ23_getChars_143 : decode cJ23_getChars 143 = .ok (.aload_n 3, 1) := dk_45 (dk_at dksJ23_getChars_6 3 rfl rfl)
theorem dJ23_getChars_144 : decode cJ23_getChars 144 = .ok (.iinc 7 (-1), 3) := dk_132 7 255 (dk_at dksJ23_getChars_6 4 rfl rfl)
theorem dJ23_getChars_147 : decode cJ23_getChars 147 = .ok (.iload 7, 2) := dk_21 7 (dk_at dksJ23_getChars_6 7 rfl rfl)
theorem dJ23_getChars_149 : decode cJ23_getChars 149 = .ok (.getstatic 133, 3) := dk_178 0 133 (dk_at dksJ23_getChars_6 9 rfl rfl)
theorem dJ23_getChars_152 : decode cJ23_getChars 152 = .ok (.iload 10, 2) := dk_21 10 (dk_at dksJ23_getChars_6 12 rfl rfl)
theorem dJ23_getChars_154 : decode cJ23_getChars 154 = .ok (.ineg, 1) := dk_116 (dk_at dksJ23_getChars_6 14 rfl rfl)
theorem dJ23_getChars_155 : decode cJ23_getChars 155 = .ok (.baload, 1) := dk_51 (dk_at dksJ23_getChars_6 15 rfl rfl)
theorem dJ23_getChars_156 : decode cJ23_getChars 156 = .ok (.bastore, 1) := dk_84 (dk_at dksJ23_getChars_6 16 rfl rfl)
theorem dJ23_getChars_157 : decode cJ23_getChars 157 = .ok (.iload 10, 2) := dk_21 10 (dk_at dksJ23_getChars_6 17 rfl rfl)
theorem dJ23_getChars_159 : decode cJ23_getChars 159 = .ok (.bipush (-9), 2) := dk_16 247 (dk_at dksJ23_getChars_6 19 rfl rfl)
theorem dJ23_getChars_161 : decode cJ23_getChars 161 = .ok (.if_icmp .ge 17, 3) := dk_162 0 17 (dk_at dksJ23_getChars_6 21 rfl rfl)
theorem dJ23_getChars_164 : decode cJ23_getChars 164 = .ok (.aload_n 3, 1) := dk_45 (dk_at dksJ23_getChars_7 0 rfl rfl)
theorem dJ23_getChars_165 : decode cJ23_getChars 165 = .ok (.iinc 7 (-1), 3) := dk_132 7 255 (dk_at dksJ23_getChars_7 1 rfl rfl)
theorem dJ23_getChars_168 : decode cJ23_getChars 168 = .ok (.iload 7, 2) := dk_21 7 (dk_at dksJ23_getChars_7 4 rfl rfl)
theorem dJ23_getChars_170 : decode cJ23_getChars 170 = .ok (.getstatic 137, 3) := dk_178 0 137 (dk_at dksJ23_getChars_7 6 rfl rfl)
theorem dJ23_getChars_173 : decode cJ23_getChars 173 = .ok (.iload 10, 2) := dk_21 10 (dk_at dksJ23_getChars_7 9 rfl rfl)
theorem dJ23_getChars_175 : decode cJ23_getChars 175 = .ok (.ineg, 1) := dk_116 (dk_at dksJ23_getChars_7 11 rfl rfl)
theorem dJ23_getChars_176 : decode cJ23_getChars 176 = .ok (.baload, 1) := dk_51 (dk_at dksJ23_getChars_7 12 rfl rfl)
theorem dJ23_getChars_177 : decode cJ23_getChars 177 = .ok (.bastore, 1) := dk_84 (dk_at dksJ23_getChars_7 13 rfl rfl)
theorem dJ23_getChars_178 : decode cJ23_getChars 178 = .ok (.iload 8, 2) := dk_21 8 (dk_at dksJ23_getChars_7 14 rfl rfl)
theorem dJ23_getChars_180 : decode cJ23_getChars 180 = .ok (.ifCond .eq 12, 3) := dk_153 0 12 (dk_at dksJ23_getChars_7 16 rfl rfl)
theorem dJ23_getChars_183 : decode cJ23_getChars 183 = .ok (.aload_n 3, 1) := dk_45 (dk_at dksJ23_getChars_7 19 rfl rfl)
theorem dJ23_getChars_184 : decode cJ23_getChars 184 = .ok (.iinc 7 (-1), 3) := dk_132 7 255 (dk_at dksJ23_getChars_7 20 rfl rfl)
theorem dJ23_getChars_187 : decode cJ23_getChars 187 = .ok (.iload 7, 2) := dk_21 7 (dk_at dksJ23_getChars_8 0 rfl rfl)
theorem dJ23_getChars_189 : decode cJ23_getChars 189 = .ok (.bipush 45, 2) := dk_16 45 (dk_at dksJ23_getChars_8 2 rfl rfl)
theorem dJ23_getChars_191 : decode cJ23_getChars 191 = .ok (.bastore, 1) := dk_84 (dk_at dksJ23_getChars_8 4 rfl rfl)
theorem dJ23_getChars_192 : decode cJ23_getChars 192 = .ok (.iload 7, 2) := dk_21 7 (dk_at dksJ23_getChars_8 5 rfl rfl)
theorem dJ23_getChars_194 : decode cJ23_getChars 194 = .ok (.ireturn, 1) := dk_172 (dk_at dksJ23_getChars_8 7 rfl rfl)
theorem q141 : (Jvm.Cond.initialized "java/lang/Long") ∈ lw_all := lw_g (lw_at lw_m1 43 rfl) rfl
theorem q2072 : (Jvm.Cond.static ({ cls := "java/lang/Long", name := "numberOfLeadingZeros", desc := "(J)I" } : Jvm.MethodName)) ∈ lw_all := lw_g (lw_at lw_m9 54 rfl) rfl
theorem q2073 : (Jvm.Cond.code ({ cls := "java/lang/Long", name := "numberOfLeadingZeros", desc := "(J)I" } : Jvm.MethodName) prog_37_method_48_code (3 : Nat) (Option.some Jvm.ClassFile.FieldType.int)) ∈ lw_all := lw_g (lw_at lw_m9 55 rfl) rfl
theorem q2074 : (Jvm.Cond.methodLink "java/lang/Long" (308 : Nat) ({ cls := "java/lang/Integer", name := "numberOfLeadingZeros", desc := "(I)I" } : Jvm.MethodName)) ∈ lw_all := lw_g (lw_at lw_m9 56 rfl) rfl
theorem q2081 : (Jvm.Cond.static ({ cls := "java/lang/Long", name := "numberOfTrailingZeros", desc := "(J)I" } : Jvm.MethodName)) ∈ lw_all := lw_g (lw_at lw_m9 63 rfl) rfl
theorem q2082 : (Jvm.Cond.code ({ cls := "java/lang/Long", name := "numberOfTrailingZeros", desc := "(J)I" } : Jvm.MethodName) prog_37_method_49_code (3 : Nat) (Option.some Jvm.ClassFile.FieldType.int)) ∈ lw_all := lw_g (lw_at lw_m9 64 rfl) rfl
theorem q2083 : (Jvm.Cond.methodLink "java/lang/Long" (311 : Nat) ({ cls := "java/lang/Integer", name := "numberOfTrailingZeros", desc := "(I)I" } : Jvm.MethodName)) ∈ lw_all := lw_g (lw_at lw_m9 65 rfl) rfl
theorem q2524 : (Jvm.Cond.static ({ cls := "java/lang/Long", name := "stringSize", desc := "(J)I" } : Jvm.MethodName)) ∈ lw_all := lw_g (lw_at lw_m11 26 rfl) rfl
theorem q2525 : (Jvm.Cond.code ({ cls := "java/lang/Long", name := "stringSize", desc := "(J)I" } : Jvm.MethodName) prog_37_method_15_code (6 : Nat) (Option.some Jvm.ClassFile.FieldType.int)) ∈ lw_all := lw_g (lw_at lw_m11 27 rfl) rfl
theorem q2526 : (Jvm.Cond.constantLong "java/lang/Long" (140 : Nat) (-10 : Int64)) ∈ lw_all := lw_g (lw_at lw_m11 28 rfl) rfl
theorem q2527 : (Jvm.Cond.constantLong "java/lang/Long" (53 : Nat) (10 : Int64)) ∈ lw_all := lw_g (lw_at lw_m11 29 rfl) rfl
theorem q2529 : (Jvm.Cond.static ({ cls := "java/lang/Long", name := "getChars", desc := "(JI[B)I" } : Jvm.MethodName)) ∈ lw_all := lw_g (lw_at lw_m11 31 rfl) rfl
theorem q2530 : (Jvm.Cond.code ({ cls := "java/lang/Long", name := "getChars", desc := "(JI[B)I" } : Jvm.MethodName) prog_37_method_14_code (11 : Nat) (Option.some Jvm.ClassFile.FieldType.int)) ∈ lw_all := lw_g (lw_at lw_m11 32 rfl) rfl
theorem q2531 : (Jvm.Cond.constantLong "java/lang/Long" (129 : Nat) (-2147483648 : Int64)) ∈ lw_all := lw_g (lw_at lw_m11 33 rfl) rfl
theorem q2532 : (Jvm.Cond.constantLong "java/lang/Long" (131 : Nat) (100 : Int64)) ∈ lw_all := lw_g (lw_at lw_m11 34 rfl) rfl
theorem q2533 : (Jvm.Cond.fieldLink "java/lang/Long" (133 : Nat) "java/lang/Integer" "DigitOnes" "[B") ∈ lw_all := lw_g (lw_at lw_m11 35 rfl) rfl
theorem q2534 : (Jvm.Cond.fieldLink "java/lang/Long" (137 : Nat) "java/lang/Integer" "DigitTens" "[B") ∈ lw_all := lw_g (lw_at lw_m11 36 rfl) rfl
/-! java/util/HashMap$Node -/
set_option maxRecDepth 100000
def RJ24 : String := "java/util/HashMap$Node"
abbrev cJ24_init : ByteArray := prog_61_method_1_code
def yJ24_init : MethodName := ⟨RJ24, "<init>", "(ILjava/lang/Object;Ljava/lang/Object;Ljava/util/HashMap$Node;)V"⟩
def dkwJ24_init_1 : List UInt8 := [181, 0, 20, 177]
abbrev dktJ24_init_1 : List UInt8 := dkwJ24_init_1 ++ []
def dkwJ24_init_0 : List UInt8 := [42, 183, 0, 1, 42, 27, 181, 0, 7, 42, 44, 181, 0, 13, 42, 45, 181, 0, 17, 42, 25, 4]
abbrev dktJ24_init_0 : List UInt8 := dkwJ24_init_0 ++ dktJ24_init_1
theorem dksJ24_init_0 : cJ24_init.data.toList.drop 0 = dktJ24_init_0 := by decide +kernel
theorem dksJ24_init_1 : cJ24_init.data.toList.drop 22 = dktJ24_init_1 := dk_seg dksJ24_init_0 22 rfl rfl
theorem dJ24_init_0 : decode cJ24_init 0 = .ok (.aload_n 0, 1) := dk_42 (dk_at dksJ24_init_0 0 rfl rfl)
theorem dJ24_init_1 : decode cJ24_init 1 = .ok (.invokespecial 1, 3) := dk_183 0 1 (dk_at dksJ24_init_0 1 rfl rfl)
theorem dJ24_init_4 : decode cJ24_init 4 = .ok (.aload_n 0, 1) := dk_42 (dk_at dksJ24_init_0 4 rfl rfl)
theorem dJ24_init_5 : decode cJ24_init 5 = .ok (.iload_n 1, 1) := dk_27 (dk_at dksJ24_init_0 5 rfl rfl)
theorem dJ24_init_6 : decode cJ24_init 6 = .ok (.putfield 7, 3) := dk_181 0 7 (dk_at dksJ24_init_0 6 rfl rfl)
theorem dJ24_init_9 : decode cJ24_init 9 = .ok (.aload_n 0, 1) := dk_42 (dk_at dksJ24_init_0 9 rfl rfl)
theorem dJ24_init_10 : decode cJ24_init 10 = .ok (.aload_n 2, 1) := dk_44 (dk_at dksJ24_init_0 10 rfl rfl)
theorem dJ24_init_11 : decode cJ24_init 11 = .ok (.putfield 13, 3) := dk_181 0 13 (dk_at dksJ24_init_0 11 rfl rfl)
theorem dJ24_init_14 : decode cJ24_init 14 = .ok (.aload_n 0, 1) := dk_42 (dk_at dksJ24_init_0 14 rfl rfl)
theorem dJ24_init_15 : decode cJ24_init 15 = .ok (.aload_n 3, 1) := dk_45 (dk_at dksJ24_init_0 15 rfl rfl)
theorem dJ24_init_16 : decode cJ24_init 16 = .ok (.putfield 17, 3) := dk_181 0 17 (dk_at dksJ24_init_0 16 rfl rfl)
theorem dJ24_init_19 : decode cJ24_init 19 = .ok (.aload_n 0, 1) := dk_42 (dk_at dksJ24_init_0 19 rfl rfl)
theorem dJ24_init_20 : decode cJ24_init 20 = .ok (.aload 4, 2) := dk_25 4 (dk_at dksJ24_init_0 20 rfl rfl)
theorem dJ24_init_22 : decode cJ24_init 22 = .ok (.putfield 20, 3) := dk_181 0 20 (dk_at dksJ24_init_1 0 rfl rfl)
theorem dJ24_init_25 : decode cJ24_init 25 = .ok (.return_, 1) := dk_177 (dk_at dksJ24_init_1 3 rfl rfl)
abbrev cJ24_getKey : ByteArray := prog_61_method_2_code
def yJ24_getKey : MethodName := ⟨RJ24, "getKey", "()Ljava/lang/Object;"⟩
theorem dJ24_getKey_0 : decode cJ24_getKey 0 = .ok (.aload_n 0, 1) := by decide +kernel
theorem dJ24_getKey_1 : decode cJ24_getKey 1 = .ok (.getfield 13, 3) := by decide +kernel
theorem dJ24_getKey_4 : decode cJ24_getKey 4 = .ok (.areturn, 1) := by decide +kernel
abbrev cJ24_getValue : ByteArray := prog_61_method_3_code
def yJ24_getValue : MethodName := ⟨RJ24, "getValue", "()Ljava/lang/Object;"⟩
theorem dJ24_getValue_0 : decode cJ24_getValue 0 = .ok (.aload_n 0, 1) := by decide +kernel
theorem dJ24_getValue_1 : decode cJ24_getValue 1 = .ok (.getfield 17, 3) := by decide +kernel
theorem dJ24_getValue_4 : decode cJ24_getValue 4 = .ok (.areturn, 1) := by decide +kernel
theorem q143 : (Jvm.Cond.initialized "java/util/HashMap$Node") ∈ lw_all := lw_g (lw_at lw_m1 45 rfl) rfl
theorem q827 : (Jvm.Cond.selects "java/util/HashMap$Node" ({ cls := "java/lang/Object", name := "getClass", desc := "()Ljava/lang/Class;" } : Jvm.MethodName) ({ cls := "java/lang/Object", name := "getClass", desc := "()Ljava/lang/Class;" } : Jvm.MethodName)) ∈ lw_all := lw_g (lw_at lw_m4 9 rfl) rfl
theorem q2222 : (Jvm.Cond.instanceMethod ({ cls := "java/util/HashMap$Node", name := "<init>", desc := "(ILjava/lang/Object;Ljava/lang/Object;Ljava/util/HashMap$Node;)V" } : Jvm.MethodName)) ∈ lw_all := lw_g (lw_at lw_m9 204 rfl) rfl
theorem q2223 : (Jvm.Cond.code ({ cls := "java/util/HashMap$Node", name := "<init>", desc := "(ILjava/lang/Object;Ljava/lang/Object;Ljava/util/HashMap$Node;)V" } : Jvm.MethodName) prog_61_method_1_code (5 : Nat) (Option.none : Option Jvm.ClassFile.FieldType)) ∈ lw_all := lw_g (lw_at lw_m9 205 rfl) rfl
theorem q2224 : (Jvm.Cond.methodLink "java/util/HashMap$Node" (1 : Nat) ({ cls := "java/lang/Object", name := "<init>", desc := "()V" } : Jvm.MethodName)) ∈ lw_all := lw_g (lw_at lw_m9 206 rfl) rfl
theorem q2229 : (Jvm.Cond.fieldLink "java/util/HashMap$Node" (7 : Nat) "java/util/HashMap$Node" "hash" "I") ∈ lw_all := lw_g (lw_at lw_m9 211 rfl) rfl
theorem q2235 : (Jvm.Cond.fieldLink "java/util/HashMap$Node" (13 : Nat) "java/util/HashMap$Node" "key" "Ljava/lang/Object;") ∈ lw_all := lw_g (lw_at lw_m9 217 rfl) rfl
theorem q2241 : (Jvm.Cond.fieldLink "java/util/HashMap$Node" (17 : Nat) "java/util/HashMap$Node" "value" "Ljava/lang/Object;") ∈ lw_all := lw_g (lw_at lw_m9 223 rfl) rfl
theorem q2246 : (Jvm.Cond.fieldLink "java/util/HashMap$Node" (20 : Nat) "java/util/HashMap$Node" "next" "Ljava/util/HashMap$Node;") ∈ lw_all := lw_g (lw_at lw_m9 228 rfl) rfl
theorem q2257 : (Jvm.Cond.soleField "java/util/HashMap$Node" "hash") ∈ lw_all := lw_g (lw_at lw_m9 239 rfl) rfl
theorem q2259 : (Jvm.Cond.soleField "java/util/HashMap$Node" "key") ∈ lw_all := lw_g (lw_at lw_m10 1 rfl) rfl
theorem q2261 : (Jvm.Cond.soleField "java/util/HashMap$Node" "value") ∈ lw_all := lw_g (lw_at lw_m10 3 rfl) rfl
theorem q2263 : (Jvm.Cond.soleField "java/util/HashMap$Node" "next") ∈ lw_all := lw_g (lw_at lw_m10 5 rfl) rfl
theorem q2455 : (Jvm.Cond.castable "java/util/HashMap$Node" "java/util/Map$Entry") ∈ lw_tbl := lw_at lw_m10 197 rfl
theorem q2456 : (Jvm.Cond.selects "java/util/HashMap$Node" ({ cls := "java/util/Map$Entry", name := "getKey", desc := "()Ljava/lang/Object;" } : Jvm.MethodName) ({ cls := "java/util/HashMap$Node", name := "getKey", desc := "()Ljava/lang/Object;" } : Jvm.MethodName)) ∈ lw_all := lw_g (lw_at lw_m10 198 rfl) rfl
theorem q2457 : (Jvm.Cond.unhidden "java/util/HashMap$Node" "getKey" "()Ljava/lang/Object;") ∈ lw_tbl := lw_at lw_m10 199 rfl
theorem q2458 : (Jvm.Cond.instanceMethod ({ cls := "java/util/HashMap$Node", name := "getKey", desc := "()Ljava/lang/Object;" } : Jvm.MethodName)) ∈ lw_all := lw_g (lw_at lw_m10 200 rfl) rfl
theorem q2459 : (Jvm.Cond.publicMethod ({ cls := "java/util/HashMap$Node", name := "getKey", desc := "()Ljava/lang/Object;" } : Jvm.MethodName)) ∈ lw_tbl := lw_at lw_m10 201 rfl
theorem q2460 : (Jvm.Cond.code ({ cls := "java/util/HashMap$Node", name := "getKey", desc := "()Ljava/lang/Object;" } : Jvm.MethodName) prog_61_method_2_code (1 : Nat) (Option.some (Jvm.ClassFile.FieldType.object "java/lang/Object"))) ∈ lw_all := lw_g (lw_at lw_m10 202 rfl) rfl
theorem q2471 : (Jvm.Cond.selects "java/util/HashMap$Node" ({ cls := "java/util/Map$Entry", name := "getValue", desc := "()Ljava/lang/Object;" } : Jvm.MethodName) ({ cls := "java/util/HashMap$Node", name := "getValue", desc := "()Ljava/lang/Object;" } : Jvm.MethodName)) ∈ lw_all := lw_g (lw_at lw_m10 213 rfl) rfl
theorem q2472 : (Jvm.Cond.unhidden "java/util/HashMap$Node" "getValue" "()Ljava/lang/Object;") ∈ lw_tbl := lw_at lw_m10 214 rfl
theorem q2473 : (Jvm.Cond.instanceMethod ({ cls := "java/util/HashMap$Node", name := "getValue", desc := "()Ljava/lang/Object;" } : Jvm.MethodName)) ∈ lw_all := lw_g (lw_at lw_m10 215 rfl) rfl
theorem q2474 : (Jvm.Cond.publicMethod ({ cls := "java/util/HashMap$Node", name := "getValue", desc := "()Ljava/lang/Object;" } : Jvm.MethodName)) ∈ lw_tbl := lw_at lw_m10 216 rfl
theorem q2475 : (Jvm.Cond.code ({ cls := "java/util/HashMap$Node", name := "getValue", desc := "()Ljava/lang/Object;" } : Jvm.MethodName) prog_61_method_3_code (1 : Nat) (Option.some (Jvm.ClassFile.FieldType.object "java/lang/Object"))) ∈ lw_all := lw_g (lw_at lw_m10 217 rfl) rfl
theorem q3387 : (Jvm.Cond.castable "java/util/HashMap$Node" "java/lang/Object") ∈ lw_tbl := lw_at lw_m14 169 rfl
/-! java/util/LinkedHashMap$Entry -/
set_option maxRecDepth 100000
def RJ25 : String := "java/util/LinkedHashMap$Entry"
def TJ25 : u_T := fun k => match k with
  | 0 => ("java/util/HashMap$Node", "hash", "I", true)
  | 1 => ("java/util/HashMap$Node", "key", "Ljava/lang/Object;", true)
  | 2 => ("java/util/HashMap$Node", "value", "Ljava/lang/Object;", false)
  | 3 => ("java/util/HashMap$Node", "next", "Ljava/util/HashMap$Node;", false)
  | 4 => ("java/util/LinkedHashMap$Entry", "before", "Ljava/util/LinkedHashMap$Entry;", false)
  | _ => ("java/util/LinkedHashMap$Entry", "after", "Ljava/util/LinkedHashMap$Entry;", false)
def tyJ25 : Nat → FieldType := fun k => match k with
  | 0 => .int
  | 1 => .object "java/lang/Object"
  | 2 => .object "java/lang/Object"
  | 3 => .object "java/util/HashMap$Node"
  | 4 => .object "java/util/LinkedHashMap$Entry"
  | _ => .object "java/util/LinkedHashMap$Entry"
abbrev wsJ250 : List Cond := u_ws RJ25 TJ25 6
theorem nmJ25 : ∀ a, a < 6 → ∀ b, b < 6 → a ≠ b → (TJ25 a).2.1 ≠ (TJ25 b).2.1 := by decide +kernel
theorem tyJ25_ok : ∀ k, k < 6 → parseFieldDescriptor (TJ25 k).2.2.1 = some (tyJ25 k) := by decide +kernel
abbrev cJ25_init : ByteArray := prog_65_method_1_code
def yJ25_init : MethodName := ⟨RJ25, "<init>", "(ILjava/lang/Object;Ljava/lang/Object;Ljava/util/HashMap$Node;)V"⟩
def dkwJ25_init_0 : List UInt8 := [42, 27, 44, 45, 25, 4, 183, 0, 1, 177]
abbrev dktJ25_init_0 : List UInt8 := dkwJ25_init_0 ++ []
theorem dksJ25_init_0 : cJ25_init.data.toList.drop 0 = dktJ25_init_0 := by decide +kernel
theorem dJ25_init_0 : decode cJ25_init 0 = .ok (.aload_n 0, 1) := dk_42 (dk_at dksJ25_init_0 0 rfl rfl)
theorem dJ25_init_1 : decode cJ25_init 1 = .ok (.iload_n 1, 1) := dk_27 (dk_at dksJ25_init_0 1 rfl rfl)
theorem dJ25_init_2 : decode cJ25_init 2 = .ok (.aload_n 2, 1) := dk_44 (dk_at dksJ25_init_0 2 rfl rfl)
theorem dJ25_init_3 : decode cJ25_init 3 = .ok (.aload_n 3, 1) := dk_45 (dk_at dksJ25_init_0 3 rfl rfl)
theorem dJ25_init_4 : decode cJ25_init 4 = .ok (.aload 4, 2) := dk_25 4 (dk_at dksJ25_init_0 4 rfl rfl)
theorem dJ25_init_6 : decode cJ25_init 6 = .ok (.invokespecial 1, 3) := dk_183 0 1 (dk_at dksJ25_init_0 6 rfl rfl)
theorem dJ25_init_9 : decode cJ25_init 9 = .ok (.return_, 1) := dk_177 (dk_at dksJ25_init_0 9 rfl rfl)
theorem q144 : (Jvm.Cond.initialized "java/util/LinkedHashMap$Entry") ∈ lw_all := lw_g (lw_at lw_m1 46 rfl) rfl
theorem q830 : (Jvm.Cond.selects "java/util/LinkedHashMap$Entry" ({ cls := "java/lang/Object", name := "getClass", desc := "()Ljava/lang/Class;" } : Jvm.MethodName) ({ cls := "java/lang/Object", name := "getClass", desc := "()Ljava/lang/Class;" } : Jvm.MethodName)) ∈ lw_all := lw_g (lw_at lw_m4 12 rfl) rfl
theorem q2217 : (Jvm.Cond.instantiable "java/util/LinkedHashMap$Entry" (6 : Nat)) ∈ lw_all := lw_g (lw_at lw_m9 199 rfl) rfl
theorem q2219 : (Jvm.Cond.instanceMethod ({ cls := "java/util/LinkedHashMap$Entry", name := "<init>", desc := "(ILjava/lang/Object;Ljava/lang/Object;Ljava/util/HashMap$Node;)V" } : Jvm.MethodName)) ∈ lw_all := lw_g (lw_at lw_m9 201 rfl) rfl
theorem q2220 : (Jvm.Cond.code ({ cls := "java/util/LinkedHashMap$Entry", name := "<init>", desc := "(ILjava/lang/Object;Ljava/lang/Object;Ljava/util/HashMap$Node;)V" } : Jvm.MethodName) prog_65_method_1_code (5 : Nat) (Option.none : Option Jvm.ClassFile.FieldType)) ∈ lw_all := lw_g (lw_at lw_m9 202 rfl) rfl
theorem q2221 : (Jvm.Cond.methodLink "java/util/LinkedHashMap$Entry" (1 : Nat) ({ cls := "java/util/HashMap$Node", name := "<init>", desc := "(ILjava/lang/Object;Ljava/lang/Object;Ljava/util/HashMap$Node;)V" } : Jvm.MethodName)) ∈ lw_all := lw_g (lw_at lw_m9 203 rfl) rfl
theorem q2233 : (Jvm.Cond.sameField "java/util/LinkedHashMap$Entry" "java/util/HashMap$Node" "hash" "I") ∈ lw_all := lw_g (lw_at lw_m9 215 rfl) rfl
theorem q2239 : (Jvm.Cond.sameField "java/util/LinkedHashMap$Entry" "java/util/HashMap$Node" "key" "Ljava/lang/Object;") ∈ lw_all := lw_g (lw_at lw_m9 221 rfl) rfl
theorem q2243 : (Jvm.Cond.sameField "java/util/LinkedHashMap$Entry" "java/util/HashMap$Node" "value" "Ljava/lang/Object;") ∈ lw_all := lw_g (lw_at lw_m9 225 rfl) rfl
theorem q2252 : (Jvm.Cond.lays "java/util/LinkedHashMap$Entry" "java/util/LinkedHashMap$Entry" "before" "Ljava/util/LinkedHashMap$Entry;") ∈ lw_all := lw_g (lw_at lw_m9 234 rfl) rfl
theorem q2253 : (Jvm.Cond.soleField "java/util/LinkedHashMap$Entry" "before") ∈ lw_all := lw_g (lw_at lw_m9 235 rfl) rfl
theorem q2254 : (Jvm.Cond.lays "java/util/LinkedHashMap$Entry" "java/util/LinkedHashMap$Entry" "after" "Ljava/util/LinkedHashMap$Entry;") ∈ lw_all := lw_g (lw_at lw_m9 236 rfl) rfl
theorem q2255 : (Jvm.Cond.soleField "java/util/LinkedHashMap$Entry" "after") ∈ lw_all := lw_g (lw_at lw_m9 237 rfl) rfl
theorem q2256 : (Jvm.Cond.laysFinal "java/util/LinkedHashMap$Entry" "java/util/HashMap$Node" "hash" "I") ∈ lw_all := lw_g (lw_at lw_m9 238 rfl) rfl
theorem q2258 : (Jvm.Cond.laysFinal "java/util/LinkedHashMap$Entry" "java/util/HashMap$Node" "key" "Ljava/lang/Object;") ∈ lw_all := lw_g (lw_at lw_m10 0 rfl) rfl
theorem q2260 : (Jvm.Cond.lays "java/util/LinkedHashMap$Entry" "java/util/HashMap$Node" "value" "Ljava/lang/Object;") ∈ lw_all := lw_g (lw_at lw_m10 2 rfl) rfl
theorem q2262 : (Jvm.Cond.lays "java/util/LinkedHashMap$Entry" "java/util/HashMap$Node" "next" "Ljava/util/HashMap$Node;") ∈ lw_all := lw_g (lw_at lw_m10 4 rfl) rfl
theorem q2264 : (Jvm.Cond.superclass "java/util/LinkedHashMap$Entry" "java/util/HashMap$Node") ∈ lw_all := lw_g (lw_at lw_m10 6 rfl) rfl
theorem q2464 : (Jvm.Cond.castable "java/util/LinkedHashMap$Entry" "java/util/Map$Entry") ∈ lw_tbl := lw_at lw_m10 206 rfl
theorem q2465 : (Jvm.Cond.selects "java/util/LinkedHashMap$Entry" ({ cls := "java/util/Map$Entry", name := "getKey", desc := "()Ljava/lang/Object;" } : Jvm.MethodName) ({ cls := "java/util/HashMap$Node", name := "getKey", desc := "()Ljava/lang/Object;" } : Jvm.MethodName)) ∈ lw_all := lw_g (lw_at lw_m10 207 rfl) rfl
theorem q2466 : (Jvm.Cond.unhidden "java/util/LinkedHashMap$Entry" "getKey" "()Ljava/lang/Object;") ∈ lw_tbl := lw_at lw_m10 208 rfl
theorem q2478 : (Jvm.Cond.selects "java/util/LinkedHashMap$Entry" ({ cls := "java/util/Map$Entry", name := "getValue", desc := "()Ljava/lang/Object;" } : Jvm.MethodName) ({ cls := "java/util/HashMap$Node", name := "getValue", desc := "()Ljava/lang/Object;" } : Jvm.MethodName)) ∈ lw_all := lw_g (lw_at lw_m10 220 rfl) rfl
theorem q2479 : (Jvm.Cond.unhidden "java/util/LinkedHashMap$Entry" "getValue" "()Ljava/lang/Object;") ∈ lw_tbl := lw_at lw_m10 221 rfl
theorem q3414 : (Jvm.Cond.castable "java/util/LinkedHashMap$Entry" "java/lang/Object") ∈ lw_tbl := lw_at lw_m14 196 rfl
theorem q3422 : (Jvm.Cond.castable "java/util/LinkedHashMap$Entry" "java/util/HashMap$Node") ∈ lw_tbl := lw_at lw_m14 204 rfl
theorem in_J25 : ∀ w ∈ wsJ250, w ∈ lw_all := lw_in wsJ250 [2256, 2258, 2260, 2262, 2252, 2254] (by decide +kernel) (by decide +kernel)
/-! java/util/HashMap$TreeNode -/
set_option maxRecDepth 100000
def RJ26 : String := "java/util/HashMap$TreeNode"
def TJ26 : u_T := fun k => match k with
  | 0 => ("java/util/HashMap$Node", "hash", "I", true)
  | 1 => ("java/util/HashMap$Node", "key", "Ljava/lang/Object;", true)
  | 2 => ("java/util/HashMap$Node", "value", "Ljava/lang/Object;", false)
  | 3 => ("java/util/HashMap$Node", "next", "Ljava/util/HashMap$Node;", false)
  | 4 => ("java/util/LinkedHashMap$Entry", "before", "Ljava/util/LinkedHashMap$Entry;", false)
  | 5 => ("java/util/LinkedHashMap$Entry", "after", "Ljava/util/LinkedHashMap$Entry;", false)
  | 6 => ("java/util/HashMap$TreeNode", "parent", "Ljava/util/HashMap$TreeNode;", false)
  | 7 => ("java/util/HashMap$TreeNode", "left", "Ljava/util/HashMap$TreeNode;", false)
  | 8 => ("java/util/HashMap$TreeNode", "right", "Ljava/util/HashMap$TreeNode;", false)
  | 9 => ("java/util/HashMap$TreeNode", "prev", "Ljava/util/HashMap$TreeNode;", false)
  | _ => ("java/util/HashMap$TreeNode", "red", "Z", false)
def tyJ26 : Nat → FieldType := fun k => match k with
  | 0 => .int
  | 1 => .object "java/lang/Object"
  | 2 => .object "java/lang/Object"
  | 3 => .object "java/util/HashMap$Node"
  | 4 => .object "java/util/LinkedHashMap$Entry"
  | 5 => .object "java/util/LinkedHashMap$Entry"
  | 6 => .object "java/util/HashMap$TreeNode"
  | 7 => .object "java/util/HashMap$TreeNode"
  | 8 => .object "java/util/HashMap$TreeNode"
  | 9 => .object "java/util/HashMap$TreeNode"
  | _ => .boolean
abbrev wsJ260 : List Cond := u_ws RJ26 TJ26 11
theorem nmJ26 : ∀ a, a < 11 → ∀ b, b < 11 → a ≠ b → (TJ26 a).2.1 ≠ (TJ26 b).2.1 := by decide +kernel
theorem tyJ26_ok : ∀ k, k < 11 → parseFieldDescriptor (TJ26 k).2.2.1 = some (tyJ26 k) := by decide +kernel
abbrev cJ26_getTreeNode : ByteArray := prog_62_method_5_code
def yJ26_getTreeNode : MethodName := ⟨RJ26, "getTreeNode", "(ILjava/lang/Object;)Ljava/util/HashMap$TreeNode;"⟩
def dkwJ26_getTreeNode_0 : List UInt8 := [42, 180, 0, 9, 198, 0, 10, 42, 182, 0, 67, 167, 0, 4, 42, 27, 44, 1, 182, 0, 63, 176]
abbrev dktJ26_getTreeNode_0 : List UInt8 := dkwJ26_getTreeNode_0 ++ []
theorem dksJ26_getTreeNode_0 : cJ26_getTreeNode.data.toList.drop 0 = dktJ26_getTreeNode_0 := by decide +kernel
theorem dJ26_getTreeNode_0 : decode cJ26_getTreeNode 0 = .ok (.aload_n 0, 1) := dk_42 (dk_at dksJ26_getTreeNode_0 0 rfl rfl)
theorem dJ26_getTreeNode_1 : decode cJ26_getTreeNode 1 = .ok (.getfield 9, 3) := dk_180 0 9 (dk_at dksJ26_getTreeNode_0 1 rfl rfl)
theorem dJ26_getTreeNode_4 : decode cJ26_getTreeNode 4 = .ok (.ifnull 10, 3) := dk_198 0 10 (dk_at dksJ26_getTreeNode_0 4 rfl rfl)
theorem dJ26_getTreeNode_7 : decode cJ26_getTreeNode 7 = .ok (.aload_n 0, 1) := dk_42 (dk_at dksJ26_getTreeNode_0 7 rfl rfl)
theorem dJ26_getTreeNode_8 : decode cJ26_getTreeNode 8 = .ok (.invokevirtual 67, 3) := dk_182 0 67 (dk_at dksJ26_getTreeNode_0 8 rfl rfl)
theorem dJ26_getTreeNode_11 : decode cJ26_getTreeNode 11 = .ok (.goto 4, 3) := dk_167 0 4 (dk_at dksJ26_getTreeNode_0 11 rfl rfl)
theorem dJ26_getTreeNode_14 : decode cJ26_getTreeNode 14 = .ok (.aload_n 0, 1) := dk_42 (dk_at dksJ26_getTreeNode_0 14 rfl rfl)
theorem dJ26_getTreeNode_15 : decode cJ26_getTreeNode 15 = .ok (.iload_n 1, 1) := dk_27 (dk_at dksJ26_getTreeNode_0 15 rfl rfl)
theorem dJ26_getTreeNode_16 : decode cJ26_getTreeNode 16 = .ok (.aload_n 2, 1) := dk_44 (dk_at dksJ26_getTreeNode_0 16 rfl rfl)
theorem dJ26_getTreeNode_17 : decode cJ26_getTreeNode 17 = .ok (.aconst_null, 1) := dk_1 (dk_at dksJ26_getTreeNode_0 17 rfl rfl)
theorem dJ26_getTreeNode_18 : decode cJ26_getTreeNode 18 = .ok (.invokevirtual 63, 3) := dk_182 0 63 (dk_at dksJ26_getTreeNode_0 18 rfl rfl)
theorem dJ26_getTreeNode_21 : decode cJ26_getTreeNode 21 = .ok (.areturn, 1) := dk_176 (dk_at dksJ26_getTreeNode_0 21 rfl rfl)
abbrev cJ26_root : ByteArray := prog_62_method_2_code
def yJ26_root : MethodName := ⟨RJ26, "root", "()Ljava/util/HashMap$TreeNode;"⟩
def dkwJ26_root_0 : List UInt8 := [42, 76, 43, 180, 0, 9, 89, 77, 199, 0, 5, 43, 176, 44, 76, 167, 255, 243]
abbrev dktJ26_root_0 : List UInt8 := dkwJ26_root_0 ++ []
theorem dksJ26_root_0 : cJ26_root.data.toList.drop 0 = dktJ26_root_0 := by decide +kernel
theorem dJ26_root_0 : decode cJ26_root 0 = .ok (.aload_n 0, 1) := dk_42 (dk_at dksJ26_root_0 0 rfl rfl)
theorem dJ26_root_1 : decode cJ26_root 1 = .ok (.astore_n 1, 1) := dk_76 (dk_at dksJ26_root_0 1 rfl rfl)
theorem dJ26_root_2 : decode cJ26_root 2 = .ok (.aload_n 1, 1) := dk_43 (dk_at dksJ26_root_0 2 rfl rfl)
theorem dJ26_root_3 : decode cJ26_root 3 = .ok (.getfield 9, 3) := dk_180 0 9 (dk_at dksJ26_root_0 3 rfl rfl)
theorem dJ26_root_6 : decode cJ26_root 6 = .ok (.dup, 1) := dk_89 (dk_at dksJ26_root_0 6 rfl rfl)
theorem dJ26_root_7 : decode cJ26_root 7 = .ok (.astore_n 2, 1) := dk_77 (dk_at dksJ26_root_0 7 rfl rfl)
theorem dJ26_root_8 : decode cJ26_root 8 = .ok (.ifnonnull 5, 3) := dk_199 0 5 (dk_at dksJ26_root_0 8 rfl rfl)
theorem dJ26_root_11 : decode cJ26_root 11 = .ok (.aload_n 1, 1) := dk_43 (dk_at dksJ26_root_0 11 rfl rfl)
theorem dJ26_root_12 : decode cJ26_root 12 = .ok (.areturn, 1) := dk_176 (dk_at dksJ26_root_0 12 rfl rfl)
theorem dJ26_root_13 : decode cJ26_root 13 = .ok (.aload_n 2, 1) := dk_44 (dk_at dksJ26_root_0 13 rfl rfl)
theorem dJ26_root_14 : decode cJ26_root 14 = .ok (.astore_n 1, 1) := dk_76 (dk_at dksJ26_root_0 14 rfl rfl)
theorem dJ26_root_15 : decode cJ26_root 15 = .ok (.goto (-13), 3) := dk_167 255 243 (dk_at dksJ26_root_0 15 rfl rfl)
abbrev cJ26_find : ByteArray := prog_62_method_4_code
def yJ26_find : MethodName := ⟨RJ26, "find", "(ILjava/lang/Object;Ljava/lang/Class;)Ljava/util/HashMap$TreeNode;"⟩
def dkwJ26_find_7 : List UInt8 := [58, 4, 25, 4, 199, 255, 92, 1, 176]
abbrev dktJ26_find_7 : List UInt8 := dkwJ26_find_7 ++ []
def dkwJ26_find_6 : List UInt8 := [58, 4, 167, 0, 24, 25, 9, 27, 44, 45, 182, 0, 63, 89, 58, 10, 198, 0, 6, 25, 10, 176, 25, 8]
abbrev dktJ26_find_6 : List UInt8 := dkwJ26_find_6 ++ dktJ26_find_7
def dkwJ26_find_5 : List UInt8 := [44, 25, 7, 184, 0, 59, 89, 54, 6, 153, 0, 20, 21, 6, 156, 0, 8, 25, 8, 167, 0, 5, 25, 9]
abbrev dktJ26_find_5 : List UInt8 := dkwJ26_find_5 ++ dktJ26_find_6
def dkwJ26_find_4 : List UInt8 := [199, 0, 10, 25, 8, 58, 4, 167, 0, 67, 45, 199, 0, 12, 44, 184, 0, 55, 89, 78, 198, 0, 33, 45]
abbrev dktJ26_find_4 : List UInt8 := dkwJ26_find_4 ++ dktJ26_find_5
def dkwJ26_find_3 : List UInt8 := [182, 0, 49, 153, 0, 6, 25, 4, 176, 25, 8, 199, 0, 10, 25, 9, 58, 4, 167, 0, 79, 25, 9]
abbrev dktJ26_find_3 : List UInt8 := dkwJ26_find_3 ++ dktJ26_find_4
def dkwJ26_find_2 : List UInt8 := [167, 0, 119, 25, 4, 180, 0, 45, 89, 58, 7, 44, 165, 0, 16, 44, 198, 0, 15, 44, 25, 7]
abbrev dktJ26_find_2 : List UInt8 := dkwJ26_find_2 ++ dktJ26_find_3
def dkwJ26_find_1 : List UInt8 := [54, 5, 27, 164, 0, 10, 25, 8, 58, 4, 167, 0, 132, 21, 5, 27, 162, 0, 10, 25, 9, 58, 4]
abbrev dktJ26_find_1 : List UInt8 := dkwJ26_find_1 ++ dktJ26_find_2
def dkwJ26_find_0 : List UInt8 := [42, 58, 4, 25, 4, 180, 0, 39, 58, 8, 25, 4, 180, 0, 42, 58, 9, 25, 4, 180, 0, 15, 89]
abbrev dktJ26_find_0 : List UInt8 := dkwJ26_find_0 ++ dktJ26_find_1
theorem dksJ26_find_0 : cJ26_find.data.toList.drop 0 = dktJ26_find_0 := by decide +kernel
theorem dksJ26_find_1 : cJ26_find.data.toList.drop 23 = dktJ26_find_1 := dk_seg dksJ26_find_0 23 rfl rfl
theorem dksJ26_find_2 : cJ26_find.data.toList.drop 46 = dktJ26_find_2 := dk_seg dksJ26_find_1 23 rfl rfl
theorem dksJ26_find_3 : cJ26_find.data.toList.drop 68 = dktJ26_find_3 := dk_seg dksJ26_find_2 22 rfl rfl
theorem dksJ26_find_4 : cJ26_find.data.toList.drop 91 = dktJ26_find_4 := dk_seg dksJ26_find_3 23 rfl rfl
theorem dksJ26_find_5 : cJ26_find.data.toList.drop 115 = dktJ26_find_5 := dk_seg dksJ26_find_4 24 rfl rfl
theorem dksJ26_find_6 : cJ26_find.data.toList.drop 139 = dktJ26_find_6 := dk_seg dksJ26_find_5 24 rfl rfl
theorem dksJ26_find_7 : cJ26_find.data.toList.drop 163 = dktJ26_find_7 := dk_seg dksJ26_find_6 24 rfl rfl
theorem dJ26_find_0 : decode cJ26_find 0 = .ok (.aload_n 0, 1) := dk_42 (dk_at dksJ26_find_0 0 rfl rfl)
theorem dJ26_find_1 : decode cJ26_find 1 = .ok (.astore 4, 2) := dk_58 4 (dk_at dksJ26_find_0 1 rfl rfl)
theorem dJ26_find_3 : decode cJ26_find 3 = .ok (.aload 4, 2) := dk_25 4 (dk_at dksJ26_find_0 3 rfl rfl)
theorem dJ26_find_5 : decode cJ26_find 5 = .ok (.getfield 39, 3) := dk_180 0 39 (dk_at dksJ26_find_0 5 rfl rfl)
theorem dJ26_find_8 : decode cJ26_find 8 = .ok (.astore 8, 2) := dk_58 8 (dk_at dksJ26_find_0 8 rfl rfl)
theorem dJ26_find_10 : decode cJ26_find 10 = .ok (.aload 4, 2) := dk_25 4 (dk_at dksJ26_find_0 10 rfl rfl)
theorem dJ26_find_12 : decode cJ26_find 12 = .ok (.getfield 42, 3) := dk_180 0 42 (dk_at dksJ26_find_0 12 rfl rfl)
theorem dJ26_find_15 : decode cJ26_find 15 = .ok (.astore 9, 2) := dk_58 9 (dk_at dksJ26_find_0 15 rfl rfl)
theorem dJ26_find_17 : decode cJ26_find 17 = .ok (.aload 4, 2) := dk_25 4 (dk_at dksJ26_find_0 17 rfl rfl)
theorem dJ26_find_19 : decode cJ26_find 19 = .ok (.getfield 15, 3) := dk_180 0 15 (dk_at dksJ26_find_0 19 rfl rfl)
theorem dJ26_find_22 : decode cJ26_find 22 = .ok (.dup, 1) := dk_89 (dk_at dksJ26_find_0 22 rfl rfl)
theorem dJ26_find_23 : decode cJ26_find 23 = .ok (.istore 5, 2) := dk_54 5 (dk_at dksJ26_find_1 0 rfl rfl)
theorem dJ26_find_25 : decode cJ26_find 25 = .ok (.iload_n 1, 1) := dk_27 (dk_at dksJ26_find_1 2 rfl rfl)
theorem dJ26_find_26 : decode cJ26_find 26 = .ok (.if_icmp .le 10, 3) := dk_164 0 10 (dk_at dksJ26_find_1 3 rfl rfl)
theorem dJ26_find_29 : decode cJ26_find 29 = .ok (.aload 8, 2) := dk_25 8 (dk_at dksJ26_find_1 6 rfl rfl)
theorem dJ26_find_31 : decode cJ26_find 31 = .ok (.astore 4, 2) := dk_58 4 (dk_at dksJ26_find_1 8 rfl rfl)
theorem dJ26_find_33 : decode cJ26_find 33 = .ok (.goto 132, 3) := dk_167 0 132 (dk_at dksJ26_find_1 10 rfl rfl)
theorem dJ26_find_36 : decode cJ26_find 36 = .ok (.iload 5, 2) := dk_21 5 (dk_at dksJ26_find_1 13 rfl rfl)
theorem dJ26_find_38 : decode cJ26_find 38 = .ok (.iload_n 1, 1) := dk_27 (dk_at dksJ26_find_1 15 rfl rfl)
theorem dJ26_find_39 : decode cJ26_find 39 = .ok (.if_icmp .ge 10, 3) := dk_162 0 10 (dk_at dksJ26_find_1 16 rfl rfl)
theorem dJ26_find_42 : decode cJ26_find 42 = .ok (.aload 9, 2) := dk_25 9 (dk_at dksJ26_find_1 19 rfl rfl)
theorem dJ26_find_44 : decode cJ26_find 44 = .ok (.astore 4, 2) := dk_58 4 (dk_at dksJ26_find_1 21 rfl rfl)
theorem dJ26_find_46 : decode cJ26_find 46 = .ok (.goto 119, 3) := dk_167 0 119 (dk_at dksJ26_find_2 0 rfl rfl)
theorem dJ26_find_49 : decode cJ26_find 49 = .ok (.aload 4, 2) := dk_25 4 (dk_at dksJ26_find_2 3 rfl rfl)
theorem dJ26_find_51 : decode cJ26_find 51 = .ok (.getfield 45, 3) := dk_180 0 45 (dk_at dksJ26_find_2 5 rfl rfl)
theorem dJ26_find_54 : decode cJ26_find 54 = .ok (.dup, 1) := dk_89 (dk_at dksJ26_find_2 8 rfl rfl)
theorem dJ26_find_55 : decode cJ26_find 55 = .ok (.astore 7, 2) := dk_58 7 (dk_at dksJ26_find_2 9 rfl rfl)
theorem dJ26_find_57 : decode cJ26_find 57 = .ok (.aload_n 2, 1) := dk_44 (dk_at dksJ26_find_2 11 rfl rfl)
theorem dJ26_find_58 : decode cJ26_find 58 = .ok (.if_acmp .eq 16, 3) := dk_165 0 16 (dk_at dksJ26_find_2 12 rfl rfl)
theorem dJ26_find_61 : decode cJ26_find 61 = .ok (.aload_n 2, 1) := dk_44 (dk_at dksJ26_find_2 15 rfl rfl)
theorem dJ26_find_62 : decode cJ26_find 62 = .ok (.ifnull 15, 3) := dk_198 0 15 (dk_at dksJ26_find_2 16 rfl rfl)
theorem dJ26_find_65 : decode cJ26_find 65 = .ok (.aload_n 2, 1) := dk_44 (dk_at dksJ26_find_2 19 rfl rfl)
theorem dJ26_find_66 : decode cJ26_find 66 = .ok (.aload 7, 2) := dk_25 7 (dk_at dksJ26_find_2 20 rfl rfl)
theorem dJ26_find_68 : decode cJ26_find 68 = .ok (.invokevirtual 49, 3) := dk_182 0 49 (dk_at dksJ26_find_3 0 rfl rfl)
theorem dJ26_find_71 : decode cJ26_find 71 = .ok (.ifCond .eq 6, 3) := dk_153 0 6 (dk_at dksJ26_find_3 3 rfl rfl)
theorem dJ26_find_74 : decode cJ26_find 74 = .ok (.aload 4, 2) := dk_25 4 (dk_at dksJ26_find_3 6 rfl rfl)
theorem dJ26_find_76 : decode cJ26_find 76 = .ok (.areturn, 1) := dk_176 (dk_at dksJ26_find_3 8 rfl rfl)
theorem dJ26_find_77 : decode cJ26_find 77 = .ok (.aload 8, 2) := dk_25 8 (dk_at dksJ26_find_3 9 rfl rfl)
theorem dJ26_find_79 : decode cJ26_find 79 = .ok (.ifnonnull 10, 3) := dk_199 0 10 (dk_at dksJ26_find_3 11 rfl rfl)
theorem dJ26_find_82 : decode cJ26_find 82 = .ok (.aload 9, 2) := dk_25 9 (dk_at dksJ26_find_3 14 rfl rfl)
theorem dJ26_find_84 : decode cJ26_find 84 = .ok (.astore 4, 2) := dk_58 4 (dk_at dksJ26_find_3 16 rfl rfl)
theorem dJ26_find_86 : decode cJ26_find 86 = .ok (.goto 79, 3) := dk_167 0 79 (dk_at dksJ26_find_3 18 rfl rfl)
theorem dJ26_find_89 : decode cJ26_find 89 = .ok (.aload 9, 2) := dk_25 9 (dk_at dksJ26_find_3 21 rfl rfl)
theorem dJ26_find_91 : decode cJ26_find 91 = .ok (.ifnonnull 10, 3) := dk_199 0 10 (dk_at dksJ26_find_4 0 rfl rfl)
theorem dJ26_find_94 : decode cJ26_find 94 = .ok (.aload 8, 2) := dk_25 8 (dk_at dksJ26_find_4 3 rfl rfl)
theorem dJ26_find_96 : decode cJ26_find 96 = .ok (.astore 4, 2) := dk_58 4 (dk_at dksJ26_find_4 5 rfl rfl)
theorem dJ26_find_98 : decode cJ26_find 98 = .ok (.goto 67, 3) := dk_167 0 67 (dk_at dksJ26_find_4 7 rfl rfl)
theorem dJ26_find_101 : decode cJ26_find 101 = .ok (.aload_n 3, 1) := dk_45 (dk_at dksJ26_find_4 10 rfl rfl)
theorem dJ26_find_102 : decode cJ26_find 102 = .ok (.ifnonnull 12, 3) := dk_199 0 12 (dk_at dksJ26_find_4 11 rfl rfl)
theorem dJ26_find_105 : decode cJ26_find 105 = .ok (.aload_n 2, 1) := dk_44 (dk_at dksJ26_find_4 14 rfl rfl)
theorem dJ26_find_106 : decode cJ26_find 106 = .ok (.invokestatic 55, 3) := dk_184 0 55 (dk_at dksJ26_find_4 15 rfl rfl)
theorem dJ26_find_109 : decode cJ26_find 109 = .ok (.dup, 1) := dk_89 (dk_at dksJ26_find_4 18 rfl rfl)
theorem dJ26_find_110 : decode cJ26_find 110 = .ok (.astore_n 3, 1) := dk_78 (dk_at dksJ26_find_4 19 rfl rfl)
theorem dJ26_find_111 : decode cJ26_find 111 = .ok (.ifnull 33, 3) := dk_198 0 33 (dk_at dksJ26_find_4 20 rfl rfl)
theorem dJ26_find_114 : decode cJ26_find 114 = .ok (.aload_n 3, 1) := dk_45 (dk_at dksJ26_find_4 23 rfl rfl)
theorem dJ26_find_115 : decode cJ26_find 115 = .ok (.aload_n 2, 1) := dk_44 (dk_at dksJ26_find_5 0 rfl rfl)
theorem dJ26_find_116 : decode cJ26_find 116 = .ok (.aload 7, 2) := dk_25 7 (dk_at dksJ26_find_5 1 rfl rfl)
theorem dJ26_find_118 : decode cJ26_find 118 = .ok (.invokestatic 59, 3) := dk_184 0 59 (dk_at dksJ26_find_5 3 rfl rfl)
theorem dJ26_find_121 : decode cJ26_find 121 = .ok (.dup, 1) := dk_89 (dk_at dksJ26_find_5 6 rfl rfl)
theorem dJ26_find_122 : decode cJ26_find 122 = .ok (.istore 6, 2) := dk_54 6 (dk_at dksJ26_find_5 7 rfl rfl)
theorem dJ26_find_124 : decode cJ26_find 124 = .ok (.ifCond .eq 20, 3) := dk_153 0 20 (dk_at dksJ26_find_5 9 rfl rfl)
theorem dJ26_find_127 : decode cJ26_find 127 = .ok (.iload 6, 2) := dk_21 6 (dk_at dksJ26_find_5 12 rfl rfl)
theorem dJ26_find_129 : decode cJ26_find 129 = .ok (.ifCond .ge 8, 3) := dk_156 0 8 (dk_at dksJ26_find_5 14 rfl rfl)
theorem dJ26_find_132 : decode cJ26_find 132 = .ok (.aload 8, 2) := dk_25 8 (dk_at dksJ26_find_5 17 rfl rfl)
theorem dJ26_find_134 : decode cJ26_find 134 = .ok (.goto 5, 3) := dk_167 0 5 (dk_at dksJ26_find_5 19 rfl rfl)
theorem dJ26_find_137 : decode cJ26_find 137 = .ok (.aload 9, 2) := dk_25 9 (dk_at dksJ26_find_5 22 rfl rfl)
theorem dJ26_find_139 : decode cJ26_find 139 = .ok (.astore 4, 2) := dk_58 4 (dk_at dksJ26_find_6 0 rfl rfl)
theorem dJ26_find_141 : decode cJ26_find 141 = .ok (.goto 24, 3) := dk_167 0 24 (dk_at dksJ26_find_6 2 rfl rfl)
theorem dJ26_find_144 : decode cJ26_find 144 = .ok (.aload 9, 2) := dk_25 9 (dk_at dksJ26_find_6 5 rfl rfl)
theorem dJ26_find_146 : decode cJ26_find 146 = .ok (.iload_n 1, 1) := dk_27 (dk_at dksJ26_find_6 7 rfl rfl)
theorem dJ26_find_147 : decode cJ26_find 147 = .ok (.aload_n 2, 1) := dk_44 (dk_at dksJ26_find_6 8 rfl rfl)
theorem dJ26_find_148 : decode cJ26_find 148 = .ok (.aload_n 3, 1) := dk_45 (dk_at dksJ26_find_6 9 rfl rfl)
theorem dJ26_find_149 : decode cJ26_find 149 = .ok (.invokevirtual 63, 3) := dk_182 0 63 (dk_at dksJ26_find_6 10 rfl rfl)
theorem dJ26_find_152 : decode cJ26_find 152 = .ok (.dup, 1) := dk_89 (dk_at dksJ26_find_6 13 rfl rfl)
theorem dJ26_find_153 : decode cJ26_find 153 = .ok (.astore 10, 2) := dk_58 10 (dk_at dksJ26_find_6 14 rfl rfl)
theorem dJ26_find_155 : decode cJ26_find 155 = .ok (.ifnull 6, 3) := dk_198 0 6 (dk_at dksJ26_find_6 16 rfl rfl)
theorem dJ26_find_158 : decode cJ26_find 158 = .ok (.aload 10, 2) := dk_25 10 (dk_at dksJ26_find_6 19 rfl rfl)
theorem dJ26_find_160 : decode cJ26_find 160 = .ok (.areturn, 1) := dk_176 (dk_at dksJ26_find_6 21 rfl rfl)
theorem dJ26_find_161 : decode cJ26_find 161 = .ok (.aload 8, 2) := dk_25 8 (dk_at dksJ26_find_6 22 rfl rfl)
theorem dJ26_find_163 : decode cJ26_find 163 = .ok (.astore 4, 2) := dk_58 4 (dk_at dksJ26_find_7 0 rfl rfl)
theorem dJ26_find_165 : decode cJ26_find 165 = .ok (.aload 4, 2) := dk_25 4 (dk_at dksJ26_find_7 2 rfl rfl)
theorem dJ26_find_167 : decode cJ26_find 167 = .ok (.ifnonnull (-164), 3) := dk_199 255 92 (dk_at dksJ26_find_7 4 rfl rfl)
theorem dJ26_find_170 : decode cJ26_find 170 = .ok (.aconst_null, 1) := dk_1 (dk_at dksJ26_find_7 7 rfl rfl)
theorem dJ26_find_171 : decode cJ26_find 171 = .ok (.areturn, 1) := dk_176 (dk_at dksJ26_find_7 8 rfl rfl)
abbrev cJ26_split : ByteArray := prog_62_method_11_code
def yJ26_split : MethodName := ⟨RJ26, "split", "(Ljava/util/HashMap;[Ljava/util/HashMap$Node;II)V"⟩
def dkwJ26_split_9 : List UInt8 := [198, 0, 9, 25, 8, 44, 182, 0, 126, 177]
abbrev dktJ26_split_9 : List UInt8 := dkwJ26_split_9 ++ []
def dkwJ26_split_8 : List UInt8 := [21, 4, 96, 25, 8, 43, 182, 0, 119, 83, 167, 0, 22, 44, 29, 21, 4, 96, 25, 8, 83, 25, 6]
abbrev dktJ26_split_8 : List UInt8 := dkwJ26_split_8 ++ dktJ26_split_9
def dkwJ26_split_7 : List UInt8 := [198, 0, 9, 25, 6, 44, 182, 0, 126, 25, 8, 198, 0, 44, 21, 11, 16, 6, 163, 0, 18, 44, 29]
abbrev dktJ26_split_7 : List UInt8 := dkwJ26_split_7 ++ dktJ26_split_8
def dkwJ26_split_6 : List UInt8 := [163, 0, 15, 44, 29, 25, 6, 43, 182, 0, 119, 83, 167, 0, 19, 44, 29, 25, 6, 83, 25, 8]
abbrev dktJ26_split_6 : List UInt8 := dkwJ26_split_6 ++ dktJ26_split_7
def dkwJ26_split_5 : List UInt8 := [25, 12, 58, 9, 132, 11, 1, 25, 13, 58, 12, 167, 255, 153, 25, 6, 198, 0, 38, 21, 10, 16, 6]
abbrev dktJ26_split_5 : List UInt8 := dkwJ26_split_5 ++ dktJ26_split_6
def dkwJ26_split_4 : List UInt8 := [25, 9, 90, 181, 0, 19, 199, 0, 10, 25, 12, 58, 8, 167, 0, 10, 25, 9, 25, 12, 181, 0, 22]
abbrev dktJ26_split_4 : List UInt8 := dkwJ26_split_4 ++ dktJ26_split_5
def dkwJ26_split_3 : List UInt8 := [58, 6, 167, 0, 10, 25, 7, 25, 12, 181, 0, 22, 25, 12, 58, 7, 132, 10, 1, 167, 0, 35, 25, 12]
abbrev dktJ26_split_3 : List UInt8 := dkwJ26_split_3 ++ dktJ26_split_4
def dkwJ26_split_2 : List UInt8 := [25, 12, 180, 0, 15, 21, 4, 126, 154, 0, 38, 25, 12, 25, 7, 90, 181, 0, 19, 199, 0, 10, 25, 12]
abbrev dktJ26_split_2 : List UInt8 := dkwJ26_split_2 ++ dktJ26_split_3
def dkwJ26_split_1 : List UInt8 := [58, 12, 25, 12, 198, 0, 104, 25, 12, 180, 0, 22, 192, 0, 10, 58, 13, 25, 12, 1, 181, 0, 22]
abbrev dktJ26_split_1 : List UInt8 := dkwJ26_split_1 ++ dktJ26_split_2
def dkwJ26_split_0 : List UInt8 := [42, 58, 5, 1, 58, 6, 1, 58, 7, 1, 58, 8, 1, 58, 9, 3, 54, 10, 3, 54, 11, 25, 5]
abbrev dktJ26_split_0 : List UInt8 := dkwJ26_split_0 ++ dktJ26_split_1
theorem dksJ26_split_0 : cJ26_split.data.toList.drop 0 = dktJ26_split_0 := by decide +kernel
theorem dksJ26_split_1 : cJ26_split.data.toList.drop 23 = dktJ26_split_1 := dk_seg dksJ26_split_0 23 rfl rfl
theorem dksJ26_split_2 : cJ26_split.data.toList.drop 46 = dktJ26_split_2 := dk_seg dksJ26_split_1 23 rfl rfl
theorem dksJ26_split_3 : cJ26_split.data.toList.drop 70 = dktJ26_split_3 := dk_seg dksJ26_split_2 24 rfl rfl
theorem dksJ26_split_4 : cJ26_split.data.toList.drop 94 = dktJ26_split_4 := dk_seg dksJ26_split_3 24 rfl rfl
theorem dksJ26_split_5 : cJ26_split.data.toList.drop 117 = dktJ26_split_5 := dk_seg dksJ26_split_4 23 rfl rfl
theorem dksJ26_split_6 : cJ26_split.data.toList.drop 140 = dktJ26_split_6 := dk_seg dksJ26_split_5 23 rfl rfl
theorem dksJ26_split_7 : cJ26_split.data.toList.drop 162 = dktJ26_split_7 := dk_seg dksJ26_split_6 22 rfl rfl
theorem dksJ26_split_8 : cJ26_split.data.toList.drop 185 = dktJ26_split_8 := dk_seg dksJ26_split_7 23 rfl rfl
theorem dksJ26_split_9 : cJ26_split.data.toList.drop 208 = dktJ26_split_9 := dk_seg dksJ26_split_8 23 rfl rfl
theorem dJ26_split_0 : decode cJ26_split 0 = .ok (.aload_n 0, 1) := dk_42 (dk_at dksJ26_split_0 0 rfl rfl)
theorem dJ26_split_1 : decode cJ26_split 1 = .ok (.astore 5, 2) := dk_58 5 (dk_at dksJ26_split_0 1 rfl rfl)
theorem dJ26_split_3 : decode cJ26_split 3 = .ok (.aconst_null, 1) := dk_1 (dk_at dksJ26_split_0 3 rfl rfl)
theorem dJ26_split_4 : decode cJ26_split 4 = .ok (.astore 6, 2) := dk_58 6 (dk_at dksJ26_split_0 4 rfl rfl)
theorem dJ26_split_6 : decode cJ26_split 6 = .ok (.aconst_null, 1) := dk_1 (dk_at dksJ26_split_0 6 rfl rfl)
theorem dJ26_split_7 : decode cJ26_split 7 = .ok (.astore 7, 2) := dk_58 7 (dk_at dksJ26_split_0 7 rfl rfl)
theorem dJ26_split_9 : decode cJ26_split 9 = .ok (.aconst_null, 1) := dk_1 (dk_at dksJ26_split_0 9 rfl rfl)
theorem dJ26_split_10 : decode cJ26_split 10 = .ok (.astore 8, 2) := dk_58 8 (dk_at dksJ26_split_0 10 rfl rfl)
theorem dJ26_split_12 : decode cJ26_split 12 = .ok (.aconst_null, 1) := dk_1 (dk_at dksJ26_split_0 12 rfl rfl)
theorem dJ26_split_13 : decode cJ26_split 13 = .ok (.astore 9, 2) := dk_58 9 (dk_at dksJ26_split_0 13 rfl rfl)
theorem dJ26_split_15 : decode cJ26_split 15 = .ok (.iconst 0, 1) := dk_3 (dk_at dksJ26_split_0 15 rfl rfl)
theorem dJ26_split_16 : decode cJ26_split 16 = .ok (.istore 10, 2) := dk_54 10 (dk_at dksJ26_split_0 16 rfl rfl)
theorem dJ26_split_18 : decode cJ26_split 18 = .ok (.iconst 0, 1) := dk_3 (dk_at dksJ26_split_0 18 rfl rfl)
theorem dJ26_split_19 : decode cJ26_split 19 = .ok (.istore 11, 2) := dk_54 11 (dk_at dksJ26_split_0 19 rfl rfl)
theorem dJ26_split_21 : decode cJ26_split 21 = .ok (.aload 5, 2) := dk_25 5 (dk_at dksJ26_split_0 21 rfl rfl)
theorem dJ26_split_23 : decode cJ26_split 23 = .ok (.astore 12, 2) := dk_58 12 (dk_at dksJ26_split_1 0 rfl rfl)
theorem dJ26_split_25 : decode cJ26_split 25 = .ok (.aload 12, 2) := dk_25 12 (dk_at dksJ26_split_1 2 rfl rfl)
theorem dJ26_split_27 : decode cJ26_split 27 = .ok (.ifnull 104, 3) := dk_198 0 104 (dk_at dksJ26_split_1 4 rfl rfl)
theorem dJ26_split_30 : decode cJ26_split 30 = .ok (.aload 12, 2) := dk_25 12 (dk_at dksJ26_split_1 7 rfl rfl)
theorem dJ26_split_32 : decode cJ26_split 32 = .ok (.getfield 22, 3) := dk_180 0 22 (dk_at dksJ26_split_1 9 rfl rfl)
theorem dJ26_split_35 : decode cJ26_split 35 = .ok (.checkcast 10, 3) := dk_192 0 10 (dk_at dksJ26_split_1 12 rfl rfl)
theorem dJ26_split_38 : decode cJ26_split 38 = .ok (.astore 13, 2) := dk_58 13 (dk_at dksJ26_split_1 15 rfl rfl)
theorem dJ26_split_40 : decode cJ26_split 40 = .ok (.aload 12, 2) := dk_25 12 (dk_at dksJ26_split_1 17 rfl rfl)
theorem dJ26_split_42 : decode cJ26_split 42 = .ok (.aconst_null, 1) := dk_1 (dk_at dksJ26_split_1 19 rfl rfl)
theorem dJ26_split_43 : decode cJ26_split 43 = .ok (.putfield 22, 3) := dk_181 0 22 (dk_at dksJ26_split_1 20 rfl rfl)
theorem dJ26_split_46 : decode cJ26_split 46 = .ok (.aload 12, 2) := dk_25 12 (dk_at dksJ26_split_2 0 rfl rfl)
theorem dJ26_split_48 : decode cJ26_split 48 = .ok (.getfield 15, 3) := dk_180 0 15 (dk_at dksJ26_split_2 2 rfl rfl)
theorem dJ26_split_51 : decode cJ26_split 51 = .ok (.iload 4, 2) := dk_21 4 (dk_at dksJ26_split_2 5 rfl rfl)
theorem dJ26_split_53 : decode cJ26_split 53 = .ok (.iand, 1) := dk_126 (dk_at dksJ26_split_2 7 rfl rfl)
theorem dJ26_split_54 : decode cJ26_split 54 = .ok (.ifCond .ne 38, 3) := dk_154 0 38 (dk_at dksJ26_split_2 8 rfl rfl)
theorem dJ26_split_57 : decode cJ26_split 57 = .ok (.aload 12, 2) := dk_25 12 (dk_at dksJ26_split_2 11 rfl rfl)
theorem dJ26_split_59 : decode cJ26_split 59 = .ok (.aload 7, 2) := dk_25 7 (dk_at dksJ26_split_2 13 rfl rfl)
theorem dJ26_split_61 : decode cJ26_split 61 = .ok (.dup_x1, 1) := dk_90 (dk_at dksJ26_split_2 15 rfl rfl)
theorem dJ26_split_62 : decode cJ26_split 62 = .ok (.putfield 19, 3) := dk_181 0 19 (dk_at dksJ26_split_2 16 rfl rfl)
theorem dJ26_split_65 : decode cJ26_split 65 = .ok (.ifnonnull 10, 3) := dk_199 0 10 (dk_at dksJ26_split_2 19 rfl rfl)
theorem dJ26_split_68 : decode cJ26_split 68 = .ok (.aload 12, 2) := dk_25 12 (dk_at dksJ26_split_2 22 rfl rfl)
theorem dJ26_split_70 : decode cJ26_split 70 = .ok (.astore 6, 2) := dk_58 6 (dk_at dksJ26_split_3 0 rfl rfl)
theorem dJ26_split_72 : decode cJ26_split 72 = .ok (.goto 10, 3) := dk_167 0 10 (dk_at dksJ26_split_3 2 rfl rfl)
theorem dJ26_split_75 : decode cJ26_split 75 = .ok (.aload 7, 2) := dk_25 7 (dk_at dksJ26_split_3 5 rfl rfl)
theorem dJ26_split_77 : decode cJ26_split 77 = .ok (.aload 12, 2) := dk_25 12 (dk_at dksJ26_split_3 7 rfl rfl)
theorem dJ26_split_79 : decode cJ26_split 79 = .ok (.putfield 22, 3) := dk_181 0 22 (dk_at dksJ26_split_3 9 rfl rfl)
theorem dJ26_split_82 : decode cJ26_split 82 = .ok (.aload 12, 2) := dk_25 12 (dk_at dksJ26_split_3 12 rfl rfl)
theorem dJ26_split_84 : decode cJ26_split 84 = .ok (.astore 7, 2) := dk_58 7 (dk_at dksJ26_split_3 14 rfl rfl)
theorem dJ26_split_86 : decode cJ26_split 86 = .ok (.iinc 10 1, 3) := dk_132 10 1 (dk_at dksJ26_split_3 16 rfl rfl)
theorem dJ26_split_89 : decode cJ26_split 89 = .ok (.goto 35, 3) := dk_167 0 35 (dk_at dksJ26_split_3 19 rfl rfl)
theorem dJ26_split_92 : decode cJ26_split 92 = .ok (.aload 12, 2) := dk_25 12 (dk_at dksJ26_split_3 22 rfl rfl)
theorem dJ26_split_94 : decode cJ26_split 94 = .ok (.aload 9, 2) := dk_25 9 (dk_at dksJ26_split_4 0 rfl rfl)
theorem dJ26_split_96 : decode cJ26_split 96 = .ok (.dup_x1, 1) := dk_90 (dk_at dksJ26_split_4 2 rfl rfl)
theorem dJ26_split_97 : decode cJ26_split 97 = .ok (.putfield 19, 3) := dk_181 0 19 (dk_at dksJ26_split_4 3 rfl rfl)
theorem dJ26_split_100 : decode cJ26_split 100 = .ok (.ifnonnull 10, 3) := dk_199 0 10 (dk_at dksJ26_split_4 6 rfl rfl)
theorem dJ26_split_103 : decode cJ26_split 103 = .ok (.aload 12, 2) := dk_25 12 (dk_at dksJ26_split_4 9 rfl rfl)
theorem dJ26_split_105 : decode cJ26_split 105 = .ok (.astore 8, 2) := dk_58 8 (dk_at dksJ26_split_4 11 rfl rfl)
theorem dJ26_split_107 : decode cJ26_split 107 = .ok (.goto 10, 3) := dk_167 0 10 (dk_at dksJ26_split_4 13 rfl rfl)
theorem dJ26_split_110 : decode cJ26_split 110 = .ok (.aload 9, 2) := dk_25 9 (dk_at dksJ26_split_4 16 rfl rfl)
theorem dJ26_split_112 : decode cJ26_split 112 = .ok (.aload 12, 2) := dk_25 12 (dk_at dksJ26_split_4 18 rfl rfl)
theorem dJ26_split_114 : decode cJ26_split 114 = .ok (.putfield 22, 3) := dk_181 0 22 (dk_at dksJ26_split_4 20 rfl rfl)
theorem dJ26_split_117 : decode cJ26_split 117 = .ok (.aload 12, 2) := dk_25 12 (dk_at dksJ26_split_5 0 rfl rfl)
theorem dJ26_split_119 : decode cJ26_split 119 = .ok (.astore 9, 2) := dk_58 9 (dk_at dksJ26_split_5 2 rfl rfl)
theorem dJ26_split_121 : decode cJ26_split 121 = .ok (.iinc 11 1, 3) := dk_132 11 1 (dk_at dksJ26_split_5 4 rfl rfl)
theorem dJ26_split_124 : decode cJ26_split 124 = .ok (.aload 13, 2) := dk_25 13 (dk_at dksJ26_split_5 7 rfl rfl)
theorem dJ26_split_126 : decode cJ26_split 126 = .ok (.astore 12, 2) := dk_58 12 (dk_at dksJ26_split_5 9 rfl rfl)
theorem dJ26_split_128 : decode cJ26_split 128 = .ok (.goto (-103), 3) := dk_167 255 153 (dk_at dksJ26_split_5 11 rfl rfl)
theorem dJ26_split_131 : decode cJ26_split 131 = .ok (.aload 6, 2) := dk_25 6 (dk_at dksJ26_split_5 14 rfl rfl)
theorem dJ26_split_133 : decode cJ26_split 133 = .ok (.ifnull 38, 3) := dk_198 0 38 (dk_at dksJ26_split_5 16 rfl rfl)
theorem dJ26_split_136 : decode cJ26_split 136 = .ok (.iload 10, 2) := dk_21 10 (dk_at dksJ26_split_5 19 rfl rfl)
theorem dJ26_split_138 : decode cJ26_split 138 = .ok (.bipush 6, 2) := dk_16 6 (dk_at dksJ26_split_5 21 rfl rfl)
theorem dJ26_split_140 : decode cJ26_split 140 = .ok (.if_icmp .gt 15, 3) := dk_163 0 15 (dk_at dksJ26_split_6 0 rfl rfl)
theorem dJ26_split_143 : decode cJ26_split 143 = .ok (.aload_n 2, 1) := dk_44 (dk_at dksJ26_split_6 3 rfl rfl)
theorem dJ26_split_144 : decode cJ26_split 144 = .ok (.iload_n 3, 1) := dk_29 (dk_at dksJ26_split_6 4 rfl rfl)
theorem dJ26_split_145 : decode cJ26_split 145 = .ok (.aload 6, 2) := dk_25 6 (dk_at dksJ26_split_6 5 rfl rfl)
theorem dJ26_split_147 : decode cJ26_split 147 = .ok (.aload_n 1, 1) := dk_43 (dk_at dksJ26_split_6 7 rfl rfl)
theorem dJ26_split_148 : decode cJ26_split 148 = .ok (.invokevirtual 119, 3) := dk_182 0 119 (dk_at dksJ26_split_6 8 rfl rfl)
theorem dJ26_split_151 : decode cJ26_split 151 = .ok (.aastore, 1) := dk_83 (dk_at dksJ26_split_6 11 rfl rfl)
theorem dJ26_split_152 : decode cJ26_split 152 = .ok (.goto 19, 3) := dk_167 0 19 (dk_at dksJ26_split_6 12 rfl rfl)
theorem dJ26_split_155 : decode cJ26_split 155 = .ok (.aload_n 2, 1) := dk_44 (dk_at dksJ26_split_6 15 rfl rfl)
theorem dJ26_split_156 : decode cJ26_split 156 = .ok (.iload_n 3, 1) := dk_29 (dk_at dksJ26_split_6 16 rfl rfl)
theorem dJ26_split_157 : decode cJ26_split 157 = .ok (.aload 6, 2) := dk_25 6 (dk_at dksJ26_split_6 17 rfl rfl)
theorem dJ26_split_159 : decode cJ26_split 159 = .ok (.aastore, 1) := dk_83 (dk_at dksJ26_split_6 19 rfl rfl)
theorem dJ26_split_160 : decode cJ26_split 160 = .ok (.aload 8, 2) := dk_25 8 (dk_at dksJ26_split_6 20 rfl rfl)
theorem dJ26_split_162 : decode cJ26_split 162 = .ok (.ifnull 9, 3) := dk_198 0 9 (dk_at dksJ26_split_7 0 rfl rfl)
theorem dJ26_split_165 : decode cJ26_split 165 = .ok (.aload 6, 2) := dk_25 6 (dk_at dksJ26_split_7 3 rfl rfl)
theorem dJ26_split_167 : decode cJ26_split 167 = .ok (.aload_n 2, 1) := dk_44 (dk_at dksJ26_split_7 5 rfl rfl)
theorem dJ26_split_168 : decode cJ26_split 168 = .ok (.invokevirtual 126, 3) := dk_182 0 126 (dk_at dksJ26_split_7 6 rfl rfl)
theorem dJ26_split_171 : decode cJ26_split 171 = .ok (.aload 8, 2) := dk_25 8 (dk_at dksJ26_split_7 9 rfl rfl)
theorem dJ26_split_173 : decode cJ26_split 173 = .ok (.ifnull 44, 3) := dk_198 0 44 (dk_at dksJ26_split_7 11 rfl rfl)
theorem dJ26_split_176 : decode cJ26_split 176 = .ok (.iload 11, 2) := dk_21 11 (dk_at dksJ26_split_7 14 rfl rfl)
theorem dJ26_split_178 : decode cJ26_split 178 = .ok (.bipush 6, 2) := dk_16 6 (dk_at dksJ26_split_7 16 rfl rfl)
theorem dJ26_split_180 : decode cJ26_split 180 = .ok (.if_icmp .gt 18, 3) := dk_163 0 18 (dk_at dksJ26_split_7 18 rfl rfl)
theorem dJ26_split_183 : decode cJ26_split 183 = .ok (.aload_n 2, 1) := dk_44 (dk_at dksJ26_split_7 21 rfl rfl)
theorem dJ26_split_184 : decode cJ26_split 184 = .ok (.iload_n 3, 1) := dk_29 (dk_at dksJ26_split_7 22 rfl rfl)
theorem dJ26_split_185 : decode cJ26_split 185 = .ok (.iload 4, 2) := dk_21 4 (dk_at dksJ26_split_8 0 rfl rfl)
theorem dJ26_split_187 : decode cJ26_split 187 = .ok (.iadd, 1) := dk_96 (dk_at dksJ26_split_8 2 rfl rfl)
theorem dJ26_split_188 : decode cJ26_split 188 = .ok (.aload 8, 2) := dk_25 8 (dk_at dksJ26_split_8 3 rfl rfl)
theorem dJ26_split_190 : decode cJ26_split 190 = .ok (.aload_n 1, 1) := dk_43 (dk_at dksJ26_split_8 5 rfl rfl)
theorem dJ26_split_191 : decode cJ26_split 191 = .ok (.invokevirtual 119, 3) := dk_182 0 119 (dk_at dksJ26_split_8 6 rfl rfl)
theorem dJ26_split_194 : decode cJ26_split 194 = .ok (.aastore, 1) := dk_83 (dk_at dksJ26_split_8 9 rfl rfl)
theorem dJ26_split_195 : decode cJ26_split 195 = .ok (.goto 22, 3) := dk_167 0 22 (dk_at dksJ26_split_8 10 rfl rfl)
theorem dJ26_split_198 : decode cJ26_split 198 = .ok (.aload_n 2, 1) := dk_44 (dk_at dksJ26_split_8 13 rfl rfl)
theorem dJ26_split_199 : decode cJ26_split 199 = .ok (.iload_n 3, 1) := dk_29 (dk_at dksJ26_split_8 14 rfl rfl)
theorem dJ26_split_200 : decode cJ26_split 200 = .ok (.iload 4, 2) := dk_21 4 (dk_at dksJ26_split_8 15 rfl rfl)
theorem dJ26_split_202 : decode cJ26_split 202 = .ok (.iadd, 1) := dk_96 (dk_at dksJ26_split_8 17 rfl rfl)
theorem dJ26_split_203 : decode cJ26_split 203 = .ok (.aload 8, 2) := dk_25 8 (dk_at dksJ26_split_8 18 rfl rfl)
theorem dJ26_split_205 : decode cJ26_split 205 = .ok (.aastore, 1) := dk_83 (dk_at dksJ26_split_8 20 rfl rfl)
theorem dJ26_split_206 : decode cJ26_split 206 = .ok (.aload 6, 2) := dk_25 6 (dk_at dksJ26_split_8 21 rfl rfl)
theorem dJ26_split_208 : decode cJ26_split 208 = .ok (.ifnull 9, 3) := dk_198 0 9 (dk_at dksJ26_split_9 0 rfl rfl)
theorem dJ26_split_211 : decode cJ26_split 211 = .ok (.aload 8, 2) := dk_25 8 (dk_at dksJ26_split_9 3 rfl rfl)
theorem dJ26_split_213 : decode cJ26_split 213 = .ok (.aload_n 2, 1) := dk_44 (dk_at dksJ26_split_9 5 rfl rfl)
theorem dJ26_split_214 : decode cJ26_split 214 = .ok (.invokevirtual 126, 3) := dk_182 0 126 (dk_at dksJ26_split_9 6 rfl rfl)
theorem dJ26_split_217 : decode cJ26_split 217 = .ok (.return_, 1) := dk_177 (dk_at dksJ26_split_9 9 rfl rfl)
abbrev cJ26_untreeify : ByteArray := prog_62_method_8_code
def yJ26_untreeify : MethodName := ⟨RJ26, "untreeify", "(Ljava/util/HashMap;)Ljava/util/HashMap$Node;"⟩
def dkwJ26_untreeify_2 : List UInt8 := [58, 4, 167, 255, 216, 44, 176]
abbrev dktJ26_untreeify_2 : List UInt8 := dkwJ26_untreeify_2 ++ []
def dkwJ26_untreeify_1 : List UInt8 := [199, 0, 9, 25, 5, 77, 167, 0, 9, 45, 25, 5, 181, 0, 112, 25, 5, 78, 25, 4, 180, 0, 112]
abbrev dktJ26_untreeify_1 : List UInt8 := dkwJ26_untreeify_1 ++ dktJ26_untreeify_2
def dkwJ26_untreeify_0 : List UInt8 := [1, 77, 1, 78, 42, 58, 4, 25, 4, 198, 0, 41, 43, 25, 4, 1, 182, 0, 108, 58, 5, 45]
abbrev dktJ26_untreeify_0 : List UInt8 := dkwJ26_untreeify_0 ++ dktJ26_untreeify_1
theorem dksJ26_untreeify_0 : cJ26_untreeify.data.toList.drop 0 = dktJ26_untreeify_0 := by decide +kernel
theorem dksJ26_untreeify_1 : cJ26_untreeify.data.toList.drop 22 = dktJ26_untreeify_1 := dk_seg dksJ26_untreeify_0 22 rfl rfl
theorem dksJ26_untreeify_2 : cJ26_untreeify.data.toList.drop 45 = dktJ26_untreeify_2 := dk_seg dksJ26_untreeify_1 23 rfl rfl
theorem dJ26_untreeify_0 : decode cJ26_untreeify 0 = .ok (.aconst_null, 1) := dk_1 (dk_at dksJ26_untreeify_0 0 rfl rfl)
theorem dJ26_untreeify_1 : decode cJ26_untreeify 1 = .ok (.astore_n 2, 1) := dk_77 (dk_at dksJ26_untreeify_0 1 rfl rfl)
theorem dJ26_untreeify_2 : decode cJ26_untreeify 2 = .ok (.aconst_null, 1) := dk_1 (dk_at dksJ26_untreeify_0 2 rfl rfl)
theorem dJ26_untreeify_3 : decode cJ26_untreeify 3 = .ok (.astore_n 3, 1) := dk_78 (dk_at dksJ26_untreeify_0 3 rfl rfl)
theorem dJ26_untreeify_4 : decode cJ26_untreeify 4 = .ok (.aload_n 0, 1) := dk_42 (dk_at dksJ26_untreeify_0 4 rfl rfl)
theorem dJ26_untreeify_5 : decode cJ26_untreeify 5 = .ok (.astore 4, 2) := dk_58 4 (dk_at dksJ26_untreeify_0 5 rfl rfl)
theorem dJ26_untreeify_7 : decode cJ26_untreeify 7 = .ok (.aload 4, 2) := dk_25 4 (dk_at dksJ26_untreeify_0 7 rfl rfl)
theorem dJ26_untreeify_9 : decode cJ26_untreeify 9 = .ok (.ifnull 41, 3) := dk_198 0 41 (dk_at dksJ26_untreeify_0 9 rfl rfl)
theorem dJ26_untreeify_12 : decode cJ26_untreeify 12 = .ok (.aload_n 1, 1) := dk_43 (dk_at dksJ26_untreeify_0 12 rfl rfl)
theorem dJ26_untreeify_13 : decode cJ26_untreeify 13 = .ok (.aload 4, 2) := dk_25 4 (dk_at dksJ26_untreeify_0 13 rfl rfl)
theorem dJ26_untreeify_15 : decode cJ26_untreeify 15 = .ok (.aconst_null, 1) := dk_1 (dk_at dksJ26_untreeify_0 15 rfl rfl)
theorem dJ26_untreeify_16 : decode cJ26_untreeify 16 = .ok (.invokevirtual 108, 3) := dk_182 0 108 (dk_at dksJ26_untreeify_0 16 rfl rfl)
theorem dJ26_untreeify_19 : decode cJ26_untreeify 19 = .ok (.astore 5, 2) := dk_58 5 (dk_at dksJ26_untreeify_0 19 rfl rfl)
theorem dJ26_untreeify_21 : decode cJ26_untreeify 21 = .ok (.aload_n 3, 1) := dk_45 (dk_at dksJ26_untreeify_0 21 rfl rfl)
theorem dJ26_untreeify_22 : decode cJ26_untreeify 22 = .ok (.ifnonnull 9, 3) := dk_199 0 9 (dk_at dksJ26_untreeify_1 0 rfl rfl)
theorem dJ26_untreeify_25 : decode cJ26_untreeify 25 = .ok (.aload 5, 2) := dk_25 5 (dk_at dksJ26_untreeify_1 3 rfl rfl)
theorem dJ26_untreeify_27 : decode cJ26_untreeify 27 = .ok (.astore_n 2, 1) := dk_77 (dk_at dksJ26_untreeify_1 5 rfl rfl)
theorem dJ26_untreeify_28 : decode cJ26_untreeify 28 = .ok (.goto 9, 3) := dk_167 0 9 (dk_at dksJ26_untreeify_1 6 rfl rfl)
theorem dJ26_untreeify_31 : decode cJ26_untreeify 31 = .ok (.aload_n 3, 1) := dk_45 (dk_at dksJ26_untreeify_1 9 rfl rfl)
theorem dJ26_untreeify_32 : decode cJ26_untreeify 32 = .ok (.aload 5, 2) := dk_25 5 (dk_at dksJ26_untreeify_1 10 rfl rfl)
theorem dJ26_untreeify_34 : decode cJ26_untreeify 34 = .ok (.putfield 112, 3) := dk_181 0 112 (dk_at dksJ26_untreeify_1 12 rfl rfl)
theorem dJ26_untreeify_37 : decode cJ26_untreeify 37 = .ok (.aload 5, 2) := dk_25 5 (dk_at dksJ26_untreeify_1 15 rfl rfl)
theorem dJ26_untreeify_39 : decode cJ26_untreeify 39 = .ok (.astore_n 3, 1) := dk_78 (dk_at dksJ26_untreeify_1 17 rfl rfl)
theorem dJ26_untreeify_40 : decode cJ26_untreeify 40 = .ok (.aload 4, 2) := dk_25 4 (dk_at dksJ26_untreeify_1 18 rfl rfl)
theorem dJ26_untreeify_42 : decode cJ26_untreeify 42 = .ok (.getfield 112, 3) := dk_180 0 112 (dk_at dksJ26_untreeify_1 20 rfl rfl)
theorem dJ26_untreeify_45 : decode cJ26_untreeify 45 = .ok (.astore 4, 2) := dk_58 4 (dk_at dksJ26_untreeify_2 0 rfl rfl)
theorem dJ26_untreeify_47 : decode cJ26_untreeify 47 = .ok (.goto (-40), 3) := dk_167 255 216 (dk_at dksJ26_untreeify_2 2 rfl rfl)
theorem dJ26_untreeify_50 : decode cJ26_untreeify 50 = .ok (.aload_n 2, 1) := dk_44 (dk_at dksJ26_untreeify_2 5 rfl rfl)
theorem dJ26_untreeify_51 : decode cJ26_untreeify 51 = .ok (.areturn, 1) := dk_176 (dk_at dksJ26_untreeify_2 6 rfl rfl)
abbrev cJ26_treeify : ByteArray := prog_62_method_7_code
def yJ26_treeify : MethodName := ⟨RJ26, "treeify", "([Ljava/util/HashMap$Node;)V"⟩
def dkwJ26_treeify_9 : List UInt8 := [25, 4, 78, 167, 255, 48, 43, 44, 184, 0, 104, 177]
abbrev dktJ26_treeify_9 : List UInt8 := dkwJ26_treeify_9 ++ []
def dkwJ26_treeify_8 : List UInt8 := [181, 0, 39, 167, 0, 9, 25, 12, 45, 181, 0, 42, 44, 45, 184, 0, 100, 77, 167, 0, 6, 167, 255, 114]
abbrev dktJ26_treeify_8 : List UInt8 := dkwJ26_treeify_8 ++ dktJ26_treeify_9
def dkwJ26_treeify_7 : List UInt8 := [180, 0, 42, 89, 58, 8, 199, 0, 38, 45, 25, 12, 181, 0, 9, 21, 9, 157, 0, 12, 25, 12, 45]
abbrev dktJ26_treeify_7 : List UInt8 := dkwJ26_treeify_7 ++ dktJ26_treeify_8
def dkwJ26_treeify_6 : List UInt8 := [184, 0, 96, 54, 9, 25, 8, 58, 12, 21, 9, 157, 0, 11, 25, 8, 180, 0, 39, 167, 0, 8, 25, 8]
abbrev dktJ26_treeify_6 : List UInt8 := dkwJ26_treeify_6 ++ dktJ26_treeify_7
def dkwJ26_treeify_5 : List UInt8 := [198, 0, 18, 25, 7, 25, 5, 25, 11, 184, 0, 59, 89, 54, 9, 154, 0, 12, 25, 5, 25, 11]
abbrev dktJ26_treeify_5 : List UInt8 := dkwJ26_treeify_5 ++ dktJ26_treeify_6
def dkwJ26_treeify_4 : List UInt8 := [162, 0, 9, 4, 54, 9, 167, 0, 43, 25, 7, 199, 0, 14, 25, 5, 184, 0, 55, 89, 58, 7]
abbrev dktJ26_treeify_4 : List UInt8 := dkwJ26_treeify_4 ++ dktJ26_treeify_5
def dkwJ26_treeify_3 : List UInt8 := [25, 8, 180, 0, 15, 89, 54, 10, 21, 6, 164, 0, 9, 2, 54, 9, 167, 0, 56, 21, 10, 21, 6]
abbrev dktJ26_treeify_3 : List UInt8 := dkwJ26_treeify_3 ++ dktJ26_treeify_4
def dkwJ26_treeify_2 : List UInt8 := [180, 0, 45, 58, 5, 45, 180, 0, 15, 54, 6, 1, 58, 7, 44, 58, 8, 25, 8, 180, 0, 45, 58, 11]
abbrev dktJ26_treeify_2 : List UInt8 := dkwJ26_treeify_2 ++ dktJ26_treeify_3
def dkwJ26_treeify_1 : List UInt8 := [181, 0, 39, 44, 199, 0, 18, 45, 1, 181, 0, 9, 45, 3, 181, 0, 93, 45, 77, 167, 0, 166, 45]
abbrev dktJ26_treeify_1 : List UInt8 := dkwJ26_treeify_1 ++ dktJ26_treeify_2
def dkwJ26_treeify_0 : List UInt8 := [1, 77, 42, 78, 45, 198, 0, 210, 45, 180, 0, 22, 192, 0, 10, 58, 4, 45, 45, 1, 90, 181, 0, 42]
abbrev dktJ26_treeify_0 : List UInt8 := dkwJ26_treeify_0 ++ dktJ26_treeify_1
theorem dksJ26_treeify_0 : cJ26_treeify.data.toList.drop 0 = dktJ26_treeify_0 := by decide +kernel
theorem dksJ26_treeify_1 : cJ26_treeify.data.toList.drop 24 = dktJ26_treeify_1 := dk_seg dksJ26_treeify_0 24 rfl rfl
theorem dksJ26_treeify_2 : cJ26_treeify.data.toList.drop 47 = dktJ26_treeify_2 := dk_seg dksJ26_treeify_1 23 rfl rfl
theorem dksJ26_treeify_3 : cJ26_treeify.data.toList.drop 71 = dktJ26_treeify_3 := dk_seg dksJ26_treeify_2 24 rfl rfl
theorem dksJ26_treeify_4 : cJ26_treeify.data.toList.drop 94 = dktJ26_treeify_4 := dk_seg dksJ26_treeify_3 23 rfl rfl
theorem dksJ26_treeify_5 : cJ26_treeify.data.toList.drop 116 = dktJ26_treeify_5 := dk_seg dksJ26_treeify_4 22 rfl rfl
theorem dksJ26_treeify_6 : cJ26_treeify.data.toList.drop 138 = dktJ26_treeify_6 := dk_seg dksJ26_treeify_5 22 rfl rfl
theorem dksJ26_treeify_7 : cJ26_treeify.data.toList.drop 162 = dktJ26_treeify_7 := dk_seg dksJ26_treeify_6 24 rfl rfl
theorem dksJ26_treeify_8 : cJ26_treeify.data.toList.drop 185 = dktJ26_treeify_8 := dk_seg dksJ26_treeify_7 23 rfl rfl
theorem dksJ26_treeify_9 : cJ26_treeify.data.toList.drop 209 = dktJ26_treeify_9 := dk_seg dksJ26_treeify_8 24 rfl rfl
theorem dJ26_treeify_0 : decode cJ26_treeify 0 = .ok (.aconst_null, 1) := dk_1 (dk_at dksJ26_treeify_0 0 rfl rfl)
theorem dJ26_treeify_1 : decode cJ26_treeify 1 = .ok (.astore_n 2, 1) := dk_77 (dk_at dksJ26_treeify_0 1 rfl rfl)
theorem dJ26_treeify_2 : decode cJ26_treeify 2 = .ok (.aload_n 0, 1) := dk_42 (dk_at dksJ26_treeify_0 2 rfl rfl)
theorem dJ26_treeify_3 : decode cJ26_treeify 3 = .ok (.astore_n 3, 1) := dk_78 (dk_at dksJ26_treeify_0 3 rfl rfl)
theorem dJ26_treeify_4 : decode cJ26_treeify 4 = .ok (.aload_n 3, 1) := dk_45 (dk_at dksJ26_treeify_0 4 rfl rfl)
theorem dJ26_treeify_5 : decode cJ26_treeify 5 = .ok (.ifnull 210, 3) := dk_198 0 210 (dk_at dksJ26_treeify_0 5 rfl rfl)
theorem dJ26_treeify_8 : decode cJ26_treeify 8 = .ok (.aload_n 3, 1) := dk_45 (dk_at dksJ26_treeify_0 8 rfl rfl)
theorem dJ26_treeify_9 : decode cJ26_treeify 9 = .ok (.getfield 22, 3) := dk_180 0 22 (dk_at dksJ26_treeify_0 9 rfl rfl)
theorem dJ26_treeify_12 : decode cJ26_treeify 12 = .ok (.checkcast 10, 3) := dk_192 0 10 (dk_at dksJ26_treeify_0 12 rfl rfl)
theorem dJ26_treeify_15 : decode cJ26_treeify 15 = .ok (.astore 4, 2) := dk_58 4 (dk_at dksJ26_treeify_0 15 rfl rfl)
theorem dJ26_treeify_17 : decode cJ26_treeify 17 = .ok (.aload_n 3, 1) := dk_45 (dk_at dksJ26_treeify_0 17 rfl rfl)
theorem dJ26_treeify_18 : decode cJ26_treeify 18 = .ok (.aload_n 3, 1) := dk_45 (dk_at dksJ26_treeify_0 18 rfl rfl)
theorem dJ26_treeify_19 : decode cJ26_treeify 19 = .ok (.aconst_null, 1) := dk_1 (dk_at dksJ26_treeify_0 19 rfl rfl)
theorem dJ26_treeify_20 : decode cJ26_treeify 20 = .ok (.dup_x1, 1) := dk_90 (dk_at dksJ26_treeify_0 20 rfl rfl)
theorem dJ26_treeify_21 : decode cJ26_treeify 21 = .ok (.putfield 42, 3) := dk_181 0 42 (dk_at dksJ26_treeify_0 21 rfl rfl)
theorem dJ26_treeify_24 : decode cJ26_treeify 24 = .ok (.putfield 39, 3) := dk_181 0 39 (dk_at dksJ26_treeify_1 0 rfl rfl)
theorem dJ26_treeify_27 : decode cJ26_treeify 27 = .ok (.aload_n 2, 1) := dk_44 (dk_at dksJ26_treeify_1 3 rfl rfl)
theorem dJ26_treeify_28 : decode cJ26_treeify 28 = .ok (.ifnonnull 18, 3) := dk_199 0 18 (dk_at dksJ26_treeify_1 4 rfl rfl)
theorem dJ26_treeify_31 : decode cJ26_treeify 31 = .ok (.aload_n 3, 1) := dk_45 (dk_at dksJ26_treeify_1 7 rfl rfl)
theorem dJ26_treeify_32 : decode cJ26_treeify 32 = .ok (.aconst_null, 1) := dk_1 (dk_at dksJ26_treeify_1 8 rfl rfl)
theorem dJ26_treeify_33 : decode cJ26_treeify 33 = .ok (.putfield 9, 3) := dk_181 0 9 (dk_at dksJ26_treeify_1 9 rfl rfl)
theorem dJ26_treeify_36 : decode cJ26_treeify 36 = .ok (.aload_n 3, 1) := dk_45 (dk_at dksJ26_treeify_1 12 rfl rfl)
theorem dJ26_treeify_37 : decode cJ26_treeify 37 = .ok (.iconst 0, 1) := dk_3 (dk_at dksJ26_treeify_1 13 rfl rfl)
theorem dJ26_treeify_38 : decode cJ26_treeify 38 = .ok (.putfield 93, 3) := dk_181 0 93 (dk_at dksJ26_treeify_1 14 rfl rfl)
theorem dJ26_treeify_41 : decode cJ26_treeify 41 = .ok (.aload_n 3, 1) := dk_45 (dk_at dksJ26_treeify_1 17 rfl rfl)
theorem dJ26_treeify_42 : decode cJ26_treeify 42 = .ok (.astore_n 2, 1) := dk_77 (dk_at dksJ26_treeify_1 18 rfl rfl)
theorem dJ26_treeify_43 : decode cJ26_treeify 43 = .ok (.goto 166, 3) := dk_167 0 166 (dk_at dksJ26_treeify_1 19 rfl rfl)
theorem dJ26_treeify_46 : decode cJ26_treeify 46 = .ok (.aload_n 3, 1) := dk_45 (dk_at dksJ26_treeify_1 22 rfl rfl)
theorem dJ26_treeify_47 : decode cJ26_treeify 47 = .ok (.getfield 45, 3) := dk_180 0 45 (dk_at dksJ26_treeify_2 0 rfl rfl)
theorem dJ26_treeify_50 : decode cJ26_treeify 50 = .ok (.astore 5, 2) := dk_58 5 (dk_at dksJ26_treeify_2 3 rfl rfl)
theorem dJ26_treeify_52 : decode cJ26_treeify 52 = .ok (.aload_n 3, 1) := dk_45 (dk_at dksJ26_treeify_2 5 rfl rfl)
theorem dJ26_treeify_53 : decode cJ26_treeify 53 = .ok (.getfield 15, 3) := dk_180 0 15 (dk_at dksJ26_treeify_2 6 rfl rfl)
theorem dJ26_treeify_56 : decode cJ26_treeify 56 = .ok (.istore 6, 2) := dk_54 6 (dk_at dksJ26_treeify_2 9 rfl rfl)
theorem dJ26_treeify_58 : decode cJ26_treeify 58 = .ok (.aconst_null, 1) := dk_1 (dk_at dksJ26_treeify_2 11 rfl rfl)
theorem dJ26_treeify_59 : decode cJ26_treeify 59 = .ok (.astore 7, 2) := dk_58 7 (dk_at dksJ26_treeify_2 12 rfl rfl)
theorem dJ26_treeify_61 : decode cJ26_treeify 61 = .ok (.aload_n 2, 1) := dk_44 (dk_at dksJ26_treeify_2 14 rfl rfl)
theorem dJ26_treeify_62 : decode cJ26_treeify 62 = .ok (.astore 8, 2) := dk_58 8 (dk_at dksJ26_treeify_2 15 rfl rfl)
theorem dJ26_treeify_64 : decode cJ26_treeify 64 = .ok (.aload 8, 2) := dk_25 8 (dk_at dksJ26_treeify_2 17 rfl rfl)
theorem dJ26_treeify_66 : decode cJ26_treeify 66 = .ok (.getfield 45, 3) := dk_180 0 45 (dk_at dksJ26_treeify_2 19 rfl rfl)
theorem dJ26_treeify_69 : decode cJ26_treeify 69 = .ok (.astore 11, 2) := dk_58 11 (dk_at dksJ26_treeify_2 22 rfl rfl)
theorem dJ26_treeify_71 : decode cJ26_treeify 71 = .ok (.aload 8, 2) := dk_25 8 (dk_at dksJ26_treeify_3 0 rfl rfl)
theorem dJ26_treeify_73 : decode cJ26_treeify 73 = .ok (.getfield 15, 3) := dk_180 0 15 (dk_at dksJ26_treeify_3 2 rfl rfl)
theorem dJ26_treeify_76 : decode cJ26_treeify 76 = .ok (.dup, 1) := dk_89 (dk_at dksJ26_treeify_3 5 rfl rfl)
theorem dJ26_treeify_77 : decode cJ26_treeify 77 = .ok (.istore 10, 2) := dk_54 10 (dk_at dksJ26_treeify_3 6 rfl rfl)
theorem dJ26_treeify_79 : decode cJ26_treeify 79 = .ok (.iload 6, 2) := dk_21 6 (dk_at dksJ26_treeify_3 8 rfl rfl)
theorem dJ26_treeify_81 : decode cJ26_treeify 81 = .ok (.if_icmp .le 9, 3) := dk_164 0 9 (dk_at dksJ26_treeify_3 10 rfl rfl)
theorem dJ26_treeify_84 : decode cJ26_treeify 84 = .ok (.iconst (-1), 1) := dk_2 (dk_at dksJ26_treeify_3 13 rfl rfl)
theorem dJ26_treeify_85 : decode cJ26_treeify 85 = .ok (.istore 9, 2) := dk_54 9 (dk_at dksJ26_treeify_3 14 rfl rfl)
theorem dJ26_treeify_87 : decode cJ26_treeify 87 = .ok (.goto 56, 3) := dk_167 0 56 (dk_at dksJ26_treeify_3 16 rfl rfl)
theorem dJ26_treeify_90 : decode cJ26_treeify 90 = .ok (.iload 10, 2) := dk_21 10 (dk_at dksJ26_treeify_3 19 rfl rfl)
theorem dJ26_treeify_92 : decode cJ26_treeify 92 = .ok (.iload 6, 2) := dk_21 6 (dk_at dksJ26_treeify_3 21 rfl rfl)
theorem dJ26_treeify_94 : decode cJ26_treeify 94 = .ok (.if_icmp .ge 9, 3) := dk_162 0 9 (dk_at dksJ26_treeify_4 0 rfl rfl)
theorem dJ26_treeify_97 : decode cJ26_treeify 97 = .ok (.iconst 1, 1) := dk_4 (dk_at dksJ26_treeify_4 3 rfl rfl)
theorem dJ26_treeify_98 : decode cJ26_treeify 98 = .ok (.istore 9, 2) := dk_54 9 (dk_at dksJ26_treeify_4 4 rfl rfl)
theorem dJ26_treeify_100 : decode cJ26_treeify 100 = .ok (.goto 43, 3) := dk_167 0 43 (dk_at dksJ26_treeify_4 6 rfl rfl)
theorem dJ26_treeify_103 : decode cJ26_treeify 103 = .ok (.aload 7, 2) := dk_25 7 (dk_at dksJ26_treeify_4 9 rfl rfl)
theorem dJ26_treeify_105 : decode cJ26_treeify 105 = .ok (.ifnonnull 14, 3) := dk_199 0 14 (dk_at dksJ26_treeify_4 11 rfl rfl)
theorem dJ26_treeify_108 : decode cJ26_treeify 108 = .ok (.aload 5, 2) := dk_25 5 (dk_at dksJ26_treeify_4 14 rfl rfl)
theorem dJ26_treeify_110 : decode cJ26_treeify 110 = .ok (.invokestatic 55, 3) := dk_184 0 55 (dk_at dksJ26_treeify_4 16 rfl rfl)
theorem dJ26_treeify_113 : decode cJ26_treeify 113 = .ok (.dup, 1) := dk_89 (dk_at dksJ26_treeify_4 19 rfl rfl)
theorem dJ26_treeify_114 : decode cJ26_treeify 114 = .ok (.astore 7, 2) := dk_58 7 (dk_at dksJ26_treeify_4 20 rfl rfl)
theorem dJ26_treeify_116 : decode cJ26_treeify 116 = .ok (.ifnull 18, 3) := dk_198 0 18 (dk_at dksJ26_treeify_5 0 rfl rfl)
theorem dJ26_treeify_119 : decode cJ26_treeify 119 = .ok (.aload 7, 2) := dk_25 7 (dk_at dksJ26_treeify_5 3 rfl rfl)
theorem dJ26_treeify_121 : decode cJ26_treeify 121 = .ok (.aload 5, 2) := dk_25 5 (dk_at dksJ26_treeify_5 5 rfl rfl)
theorem dJ26_treeify_123 : decode cJ26_treeify 123 = .ok (.aload 11, 2) := dk_25 11 (dk_at dksJ26_treeify_5 7 rfl rfl)
theorem dJ26_treeify_125 : decode cJ26_treeify 125 = .ok (.invokestatic 59, 3) := dk_184 0 59 (dk_at dksJ26_treeify_5 9 rfl rfl)
theorem dJ26_treeify_128 : decode cJ26_treeify 128 = .ok (.dup, 1) := dk_89 (dk_at dksJ26_treeify_5 12 rfl rfl)
theorem dJ26_treeify_129 : decode cJ26_treeify 129 = .ok (.istore 9, 2) := dk_54 9 (dk_at dksJ26_treeify_5 13 rfl rfl)
theorem dJ26_treeify_131 : decode cJ26_treeify 131 = .ok (.ifCond .ne 12, 3) := dk_154 0 12 (dk_at dksJ26_treeify_5 15 rfl rfl)
theorem dJ26_treeify_134 : decode cJ26_treeify 134 = .ok (.aload 5, 2) := dk_25 5 (dk_at dksJ26_treeify_5 18 rfl rfl)
theorem dJ26_treeify_136 : decode cJ26_treeify 136 = .ok (.aload 11, 2) := dk_25 11 (dk_at dksJ26_treeify_5 20 rfl rfl)
theorem dJ26_treeify_138 : decode cJ26_treeify 138 = .ok (.invokestatic 96, 3) := dk_184 0 96 (dk_at dksJ26_treeify_6 0 rfl rfl)
theorem dJ26_treeify_141 : decode cJ26_treeify 141 = .ok (.istore 9, 2) := dk_54 9 (dk_at dksJ26_treeify_6 3 rfl rfl)
theorem dJ26_treeify_143 : decode cJ26_treeify 143 = .ok (.aload 8, 2) := dk_25 8 (dk_at dksJ26_treeify_6 5 rfl rfl)
theorem dJ26_treeify_145 : decode cJ26_treeify 145 = .ok (.astore 12, 2) := dk_58 12 (dk_at dksJ26_treeify_6 7 rfl rfl)
theorem dJ26_treeify_147 : decode cJ26_treeify 147 = .ok (.iload 9, 2) := dk_21 9 (dk_at dksJ26_treeify_6 9 rfl rfl)
theorem dJ26_treeify_149 : decode cJ26_treeify 149 = .ok (.ifCond .gt 11, 3) := dk_157 0 11 (dk_at dksJ26_treeify_6 11 rfl rfl)
theorem dJ26_treeify_152 : decode cJ26_treeify 152 = .ok (.aload 8, 2) := dk_25 8 (dk_at dksJ26_treeify_6 14 rfl rfl)
theorem dJ26_treeify_154 : decode cJ26_treeify 154 = .ok (.getfield 39, 3) := dk_180 0 39 (dk_at dksJ26_treeify_6 16 rfl rfl)
theorem dJ26_treeify_157 : decode cJ26_treeify 157 = .ok (.goto 8, 3) := dk_167 0 8 (dk_at dksJ26_treeify_6 19 rfl rfl)
theorem dJ26_treeify_160 : decode cJ26_treeify 160 = .ok (.aload 8, 2) := dk_25 8 (dk_at dksJ26_treeify_6 22 rfl rfl)
theorem dJ26_treeify_162 : decode cJ26_treeify 162 = .ok (.getfield 42, 3) := dk_180 0 42 (dk_at dksJ26_treeify_7 0 rfl rfl)
theorem dJ26_treeify_165 : decode cJ26_treeify 165 = .ok (.dup, 1) := dk_89 (dk_at dksJ26_treeify_7 3 rfl rfl)
theorem dJ26_treeify_166 : decode cJ26_treeify 166 = .ok (.astore 8, 2) := dk_58 8 (dk_at dksJ26_treeify_7 4 rfl rfl)
theorem dJ26_treeify_168 : decode cJ26_treeify 168 = .ok (.ifnonnull 38, 3) := dk_199 0 38 (dk_at dksJ26_treeify_7 6 rfl rfl)
theorem dJ26_treeify_171 : decode cJ26_treeify 171 = .ok (.aload_n 3, 1) := dk_45 (dk_at dksJ26_treeify_7 9 rfl rfl)
theorem dJ26_treeify_172 : decode cJ26_treeify 172 = .ok (.aload 12, 2) := dk_25 12 (dk_at dksJ26_treeify_7 10 rfl rfl)
theorem dJ26_treeify_174 : decode cJ26_treeify 174 = .ok (.putfield 9, 3) := dk_181 0 9 (dk_at dksJ26_treeify_7 12 rfl rfl)
theorem dJ26_treeify_177 : decode cJ26_treeify 177 = .ok (.iload 9, 2) := dk_21 9 (dk_at dksJ26_treeify_7 15 rfl rfl)
theorem dJ26_treeify_179 : decode cJ26_treeify 179 = .ok (.ifCond .gt 12, 3) := dk_157 0 12 (dk_at dksJ26_treeify_7 17 rfl rfl)
theorem dJ26_treeify_182 : decode cJ26_treeify 182 = .ok (.aload 12, 2) := dk_25 12 (dk_at dksJ26_treeify_7 20 rfl rfl)
theorem dJ26_treeify_184 : decode cJ26_treeify 184 = .ok (.aload_n 3, 1) := dk_45 (dk_at dksJ26_treeify_7 22 rfl rfl)
theorem dJ26_treeify_185 : decode cJ26_treeify 185 = .ok (.putfield 39, 3) := dk_181 0 39 (dk_at dksJ26_treeify_8 0 rfl rfl)
theorem dJ26_treeify_188 : decode cJ26_treeify 188 = .ok (.goto 9, 3) := dk_167 0 9 (dk_at dksJ26_treeify_8 3 rfl rfl)
theorem dJ26_treeify_191 : decode cJ26_treeify 191 = .ok (.aload 12, 2) := dk_25 12 (dk_at dksJ26_treeify_8 6 rfl rfl)
theorem dJ26_treeify_193 : decode cJ26_treeify 193 = .ok (.aload_n 3, 1) := dk_45 (dk_at dksJ26_treeify_8 8 rfl rfl)
theorem dJ26_treeify_194 : decode cJ26_treeify 194 = .ok (.putfield 42, 3) := dk_181 0 42 (dk_at dksJ26_treeify_8 9 rfl rfl)
theorem dJ26_treeify_197 : decode cJ26_treeify 197 = .ok (.aload_n 2, 1) := dk_44 (dk_at dksJ26_treeify_8 12 rfl rfl)
theorem dJ26_treeify_198 : decode cJ26_treeify 198 = .ok (.aload_n 3, 1) := dk_45 (dk_at dksJ26_treeify_8 13 rfl rfl)
theorem dJ26_treeify_199 : decode cJ26_treeify 199 = .ok (.invokestatic 100, 3) := dk_184 0 100 (dk_at dksJ26_treeify_8 14 rfl rfl)
theorem dJ26_treeify_202 : decode cJ26_treeify 202 = .ok (.astore_n 2, 1) := dk_77 (dk_at dksJ26_treeify_8 17 rfl rfl)
theorem dJ26_treeify_203 : decode cJ26_treeify 203 = .ok (.goto 6, 3) := dk_167 0 6 (dk_at dksJ26_treeify_8 18 rfl rfl)
theorem dJ26_treeify_206 : decode cJ26_treeify 206 = .ok (.goto (-142), 3) := dk_167 255 114 (dk_at dksJ26_treeify_8 21 rfl rfl)
theorem dJ26_treeify_209 : decode cJ26_treeify 209 = .ok (.aload 4, 2) := dk_25 4 (dk_at dksJ26_treeify_9 0 rfl rfl)
theorem dJ26_treeify_211 : decode cJ26_treeify 211 = .ok (.astore_n 3, 1) := dk_78 (dk_at dksJ26_treeify_9 2 rfl rfl)
theorem dJ26_treeify_212 : decode cJ26_treeify 212 = .ok (.goto (-208), 3) := dk_167 255 48 (dk_at dksJ26_treeify_9 3 rfl rfl)
theorem dJ26_treeify_215 : decode cJ26_treeify 215 = .ok (.aload_n 1, 1) := dk_43 (dk_at dksJ26_treeify_9 6 rfl rfl)
theorem dJ26_treeify_216 : decode cJ26_treeify 216 = .ok (.aload_n 2, 1) := dk_44 (dk_at dksJ26_treeify_9 7 rfl rfl)
theorem dJ26_treeify_217 : decode cJ26_treeify 217 = .ok (.invokestatic 104, 3) := dk_184 0 104 (dk_at dksJ26_treeify_9 8 rfl rfl)
theorem dJ26_treeify_220 : decode cJ26_treeify 220 = .ok (.return_, 1) := dk_177 (dk_at dksJ26_treeify_9 11 rfl rfl)
abbrev cJ26_balanceInsertion : ByteArray := prog_62_method_14_code
def yJ26_balanceInsertion : MethodName := ⟨RJ26, "balanceInsertion", "(Ljava/util/HashMap$TreeNode;Ljava/util/HashMap$TreeNode;)Ljava/util/HashMap$TreeNode;"⟩
def dkwJ26_balanceInsertion_10 : List UInt8 := [198, 255, 33, 45, 4, 181, 0, 93, 42, 45, 184, 0, 130, 75, 167, 255, 19]
abbrev dktJ26_balanceInsertion_10 : List UInt8 := dkwJ26_balanceInsertion_10 ++ []
def dkwJ26_balanceInsertion_9 : List UInt8 := [199, 0, 7, 1, 167, 0, 7, 44, 180, 0, 9, 78, 44, 198, 255, 42, 44, 3, 181, 0, 93, 45]
abbrev dktJ26_balanceInsertion_9 : List UInt8 := dkwJ26_balanceInsertion_9 ++ dktJ26_balanceInsertion_10
def dkwJ26_balanceInsertion_8 : List UInt8 := [43, 44, 180, 0, 39, 166, 0, 29, 42, 44, 89, 76, 184, 0, 133, 75, 43, 180, 0, 9, 89, 77]
abbrev dktJ26_balanceInsertion_8 : List UInt8 := dkwJ26_balanceInsertion_8 ++ dktJ26_balanceInsertion_9
def dkwJ26_balanceInsertion_7 : List UInt8 := [153, 0, 24, 25, 4, 3, 181, 0, 93, 44, 3, 181, 0, 93, 45, 4, 181, 0, 93, 45, 76, 167, 255, 80]
abbrev dktJ26_balanceInsertion_7 : List UInt8 := dkwJ26_balanceInsertion_7 ++ dktJ26_balanceInsertion_8
def dkwJ26_balanceInsertion_6 : List UInt8 := [181, 0, 93, 42, 45, 184, 0, 133, 75, 167, 255, 114, 25, 4, 198, 0, 32, 25, 4, 180, 0, 93]
abbrev dktJ26_balanceInsertion_6 : List UInt8 := dkwJ26_balanceInsertion_6 ++ dktJ26_balanceInsertion_7
def dkwJ26_balanceInsertion_5 : List UInt8 := [167, 0, 7, 44, 180, 0, 9, 78, 44, 198, 255, 137, 44, 3, 181, 0, 93, 45, 198, 255, 128, 45, 4]
abbrev dktJ26_balanceInsertion_5 : List UInt8 := dkwJ26_balanceInsertion_5 ++ dktJ26_balanceInsertion_6
def dkwJ26_balanceInsertion_4 : List UInt8 := [180, 0, 42, 166, 0, 29, 42, 44, 89, 76, 184, 0, 130, 75, 43, 180, 0, 9, 89, 77, 199, 0, 7, 1]
abbrev dktJ26_balanceInsertion_4 : List UInt8 := dkwJ26_balanceInsertion_4 ++ dktJ26_balanceInsertion_5
def dkwJ26_balanceInsertion_3 : List UInt8 := [25, 5, 3, 181, 0, 93, 44, 3, 181, 0, 93, 45, 4, 181, 0, 93, 45, 76, 167, 255, 175, 43, 44]
abbrev dktJ26_balanceInsertion_3 : List UInt8 := dkwJ26_balanceInsertion_3 ++ dktJ26_balanceInsertion_4
def dkwJ26_balanceInsertion_2 : List UInt8 := [58, 4, 166, 0, 103, 45, 180, 0, 42, 89, 58, 5, 198, 0, 32, 25, 5, 180, 0, 93, 153, 0, 24]
abbrev dktJ26_balanceInsertion_2 : List UInt8 := dkwJ26_balanceInsertion_2 ++ dktJ26_balanceInsertion_3
def dkwJ26_balanceInsertion_1 : List UInt8 := [180, 0, 93, 153, 0, 12, 44, 180, 0, 9, 89, 78, 199, 0, 5, 42, 176, 44, 45, 180, 0, 39, 89]
abbrev dktJ26_balanceInsertion_1 : List UInt8 := dkwJ26_balanceInsertion_1 ++ dktJ26_balanceInsertion_2
def dkwJ26_balanceInsertion_0 : List UInt8 := [43, 4, 181, 0, 93, 43, 180, 0, 9, 89, 77, 199, 0, 10, 43, 3, 181, 0, 93, 43, 176, 44]
abbrev dktJ26_balanceInsertion_0 : List UInt8 := dkwJ26_balanceInsertion_0 ++ dktJ26_balanceInsertion_1
theorem dksJ26_balanceInsertion_0 : cJ26_balanceInsertion.data.toList.drop 0 = dktJ26_balanceInsertion_0 := by decide +kernel
theorem dksJ26_balanceInsertion_1 : cJ26_balanceInsertion.data.toList.drop 22 = dktJ26_balanceInsertion_1 := dk_seg dksJ26_balanceInsertion_0 22 rfl rfl
theorem dksJ26_balanceInsertion_2 : cJ26_balanceInsertion.data.toList.drop 45 = dktJ26_balanceInsertion_2 := dk_seg dksJ26_balanceInsertion_1 23 rfl rfl
theorem dksJ26_balanceInsertion_3 : cJ26_balanceInsertion.data.toList.drop 68 = dktJ26_balanceInsertion_3 := dk_seg dksJ26_balanceInsertion_2 23 rfl rfl
theorem dksJ26_balanceInsertion_4 : cJ26_balanceInsertion.data.toList.drop 91 = dktJ26_balanceInsertion_4 := dk_seg dksJ26_balanceInsertion_3 23 rfl rfl
theorem dksJ26_balanceInsertion_5 : cJ26_balanceInsertion.data.toList.drop 115 = dktJ26_balanceInsertion_5 := dk_seg dksJ26_balanceInsertion_4 24 rfl rfl
theorem dksJ26_balanceInsertion_6 : cJ26_balanceInsertion.data.toList.drop 138 = dktJ26_balanceInsertion_6 := dk_seg dksJ26_balanceInsertion_5 23 rfl rfl
theorem dksJ26_balanceInsertion_7 : cJ26_balanceInsertion.data.toList.drop 160 = dktJ26_balanceInsertion_7 := dk_seg dksJ26_balanceInsertion_6 22 rfl rfl
theorem dksJ26_balanceInsertion_8 : cJ26_balanceInsertion.data.toList.drop 184 = dktJ26_balanceInsertion_8 := dk_seg dksJ26_balanceInsertion_7 24 rfl rfl
theorem dksJ26_balanceInsertion_9 : cJ26_balanceInsertion.data.toList.drop 206 = dktJ26_balanceInsertion_9 := dk_seg dksJ26_balanceInsertion_8 22 rfl rfl
theorem dksJ26_balanceInsertion_10 : cJ26_balanceInsertion.data.toList.drop 228 = dktJ26_balanceInsertion_10 := dk_seg dksJ26_balanceInsertion_9 22 rfl rfl
theorem dJ26_balanceInsertion_0 : decode cJ26_balanceInsertion 0 = .ok (.aload_n 1, 1) := dk_43 (dk_at dksJ26_balanceInsertion_0 0 rfl rfl)
theorem dJ26_balanceInsertion_1 : decode cJ26_balanceInsertion 1 = .ok (.iconst 1, 1) := dk_4 (dk_at dksJ26_balanceInsertion_0 1 rfl rfl)
theorem dJ26_balanceInsertion_2 : decode cJ26_balanceInsertion 2 = .ok (.putfield 93, 3) := dk_181 0 93 (dk_at dksJ26_balanceInsertion_0 2 rfl rfl)
theorem dJ26_balanceInsertion_5 : decode cJ26_balanceInsertion 5 = .ok (.aload_n 1, 1) := dk_43 (dk_at dksJ26_balanceInsertion_0 5 rfl rfl)
theorem dJ26_balanceInsertion_6 : decode cJ26_balanceInsertion 6 = .ok (.getfield 9, 3) := dk_180 0 9 (dk_at dksJ26_balanceInsertion_0 6 rfl rfl)
theorem dJ26_balanceInsertion_9 : decode cJ26_balanceInsertion 9 = .ok (.dup, 1) := dk_89 (dk_at dksJ26_balanceInsertion_0 9 rfl rfl)
theorem dJ26_balanceInsertion_10 : decode cJ26_balanceInsertion 10 = .ok (.astore_n 2, 1) := dk_77 (dk_at dksJ26_balanceInsertion_0 10 rfl rfl)
theorem dJ26_balanceInsertion_11 : decode cJ26_balanceInsertion 11 = .ok (.ifnonnull 10, 3) := dk_199 0 10 (dk_at dksJ26_balanceInsertion_0 11 rfl rfl)
theorem dJ26_balanceInsertion_14 : decode cJ26_balanceInsertion 14 = .ok (.aload_n 1, 1) := dk_43 (dk_at dksJ26_balanceInsertion_0 14 rfl rfl)
theorem dJ26_balanceInsertion_15 : decode cJ26_balanceInsertion 15 = .ok (.iconst 0, 1) := dk_3 (dk_at dksJ26_balanceInsertion_0 15 rfl rfl)
theorem dJ26_balanceInsertion_16 : decode cJ26_balanceInsertion 16 = .ok (.putfield 93, 3) := dk_181 0 93 (dk_at dksJ26_balanceInsertion_0 16 rfl rfl)
theorem dJ26_balanceInsertion_19 : decode cJ26_balanceInsertion 19 = .ok (.aload_n 1, 1) := dk_43 (dk_at dksJ26_balanceInsertion_0 19 rfl rfl)
theorem dJ26_balanceInsertion_20 : decode cJ26_balanceInsertion 20 = .ok (.areturn, 1) := dk_176 (dk_at dksJ26_balanceInsertion_0 20 rfl rfl)
theorem dJ26_balanceInsertion_21 : decode cJ26_balanceInsertion 21 = .ok (.aload_n 2, 1) := dk_44 (dk_at dksJ26_balanceInsertion_0 21 rfl rfl)
theorem dJ26_balanceInsertion_22 : decode cJ26_balanceInsertion 22 = .ok (.getfield 93, 3) := dk_180 0 93 (dk_at dksJ26_balanceInsertion_1 0 rfl rfl)
theorem dJ26_balanceInsertion_25 : decode cJ26_balanceInsertion 25 = .ok (.ifCond .eq 12, 3) := dk_153 0 12 (dk_at dksJ26_balanceInsertion_1 3 rfl rfl)
theorem dJ26_balanceInsertion_28 : decode cJ26_balanceInsertion 28 = .ok (.aload_n 2, 1) := dk_44 (dk_at dksJ26_balanceInsertion_1 6 rfl rfl)
theorem dJ26_balanceInsertion_29 : decode cJ26_balanceInsertion 29 = .ok (.getfield 9, 3) := dk_180 0 9 (dk_at dksJ26_balanceInsertion_1 7 rfl rfl)
theorem dJ26_balanceInsertion_32 : decode cJ26_balanceInsertion 32 = .ok (.dup, 1) := dk_89 (dk_at dksJ26_balanceInsertion_1 10 rfl rfl)
theorem dJ26_balanceInsertion_33 : decode cJ26_balanceInsertion 33 = .ok (.astore_n 3, 1) := dk_78 (dk_at dksJ26_balanceInsertion_1 11 rfl rfl)
theorem dJ26_balanceInsertion_34 : decode cJ26_balanceInsertion 34 = .ok (.ifnonnull 5, 3) := dk_199 0 5 (dk_at dksJ26_balanceInsertion_1 12 rfl rfl)
theorem dJ26_balanceInsertion_37 : decode cJ26_balanceInsertion 37 = .ok (.aload_n 0, 1) := dk_42 (dk_at dksJ26_balanceInsertion_1 15 rfl rfl)
theorem dJ26_balanceInsertion_38 : decode cJ26_balanceInsertion 38 = .ok (.areturn, 1) := dk_176 (dk_at dksJ26_balanceInsertion_1 16 rfl rfl)
theorem dJ26_balanceInsertion_39 : decode cJ26_balanceInsertion 39 = .ok (.aload_n 2, 1) := dk_44 (dk_at dksJ26_balanceInsertion_1 17 rfl rfl)
theorem dJ26_balanceInsertion_40 : decode cJ26_balanceInsertion 40 = .ok (.aload_n 3, 1) := dk_45 (dk_at dksJ26_balanceInsertion_1 18 rfl rfl)
theorem dJ26_balanceInsertion_41 : decode cJ26_balanceInsertion 41 = .ok (.getfield 39, 3) := dk_180 0 39 (dk_at dksJ26_balanceInsertion_1 19 rfl rfl)
theorem dJ26_balanceInsertion_44 : decode cJ26_balanceInsertion 44 = .ok (.dup, 1) := dk_89 (dk_at dksJ26_balanceInsertion_1 22 rfl rfl)
theorem dJ26_balanceInsertion_45 : decode cJ26_balanceInsertion 45 = .ok (.astore 4, 2) := dk_58 4 (dk_at dksJ26_balanceInsertion_2 0 rfl rfl)
theorem dJ26_balanceInsertion_47 : decode cJ26_balanceInsertion 47 = .ok (.if_acmp .ne 103, 3) := dk_166 0 103 (dk_at dksJ26_balanceInsertion_2 2 rfl rfl)
theorem dJ26_balanceInsertion_50 : decode cJ26_balanceInsertion 50 = .ok (.aload_n 3, 1) := dk_45 (dk_at dksJ26_balanceInsertion_2 5 rfl rfl)
theorem dJ26_balanceInsertion_51 : decode cJ26_balanceInsertion 51 = .ok (.getfield 42, 3) := dk_180 0 42 (dk_at dksJ26_balanceInsertion_2 6 rfl rfl)
theorem dJ26_balanceInsertion_54 : decode cJ26_balanceInsertion 54 = .ok (.dup, 1) := dk_89 (dk_at dksJ26_balanceInsertion_2 9 rfl rfl)
theorem dJ26_balanceInsertion_55 : decode cJ26_balanceInsertion 55 = .ok (.astore 5, 2) := dk_58 5 (dk_at dksJ26_balanceInsertion_2 10 rfl rfl)
theorem dJ26_balanceInsertion_57 : decode cJ26_balanceInsertion 57 = .ok (.ifnull 32, 3) := dk_198 0 32 (dk_at dksJ26_balanceInsertion_2 12 rfl rfl)
theorem dJ26_balanceInsertion_60 : decode cJ26_balanceInsertion 60 = .ok (.aload 5, 2) := dk_25 5 (dk_at dksJ26_balanceInsertion_2 15 rfl rfl)
theorem dJ26_balanceInsertion_62 : decode cJ26_balanceInsertion 62 = .ok (.getfield 93, 3) := dk_180 0 93 (dk_at dksJ26_balanceInsertion_2 17 rfl rfl)
theorem dJ26_balanceInsertion_65 : decode cJ26_balanceInsertion 65 = .ok (.ifCond .eq 24, 3) := dk_153 0 24 (dk_at dksJ26_balanceInsertion_2 20 rfl rfl)
theorem dJ26_balanceInsertion_68 : decode cJ26_balanceInsertion 68 = .ok (.aload 5, 2) := dk_25 5 (dk_at dksJ26_balanceInsertion_3 0 rfl rfl)
theorem dJ26_balanceInsertion_70 : decode cJ26_balanceInsertion 70 = .ok (.iconst 0, 1) := dk_3 (dk_at dksJ26_balanceInsertion_3 2 rfl rfl)
theorem dJ26_balanceInsertion_71 : decode cJ26_balanceInsertion 71 = .ok (.putfield 93, 3) := dk_181 0 93 (dk_at dksJ26_balanceInsertion_3 3 rfl rfl)
theorem dJ26_balanceInsertion_74 : decode cJ26_balanceInsertion 74 = .ok (.aload_n 2, 1) := dk_44 (dk_at dksJ26_balanceInsertion_3 6 rfl rfl)
theorem dJ26_balanceInsertion_75 : decode cJ26_balanceInsertion 75 = .ok (.iconst 0, 1) := dk_3 (dk_at dksJ26_balanceInsertion_3 7 rfl rfl)
theorem dJ26_balanceInsertion_76 : decode cJ26_balanceInsertion 76 = .ok (.putfield 93, 3) := dk_181 0 93 (dk_at dksJ26_balanceInsertion_3 8 rfl rfl)
theorem dJ26_balanceInsertion_79 : decode cJ26_balanceInsertion 79 = .ok (.aload_n 3, 1) := dk_45 (dk_at dksJ26_balanceInsertion_3 11 rfl rfl)
theorem dJ26_balanceInsertion_80 : decode cJ26_balanceInsertion 80 = .ok (.iconst 1, 1) := dk_4 (dk_at dksJ26_balanceInsertion_3 12 rfl rfl)
theorem dJ26_balanceInsertion_81 : decode cJ26_balanceInsertion 81 = .ok (.putfield 93, 3) := dk_181 0 93 (dk_at dksJ26_balanceInsertion_3 13 rfl rfl)
theorem dJ26_balanceInsertion_84 : decode cJ26_balanceInsertion 84 = .ok (.aload_n 3, 1) := dk_45 (dk_at dksJ26_balanceInsertion_3 16 rfl rfl)
theorem dJ26_balanceInsertion_85 : decode cJ26_balanceInsertion 85 = .ok (.astore_n 1, 1) := dk_76 (dk_at dksJ26_balanceInsertion_3 17 rfl rfl)
theorem dJ26_balanceInsertion_86 : decode cJ26_balanceInsertion 86 = .ok (.goto (-81), 3) := dk_167 255 175 (dk_at dksJ26_balanceInsertion_3 18 rfl rfl)
theorem dJ26_balanceInsertion_89 : decode cJ26_balanceInsertion 89 = .ok (.aload_n 1, 1) := dk_43 (dk_at dksJ26_balanceInsertion_3 21 rfl rfl)
theorem dJ26_balanceInsertion_90 : decode cJ26_balanceInsertion 90 = .ok (.aload_n 2, 1) := dk_44 (dk_at dksJ26_balanceInsertion_3 22 rfl rfl)
theorem dJ26_balanceInsertion_91 : decode cJ26_balanceInsertion 91 = .ok (.getfield 42, 3) := dk_180 0 42 (dk_at dksJ26_balanceInsertion_4 0 rfl rfl)
theorem dJ26_balanceInsertion_94 : decode cJ26_balanceInsertion 94 = .ok (.if_acmp .ne 29, 3) := dk_166 0 29 (dk_at dksJ26_balanceInsertion_4 3 rfl rfl)
theorem dJ26_balanceInsertion_97 : decode cJ26_balanceInsertion 97 = .ok (.aload_n 0, 1) := dk_42 (dk_at dksJ26_balanceInsertion_4 6 rfl rfl)
theorem dJ26_balanceInsertion_98 : decode cJ26_balanceInsertion 98 = .ok (.aload_n 2, 1) := dk_44 (dk_at dksJ26_balanceInsertion_4 7 rfl rfl)
theorem dJ26_balanceInsertion_99 : decode cJ26_balanceInsertion 99 = .ok (.dup, 1) := dk_89 (dk_at dksJ26_balanceInsertion_4 8 rfl rfl)
theorem dJ26_balanceInsertion_100 : decode cJ26_balanceInsertion 100 = .ok (.astore_n 1, 1) := dk_76 (dk_at dksJ26_balanceInsertion_4 9 rfl rfl)
theorem dJ26_balanceInsertion_101 : decode cJ26_balanceInsertion 101 = .ok (.invokestatic 130, 3) := dk_184 0 130 (dk_at dksJ26_balanceInsertion_4 10 rfl rfl)
theorem dJ26_balanceInsertion_104 : decode cJ26_balanceInsertion 104 = .ok (.astore_n 0, 1) := dk_75 (dk_at dksJ26_balanceInsertion_4 13 rfl rfl)
theorem dJ26_balanceInsertion_105 : decode cJ26_balanceInsertion 105 = .ok (.aload_n 1, 1) := dk_43 (dk_at dksJ26_balanceInsertion_4 14 rfl rfl)
theorem dJ26_balanceInsertion_106 : decode cJ26_balanceInsertion 106 = .ok (.getfield 9, 3) := dk_180 0 9 (dk_at dksJ26_balanceInsertion_4 15 rfl rfl)
theorem dJ26_balanceInsertion_109 : decode cJ26_balanceInsertion 109 = .ok (.dup, 1) := dk_89 (dk_at dksJ26_balanceInsertion_4 18 rfl rfl)
theorem dJ26_balanceInsertion_110 : decode cJ26_balanceInsertion 110 = .ok (.astore_n 2, 1) := dk_77 (dk_at dksJ26_balanceInsertion_4 19 rfl rfl)
theorem dJ26_balanceInsertion_111 : decode cJ26_balanceInsertion 111 = .ok (.ifnonnull 7, 3) := dk_199 0 7 (dk_at dksJ26_balanceInsertion_4 20 rfl rfl)
theorem dJ26_balanceInsertion_114 : decode cJ26_balanceInsertion 114 = .ok (.aconst_null, 1) := dk_1 (dk_at dksJ26_balanceInsertion_4 23 rfl rfl)
theorem dJ26_balanceInsertion_115 : decode cJ26_balanceInsertion 115 = .ok (.goto 7, 3) := dk_167 0 7 (dk_at dksJ26_balanceInsertion_5 0 rfl rfl)
theorem dJ26_balanceInsertion_118 : decode cJ26_balanceInsertion 118 = .ok (.aload_n 2, 1) := dk_44 (dk_at dksJ26_balanceInsertion_5 3 rfl rfl)
theorem dJ26_balanceInsertion_119 : decode cJ26_balanceInsertion 119 = .ok (.getfield 9, 3) := dk_180 0 9 (dk_at dksJ26_balanceInsertion_5 4 rfl rfl)
theorem dJ26_balanceInsertion_122 : decode cJ26_balanceInsertion 122 = .ok (.astore_n 3, 1) := dk_78 (dk_at dksJ26_balanceInsertion_5 7 rfl rfl)
theorem dJ26_balanceInsertion_123 : decode cJ26_balanceInsertion 123 = .ok (.aload_n 2, 1) := dk_44 (dk_at dksJ26_balanceInsertion_5 8 rfl rfl)
theorem dJ26_balanceInsertion_124 : decode cJ26_balanceInsertion 124 = .ok (.ifnull (-119), 3) := dk_198 255 137 (dk_at dksJ26_balanceInsertion_5 9 rfl rfl)
theorem dJ26_balanceInsertion_127 : decode cJ26_balanceInsertion 127 = .ok (.aload_n 2, 1) := dk_44 (dk_at dksJ26_balanceInsertion_5 12 rfl rfl)
theorem dJ26_balanceInsertion_128 : decode cJ26_balanceInsertion 128 = .ok (.iconst 0, 1) := dk_3 (dk_at dksJ26_balanceInsertion_5 13 rfl rfl)
theorem dJ26_balanceInsertion_129 : decode cJ26_balanceInsertion 129 = .ok (.putfield 93, 3) := dk_181 0 93 (dk_at dksJ26_balanceInsertion_5 14 rfl rfl)
theorem dJ26_balanceInsertion_132 : decode cJ26_balanceInsertion 132 = .ok (.aload_n 3, 1) := dk_45 (dk_at dksJ26_balanceInsertion_5 17 rfl rfl)
theorem dJ26_balanceInsertion_133 : decode cJ26_balanceInsertion 133 = .ok (.ifnull (-128), 3) := dk_198 255 128 (dk_at dksJ26_balanceInsertion_5 18 rfl rfl)
theorem dJ26_balanceInsertion_136 : decode cJ26_balanceInsertion 136 = .ok (.aload_n 3, 1) := dk_45 (dk_at dksJ26_balanceInsertion_5 21 rfl rfl)
theorem dJ26_balanceInsertion_137 : decode cJ26_balanceInsertion 137 = .ok (.iconst 1, 1) := dk_4 (dk_at dksJ26_balanceInsertion_5 22 rfl rfl)
theorem dJ26_balanceInsertion_138 : decode cJ26_balanceInsertion 138 = .ok (.putfield 93, 3) := dk_181 0 93 (dk_at dksJ26_balanceInsertion_6 0 rfl rfl)
theorem dJ26_balanceInsertion_141 : decode cJ26_balanceInsertion 141 = .ok (.aload_n 0, 1) := dk_42 (dk_at dksJ26_balanceInsertion_6 3 rfl rfl)
theorem dJ26_balanceInsertion_142 : decode cJ26_balanceInsertion 142 = .ok (.aload_n 3, 1) := dk_45 (dk_at dksJ26_balanceInsertion_6 4 rfl rfl)
theorem dJ26_balanceInsertion_143 : decode cJ26_balanceInsertion 143 = .ok (.invokestatic 133, 3) := dk_184 0 133 (dk_at dksJ26_balanceInsertion_6 5 rfl rfl)
theorem dJ26_balanceInsertion_146 : decode cJ26_balanceInsertion 146 = .ok (.astore_n 0, 1) := dk_75 (dk_at dksJ26_balanceInsertion_6 8 rfl rfl)
theorem dJ26_balanceInsertion_147 : decode cJ26_balanceInsertion 147 = .ok (.goto (-142), 3) := dk_167 255 114 (dk_at dksJ26_balanceInsertion_6 9 rfl rfl)
theorem dJ26_balanceInsertion_150 : decode cJ26_balanceInsertion 150 = .ok (.aload 4, 2) := dk_25 4 (dk_at dksJ26_balanceInsertion_6 12 rfl rfl)
theorem dJ26_balanceInsertion_152 : decode cJ26_balanceInsertion 152 = .ok (.ifnull 32, 3) := dk_198 0 32 (dk_at dksJ26_balanceInsertion_6 14 rfl rfl)
theorem dJ26_balanceInsertion_155 : decode cJ26_balanceInsertion 155 = .ok (.aload 4, 2) := dk_25 4 (dk_at dksJ26_balanceInsertion_6 17 rfl rfl)
theorem dJ26_balanceInsertion_157 : decode cJ26_balanceInsertion 157 = .ok (.getfield 93, 3) := dk_180 0 93 (dk_at dksJ26_balanceInsertion_6 19 rfl rfl)
theorem dJ26_balanceInsertion_160 : decode cJ26_balanceInsertion 160 = .ok (.ifCond .eq 24, 3) := dk_153 0 24 (dk_at dksJ26_balanceInsertion_7 0 rfl rfl)
theorem dJ26_balanceInsertion_163 : decode cJ26_balanceInsertion 163 = .ok (.aload 4, 2) := dk_25 4 (dk_at dksJ26_balanceInsertion_7 3 rfl rfl)
theorem dJ26_balanceInsertion_165 : decode cJ26_balanceInsertion 165 = .ok (.iconst 0, 1) := dk_3 (dk_at dksJ26_balanceInsertion_7 5 rfl rfl)
theorem dJ26_balanceInsertion_166 : decode cJ26_balanceInsertion 166 = .ok (.putfield 93, 3) := dk_181 0 93 (dk_at dksJ26_balanceInsertion_7 6 rfl rfl)
theorem dJ26_balanceInsertion_169 : decode cJ26_balanceInsertion 169 = .ok (.aload_n 2, 1) := dk_44 (dk_at dksJ26_balanceInsertion_7 9 rfl rfl)
theorem dJ26_balanceInsertion_170 : decode cJ26_balanceInsertion 170 = .ok (.iconst 0, 1) := dk_3 (dk_at dksJ26_balanceInsertion_7 10 rfl rfl)
theorem dJ26_balanceInsertion_171 : decode cJ26_balanceInsertion 171 = .ok (.putfield 93, 3) := dk_181 0 93 (dk_at dksJ26_balanceInsertion_7 11 rfl rfl)
theorem dJ26_balanceInsertion_174 : decode cJ26_balanceInsertion 174 = .ok (.aload_n 3, 1) := dk_45 (dk_at dksJ26_balanceInsertion_7 14 rfl rfl)
theorem dJ26_balanceInsertion_175 : decode cJ26_balanceInsertion 175 = .ok (.iconst 1, 1) := dk_4 (dk_at dksJ26_balanceInsertion_7 15 rfl rfl)
theorem dJ26_balanceInsertion_176 : decode cJ26_balanceInsertion 176 = .ok (.putfield 93, 3) := dk_181 0 93 (dk_at dksJ26_balanceInsertion_7 16 rfl rfl)
theorem dJ26_balanceInsertion_179 : decode cJ26_balanceInsertion 179 = .ok (.aload_n 3, 1) := dk_45 (dk_at dksJ26_balanceInsertion_7 19 rfl rfl)
theorem dJ26_balanceInsertion_180 : decode cJ26_balanceInsertion 180 = .ok (.astore_n 1, 1) := dk_76 (dk_at dksJ26_balanceInsertion_7 20 rfl rfl)
theorem dJ26_balanceInsertion_181 : decode cJ26_balanceInsertion 181 = .ok (.goto (-176), 3) := dk_167 255 80 (dk_at dksJ26_balanceInsertion_7 21 rfl rfl)
theorem dJ26_balanceInsertion_184 : decode cJ26_balanceInsertion 184 = .ok (.aload_n 1, 1) := dk_43 (dk_at dksJ26_balanceInsertion_8 0 rfl rfl)
theorem dJ26_balanceInsertion_185 : decode cJ26_balanceInsertion 185 = .ok (.aload_n 2, 1) := dk_44 (dk_at dksJ26_balanceInsertion_8 1 rfl rfl)
theorem dJ26_balanceInsertion_186 : decode cJ26_balanceInsertion 186 = .ok (.getfield 39, 3) := dk_180 0 39 (dk_at dksJ26_balanceInsertion_8 2 rfl rfl)
theorem dJ26_balanceInsertion_189 : decode cJ26_balanceInsertion 189 = .ok (.if_acmp .ne 29, 3) := dk_166 0 29 (dk_at dksJ26_balanceInsertion_8 5 rfl rfl)
theorem dJ26_balanceInsertion_192 : decode cJ26_balanceInsertion 192 = .ok (.aload_n 0, 1) := dk_42 (dk_at dksJ26_balanceInsertion_8 8 rfl rfl)
theorem dJ26_balanceInsertion_193 : decode cJ26_balanceInsertion 193 = .ok (.aload_n 2, 1) := dk_44 (dk_at dksJ26_balanceInsertion_8 9 rfl rfl)
theorem dJ26_balanceInsertion_194 : decode cJ26_balanceInsertion 194 = .ok (.dup, 1) := dk_89 (dk_at dksJ26_balanceInsertion_8 10 rfl rfl)
theorem dJ26_balanceInsertion_195 : decode cJ26_balanceInsertion 195 = .ok (.astore_n 1, 1) := dk_76 (dk_at dksJ26_balanceInsertion_8 11 rfl rfl)
theorem dJ26_balanceInsertion_196 : decode cJ26_balanceInsertion 196 = .ok (.invokestatic 133, 3) := dk_184 0 133 (dk_at dksJ26_balanceInsertion_8 12 rfl rfl)
theorem dJ26_balanceInsertion_199 : decode cJ26_balanceInsertion 199 = .ok (.astore_n 0, 1) := dk_75 (dk_at dksJ26_balanceInsertion_8 15 rfl rfl)
theorem dJ26_balanceInsertion_200 : decode cJ26_balanceInsertion 200 = .ok (.aload_n 1, 1) := dk_43 (dk_at dksJ26_balanceInsertion_8 16 rfl rfl)
theorem dJ26_balanceInsertion_201 : decode cJ26_balanceInsertion 201 = .ok (.getfield 9, 3) := dk_180 0 9 (dk_at dksJ26_balanceInsertion_8 17 rfl rfl)
theorem dJ26_balanceInsertion_204 : decode cJ26_balanceInsertion 204 = .ok (.dup, 1) := dk_89 (dk_at dksJ26_balanceInsertion_8 20 rfl rfl)
theorem dJ26_balanceInsertion_205 : decode cJ26_balanceInsertion 205 = .ok (.astore_n 2, 1) := dk_77 (dk_at dksJ26_balanceInsertion_8 21 rfl rfl)
theorem dJ26_balanceInsertion_206 : decode cJ26_balanceInsertion 206 = .ok (.ifnonnull 7, 3) := dk_199 0 7 (dk_at dksJ26_balanceInsertion_9 0 rfl rfl)
theorem dJ26_balanceInsertion_209 : decode cJ26_balanceInsertion 209 = .ok (.aconst_null, 1) := dk_1 (dk_at dksJ26_balanceInsertion_9 3 rfl rfl)
theorem dJ26_balanceInsertion_210 : decode cJ26_balanceInsertion 210 = .ok (.goto 7, 3) := dk_167 0 7 (dk_at dksJ26_balanceInsertion_9 4 rfl rfl)
theorem dJ26_balanceInsertion_213 : decode cJ26_balanceInsertion 213 = .ok (.aload_n 2, 1) := dk_44 (dk_at dksJ26_balanceInsertion_9 7 rfl rfl)
theorem dJ26_balanceInsertion_214 : decode cJ26_balanceInsertion 214 = .ok (.getfield 9, 3) := dk_180 0 9 (dk_at dksJ26_balanceInsertion_9 8 rfl rfl)
theorem dJ26_balanceInsertion_217 : decode cJ26_balanceInsertion 217 = .ok (.astore_n 3, 1) := dk_78 (dk_at dksJ26_balanceInsertion_9 11 rfl rfl)
theorem dJ26_balanceInsertion_218 : decode cJ26_balanceInsertion 218 = .ok (.aload_n 2, 1) := dk_44 (dk_at dksJ26_balanceInsertion_9 12 rfl rfl)
theorem dJ26_balanceInsertion_219 : decode cJ26_balanceInsertion 219 = .ok (.ifnull (-214), 3) := dk_198 255 42 (dk_at dksJ26_balanceInsertion_9 13 rfl rfl)
theorem dJ26_balanceInsertion_222 : decode cJ26_balanceInsertion 222 = .ok (.aload_n 2, 1) := dk_44 (dk_at dksJ26_balanceInsertion_9 16 rfl rfl)
theorem dJ26_balanceInsertion_223 : decode cJ26_balanceInsertion 223 = .ok (.iconst 0, 1) := dk_3 (dk_at dksJ26_balanceInsertion_9 17 rfl rfl)
theorem dJ26_balanceInsertion_224 : decode cJ26_balanceInsertion 224 = .ok (.putfield 93, 3) := dk_181 0 93 (dk_at dksJ26_balanceInsertion_9 18 rfl rfl)
theorem dJ26_balanceInsertion_227 : decode cJ26_balanceInsertion 227 = .ok (.aload_n 3, 1) := dk_45 (dk_at dksJ26_balanceInsertion_9 21 rfl rfl)
theorem dJ26_balanceInsertion_228 : decode cJ26_balanceInsertion 228 = .ok (.ifnull (-223), 3) := dk_198 255 33 (dk_at dksJ26_balanceInsertion_10 0 rfl rfl)
theorem dJ26_balanceInsertion_231 : decode cJ26_balanceInsertion 231 = .ok (.aload_n 3, 1) := dk_45 (dk_at dksJ26_balanceInsertion_10 3 rfl rfl)
theorem dJ26_balanceInsertion_232 : decode cJ26_balanceInsertion 232 = .ok (.iconst 1, 1) := dk_4 (dk_at dksJ26_balanceInsertion_10 4 rfl rfl)
theorem dJ26_balanceInsertion_233 : decode cJ26_balanceInsertion 233 = .ok (.putfield 93, 3) := dk_181 0 93 (dk_at dksJ26_balanceInsertion_10 5 rfl rfl)
theorem dJ26_balanceInsertion_236 : decode cJ26_balanceInsertion 236 = .ok (.aload_n 0, 1) := dk_42 (dk_at dksJ26_balanceInsertion_10 8 rfl rfl)
theorem dJ26_balanceInsertion_237 : decode cJ26_balanceInsertion 237 = .ok (.aload_n 3, 1) := dk_45 (dk_at dksJ26_balanceInsertion_10 9 rfl rfl)
theorem dJ26_balanceInsertion_238 : decode cJ26_balanceInsertion 238 = .ok (.invokestatic 130, 3) := dk_184 0 130 (dk_at dksJ26_balanceInsertion_10 10 rfl rfl)
theorem dJ26_balanceInsertion_241 : decode cJ26_balanceInsertion 241 = .ok (.astore_n 0, 1) := dk_75 (dk_at dksJ26_balanceInsertion_10 13 rfl rfl)
theorem dJ26_balanceInsertion_242 : decode cJ26_balanceInsertion 242 = .ok (.goto (-237), 3) := dk_167 255 19 (dk_at dksJ26_balanceInsertion_10 14 rfl rfl)
abbrev cJ26_rotateLeft : ByteArray := prog_62_method_12_code
def yJ26_rotateLeft : MethodName := ⟨RJ26, "rotateLeft", "(Ljava/util/HashMap$TreeNode;Ljava/util/HashMap$TreeNode;)Ljava/util/HashMap$TreeNode;"⟩
def dkwJ26_rotateLeft_3 : List UInt8 := [181, 0, 39, 167, 0, 8, 45, 44, 181, 0, 42, 44, 43, 181, 0, 39, 43, 44, 181, 0, 9, 42, 176]
abbrev dktJ26_rotateLeft_3 : List UInt8 := dkwJ26_rotateLeft_3 ++ []
def dkwJ26_rotateLeft_2 : List UInt8 := [199, 0, 13, 44, 89, 75, 3, 181, 0, 93, 167, 0, 24, 45, 180, 0, 39, 43, 166, 0, 11, 45, 44]
abbrev dktJ26_rotateLeft_2 : List UInt8 := dkwJ26_rotateLeft_2 ++ dktJ26_rotateLeft_3
def dkwJ26_rotateLeft_1 : List UInt8 := [58, 4, 198, 0, 9, 25, 4, 43, 181, 0, 9, 44, 43, 180, 0, 9, 90, 181, 0, 9, 89, 78]
abbrev dktJ26_rotateLeft_1 : List UInt8 := dkwJ26_rotateLeft_1 ++ dktJ26_rotateLeft_2
def dkwJ26_rotateLeft_0 : List UInt8 := [43, 198, 0, 88, 43, 180, 0, 42, 89, 77, 198, 0, 79, 43, 44, 180, 0, 39, 90, 181, 0, 42, 89]
abbrev dktJ26_rotateLeft_0 : List UInt8 := dkwJ26_rotateLeft_0 ++ dktJ26_rotateLeft_1
theorem dksJ26_rotateLeft_0 : cJ26_rotateLeft.data.toList.drop 0 = dktJ26_rotateLeft_0 := by decide +kernel
theorem dksJ26_rotateLeft_1 : cJ26_rotateLeft.data.toList.drop 23 = dktJ26_rotateLeft_1 := dk_seg dksJ26_rotateLeft_0 23 rfl rfl
theorem dksJ26_rotateLeft_2 : cJ26_rotateLeft.data.toList.drop 45 = dktJ26_rotateLeft_2 := dk_seg dksJ26_rotateLeft_1 22 rfl rfl
theorem dksJ26_rotateLeft_3 : cJ26_rotateLeft.data.toList.drop 68 = dktJ26_rotateLeft_3 := dk_seg dksJ26_rotateLeft_2 23 rfl rfl
theorem dJ26_rotateLeft_0 : decode cJ26_rotateLeft 0 = .ok (.aload_n 1, 1) := dk_43 (dk_at dksJ26_rotateLeft_0 0 rfl rfl)
theorem dJ26_rotateLeft_1 : decode cJ26_rotateLeft 1 = .ok (.ifnull 88, 3) := dk_198 0 88 (dk_at dksJ26_rotateLeft_0 1 rfl rfl)
theorem dJ26_rotateLeft_4 : decode cJ26_rotateLeft 4 = .ok (.aload_n 1, 1) := dk_43 (dk_at dksJ26_rotateLeft_0 4 rfl rfl)
theorem dJ26_rotateLeft_5 : decode cJ26_rotateLeft 5 = .ok (.getfield 42, 3) := dk_180 0 42 (dk_at dksJ26_rotateLeft_0 5 rfl rfl)
theorem dJ26_rotateLeft_8 : decode cJ26_rotateLeft 8 = .ok (.dup, 1) := dk_89 (dk_at dksJ26_rotateLeft_0 8 rfl rfl)
theorem dJ26_rotateLeft_9 : decode cJ26_rotateLeft 9 = .ok (.astore_n 2, 1) := dk_77 (dk_at dksJ26_rotateLeft_0 9 rfl rfl)
theorem dJ26_rotateLeft_10 : decode cJ26_rotateLeft 10 = .ok (.ifnull 79, 3) := dk_198 0 79 (dk_at dksJ26_rotateLeft_0 10 rfl rfl)
theorem dJ26_rotateLeft_13 : decode cJ26_rotateLeft 13 = .ok (.aload_n 1, 1) := dk_43 (dk_at dksJ26_rotateLeft_0 13 rfl rfl)
theorem dJ26_rotateLeft_14 : decode cJ26_rotateLeft 14 = .ok (.aload_n 2, 1) := dk_44 (dk_at dksJ26_rotateLeft_0 14 rfl rfl)
theorem dJ26_rotateLeft_15 : decode cJ26_rotateLeft 15 = .ok (.getfield 39, 3) := dk_180 0 39 (dk_at dksJ26_rotateLeft_0 15 rfl rfl)
theorem dJ26_rotateLeft_18 : decode cJ26_rotateLeft 18 = .ok (.dup_x1, 1) := dk_90 (dk_at dksJ26_rotateLeft_0 18 rfl rfl)
theorem dJ26_rotateLeft_19 : decode cJ26_rotateLeft 19 = .ok (.putfield 42, 3) := dk_181 0 42 (dk_at dksJ26_rotateLeft_0 19 rfl rfl)
theorem dJ26_rotateLeft_22 : decode cJ26_rotateLeft 22 = .ok (.dup, 1) := dk_89 (dk_at dksJ26_rotateLeft_0 22 rfl rfl)
theorem dJ26_rotateLeft_23 : decode cJ26_rotateLeft 23 = .ok (.astore 4, 2) := dk_58 4 (dk_at dksJ26_rotateLeft_1 0 rfl rfl)
theorem dJ26_rotateLeft_25 : decode cJ26_rotateLeft 25 = .ok (.ifnull 9, 3) := dk_198 0 9 (dk_at dksJ26_rotateLeft_1 2 rfl rfl)
theorem dJ26_rotateLeft_28 : decode cJ26_rotateLeft 28 = .ok (.aload 4, 2) := dk_25 4 (dk_at dksJ26_rotateLeft_1 5 rfl rfl)
theorem dJ26_rotateLeft_30 : decode cJ26_rotateLeft 30 = .ok (.aload_n 1, 1) := dk_43 (dk_at dksJ26_rotateLeft_1 7 rfl rfl)
theorem dJ26_rotateLeft_31 : decode cJ26_rotateLeft 31 = .ok (.putfield 9, 3) := dk_181 0 9 (dk_at dksJ26_rotateLeft_1 8 rfl rfl)
theorem dJ26_rotateLeft_34 : decode cJ26_rotateLeft 34 = .ok (.aload_n 2, 1) := dk_44 (dk_at dksJ26_rotateLeft_1 11 rfl rfl)
theorem dJ26_rotateLeft_35 : decode cJ26_rotateLeft 35 = .ok (.aload_n 1, 1) := dk_43 (dk_at dksJ26_rotateLeft_1 12 rfl rfl)
theorem dJ26_rotateLeft_36 : decode cJ26_rotateLeft 36 = .ok (.getfield 9, 3) := dk_180 0 9 (dk_at dksJ26_rotateLeft_1 13 rfl rfl)
theorem dJ26_rotateLeft_39 : decode cJ26_rotateLeft 39 = .ok (.dup_x1, 1) := dk_90 (dk_at dksJ26_rotateLeft_1 16 rfl rfl)
theorem dJ26_rotateLeft_40 : decode cJ26_rotateLeft 40 = .ok (.putfield 9, 3) := dk_181 0 9 (dk_at dksJ26_rotateLeft_1 17 rfl rfl)
theorem dJ26_rotateLeft_43 : decode cJ26_rotateLeft 43 = .ok (.dup, 1) := dk_89 (dk_at dksJ26_rotateLeft_1 20 rfl rfl)
theorem dJ26_rotateLeft_44 : decode cJ26_rotateLeft 44 = .ok (.astore_n 3, 1) := dk_78 (dk_at dksJ26_rotateLeft_1 21 rfl rfl)
theorem dJ26_rotateLeft_45 : decode cJ26_rotateLeft 45 = .ok (.ifnonnull 13, 3) := dk_199 0 13 (dk_at dksJ26_rotateLeft_2 0 rfl rfl)
theorem dJ26_rotateLeft_48 : decode cJ26_rotateLeft 48 = .ok (.aload_n 2, 1) := dk_44 (dk_at dksJ26_rotateLeft_2 3 rfl rfl)
theorem dJ26_rotateLeft_49 : decode cJ26_rotateLeft 49 = .ok (.dup, 1) := dk_89 (dk_at dksJ26_rotateLeft_2 4 rfl rfl)
theorem dJ26_rotateLeft_50 : decode cJ26_rotateLeft 50 = .ok (.astore_n 0, 1) := dk_75 (dk_at dksJ26_rotateLeft_2 5 rfl rfl)
theorem dJ26_rotateLeft_51 : decode cJ26_rotateLeft 51 = .ok (.iconst 0, 1) := dk_3 (dk_at dksJ26_rotateLeft_2 6 rfl rfl)
theorem dJ26_rotateLeft_52 : decode cJ26_rotateLeft 52 = .ok (.putfield 93, 3) := dk_181 0 93 (dk_at dksJ26_rotateLeft_2 7 rfl rfl)
theorem dJ26_rotateLeft_55 : decode cJ26_rotateLeft 55 = .ok (.goto 24, 3) := dk_167 0 24 (dk_at dksJ26_rotateLeft_2 10 rfl rfl)
theorem dJ26_rotateLeft_58 : decode cJ26_rotateLeft 58 = .ok (.aload_n 3, 1) := dk_45 (dk_at dksJ26_rotateLeft_2 13 rfl rfl)
theorem dJ26_rotateLeft_59 : decode cJ26_rotateLeft 59 = .ok (.getfield 39, 3) := dk_180 0 39 (dk_at dksJ26_rotateLeft_2 14 rfl rfl)
theorem dJ26_rotateLeft_62 : decode cJ26_rotateLeft 62 = .ok (.aload_n 1, 1) := dk_43 (dk_at dksJ26_rotateLeft_2 17 rfl rfl)
theorem dJ26_rotateLeft_63 : decode cJ26_rotateLeft 63 = .ok (.if_acmp .ne 11, 3) := dk_166 0 11 (dk_at dksJ26_rotateLeft_2 18 rfl rfl)
theorem dJ26_rotateLeft_66 : decode cJ26_rotateLeft 66 = .ok (.aload_n 3, 1) := dk_45 (dk_at dksJ26_rotateLeft_2 21 rfl rfl)
theorem dJ26_rotateLeft_67 : decode cJ26_rotateLeft 67 = .ok (.aload_n 2, 1) := dk_44 (dk_at dksJ26_rotateLeft_2 22 rfl rfl)
theorem dJ26_rotateLeft_68 : decode cJ26_rotateLeft 68 = .ok (.putfield 39, 3) := dk_181 0 39 (dk_at dksJ26_rotateLeft_3 0 rfl rfl)
theorem dJ26_rotateLeft_71 : decode cJ26_rotateLeft 71 = .ok (.goto 8, 3) := dk_167 0 8 (dk_at dksJ26_rotateLeft_3 3 rfl rfl)
theorem dJ26_rotateLeft_74 : decode cJ26_rotateLeft 74 = .ok (.aload_n 3, 1) := dk_45 (dk_at dksJ26_rotateLeft_3 6 rfl rfl)
theorem dJ26_rotateLeft_75 : decode cJ26_rotateLeft 75 = .ok (.aload_n 2, 1) := dk_44 (dk_at dksJ26_rotateLeft_3 7 rfl rfl)
theorem dJ26_rotateLeft_76 : decode cJ26_rotateLeft 76 = .ok (.putfield 42, 3) := dk_181 0 42 (dk_at dksJ26_rotateLeft_3 8 rfl rfl)
theorem dJ26_rotateLeft_79 : decode cJ26_rotateLeft 79 = .ok (.aload_n 2, 1) := dk_44 (dk_at dksJ26_rotateLeft_3 11 rfl rfl)
theorem dJ26_rotateLeft_80 : decode cJ26_rotateLeft 80 = .ok (.aload_n 1, 1) := dk_43 (dk_at dksJ26_rotateLeft_3 12 rfl rfl)
theorem dJ26_rotateLeft_81 : decode cJ26_rotateLeft 81 = .ok (.putfield 39, 3) := dk_181 0 39 (dk_at dksJ26_rotateLeft_3 13 rfl rfl)
theorem dJ26_rotateLeft_84 : decode cJ26_rotateLeft 84 = .ok (.aload_n 1, 1) := dk_43 (dk_at dksJ26_rotateLeft_3 16 rfl rfl)
theorem dJ26_rotateLeft_85 : decode cJ26_rotateLeft 85 = .ok (.aload_n 2, 1) := dk_44 (dk_at dksJ26_rotateLeft_3 17 rfl rfl)
theorem dJ26_rotateLeft_86 : decode cJ26_rotateLeft 86 = .ok (.putfield 9, 3) := dk_181 0 9 (dk_at dksJ26_rotateLeft_3 18 rfl rfl)
theorem dJ26_rotateLeft_89 : decode cJ26_rotateLeft 89 = .ok (.aload_n 0, 1) := dk_42 (dk_at dksJ26_rotateLeft_3 21 rfl rfl)
theorem dJ26_rotateLeft_90 : decode cJ26_rotateLeft 90 = .ok (.areturn, 1) := dk_176 (dk_at dksJ26_rotateLeft_3 22 rfl rfl)
abbrev cJ26_rotateRight : ByteArray := prog_62_method_13_code
def yJ26_rotateRight : MethodName := ⟨RJ26, "rotateRight", "(Ljava/util/HashMap$TreeNode;Ljava/util/HashMap$TreeNode;)Ljava/util/HashMap$TreeNode;"⟩
def dkwJ26_rotateRight_3 : List UInt8 := [181, 0, 42, 167, 0, 8, 45, 44, 181, 0, 39, 44, 43, 181, 0, 42, 43, 44, 181, 0, 9, 42, 176]
abbrev dktJ26_rotateRight_3 : List UInt8 := dkwJ26_rotateRight_3 ++ []
def dkwJ26_rotateRight_2 : List UInt8 := [199, 0, 13, 44, 89, 75, 3, 181, 0, 93, 167, 0, 24, 45, 180, 0, 42, 43, 166, 0, 11, 45, 44]
abbrev dktJ26_rotateRight_2 : List UInt8 := dkwJ26_rotateRight_2 ++ dktJ26_rotateRight_3
def dkwJ26_rotateRight_1 : List UInt8 := [58, 4, 198, 0, 9, 25, 4, 43, 181, 0, 9, 44, 43, 180, 0, 9, 90, 181, 0, 9, 89, 78]
abbrev dktJ26_rotateRight_1 : List UInt8 := dkwJ26_rotateRight_1 ++ dktJ26_rotateRight_2
def dkwJ26_rotateRight_0 : List UInt8 := [43, 198, 0, 88, 43, 180, 0, 39, 89, 77, 198, 0, 79, 43, 44, 180, 0, 42, 90, 181, 0, 39, 89]
abbrev dktJ26_rotateRight_0 : List UInt8 := dkwJ26_rotateRight_0 ++ dktJ26_rotateRight_1
theorem dksJ26_rotateRight_0 : cJ26_rotateRight.data.toList.drop 0 = dktJ26_rotateRight_0 := by decide +kernel
theorem dksJ26_rotateRight_1 : cJ26_rotateRight.data.toList.drop 23 = dktJ26_rotateRight_1 := dk_seg dksJ26_rotateRight_0 23 rfl rfl
theorem dksJ26_rotateRight_2 : cJ26_rotateRight.data.toList.drop 45 = dktJ26_rotateRight_2 := dk_seg dksJ26_rotateRight_1 22 rfl rfl
theorem dksJ26_rotateRight_3 : cJ26_rotateRight.data.toList.drop 68 = dktJ26_rotateRight_3 := dk_seg dksJ26_rotateRight_2 23 rfl rfl
theorem dJ26_rotateRight_0 : decode cJ26_rotateRight 0 = .ok (.aload_n 1, 1) := dk_43 (dk_at dksJ26_rotateRight_0 0 rfl rfl)
theorem dJ26_rotateRight_1 : decode cJ26_rotateRight 1 = .ok (.ifnull 88, 3) := dk_198 0 88 (dk_at dksJ26_rotateRight_0 1 rfl rfl)
theorem dJ26_rotateRight_4 : decode cJ26_rotateRight 4 = .ok (.aload_n 1, 1) := dk_43 (dk_at dksJ26_rotateRight_0 4 rfl rfl)
theorem dJ26_rotateRight_5 : decode cJ26_rotateRight 5 = .ok (.getfield 39, 3) := dk_180 0 39 (dk_at dksJ26_rotateRight_0 5 rfl rfl)
theorem dJ26_rotateRight_8 : decode cJ26_rotateRight 8 = .ok (.dup, 1) := dk_89 (dk_at dksJ26_rotateRight_0 8 rfl rfl)
theorem dJ26_rotateRight_9 : decode cJ26_rotateRight 9 = .ok (.astore_n 2, 1) := dk_77 (dk_at dksJ26_rotateRight_0 9 rfl rfl)
theorem dJ26_rotateRight_10 : decode cJ26_rotateRight 10 = .ok (.ifnull 79, 3) := dk_198 0 79 (dk_at dksJ26_rotateRight_0 10 rfl rfl)
theorem dJ26_rotateRight_13 : decode cJ26_rotateRight 13 = .ok (.aload_n 1, 1) := dk_43 (dk_at dksJ26_rotateRight_0 13 rfl rfl)
theorem dJ26_rotateRight_14 : decode cJ26_rotateRight 14 = .ok (.aload_n 2, 1) := dk_44 (dk_at dksJ26_rotateRight_0 14 rfl rfl)
theorem dJ26_rotateRight_15 : decode cJ26_rotateRight 15 = .ok (.getfield 42, 3) := dk_180 0 42 (dk_at dksJ26_rotateRight_0 15 rfl rfl)
theorem dJ26_rotateRight_18 : decode cJ26_rotateRight 18 = .ok (.dup_x1, 1) := dk_90 (dk_at dksJ26_rotateRight_0 18 rfl rfl)
theorem dJ26_rotateRight_19 : decode cJ26_rotateRight 19 = .ok (.putfield 39, 3) := dk_181 0 39 (dk_at dksJ26_rotateRight_0 19 rfl rfl)
theorem dJ26_rotateRight_22 : decode cJ26_rotateRight 22 = .ok (.dup, 1) := dk_89 (dk_at dksJ26_rotateRight_0 22 rfl rfl)
theorem dJ26_rotateRight_23 : decode cJ26_rotateRight 23 = .ok (.astore 4, 2) := dk_58 4 (dk_at dksJ26_rotateRight_1 0 rfl rfl)
theorem dJ26_rotateRight_25 : decode cJ26_rotateRight 25 = .ok (.ifnull 9, 3) := dk_198 0 9 (dk_at dksJ26_rotateRight_1 2 rfl rfl)
theorem dJ26_rotateRight_28 : decode cJ26_rotateRight 28 = .ok (.aload 4, 2) := dk_25 4 (dk_at dksJ26_rotateRight_1 5 rfl rfl)
theorem dJ26_rotateRight_30 : decode cJ26_rotateRight 30 = .ok (.aload_n 1, 1) := dk_43 (dk_at dksJ26_rotateRight_1 7 rfl rfl)
theorem dJ26_rotateRight_31 : decode cJ26_rotateRight 31 = .ok (.putfield 9, 3) := dk_181 0 9 (dk_at dksJ26_rotateRight_1 8 rfl rfl)
theorem dJ26_rotateRight_34 : decode cJ26_rotateRight 34 = .ok (.aload_n 2, 1) := dk_44 (dk_at dksJ26_rotateRight_1 11 rfl rfl)
theorem dJ26_rotateRight_35 : decode cJ26_rotateRight 35 = .ok (.aload_n 1, 1) := dk_43 (dk_at dksJ26_rotateRight_1 12 rfl rfl)
theorem dJ26_rotateRight_36 : decode cJ26_rotateRight 36 = .ok (.getfield 9, 3) := dk_180 0 9 (dk_at dksJ26_rotateRight_1 13 rfl rfl)
theorem dJ26_rotateRight_39 : decode cJ26_rotateRight 39 = .ok (.dup_x1, 1) := dk_90 (dk_at dksJ26_rotateRight_1 16 rfl rfl)
theorem dJ26_rotateRight_40 : decode cJ26_rotateRight 40 = .ok (.putfield 9, 3) := dk_181 0 9 (dk_at dksJ26_rotateRight_1 17 rfl rfl)
theorem dJ26_rotateRight_43 : decode cJ26_rotateRight 43 = .ok (.dup, 1) := dk_89 (dk_at dksJ26_rotateRight_1 20 rfl rfl)
theorem dJ26_rotateRight_44 : decode cJ26_rotateRight 44 = .ok (.astore_n 3, 1) := dk_78 (dk_at dksJ26_rotateRight_1 21 rfl rfl)
theorem dJ26_rotateRight_45 : decode cJ26_rotateRight 45 = .ok (.ifnonnull 13, 3) := dk_199 0 13 (dk_at dksJ26_rotateRight_2 0 rfl rfl)
theorem dJ26_rotateRight_48 : decode cJ26_rotateRight 48 = .ok (.aload_n 2, 1) := dk_44 (dk_at dksJ26_rotateRight_2 3 rfl rfl)
theorem dJ26_rotateRight_49 : decode cJ26_rotateRight 49 = .ok (.dup, 1) := dk_89 (dk_at dksJ26_rotateRight_2 4 rfl rfl)
theorem dJ26_rotateRight_50 : decode cJ26_rotateRight 50 = .ok (.astore_n 0, 1) := dk_75 (dk_at dksJ26_rotateRight_2 5 rfl rfl)
theorem dJ26_rotateRight_51 : decode cJ26_rotateRight 51 = .ok (.iconst 0, 1) := dk_3 (dk_at dksJ26_rotateRight_2 6 rfl rfl)
theorem dJ26_rotateRight_52 : decode cJ26_rotateRight 52 = .ok (.putfield 93, 3) := dk_181 0 93 (dk_at dksJ26_rotateRight_2 7 rfl rfl)
theorem dJ26_rotateRight_55 : decode cJ26_rotateRight 55 = .ok (.goto 24, 3) := dk_167 0 24 (dk_at dksJ26_rotateRight_2 10 rfl rfl)
theorem dJ26_rotateRight_58 : decode cJ26_rotateRight 58 = .ok (.aload_n 3, 1) := dk_45 (dk_at dksJ26_rotateRight_2 13 rfl rfl)
theorem dJ26_rotateRight_59 : decode cJ26_rotateRight 59 = .ok (.getfield 42, 3) := dk_180 0 42 (dk_at dksJ26_rotateRight_2 14 rfl rfl)
theorem dJ26_rotateRight_62 : decode cJ26_rotateRight 62 = .ok (.aload_n 1, 1) := dk_43 (dk_at dksJ26_rotateRight_2 17 rfl rfl)
theorem dJ26_rotateRight_63 : decode cJ26_rotateRight 63 = .ok (.if_acmp .ne 11, 3) := dk_166 0 11 (dk_at dksJ26_rotateRight_2 18 rfl rfl)
theorem dJ26_rotateRight_66 : decode cJ26_rotateRight 66 = .ok (.aload_n 3, 1) := dk_45 (dk_at dksJ26_rotateRight_2 21 rfl rfl)
theorem dJ26_rotateRight_67 : decode cJ26_rotateRight 67 = .ok (.aload_n 2, 1) := dk_44 (dk_at dksJ26_rotateRight_2 22 rfl rfl)
theorem dJ26_rotateRight_68 : decode cJ26_rotateRight 68 = .ok (.putfield 42, 3) := dk_181 0 42 (dk_at dksJ26_rotateRight_3 0 rfl rfl)
theorem dJ26_rotateRight_71 : decode cJ26_rotateRight 71 = .ok (.goto 8, 3) := dk_167 0 8 (dk_at dksJ26_rotateRight_3 3 rfl rfl)
theorem dJ26_rotateRight_74 : decode cJ26_rotateRight 74 = .ok (.aload_n 3, 1) := dk_45 (dk_at dksJ26_rotateRight_3 6 rfl rfl)
theorem dJ26_rotateRight_75 : decode cJ26_rotateRight 75 = .ok (.aload_n 2, 1) := dk_44 (dk_at dksJ26_rotateRight_3 7 rfl rfl)
theorem dJ26_rotateRight_76 : decode cJ26_rotateRight 76 = .ok (.putfield 39, 3) := dk_181 0 39 (dk_at dksJ26_rotateRight_3 8 rfl rfl)
theorem dJ26_rotateRight_79 : decode cJ26_rotateRight 79 = .ok (.aload_n 2, 1) := dk_44 (dk_at dksJ26_rotateRight_3 11 rfl rfl)
theorem dJ26_rotateRight_80 : decode cJ26_rotateRight 80 = .ok (.aload_n 1, 1) := dk_43 (dk_at dksJ26_rotateRight_3 12 rfl rfl)
theorem dJ26_rotateRight_81 : decode cJ26_rotateRight 81 = .ok (.putfield 42, 3) := dk_181 0 42 (dk_at dksJ26_rotateRight_3 13 rfl rfl)
theorem dJ26_rotateRight_84 : decode cJ26_rotateRight 84 = .ok (.aload_n 1, 1) := dk_43 (dk_at dksJ26_rotateRight_3 16 rfl rfl)
theorem dJ26_rotateRight_85 : decode cJ26_rotateRight 85 = .ok (.aload_n 2, 1) := dk_44 (dk_at dksJ26_rotateRight_3 17 rfl rfl)
theorem dJ26_rotateRight_86 : decode cJ26_rotateRight 86 = .ok (.putfield 9, 3) := dk_181 0 9 (dk_at dksJ26_rotateRight_3 18 rfl rfl)
theorem dJ26_rotateRight_89 : decode cJ26_rotateRight 89 = .ok (.aload_n 0, 1) := dk_42 (dk_at dksJ26_rotateRight_3 21 rfl rfl)
theorem dJ26_rotateRight_90 : decode cJ26_rotateRight 90 = .ok (.areturn, 1) := dk_176 (dk_at dksJ26_rotateRight_3 22 rfl rfl)
abbrev cJ26_moveRootToFront : ByteArray := prog_62_method_3_code
def yJ26_moveRootToFront : MethodName := ⟨RJ26, "moveRootToFront", "([Ljava/util/HashMap$Node;Ljava/util/HashMap$TreeNode;)V"⟩
def dkwJ26_moveRootToFront_5 : List UInt8 := [89, 183, 0, 36, 191, 177]
abbrev dktJ26_moveRootToFront_5 : List UInt8 := dkwJ26_moveRootToFront_5 ++ []
def dkwJ26_moveRootToFront_4 : List UInt8 := [181, 0, 22, 43, 1, 181, 0, 19, 178, 0, 26, 154, 0, 18, 43, 184, 0, 30, 154, 0, 11, 187, 0, 34]
abbrev dktJ26_moveRootToFront_4 : List UInt8 := dkwJ26_moveRootToFront_4 ++ dktJ26_moveRootToFront_5
def dkwJ26_moveRootToFront_3 : List UInt8 := [198, 0, 10, 25, 6, 25, 5, 181, 0, 22, 25, 4, 198, 0, 9, 25, 4, 43, 181, 0, 19, 43, 25, 4]
abbrev dktJ26_moveRootToFront_3 : List UInt8 := dkwJ26_moveRootToFront_3 ++ dktJ26_moveRootToFront_4
def dkwJ26_moveRootToFront_2 : List UInt8 := [43, 180, 0, 22, 89, 58, 5, 198, 0, 13, 25, 5, 192, 0, 10, 25, 6, 181, 0, 19, 25, 6]
abbrev dktJ26_moveRootToFront_2 : List UInt8 := dkwJ26_moveRootToFront_2 ++ dktJ26_moveRootToFront_3
def dkwJ26_moveRootToFront_1 : List UInt8 := [42, 29, 50, 192, 0, 10, 58, 4, 43, 25, 4, 165, 0, 67, 42, 29, 43, 83, 43, 180, 0, 19, 58, 6]
abbrev dktJ26_moveRootToFront_1 : List UInt8 := dkwJ26_moveRootToFront_1 ++ dktJ26_moveRootToFront_2
def dkwJ26_moveRootToFront_0 : List UInt8 := [43, 198, 0, 122, 42, 198, 0, 118, 42, 190, 89, 61, 158, 0, 111, 28, 4, 100, 43, 180, 0, 15, 126, 62]
abbrev dktJ26_moveRootToFront_0 : List UInt8 := dkwJ26_moveRootToFront_0 ++ dktJ26_moveRootToFront_1
theorem dksJ26_moveRootToFront_0 : cJ26_moveRootToFront.data.toList.drop 0 = dktJ26_moveRootToFront_0 := by decide +kernel
theorem dksJ26_moveRootToFront_1 : cJ26_moveRootToFront.data.toList.drop 24 = dktJ26_moveRootToFront_1 := dk_seg dksJ26_moveRootToFront_0 24 rfl rfl
theorem dksJ26_moveRootToFront_2 : cJ26_moveRootToFront.data.toList.drop 48 = dktJ26_moveRootToFront_2 := dk_seg dksJ26_moveRootToFront_1 24 rfl rfl
theorem dksJ26_moveRootToFront_3 : cJ26_moveRootToFront.data.toList.drop 70 = dktJ26_moveRootToFront_3 := dk_seg dksJ26_moveRootToFront_2 22 rfl rfl
theorem dksJ26_moveRootToFront_4 : cJ26_moveRootToFront.data.toList.drop 94 = dktJ26_moveRootToFront_4 := dk_seg dksJ26_moveRootToFront_3 24 rfl rfl
theorem dksJ26_moveRootToFront_5 : cJ26_moveRootToFront.data.toList.drop 118 = dktJ26_moveRootToFront_5 := dk_seg dksJ26_moveRootToFront_4 24 rfl rfl
theorem dJ26_moveRootToFront_0 : decode cJ26_moveRootToFront 0 = .ok (.aload_n 1, 1) := dk_43 (dk_at dksJ26_moveRootToFront_0 0 rfl rfl)
theorem dJ26_moveRootToFront_1 : decode cJ26_moveRootToFront 1 = .ok (.ifnull 122, 3) := dk_198 0 122 (dk_at dksJ26_moveRootToFront_0 1 rfl rfl)
theorem dJ26_moveRootToFront_4 : decode cJ26_moveRootToFront 4 = .ok (.aload_n 0, 1) := dk_42 (dk_at dksJ26_moveRootToFront_0 4 rfl rfl)
theorem dJ26_moveRootToFront_5 : decode cJ26_moveRootToFront 5 = .ok (.ifnull 118, 3) := dk_198 0 118 (dk_at dksJ26_moveRootToFront_0 5 rfl rfl)
theorem dJ26_moveRootToFront_8 : decode cJ26_moveRootToFront 8 = .ok (.aload_n 0, 1) := dk_42 (dk_at dksJ26_moveRootToFront_0 8 rfl rfl)
theorem dJ26_moveRootToFront_9 : decode cJ26_moveRootToFront 9 = .ok (.arraylength, 1) := dk_190 (dk_at dksJ26_moveRootToFront_0 9 rfl rfl)
theorem dJ26_moveRootToFront_10 : decode cJ26_moveRootToFront 10 = .ok (.dup, 1) := dk_89 (dk_at dksJ26_moveRootToFront_0 10 rfl rfl)
theorem dJ26_moveRootToFront_11 : decode cJ26_moveRootToFront 11 = .ok (.istore_n 2, 1) := dk_61 (dk_at dksJ26_moveRootToFront_0 11 rfl rfl)
theorem dJ26_moveRootToFront_12 : decode cJ26_moveRootToFront 12 = .ok (.ifCond .le 111, 3) := dk_158 0 111 (dk_at dksJ26_moveRootToFront_0 12 rfl rfl)
theorem dJ26_moveRootToFront_15 : decode cJ26_moveRootToFront 15 = .ok (.iload_n 2, 1) := dk_28 (dk_at dksJ26_moveRootToFront_0 15 rfl rfl)
theorem dJ26_moveRootToFront_16 : decode cJ26_moveRootToFront 16 = .ok (.iconst 1, 1) := dk_4 (dk_at dksJ26_moveRootToFront_0 16 rfl rfl)
theorem dJ26_moveRootToFront_17 : decode cJ26_moveRootToFront 17 = .ok (.isub, 1) := dk_100 (dk_at dksJ26_moveRootToFront_0 17 rfl rfl)
theorem dJ26_moveRootToFront_18 : decode cJ26_moveRootToFront 18 = .ok (.aload_n 1, 1) := dk_43 (dk_at dksJ26_moveRootToFront_0 18 rfl rfl)
theorem dJ26_moveRootToFront_19 : decode cJ26_moveRootToFront 19 = .ok (.getfield 15, 3) := dk_180 0 15 (dk_at dksJ26_moveRootToFront_0 19 rfl rfl)
theorem dJ26_moveRootToFront_22 : decode cJ26_moveRootToFront 22 = .ok (.iand, 1) := dk_126 (dk_at dksJ26_moveRootToFront_0 22 rfl rfl)
theorem dJ26_moveRootToFront_23 : decode cJ26_moveRootToFront 23 = .ok (.istore_n 3, 1) := dk_62 (dk_at dksJ26_moveRootToFront_0 23 rfl rfl)
theorem dJ26_moveRootToFront_24 : decode cJ26_moveRootToFront 24 = .ok (.aload_n 0, 1) := dk_42 (dk_at dksJ26_moveRootToFront_1 0 rfl rfl)
theorem dJ26_moveRootToFront_25 : decode cJ26_moveRootToFront 25 = .ok (.iload_n 3, 1) := dk_29 (dk_at dksJ26_moveRootToFront_1 1 rfl rfl)
theorem dJ26_moveRootToFront_26 : decode cJ26_moveRootToFront 26 = .ok (.aaload, 1) := dk_50 (dk_at dksJ26_moveRootToFront_1 2 rfl rfl)
theorem dJ26_moveRootToFront_27 : decode cJ26_moveRootToFront 27 = .ok (.checkcast 10, 3) := dk_192 0 10 (dk_at dksJ26_moveRootToFront_1 3 rfl rfl)
theorem dJ26_moveRootToFront_30 : decode cJ26_moveRootToFront 30 = .ok (.astore 4, 2) := dk_58 4 (dk_at dksJ26_moveRootToFront_1 6 rfl rfl)
theorem dJ26_moveRootToFront_32 : decode cJ26_moveRootToFront 32 = .ok (.aload_n 1, 1) := dk_43 (dk_at dksJ26_moveRootToFront_1 8 rfl rfl)
theorem dJ26_moveRootToFront_33 : decode cJ26_moveRootToFront 33 = .ok (.aload 4, 2) := dk_25 4 (dk_at dksJ26_moveRootToFront_1 9 rfl rfl)
theorem dJ26_moveRootToFront_35 : decode cJ26_moveRootToFront 35 = .ok (.if_acmp .eq 67, 3) := dk_165 0 67 (dk_at dksJ26_moveRootToFront_1 11 rfl rfl)
theorem dJ26_moveRootToFront_38 : decode cJ26_moveRootToFront 38 = .ok (.aload_n 0, 1) := dk_42 (dk_at dksJ26_moveRootToFront_1 14 rfl rfl)
theorem dJ26_moveRootToFront_39 : decode cJ26_moveRootToFront 39 = .ok (.iload_n 3, 1) := dk_29 (dk_at dksJ26_moveRootToFront_1 15 rfl rfl)
theorem dJ26_moveRootToFront_40 : decode cJ26_moveRootToFront 40 = .ok (.aload_n 1, 1) := dk_43 (dk_at dksJ26_moveRootToFront_1 16 rfl rfl)
theorem dJ26_moveRootToFront_41 : decode cJ26_moveRootToFront 41 = .ok (.aastore, 1) := dk_83 (dk_at dksJ26_moveRootToFront_1 17 rfl rfl)
theorem dJ26_moveRootToFront_42 : decode cJ26_moveRootToFront 42 = .ok (.aload_n 1, 1) := dk_43 (dk_at dksJ26_moveRootToFront_1 18 rfl rfl)
theorem dJ26_moveRootToFront_43 : decode cJ26_moveRootToFront 43 = .ok (.getfield 19, 3) := dk_180 0 19 (dk_at dksJ26_moveRootToFront_1 19 rfl rfl)
theorem dJ26_moveRootToFront_46 : decode cJ26_moveRootToFront 46 = .ok (.astore 6, 2) := dk_58 6 (dk_at dksJ26_moveRootToFront_1 22 rfl rfl)
theorem dJ26_moveRootToFront_48 : decode cJ26_moveRootToFront 48 = .ok (.aload_n 1, 1) := dk_43 (dk_at dksJ26_moveRootToFront_2 0 rfl rfl)
theorem dJ26_moveRootToFront_49 : decode cJ26_moveRootToFront 49 = .ok (.getfield 22, 3) := dk_180 0 22 (dk_at dksJ26_moveRootToFront_2 1 rfl rfl)
theorem dJ26_moveRootToFront_52 : decode cJ26_moveRootToFront 52 = .ok (.dup, 1) := dk_89 (dk_at dksJ26_moveRootToFront_2 4 rfl rfl)
theorem dJ26_moveRootToFront_53 : decode cJ26_moveRootToFront 53 = .ok (.astore 5, 2) := dk_58 5 (dk_at dksJ26_moveRootToFront_2 5 rfl rfl)
theorem dJ26_moveRootToFront_55 : decode cJ26_moveRootToFront 55 = .ok (.ifnull 13, 3) := dk_198 0 13 (dk_at dksJ26_moveRootToFront_2 7 rfl rfl)
theorem dJ26_moveRootToFront_58 : decode cJ26_moveRootToFront 58 = .ok (.aload 5, 2) := dk_25 5 (dk_at dksJ26_moveRootToFront_2 10 rfl rfl)
theorem dJ26_moveRootToFront_60 : decode cJ26_moveRootToFront 60 = .ok (.checkcast 10, 3) := dk_192 0 10 (dk_at dksJ26_moveRootToFront_2 12 rfl rfl)
theorem dJ26_moveRootToFront_63 : decode cJ26_moveRootToFront 63 = .ok (.aload 6, 2) := dk_25 6 (dk_at dksJ26_moveRootToFront_2 15 rfl rfl)
theorem dJ26_moveRootToFront_65 : decode cJ26_moveRootToFront 65 = .ok (.putfield 19, 3) := dk_181 0 19 (dk_at dksJ26_moveRootToFront_2 17 rfl rfl)
theorem dJ26_moveRootToFront_68 : decode cJ26_moveRootToFront 68 = .ok (.aload 6, 2) := dk_25 6 (dk_at dksJ26_moveRootToFront_2 20 rfl rfl)
theorem dJ26_moveRootToFront_70 : decode cJ26_moveRootToFront 70 = .ok (.ifnull 10, 3) := dk_198 0 10 (dk_at dksJ26_moveRootToFront_3 0 rfl rfl)
theorem dJ26_moveRootToFront_73 : decode cJ26_moveRootToFront 73 = .ok (.aload 6, 2) := dk_25 6 (dk_at dksJ26_moveRootToFront_3 3 rfl rfl)
theorem dJ26_moveRootToFront_75 : decode cJ26_moveRootToFront 75 = .ok (.aload 5, 2) := dk_25 5 (dk_at dksJ26_moveRootToFront_3 5 rfl rfl)
theorem dJ26_moveRootToFront_77 : decode cJ26_moveRootToFront 77 = .ok (.putfield 22, 3) := dk_181 0 22 (dk_at dksJ26_moveRootToFront_3 7 rfl rfl)
theorem dJ26_moveRootToFront_80 : decode cJ26_moveRootToFront 80 = .ok (.aload 4, 2) := dk_25 4 (dk_at dksJ26_moveRootToFront_3 10 rfl rfl)
theorem dJ26_moveRootToFront_82 : decode cJ26_moveRootToFront 82 = .ok (.ifnull 9, 3) := dk_198 0 9 (dk_at dksJ26_moveRootToFront_3 12 rfl rfl)
theorem dJ26_moveRootToFront_85 : decode cJ26_moveRootToFront 85 = .ok (.aload 4, 2) := dk_25 4 (dk_at dksJ26_moveRootToFront_3 15 rfl rfl)
theorem dJ26_moveRootToFront_87 : decode cJ26_moveRootToFront 87 = .ok (.aload_n 1, 1) := dk_43 (dk_at dksJ26_moveRootToFront_3 17 rfl rfl)
theorem dJ26_moveRootToFront_88 : decode cJ26_moveRootToFront 88 = .ok (.putfield 19, 3) := dk_181 0 19 (dk_at dksJ26_moveRootToFront_3 18 rfl rfl)
theorem dJ26_moveRootToFront_91 : decode cJ26_moveRootToFront 91 = .ok (.aload_n 1, 1) := dk_43 (dk_at dksJ26_moveRootToFront_3 21 rfl rfl)
theorem dJ26_moveRootToFront_92 : decode cJ26_moveRootToFront 92 = .ok (.aload 4, 2) := dk_25 4 (dk_at dksJ26_moveRootToFront_3 22 rfl rfl)
theorem dJ26_moveRootToFront_94 : decode cJ26_moveRootToFront 94 = .ok (.putfield 22, 3) := dk_181 0 22 (dk_at dksJ26_moveRootToFront_4 0 rfl rfl)
theorem dJ26_moveRootToFront_97 : decode cJ26_moveRootToFront 97 = .ok (.aload_n 1, 1) := dk_43 (dk_at dksJ26_moveRootToFront_4 3 rfl rfl)
theorem dJ26_moveRootToFront_98 : decode cJ26_moveRootToFront 98 = .ok (.aconst_null, 1) := dk_1 (dk_at dksJ26_moveRootToFront_4 4 rfl rfl)
theorem dJ26_moveRootToFront_99 : decode cJ26_moveRootToFront 99 = .ok (.putfield 19, 3) := dk_181 0 19 (dk_at dksJ26_moveRootToFront_4 5 rfl rfl)
theorem dJ26_moveRootToFront_102 : decode cJ26_moveRootToFront 102 = .ok (.getstatic 26, 3) := dk_178 0 26 (dk_at dksJ26_moveRootToFront_4 8 rfl rfl)
theorem dJ26_moveRootToFront_105 : decode cJ26_moveRootToFront 105 = .ok (.ifCond .ne 18, 3) := dk_154 0 18 (dk_at dksJ26_moveRootToFront_4 11 rfl rfl)
theorem dJ26_moveRootToFront_108 : decode cJ26_moveRootToFront 108 = .ok (.aload_n 1, 1) := dk_43 (dk_at dksJ26_moveRootToFront_4 14 rfl rfl)
theorem dJ26_moveRootToFront_109 : decode cJ26_moveRootToFront 109 = .ok (.invokestatic 30, 3) := dk_184 0 30 (dk_at dksJ26_moveRootToFront_4 15 rfl rfl)
theorem dJ26_moveRootToFront_112 : decode cJ26_moveRootToFront 112 = .ok (.ifCond .ne 11, 3) := dk_154 0 11 (dk_at dksJ26_moveRootToFront_4 18 rfl rfl)
theorem dJ26_moveRootToFront_115 : decode cJ26_moveRootToFront 115 = .ok (.new 34, 3) := dk_187 0 34 (dk_at dksJ26_moveRootToFront_4 21 rfl rfl)
theorem dJ26_moveRootToFront_118 : decode cJ26_moveRootToFront 118 = .ok (.dup, 1) := dk_89 (dk_at dksJ26_moveRootToFront_5 0 rfl rfl)
theorem dJ26_moveRootToFront_119 : decode cJ26_moveRootToFront 119 = .ok (.invokespecial 36, 3) := dk_183 0 36 (dk_at dksJ26_moveRootToFront_5 1 rfl rfl)
theorem dJ26_moveRootToFront_122 : decode cJ26_moveRootToFront 122 = .ok (.athrow, 1) := dk_191 (dk_at dksJ26_moveRootToFront_5 4 rfl rfl)
theorem dJ26_moveRootToFront_123 : decode cJ26_moveRootToFront 123 = .ok (.return_, 1) := dk_177 (dk_at dksJ26_moveRootToFront_5 5 rfl rfl)
abbrev cJ26_putTreeVal : ByteArray := prog_62_method_9_code
def yJ26_putTreeVal : MethodName := ⟨RJ26, "putTreeVal", "(Ljava/util/HashMap;[Ljava/util/HashMap$Node;ILjava/lang/Object;Ljava/lang/Object;)Ljava/util/HashMap$TreeNode;"⟩
def dkwJ26_putTreeVal_13 : List UInt8 := [184, 0, 100, 184, 0, 104, 1, 176, 167, 254, 228]
abbrev dktJ26_putTreeVal_13 : List UInt8 := dkwJ26_putTreeVal_13 ++ []
def dkwJ26_putTreeVal_12 : List UInt8 := [181, 0, 9, 25, 14, 198, 0, 13, 25, 14, 192, 0, 10, 25, 15, 181, 0, 19, 44, 25, 8, 25, 15]
abbrev dktJ26_putTreeVal_12 : List UInt8 := dkwJ26_putTreeVal_12 ++ dktJ26_putTreeVal_13
def dkwJ26_putTreeVal_11 : List UInt8 := [25, 15, 181, 0, 42, 25, 13, 25, 15, 181, 0, 22, 25, 15, 25, 15, 25, 13, 90, 181, 0, 19]
abbrev dktJ26_putTreeVal_11 : List UInt8 := dkwJ26_putTreeVal_11 ++ dktJ26_putTreeVal_12
def dkwJ26_putTreeVal_10 : List UInt8 := [25, 14, 182, 0, 115, 58, 15, 21, 10, 157, 0, 13, 25, 13, 25, 15, 181, 0, 39, 167, 0, 10, 25, 13]
abbrev dktJ26_putTreeVal_10 : List UInt8 := dkwJ26_putTreeVal_10 ++ dktJ26_putTreeVal_11
def dkwJ26_putTreeVal_9 : List UInt8 := [25, 9, 180, 0, 42, 89, 58, 9, 199, 0, 93, 25, 13, 180, 0, 22, 58, 14, 43, 29, 25, 4, 25, 5]
abbrev dktJ26_putTreeVal_9 : List UInt8 := dkwJ26_putTreeVal_9 ++ dktJ26_putTreeVal_10
def dkwJ26_putTreeVal_8 : List UInt8 := [25, 12, 184, 0, 96, 54, 10, 25, 9, 58, 13, 21, 10, 157, 0, 11, 25, 9, 180, 0, 39, 167, 0, 8]
abbrev dktJ26_putTreeVal_8 : List UInt8 := dkwJ26_putTreeVal_8 ++ dktJ26_putTreeVal_9
def dkwJ26_putTreeVal_7 : List UInt8 := [198, 0, 22, 25, 14, 29, 25, 4, 25, 6, 182, 0, 63, 89, 58, 13, 198, 0, 6, 25, 13, 176, 25, 4]
abbrev dktJ26_putTreeVal_7 : List UInt8 := dkwJ26_putTreeVal_7 ++ dktJ26_putTreeVal_8
def dkwJ26_putTreeVal_6 : List UInt8 := [29, 25, 4, 25, 6, 182, 0, 63, 89, 58, 13, 199, 0, 30, 25, 9, 180, 0, 42, 89, 58, 14]
abbrev dktJ26_putTreeVal_6 : List UInt8 := dkwJ26_putTreeVal_6 ++ dktJ26_putTreeVal_7
def dkwJ26_putTreeVal_5 : List UInt8 := [154, 0, 77, 21, 7, 154, 0, 63, 4, 54, 7, 25, 9, 180, 0, 39, 89, 58, 14, 198, 0, 19, 25, 14]
abbrev dktJ26_putTreeVal_5 : List UInt8 := dkwJ26_putTreeVal_5 ++ dktJ26_putTreeVal_6
def dkwJ26_putTreeVal_4 : List UInt8 := [25, 4, 184, 0, 55, 89, 58, 6, 198, 0, 18, 25, 6, 25, 4, 25, 12, 184, 0, 59, 89, 54, 10]
abbrev dktJ26_putTreeVal_4 : List UInt8 := dkwJ26_putTreeVal_4 ++ dktJ26_putTreeVal_5
def dkwJ26_putTreeVal_3 : List UInt8 := [25, 4, 198, 0, 16, 25, 4, 25, 12, 182, 0, 49, 153, 0, 6, 25, 9, 176, 25, 6, 199, 0, 14]
abbrev dktJ26_putTreeVal_3 : List UInt8 := dkwJ26_putTreeVal_3 ++ dktJ26_putTreeVal_4
def dkwJ26_putTreeVal_2 : List UInt8 := [29, 162, 0, 9, 4, 54, 10, 167, 0, 139, 25, 9, 180, 0, 45, 89, 58, 12, 25, 4, 165, 0, 18]
abbrev dktJ26_putTreeVal_2 : List UInt8 := dkwJ26_putTreeVal_2 ++ dktJ26_putTreeVal_3
def dkwJ26_putTreeVal_1 : List UInt8 := [25, 8, 58, 9, 25, 9, 180, 0, 15, 89, 54, 11, 29, 164, 0, 9, 2, 54, 10, 167, 0, 151, 21, 11]
abbrev dktJ26_putTreeVal_1 : List UInt8 := dkwJ26_putTreeVal_1 ++ dktJ26_putTreeVal_2
def dkwJ26_putTreeVal_0 : List UInt8 := [1, 58, 6, 3, 54, 7, 42, 180, 0, 9, 198, 0, 10, 42, 182, 0, 67, 167, 0, 4, 42, 58, 8]
abbrev dktJ26_putTreeVal_0 : List UInt8 := dkwJ26_putTreeVal_0 ++ dktJ26_putTreeVal_1
theorem dksJ26_putTreeVal_0 : cJ26_putTreeVal.data.toList.drop 0 = dktJ26_putTreeVal_0 := by decide +kernel
theorem dksJ26_putTreeVal_1 : cJ26_putTreeVal.data.toList.drop 23 = dktJ26_putTreeVal_1 := dk_seg dksJ26_putTreeVal_0 23 rfl rfl
theorem dksJ26_putTreeVal_2 : cJ26_putTreeVal.data.toList.drop 47 = dktJ26_putTreeVal_2 := dk_seg dksJ26_putTreeVal_1 24 rfl rfl
theorem dksJ26_putTreeVal_3 : cJ26_putTreeVal.data.toList.drop 70 = dktJ26_putTreeVal_3 := dk_seg dksJ26_putTreeVal_2 23 rfl rfl
theorem dksJ26_putTreeVal_4 : cJ26_putTreeVal.data.toList.drop 93 = dktJ26_putTreeVal_4 := dk_seg dksJ26_putTreeVal_3 23 rfl rfl
theorem dksJ26_putTreeVal_5 : cJ26_putTreeVal.data.toList.drop 116 = dktJ26_putTreeVal_5 := dk_seg dksJ26_putTreeVal_4 23 rfl rfl
theorem dksJ26_putTreeVal_6 : cJ26_putTreeVal.data.toList.drop 140 = dktJ26_putTreeVal_6 := dk_seg dksJ26_putTreeVal_5 24 rfl rfl
theorem dksJ26_putTreeVal_7 : cJ26_putTreeVal.data.toList.drop 162 = dktJ26_putTreeVal_7 := dk_seg dksJ26_putTreeVal_6 22 rfl rfl
theorem dksJ26_putTreeVal_8 : cJ26_putTreeVal.data.toList.drop 186 = dktJ26_putTreeVal_8 := dk_seg dksJ26_putTreeVal_7 24 rfl rfl
theorem dksJ26_putTreeVal_9 : cJ26_putTreeVal.data.toList.drop 210 = dktJ26_putTreeVal_9 := dk_seg dksJ26_putTreeVal_8 24 rfl rfl
theorem dksJ26_putTreeVal_10 : cJ26_putTreeVal.data.toList.drop 234 = dktJ26_putTreeVal_10 := dk_seg dksJ26_putTreeVal_9 24 rfl rfl
theorem dksJ26_putTreeVal_11 : cJ26_putTreeVal.data.toList.drop 258 = dktJ26_putTreeVal_11 := dk_seg dksJ26_putTreeVal_10 24 rfl rfl
theorem dksJ26_putTreeVal_12 : cJ26_putTreeVal.data.toList.drop 280 = dktJ26_putTreeVal_12 := dk_seg dksJ26_putTreeVal_11 22 rfl rfl
theorem dksJ26_putTreeVal_13 : cJ26_putTreeVal.data.toList.drop 303 = dktJ26_putTreeVal_13 := dk_seg dksJ26_putTreeVal_12 23 rfl rfl
theorem dJ26_putTreeVal_0 : decode cJ26_putTreeVal 0 = .ok (.aconst_null, 1) := dk_1 (dk_at dksJ26_putTreeVal_0 0 rfl rfl)
theorem dJ26_putTreeVal_1 : decode cJ26_putTreeVal 1 = .ok (.astore 6, 2) := dk_58 6 (dk_at dksJ26_putTreeVal_0 1 rfl rfl)
theorem dJ26_putTreeVal_3 : decode cJ26_putTreeVal 3 = .ok (.iconst 0, 1) := dk_3 (dk_at dksJ26_putTreeVal_0 3 rfl rfl)
theorem dJ26_putTreeVal_4 : decode cJ26_putTreeVal 4 = .ok (.istore 7, 2) := dk_54 7 (dk_at dksJ26_putTreeVal_0 4 rfl rfl)
theorem dJ26_putTreeVal_6 : decode cJ26_putTreeVal 6 = .ok (.aload_n 0, 1) := dk_42 (dk_at dksJ26_putTreeVal_0 6 rfl rfl)
theorem dJ26_putTreeVal_7 : decode cJ26_putTreeVal 7 = .ok (.getfield 9, 3) := dk_180 0 9 (dk_at dksJ26_putTreeVal_0 7 rfl rfl)
theorem dJ26_putTreeVal_10 : decode cJ26_putTreeVal 10 = .ok (.ifnull 10, 3) := dk_198 0 10 (dk_at dksJ26_putTreeVal_0 10 rfl rfl)
theorem dJ26_putTreeVal_13 : decode cJ26_putTreeVal 13 = .ok (.aload_n 0, 1) := dk_42 (dk_at dksJ26_putTreeVal_0 13 rfl rfl)
theorem dJ26_putTreeVal_14 : decode cJ26_putTreeVal 14 = .ok (.invokevirtual 67, 3) := dk_182 0 67 (dk_at dksJ26_putTreeVal_0 14 rfl rfl)
theorem dJ26_putTreeVal_17 : decode cJ26_putTreeVal 17 = .ok (.goto 4, 3) := dk_167 0 4 (dk_at dksJ26_putTreeVal_0 17 rfl rfl)
theorem dJ26_putTreeVal_20 : decode cJ26_putTreeVal 20 = .ok (.aload_n 0, 1) := dk_42 (dk_at dksJ26_putTreeVal_0 20 rfl rfl)
theorem dJ26_putTreeVal_21 : decode cJ26_putTreeVal 21 = .ok (.astore 8, 2) := dk_58 8 (dk_at dksJ26_putTreeVal_0 21 rfl rfl)
theorem dJ26_putTreeVal_23 : decode cJ26_putTreeVal 23 = .ok (.aload 8, 2) := dk_25 8 (dk_at dksJ26_putTreeVal_1 0 rfl rfl)
theorem dJ26_putTreeVal_25 : decode cJ26_putTreeVal 25 = .ok (.astore 9, 2) := dk_58 9 (dk_at dksJ26_putTreeVal_1 2 rfl rfl)
theorem dJ26_putTreeVal_27 : decode cJ26_putTreeVal 27 = .ok (.aload 9, 2) := dk_25 9 (dk_at dksJ26_putTreeVal_1 4 rfl rfl)
theorem dJ26_putTreeVal_29 : decode cJ26_putTreeVal 29 = .ok (.getfield 15, 3) := dk_180 0 15 (dk_at dksJ26_putTreeVal_1 6 rfl rfl)
theorem dJ26_putTreeVal_32 : decode cJ26_putTreeVal 32 = .ok (.dup, 1) := dk_89 (dk_at dksJ26_putTreeVal_1 9 rfl rfl)
theorem dJ26_putTreeVal_33 : decode cJ26_putTreeVal 33 = .ok (.istore 11, 2) := dk_54 11 (dk_at dksJ26_putTreeVal_1 10 rfl rfl)
theorem dJ26_putTreeVal_35 : decode cJ26_putTreeVal 35 = .ok (.iload_n 3, 1) := dk_29 (dk_at dksJ26_putTreeVal_1 12 rfl rfl)
theorem dJ26_putTreeVal_36 : decode cJ26_putTreeVal 36 = .ok (.if_icmp .le 9, 3) := dk_164 0 9 (dk_at dksJ26_putTreeVal_1 13 rfl rfl)
theorem dJ26_putTreeVal_39 : decode cJ26_putTreeVal 39 = .ok (.iconst (-1), 1) := dk_2 (dk_at dksJ26_putTreeVal_1 16 rfl rfl)
theorem dJ26_putTreeVal_40 : decode cJ26_putTreeVal 40 = .ok (.istore 10, 2) := dk_54 10 (dk_at dksJ26_putTreeVal_1 17 rfl rfl)
theorem dJ26_putTreeVal_42 : decode cJ26_putTreeVal 42 = .ok (.goto 151, 3) := dk_167 0 151 (dk_at dksJ26_putTreeVal_1 19 rfl rfl)
theorem dJ26_putTreeVal_45 : decode cJ26_putTreeVal 45 = .ok (.iload 11, 2) := dk_21 11 (dk_at dksJ26_putTreeVal_1 22 rfl rfl)
theorem dJ26_putTreeVal_47 : decode cJ26_putTreeVal 47 = .ok (.iload_n 3, 1) := dk_29 (dk_at dksJ26_putTreeVal_2 0 rfl rfl)
theorem dJ26_putTreeVal_48 : decode cJ26_putTreeVal 48 = .ok (.if_icmp .ge 9, 3) := dk_162 0 9 (dk_at dksJ26_putTreeVal_2 1 rfl rfl)
theorem dJ26_putTreeVal_51 : decode cJ26_putTreeVal 51 = .ok (.iconst 1, 1) := dk_4 (dk_at dksJ26_putTreeVal_2 4 rfl rfl)
theorem dJ26_putTreeVal_52 : decode cJ26_putTreeVal 52 = .ok (.istore 10, 2) := dk_54 10 (dk_at dksJ26_putTreeVal_2 5 rfl rfl)
theorem dJ26_putTreeVal_54 : decode cJ26_putTreeVal 54 = .ok (.goto 139, 3) := dk_167 0 139 (dk_at dksJ26_putTreeVal_2 7 rfl rfl)
theorem dJ26_putTreeVal_57 : decode cJ26_putTreeVal 57 = .ok (.aload 9, 2) := dk_25 9 (dk_at dksJ26_putTreeVal_2 10 rfl rfl)
theorem dJ26_putTreeVal_59 : decode cJ26_putTreeVal 59 = .ok (.getfield 45, 3) := dk_180 0 45 (dk_at dksJ26_putTreeVal_2 12 rfl rfl)
theorem dJ26_putTreeVal_62 : decode cJ26_putTreeVal 62 = .ok (.dup, 1) := dk_89 (dk_at dksJ26_putTreeVal_2 15 rfl rfl)
theorem dJ26_putTreeVal_63 : decode cJ26_putTreeVal 63 = .ok (.astore 12, 2) := dk_58 12 (dk_at dksJ26_putTreeVal_2 16 rfl rfl)
theorem dJ26_putTreeVal_65 : decode cJ26_putTreeVal 65 = .ok (.aload 4, 2) := dk_25 4 (dk_at dksJ26_putTreeVal_2 18 rfl rfl)
theorem dJ26_putTreeVal_67 : decode cJ26_putTreeVal 67 = .ok (.if_acmp .eq 18, 3) := dk_165 0 18 (dk_at dksJ26_putTreeVal_2 20 rfl rfl)
theorem dJ26_putTreeVal_70 : decode cJ26_putTreeVal 70 = .ok (.aload 4, 2) := dk_25 4 (dk_at dksJ26_putTreeVal_3 0 rfl rfl)
theorem dJ26_putTreeVal_72 : decode cJ26_putTreeVal 72 = .ok (.ifnull 16, 3) := dk_198 0 16 (dk_at dksJ26_putTreeVal_3 2 rfl rfl)
theorem dJ26_putTreeVal_75 : decode cJ26_putTreeVal 75 = .ok (.aload 4, 2) := dk_25 4 (dk_at dksJ26_putTreeVal_3 5 rfl rfl)
theorem dJ26_putTreeVal_77 : decode cJ26_putTreeVal 77 = .ok (.aload 12, 2) := dk_25 12 (dk_at dksJ26_putTreeVal_3 7 rfl rfl)
theorem dJ26_putTreeVal_79 : decode cJ26_putTreeVal 79 = .ok (.invokevirtual 49, 3) := dk_182 0 49 (dk_at dksJ26_putTreeVal_3 9 rfl rfl)
theorem dJ26_putTreeVal_82 : decode cJ26_putTreeVal 82 = .ok (.ifCond .eq 6, 3) := dk_153 0 6 (dk_at dksJ26_putTreeVal_3 12 rfl rfl)
theorem dJ26_putTreeVal_85 : decode cJ26_putTreeVal 85 = .ok (.aload 9, 2) := dk_25 9 (dk_at dksJ26_putTreeVal_3 15 rfl rfl)
theorem dJ26_putTreeVal_87 : decode cJ26_putTreeVal 87 = .ok (.areturn, 1) := dk_176 (dk_at dksJ26_putTreeVal_3 17 rfl rfl)
theorem dJ26_putTreeVal_88 : decode cJ26_putTreeVal 88 = .ok (.aload 6, 2) := dk_25 6 (dk_at dksJ26_putTreeVal_3 18 rfl rfl)
theorem dJ26_putTreeVal_90 : decode cJ26_putTreeVal 90 = .ok (.ifnonnull 14, 3) := dk_199 0 14 (dk_at dksJ26_putTreeVal_3 20 rfl rfl)
theorem dJ26_putTreeVal_93 : decode cJ26_putTreeVal 93 = .ok (.aload 4, 2) := dk_25 4 (dk_at dksJ26_putTreeVal_4 0 rfl rfl)
theorem dJ26_putTreeVal_95 : decode cJ26_putTreeVal 95 = .ok (.invokestatic 55, 3) := dk_184 0 55 (dk_at dksJ26_putTreeVal_4 2 rfl rfl)
theorem dJ26_putTreeVal_98 : decode cJ26_putTreeVal 98 = .ok (.dup, 1) := dk_89 (dk_at dksJ26_putTreeVal_4 5 rfl rfl)
theorem dJ26_putTreeVal_99 : decode cJ26_putTreeVal 99 = .ok (.astore 6, 2) := dk_58 6 (dk_at dksJ26_putTreeVal_4 6 rfl rfl)
theorem dJ26_putTreeVal_101 : decode cJ26_putTreeVal 101 = .ok (.ifnull 18, 3) := dk_198 0 18 (dk_at dksJ26_putTreeVal_4 8 rfl rfl)
theorem dJ26_putTreeVal_104 : decode cJ26_putTreeVal 104 = .ok (.aload 6, 2) := dk_25 6 (dk_at dksJ26_putTreeVal_4 11 rfl rfl)
theorem dJ26_putTreeVal_106 : decode cJ26_putTreeVal 106 = .ok (.aload 4, 2) := dk_25 4 (dk_at dksJ26_putTreeVal_4 13 rfl rfl)
theorem dJ26_putTreeVal_108 : decode cJ26_putTreeVal 108 = .ok (.aload 12, 2) := dk_25 12 (dk_at dksJ26_putTreeVal_4 15 rfl rfl)
theorem dJ26_putTreeVal_110 : decode cJ26_putTreeVal 110 = .ok (.invokestatic 59, 3) := dk_184 0 59 (dk_at dksJ26_putTreeVal_4 17 rfl rfl)
theorem dJ26_putTreeVal_113 : decode cJ26_putTreeVal 113 = .ok (.dup, 1) := dk_89 (dk_at dksJ26_putTreeVal_4 20 rfl rfl)
theorem dJ26_putTreeVal_114 : decode cJ26_putTreeVal 114 = .ok (.istore 10, 2) := dk_54 10 (dk_at dksJ26_putTreeVal_4 21 rfl rfl)
theorem dJ26_putTreeVal_116 : decode cJ26_putTreeVal 116 = .ok (.ifCond .ne 77, 3) := dk_154 0 77 (dk_at dksJ26_putTreeVal_5 0 rfl rfl)
theorem dJ26_putTreeVal_119 : decode cJ26_putTreeVal 119 = .ok (.iload 7, 2) := dk_21 7 (dk_at dksJ26_putTreeVal_5 3 rfl rfl)
theorem dJ26_putTreeVal_121 : decode cJ26_putTreeVal 121 = .ok (.ifCond .ne 63, 3) := dk_154 0 63 (dk_at dksJ26_putTreeVal_5 5 rfl rfl)
theorem dJ26_putTreeVal_124 : decode cJ26_putTreeVal 124 = .ok (.iconst 1, 1) := dk_4 (dk_at dksJ26_putTreeVal_5 8 rfl rfl)
theorem dJ26_putTreeVal_125 : decode cJ26_putTreeVal 125 = .ok (.istore 7, 2) := dk_54 7 (dk_at dksJ26_putTreeVal_5 9 rfl rfl)
theorem dJ26_putTreeVal_127 : decode cJ26_putTreeVal 127 = .ok (.aload 9, 2) := dk_25 9 (dk_at dksJ26_putTreeVal_5 11 rfl rfl)
theorem dJ26_putTreeVal_129 : decode cJ26_putTreeVal 129 = .ok (.getfield 39, 3) := dk_180 0 39 (dk_at dksJ26_putTreeVal_5 13 rfl rfl)
theorem dJ26_putTreeVal_132 : decode cJ26_putTreeVal 132 = .ok (.dup, 1) := dk_89 (dk_at dksJ26_putTreeVal_5 16 rfl rfl)
theorem dJ26_putTreeVal_133 : decode cJ26_putTreeVal 133 = .ok (.astore 14, 2) := dk_58 14 (dk_at dksJ26_putTreeVal_5 17 rfl rfl)
theorem dJ26_putTreeVal_135 : decode cJ26_putTreeVal 135 = .ok (.ifnull 19, 3) := dk_198 0 19 (dk_at dksJ26_putTreeVal_5 19 rfl rfl)
theorem dJ26_putTreeVal_138 : decode cJ26_putTreeVal 138 = .ok (.aload 14, 2) := dk_25 14 (dk_at dksJ26_putTreeVal_5 22 rfl rfl)
theorem dJ26_putTreeVal_140 : decode cJ26_putTreeVal 140 = .ok (.iload_n 3, 1) := dk_29 (dk_at dksJ26_putTreeVal_6 0 rfl rfl)
theorem dJ26_putTreeVal_141 : decode cJ26_putTreeVal 141 = .ok (.aload 4, 2) := dk_25 4 (dk_at dksJ26_putTreeVal_6 1 rfl rfl)
theorem dJ26_putTreeVal_143 : decode cJ26_putTreeVal 143 = .ok (.aload 6, 2) := dk_25 6 (dk_at dksJ26_putTreeVal_6 3 rfl rfl)
theorem dJ26_putTreeVal_145 : decode cJ26_putTreeVal 145 = .ok (.invokevirtual 63, 3) := dk_182 0 63 (dk_at dksJ26_putTreeVal_6 5 rfl rfl)
theorem dJ26_putTreeVal_148 : decode cJ26_putTreeVal 148 = .ok (.dup, 1) := dk_89 (dk_at dksJ26_putTreeVal_6 8 rfl rfl)
theorem dJ26_putTreeVal_149 : decode cJ26_putTreeVal 149 = .ok (.astore 13, 2) := dk_58 13 (dk_at dksJ26_putTreeVal_6 9 rfl rfl)
theorem dJ26_putTreeVal_151 : decode cJ26_putTreeVal 151 = .ok (.ifnonnull 30, 3) := dk_199 0 30 (dk_at dksJ26_putTreeVal_6 11 rfl rfl)
theorem dJ26_putTreeVal_154 : decode cJ26_putTreeVal 154 = .ok (.aload 9, 2) := dk_25 9 (dk_at dksJ26_putTreeVal_6 14 rfl rfl)
theorem dJ26_putTreeVal_156 : decode cJ26_putTreeVal 156 = .ok (.getfield 42, 3) := dk_180 0 42 (dk_at dksJ26_putTreeVal_6 16 rfl rfl)
theorem dJ26_putTreeVal_159 : decode cJ26_putTreeVal 159 = .ok (.dup, 1) := dk_89 (dk_at dksJ26_putTreeVal_6 19 rfl rfl)
theorem dJ26_putTreeVal_160 : decode cJ26_putTreeVal 160 = .ok (.astore 14, 2) := dk_58 14 (dk_at dksJ26_putTreeVal_6 20 rfl rfl)
theorem dJ26_putTreeVal_162 : decode cJ26_putTreeVal 162 = .ok (.ifnull 22, 3) := dk_198 0 22 (dk_at dksJ26_putTreeVal_7 0 rfl rfl)
theorem dJ26_putTreeVal_165 : decode cJ26_putTreeVal 165 = .ok (.aload 14, 2) := dk_25 14 (dk_at dksJ26_putTreeVal_7 3 rfl rfl)
theorem dJ26_putTreeVal_167 : decode cJ26_putTreeVal 167 = .ok (.iload_n 3, 1) := dk_29 (dk_at dksJ26_putTreeVal_7 5 rfl rfl)
theorem dJ26_putTreeVal_168 : decode cJ26_putTreeVal 168 = .ok (.aload 4, 2) := dk_25 4 (dk_at dksJ26_putTreeVal_7 6 rfl rfl)
theorem dJ26_putTreeVal_170 : decode cJ26_putTreeVal 170 = .ok (.aload 6, 2) := dk_25 6 (dk_at dksJ26_putTreeVal_7 8 rfl rfl)
theorem dJ26_putTreeVal_172 : decode cJ26_putTreeVal 172 = .ok (.invokevirtual 63, 3) := dk_182 0 63 (dk_at dksJ26_putTreeVal_7 10 rfl rfl)
theorem dJ26_putTreeVal_175 : decode cJ26_putTreeVal 175 = .ok (.dup, 1) := dk_89 (dk_at dksJ26_putTreeVal_7 13 rfl rfl)
theorem dJ26_putTreeVal_176 : decode cJ26_putTreeVal 176 = .ok (.astore 13, 2) := dk_58 13 (dk_at dksJ26_putTreeVal_7 14 rfl rfl)
theorem dJ26_putTreeVal_178 : decode cJ26_putTreeVal 178 = .ok (.ifnull 6, 3) := dk_198 0 6 (dk_at dksJ26_putTreeVal_7 16 rfl rfl)
theorem dJ26_putTreeVal_181 : decode cJ26_putTreeVal 181 = .ok (.aload 13, 2) := dk_25 13 (dk_at dksJ26_putTreeVal_7 19 rfl rfl)
theorem dJ26_putTreeVal_183 : decode cJ26_putTreeVal 183 = .ok (.areturn, 1) := dk_176 (dk_at dksJ26_putTreeVal_7 21 rfl rfl)
theorem dJ26_putTreeVal_184 : decode cJ26_putTreeVal 184 = .ok (.aload 4, 2) := dk_25 4 (dk_at dksJ26_putTreeVal_7 22 rfl rfl)
theorem dJ26_putTreeVal_186 : decode cJ26_putTreeVal 186 = .ok (.aload 12, 2) := dk_25 12 (dk_at dksJ26_putTreeVal_8 0 rfl rfl)
theorem dJ26_putTreeVal_188 : decode cJ26_putTreeVal 188 = .ok (.invokestatic 96, 3) := dk_184 0 96 (dk_at dksJ26_putTreeVal_8 2 rfl rfl)
theorem dJ26_putTreeVal_191 : decode cJ26_putTreeVal 191 = .ok (.istore 10, 2) := dk_54 10 (dk_at dksJ26_putTreeVal_8 5 rfl rfl)
theorem dJ26_putTreeVal_193 : decode cJ26_putTreeVal 193 = .ok (.aload 9, 2) := dk_25 9 (dk_at dksJ26_putTreeVal_8 7 rfl rfl)
theorem dJ26_putTreeVal_195 : decode cJ26_putTreeVal 195 = .ok (.astore 13, 2) := dk_58 13 (dk_at dksJ26_putTreeVal_8 9 rfl rfl)
theorem dJ26_putTreeVal_197 : decode cJ26_putTreeVal 197 = .ok (.iload 10, 2) := dk_21 10 (dk_at dksJ26_putTreeVal_8 11 rfl rfl)
theorem dJ26_putTreeVal_199 : decode cJ26_putTreeVal 199 = .ok (.ifCond .gt 11, 3) := dk_157 0 11 (dk_at dksJ26_putTreeVal_8 13 rfl rfl)
theorem dJ26_putTreeVal_202 : decode cJ26_putTreeVal 202 = .ok (.aload 9, 2) := dk_25 9 (dk_at dksJ26_putTreeVal_8 16 rfl rfl)
theorem dJ26_putTreeVal_204 : decode cJ26_putTreeVal 204 = .ok (.getfield 39, 3) := dk_180 0 39 (dk_at dksJ26_putTreeVal_8 18 rfl rfl)
theorem dJ26_putTreeVal_207 : decode cJ26_putTreeVal 207 = .ok (.goto 8, 3) := dk_167 0 8 (dk_at dksJ26_putTreeVal_8 21 rfl rfl)
theorem dJ26_putTreeVal_210 : decode cJ26_putTreeVal 210 = .ok (.aload 9, 2) := dk_25 9 (dk_at dksJ26_putTreeVal_9 0 rfl rfl)
theorem dJ26_putTreeVal_212 : decode cJ26_putTreeVal 212 = .ok (.getfield 42, 3) := dk_180 0 42 (dk_at dksJ26_putTreeVal_9 2 rfl rfl)
theorem dJ26_putTreeVal_215 : decode cJ26_putTreeVal 215 = .ok (.dup, 1) := dk_89 (dk_at dksJ26_putTreeVal_9 5 rfl rfl)
theorem dJ26_putTreeVal_216 : decode cJ26_putTreeVal 216 = .ok (.astore 9, 2) := dk_58 9 (dk_at dksJ26_putTreeVal_9 6 rfl rfl)
theorem dJ26_putTreeVal_218 : decode cJ26_putTreeVal 218 = .ok (.ifnonnull 93, 3) := dk_199 0 93 (dk_at dksJ26_putTreeVal_9 8 rfl rfl)
theorem dJ26_putTreeVal_221 : decode cJ26_putTreeVal 221 = .ok (.aload 13, 2) := dk_25 13 (dk_at dksJ26_putTreeVal_9 11 rfl rfl)
theorem dJ26_putTreeVal_223 : decode cJ26_putTreeVal 223 = .ok (.getfield 22, 3) := dk_180 0 22 (dk_at dksJ26_putTreeVal_9 13 rfl rfl)
theorem dJ26_putTreeVal_226 : decode cJ26_putTreeVal 226 = .ok (.astore 14, 2) := dk_58 14 (dk_at dksJ26_putTreeVal_9 16 rfl rfl)
theorem dJ26_putTreeVal_228 : decode cJ26_putTreeVal 228 = .ok (.aload_n 1, 1) := dk_43 (dk_at dksJ26_putTreeVal_9 18 rfl rfl)
theorem dJ26_putTreeVal_229 : decode cJ26_putTreeVal 229 = .ok (.iload_n 3, 1) := dk_29 (dk_at dksJ26_putTreeVal_9 19 rfl rfl)
theorem dJ26_putTreeVal_230 : decode cJ26_putTreeVal 230 = .ok (.aload 4, 2) := dk_25 4 (dk_at dksJ26_putTreeVal_9 20 rfl rfl)
theorem dJ26_putTreeVal_232 : decode cJ26_putTreeVal 232 = .ok (.aload 5, 2) := dk_25 5 (dk_at dksJ26_putTreeVal_9 22 rfl rfl)
theorem dJ26_putTreeVal_234 : decode cJ26_putTreeVal 234 = .ok (.aload 14, 2) := dk_25 14 (dk_at dksJ26_putTreeVal_10 0 rfl rfl)
theorem dJ26_putTreeVal_236 : decode cJ26_putTreeVal 236 = .ok (.invokevirtual 115, 3) := dk_182 0 115 (dk_at dksJ26_putTreeVal_10 2 rfl rfl)
theorem dJ26_putTreeVal_239 : decode cJ26_putTreeVal 239 = .ok (.astore 15, 2) := dk_58 15 (dk_at dksJ26_putTreeVal_10 5 rfl rfl)
theorem dJ26_putTreeVal_241 : decode cJ26_putTreeVal 241 = .ok (.iload 10, 2) := dk_21 10 (dk_at dksJ26_putTreeVal_10 7 rfl rfl)
theorem dJ26_putTreeVal_243 : decode cJ26_putTreeVal 243 = .ok (.ifCond .gt 13, 3) := dk_157 0 13 (dk_at dksJ26_putTreeVal_10 9 rfl rfl)
theorem dJ26_putTreeVal_246 : decode cJ26_putTreeVal 246 = .ok (.aload 13, 2) := dk_25 13 (dk_at dksJ26_putTreeVal_10 12 rfl rfl)
theorem dJ26_putTreeVal_248 : decode cJ26_putTreeVal 248 = .ok (.aload 15, 2) := dk_25 15 (dk_at dksJ26_putTreeVal_10 14 rfl rfl)
theorem dJ26_putTreeVal_250 : decode cJ26_putTreeVal 250 = .ok (.putfield 39, 3) := dk_181 0 39 (dk_at dksJ26_putTreeVal_10 16 rfl rfl)
theorem dJ26_putTreeVal_253 : decode cJ26_putTreeVal 253 = .ok (.goto 10, 3) := dk_167 0 10 (dk_at dksJ26_putTreeVal_10 19 rfl rfl)
theorem dJ26_putTreeVal_256 : decode cJ26_putTreeVal 256 = .ok (.aload 13, 2) := dk_25 13 (dk_at dksJ26_putTreeVal_10 22 rfl rfl)
theorem dJ26_putTreeVal_258 : decode cJ26_putTreeVal 258 = .ok (.aload 15, 2) := dk_25 15 (dk_at dksJ26_putTreeVal_11 0 rfl rfl)
theorem dJ26_putTreeVal_260 : decode cJ26_putTreeVal 260 = .ok (.putfield 42, 3) := dk_181 0 42 (dk_at dksJ26_putTreeVal_11 2 rfl rfl)
theorem dJ26_putTreeVal_263 : decode cJ26_putTreeVal 263 = .ok (.aload 13, 2) := dk_25 13 (dk_at dksJ26_putTreeVal_11 5 rfl rfl)
theorem dJ26_putTreeVal_265 : decode cJ26_putTreeVal 265 = .ok (.aload 15, 2) := dk_25 15 (dk_at dksJ26_putTreeVal_11 7 rfl rfl)
theorem dJ26_putTreeVal_267 : decode cJ26_putTreeVal 267 = .ok (.putfield 22, 3) := dk_181 0 22 (dk_at dksJ26_putTreeVal_11 9 rfl rfl)
theorem dJ26_putTreeVal_270 : decode cJ26_putTreeVal 270 = .ok (.aload 15, 2) := dk_25 15 (dk_at dksJ26_putTreeVal_11 12 rfl rfl)
theorem dJ26_putTreeVal_272 : decode cJ26_putTreeVal 272 = .ok (.aload 15, 2) := dk_25 15 (dk_at dksJ26_putTreeVal_11 14 rfl rfl)
theorem dJ26_putTreeVal_274 : decode cJ26_putTreeVal 274 = .ok (.aload 13, 2) := dk_25 13 (dk_at dksJ26_putTreeVal_11 16 rfl rfl)
theorem dJ26_putTreeVal_276 : decode cJ26_putTreeVal 276 = .ok (.dup_x1, 1) := dk_90 (dk_at dksJ26_putTreeVal_11 18 rfl rfl)
theorem dJ26_putTreeVal_277 : decode cJ26_putTreeVal 277 = .ok (.putfield 19, 3) := dk_181 0 19 (dk_at dksJ26_putTreeVal_11 19 rfl rfl)
theorem dJ26_putTreeVal_280 : decode cJ26_putTreeVal 280 = .ok (.putfield 9, 3) := dk_181 0 9 (dk_at dksJ26_putTreeVal_12 0 rfl rfl)
theorem dJ26_putTreeVal_283 : decode cJ26_putTreeVal 283 = .ok (.aload 14, 2) := dk_25 14 (dk_at dksJ26_putTreeVal_12 3 rfl rfl)
theorem dJ26_putTreeVal_285 : decode cJ26_putTreeVal 285 = .ok (.ifnull 13, 3) := dk_198 0 13 (dk_at dksJ26_putTreeVal_12 5 rfl rfl)
theorem dJ26_putTreeVal_288 : decode cJ26_putTreeVal 288 = .ok (.aload 14, 2) := dk_25 14 (dk_at dksJ26_putTreeVal_12 8 rfl rfl)
theorem dJ26_putTreeVal_290 : decode cJ26_putTreeVal 290 = .ok (.checkcast 10, 3) := dk_192 0 10 (dk_at dksJ26_putTreeVal_12 10 rfl rfl)
theorem dJ26_putTreeVal_293 : decode cJ26_putTreeVal 293 = .ok (.aload 15, 2) := dk_25 15 (dk_at dksJ26_putTreeVal_12 13 rfl rfl)
theorem dJ26_putTreeVal_295 : decode cJ26_putTreeVal 295 = .ok (.putfield 19, 3) := dk_181 0 19 (dk_at dksJ26_putTreeVal_12 15 rfl rfl)
theorem dJ26_putTreeVal_298 : decode cJ26_putTreeVal 298 = .ok (.aload_n 2, 1) := dk_44 (dk_at dksJ26_putTreeVal_12 18 rfl rfl)
theorem dJ26_putTreeVal_299 : decode cJ26_putTreeVal 299 = .ok (.aload 8, 2) := dk_25 8 (dk_at dksJ26_putTreeVal_12 19 rfl rfl)
theorem dJ26_putTreeVal_301 : decode cJ26_putTreeVal 301 = .ok (.aload 15, 2) := dk_25 15 (dk_at dksJ26_putTreeVal_12 21 rfl rfl)
theorem dJ26_putTreeVal_303 : decode cJ26_putTreeVal 303 = .ok (.invokestatic 100, 3) := dk_184 0 100 (dk_at dksJ26_putTreeVal_13 0 rfl rfl)
theorem dJ26_putTreeVal_306 : decode cJ26_putTreeVal 306 = .ok (.invokestatic 104, 3) := dk_184 0 104 (dk_at dksJ26_putTreeVal_13 3 rfl rfl)
theorem dJ26_putTreeVal_309 : decode cJ26_putTreeVal 309 = .ok (.aconst_null, 1) := dk_1 (dk_at dksJ26_putTreeVal_13 6 rfl rfl)
theorem dJ26_putTreeVal_310 : decode cJ26_putTreeVal 310 = .ok (.areturn, 1) := dk_176 (dk_at dksJ26_putTreeVal_13 7 rfl rfl)
theorem dJ26_putTreeVal_311 : decode cJ26_putTreeVal 311 = .ok (.goto (-284), 3) := dk_167 254 228 (dk_at dksJ26_putTreeVal_13 8 rfl rfl)
abbrev cJ26_init : ByteArray := prog_62_method_1_code
def yJ26_init : MethodName := ⟨RJ26, "<init>", "(ILjava/lang/Object;Ljava/lang/Object;Ljava/util/HashMap$Node;)V"⟩
def dkwJ26_init_0 : List UInt8 := [42, 27, 44, 45, 25, 4, 183, 0, 3, 177]
abbrev dktJ26_init_0 : List UInt8 := dkwJ26_init_0 ++ []
theorem dksJ26_init_0 : cJ26_init.data.toList.drop 0 = dktJ26_init_0 := by decide +kernel
theorem dJ26_init_0 : decode cJ26_init 0 = .ok (.aload_n 0, 1) := dk_42 (dk_at dksJ26_init_0 0 rfl rfl)
theorem dJ26_init_1 : decode cJ26_init 1 = .ok (.iload_n 1, 1) := dk_27 (dk_at dksJ26_init_0 1 rfl rfl)
theorem dJ26_init_2 : decode cJ26_init 2 = .ok (.aload_n 2, 1) := dk_44 (dk_at dksJ26_init_0 2 rfl rfl)
theorem dJ26_init_3 : decode cJ26_init 3 = .ok (.aload_n 3, 1) := dk_45 (dk_at dksJ26_init_0 3 rfl rfl)
theorem dJ26_init_4 : decode cJ26_init 4 = .ok (.aload 4, 2) := dk_25 4 (dk_at dksJ26_init_0 4 rfl rfl)
theorem dJ26_init_6 : decode cJ26_init 6 = .ok (.invokespecial 3, 3) := dk_183 0 3 (dk_at dksJ26_init_0 6 rfl rfl)
theorem dJ26_init_9 : decode cJ26_init 9 = .ok (.return_, 1) := dk_177 (dk_at dksJ26_init_0 9 rfl rfl)
theorem q145 : (Jvm.Cond.initialized "java/util/HashMap$TreeNode") ∈ lw_all := lw_g (lw_at lw_m1 47 rfl) rfl
theorem q828 : (Jvm.Cond.selects "java/util/HashMap$TreeNode" ({ cls := "java/lang/Object", name := "getClass", desc := "()Ljava/lang/Class;" } : Jvm.MethodName) ({ cls := "java/lang/Object", name := "getClass", desc := "()Ljava/lang/Class;" } : Jvm.MethodName)) ∈ lw_all := lw_g (lw_at lw_m4 10 rfl) rfl
theorem q1962 : (Jvm.Cond.instanceMethod ({ cls := "java/util/HashMap$TreeNode", name := "getTreeNode", desc := "(ILjava/lang/Object;)Ljava/util/HashMap$TreeNode;" } : Jvm.MethodName)) ∈ lw_all := lw_g (lw_at lw_m8 184 rfl) rfl
theorem q1963 : (Jvm.Cond.selects "java/util/HashMap$TreeNode" ({ cls := "java/util/HashMap$TreeNode", name := "getTreeNode", desc := "(ILjava/lang/Object;)Ljava/util/HashMap$TreeNode;" } : Jvm.MethodName) ({ cls := "java/util/HashMap$TreeNode", name := "getTreeNode", desc := "(ILjava/lang/Object;)Ljava/util/HashMap$TreeNode;" } : Jvm.MethodName)) ∈ lw_all := lw_g (lw_at lw_m8 185 rfl) rfl
theorem q1964 : (Jvm.Cond.code ({ cls := "java/util/HashMap$TreeNode", name := "getTreeNode", desc := "(ILjava/lang/Object;)Ljava/util/HashMap$TreeNode;" } : Jvm.MethodName) prog_62_method_5_code (3 : Nat) (Option.some (Jvm.ClassFile.FieldType.object "java/util/HashMap$TreeNode"))) ∈ lw_all := lw_g (lw_at lw_m8 186 rfl) rfl
theorem q1965 : (Jvm.Cond.methodLink "java/util/HashMap$TreeNode" (67 : Nat) ({ cls := "java/util/HashMap$TreeNode", name := "root", desc := "()Ljava/util/HashMap$TreeNode;" } : Jvm.MethodName)) ∈ lw_all := lw_g (lw_at lw_m8 187 rfl) rfl
theorem q1966 : (Jvm.Cond.instanceMethod ({ cls := "java/util/HashMap$TreeNode", name := "root", desc := "()Ljava/util/HashMap$TreeNode;" } : Jvm.MethodName)) ∈ lw_all := lw_g (lw_at lw_m8 188 rfl) rfl
theorem q1967 : (Jvm.Cond.selects "java/util/HashMap$TreeNode" ({ cls := "java/util/HashMap$TreeNode", name := "root", desc := "()Ljava/util/HashMap$TreeNode;" } : Jvm.MethodName) ({ cls := "java/util/HashMap$TreeNode", name := "root", desc := "()Ljava/util/HashMap$TreeNode;" } : Jvm.MethodName)) ∈ lw_all := lw_g (lw_at lw_m8 189 rfl) rfl
theorem q1968 : (Jvm.Cond.code ({ cls := "java/util/HashMap$TreeNode", name := "root", desc := "()Ljava/util/HashMap$TreeNode;" } : Jvm.MethodName) prog_62_method_2_code (3 : Nat) (Option.some (Jvm.ClassFile.FieldType.object "java/util/HashMap$TreeNode"))) ∈ lw_all := lw_g (lw_at lw_m8 190 rfl) rfl
theorem q1969 : (Jvm.Cond.methodLink "java/util/HashMap$TreeNode" (63 : Nat) ({ cls := "java/util/HashMap$TreeNode", name := "find", desc := "(ILjava/lang/Object;Ljava/lang/Class;)Ljava/util/HashMap$TreeNode;" } : Jvm.MethodName)) ∈ lw_all := lw_g (lw_at lw_m8 191 rfl) rfl
theorem q1970 : (Jvm.Cond.instanceMethod ({ cls := "java/util/HashMap$TreeNode", name := "find", desc := "(ILjava/lang/Object;Ljava/lang/Class;)Ljava/util/HashMap$TreeNode;" } : Jvm.MethodName)) ∈ lw_all := lw_g (lw_at lw_m8 192 rfl) rfl
theorem q1971 : (Jvm.Cond.selects "java/util/HashMap$TreeNode" ({ cls := "java/util/HashMap$TreeNode", name := "find", desc := "(ILjava/lang/Object;Ljava/lang/Class;)Ljava/util/HashMap$TreeNode;" } : Jvm.MethodName) ({ cls := "java/util/HashMap$TreeNode", name := "find", desc := "(ILjava/lang/Object;Ljava/lang/Class;)Ljava/util/HashMap$TreeNode;" } : Jvm.MethodName)) ∈ lw_all := lw_g (lw_at lw_m8 193 rfl) rfl
theorem q1972 : (Jvm.Cond.code ({ cls := "java/util/HashMap$TreeNode", name := "find", desc := "(ILjava/lang/Object;Ljava/lang/Class;)Ljava/util/HashMap$TreeNode;" } : Jvm.MethodName) prog_62_method_4_code (11 : Nat) (Option.some (Jvm.ClassFile.FieldType.object "java/util/HashMap$TreeNode"))) ∈ lw_all := lw_g (lw_at lw_m8 194 rfl) rfl
theorem q1973 : (Jvm.Cond.methodLink "java/util/HashMap$TreeNode" (49 : Nat) ({ cls := "java/lang/Object", name := "equals", desc := "(Ljava/lang/Object;)Z" } : Jvm.MethodName)) ∈ lw_all := lw_g (lw_at lw_m8 195 rfl) rfl
theorem q1974 : (Jvm.Cond.methodLink "java/util/HashMap$TreeNode" (55 : Nat) ({ cls := "java/util/HashMap", name := "comparableClassFor", desc := "(Ljava/lang/Object;)Ljava/lang/Class;" } : Jvm.MethodName)) ∈ lw_all := lw_g (lw_at lw_m8 196 rfl) rfl
theorem q1980 : (Jvm.Cond.methodLink "java/util/HashMap$TreeNode" (59 : Nat) ({ cls := "java/util/HashMap", name := "compareComparables", desc := "(Ljava/lang/Class;Ljava/lang/Object;Ljava/lang/Object;)I" } : Jvm.MethodName)) ∈ lw_all := lw_g (lw_at lw_m8 202 rfl) rfl
theorem q2203 : (Jvm.Cond.instanceMethod ({ cls := "java/util/HashMap$TreeNode", name := "split", desc := "(Ljava/util/HashMap;[Ljava/util/HashMap$Node;II)V" } : Jvm.MethodName)) ∈ lw_all := lw_g (lw_at lw_m9 185 rfl) rfl
theorem q2204 : (Jvm.Cond.selects "java/util/HashMap$TreeNode" ({ cls := "java/util/HashMap$TreeNode", name := "split", desc := "(Ljava/util/HashMap;[Ljava/util/HashMap$Node;II)V" } : Jvm.MethodName) ({ cls := "java/util/HashMap$TreeNode", name := "split", desc := "(Ljava/util/HashMap;[Ljava/util/HashMap$Node;II)V" } : Jvm.MethodName)) ∈ lw_all := lw_g (lw_at lw_m9 186 rfl) rfl
theorem q2205 : (Jvm.Cond.code ({ cls := "java/util/HashMap$TreeNode", name := "split", desc := "(Ljava/util/HashMap;[Ljava/util/HashMap$Node;II)V" } : Jvm.MethodName) prog_62_method_11_code (14 : Nat) (Option.none : Option Jvm.ClassFile.FieldType)) ∈ lw_all := lw_g (lw_at lw_m9 187 rfl) rfl
theorem q2206 : (Jvm.Cond.classLink "java/util/HashMap$TreeNode" (10 : Nat) "java/util/HashMap$TreeNode") ∈ lw_all := lw_g (lw_at lw_m9 188 rfl) rfl
theorem q2207 : (Jvm.Cond.methodLink "java/util/HashMap$TreeNode" (119 : Nat) ({ cls := "java/util/HashMap$TreeNode", name := "untreeify", desc := "(Ljava/util/HashMap;)Ljava/util/HashMap$Node;" } : Jvm.MethodName)) ∈ lw_all := lw_g (lw_at lw_m9 189 rfl) rfl
theorem q2208 : (Jvm.Cond.instanceMethod ({ cls := "java/util/HashMap$TreeNode", name := "untreeify", desc := "(Ljava/util/HashMap;)Ljava/util/HashMap$Node;" } : Jvm.MethodName)) ∈ lw_all := lw_g (lw_at lw_m9 190 rfl) rfl
theorem q2209 : (Jvm.Cond.selects "java/util/HashMap$TreeNode" ({ cls := "java/util/HashMap$TreeNode", name := "untreeify", desc := "(Ljava/util/HashMap;)Ljava/util/HashMap$Node;" } : Jvm.MethodName) ({ cls := "java/util/HashMap$TreeNode", name := "untreeify", desc := "(Ljava/util/HashMap;)Ljava/util/HashMap$Node;" } : Jvm.MethodName)) ∈ lw_all := lw_g (lw_at lw_m9 191 rfl) rfl
theorem q2210 : (Jvm.Cond.code ({ cls := "java/util/HashMap$TreeNode", name := "untreeify", desc := "(Ljava/util/HashMap;)Ljava/util/HashMap$Node;" } : Jvm.MethodName) prog_62_method_8_code (6 : Nat) (Option.some (Jvm.ClassFile.FieldType.object "java/util/HashMap$Node"))) ∈ lw_all := lw_g (lw_at lw_m9 192 rfl) rfl
theorem q2211 : (Jvm.Cond.methodLink "java/util/HashMap$TreeNode" (108 : Nat) ({ cls := "java/util/HashMap", name := "replacementNode", desc := "(Ljava/util/HashMap$Node;Ljava/util/HashMap$Node;)Ljava/util/HashMap$Node;" } : Jvm.MethodName)) ∈ lw_all := lw_g (lw_at lw_m9 193 rfl) rfl
theorem q2230 : (Jvm.Cond.fieldLink "java/util/HashMap$TreeNode" (15 : Nat) "java/util/HashMap$TreeNode" "hash" "I") ∈ lw_all := lw_g (lw_at lw_m9 212 rfl) rfl
theorem q2231 : (Jvm.Cond.sameField "java/util/HashMap$TreeNode" "java/util/HashMap$Node" "hash" "I") ∈ lw_all := lw_g (lw_at lw_m9 213 rfl) rfl
theorem q2236 : (Jvm.Cond.fieldLink "java/util/HashMap$TreeNode" (45 : Nat) "java/util/HashMap$TreeNode" "key" "Ljava/lang/Object;") ∈ lw_all := lw_g (lw_at lw_m9 218 rfl) rfl
theorem q2237 : (Jvm.Cond.sameField "java/util/HashMap$TreeNode" "java/util/HashMap$Node" "key" "Ljava/lang/Object;") ∈ lw_all := lw_g (lw_at lw_m9 219 rfl) rfl
theorem q2247 : (Jvm.Cond.fieldLink "java/util/HashMap$TreeNode" (22 : Nat) "java/util/HashMap$TreeNode" "next" "Ljava/util/HashMap$Node;") ∈ lw_all := lw_g (lw_at lw_m9 229 rfl) rfl
theorem q2248 : (Jvm.Cond.sameField "java/util/HashMap$TreeNode" "java/util/HashMap$Node" "next" "Ljava/util/HashMap$Node;") ∈ lw_all := lw_g (lw_at lw_m9 230 rfl) rfl
theorem q2249 : (Jvm.Cond.fieldLink "java/util/HashMap$TreeNode" (112 : Nat) "java/util/HashMap$Node" "next" "Ljava/util/HashMap$Node;") ∈ lw_all := lw_g (lw_at lw_m9 231 rfl) rfl
theorem q2270 : (Jvm.Cond.methodLink "java/util/HashMap$TreeNode" (126 : Nat) ({ cls := "java/util/HashMap$TreeNode", name := "treeify", desc := "([Ljava/util/HashMap$Node;)V" } : Jvm.MethodName)) ∈ lw_all := lw_g (lw_at lw_m10 12 rfl) rfl
theorem q2271 : (Jvm.Cond.instanceMethod ({ cls := "java/util/HashMap$TreeNode", name := "treeify", desc := "([Ljava/util/HashMap$Node;)V" } : Jvm.MethodName)) ∈ lw_all := lw_g (lw_at lw_m10 13 rfl) rfl
theorem q2272 : (Jvm.Cond.selects "java/util/HashMap$TreeNode" ({ cls := "java/util/HashMap$TreeNode", name := "treeify", desc := "([Ljava/util/HashMap$Node;)V" } : Jvm.MethodName) ({ cls := "java/util/HashMap$TreeNode", name := "treeify", desc := "([Ljava/util/HashMap$Node;)V" } : Jvm.MethodName)) ∈ lw_all := lw_g (lw_at lw_m10 14 rfl) rfl
theorem q2273 : (Jvm.Cond.code ({ cls := "java/util/HashMap$TreeNode", name := "treeify", desc := "([Ljava/util/HashMap$Node;)V" } : Jvm.MethodName) prog_62_method_7_code (13 : Nat) (Option.none : Option Jvm.ClassFile.FieldType)) ∈ lw_all := lw_g (lw_at lw_m10 15 rfl) rfl
theorem q2274 : (Jvm.Cond.methodLink "java/util/HashMap$TreeNode" (100 : Nat) ({ cls := "java/util/HashMap$TreeNode", name := "balanceInsertion", desc := "(Ljava/util/HashMap$TreeNode;Ljava/util/HashMap$TreeNode;)Ljava/util/HashMap$TreeNode;" } : Jvm.MethodName)) ∈ lw_all := lw_g (lw_at lw_m10 16 rfl) rfl
theorem q2275 : (Jvm.Cond.static ({ cls := "java/util/HashMap$TreeNode", name := "balanceInsertion", desc := "(Ljava/util/HashMap$TreeNode;Ljava/util/HashMap$TreeNode;)Ljava/util/HashMap$TreeNode;" } : Jvm.MethodName)) ∈ lw_all := lw_g (lw_at lw_m10 17 rfl) rfl
theorem q2276 : (Jvm.Cond.code ({ cls := "java/util/HashMap$TreeNode", name := "balanceInsertion", desc := "(Ljava/util/HashMap$TreeNode;Ljava/util/HashMap$TreeNode;)Ljava/util/HashMap$TreeNode;" } : Jvm.MethodName) prog_62_method_14_code (6 : Nat) (Option.some (Jvm.ClassFile.FieldType.object "java/util/HashMap$TreeNode"))) ∈ lw_all := lw_g (lw_at lw_m10 18 rfl) rfl
theorem q2277 : (Jvm.Cond.methodLink "java/util/HashMap$TreeNode" (130 : Nat) ({ cls := "java/util/HashMap$TreeNode", name := "rotateLeft", desc := "(Ljava/util/HashMap$TreeNode;Ljava/util/HashMap$TreeNode;)Ljava/util/HashMap$TreeNode;" } : Jvm.MethodName)) ∈ lw_all := lw_g (lw_at lw_m10 19 rfl) rfl
theorem q2278 : (Jvm.Cond.static ({ cls := "java/util/HashMap$TreeNode", name := "rotateLeft", desc := "(Ljava/util/HashMap$TreeNode;Ljava/util/HashMap$TreeNode;)Ljava/util/HashMap$TreeNode;" } : Jvm.MethodName)) ∈ lw_all := lw_g (lw_at lw_m10 20 rfl) rfl
theorem q2279 : (Jvm.Cond.code ({ cls := "java/util/HashMap$TreeNode", name := "rotateLeft", desc := "(Ljava/util/HashMap$TreeNode;Ljava/util/HashMap$TreeNode;)Ljava/util/HashMap$TreeNode;" } : Jvm.MethodName) prog_62_method_12_code (5 : Nat) (Option.some (Jvm.ClassFile.FieldType.object "java/util/HashMap$TreeNode"))) ∈ lw_all := lw_g (lw_at lw_m10 21 rfl) rfl
theorem q2280 : (Jvm.Cond.methodLink "java/util/HashMap$TreeNode" (133 : Nat) ({ cls := "java/util/HashMap$TreeNode", name := "rotateRight", desc := "(Ljava/util/HashMap$TreeNode;Ljava/util/HashMap$TreeNode;)Ljava/util/HashMap$TreeNode;" } : Jvm.MethodName)) ∈ lw_all := lw_g (lw_at lw_m10 22 rfl) rfl
theorem q2281 : (Jvm.Cond.static ({ cls := "java/util/HashMap$TreeNode", name := "rotateRight", desc := "(Ljava/util/HashMap$TreeNode;Ljava/util/HashMap$TreeNode;)Ljava/util/HashMap$TreeNode;" } : Jvm.MethodName)) ∈ lw_all := lw_g (lw_at lw_m10 23 rfl) rfl
theorem q2282 : (Jvm.Cond.code ({ cls := "java/util/HashMap$TreeNode", name := "rotateRight", desc := "(Ljava/util/HashMap$TreeNode;Ljava/util/HashMap$TreeNode;)Ljava/util/HashMap$TreeNode;" } : Jvm.MethodName) prog_62_method_13_code (5 : Nat) (Option.some (Jvm.ClassFile.FieldType.object "java/util/HashMap$TreeNode"))) ∈ lw_all := lw_g (lw_at lw_m10 24 rfl) rfl
theorem q2283 : (Jvm.Cond.methodLink "java/util/HashMap$TreeNode" (104 : Nat) ({ cls := "java/util/HashMap$TreeNode", name := "moveRootToFront", desc := "([Ljava/util/HashMap$Node;Ljava/util/HashMap$TreeNode;)V" } : Jvm.MethodName)) ∈ lw_all := lw_g (lw_at lw_m10 25 rfl) rfl
theorem q2284 : (Jvm.Cond.static ({ cls := "java/util/HashMap$TreeNode", name := "moveRootToFront", desc := "([Ljava/util/HashMap$Node;Ljava/util/HashMap$TreeNode;)V" } : Jvm.MethodName)) ∈ lw_all := lw_g (lw_at lw_m10 26 rfl) rfl
theorem q2285 : (Jvm.Cond.code ({ cls := "java/util/HashMap$TreeNode", name := "moveRootToFront", desc := "([Ljava/util/HashMap$Node;Ljava/util/HashMap$TreeNode;)V" } : Jvm.MethodName) prog_62_method_3_code (7 : Nat) (Option.none : Option Jvm.ClassFile.FieldType)) ∈ lw_all := lw_g (lw_at lw_m10 27 rfl) rfl
theorem q2286 : (Jvm.Cond.fieldLink "java/util/HashMap$TreeNode" (26 : Nat) "java/util/HashMap$TreeNode" "$assertionsDisabled" "Z") ∈ lw_all := lw_g (lw_at lw_m10 28 rfl) rfl
theorem q2287 : (Jvm.Cond.laysStatic "java/util/HashMap$TreeNode" "$assertionsDisabled" "Z") ∈ lw_tbl := lw_at lw_m10 29 rfl
theorem q2300 : (Jvm.Cond.instanceMethod ({ cls := "java/util/HashMap$TreeNode", name := "putTreeVal", desc := "(Ljava/util/HashMap;[Ljava/util/HashMap$Node;ILjava/lang/Object;Ljava/lang/Object;)Ljava/util/HashMap$TreeNode;" } : Jvm.MethodName)) ∈ lw_all := lw_g (lw_at lw_m10 42 rfl) rfl
theorem q2301 : (Jvm.Cond.selects "java/util/HashMap$TreeNode" ({ cls := "java/util/HashMap$TreeNode", name := "putTreeVal", desc := "(Ljava/util/HashMap;[Ljava/util/HashMap$Node;ILjava/lang/Object;Ljava/lang/Object;)Ljava/util/HashMap$TreeNode;" } : Jvm.MethodName) ({ cls := "java/util/HashMap$TreeNode", name := "putTreeVal", desc := "(Ljava/util/HashMap;[Ljava/util/HashMap$Node;ILjava/lang/Object;Ljava/lang/Object;)Ljava/util/HashMap$TreeNode;" } : Jvm.MethodName)) ∈ lw_all := lw_g (lw_at lw_m10 43 rfl) rfl
theorem q2302 : (Jvm.Cond.code ({ cls := "java/util/HashMap$TreeNode", name := "putTreeVal", desc := "(Ljava/util/HashMap;[Ljava/util/HashMap$Node;ILjava/lang/Object;Ljava/lang/Object;)Ljava/util/HashMap$TreeNode;" } : Jvm.MethodName) prog_62_method_9_code (16 : Nat) (Option.some (Jvm.ClassFile.FieldType.object "java/util/HashMap$TreeNode"))) ∈ lw_all := lw_g (lw_at lw_m10 44 rfl) rfl
theorem q2303 : (Jvm.Cond.methodLink "java/util/HashMap$TreeNode" (115 : Nat) ({ cls := "java/util/HashMap", name := "newTreeNode", desc := "(ILjava/lang/Object;Ljava/lang/Object;Ljava/util/HashMap$Node;)Ljava/util/HashMap$TreeNode;" } : Jvm.MethodName)) ∈ lw_all := lw_g (lw_at lw_m10 45 rfl) rfl
theorem q2310 : (Jvm.Cond.instantiable "java/util/HashMap$TreeNode" (11 : Nat)) ∈ lw_all := lw_g (lw_at lw_m10 52 rfl) rfl
theorem q2312 : (Jvm.Cond.instanceMethod ({ cls := "java/util/HashMap$TreeNode", name := "<init>", desc := "(ILjava/lang/Object;Ljava/lang/Object;Ljava/util/HashMap$Node;)V" } : Jvm.MethodName)) ∈ lw_all := lw_g (lw_at lw_m10 54 rfl) rfl
theorem q2313 : (Jvm.Cond.code ({ cls := "java/util/HashMap$TreeNode", name := "<init>", desc := "(ILjava/lang/Object;Ljava/lang/Object;Ljava/util/HashMap$Node;)V" } : Jvm.MethodName) prog_62_method_1_code (5 : Nat) (Option.none : Option Jvm.ClassFile.FieldType)) ∈ lw_all := lw_g (lw_at lw_m10 55 rfl) rfl
theorem q2314 : (Jvm.Cond.methodLink "java/util/HashMap$TreeNode" (3 : Nat) ({ cls := "java/util/LinkedHashMap$Entry", name := "<init>", desc := "(ILjava/lang/Object;Ljava/lang/Object;Ljava/util/HashMap$Node;)V" } : Jvm.MethodName)) ∈ lw_all := lw_g (lw_at lw_m10 56 rfl) rfl
theorem q2315 : (Jvm.Cond.fieldLink "java/util/HashMap$TreeNode" (9 : Nat) "java/util/HashMap$TreeNode" "parent" "Ljava/util/HashMap$TreeNode;") ∈ lw_all := lw_g (lw_at lw_m10 57 rfl) rfl
theorem q2316 : (Jvm.Cond.fieldLink "java/util/HashMap$TreeNode" (39 : Nat) "java/util/HashMap$TreeNode" "left" "Ljava/util/HashMap$TreeNode;") ∈ lw_all := lw_g (lw_at lw_m10 58 rfl) rfl
theorem q2317 : (Jvm.Cond.fieldLink "java/util/HashMap$TreeNode" (42 : Nat) "java/util/HashMap$TreeNode" "right" "Ljava/util/HashMap$TreeNode;") ∈ lw_all := lw_g (lw_at lw_m10 59 rfl) rfl
theorem q2318 : (Jvm.Cond.fieldLink "java/util/HashMap$TreeNode" (19 : Nat) "java/util/HashMap$TreeNode" "prev" "Ljava/util/HashMap$TreeNode;") ∈ lw_all := lw_g (lw_at lw_m10 60 rfl) rfl
theorem q2320 : (Jvm.Cond.fieldLink "java/util/HashMap$TreeNode" (93 : Nat) "java/util/HashMap$TreeNode" "red" "Z") ∈ lw_all := lw_g (lw_at lw_m10 62 rfl) rfl
theorem q2321 : (Jvm.Cond.lays "java/util/HashMap$TreeNode" "java/util/HashMap$TreeNode" "parent" "Ljava/util/HashMap$TreeNode;") ∈ lw_all := lw_g (lw_at lw_m10 63 rfl) rfl
theorem q2322 : (Jvm.Cond.soleField "java/util/HashMap$TreeNode" "parent") ∈ lw_all := lw_g (lw_at lw_m10 64 rfl) rfl
theorem q2323 : (Jvm.Cond.lays "java/util/HashMap$TreeNode" "java/util/HashMap$TreeNode" "left" "Ljava/util/HashMap$TreeNode;") ∈ lw_all := lw_g (lw_at lw_m10 65 rfl) rfl
theorem q2324 : (Jvm.Cond.soleField "java/util/HashMap$TreeNode" "left") ∈ lw_all := lw_g (lw_at lw_m10 66 rfl) rfl
theorem q2325 : (Jvm.Cond.lays "java/util/HashMap$TreeNode" "java/util/HashMap$TreeNode" "right" "Ljava/util/HashMap$TreeNode;") ∈ lw_all := lw_g (lw_at lw_m10 67 rfl) rfl
theorem q2326 : (Jvm.Cond.soleField "java/util/HashMap$TreeNode" "right") ∈ lw_all := lw_g (lw_at lw_m10 68 rfl) rfl
theorem q2327 : (Jvm.Cond.lays "java/util/HashMap$TreeNode" "java/util/HashMap$TreeNode" "prev" "Ljava/util/HashMap$TreeNode;") ∈ lw_all := lw_g (lw_at lw_m10 69 rfl) rfl
theorem q2328 : (Jvm.Cond.soleField "java/util/HashMap$TreeNode" "prev") ∈ lw_all := lw_g (lw_at lw_m10 70 rfl) rfl
theorem q2329 : (Jvm.Cond.lays "java/util/HashMap$TreeNode" "java/util/HashMap$TreeNode" "red" "Z") ∈ lw_all := lw_g (lw_at lw_m10 71 rfl) rfl
theorem q2330 : (Jvm.Cond.soleField "java/util/HashMap$TreeNode" "red") ∈ lw_all := lw_g (lw_at lw_m10 72 rfl) rfl
theorem q2331 : (Jvm.Cond.lays "java/util/HashMap$TreeNode" "java/util/LinkedHashMap$Entry" "before" "Ljava/util/LinkedHashMap$Entry;") ∈ lw_all := lw_g (lw_at lw_m10 73 rfl) rfl
theorem q2332 : (Jvm.Cond.lays "java/util/HashMap$TreeNode" "java/util/LinkedHashMap$Entry" "after" "Ljava/util/LinkedHashMap$Entry;") ∈ lw_all := lw_g (lw_at lw_m10 74 rfl) rfl
theorem q2333 : (Jvm.Cond.laysFinal "java/util/HashMap$TreeNode" "java/util/HashMap$Node" "hash" "I") ∈ lw_all := lw_g (lw_at lw_m10 75 rfl) rfl
theorem q2334 : (Jvm.Cond.laysFinal "java/util/HashMap$TreeNode" "java/util/HashMap$Node" "key" "Ljava/lang/Object;") ∈ lw_all := lw_g (lw_at lw_m10 76 rfl) rfl
theorem q2335 : (Jvm.Cond.lays "java/util/HashMap$TreeNode" "java/util/HashMap$Node" "value" "Ljava/lang/Object;") ∈ lw_all := lw_g (lw_at lw_m10 77 rfl) rfl
theorem q2336 : (Jvm.Cond.lays "java/util/HashMap$TreeNode" "java/util/HashMap$Node" "next" "Ljava/util/HashMap$Node;") ∈ lw_all := lw_g (lw_at lw_m10 78 rfl) rfl
theorem q2337 : (Jvm.Cond.superclass "java/util/HashMap$TreeNode" "java/util/LinkedHashMap$Entry") ∈ lw_all := lw_g (lw_at lw_m10 79 rfl) rfl
theorem q2461 : (Jvm.Cond.castable "java/util/HashMap$TreeNode" "java/util/Map$Entry") ∈ lw_tbl := lw_at lw_m10 203 rfl
theorem q2462 : (Jvm.Cond.selects "java/util/HashMap$TreeNode" ({ cls := "java/util/Map$Entry", name := "getKey", desc := "()Ljava/lang/Object;" } : Jvm.MethodName) ({ cls := "java/util/HashMap$Node", name := "getKey", desc := "()Ljava/lang/Object;" } : Jvm.MethodName)) ∈ lw_all := lw_g (lw_at lw_m10 204 rfl) rfl
theorem q2463 : (Jvm.Cond.unhidden "java/util/HashMap$TreeNode" "getKey" "()Ljava/lang/Object;") ∈ lw_tbl := lw_at lw_m10 205 rfl
theorem q2476 : (Jvm.Cond.selects "java/util/HashMap$TreeNode" ({ cls := "java/util/Map$Entry", name := "getValue", desc := "()Ljava/lang/Object;" } : Jvm.MethodName) ({ cls := "java/util/HashMap$Node", name := "getValue", desc := "()Ljava/lang/Object;" } : Jvm.MethodName)) ∈ lw_all := lw_g (lw_at lw_m10 218 rfl) rfl
theorem q2477 : (Jvm.Cond.unhidden "java/util/HashMap$TreeNode" "getValue" "()Ljava/lang/Object;") ∈ lw_tbl := lw_at lw_m10 219 rfl
theorem q3384 : (Jvm.Cond.castable "java/util/HashMap$TreeNode" "java/util/LinkedHashMap$Entry") ∈ lw_tbl := lw_at lw_m14 166 rfl
theorem q3415 : (Jvm.Cond.castable "java/util/HashMap$TreeNode" "java/lang/Object") ∈ lw_tbl := lw_at lw_m14 197 rfl
theorem q3423 : (Jvm.Cond.castable "java/util/HashMap$TreeNode" "java/util/HashMap$Node") ∈ lw_tbl := lw_at lw_m14 205 rfl
theorem in_J26 : ∀ w ∈ wsJ260, w ∈ lw_all := lw_in wsJ260 [2333, 2334, 2335, 2336, 2331, 2332, 2321, 2323, 2325, 2327, 2329] (by decide +kernel) (by decide +kernel)
/-! java/util/AbstractSet -/
set_option maxRecDepth 100000
def RJ27 : String := "java/util/AbstractSet"
abbrev cJ27_init : ByteArray := prog_53_method_1_code
def yJ27_init : MethodName := ⟨RJ27, "<init>", "()V"⟩
theorem dJ27_init_0 : decode cJ27_init 0 = .ok (.aload_n 0, 1) := by decide +kernel
theorem dJ27_init_1 : decode cJ27_init 1 = .ok (.invokespecial 1, 3) := by decide +kernel
theorem dJ27_init_4 : decode cJ27_init 4 = .ok (.return_, 1) := by decide +kernel
theorem q146 : (Jvm.Cond.initialized "java/util/AbstractSet") ∈ lw_all := lw_g (lw_at lw_m1 48 rfl) rfl
theorem q2404 : (Jvm.Cond.instanceMethod ({ cls := "java/util/AbstractSet", name := "<init>", desc := "()V" } : Jvm.MethodName)) ∈ lw_all := lw_g (lw_at lw_m10 146 rfl) rfl
theorem q2405 : (Jvm.Cond.code ({ cls := "java/util/AbstractSet", name := "<init>", desc := "()V" } : Jvm.MethodName) prog_53_method_1_code (1 : Nat) (Option.none : Option Jvm.ClassFile.FieldType)) ∈ lw_all := lw_g (lw_at lw_m10 147 rfl) rfl
theorem q2406 : (Jvm.Cond.methodLink "java/util/AbstractSet" (1 : Nat) ({ cls := "java/util/AbstractCollection", name := "<init>", desc := "()V" } : Jvm.MethodName)) ∈ lw_all := lw_g (lw_at lw_m10 148 rfl) rfl
/-! java/util/LinkedHashMap$LinkedEntrySet -/
set_option maxRecDepth 100000
def RJ28 : String := "java/util/LinkedHashMap$LinkedEntrySet"
def TJ28 : u_T := fun k => match k with
  | 0 => ("java/util/LinkedHashMap$LinkedEntrySet", "reversed", "Z", true)
  | _ => ("java/util/LinkedHashMap$LinkedEntrySet", "this$0", "Ljava/util/LinkedHashMap;", true)
def tyJ28 : Nat → FieldType := fun k => match k with
  | 0 => .boolean
  | _ => .object "java/util/LinkedHashMap"
abbrev wsJ280 : List Cond := u_ws RJ28 TJ28 2
theorem nmJ28 : ∀ a, a < 2 → ∀ b, b < 2 → a ≠ b → (TJ28 a).2.1 ≠ (TJ28 b).2.1 := by decide +kernel
theorem tyJ28_ok : ∀ k, k < 2 → parseFieldDescriptor (TJ28 k).2.2.1 = some (tyJ28 k) := by decide +kernel
abbrev cJ28_init : ByteArray := prog_67_method_1_code
def yJ28_init : MethodName := ⟨RJ28, "<init>", "(Ljava/util/LinkedHashMap;Z)V"⟩
def dkwJ28_init_0 : List UInt8 := [42, 43, 181, 0, 1, 42, 183, 0, 7, 42, 28, 181, 0, 13, 177]
abbrev dktJ28_init_0 : List UInt8 := dkwJ28_init_0 ++ []
theorem dksJ28_init_0 : cJ28_init.data.toList.drop 0 = dktJ28_init_0 := by decide +kernel
theorem dJ28_init_0 : decode cJ28_init 0 = .ok (.aload_n 0, 1) := dk_42 (dk_at dksJ28_init_0 0 rfl rfl)
theorem dJ28_init_1 : decode cJ28_init 1 = .ok (.aload_n 1, 1) := dk_43 (dk_at dksJ28_init_0 1 rfl rfl)
theorem dJ28_init_2 : decode cJ28_init 2 = .ok (.putfield 1, 3) := dk_181 0 1 (dk_at dksJ28_init_0 2 rfl rfl)
theorem dJ28_init_5 : decode cJ28_init 5 = .ok (.aload_n 0, 1) := dk_42 (dk_at dksJ28_init_0 5 rfl rfl)
theorem dJ28_init_6 : decode cJ28_init 6 = .ok (.invokespecial 7, 3) := dk_183 0 7 (dk_at dksJ28_init_0 6 rfl rfl)
theorem dJ28_init_9 : decode cJ28_init 9 = .ok (.aload_n 0, 1) := dk_42 (dk_at dksJ28_init_0 9 rfl rfl)
theorem dJ28_init_10 : decode cJ28_init 10 = .ok (.iload_n 2, 1) := dk_28 (dk_at dksJ28_init_0 10 rfl rfl)
theorem dJ28_init_11 : decode cJ28_init 11 = .ok (.putfield 13, 3) := dk_181 0 13 (dk_at dksJ28_init_0 11 rfl rfl)
theorem dJ28_init_14 : decode cJ28_init 14 = .ok (.return_, 1) := dk_177 (dk_at dksJ28_init_0 14 rfl rfl)
abbrev cJ28_iterator : ByteArray := prog_67_method_4_code
def yJ28_iterator : MethodName := ⟨RJ28, "iterator", "()Ljava/util/Iterator;"⟩
def dkwJ28_iterator_0 : List UInt8 := [187, 0, 26, 89, 42, 180, 0, 1, 42, 180, 0, 13, 183, 0, 28, 176]
abbrev dktJ28_iterator_0 : List UInt8 := dkwJ28_iterator_0 ++ []
theorem dksJ28_iterator_0 : cJ28_iterator.data.toList.drop 0 = dktJ28_iterator_0 := by decide +kernel
theorem dJ28_iterator_0 : decode cJ28_iterator 0 = .ok (.new 26, 3) := dk_187 0 26 (dk_at dksJ28_iterator_0 0 rfl rfl)
theorem dJ28_iterator_3 : decode cJ28_iterator 3 = .ok (.dup, 1) := dk_89 (dk_at dksJ28_iterator_0 3 rfl rfl)
theorem dJ28_iterator_4 : decode cJ28_iterator 4 = .ok (.aload_n 0, 1) := dk_42 (dk_at dksJ28_iterator_0 4 rfl rfl)
theorem dJ28_iterator_5 : decode cJ28_iterator 5 = .ok (.getfield 1, 3) := dk_180 0 1 (dk_at dksJ28_iterator_0 5 rfl rfl)
theorem dJ28_iterator_8 : decode cJ28_iterator 8 = .ok (.aload_n 0, 1) := dk_42 (dk_at dksJ28_iterator_0 8 rfl rfl)
theorem dJ28_iterator_9 : decode cJ28_iterator 9 = .ok (.getfield 13, 3) := dk_180 0 13 (dk_at dksJ28_iterator_0 9 rfl rfl)
theorem dJ28_iterator_12 : decode cJ28_iterator 12 = .ok (.invokespecial 28, 3) := dk_183 0 28 (dk_at dksJ28_iterator_0 12 rfl rfl)
theorem dJ28_iterator_15 : decode cJ28_iterator 15 = .ok (.areturn, 1) := dk_176 (dk_at dksJ28_iterator_0 15 rfl rfl)
theorem q147 : (Jvm.Cond.initialized "java/util/LinkedHashMap$LinkedEntrySet") ∈ lw_all := lw_g (lw_at lw_m1 49 rfl) rfl
theorem q832 : (Jvm.Cond.selects "java/util/LinkedHashMap$LinkedEntrySet" ({ cls := "java/lang/Object", name := "getClass", desc := "()Ljava/lang/Class;" } : Jvm.MethodName) ({ cls := "java/lang/Object", name := "getClass", desc := "()Ljava/lang/Class;" } : Jvm.MethodName)) ∈ lw_all := lw_g (lw_at lw_m4 14 rfl) rfl
theorem q2399 : (Jvm.Cond.instantiable "java/util/LinkedHashMap$LinkedEntrySet" (2 : Nat)) ∈ lw_all := lw_g (lw_at lw_m10 141 rfl) rfl
theorem q2401 : (Jvm.Cond.instanceMethod ({ cls := "java/util/LinkedHashMap$LinkedEntrySet", name := "<init>", desc := "(Ljava/util/LinkedHashMap;Z)V" } : Jvm.MethodName)) ∈ lw_all := lw_g (lw_at lw_m10 143 rfl) rfl
theorem q2402 : (Jvm.Cond.code ({ cls := "java/util/LinkedHashMap$LinkedEntrySet", name := "<init>", desc := "(Ljava/util/LinkedHashMap;Z)V" } : Jvm.MethodName) prog_67_method_1_code (3 : Nat) (Option.none : Option Jvm.ClassFile.FieldType)) ∈ lw_all := lw_g (lw_at lw_m10 144 rfl) rfl
theorem q2403 : (Jvm.Cond.methodLink "java/util/LinkedHashMap$LinkedEntrySet" (7 : Nat) ({ cls := "java/util/AbstractSet", name := "<init>", desc := "()V" } : Jvm.MethodName)) ∈ lw_all := lw_g (lw_at lw_m10 145 rfl) rfl
theorem q2407 : (Jvm.Cond.fieldLink "java/util/LinkedHashMap$LinkedEntrySet" (13 : Nat) "java/util/LinkedHashMap$LinkedEntrySet" "reversed" "Z") ∈ lw_all := lw_g (lw_at lw_m10 149 rfl) rfl
theorem q2408 : (Jvm.Cond.fieldLink "java/util/LinkedHashMap$LinkedEntrySet" (1 : Nat) "java/util/LinkedHashMap$LinkedEntrySet" "this$0" "Ljava/util/LinkedHashMap;") ∈ lw_all := lw_g (lw_at lw_m10 150 rfl) rfl
theorem q2409 : (Jvm.Cond.laysFinal "java/util/LinkedHashMap$LinkedEntrySet" "java/util/LinkedHashMap$LinkedEntrySet" "reversed" "Z") ∈ lw_all := lw_g (lw_at lw_m10 151 rfl) rfl
theorem q2410 : (Jvm.Cond.soleField "java/util/LinkedHashMap$LinkedEntrySet" "reversed") ∈ lw_all := lw_g (lw_at lw_m10 152 rfl) rfl
theorem q2411 : (Jvm.Cond.laysFinal "java/util/LinkedHashMap$LinkedEntrySet" "java/util/LinkedHashMap$LinkedEntrySet" "this$0" "Ljava/util/LinkedHashMap;") ∈ lw_all := lw_g (lw_at lw_m10 153 rfl) rfl
theorem q2412 : (Jvm.Cond.soleField "java/util/LinkedHashMap$LinkedEntrySet" "this$0") ∈ lw_all := lw_g (lw_at lw_m10 154 rfl) rfl
theorem q2413 : (Jvm.Cond.superclass "java/util/LinkedHashMap$LinkedEntrySet" "java/util/AbstractSet") ∈ lw_all := lw_g (lw_at lw_m10 155 rfl) rfl
theorem q2419 : (Jvm.Cond.castable "java/util/LinkedHashMap$LinkedEntrySet" "java/util/Set") ∈ lw_tbl := lw_at lw_m10 161 rfl
theorem q2420 : (Jvm.Cond.selects "java/util/LinkedHashMap$LinkedEntrySet" ({ cls := "java/util/Set", name := "iterator", desc := "()Ljava/util/Iterator;" } : Jvm.MethodName) ({ cls := "java/util/LinkedHashMap$LinkedEntrySet", name := "iterator", desc := "()Ljava/util/Iterator;" } : Jvm.MethodName)) ∈ lw_all := lw_g (lw_at lw_m10 162 rfl) rfl
theorem q2421 : (Jvm.Cond.unhidden "java/util/LinkedHashMap$LinkedEntrySet" "iterator" "()Ljava/util/Iterator;") ∈ lw_tbl := lw_at lw_m10 163 rfl
theorem q2422 : (Jvm.Cond.instanceMethod ({ cls := "java/util/LinkedHashMap$LinkedEntrySet", name := "iterator", desc := "()Ljava/util/Iterator;" } : Jvm.MethodName)) ∈ lw_all := lw_g (lw_at lw_m10 164 rfl) rfl
theorem q2423 : (Jvm.Cond.publicMethod ({ cls := "java/util/LinkedHashMap$LinkedEntrySet", name := "iterator", desc := "()Ljava/util/Iterator;" } : Jvm.MethodName)) ∈ lw_tbl := lw_at lw_m10 165 rfl
theorem q2424 : (Jvm.Cond.code ({ cls := "java/util/LinkedHashMap$LinkedEntrySet", name := "iterator", desc := "()Ljava/util/Iterator;" } : Jvm.MethodName) prog_67_method_4_code (1 : Nat) (Option.some (Jvm.ClassFile.FieldType.object "java/util/Iterator"))) ∈ lw_all := lw_g (lw_at lw_m10 166 rfl) rfl
theorem q2425 : (Jvm.Cond.classLink "java/util/LinkedHashMap$LinkedEntrySet" (26 : Nat) "java/util/LinkedHashMap$LinkedEntryIterator") ∈ lw_all := lw_g (lw_at lw_m10 167 rfl) rfl
theorem q2427 : (Jvm.Cond.methodLink "java/util/LinkedHashMap$LinkedEntrySet" (28 : Nat) ({ cls := "java/util/LinkedHashMap$LinkedEntryIterator", name := "<init>", desc := "(Ljava/util/LinkedHashMap;Z)V" } : Jvm.MethodName)) ∈ lw_all := lw_g (lw_at lw_m10 169 rfl) rfl
theorem q3379 : (Jvm.Cond.castable "java/util/LinkedHashMap$LinkedEntrySet" "java/util/SequencedSet") ∈ lw_tbl := lw_at lw_m14 161 rfl
theorem q3416 : (Jvm.Cond.castable "java/util/LinkedHashMap$LinkedEntrySet" "java/lang/Object") ∈ lw_tbl := lw_at lw_m14 198 rfl
theorem in_J28 : ∀ w ∈ wsJ280, w ∈ lw_all := lw_in wsJ280 [2409, 2411] (by decide +kernel) (by decide +kernel)
/-! java/util/LinkedHashMap$LinkedHashIterator -/
set_option maxRecDepth 100000
def RJ29 : String := "java/util/LinkedHashMap$LinkedHashIterator"
abbrev cJ29_hasNext : ByteArray := prog_68_method_2_code
def yJ29_hasNext : MethodName := ⟨RJ29, "hasNext", "()Z"⟩
def dkwJ29_hasNext_0 : List UInt8 := [42, 180, 0, 26, 198, 0, 7, 4, 167, 0, 4, 3, 172]
abbrev dktJ29_hasNext_0 : List UInt8 := dkwJ29_hasNext_0 ++ []
theorem dksJ29_hasNext_0 : cJ29_hasNext.data.toList.drop 0 = dktJ29_hasNext_0 := by decide +kernel
theorem dJ29_hasNext_0 : decode cJ29_hasNext 0 = .ok (.aload_n 0, 1) := dk_42 (dk_at dksJ29_hasNext_0 0 rfl rfl)
theorem dJ29_hasNext_1 : decode cJ29_hasNext 1 = .ok (.getfield 26, 3) := dk_180 0 26 (dk_at dksJ29_hasNext_0 1 rfl rfl)
theorem dJ29_hasNext_4 : decode cJ29_hasNext 4 = .ok (.ifnull 7, 3) := dk_198 0 7 (dk_at dksJ29_hasNext_0 4 rfl rfl)
theorem dJ29_hasNext_7 : decode cJ29_hasNext 7 = .ok (.iconst 1, 1) := dk_4 (dk_at dksJ29_hasNext_0 7 rfl rfl)
theorem dJ29_hasNext_8 : decode cJ29_hasNext 8 = .ok (.goto 4, 3) := dk_167 0 4 (dk_at dksJ29_hasNext_0 8 rfl rfl)
theorem dJ29_hasNext_11 : decode cJ29_hasNext 11 = .ok (.iconst 0, 1) := dk_3 (dk_at dksJ29_hasNext_0 11 rfl rfl)
theorem dJ29_hasNext_12 : decode cJ29_hasNext 12 = .ok (.ireturn, 1) := dk_172 (dk_at dksJ29_hasNext_0 12 rfl rfl)
abbrev cJ29_nextNode : ByteArray := prog_68_method_3_code
def yJ29_nextNode : MethodName := ⟨RJ29, "nextNode", "()Ljava/util/LinkedHashMap$Entry;"⟩
def dkwJ29_nextNode_2 : List UInt8 := [180, 0, 13, 153, 0, 10, 43, 180, 0, 45, 167, 0, 7, 43, 180, 0, 50, 181, 0, 26, 43, 176]
abbrev dktJ29_nextNode_2 : List UInt8 := dkwJ29_nextNode_2 ++ []
def dkwJ29_nextNode_1 : List UInt8 := [183, 0, 41, 191, 43, 199, 0, 11, 187, 0, 42, 89, 183, 0, 44, 191, 42, 43, 181, 0, 36, 42, 42]
abbrev dktJ29_nextNode_1 : List UInt8 := dkwJ29_nextNode_1 ++ dktJ29_nextNode_2
def dkwJ29_nextNode_0 : List UInt8 := [42, 180, 0, 26, 76, 42, 180, 0, 1, 180, 0, 29, 42, 180, 0, 33, 159, 0, 11, 187, 0, 39, 89]
abbrev dktJ29_nextNode_0 : List UInt8 := dkwJ29_nextNode_0 ++ dktJ29_nextNode_1
theorem dksJ29_nextNode_0 : cJ29_nextNode.data.toList.drop 0 = dktJ29_nextNode_0 := by decide +kernel
theorem dksJ29_nextNode_1 : cJ29_nextNode.data.toList.drop 23 = dktJ29_nextNode_1 := dk_seg dksJ29_nextNode_0 23 rfl rfl
theorem dksJ29_nextNode_2 : cJ29_nextNode.data.toList.drop 46 = dktJ29_nextNode_2 := dk_seg dksJ29_nextNode_1 23 rfl rfl
theorem dJ29_nextNode_0 : decode cJ29_nextNode 0 = .ok (.aload_n 0, 1) := dk_42 (dk_at dksJ29_nextNode_0 0 rfl rfl)
theorem dJ29_nextNode_1 : decode cJ29_nextNode 1 = .ok (.getfield 26, 3) := dk_180 0 26 (dk_at dksJ29_nextNode_0 1 rfl rfl)
theorem dJ29_nextNode_4 : decode cJ29_nextNode 4 = .ok (.astore_n 1, 1) := dk_76 (dk_at dksJ29_nextNode_0 4 rfl rfl)
theorem dJ29_nextNode_5 : decode cJ29_nextNode 5 = .ok (.aload_n 0, 1) := dk_42 (dk_at dksJ29_nextNode_0 5 rfl rfl)
theorem dJ29_nextNode_6 : decode cJ29_nextNode 6 = .ok (.getfield 1, 3) := dk_180 0 1 (dk_at dksJ29_nextNode_0 6 rfl rfl)
theorem dJ29_nextNode_9 : decode cJ29_nextNode 9 = .ok (.getfield 29, 3) := dk_180 0 29 (dk_at dksJ29_nextNode_0 9 rfl rfl)
theorem dJ29_nextNode_12 : decode cJ29_nextNode 12 = .ok (.aload_n 0, 1) := dk_42 (dk_at dksJ29_nextNode_0 12 rfl rfl)
theorem dJ29_nextNode_13 : decode cJ29_nextNode 13 = .ok (.getfield 33, 3) := dk_180 0 33 (dk_at dksJ29_nextNode_0 13 rfl rfl)
theorem dJ29_nextNode_16 : decode cJ29_nextNode 16 = .ok (.if_icmp .eq 11, 3) := dk_159 0 11 (dk_at dksJ29_nextNode_0 16 rfl rfl)
theorem dJ29_nextNode_19 : decode cJ29_nextNode 19 = .ok (.new 39, 3) := dk_187 0 39 (dk_at dksJ29_nextNode_0 19 rfl rfl)
theorem dJ29_nextNode_22 : decode cJ29_nextNode 22 = .ok (.dup, 1) := dk_89 (dk_at dksJ29_nextNode_0 22 rfl rfl)
theorem dJ29_nextNode_23 : decode cJ29_nextNode 23 = .ok (.invokespecial 41, 3) := dk_183 0 41 (dk_at dksJ29_nextNode_1 0 rfl rfl)
theorem dJ29_nextNode_26 : decode cJ29_nextNode 26 = .ok (.athrow, 1) := dk_191 (dk_at dksJ29_nextNode_1 3 rfl rfl)
theorem dJ29_nextNode_27 : decode cJ29_nextNode 27 = .ok (.aload_n 1, 1) := dk_43 (dk_at dksJ29_nextNode_1 4 rfl rfl)
theorem dJ29_nextNode_28 : decode cJ29_nextNode 28 = .ok (.ifnonnull 11, 3) := dk_199 0 11 (dk_at dksJ29_nextNode_1 5 rfl rfl)
theorem dJ29_nextNode_31 : decode cJ29_nextNode 31 = .ok (.new 42, 3) := dk_187 0 42 (dk_at dksJ29_nextNode_1 8 rfl rfl)
theorem dJ29_nextNode_34 : decode cJ29_nextNode 34 = .ok (.dup, 1) := dk_89 (dk_at dksJ29_nextNode_1 11 rfl rfl)
theorem dJ29_nextNode_35 : decode cJ29_nextNode 35 = .ok (.invokespecial 44, 3) := dk_183 0 44 (dk_at dksJ29_nextNode_1 12 rfl rfl)
theorem dJ29_nextNode_38 : decode cJ29_nextNode 38 = .ok (.athrow, 1) := dk_191 (dk_at dksJ29_nextNode_1 15 rfl rfl)
theorem dJ29_nextNode_39 : decode cJ29_nextNode 39 = .ok (.aload_n 0, 1) := dk_42 (dk_at dksJ29_nextNode_1 16 rfl rfl)
theorem dJ29_nextNode_40 : decode cJ29_nextNode 40 = .ok (.aload_n 1, 1) := dk_43 (dk_at dksJ29_nextNode_1 17 rfl rfl)
theorem dJ29_nextNode_41 : decode cJ29_nextNode 41 = .ok (.putfield 36, 3) := dk_181 0 36 (dk_at dksJ29_nextNode_1 18 rfl rfl)
theorem dJ29_nextNode_44 : decode cJ29_nextNode 44 = .ok (.aload_n 0, 1) := dk_42 (dk_at dksJ29_nextNode_1 21 rfl rfl)
theorem dJ29_nextNode_45 : decode cJ29_nextNode 45 = .ok (.aload_n 0, 1) := dk_42 (dk_at dksJ29_nextNode_1 22 rfl rfl)
theorem dJ29_nextNode_46 : decode cJ29_nextNode 46 = .ok (.getfield 13, 3) := dk_180 0 13 (dk_at dksJ29_nextNode_2 0 rfl rfl)
theorem dJ29_nextNode_49 : decode cJ29_nextNode 49 = .ok (.ifCond .eq 10, 3) := dk_153 0 10 (dk_at dksJ29_nextNode_2 3 rfl rfl)
theorem dJ29_nextNode_52 : decode cJ29_nextNode 52 = .ok (.aload_n 1, 1) := dk_43 (dk_at dksJ29_nextNode_2 6 rfl rfl)
theorem dJ29_nextNode_53 : decode cJ29_nextNode 53 = .ok (.getfield 45, 3) := dk_180 0 45 (dk_at dksJ29_nextNode_2 7 rfl rfl)
theorem dJ29_nextNode_56 : decode cJ29_nextNode 56 = .ok (.goto 7, 3) := dk_167 0 7 (dk_at dksJ29_nextNode_2 10 rfl rfl)
theorem dJ29_nextNode_59 : decode cJ29_nextNode 59 = .ok (.aload_n 1, 1) := dk_43 (dk_at dksJ29_nextNode_2 13 rfl rfl)
theorem dJ29_nextNode_60 : decode cJ29_nextNode 60 = .ok (.getfield 50, 3) := dk_180 0 50 (dk_at dksJ29_nextNode_2 14 rfl rfl)
theorem dJ29_nextNode_63 : decode cJ29_nextNode 63 = .ok (.putfield 26, 3) := dk_181 0 26 (dk_at dksJ29_nextNode_2 17 rfl rfl)
theorem dJ29_nextNode_66 : decode cJ29_nextNode 66 = .ok (.aload_n 1, 1) := dk_43 (dk_at dksJ29_nextNode_2 20 rfl rfl)
theorem dJ29_nextNode_67 : decode cJ29_nextNode 67 = .ok (.areturn, 1) := dk_176 (dk_at dksJ29_nextNode_2 21 rfl rfl)
abbrev cJ29_init : ByteArray := prog_68_method_1_code
def yJ29_init : MethodName := ⟨RJ29, "<init>", "(Ljava/util/LinkedHashMap;Z)V"⟩
def dkwJ29_init_1 : List UInt8 := [167, 0, 7, 43, 180, 0, 23, 181, 0, 26, 42, 43, 180, 0, 29, 181, 0, 33, 42, 1, 181, 0, 36, 177]
abbrev dktJ29_init_1 : List UInt8 := dkwJ29_init_1 ++ []
def dkwJ29_init_0 : List UInt8 := [42, 43, 181, 0, 1, 42, 183, 0, 7, 42, 28, 181, 0, 13, 42, 28, 153, 0, 10, 43, 180, 0, 17]
abbrev dktJ29_init_0 : List UInt8 := dkwJ29_init_0 ++ dktJ29_init_1
theorem dksJ29_init_0 : cJ29_init.data.toList.drop 0 = dktJ29_init_0 := by decide +kernel
theorem dksJ29_init_1 : cJ29_init.data.toList.drop 23 = dktJ29_init_1 := dk_seg dksJ29_init_0 23 rfl rfl
theorem dJ29_init_0 : decode cJ29_init 0 = .ok (.aload_n 0, 1) := dk_42 (dk_at dksJ29_init_0 0 rfl rfl)
theorem dJ29_init_1 : decode cJ29_init 1 = .ok (.aload_n 1, 1) := dk_43 (dk_at dksJ29_init_0 1 rfl rfl)
theorem dJ29_init_2 : decode cJ29_init 2 = .ok (.putfield 1, 3) := dk_181 0 1 (dk_at dksJ29_init_0 2 rfl rfl)
theorem dJ29_init_5 : decode cJ29_init 5 = .ok (.aload_n 0, 1) := dk_42 (dk_at dksJ29_init_0 5 rfl rfl)
theorem dJ29_init_6 : decode cJ29_init 6 = .ok (.invokespecial 7, 3) := dk_183 0 7 (dk_at dksJ29_init_0 6 rfl rfl)
theorem dJ29_init_9 : decode cJ29_init 9 = .ok (.aload_n 0, 1) := dk_42 (dk_at dksJ29_init_0 9 rfl rfl)
theorem dJ29_init_10 : decode cJ29_init 10 = .ok (.iload_n 2, 1) := dk_28 (dk_at dksJ29_init_0 10 rfl rfl)
theorem dJ29_init_11 : decode cJ29_init 11 = .ok (.putfield 13, 3) := dk_181 0 13 (dk_at dksJ29_init_0 11 rfl rfl)
theorem dJ29_init_14 : decode cJ29_init 14 = .ok (.aload_n 0, 1) := dk_42 (dk_at dksJ29_init_0 14 rfl rfl)
theorem dJ29_init_15 : decode cJ29_init 15 = .ok (.iload_n 2, 1) := dk_28 (dk_at dksJ29_init_0 15 rfl rfl)
theorem dJ29_init_16 : decode cJ29_init 16 = .ok (.ifCond .eq 10, 3) := dk_153 0 10 (dk_at dksJ29_init_0 16 rfl rfl)
theorem dJ29_init_19 : decode cJ29_init 19 = .ok (.aload_n 1, 1) := dk_43 (dk_at dksJ29_init_0 19 rfl rfl)
theorem dJ29_init_20 : decode cJ29_init 20 = .ok (.getfield 17, 3) := dk_180 0 17 (dk_at dksJ29_init_0 20 rfl rfl)
theorem dJ29_init_23 : decode cJ29_init 23 = .ok (.goto 7, 3) := dk_167 0 7 (dk_at dksJ29_init_1 0 rfl rfl)
theorem dJ29_init_26 : decode cJ29_init 26 = .ok (.aload_n 1, 1) := dk_43 (dk_at dksJ29_init_1 3 rfl rfl)
theorem dJ29_init_27 : decode cJ29_init 27 = .ok (.getfield 23, 3) := dk_180 0 23 (dk_at dksJ29_init_1 4 rfl rfl)
theorem dJ29_init_30 : decode cJ29_init 30 = .ok (.putfield 26, 3) := dk_181 0 26 (dk_at dksJ29_init_1 7 rfl rfl)
theorem dJ29_init_33 : decode cJ29_init 33 = .ok (.aload_n 0, 1) := dk_42 (dk_at dksJ29_init_1 10 rfl rfl)
theorem dJ29_init_34 : decode cJ29_init 34 = .ok (.aload_n 1, 1) := dk_43 (dk_at dksJ29_init_1 11 rfl rfl)
theorem dJ29_init_35 : decode cJ29_init 35 = .ok (.getfield 29, 3) := dk_180 0 29 (dk_at dksJ29_init_1 12 rfl rfl)
theorem dJ29_init_38 : decode cJ29_init 38 = .ok (.putfield 33, 3) := dk_181 0 33 (dk_at dksJ29_init_1 15 rfl rfl)
theorem dJ29_init_41 : decode cJ29_init 41 = .ok (.aload_n 0, 1) := dk_42 (dk_at dksJ29_init_1 18 rfl rfl)
theorem dJ29_init_42 : decode cJ29_init 42 = .ok (.aconst_null, 1) := dk_1 (dk_at dksJ29_init_1 19 rfl rfl)
theorem dJ29_init_43 : decode cJ29_init 43 = .ok (.putfield 36, 3) := dk_181 0 36 (dk_at dksJ29_init_1 20 rfl rfl)
theorem dJ29_init_46 : decode cJ29_init 46 = .ok (.return_, 1) := dk_177 (dk_at dksJ29_init_1 23 rfl rfl)
theorem q148 : (Jvm.Cond.initialized "java/util/LinkedHashMap$LinkedHashIterator") ∈ lw_all := lw_g (lw_at lw_m1 50 rfl) rfl
theorem q734 : (Jvm.Cond.instanceMethod ({ cls := "java/util/LinkedHashMap$LinkedHashIterator", name := "hasNext", desc := "()Z" } : Jvm.MethodName)) ∈ lw_all := lw_g (lw_at lw_m3 156 rfl) rfl
theorem q735 : (Jvm.Cond.publicMethod ({ cls := "java/util/LinkedHashMap$LinkedHashIterator", name := "hasNext", desc := "()Z" } : Jvm.MethodName)) ∈ lw_tbl := lw_at lw_m3 157 rfl
theorem q736 : (Jvm.Cond.code ({ cls := "java/util/LinkedHashMap$LinkedHashIterator", name := "hasNext", desc := "()Z" } : Jvm.MethodName) prog_68_method_2_code (1 : Nat) (Option.some Jvm.ClassFile.FieldType.boolean)) ∈ lw_all := lw_g (lw_at lw_m3 158 rfl) rfl
theorem q775 : (Jvm.Cond.declares ({ cls := "java/util/LinkedHashMap$LinkedHashIterator", name := "nextNode", desc := "()Ljava/util/LinkedHashMap$Entry;" } : Jvm.MethodName)) ∈ lw_tbl := lw_at lw_m3 197 rfl
theorem q777 : (Jvm.Cond.instanceMethod ({ cls := "java/util/LinkedHashMap$LinkedHashIterator", name := "nextNode", desc := "()Ljava/util/LinkedHashMap$Entry;" } : Jvm.MethodName)) ∈ lw_all := lw_g (lw_at lw_m3 199 rfl) rfl
theorem q778 : (Jvm.Cond.code ({ cls := "java/util/LinkedHashMap$LinkedHashIterator", name := "nextNode", desc := "()Ljava/util/LinkedHashMap$Entry;" } : Jvm.MethodName) prog_68_method_3_code (2 : Nat) (Option.some (Jvm.ClassFile.FieldType.object "java/util/LinkedHashMap$Entry"))) ∈ lw_all := lw_g (lw_at lw_m3 200 rfl) rfl
theorem q779 : (Jvm.Cond.classLink "java/util/LinkedHashMap$LinkedHashIterator" (42 : Nat) "java/util/NoSuchElementException") ∈ lw_all := lw_g (lw_at lw_m3 201 rfl) rfl
theorem q780 : (Jvm.Cond.methodLink "java/util/LinkedHashMap$LinkedHashIterator" (44 : Nat) ({ cls := "java/util/NoSuchElementException", name := "<init>", desc := "()V" } : Jvm.MethodName)) ∈ lw_all := lw_g (lw_at lw_m3 202 rfl) rfl
theorem q1765 : (Jvm.Cond.fieldLink "java/util/LinkedHashMap$LinkedHashIterator" (23 : Nat) "java/util/LinkedHashMap" "head" "Ljava/util/LinkedHashMap$Entry;") ∈ lw_all := lw_g (lw_at lw_m7 227 rfl) rfl
theorem q1766 : (Jvm.Cond.fieldLink "java/util/LinkedHashMap$LinkedHashIterator" (17 : Nat) "java/util/LinkedHashMap" "tail" "Ljava/util/LinkedHashMap$Entry;") ∈ lw_all := lw_g (lw_at lw_m7 228 rfl) rfl
theorem q1774 : (Jvm.Cond.fieldLink "java/util/LinkedHashMap$LinkedHashIterator" (29 : Nat) "java/util/LinkedHashMap" "modCount" "I") ∈ lw_all := lw_g (lw_at lw_m7 236 rfl) rfl
theorem q2226 : (Jvm.Cond.fieldLink "java/util/LinkedHashMap$LinkedHashIterator" (45 : Nat) "java/util/LinkedHashMap$Entry" "before" "Ljava/util/LinkedHashMap$Entry;") ∈ lw_all := lw_g (lw_at lw_m9 208 rfl) rfl
theorem q2228 : (Jvm.Cond.fieldLink "java/util/LinkedHashMap$LinkedHashIterator" (50 : Nat) "java/util/LinkedHashMap$Entry" "after" "Ljava/util/LinkedHashMap$Entry;") ∈ lw_all := lw_g (lw_at lw_m9 210 rfl) rfl
theorem q2431 : (Jvm.Cond.instanceMethod ({ cls := "java/util/LinkedHashMap$LinkedHashIterator", name := "<init>", desc := "(Ljava/util/LinkedHashMap;Z)V" } : Jvm.MethodName)) ∈ lw_all := lw_g (lw_at lw_m10 173 rfl) rfl
theorem q2432 : (Jvm.Cond.code ({ cls := "java/util/LinkedHashMap$LinkedHashIterator", name := "<init>", desc := "(Ljava/util/LinkedHashMap;Z)V" } : Jvm.MethodName) prog_68_method_1_code (3 : Nat) (Option.none : Option Jvm.ClassFile.FieldType)) ∈ lw_all := lw_g (lw_at lw_m10 174 rfl) rfl
theorem q2433 : (Jvm.Cond.methodLink "java/util/LinkedHashMap$LinkedHashIterator" (7 : Nat) ({ cls := "java/lang/Object", name := "<init>", desc := "()V" } : Jvm.MethodName)) ∈ lw_all := lw_g (lw_at lw_m10 175 rfl) rfl
theorem q2434 : (Jvm.Cond.fieldLink "java/util/LinkedHashMap$LinkedHashIterator" (26 : Nat) "java/util/LinkedHashMap$LinkedHashIterator" "next" "Ljava/util/LinkedHashMap$Entry;") ∈ lw_all := lw_g (lw_at lw_m10 176 rfl) rfl
theorem q2435 : (Jvm.Cond.fieldLink "java/util/LinkedHashMap$LinkedHashIterator" (36 : Nat) "java/util/LinkedHashMap$LinkedHashIterator" "current" "Ljava/util/LinkedHashMap$Entry;") ∈ lw_all := lw_g (lw_at lw_m10 177 rfl) rfl
theorem q2436 : (Jvm.Cond.fieldLink "java/util/LinkedHashMap$LinkedHashIterator" (33 : Nat) "java/util/LinkedHashMap$LinkedHashIterator" "expectedModCount" "I") ∈ lw_all := lw_g (lw_at lw_m10 178 rfl) rfl
theorem q2437 : (Jvm.Cond.fieldLink "java/util/LinkedHashMap$LinkedHashIterator" (13 : Nat) "java/util/LinkedHashMap$LinkedHashIterator" "reversed" "Z") ∈ lw_all := lw_g (lw_at lw_m10 179 rfl) rfl
theorem q2438 : (Jvm.Cond.fieldLink "java/util/LinkedHashMap$LinkedHashIterator" (1 : Nat) "java/util/LinkedHashMap$LinkedHashIterator" "this$0" "Ljava/util/LinkedHashMap;") ∈ lw_all := lw_g (lw_at lw_m10 180 rfl) rfl
theorem q2440 : (Jvm.Cond.soleField "java/util/LinkedHashMap$LinkedHashIterator" "next") ∈ lw_all := lw_g (lw_at lw_m10 182 rfl) rfl
theorem q2442 : (Jvm.Cond.soleField "java/util/LinkedHashMap$LinkedHashIterator" "current") ∈ lw_all := lw_g (lw_at lw_m10 184 rfl) rfl
theorem q2444 : (Jvm.Cond.soleField "java/util/LinkedHashMap$LinkedHashIterator" "expectedModCount") ∈ lw_all := lw_g (lw_at lw_m10 186 rfl) rfl
theorem q2446 : (Jvm.Cond.soleField "java/util/LinkedHashMap$LinkedHashIterator" "reversed") ∈ lw_all := lw_g (lw_at lw_m10 188 rfl) rfl
theorem q2448 : (Jvm.Cond.soleField "java/util/LinkedHashMap$LinkedHashIterator" "this$0") ∈ lw_all := lw_g (lw_at lw_m10 190 rfl) rfl
/-! java/util/LinkedHashMap$LinkedEntryIterator -/
set_option maxRecDepth 100000
def RJ30 : String := "java/util/LinkedHashMap$LinkedEntryIterator"
def TJ30 : u_T := fun k => match k with
  | 0 => ("java/util/LinkedHashMap$LinkedHashIterator", "next", "Ljava/util/LinkedHashMap$Entry;", false)
  | 1 => ("java/util/LinkedHashMap$LinkedHashIterator", "current", "Ljava/util/LinkedHashMap$Entry;", false)
  | 2 => ("java/util/LinkedHashMap$LinkedHashIterator", "expectedModCount", "I", false)
  | 3 => ("java/util/LinkedHashMap$LinkedHashIterator", "reversed", "Z", false)
  | _ => ("java/util/LinkedHashMap$LinkedHashIterator", "this$0", "Ljava/util/LinkedHashMap;", true)
def tyJ30 : Nat → FieldType := fun k => match k with
  | 0 => .object "java/util/LinkedHashMap$Entry"
  | 1 => .object "java/util/LinkedHashMap$Entry"
  | 2 => .int
  | 3 => .boolean
  | _ => .object "java/util/LinkedHashMap"
abbrev wsJ300 : List Cond := u_ws RJ30 TJ30 5
theorem nmJ30 : ∀ a, a < 5 → ∀ b, b < 5 → a ≠ b → (TJ30 a).2.1 ≠ (TJ30 b).2.1 := by decide +kernel
theorem tyJ30_ok : ∀ k, k < 5 → parseFieldDescriptor (TJ30 k).2.2.1 = some (tyJ30 k) := by decide +kernel
abbrev cJ30_next : ByteArray := prog_66_method_3_code
def yJ30_next : MethodName := ⟨RJ30, "next", "()Ljava/lang/Object;"⟩
theorem dJ30_next_0 : decode cJ30_next 0 = .ok (.aload_n 0, 1) := by decide +kernel
theorem dJ30_next_1 : decode cJ30_next 1 = .ok (.invokevirtual 13, 3) := by decide +kernel
theorem dJ30_next_4 : decode cJ30_next 4 = .ok (.areturn, 1) := by decide +kernel
abbrev cJ30_next_2 : ByteArray := prog_66_method_2_code
def yJ30_next_2 : MethodName := ⟨RJ30, "next", "()Ljava/util/Map$Entry;"⟩
theorem dJ30_next_2_0 : decode cJ30_next_2 0 = .ok (.aload_n 0, 1) := by decide +kernel
theorem dJ30_next_2_1 : decode cJ30_next_2 1 = .ok (.invokevirtual 7, 3) := by decide +kernel
theorem dJ30_next_2_4 : decode cJ30_next_2 4 = .ok (.areturn, 1) := by decide +kernel
abbrev cJ30_init : ByteArray := prog_66_method_1_code
def yJ30_init : MethodName := ⟨RJ30, "<init>", "(Ljava/util/LinkedHashMap;Z)V"⟩
def dkwJ30_init_0 : List UInt8 := [42, 43, 28, 183, 0, 1, 177]
abbrev dktJ30_init_0 : List UInt8 := dkwJ30_init_0 ++ []
theorem dksJ30_init_0 : cJ30_init.data.toList.drop 0 = dktJ30_init_0 := by decide +kernel
theorem dJ30_init_0 : decode cJ30_init 0 = .ok (.aload_n 0, 1) := dk_42 (dk_at dksJ30_init_0 0 rfl rfl)
theorem dJ30_init_1 : decode cJ30_init 1 = .ok (.aload_n 1, 1) := dk_43 (dk_at dksJ30_init_0 1 rfl rfl)
theorem dJ30_init_2 : decode cJ30_init 2 = .ok (.iload_n 2, 1) := dk_28 (dk_at dksJ30_init_0 2 rfl rfl)
theorem dJ30_init_3 : decode cJ30_init 3 = .ok (.invokespecial 1, 3) := dk_183 0 1 (dk_at dksJ30_init_0 3 rfl rfl)
theorem dJ30_init_6 : decode cJ30_init 6 = .ok (.return_, 1) := dk_177 (dk_at dksJ30_init_0 6 rfl rfl)
theorem q149 : (Jvm.Cond.initialized "java/util/LinkedHashMap$LinkedEntryIterator") ∈ lw_all := lw_g (lw_at lw_m1 51 rfl) rfl
theorem q731 : (Jvm.Cond.castable "java/util/LinkedHashMap$LinkedEntryIterator" "java/util/Iterator") ∈ lw_tbl := lw_at lw_m3 153 rfl
theorem q732 : (Jvm.Cond.selects "java/util/LinkedHashMap$LinkedEntryIterator" ({ cls := "java/util/Iterator", name := "hasNext", desc := "()Z" } : Jvm.MethodName) ({ cls := "java/util/LinkedHashMap$LinkedHashIterator", name := "hasNext", desc := "()Z" } : Jvm.MethodName)) ∈ lw_all := lw_g (lw_at lw_m3 154 rfl) rfl
theorem q733 : (Jvm.Cond.unhidden "java/util/LinkedHashMap$LinkedEntryIterator" "hasNext" "()Z") ∈ lw_tbl := lw_at lw_m3 155 rfl
theorem q764 : (Jvm.Cond.selects "java/util/LinkedHashMap$LinkedEntryIterator" ({ cls := "java/util/Iterator", name := "next", desc := "()Ljava/lang/Object;" } : Jvm.MethodName) ({ cls := "java/util/LinkedHashMap$LinkedEntryIterator", name := "next", desc := "()Ljava/lang/Object;" } : Jvm.MethodName)) ∈ lw_all := lw_g (lw_at lw_m3 186 rfl) rfl
theorem q765 : (Jvm.Cond.unhidden "java/util/LinkedHashMap$LinkedEntryIterator" "next" "()Ljava/lang/Object;") ∈ lw_tbl := lw_at lw_m3 187 rfl
theorem q766 : (Jvm.Cond.instanceMethod ({ cls := "java/util/LinkedHashMap$LinkedEntryIterator", name := "next", desc := "()Ljava/lang/Object;" } : Jvm.MethodName)) ∈ lw_all := lw_g (lw_at lw_m3 188 rfl) rfl
theorem q767 : (Jvm.Cond.publicMethod ({ cls := "java/util/LinkedHashMap$LinkedEntryIterator", name := "next", desc := "()Ljava/lang/Object;" } : Jvm.MethodName)) ∈ lw_tbl := lw_at lw_m3 189 rfl
theorem q768 : (Jvm.Cond.code ({ cls := "java/util/LinkedHashMap$LinkedEntryIterator", name := "next", desc := "()Ljava/lang/Object;" } : Jvm.MethodName) prog_66_method_3_code (1 : Nat) (Option.some (Jvm.ClassFile.FieldType.object "java/lang/Object"))) ∈ lw_all := lw_g (lw_at lw_m3 190 rfl) rfl
theorem q769 : (Jvm.Cond.methodLink "java/util/LinkedHashMap$LinkedEntryIterator" (13 : Nat) ({ cls := "java/util/LinkedHashMap$LinkedEntryIterator", name := "next", desc := "()Ljava/util/Map$Entry;" } : Jvm.MethodName)) ∈ lw_all := lw_g (lw_at lw_m3 191 rfl) rfl
theorem q770 : (Jvm.Cond.instanceMethod ({ cls := "java/util/LinkedHashMap$LinkedEntryIterator", name := "next", desc := "()Ljava/util/Map$Entry;" } : Jvm.MethodName)) ∈ lw_all := lw_g (lw_at lw_m3 192 rfl) rfl
theorem q771 : (Jvm.Cond.selects "java/util/LinkedHashMap$LinkedEntryIterator" ({ cls := "java/util/LinkedHashMap$LinkedEntryIterator", name := "next", desc := "()Ljava/util/Map$Entry;" } : Jvm.MethodName) ({ cls := "java/util/LinkedHashMap$LinkedEntryIterator", name := "next", desc := "()Ljava/util/Map$Entry;" } : Jvm.MethodName)) ∈ lw_all := lw_g (lw_at lw_m3 193 rfl) rfl
theorem q772 : (Jvm.Cond.code ({ cls := "java/util/LinkedHashMap$LinkedEntryIterator", name := "next", desc := "()Ljava/util/Map$Entry;" } : Jvm.MethodName) prog_66_method_2_code (1 : Nat) (Option.some (Jvm.ClassFile.FieldType.object "java/util/Map$Entry"))) ∈ lw_all := lw_g (lw_at lw_m3 194 rfl) rfl
theorem q773 : (Jvm.Cond.methodLink "java/util/LinkedHashMap$LinkedEntryIterator" (7 : Nat) ({ cls := "java/util/LinkedHashMap$LinkedEntryIterator", name := "nextNode", desc := "()Ljava/util/LinkedHashMap$Entry;" } : Jvm.MethodName)) ∈ lw_all := lw_g (lw_at lw_m3 195 rfl) rfl
theorem q774 : (Jvm.Cond.sameMethod "java/util/LinkedHashMap$LinkedEntryIterator" "java/util/LinkedHashMap$LinkedHashIterator" "nextNode" "()Ljava/util/LinkedHashMap$Entry;") ∈ lw_all := lw_g (lw_at lw_m3 196 rfl) rfl
theorem q776 : (Jvm.Cond.selects "java/util/LinkedHashMap$LinkedEntryIterator" ({ cls := "java/util/LinkedHashMap$LinkedEntryIterator", name := "nextNode", desc := "()Ljava/util/LinkedHashMap$Entry;" } : Jvm.MethodName) ({ cls := "java/util/LinkedHashMap$LinkedHashIterator", name := "nextNode", desc := "()Ljava/util/LinkedHashMap$Entry;" } : Jvm.MethodName)) ∈ lw_all := lw_g (lw_at lw_m3 198 rfl) rfl
theorem q831 : (Jvm.Cond.selects "java/util/LinkedHashMap$LinkedEntryIterator" ({ cls := "java/lang/Object", name := "getClass", desc := "()Ljava/lang/Class;" } : Jvm.MethodName) ({ cls := "java/lang/Object", name := "getClass", desc := "()Ljava/lang/Class;" } : Jvm.MethodName)) ∈ lw_all := lw_g (lw_at lw_m4 13 rfl) rfl
theorem q2426 : (Jvm.Cond.instantiable "java/util/LinkedHashMap$LinkedEntryIterator" (5 : Nat)) ∈ lw_all := lw_g (lw_at lw_m10 168 rfl) rfl
theorem q2428 : (Jvm.Cond.instanceMethod ({ cls := "java/util/LinkedHashMap$LinkedEntryIterator", name := "<init>", desc := "(Ljava/util/LinkedHashMap;Z)V" } : Jvm.MethodName)) ∈ lw_all := lw_g (lw_at lw_m10 170 rfl) rfl
theorem q2429 : (Jvm.Cond.code ({ cls := "java/util/LinkedHashMap$LinkedEntryIterator", name := "<init>", desc := "(Ljava/util/LinkedHashMap;Z)V" } : Jvm.MethodName) prog_66_method_1_code (3 : Nat) (Option.none : Option Jvm.ClassFile.FieldType)) ∈ lw_all := lw_g (lw_at lw_m10 171 rfl) rfl
theorem q2430 : (Jvm.Cond.methodLink "java/util/LinkedHashMap$LinkedEntryIterator" (1 : Nat) ({ cls := "java/util/LinkedHashMap$LinkedHashIterator", name := "<init>", desc := "(Ljava/util/LinkedHashMap;Z)V" } : Jvm.MethodName)) ∈ lw_all := lw_g (lw_at lw_m10 172 rfl) rfl
theorem q2439 : (Jvm.Cond.lays "java/util/LinkedHashMap$LinkedEntryIterator" "java/util/LinkedHashMap$LinkedHashIterator" "next" "Ljava/util/LinkedHashMap$Entry;") ∈ lw_all := lw_g (lw_at lw_m10 181 rfl) rfl
theorem q2441 : (Jvm.Cond.lays "java/util/LinkedHashMap$LinkedEntryIterator" "java/util/LinkedHashMap$LinkedHashIterator" "current" "Ljava/util/LinkedHashMap$Entry;") ∈ lw_all := lw_g (lw_at lw_m10 183 rfl) rfl
theorem q2443 : (Jvm.Cond.lays "java/util/LinkedHashMap$LinkedEntryIterator" "java/util/LinkedHashMap$LinkedHashIterator" "expectedModCount" "I") ∈ lw_all := lw_g (lw_at lw_m10 185 rfl) rfl
theorem q2445 : (Jvm.Cond.lays "java/util/LinkedHashMap$LinkedEntryIterator" "java/util/LinkedHashMap$LinkedHashIterator" "reversed" "Z") ∈ lw_all := lw_g (lw_at lw_m10 187 rfl) rfl
theorem q2447 : (Jvm.Cond.laysFinal "java/util/LinkedHashMap$LinkedEntryIterator" "java/util/LinkedHashMap$LinkedHashIterator" "this$0" "Ljava/util/LinkedHashMap;") ∈ lw_all := lw_g (lw_at lw_m10 189 rfl) rfl
theorem q2449 : (Jvm.Cond.superclass "java/util/LinkedHashMap$LinkedEntryIterator" "java/util/LinkedHashMap$LinkedHashIterator") ∈ lw_all := lw_g (lw_at lw_m10 191 rfl) rfl
theorem q3417 : (Jvm.Cond.castable "java/util/LinkedHashMap$LinkedEntryIterator" "java/lang/Object") ∈ lw_tbl := lw_at lw_m14 199 rfl
theorem in_J30 : ∀ w ∈ wsJ300, w ∈ lw_all := lw_in wsJ300 [2439, 2441, 2443, 2445, 2447] (by decide +kernel) (by decide +kernel)
/-! java/lang/Object -/
set_option maxRecDepth 100000
def RJ31 : String := "java/lang/Object"
abbrev cJ31_init : ByteArray := object_method_1_code
def yJ31_init : MethodName := ⟨RJ31, "<init>", "()V"⟩
theorem dJ31_init_0 : decode cJ31_init 0 = .ok (.return_, 1) := by decide +kernel
abbrev cJ31_equals : ByteArray := object_method_4_code
def yJ31_equals : MethodName := ⟨RJ31, "equals", "(Ljava/lang/Object;)Z"⟩
def dkwJ31_equals_0 : List UInt8 := [42, 43, 166, 0, 7, 4, 167, 0, 4, 3, 172]
abbrev dktJ31_equals_0 : List UInt8 := dkwJ31_equals_0 ++ []
theorem dksJ31_equals_0 : cJ31_equals.data.toList.drop 0 = dktJ31_equals_0 := by decide +kernel
theorem dJ31_equals_0 : decode cJ31_equals 0 = .ok (.aload_n 0, 1) := dk_42 (dk_at dksJ31_equals_0 0 rfl rfl)
theorem dJ31_equals_1 : decode cJ31_equals 1 = .ok (.aload_n 1, 1) := dk_43 (dk_at dksJ31_equals_0 1 rfl rfl)
theorem dJ31_equals_2 : decode cJ31_equals 2 = .ok (.if_acmp .ne 7, 3) := dk_166 0 7 (dk_at dksJ31_equals_0 2 rfl rfl)
theorem dJ31_equals_5 : decode cJ31_equals 5 = .ok (.iconst 1, 1) := dk_4 (dk_at dksJ31_equals_0 5 rfl rfl)
theorem dJ31_equals_6 : decode cJ31_equals 6 = .ok (.goto 4, 3) := dk_167 0 4 (dk_at dksJ31_equals_0 6 rfl rfl)
theorem dJ31_equals_9 : decode cJ31_equals 9 = .ok (.iconst 0, 1) := dk_3 (dk_at dksJ31_equals_0 9 rfl rfl)
theorem dJ31_equals_10 : decode cJ31_equals 10 = .ok (.ireturn, 1) := dk_172 (dk_at dksJ31_equals_0 10 rfl rfl)
theorem q159 : (Jvm.Cond.instanceMethod ({ cls := "java/lang/Object", name := "<init>", desc := "()V" } : Jvm.MethodName)) ∈ lw_all := lw_g (lw_at lw_m1 61 rfl) rfl
theorem q160 : (Jvm.Cond.code ({ cls := "java/lang/Object", name := "<init>", desc := "()V" } : Jvm.MethodName) object_method_1_code (1 : Nat) (Option.none : Option Jvm.ClassFile.FieldType)) ∈ lw_all := lw_g (lw_at lw_m1 62 rfl) rfl
theorem q800 : (Jvm.Cond.instanceMethod ({ cls := "java/lang/Object", name := "getClass", desc := "()Ljava/lang/Class;" } : Jvm.MethodName)) ∈ lw_all := lw_g (lw_at lw_m3 222 rfl) rfl
theorem q801 : (Jvm.Cond.sameMethod "java/lang/Object" "java/lang/Object" "getClass" "()Ljava/lang/Class;") ∈ lw_all := lw_g (lw_at lw_m3 223 rfl) rfl
theorem q835 : (Jvm.Cond.native ({ cls := "java/lang/Object", name := "getClass", desc := "()Ljava/lang/Class;" } : Jvm.MethodName)) ∈ lw_all := lw_g (lw_at lw_m4 17 rfl) rfl
theorem q1019 : (Jvm.Cond.native ({ cls := "java/lang/Object", name := "clone", desc := "()Ljava/lang/Object;" } : Jvm.MethodName)) ∈ lw_all := lw_g (lw_at lw_m4 201 rfl) rfl
theorem q1020 : (Jvm.Cond.instanceMethod ({ cls := "java/lang/Object", name := "clone", desc := "()Ljava/lang/Object;" } : Jvm.MethodName)) ∈ lw_all := lw_g (lw_at lw_m4 202 rfl) rfl
theorem q1842 : (Jvm.Cond.declares ({ cls := "java/lang/Object", name := "hashCode", desc := "()I" } : Jvm.MethodName)) ∈ lw_tbl := lw_at lw_m8 64 rfl
theorem q1844 : (Jvm.Cond.instanceMethod ({ cls := "java/lang/Object", name := "hashCode", desc := "()I" } : Jvm.MethodName)) ∈ lw_all := lw_g (lw_at lw_m8 66 rfl) rfl
theorem q1845 : (Jvm.Cond.sameMethod "java/lang/Object" "java/lang/Object" "hashCode" "()I") ∈ lw_all := lw_g (lw_at lw_m8 67 rfl) rfl
theorem q1927 : (Jvm.Cond.native ({ cls := "java/lang/Object", name := "hashCode", desc := "()I" } : Jvm.MethodName)) ∈ lw_all := lw_g (lw_at lw_m8 149 rfl) rfl
theorem q1928 : (Jvm.Cond.declares ({ cls := "java/lang/Object", name := "equals", desc := "(Ljava/lang/Object;)Z" } : Jvm.MethodName)) ∈ lw_tbl := lw_at lw_m8 150 rfl
theorem q1930 : (Jvm.Cond.instanceMethod ({ cls := "java/lang/Object", name := "equals", desc := "(Ljava/lang/Object;)Z" } : Jvm.MethodName)) ∈ lw_all := lw_g (lw_at lw_m8 152 rfl) rfl
theorem q1931 : (Jvm.Cond.sameMethod "java/lang/Object" "java/lang/Object" "equals" "(Ljava/lang/Object;)Z") ∈ lw_all := lw_g (lw_at lw_m8 153 rfl) rfl
theorem q1959 : (Jvm.Cond.code ({ cls := "java/lang/Object", name := "equals", desc := "(Ljava/lang/Object;)Z" } : Jvm.MethodName) object_method_4_code (2 : Nat) (Option.some Jvm.ClassFile.FieldType.boolean)) ∈ lw_all := lw_g (lw_at lw_m8 181 rfl) rfl
theorem q3426 : (Jvm.Cond.declares ({ cls := "java/lang/Object", name := "getClass", desc := "()Ljava/lang/Class;" } : Jvm.MethodName)) ∈ lw_tbl := lw_at lw_m14 208 rfl
theorem q3439 : (Jvm.Cond.instantiable "java/lang/Object" (0 : Nat)) ∈ lw_all := lw_g (lw_at lw_m14 221 rfl) rfl
