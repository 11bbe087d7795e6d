/-! ThreeBodies -/
set_option maxRecDepth 100000
def RX1 : String := "ThreeBodies"
def TX1 : u_T := fun k => match k with
  | 0 => ("ThreeBodies", "buffer", "[B", true)
  | 1 => ("ThreeBodies", "bufferLength", "I", false)
  | 2 => ("ThreeBodies", "errorPosition", "I", false)
  | 3 => ("ThreeBodies", "state", "LThreeBodies$State;", false)
  | 4 => ("ThreeBodies", "snapshot", "LThreeBodies$State;", false)
  | 5 => ("ThreeBodies", "history", "Ljava/util/ArrayDeque;", true)
  | 6 => ("ThreeBodies", "schemes", "[[LThreeBodies$Part;", true)
  | 7 => ("ThreeBodies", "measures", "[LThreeBodies$Measure;", true)
  | 8 => ("ThreeBodies", "formatted", "Ljava/lang/StringBuilder;", true)
  | 9 => ("ThreeBodies", "walker", "LThreeBodies$Bodies;", true)
  | 10 => ("ThreeBodies", "tried", "LThreeBodies$Bodies;", true)
  | _ => ("ThreeBodies", "path", "LThreeBodies$Path;", true)
def tyX1 : Nat → FieldType := fun k => match k with
  | 0 => .array .byte
  | 1 => .int
  | 2 => .int
  | 3 => .object "ThreeBodies$State"
  | 4 => .object "ThreeBodies$State"
  | 5 => .object "java/util/ArrayDeque"
  | 6 => .array (.array (.object "ThreeBodies$Part"))
  | 7 => .array (.object "ThreeBodies$Measure")
  | 8 => .object "java/lang/StringBuilder"
  | 9 => .object "ThreeBodies$Bodies"
  | 10 => .object "ThreeBodies$Bodies"
  | _ => .object "ThreeBodies$Path"
abbrev wsX10 : List Cond := u_ws RX1 TX1 12
theorem nmX1 : ∀ a, a < 12 → ∀ b, b < 12 → a ≠ b → (TX1 a).2.1 ≠ (TX1 b).2.1 := by decide +kernel
theorem tyX1_ok : ∀ k, k < 12 → parseFieldDescriptor (TX1 k).2.2.1 = some (tyX1 k) := by decide +kernel
abbrev cX1_init : ByteArray := prog_1_method_15_code
def yX1_init : MethodName := ⟨RX1, "<init>", "()V"⟩
def dkwX1_init_4 : List UInt8 := [183, 0, 149, 181, 0, 150, 177]
abbrev dktX1_init_4 : List UInt8 := dkwX1_init_4 ++ []
def dkwX1_init_3 : List UInt8 := [183, 0, 141, 181, 0, 142, 42, 187, 0, 139, 89, 183, 0, 141, 181, 0, 146, 42, 187, 0, 51, 89]
abbrev dktX1_init_3 : List UInt8 := dkwX1_init_3 ++ dktX1_init_4
def dkwX1_init_2 : List UInt8 := [42, 184, 0, 125, 181, 0, 129, 42, 187, 0, 132, 89, 183, 0, 134, 181, 0, 135, 42, 187, 0, 139, 89]
abbrev dktX1_init_2 : List UInt8 := dkwX1_init_2 ++ dktX1_init_3
def dkwX1_init_1 : List UInt8 := [183, 0, 106, 181, 0, 107, 42, 187, 0, 111, 89, 183, 0, 113, 181, 0, 114, 42, 184, 0, 118, 181, 0, 122]
abbrev dktX1_init_1 : List UInt8 := dkwX1_init_1 ++ dktX1_init_2
def dkwX1_init_0 : List UInt8 := [42, 183, 0, 93, 42, 17, 2, 88, 188, 8, 181, 0, 96, 42, 2, 181, 0, 100, 42, 187, 0, 104, 89]
abbrev dktX1_init_0 : List UInt8 := dkwX1_init_0 ++ dktX1_init_1
theorem dksX1_init_0 : cX1_init.data.toList.drop 0 = dktX1_init_0 := by decide +kernel
theorem dksX1_init_1 : cX1_init.data.toList.drop 23 = dktX1_init_1 := dk_seg dksX1_init_0 23 rfl rfl
theorem dksX1_init_2 : cX1_init.data.toList.drop 47 = dktX1_init_2 := dk_seg dksX1_init_1 24 rfl rfl
theorem dksX1_init_3 : cX1_init.data.toList.drop 70 = dktX1_init_3 := dk_seg dksX1_init_2 23 rfl rfl
theorem dksX1_init_4 : cX1_init.data.toList.drop 92 = dktX1_init_4 := dk_seg dksX1_init_3 22 rfl rfl
theorem dX1_init_0 : decode cX1_init 0 = .ok (.aload_n 0, 1) := dk_42 (dk_at dksX1_init_0 0 rfl rfl)
theorem dX1_init_1 : decode cX1_init 1 = .ok (.invokespecial 93, 3) := dk_183 0 93 (dk_at dksX1_init_0 1 rfl rfl)
theorem dX1_init_4 : decode cX1_init 4 = .ok (.aload_n 0, 1) := dk_42 (dk_at dksX1_init_0 4 rfl rfl)
theorem dX1_init_5 : decode cX1_init 5 = .ok (.sipush 600, 3) := dk_17 2 88 (dk_at dksX1_init_0 5 rfl rfl)
theorem dX1_init_8 : decode cX1_init 8 = .ok (.newarray .byte, 2) := dk_188_8 (dk_at dksX1_init_0 8 rfl rfl)
theorem dX1_init_10 : decode cX1_init 10 = .ok (.putfield 96, 3) := dk_181 0 96 (dk_at dksX1_init_0 10 rfl rfl)
theorem dX1_init_13 : decode cX1_init 13 = .ok (.aload_n 0, 1) := dk_42 (dk_at dksX1_init_0 13 rfl rfl)
theorem dX1_init_14 : decode cX1_init 14 = .ok (.iconst (-1), 1) := dk_2 (dk_at dksX1_init_0 14 rfl rfl)
theorem dX1_init_15 : decode cX1_init 15 = .ok (.putfield 100, 3) := dk_181 0 100 (dk_at dksX1_init_0 15 rfl rfl)
theorem dX1_init_18 : decode cX1_init 18 = .ok (.aload_n 0, 1) := dk_42 (dk_at dksX1_init_0 18 rfl rfl)
theorem dX1_init_19 : decode cX1_init 19 = .ok (.new 104, 3) := dk_187 0 104 (dk_at dksX1_init_0 19 rfl rfl)
theorem dX1_init_22 : decode cX1_init 22 = .ok (.dup, 1) := dk_89 (dk_at dksX1_init_0 22 rfl rfl)
theorem dX1_init_23 : decode cX1_init 23 = .ok (.invokespecial 106, 3) := dk_183 0 106 (dk_at dksX1_init_1 0 rfl rfl)
theorem dX1_init_26 : decode cX1_init 26 = .ok (.putfield 107, 3) := dk_181 0 107 (dk_at dksX1_init_1 3 rfl rfl)
theorem dX1_init_29 : decode cX1_init 29 = .ok (.aload_n 0, 1) := dk_42 (dk_at dksX1_init_1 6 rfl rfl)
theorem dX1_init_30 : decode cX1_init 30 = .ok (.new 111, 3) := dk_187 0 111 (dk_at dksX1_init_1 7 rfl rfl)
theorem dX1_init_33 : decode cX1_init 33 = .ok (.dup, 1) := dk_89 (dk_at dksX1_init_1 10 rfl rfl)
theorem dX1_init_34 : decode cX1_init 34 = .ok (.invokespecial 113, 3) := dk_183 0 113 (dk_at dksX1_init_1 11 rfl rfl)
theorem dX1_init_37 : decode cX1_init 37 = .ok (.putfield 114, 3) := dk_181 0 114 (dk_at dksX1_init_1 14 rfl rfl)
theorem dX1_init_40 : decode cX1_init 40 = .ok (.aload_n 0, 1) := dk_42 (dk_at dksX1_init_1 17 rfl rfl)
theorem dX1_init_41 : decode cX1_init 41 = .ok (.invokestatic 118, 3) := dk_184 0 118 (dk_at dksX1_init_1 18 rfl rfl)
theorem dX1_init_44 : decode cX1_init 44 = .ok (.putfield 122, 3) := dk_181 0 122 (dk_at dksX1_init_1 21 rfl rfl)
theorem dX1_init_47 : decode cX1_init 47 = .ok (.aload_n 0, 1) := dk_42 (dk_at dksX1_init_2 0 rfl rfl)
theorem dX1_init_48 : decode cX1_init 48 = .ok (.invokestatic 125, 3) := dk_184 0 125 (dk_at dksX1_init_2 1 rfl rfl)
theorem dX1_init_51 : decode cX1_init 51 = .ok (.putfield 129, 3) := dk_181 0 129 (dk_at dksX1_init_2 4 rfl rfl)
theorem dX1_init_54 : decode cX1_init 54 = .ok (.aload_n 0, 1) := dk_42 (dk_at dksX1_init_2 7 rfl rfl)
theorem dX1_init_55 : decode cX1_init 55 = .ok (.new 132, 3) := dk_187 0 132 (dk_at dksX1_init_2 8 rfl rfl)
theorem dX1_init_58 : decode cX1_init 58 = .ok (.dup, 1) := dk_89 (dk_at dksX1_init_2 11 rfl rfl)
theorem dX1_init_59 : decode cX1_init 59 = .ok (.invokespecial 134, 3) := dk_183 0 134 (dk_at dksX1_init_2 12 rfl rfl)
theorem dX1_init_62 : decode cX1_init 62 = .ok (.putfield 135, 3) := dk_181 0 135 (dk_at dksX1_init_2 15 rfl rfl)
theorem dX1_init_65 : decode cX1_init 65 = .ok (.aload_n 0, 1) := dk_42 (dk_at dksX1_init_2 18 rfl rfl)
theorem dX1_init_66 : decode cX1_init 66 = .ok (.new 139, 3) := dk_187 0 139 (dk_at dksX1_init_2 19 rfl rfl)
theorem dX1_init_69 : decode cX1_init 69 = .ok (.dup, 1) := dk_89 (dk_at dksX1_init_2 22 rfl rfl)
theorem dX1_init_70 : decode cX1_init 70 = .ok (.invokespecial 141, 3) := dk_183 0 141 (dk_at dksX1_init_3 0 rfl rfl)
theorem dX1_init_73 : decode cX1_init 73 = .ok (.putfield 142, 3) := dk_181 0 142 (dk_at dksX1_init_3 3 rfl rfl)
theorem dX1_init_76 : decode cX1_init 76 = .ok (.aload_n 0, 1) := dk_42 (dk_at dksX1_init_3 6 rfl rfl)
theorem dX1_init_77 : decode cX1_init 77 = .ok (.new 139, 3) := dk_187 0 139 (dk_at dksX1_init_3 7 rfl rfl)
theorem dX1_init_80 : decode cX1_init 80 = .ok (.dup, 1) := dk_89 (dk_at dksX1_init_3 10 rfl rfl)
theorem dX1_init_81 : decode cX1_init 81 = .ok (.invokespecial 141, 3) := dk_183 0 141 (dk_at dksX1_init_3 11 rfl rfl)
theorem dX1_init_84 : decode cX1_init 84 = .ok (.putfield 146, 3) := dk_181 0 146 (dk_at dksX1_init_3 14 rfl rfl)
theorem dX1_init_87 : decode cX1_init 87 = .ok (.aload_n 0, 1) := dk_42 (dk_at dksX1_init_3 17 rfl rfl)
theorem dX1_init_88 : decode cX1_init 88 = .ok (.new 51, 3) := dk_187 0 51 (dk_at dksX1_init_3 18 rfl rfl)
theorem dX1_init_91 : decode cX1_init 91 = .ok (.dup, 1) := dk_89 (dk_at dksX1_init_3 21 rfl rfl)
theorem dX1_init_92 : decode cX1_init 92 = .ok (.invokespecial 149, 3) := dk_183 0 149 (dk_at dksX1_init_4 0 rfl rfl)
theorem dX1_init_95 : decode cX1_init 95 = .ok (.putfield 150, 3) := dk_181 0 150 (dk_at dksX1_init_4 3 rfl rfl)
theorem dX1_init_98 : decode cX1_init 98 = .ok (.return_, 1) := dk_177 (dk_at dksX1_init_4 6 rfl rfl)
abbrev cX1_distance : ByteArray := prog_1_method_4_code
def yX1_distance : MethodName := ⟨RX1, "distance", "(JJ)I"⟩
def dkwX1_distance_2 : List UInt8 := [157, 0, 10, 22, 10, 55, 6, 167, 0, 9, 22, 10, 10, 101, 55, 8, 167, 255, 211, 22, 6, 136, 172]
abbrev dktX1_distance_2 : List UInt8 := dkwX1_distance_2 ++ []
def dkwX1_distance_1 : List UInt8 := [156, 0, 43, 22, 6, 22, 8, 97, 10, 97, 20, 0, 12, 109, 55, 10, 22, 10, 22, 10, 105, 22, 4, 148]
abbrev dktX1_distance_1 : List UInt8 := dkwX1_distance_1 ++ dktX1_distance_2
def dkwX1_distance_0 : List UInt8 := [30, 30, 105, 32, 32, 105, 97, 55, 4, 9, 55, 6, 20, 0, 10, 55, 8, 22, 6, 22, 8, 148]
abbrev dktX1_distance_0 : List UInt8 := dkwX1_distance_0 ++ dktX1_distance_1
theorem dksX1_distance_0 : cX1_distance.data.toList.drop 0 = dktX1_distance_0 := by decide +kernel
theorem dksX1_distance_1 : cX1_distance.data.toList.drop 22 = dktX1_distance_1 := dk_seg dksX1_distance_0 22 rfl rfl
theorem dksX1_distance_2 : cX1_distance.data.toList.drop 46 = dktX1_distance_2 := dk_seg dksX1_distance_1 24 rfl rfl
theorem dX1_distance_0 : decode cX1_distance 0 = .ok (.lload_n 0, 1) := dk_30 (dk_at dksX1_distance_0 0 rfl rfl)
theorem dX1_distance_1 : decode cX1_distance 1 = .ok (.lload_n 0, 1) := dk_30 (dk_at dksX1_distance_0 1 rfl rfl)
theorem dX1_distance_2 : decode cX1_distance 2 = .ok (.lmul, 1) := dk_105 (dk_at dksX1_distance_0 2 rfl rfl)
theorem dX1_distance_3 : decode cX1_distance 3 = .ok (.lload_n 2, 1) := dk_32 (dk_at dksX1_distance_0 3 rfl rfl)
theorem dX1_distance_4 : decode cX1_distance 4 = .ok (.lload_n 2, 1) := dk_32 (dk_at dksX1_distance_0 4 rfl rfl)
theorem dX1_distance_5 : decode cX1_distance 5 = .ok (.lmul, 1) := dk_105 (dk_at dksX1_distance_0 5 rfl rfl)
theorem dX1_distance_6 : decode cX1_distance 6 = .ok (.ladd, 1) := dk_97 (dk_at dksX1_distance_0 6 rfl rfl)
theorem dX1_distance_7 : decode cX1_distance 7 = .ok (.lstore 4, 2) := dk_55 4 (dk_at dksX1_distance_0 7 rfl rfl)
theorem dX1_distance_9 : decode cX1_distance 9 = .ok (.lconst 0, 1) := dk_9 (dk_at dksX1_distance_0 9 rfl rfl)
theorem dX1_distance_10 : decode cX1_distance 10 = .ok (.lstore 6, 2) := dk_55 6 (dk_at dksX1_distance_0 10 rfl rfl)
theorem dX1_distance_12 : decode cX1_distance 12 = .ok (.ldc2_w 10, 3) := dk_20 0 10 (dk_at dksX1_distance_0 12 rfl rfl)
theorem dX1_distance_15 : decode cX1_distance 15 = .ok (.lstore 8, 2) := dk_55 8 (dk_at dksX1_distance_0 15 rfl rfl)
theorem dX1_distance_17 : decode cX1_distance 17 = .ok (.lload 6, 2) := dk_22 6 (dk_at dksX1_distance_0 17 rfl rfl)
theorem dX1_distance_19 : decode cX1_distance 19 = .ok (.lload 8, 2) := dk_22 8 (dk_at dksX1_distance_0 19 rfl rfl)
theorem dX1_distance_21 : decode cX1_distance 21 = .ok (.lcmp, 1) := dk_148 (dk_at dksX1_distance_0 21 rfl rfl)
theorem dX1_distance_22 : decode cX1_distance 22 = .ok (.ifCond .ge 43, 3) := dk_156 0 43 (dk_at dksX1_distance_1 0 rfl rfl)
theorem dX1_distance_25 : decode cX1_distance 25 = .ok (.lload 6, 2) := dk_22 6 (dk_at dksX1_distance_1 3 rfl rfl)
theorem dX1_distance_27 : decode cX1_distance 27 = .ok (.lload 8, 2) := dk_22 8 (dk_at dksX1_distance_1 5 rfl rfl)
theorem dX1_distance_29 : decode cX1_distance 29 = .ok (.ladd, 1) := dk_97 (dk_at dksX1_distance_1 7 rfl rfl)
theorem dX1_distance_30 : decode cX1_distance 30 = .ok (.lconst 1, 1) := dk_10 (dk_at dksX1_distance_1 8 rfl rfl)
theorem dX1_distance_31 : decode cX1_distance 31 = .ok (.ladd, 1) := dk_97 (dk_at dksX1_distance_1 9 rfl rfl)
theorem dX1_distance_32 : decode cX1_distance 32 = .ok (.ldc2_w 12, 3) := dk_20 0 12 (dk_at dksX1_distance_1 10 rfl rfl)
theorem dX1_distance_35 : decode cX1_distance 35 = .ok (.ldiv, 1) := dk_109 (dk_at dksX1_distance_1 13 rfl rfl)
theorem dX1_distance_36 : decode cX1_distance 36 = .ok (.lstore 10, 2) := dk_55 10 (dk_at dksX1_distance_1 14 rfl rfl)
theorem dX1_distance_38 : decode cX1_distance 38 = .ok (.lload 10, 2) := dk_22 10 (dk_at dksX1_distance_1 16 rfl rfl)
theorem dX1_distance_40 : decode cX1_distance 40 = .ok (.lload 10, 2) := dk_22 10 (dk_at dksX1_distance_1 18 rfl rfl)
theorem dX1_distance_42 : decode cX1_distance 42 = .ok (.lmul, 1) := dk_105 (dk_at dksX1_distance_1 20 rfl rfl)
theorem dX1_distance_43 : decode cX1_distance 43 = .ok (.lload 4, 2) := dk_22 4 (dk_at dksX1_distance_1 21 rfl rfl)
theorem dX1_distance_45 : decode cX1_distance 45 = .ok (.lcmp, 1) := dk_148 (dk_at dksX1_distance_1 23 rfl rfl)
theorem dX1_distance_46 : decode cX1_distance 46 = .ok (.ifCond .gt 10, 3) := dk_157 0 10 (dk_at dksX1_distance_2 0 rfl rfl)
theorem dX1_distance_49 : decode cX1_distance 49 = .ok (.lload 10, 2) := dk_22 10 (dk_at dksX1_distance_2 3 rfl rfl)
theorem dX1_distance_51 : decode cX1_distance 51 = .ok (.lstore 6, 2) := dk_55 6 (dk_at dksX1_distance_2 5 rfl rfl)
theorem dX1_distance_53 : decode cX1_distance 53 = .ok (.goto 9, 3) := dk_167 0 9 (dk_at dksX1_distance_2 7 rfl rfl)
theorem dX1_distance_56 : decode cX1_distance 56 = .ok (.lload 10, 2) := dk_22 10 (dk_at dksX1_distance_2 10 rfl rfl)
theorem dX1_distance_58 : decode cX1_distance 58 = .ok (.lconst 1, 1) := dk_10 (dk_at dksX1_distance_2 12 rfl rfl)
theorem dX1_distance_59 : decode cX1_distance 59 = .ok (.lsub, 1) := dk_101 (dk_at dksX1_distance_2 13 rfl rfl)
theorem dX1_distance_60 : decode cX1_distance 60 = .ok (.lstore 8, 2) := dk_55 8 (dk_at dksX1_distance_2 14 rfl rfl)
theorem dX1_distance_62 : decode cX1_distance 62 = .ok (.goto (-45), 3) := dk_167 255 211 (dk_at dksX1_distance_2 16 rfl rfl)
theorem dX1_distance_65 : decode cX1_distance 65 = .ok (.lload 6, 2) := dk_22 6 (dk_at dksX1_distance_2 19 rfl rfl)
theorem dX1_distance_67 : decode cX1_distance 67 = .ok (.l2i, 1) := dk_136 (dk_at dksX1_distance_2 21 rfl rfl)
theorem dX1_distance_68 : decode cX1_distance 68 = .ok (.ireturn, 1) := dk_172 (dk_at dksX1_distance_2 22 rfl rfl)
abbrev cX1_schemes : ByteArray := prog_1_method_6_code
def yX1_schemes : MethodName := ⟨RX1, "schemes", "()[[LThreeBodies$Part;"⟩
def dkwX1_schemes_4 : List UInt8 := [25, 4, 176]
abbrev dktX1_schemes_4 : List UInt8 := dkwX1_schemes_4 ++ []
def dkwX1_schemes_3 : List UInt8 := [25, 4, 5, 6, 189, 0, 33, 89, 3, 43, 83, 89, 4, 44, 83, 89, 5, 43, 83, 184, 0, 35, 83]
abbrev dktX1_schemes_3 : List UInt8 := dkwX1_schemes_3 ++ dktX1_schemes_4
def dkwX1_schemes_2 : List UInt8 := [83, 25, 4, 4, 6, 189, 0, 33, 89, 3, 45, 83, 89, 4, 42, 83, 89, 5, 45, 83, 184, 0, 35, 83]
abbrev dktX1_schemes_2 : List UInt8 := dkwX1_schemes_2 ++ dktX1_schemes_3
def dkwX1_schemes_1 : List UInt8 := [6, 189, 0, 31, 58, 4, 25, 4, 3, 5, 189, 0, 33, 89, 3, 42, 83, 89, 4, 44, 83, 184, 0, 35]
abbrev dktX1_schemes_1 : List UInt8 := dkwX1_schemes_1 ++ dktX1_schemes_2
def dkwX1_schemes_0 : List UInt8 := [186, 0, 24, 0, 0, 75, 186, 0, 28, 0, 0, 76, 186, 0, 29, 0, 0, 77, 186, 0, 30, 0, 0, 78]
abbrev dktX1_schemes_0 : List UInt8 := dkwX1_schemes_0 ++ dktX1_schemes_1
theorem dksX1_schemes_0 : cX1_schemes.data.toList.drop 0 = dktX1_schemes_0 := by decide +kernel
theorem dksX1_schemes_1 : cX1_schemes.data.toList.drop 24 = dktX1_schemes_1 := dk_seg dksX1_schemes_0 24 rfl rfl
theorem dksX1_schemes_2 : cX1_schemes.data.toList.drop 48 = dktX1_schemes_2 := dk_seg dksX1_schemes_1 24 rfl rfl
theorem dksX1_schemes_3 : cX1_schemes.data.toList.drop 72 = dktX1_schemes_3 := dk_seg dksX1_schemes_2 24 rfl rfl
theorem dksX1_schemes_4 : cX1_schemes.data.toList.drop 95 = dktX1_schemes_4 := dk_seg dksX1_schemes_3 23 rfl rfl
theorem dX1_schemes_0 : decode cX1_schemes 0 = .ok (.invokedynamic 24, 5) := by decide +kernel
theorem dX1_schemes_5 : decode cX1_schemes 5 = .ok (.astore_n 0, 1) := dk_75 (dk_at dksX1_schemes_0 5 rfl rfl)
theorem dX1_schemes_6 : decode cX1_schemes 6 = .ok (.invokedynamic 28, 5) := by decide +kernel
theorem dX1_schemes_11 : decode cX1_schemes 11 = .ok (.astore_n 1, 1) := dk_76 (dk_at dksX1_schemes_0 11 rfl rfl)
theorem dX1_schemes_12 : decode cX1_schemes 12 = .ok (.invokedynamic 29, 5) := by decide +kernel
theorem dX1_schemes_17 : decode cX1_schemes 17 = .ok (.astore_n 2, 1) := dk_77 (dk_at dksX1_schemes_0 17 rfl rfl)
theorem dX1_schemes_18 : decode cX1_schemes 18 = .ok (.invokedynamic 30, 5) := by decide +kernel
theorem dX1_schemes_23 : decode cX1_schemes 23 = .ok (.astore_n 3, 1) := dk_78 (dk_at dksX1_schemes_0 23 rfl rfl)
theorem dX1_schemes_24 : decode cX1_schemes 24 = .ok (.iconst 3, 1) := dk_6 (dk_at dksX1_schemes_1 0 rfl rfl)
theorem dX1_schemes_25 : decode cX1_schemes 25 = .ok (.anewarray 31, 3) := dk_189 0 31 (dk_at dksX1_schemes_1 1 rfl rfl)
theorem dX1_schemes_28 : decode cX1_schemes 28 = .ok (.astore 4, 2) := dk_58 4 (dk_at dksX1_schemes_1 4 rfl rfl)
theorem dX1_schemes_30 : decode cX1_schemes 30 = .ok (.aload 4, 2) := dk_25 4 (dk_at dksX1_schemes_1 6 rfl rfl)
theorem dX1_schemes_32 : decode cX1_schemes 32 = .ok (.iconst 0, 1) := dk_3 (dk_at dksX1_schemes_1 8 rfl rfl)
theorem dX1_schemes_33 : decode cX1_schemes 33 = .ok (.iconst 2, 1) := dk_5 (dk_at dksX1_schemes_1 9 rfl rfl)
theorem dX1_schemes_34 : decode cX1_schemes 34 = .ok (.anewarray 33, 3) := dk_189 0 33 (dk_at dksX1_schemes_1 10 rfl rfl)
theorem dX1_schemes_37 : decode cX1_schemes 37 = .ok (.dup, 1) := dk_89 (dk_at dksX1_schemes_1 13 rfl rfl)
theorem dX1_schemes_38 : decode cX1_schemes 38 = .ok (.iconst 0, 1) := dk_3 (dk_at dksX1_schemes_1 14 rfl rfl)
theorem dX1_schemes_39 : decode cX1_schemes 39 = .ok (.aload_n 0, 1) := dk_42 (dk_at dksX1_schemes_1 15 rfl rfl)
theorem dX1_schemes_40 : decode cX1_schemes 40 = .ok (.aastore, 1) := dk_83 (dk_at dksX1_schemes_1 16 rfl rfl)
theorem dX1_schemes_41 : decode cX1_schemes 41 = .ok (.dup, 1) := dk_89 (dk_at dksX1_schemes_1 17 rfl rfl)
theorem dX1_schemes_42 : decode cX1_schemes 42 = .ok (.iconst 1, 1) := dk_4 (dk_at dksX1_schemes_1 18 rfl rfl)
theorem dX1_schemes_43 : decode cX1_schemes 43 = .ok (.aload_n 2, 1) := dk_44 (dk_at dksX1_schemes_1 19 rfl rfl)
theorem dX1_schemes_44 : decode cX1_schemes 44 = .ok (.aastore, 1) := dk_83 (dk_at dksX1_schemes_1 20 rfl rfl)
theorem dX1_schemes_45 : decode cX1_schemes 45 = .ok (.invokestatic 35, 3) := dk_184 0 35 (dk_at dksX1_schemes_1 21 rfl rfl)
theorem dX1_schemes_48 : decode cX1_schemes 48 = .ok (.aastore, 1) := dk_83 (dk_at dksX1_schemes_2 0 rfl rfl)
theorem dX1_schemes_49 : decode cX1_schemes 49 = .ok (.aload 4, 2) := dk_25 4 (dk_at dksX1_schemes_2 1 rfl rfl)
theorem dX1_schemes_51 : decode cX1_schemes 51 = .ok (.iconst 1, 1) := dk_4 (dk_at dksX1_schemes_2 3 rfl rfl)
theorem dX1_schemes_52 : decode cX1_schemes 52 = .ok (.iconst 3, 1) := dk_6 (dk_at dksX1_schemes_2 4 rfl rfl)
theorem dX1_schemes_53 : decode cX1_schemes 53 = .ok (.anewarray 33, 3) := dk_189 0 33 (dk_at dksX1_schemes_2 5 rfl rfl)
theorem dX1_schemes_56 : decode cX1_schemes 56 = .ok (.dup, 1) := dk_89 (dk_at dksX1_schemes_2 8 rfl rfl)
theorem dX1_schemes_57 : decode cX1_schemes 57 = .ok (.iconst 0, 1) := dk_3 (dk_at dksX1_schemes_2 9 rfl rfl)
theorem dX1_schemes_58 : decode cX1_schemes 58 = .ok (.aload_n 3, 1) := dk_45 (dk_at dksX1_schemes_2 10 rfl rfl)
theorem dX1_schemes_59 : decode cX1_schemes 59 = .ok (.aastore, 1) := dk_83 (dk_at dksX1_schemes_2 11 rfl rfl)
theorem dX1_schemes_60 : decode cX1_schemes 60 = .ok (.dup, 1) := dk_89 (dk_at dksX1_schemes_2 12 rfl rfl)
theorem dX1_schemes_61 : decode cX1_schemes 61 = .ok (.iconst 1, 1) := dk_4 (dk_at dksX1_schemes_2 13 rfl rfl)
theorem dX1_schemes_62 : decode cX1_schemes 62 = .ok (.aload_n 0, 1) := dk_42 (dk_at dksX1_schemes_2 14 rfl rfl)
theorem dX1_schemes_63 : decode cX1_schemes 63 = .ok (.aastore, 1) := dk_83 (dk_at dksX1_schemes_2 15 rfl rfl)
theorem dX1_schemes_64 : decode cX1_schemes 64 = .ok (.dup, 1) := dk_89 (dk_at dksX1_schemes_2 16 rfl rfl)
theorem dX1_schemes_65 : decode cX1_schemes 65 = .ok (.iconst 2, 1) := dk_5 (dk_at dksX1_schemes_2 17 rfl rfl)
theorem dX1_schemes_66 : decode cX1_schemes 66 = .ok (.aload_n 3, 1) := dk_45 (dk_at dksX1_schemes_2 18 rfl rfl)
theorem dX1_schemes_67 : decode cX1_schemes 67 = .ok (.aastore, 1) := dk_83 (dk_at dksX1_schemes_2 19 rfl rfl)
theorem dX1_schemes_68 : decode cX1_schemes 68 = .ok (.invokestatic 35, 3) := dk_184 0 35 (dk_at dksX1_schemes_2 20 rfl rfl)
theorem dX1_schemes_71 : decode cX1_schemes 71 = .ok (.aastore, 1) := dk_83 (dk_at dksX1_schemes_2 23 rfl rfl)
theorem dX1_schemes_72 : decode cX1_schemes 72 = .ok (.aload 4, 2) := dk_25 4 (dk_at dksX1_schemes_3 0 rfl rfl)
theorem dX1_schemes_74 : decode cX1_schemes 74 = .ok (.iconst 2, 1) := dk_5 (dk_at dksX1_schemes_3 2 rfl rfl)
theorem dX1_schemes_75 : decode cX1_schemes 75 = .ok (.iconst 3, 1) := dk_6 (dk_at dksX1_schemes_3 3 rfl rfl)
theorem dX1_schemes_76 : decode cX1_schemes 76 = .ok (.anewarray 33, 3) := dk_189 0 33 (dk_at dksX1_schemes_3 4 rfl rfl)
theorem dX1_schemes_79 : decode cX1_schemes 79 = .ok (.dup, 1) := dk_89 (dk_at dksX1_schemes_3 7 rfl rfl)
theorem dX1_schemes_80 : decode cX1_schemes 80 = .ok (.iconst 0, 1) := dk_3 (dk_at dksX1_schemes_3 8 rfl rfl)
theorem dX1_schemes_81 : decode cX1_schemes 81 = .ok (.aload_n 1, 1) := dk_43 (dk_at dksX1_schemes_3 9 rfl rfl)
theorem dX1_schemes_82 : decode cX1_schemes 82 = .ok (.aastore, 1) := dk_83 (dk_at dksX1_schemes_3 10 rfl rfl)
theorem dX1_schemes_83 : decode cX1_schemes 83 = .ok (.dup, 1) := dk_89 (dk_at dksX1_schemes_3 11 rfl rfl)
theorem dX1_schemes_84 : decode cX1_schemes 84 = .ok (.iconst 1, 1) := dk_4 (dk_at dksX1_schemes_3 12 rfl rfl)
theorem dX1_schemes_85 : decode cX1_schemes 85 = .ok (.aload_n 2, 1) := dk_44 (dk_at dksX1_schemes_3 13 rfl rfl)
theorem dX1_schemes_86 : decode cX1_schemes 86 = .ok (.aastore, 1) := dk_83 (dk_at dksX1_schemes_3 14 rfl rfl)
theorem dX1_schemes_87 : decode cX1_schemes 87 = .ok (.dup, 1) := dk_89 (dk_at dksX1_schemes_3 15 rfl rfl)
theorem dX1_schemes_88 : decode cX1_schemes 88 = .ok (.iconst 2, 1) := dk_5 (dk_at dksX1_schemes_3 16 rfl rfl)
theorem dX1_schemes_89 : decode cX1_schemes 89 = .ok (.aload_n 1, 1) := dk_43 (dk_at dksX1_schemes_3 17 rfl rfl)
theorem dX1_schemes_90 : decode cX1_schemes 90 = .ok (.aastore, 1) := dk_83 (dk_at dksX1_schemes_3 18 rfl rfl)
theorem dX1_schemes_91 : decode cX1_schemes 91 = .ok (.invokestatic 35, 3) := dk_184 0 35 (dk_at dksX1_schemes_3 19 rfl rfl)
theorem dX1_schemes_94 : decode cX1_schemes 94 = .ok (.aastore, 1) := dk_83 (dk_at dksX1_schemes_3 22 rfl rfl)
theorem dX1_schemes_95 : decode cX1_schemes 95 = .ok (.aload 4, 2) := dk_25 4 (dk_at dksX1_schemes_4 0 rfl rfl)
theorem dX1_schemes_97 : decode cX1_schemes 97 = .ok (.areturn, 1) := dk_176 (dk_at dksX1_schemes_4 2 rfl rfl)
abbrev cX1_lambda_schemes_0 : ByteArray := prog_1_method_78_code
def yX1_lambda_schemes_0 : MethodName := ⟨RX1, "lambda$schemes$0", "(LThreeBodies$Bodies;I)V"⟩
def dkwX1_lambda_schemes_0_0 : List UInt8 := [42, 27, 4, 182, 1, 253, 177]
abbrev dktX1_lambda_schemes_0_0 : List UInt8 := dkwX1_lambda_schemes_0_0 ++ []
theorem dksX1_lambda_schemes_0_0 : cX1_lambda_schemes_0.data.toList.drop 0 = dktX1_lambda_schemes_0_0 := by decide +kernel
theorem dX1_lambda_schemes_0_0 : decode cX1_lambda_schemes_0 0 = .ok (.aload_n 0, 1) := dk_42 (dk_at dksX1_lambda_schemes_0_0 0 rfl rfl)
theorem dX1_lambda_schemes_0_1 : decode cX1_lambda_schemes_0 1 = .ok (.iload_n 1, 1) := dk_27 (dk_at dksX1_lambda_schemes_0_0 1 rfl rfl)
theorem dX1_lambda_schemes_0_2 : decode cX1_lambda_schemes_0 2 = .ok (.iconst 1, 1) := dk_4 (dk_at dksX1_lambda_schemes_0_0 2 rfl rfl)
theorem dX1_lambda_schemes_0_3 : decode cX1_lambda_schemes_0 3 = .ok (.invokevirtual 509, 3) := dk_182 1 253 (dk_at dksX1_lambda_schemes_0_0 3 rfl rfl)
theorem dX1_lambda_schemes_0_6 : decode cX1_lambda_schemes_0 6 = .ok (.return_, 1) := dk_177 (dk_at dksX1_lambda_schemes_0_0 6 rfl rfl)
abbrev cX1_inRange : ByteArray := prog_1_method_1_code
def yX1_inRange : MethodName := ⟨RX1, "inRange", "(JJJ)Z"⟩
def dkwX1_inRange_0 : List UInt8 := [32, 30, 148, 157, 0, 14, 30, 22, 4, 148, 157, 0, 7, 4, 167, 0, 4, 3, 172]
abbrev dktX1_inRange_0 : List UInt8 := dkwX1_inRange_0 ++ []
theorem dksX1_inRange_0 : cX1_inRange.data.toList.drop 0 = dktX1_inRange_0 := by decide +kernel
theorem dX1_inRange_0 : decode cX1_inRange 0 = .ok (.lload_n 2, 1) := dk_32 (dk_at dksX1_inRange_0 0 rfl rfl)
theorem dX1_inRange_1 : decode cX1_inRange 1 = .ok (.lload_n 0, 1) := dk_30 (dk_at dksX1_inRange_0 1 rfl rfl)
theorem dX1_inRange_2 : decode cX1_inRange 2 = .ok (.lcmp, 1) := dk_148 (dk_at dksX1_inRange_0 2 rfl rfl)
theorem dX1_inRange_3 : decode cX1_inRange 3 = .ok (.ifCond .gt 14, 3) := dk_157 0 14 (dk_at dksX1_inRange_0 3 rfl rfl)
theorem dX1_inRange_6 : decode cX1_inRange 6 = .ok (.lload_n 0, 1) := dk_30 (dk_at dksX1_inRange_0 6 rfl rfl)
theorem dX1_inRange_7 : decode cX1_inRange 7 = .ok (.lload 4, 2) := dk_22 4 (dk_at dksX1_inRange_0 7 rfl rfl)
theorem dX1_inRange_9 : decode cX1_inRange 9 = .ok (.lcmp, 1) := dk_148 (dk_at dksX1_inRange_0 9 rfl rfl)
theorem dX1_inRange_10 : decode cX1_inRange 10 = .ok (.ifCond .gt 7, 3) := dk_157 0 7 (dk_at dksX1_inRange_0 10 rfl rfl)
theorem dX1_inRange_13 : decode cX1_inRange 13 = .ok (.iconst 1, 1) := dk_4 (dk_at dksX1_inRange_0 13 rfl rfl)
theorem dX1_inRange_14 : decode cX1_inRange 14 = .ok (.goto 4, 3) := dk_167 0 4 (dk_at dksX1_inRange_0 14 rfl rfl)
theorem dX1_inRange_17 : decode cX1_inRange 17 = .ok (.iconst 0, 1) := dk_3 (dk_at dksX1_inRange_0 17 rfl rfl)
theorem dX1_inRange_18 : decode cX1_inRange 18 = .ok (.ireturn, 1) := dk_172 (dk_at dksX1_inRange_0 18 rfl rfl)
abbrev cX1_lambda_schemes_1 : ByteArray := prog_1_method_77_code
def yX1_lambda_schemes_1 : MethodName := ⟨RX1, "lambda$schemes$1", "(LThreeBodies$Bodies;I)V"⟩
def dkwX1_lambda_schemes_1_0 : List UInt8 := [42, 27, 5, 182, 1, 253, 177]
abbrev dktX1_lambda_schemes_1_0 : List UInt8 := dkwX1_lambda_schemes_1_0 ++ []
theorem dksX1_lambda_schemes_1_0 : cX1_lambda_schemes_1.data.toList.drop 0 = dktX1_lambda_schemes_1_0 := by decide +kernel
theorem dX1_lambda_schemes_1_0 : decode cX1_lambda_schemes_1 0 = .ok (.aload_n 0, 1) := dk_42 (dk_at dksX1_lambda_schemes_1_0 0 rfl rfl)
theorem dX1_lambda_schemes_1_1 : decode cX1_lambda_schemes_1 1 = .ok (.iload_n 1, 1) := dk_27 (dk_at dksX1_lambda_schemes_1_0 1 rfl rfl)
theorem dX1_lambda_schemes_1_2 : decode cX1_lambda_schemes_1 2 = .ok (.iconst 2, 1) := dk_5 (dk_at dksX1_lambda_schemes_1_0 2 rfl rfl)
theorem dX1_lambda_schemes_1_3 : decode cX1_lambda_schemes_1 3 = .ok (.invokevirtual 509, 3) := dk_182 1 253 (dk_at dksX1_lambda_schemes_1_0 3 rfl rfl)
theorem dX1_lambda_schemes_1_6 : decode cX1_lambda_schemes_1 6 = .ok (.return_, 1) := dk_177 (dk_at dksX1_lambda_schemes_1_0 6 rfl rfl)
abbrev cX1_lambda_schemes_2 : ByteArray := prog_1_method_76_code
def yX1_lambda_schemes_2 : MethodName := ⟨RX1, "lambda$schemes$2", "(LThreeBodies$Bodies;I)V"⟩
def dkwX1_lambda_schemes_2_0 : List UInt8 := [42, 27, 4, 182, 1, 250, 177]
abbrev dktX1_lambda_schemes_2_0 : List UInt8 := dkwX1_lambda_schemes_2_0 ++ []
theorem dksX1_lambda_schemes_2_0 : cX1_lambda_schemes_2.data.toList.drop 0 = dktX1_lambda_schemes_2_0 := by decide +kernel
theorem dX1_lambda_schemes_2_0 : decode cX1_lambda_schemes_2 0 = .ok (.aload_n 0, 1) := dk_42 (dk_at dksX1_lambda_schemes_2_0 0 rfl rfl)
theorem dX1_lambda_schemes_2_1 : decode cX1_lambda_schemes_2 1 = .ok (.iload_n 1, 1) := dk_27 (dk_at dksX1_lambda_schemes_2_0 1 rfl rfl)
theorem dX1_lambda_schemes_2_2 : decode cX1_lambda_schemes_2 2 = .ok (.iconst 1, 1) := dk_4 (dk_at dksX1_lambda_schemes_2_0 2 rfl rfl)
theorem dX1_lambda_schemes_2_3 : decode cX1_lambda_schemes_2 3 = .ok (.invokevirtual 506, 3) := dk_182 1 250 (dk_at dksX1_lambda_schemes_2_0 3 rfl rfl)
theorem dX1_lambda_schemes_2_6 : decode cX1_lambda_schemes_2 6 = .ok (.return_, 1) := dk_177 (dk_at dksX1_lambda_schemes_2_0 6 rfl rfl)
abbrev cX1_lambda_schemes_3 : ByteArray := prog_1_method_75_code
def yX1_lambda_schemes_3 : MethodName := ⟨RX1, "lambda$schemes$3", "(LThreeBodies$Bodies;I)V"⟩
def dkwX1_lambda_schemes_3_0 : List UInt8 := [42, 27, 5, 182, 1, 250, 177]
abbrev dktX1_lambda_schemes_3_0 : List UInt8 := dkwX1_lambda_schemes_3_0 ++ []
theorem dksX1_lambda_schemes_3_0 : cX1_lambda_schemes_3.data.toList.drop 0 = dktX1_lambda_schemes_3_0 := by decide +kernel
theorem dX1_lambda_schemes_3_0 : decode cX1_lambda_schemes_3 0 = .ok (.aload_n 0, 1) := dk_42 (dk_at dksX1_lambda_schemes_3_0 0 rfl rfl)
theorem dX1_lambda_schemes_3_1 : decode cX1_lambda_schemes_3 1 = .ok (.iload_n 1, 1) := dk_27 (dk_at dksX1_lambda_schemes_3_0 1 rfl rfl)
theorem dX1_lambda_schemes_3_2 : decode cX1_lambda_schemes_3 2 = .ok (.iconst 2, 1) := dk_5 (dk_at dksX1_lambda_schemes_3_0 2 rfl rfl)
theorem dX1_lambda_schemes_3_3 : decode cX1_lambda_schemes_3 3 = .ok (.invokevirtual 506, 3) := dk_182 1 250 (dk_at dksX1_lambda_schemes_3_0 3 rfl rfl)
theorem dX1_lambda_schemes_3_6 : decode cX1_lambda_schemes_3 6 = .ok (.return_, 1) := dk_177 (dk_at dksX1_lambda_schemes_3_0 6 rfl rfl)
abbrev cX1_row : ByteArray := prog_1_method_7_code
def yX1_row : MethodName := ⟨RX1, "row", "([LThreeBodies$Part;)[LThreeBodies$Part;"⟩
theorem dX1_row_0 : decode cX1_row 0 = .ok (.aload_n 0, 1) := by decide +kernel
theorem dX1_row_1 : decode cX1_row 1 = .ok (.areturn, 1) := by decide +kernel
abbrev cX1_measures : ByteArray := prog_1_method_8_code
def yX1_measures : MethodName := ⟨RX1, "measures", "()[LThreeBodies$Measure;"⟩
def dkwX1_measures_1 : List UInt8 := [186, 0, 48, 0, 0, 83, 42, 6, 186, 0, 49, 0, 0, 83, 42, 176]
abbrev dktX1_measures_1 : List UInt8 := dkwX1_measures_1 ++ []
def dkwX1_measures_0 : List UInt8 := [7, 189, 0, 41, 75, 42, 3, 186, 0, 43, 0, 0, 83, 42, 4, 186, 0, 47, 0, 0, 83, 42, 5]
abbrev dktX1_measures_0 : List UInt8 := dkwX1_measures_0 ++ dktX1_measures_1
theorem dksX1_measures_0 : cX1_measures.data.toList.drop 0 = dktX1_measures_0 := by decide +kernel
theorem dksX1_measures_1 : cX1_measures.data.toList.drop 23 = dktX1_measures_1 := dk_seg dksX1_measures_0 23 rfl rfl
theorem dX1_measures_0 : decode cX1_measures 0 = .ok (.iconst 4, 1) := dk_7 (dk_at dksX1_measures_0 0 rfl rfl)
theorem dX1_measures_1 : decode cX1_measures 1 = .ok (.anewarray 41, 3) := dk_189 0 41 (dk_at dksX1_measures_0 1 rfl rfl)
theorem dX1_measures_4 : decode cX1_measures 4 = .ok (.astore_n 0, 1) := dk_75 (dk_at dksX1_measures_0 4 rfl rfl)
theorem dX1_measures_5 : decode cX1_measures 5 = .ok (.aload_n 0, 1) := dk_42 (dk_at dksX1_measures_0 5 rfl rfl)
theorem dX1_measures_6 : decode cX1_measures 6 = .ok (.iconst 0, 1) := dk_3 (dk_at dksX1_measures_0 6 rfl rfl)
theorem dX1_measures_7 : decode cX1_measures 7 = .ok (.invokedynamic 43, 5) := by decide +kernel
theorem dX1_measures_12 : decode cX1_measures 12 = .ok (.aastore, 1) := dk_83 (dk_at dksX1_measures_0 12 rfl rfl)
theorem dX1_measures_13 : decode cX1_measures 13 = .ok (.aload_n 0, 1) := dk_42 (dk_at dksX1_measures_0 13 rfl rfl)
theorem dX1_measures_14 : decode cX1_measures 14 = .ok (.iconst 1, 1) := dk_4 (dk_at dksX1_measures_0 14 rfl rfl)
theorem dX1_measures_15 : decode cX1_measures 15 = .ok (.invokedynamic 47, 5) := by decide +kernel
theorem dX1_measures_20 : decode cX1_measures 20 = .ok (.aastore, 1) := dk_83 (dk_at dksX1_measures_0 20 rfl rfl)
theorem dX1_measures_21 : decode cX1_measures 21 = .ok (.aload_n 0, 1) := dk_42 (dk_at dksX1_measures_0 21 rfl rfl)
theorem dX1_measures_22 : decode cX1_measures 22 = .ok (.iconst 2, 1) := dk_5 (dk_at dksX1_measures_0 22 rfl rfl)
theorem dX1_measures_23 : decode cX1_measures 23 = .ok (.invokedynamic 48, 5) := by decide +kernel
theorem dX1_measures_28 : decode cX1_measures 28 = .ok (.aastore, 1) := dk_83 (dk_at dksX1_measures_1 5 rfl rfl)
theorem dX1_measures_29 : decode cX1_measures 29 = .ok (.aload_n 0, 1) := dk_42 (dk_at dksX1_measures_1 6 rfl rfl)
theorem dX1_measures_30 : decode cX1_measures 30 = .ok (.iconst 3, 1) := dk_6 (dk_at dksX1_measures_1 7 rfl rfl)
theorem dX1_measures_31 : decode cX1_measures 31 = .ok (.invokedynamic 49, 5) := by decide +kernel
theorem dX1_measures_36 : decode cX1_measures 36 = .ok (.aastore, 1) := dk_83 (dk_at dksX1_measures_1 13 rfl rfl)
theorem dX1_measures_37 : decode cX1_measures 37 = .ok (.aload_n 0, 1) := dk_42 (dk_at dksX1_measures_1 14 rfl rfl)
theorem dX1_measures_38 : decode cX1_measures 38 = .ok (.areturn, 1) := dk_176 (dk_at dksX1_measures_1 15 rfl rfl)
abbrev cX1_lambda_measures_4 : ByteArray := prog_1_method_74_code
def yX1_lambda_measures_4 : MethodName := ⟨RX1, "lambda$measures$4", "(LThreeBodies$Path;I)I"⟩
def dkwX1_lambda_measures_4_0 : List UInt8 := [42, 27, 184, 1, 247, 172]
abbrev dktX1_lambda_measures_4_0 : List UInt8 := dkwX1_lambda_measures_4_0 ++ []
theorem dksX1_lambda_measures_4_0 : cX1_lambda_measures_4.data.toList.drop 0 = dktX1_lambda_measures_4_0 := by decide +kernel
theorem dX1_lambda_measures_4_0 : decode cX1_lambda_measures_4 0 = .ok (.aload_n 0, 1) := dk_42 (dk_at dksX1_lambda_measures_4_0 0 rfl rfl)
theorem dX1_lambda_measures_4_1 : decode cX1_lambda_measures_4 1 = .ok (.iload_n 1, 1) := dk_27 (dk_at dksX1_lambda_measures_4_0 1 rfl rfl)
theorem dX1_lambda_measures_4_2 : decode cX1_lambda_measures_4 2 = .ok (.invokestatic 503, 3) := dk_184 1 247 (dk_at dksX1_lambda_measures_4_0 2 rfl rfl)
theorem dX1_lambda_measures_4_5 : decode cX1_lambda_measures_4 5 = .ok (.ireturn, 1) := dk_172 (dk_at dksX1_lambda_measures_4_0 5 rfl rfl)
abbrev cX1_chaseError : ByteArray := prog_1_method_9_code
def yX1_chaseError : MethodName := ⟨RX1, "chaseError", "(LThreeBodies$Path;I)I"⟩
def dkwX1_chaseError_3 : List UInt8 := [184, 0, 20, 61, 132, 4, 1, 167, 255, 189, 132, 3, 1, 167, 255, 175, 28, 172]
abbrev dktX1_chaseError_3 : List UInt8 := dkwX1_chaseError_3 ++ []
def dkwX1_chaseError_2 : List UInt8 := [46, 100, 42, 180, 0, 56, 21, 4, 50, 29, 46, 42, 180, 0, 56, 3, 50, 21, 5, 46, 100, 184, 0, 59]
abbrev dktX1_chaseError_2 : List UInt8 := dkwX1_chaseError_2 ++ dktX1_chaseError_3
def dkwX1_chaseError_1 : List UInt8 := [104, 96, 27, 112, 54, 5, 28, 42, 180, 0, 50, 21, 4, 50, 29, 46, 42, 180, 0, 50, 3, 50, 21, 5]
abbrev dktX1_chaseError_1 : List UInt8 := dkwX1_chaseError_1 ++ dktX1_chaseError_2
def dkwX1_chaseError_0 : List UInt8 := [3, 61, 3, 62, 29, 27, 162, 0, 82, 4, 54, 4, 21, 4, 6, 162, 0, 67, 29, 21, 4, 27, 6, 108]
abbrev dktX1_chaseError_0 : List UInt8 := dkwX1_chaseError_0 ++ dktX1_chaseError_1
theorem dksX1_chaseError_0 : cX1_chaseError.data.toList.drop 0 = dktX1_chaseError_0 := by decide +kernel
theorem dksX1_chaseError_1 : cX1_chaseError.data.toList.drop 24 = dktX1_chaseError_1 := dk_seg dksX1_chaseError_0 24 rfl rfl
theorem dksX1_chaseError_2 : cX1_chaseError.data.toList.drop 48 = dktX1_chaseError_2 := dk_seg dksX1_chaseError_1 24 rfl rfl
theorem dksX1_chaseError_3 : cX1_chaseError.data.toList.drop 72 = dktX1_chaseError_3 := dk_seg dksX1_chaseError_2 24 rfl rfl
theorem dX1_chaseError_0 : decode cX1_chaseError 0 = .ok (.iconst 0, 1) := dk_3 (dk_at dksX1_chaseError_0 0 rfl rfl)
theorem dX1_chaseError_1 : decode cX1_chaseError 1 = .ok (.istore_n 2, 1) := dk_61 (dk_at dksX1_chaseError_0 1 rfl rfl)
theorem dX1_chaseError_2 : decode cX1_chaseError 2 = .ok (.iconst 0, 1) := dk_3 (dk_at dksX1_chaseError_0 2 rfl rfl)
theorem dX1_chaseError_3 : decode cX1_chaseError 3 = .ok (.istore_n 3, 1) := dk_62 (dk_at dksX1_chaseError_0 3 rfl rfl)
theorem dX1_chaseError_4 : decode cX1_chaseError 4 = .ok (.iload_n 3, 1) := dk_29 (dk_at dksX1_chaseError_0 4 rfl rfl)
theorem dX1_chaseError_5 : decode cX1_chaseError 5 = .ok (.iload_n 1, 1) := dk_27 (dk_at dksX1_chaseError_0 5 rfl rfl)
theorem dX1_chaseError_6 : decode cX1_chaseError 6 = .ok (.if_icmp .ge 82, 3) := dk_162 0 82 (dk_at dksX1_chaseError_0 6 rfl rfl)
theorem dX1_chaseError_9 : decode cX1_chaseError 9 = .ok (.iconst 1, 1) := dk_4 (dk_at dksX1_chaseError_0 9 rfl rfl)
theorem dX1_chaseError_10 : decode cX1_chaseError 10 = .ok (.istore 4, 2) := dk_54 4 (dk_at dksX1_chaseError_0 10 rfl rfl)
theorem dX1_chaseError_12 : decode cX1_chaseError 12 = .ok (.iload 4, 2) := dk_21 4 (dk_at dksX1_chaseError_0 12 rfl rfl)
theorem dX1_chaseError_14 : decode cX1_chaseError 14 = .ok (.iconst 3, 1) := dk_6 (dk_at dksX1_chaseError_0 14 rfl rfl)
theorem dX1_chaseError_15 : decode cX1_chaseError 15 = .ok (.if_icmp .ge 67, 3) := dk_162 0 67 (dk_at dksX1_chaseError_0 15 rfl rfl)
theorem dX1_chaseError_18 : decode cX1_chaseError 18 = .ok (.iload_n 3, 1) := dk_29 (dk_at dksX1_chaseError_0 18 rfl rfl)
theorem dX1_chaseError_19 : decode cX1_chaseError 19 = .ok (.iload 4, 2) := dk_21 4 (dk_at dksX1_chaseError_0 19 rfl rfl)
theorem dX1_chaseError_21 : decode cX1_chaseError 21 = .ok (.iload_n 1, 1) := dk_27 (dk_at dksX1_chaseError_0 21 rfl rfl)
theorem dX1_chaseError_22 : decode cX1_chaseError 22 = .ok (.iconst 3, 1) := dk_6 (dk_at dksX1_chaseError_0 22 rfl rfl)
theorem dX1_chaseError_23 : decode cX1_chaseError 23 = .ok (.idiv, 1) := dk_108 (dk_at dksX1_chaseError_0 23 rfl rfl)
theorem dX1_chaseError_24 : decode cX1_chaseError 24 = .ok (.imul, 1) := dk_104 (dk_at dksX1_chaseError_1 0 rfl rfl)
theorem dX1_chaseError_25 : decode cX1_chaseError 25 = .ok (.iadd, 1) := dk_96 (dk_at dksX1_chaseError_1 1 rfl rfl)
theorem dX1_chaseError_26 : decode cX1_chaseError 26 = .ok (.iload_n 1, 1) := dk_27 (dk_at dksX1_chaseError_1 2 rfl rfl)
theorem dX1_chaseError_27 : decode cX1_chaseError 27 = .ok (.irem, 1) := dk_112 (dk_at dksX1_chaseError_1 3 rfl rfl)
theorem dX1_chaseError_28 : decode cX1_chaseError 28 = .ok (.istore 5, 2) := dk_54 5 (dk_at dksX1_chaseError_1 4 rfl rfl)
theorem dX1_chaseError_30 : decode cX1_chaseError 30 = .ok (.iload_n 2, 1) := dk_28 (dk_at dksX1_chaseError_1 6 rfl rfl)
theorem dX1_chaseError_31 : decode cX1_chaseError 31 = .ok (.aload_n 0, 1) := dk_42 (dk_at dksX1_chaseError_1 7 rfl rfl)
theorem dX1_chaseError_32 : decode cX1_chaseError 32 = .ok (.getfield 50, 3) := dk_180 0 50 (dk_at dksX1_chaseError_1 8 rfl rfl)
theorem dX1_chaseError_35 : decode cX1_chaseError 35 = .ok (.iload 4, 2) := dk_21 4 (dk_at dksX1_chaseError_1 11 rfl rfl)
theorem dX1_chaseError_37 : decode cX1_chaseError 37 = .ok (.aaload, 1) := dk_50 (dk_at dksX1_chaseError_1 13 rfl rfl)
theorem dX1_chaseError_38 : decode cX1_chaseError 38 = .ok (.iload_n 3, 1) := dk_29 (dk_at dksX1_chaseError_1 14 rfl rfl)
theorem dX1_chaseError_39 : decode cX1_chaseError 39 = .ok (.iaload, 1) := dk_46 (dk_at dksX1_chaseError_1 15 rfl rfl)
theorem dX1_chaseError_40 : decode cX1_chaseError 40 = .ok (.aload_n 0, 1) := dk_42 (dk_at dksX1_chaseError_1 16 rfl rfl)
theorem dX1_chaseError_41 : decode cX1_chaseError 41 = .ok (.getfield 50, 3) := dk_180 0 50 (dk_at dksX1_chaseError_1 17 rfl rfl)
theorem dX1_chaseError_44 : decode cX1_chaseError 44 = .ok (.iconst 0, 1) := dk_3 (dk_at dksX1_chaseError_1 20 rfl rfl)
theorem dX1_chaseError_45 : decode cX1_chaseError 45 = .ok (.aaload, 1) := dk_50 (dk_at dksX1_chaseError_1 21 rfl rfl)
theorem dX1_chaseError_46 : decode cX1_chaseError 46 = .ok (.iload 5, 2) := dk_21 5 (dk_at dksX1_chaseError_1 22 rfl rfl)
theorem dX1_chaseError_48 : decode cX1_chaseError 48 = .ok (.iaload, 1) := dk_46 (dk_at dksX1_chaseError_2 0 rfl rfl)
theorem dX1_chaseError_49 : decode cX1_chaseError 49 = .ok (.isub, 1) := dk_100 (dk_at dksX1_chaseError_2 1 rfl rfl)
theorem dX1_chaseError_50 : decode cX1_chaseError 50 = .ok (.aload_n 0, 1) := dk_42 (dk_at dksX1_chaseError_2 2 rfl rfl)
theorem dX1_chaseError_51 : decode cX1_chaseError 51 = .ok (.getfield 56, 3) := dk_180 0 56 (dk_at dksX1_chaseError_2 3 rfl rfl)
theorem dX1_chaseError_54 : decode cX1_chaseError 54 = .ok (.iload 4, 2) := dk_21 4 (dk_at dksX1_chaseError_2 6 rfl rfl)
theorem dX1_chaseError_56 : decode cX1_chaseError 56 = .ok (.aaload, 1) := dk_50 (dk_at dksX1_chaseError_2 8 rfl rfl)
theorem dX1_chaseError_57 : decode cX1_chaseError 57 = .ok (.iload_n 3, 1) := dk_29 (dk_at dksX1_chaseError_2 9 rfl rfl)
theorem dX1_chaseError_58 : decode cX1_chaseError 58 = .ok (.iaload, 1) := dk_46 (dk_at dksX1_chaseError_2 10 rfl rfl)
theorem dX1_chaseError_59 : decode cX1_chaseError 59 = .ok (.aload_n 0, 1) := dk_42 (dk_at dksX1_chaseError_2 11 rfl rfl)
theorem dX1_chaseError_60 : decode cX1_chaseError 60 = .ok (.getfield 56, 3) := dk_180 0 56 (dk_at dksX1_chaseError_2 12 rfl rfl)
theorem dX1_chaseError_63 : decode cX1_chaseError 63 = .ok (.iconst 0, 1) := dk_3 (dk_at dksX1_chaseError_2 15 rfl rfl)
theorem dX1_chaseError_64 : decode cX1_chaseError 64 = .ok (.aaload, 1) := dk_50 (dk_at dksX1_chaseError_2 16 rfl rfl)
theorem dX1_chaseError_65 : decode cX1_chaseError 65 = .ok (.iload 5, 2) := dk_21 5 (dk_at dksX1_chaseError_2 17 rfl rfl)
theorem dX1_chaseError_67 : decode cX1_chaseError 67 = .ok (.iaload, 1) := dk_46 (dk_at dksX1_chaseError_2 19 rfl rfl)
theorem dX1_chaseError_68 : decode cX1_chaseError 68 = .ok (.isub, 1) := dk_100 (dk_at dksX1_chaseError_2 20 rfl rfl)
theorem dX1_chaseError_69 : decode cX1_chaseError 69 = .ok (.invokestatic 59, 3) := dk_184 0 59 (dk_at dksX1_chaseError_2 21 rfl rfl)
theorem dX1_chaseError_72 : decode cX1_chaseError 72 = .ok (.invokestatic 20, 3) := dk_184 0 20 (dk_at dksX1_chaseError_3 0 rfl rfl)
theorem dX1_chaseError_75 : decode cX1_chaseError 75 = .ok (.istore_n 2, 1) := dk_61 (dk_at dksX1_chaseError_3 3 rfl rfl)
theorem dX1_chaseError_76 : decode cX1_chaseError 76 = .ok (.iinc 4 1, 3) := dk_132 4 1 (dk_at dksX1_chaseError_3 4 rfl rfl)
theorem dX1_chaseError_79 : decode cX1_chaseError 79 = .ok (.goto (-67), 3) := dk_167 255 189 (dk_at dksX1_chaseError_3 7 rfl rfl)
theorem dX1_chaseError_82 : decode cX1_chaseError 82 = .ok (.iinc 3 1, 3) := dk_132 3 1 (dk_at dksX1_chaseError_3 10 rfl rfl)
theorem dX1_chaseError_85 : decode cX1_chaseError 85 = .ok (.goto (-81), 3) := dk_167 255 175 (dk_at dksX1_chaseError_3 13 rfl rfl)
theorem dX1_chaseError_88 : decode cX1_chaseError 88 = .ok (.iload_n 2, 1) := dk_28 (dk_at dksX1_chaseError_3 16 rfl rfl)
theorem dX1_chaseError_89 : decode cX1_chaseError 89 = .ok (.ireturn, 1) := dk_172 (dk_at dksX1_chaseError_3 17 rfl rfl)
abbrev cX1_gap : ByteArray := prog_1_method_5_code
def yX1_gap : MethodName := ⟨RX1, "gap", "(II)I"⟩
def dkwX1_gap_0 : List UInt8 := [26, 184, 0, 14, 27, 184, 0, 14, 184, 0, 20, 172]
abbrev dktX1_gap_0 : List UInt8 := dkwX1_gap_0 ++ []
theorem dksX1_gap_0 : cX1_gap.data.toList.drop 0 = dktX1_gap_0 := by decide +kernel
theorem dX1_gap_0 : decode cX1_gap 0 = .ok (.iload_n 0, 1) := dk_26 (dk_at dksX1_gap_0 0 rfl rfl)
theorem dX1_gap_1 : decode cX1_gap 1 = .ok (.invokestatic 14, 3) := dk_184 0 14 (dk_at dksX1_gap_0 1 rfl rfl)
theorem dX1_gap_4 : decode cX1_gap 4 = .ok (.iload_n 1, 1) := dk_27 (dk_at dksX1_gap_0 4 rfl rfl)
theorem dX1_gap_5 : decode cX1_gap 5 = .ok (.invokestatic 14, 3) := dk_184 0 14 (dk_at dksX1_gap_0 5 rfl rfl)
theorem dX1_gap_8 : decode cX1_gap 8 = .ok (.invokestatic 20, 3) := dk_184 0 20 (dk_at dksX1_gap_0 8 rfl rfl)
theorem dX1_gap_11 : decode cX1_gap 11 = .ok (.ireturn, 1) := dk_172 (dk_at dksX1_gap_0 11 rfl rfl)
abbrev cX1_lambda_measures_5 : ByteArray := prog_1_method_73_code
def yX1_lambda_measures_5 : MethodName := ⟨RX1, "lambda$measures$5", "(LThreeBodies$Path;I)I"⟩
def dkwX1_lambda_measures_5_0 : List UInt8 := [42, 27, 184, 1, 244, 172]
abbrev dktX1_lambda_measures_5_0 : List UInt8 := dkwX1_lambda_measures_5_0 ++ []
theorem dksX1_lambda_measures_5_0 : cX1_lambda_measures_5.data.toList.drop 0 = dktX1_lambda_measures_5_0 := by decide +kernel
theorem dX1_lambda_measures_5_0 : decode cX1_lambda_measures_5 0 = .ok (.aload_n 0, 1) := dk_42 (dk_at dksX1_lambda_measures_5_0 0 rfl rfl)
theorem dX1_lambda_measures_5_1 : decode cX1_lambda_measures_5 1 = .ok (.iload_n 1, 1) := dk_27 (dk_at dksX1_lambda_measures_5_0 1 rfl rfl)
theorem dX1_lambda_measures_5_2 : decode cX1_lambda_measures_5 2 = .ok (.invokestatic 500, 3) := dk_184 1 244 (dk_at dksX1_lambda_measures_5_0 2 rfl rfl)
theorem dX1_lambda_measures_5_5 : decode cX1_lambda_measures_5 5 = .ok (.ireturn, 1) := dk_172 (dk_at dksX1_lambda_measures_5_0 5 rfl rfl)
abbrev cX1_centreError : ByteArray := prog_1_method_10_code
def yX1_centreError : MethodName := ⟨RX1, "centreError", "(LThreeBodies$Path;I)I"⟩
def dkwX1_centreError_3 : List UInt8 := [184, 0, 20, 61, 132, 5, 1, 167, 255, 199, 132, 3, 1, 167, 255, 176, 28, 172]
abbrev dktX1_centreError_3 : List UInt8 := dkwX1_centreError_3 ++ []
def dkwX1_centreError_2 : List UInt8 := [42, 180, 0, 56, 21, 5, 50, 21, 4, 46, 42, 180, 0, 56, 21, 5, 50, 29, 46, 96, 184, 0, 59]
abbrev dktX1_centreError_2 : List UInt8 := dkwX1_centreError_2 ++ dktX1_centreError_3
def dkwX1_centreError_1 : List UInt8 := [162, 0, 57, 28, 42, 180, 0, 50, 21, 5, 50, 21, 4, 46, 42, 180, 0, 50, 21, 5, 50, 29, 46, 96]
abbrev dktX1_centreError_1 : List UInt8 := dkwX1_centreError_1 ++ dktX1_centreError_2
def dkwX1_centreError_0 : List UInt8 := [3, 61, 3, 62, 29, 27, 162, 0, 81, 29, 27, 5, 108, 96, 27, 112, 54, 4, 3, 54, 5, 21, 5, 6]
abbrev dktX1_centreError_0 : List UInt8 := dkwX1_centreError_0 ++ dktX1_centreError_1
theorem dksX1_centreError_0 : cX1_centreError.data.toList.drop 0 = dktX1_centreError_0 := by decide +kernel
theorem dksX1_centreError_1 : cX1_centreError.data.toList.drop 24 = dktX1_centreError_1 := dk_seg dksX1_centreError_0 24 rfl rfl
theorem dksX1_centreError_2 : cX1_centreError.data.toList.drop 48 = dktX1_centreError_2 := dk_seg dksX1_centreError_1 24 rfl rfl
theorem dksX1_centreError_3 : cX1_centreError.data.toList.drop 71 = dktX1_centreError_3 := dk_seg dksX1_centreError_2 23 rfl rfl
theorem dX1_centreError_0 : decode cX1_centreError 0 = .ok (.iconst 0, 1) := dk_3 (dk_at dksX1_centreError_0 0 rfl rfl)
theorem dX1_centreError_1 : decode cX1_centreError 1 = .ok (.istore_n 2, 1) := dk_61 (dk_at dksX1_centreError_0 1 rfl rfl)
theorem dX1_centreError_2 : decode cX1_centreError 2 = .ok (.iconst 0, 1) := dk_3 (dk_at dksX1_centreError_0 2 rfl rfl)
theorem dX1_centreError_3 : decode cX1_centreError 3 = .ok (.istore_n 3, 1) := dk_62 (dk_at dksX1_centreError_0 3 rfl rfl)
theorem dX1_centreError_4 : decode cX1_centreError 4 = .ok (.iload_n 3, 1) := dk_29 (dk_at dksX1_centreError_0 4 rfl rfl)
theorem dX1_centreError_5 : decode cX1_centreError 5 = .ok (.iload_n 1, 1) := dk_27 (dk_at dksX1_centreError_0 5 rfl rfl)
theorem dX1_centreError_6 : decode cX1_centreError 6 = .ok (.if_icmp .ge 81, 3) := dk_162 0 81 (dk_at dksX1_centreError_0 6 rfl rfl)
theorem dX1_centreError_9 : decode cX1_centreError 9 = .ok (.iload_n 3, 1) := dk_29 (dk_at dksX1_centreError_0 9 rfl rfl)
theorem dX1_centreError_10 : decode cX1_centreError 10 = .ok (.iload_n 1, 1) := dk_27 (dk_at dksX1_centreError_0 10 rfl rfl)
theorem dX1_centreError_11 : decode cX1_centreError 11 = .ok (.iconst 2, 1) := dk_5 (dk_at dksX1_centreError_0 11 rfl rfl)
theorem dX1_centreError_12 : decode cX1_centreError 12 = .ok (.idiv, 1) := dk_108 (dk_at dksX1_centreError_0 12 rfl rfl)
theorem dX1_centreError_13 : decode cX1_centreError 13 = .ok (.iadd, 1) := dk_96 (dk_at dksX1_centreError_0 13 rfl rfl)
theorem dX1_centreError_14 : decode cX1_centreError 14 = .ok (.iload_n 1, 1) := dk_27 (dk_at dksX1_centreError_0 14 rfl rfl)
theorem dX1_centreError_15 : decode cX1_centreError 15 = .ok (.irem, 1) := dk_112 (dk_at dksX1_centreError_0 15 rfl rfl)
theorem dX1_centreError_16 : decode cX1_centreError 16 = .ok (.istore 4, 2) := dk_54 4 (dk_at dksX1_centreError_0 16 rfl rfl)
theorem dX1_centreError_18 : decode cX1_centreError 18 = .ok (.iconst 0, 1) := dk_3 (dk_at dksX1_centreError_0 18 rfl rfl)
theorem dX1_centreError_19 : decode cX1_centreError 19 = .ok (.istore 5, 2) := dk_54 5 (dk_at dksX1_centreError_0 19 rfl rfl)
theorem dX1_centreError_21 : decode cX1_centreError 21 = .ok (.iload 5, 2) := dk_21 5 (dk_at dksX1_centreError_0 21 rfl rfl)
theorem dX1_centreError_23 : decode cX1_centreError 23 = .ok (.iconst 3, 1) := dk_6 (dk_at dksX1_centreError_0 23 rfl rfl)
theorem dX1_centreError_24 : decode cX1_centreError 24 = .ok (.if_icmp .ge 57, 3) := dk_162 0 57 (dk_at dksX1_centreError_1 0 rfl rfl)
theorem dX1_centreError_27 : decode cX1_centreError 27 = .ok (.iload_n 2, 1) := dk_28 (dk_at dksX1_centreError_1 3 rfl rfl)
theorem dX1_centreError_28 : decode cX1_centreError 28 = .ok (.aload_n 0, 1) := dk_42 (dk_at dksX1_centreError_1 4 rfl rfl)
theorem dX1_centreError_29 : decode cX1_centreError 29 = .ok (.getfield 50, 3) := dk_180 0 50 (dk_at dksX1_centreError_1 5 rfl rfl)
theorem dX1_centreError_32 : decode cX1_centreError 32 = .ok (.iload 5, 2) := dk_21 5 (dk_at dksX1_centreError_1 8 rfl rfl)
theorem dX1_centreError_34 : decode cX1_centreError 34 = .ok (.aaload, 1) := dk_50 (dk_at dksX1_centreError_1 10 rfl rfl)
theorem dX1_centreError_35 : decode cX1_centreError 35 = .ok (.iload 4, 2) := dk_21 4 (dk_at dksX1_centreError_1 11 rfl rfl)
theorem dX1_centreError_37 : decode cX1_centreError 37 = .ok (.iaload, 1) := dk_46 (dk_at dksX1_centreError_1 13 rfl rfl)
theorem dX1_centreError_38 : decode cX1_centreError 38 = .ok (.aload_n 0, 1) := dk_42 (dk_at dksX1_centreError_1 14 rfl rfl)
theorem dX1_centreError_39 : decode cX1_centreError 39 = .ok (.getfield 50, 3) := dk_180 0 50 (dk_at dksX1_centreError_1 15 rfl rfl)
theorem dX1_centreError_42 : decode cX1_centreError 42 = .ok (.iload 5, 2) := dk_21 5 (dk_at dksX1_centreError_1 18 rfl rfl)
theorem dX1_centreError_44 : decode cX1_centreError 44 = .ok (.aaload, 1) := dk_50 (dk_at dksX1_centreError_1 20 rfl rfl)
theorem dX1_centreError_45 : decode cX1_centreError 45 = .ok (.iload_n 3, 1) := dk_29 (dk_at dksX1_centreError_1 21 rfl rfl)
theorem dX1_centreError_46 : decode cX1_centreError 46 = .ok (.iaload, 1) := dk_46 (dk_at dksX1_centreError_1 22 rfl rfl)
theorem dX1_centreError_47 : decode cX1_centreError 47 = .ok (.iadd, 1) := dk_96 (dk_at dksX1_centreError_1 23 rfl rfl)
theorem dX1_centreError_48 : decode cX1_centreError 48 = .ok (.aload_n 0, 1) := dk_42 (dk_at dksX1_centreError_2 0 rfl rfl)
theorem dX1_centreError_49 : decode cX1_centreError 49 = .ok (.getfield 56, 3) := dk_180 0 56 (dk_at dksX1_centreError_2 1 rfl rfl)
theorem dX1_centreError_52 : decode cX1_centreError 52 = .ok (.iload 5, 2) := dk_21 5 (dk_at dksX1_centreError_2 4 rfl rfl)
theorem dX1_centreError_54 : decode cX1_centreError 54 = .ok (.aaload, 1) := dk_50 (dk_at dksX1_centreError_2 6 rfl rfl)
theorem dX1_centreError_55 : decode cX1_centreError 55 = .ok (.iload 4, 2) := dk_21 4 (dk_at dksX1_centreError_2 7 rfl rfl)
theorem dX1_centreError_57 : decode cX1_centreError 57 = .ok (.iaload, 1) := dk_46 (dk_at dksX1_centreError_2 9 rfl rfl)
theorem dX1_centreError_58 : decode cX1_centreError 58 = .ok (.aload_n 0, 1) := dk_42 (dk_at dksX1_centreError_2 10 rfl rfl)
theorem dX1_centreError_59 : decode cX1_centreError 59 = .ok (.getfield 56, 3) := dk_180 0 56 (dk_at dksX1_centreError_2 11 rfl rfl)
theorem dX1_centreError_62 : decode cX1_centreError 62 = .ok (.iload 5, 2) := dk_21 5 (dk_at dksX1_centreError_2 14 rfl rfl)
theorem dX1_centreError_64 : decode cX1_centreError 64 = .ok (.aaload, 1) := dk_50 (dk_at dksX1_centreError_2 16 rfl rfl)
theorem dX1_centreError_65 : decode cX1_centreError 65 = .ok (.iload_n 3, 1) := dk_29 (dk_at dksX1_centreError_2 17 rfl rfl)
theorem dX1_centreError_66 : decode cX1_centreError 66 = .ok (.iaload, 1) := dk_46 (dk_at dksX1_centreError_2 18 rfl rfl)
theorem dX1_centreError_67 : decode cX1_centreError 67 = .ok (.iadd, 1) := dk_96 (dk_at dksX1_centreError_2 19 rfl rfl)
theorem dX1_centreError_68 : decode cX1_centreError 68 = .ok (.invokestatic 59, 3) := dk_184 0 59 (dk_at dksX1_centreError_2 20 rfl rfl)
theorem dX1_centreError_71 : decode cX1_centreError 71 = .ok (.invokestatic 20, 3) := dk_184 0 20 (dk_at dksX1_centreError_3 0 rfl rfl)
theorem dX1_centreError_74 : decode cX1_centreError 74 = .ok (.istore_n 2, 1) := dk_61 (dk_at dksX1_centreError_3 3 rfl rfl)
theorem dX1_centreError_75 : decode cX1_centreError 75 = .ok (.iinc 5 1, 3) := dk_132 5 1 (dk_at dksX1_centreError_3 4 rfl rfl)
theorem dX1_centreError_78 : decode cX1_centreError 78 = .ok (.goto (-57), 3) := dk_167 255 199 (dk_at dksX1_centreError_3 7 rfl rfl)
theorem dX1_centreError_81 : decode cX1_centreError 81 = .ok (.iinc 3 1, 3) := dk_132 3 1 (dk_at dksX1_centreError_3 10 rfl rfl)
theorem dX1_centreError_84 : decode cX1_centreError 84 = .ok (.goto (-80), 3) := dk_167 255 176 (dk_at dksX1_centreError_3 13 rfl rfl)
theorem dX1_centreError_87 : decode cX1_centreError 87 = .ok (.iload_n 2, 1) := dk_28 (dk_at dksX1_centreError_3 16 rfl rfl)
theorem dX1_centreError_88 : decode cX1_centreError 88 = .ok (.ireturn, 1) := dk_172 (dk_at dksX1_centreError_3 17 rfl rfl)
abbrev cX1_lambda_measures_6 : ByteArray := prog_1_method_72_code
def yX1_lambda_measures_6 : MethodName := ⟨RX1, "lambda$measures$6", "(LThreeBodies$Path;I)I"⟩
def dkwX1_lambda_measures_6_0 : List UInt8 := [42, 27, 184, 1, 241, 172]
abbrev dktX1_lambda_measures_6_0 : List UInt8 := dkwX1_lambda_measures_6_0 ++ []
theorem dksX1_lambda_measures_6_0 : cX1_lambda_measures_6.data.toList.drop 0 = dktX1_lambda_measures_6_0 := by decide +kernel
theorem dX1_lambda_measures_6_0 : decode cX1_lambda_measures_6 0 = .ok (.aload_n 0, 1) := dk_42 (dk_at dksX1_lambda_measures_6_0 0 rfl rfl)
theorem dX1_lambda_measures_6_1 : decode cX1_lambda_measures_6 1 = .ok (.iload_n 1, 1) := dk_27 (dk_at dksX1_lambda_measures_6_0 1 rfl rfl)
theorem dX1_lambda_measures_6_2 : decode cX1_lambda_measures_6 2 = .ok (.invokestatic 497, 3) := dk_184 1 241 (dk_at dksX1_lambda_measures_6_0 2 rfl rfl)
theorem dX1_lambda_measures_6_5 : decode cX1_lambda_measures_6 5 = .ok (.ireturn, 1) := dk_172 (dk_at dksX1_lambda_measures_6_0 5 rfl rfl)
abbrev cX1_returnError : ByteArray := prog_1_method_11_code
def yX1_returnError : MethodName := ⟨RX1, "returnError", "(LThreeBodies$Path;I)I"⟩
def dkwX1_returnError_2 : List UInt8 := [184, 0, 20, 61, 132, 3, 1, 167, 255, 206, 28, 172]
abbrev dktX1_returnError_2 : List UInt8 := dkwX1_returnError_2 ++ []
def dkwX1_returnError_1 : List UInt8 := [3, 46, 100, 42, 180, 0, 56, 29, 50, 27, 46, 42, 180, 0, 56, 29, 50, 3, 46, 100, 184, 0, 59]
abbrev dktX1_returnError_1 : List UInt8 := dkwX1_returnError_1 ++ dktX1_returnError_2
def dkwX1_returnError_0 : List UInt8 := [3, 61, 3, 62, 29, 6, 162, 0, 51, 28, 42, 180, 0, 50, 29, 50, 27, 46, 42, 180, 0, 50, 29, 50]
abbrev dktX1_returnError_0 : List UInt8 := dkwX1_returnError_0 ++ dktX1_returnError_1
theorem dksX1_returnError_0 : cX1_returnError.data.toList.drop 0 = dktX1_returnError_0 := by decide +kernel
theorem dksX1_returnError_1 : cX1_returnError.data.toList.drop 24 = dktX1_returnError_1 := dk_seg dksX1_returnError_0 24 rfl rfl
theorem dksX1_returnError_2 : cX1_returnError.data.toList.drop 47 = dktX1_returnError_2 := dk_seg dksX1_returnError_1 23 rfl rfl
theorem dX1_returnError_0 : decode cX1_returnError 0 = .ok (.iconst 0, 1) := dk_3 (dk_at dksX1_returnError_0 0 rfl rfl)
theorem dX1_returnError_1 : decode cX1_returnError 1 = .ok (.istore_n 2, 1) := dk_61 (dk_at dksX1_returnError_0 1 rfl rfl)
theorem dX1_returnError_2 : decode cX1_returnError 2 = .ok (.iconst 0, 1) := dk_3 (dk_at dksX1_returnError_0 2 rfl rfl)
theorem dX1_returnError_3 : decode cX1_returnError 3 = .ok (.istore_n 3, 1) := dk_62 (dk_at dksX1_returnError_0 3 rfl rfl)
theorem dX1_returnError_4 : decode cX1_returnError 4 = .ok (.iload_n 3, 1) := dk_29 (dk_at dksX1_returnError_0 4 rfl rfl)
theorem dX1_returnError_5 : decode cX1_returnError 5 = .ok (.iconst 3, 1) := dk_6 (dk_at dksX1_returnError_0 5 rfl rfl)
theorem dX1_returnError_6 : decode cX1_returnError 6 = .ok (.if_icmp .ge 51, 3) := dk_162 0 51 (dk_at dksX1_returnError_0 6 rfl rfl)
theorem dX1_returnError_9 : decode cX1_returnError 9 = .ok (.iload_n 2, 1) := dk_28 (dk_at dksX1_returnError_0 9 rfl rfl)
theorem dX1_returnError_10 : decode cX1_returnError 10 = .ok (.aload_n 0, 1) := dk_42 (dk_at dksX1_returnError_0 10 rfl rfl)
theorem dX1_returnError_11 : decode cX1_returnError 11 = .ok (.getfield 50, 3) := dk_180 0 50 (dk_at dksX1_returnError_0 11 rfl rfl)
theorem dX1_returnError_14 : decode cX1_returnError 14 = .ok (.iload_n 3, 1) := dk_29 (dk_at dksX1_returnError_0 14 rfl rfl)
theorem dX1_returnError_15 : decode cX1_returnError 15 = .ok (.aaload, 1) := dk_50 (dk_at dksX1_returnError_0 15 rfl rfl)
theorem dX1_returnError_16 : decode cX1_returnError 16 = .ok (.iload_n 1, 1) := dk_27 (dk_at dksX1_returnError_0 16 rfl rfl)
theorem dX1_returnError_17 : decode cX1_returnError 17 = .ok (.iaload, 1) := dk_46 (dk_at dksX1_returnError_0 17 rfl rfl)
theorem dX1_returnError_18 : decode cX1_returnError 18 = .ok (.aload_n 0, 1) := dk_42 (dk_at dksX1_returnError_0 18 rfl rfl)
theorem dX1_returnError_19 : decode cX1_returnError 19 = .ok (.getfield 50, 3) := dk_180 0 50 (dk_at dksX1_returnError_0 19 rfl rfl)
theorem dX1_returnError_22 : decode cX1_returnError 22 = .ok (.iload_n 3, 1) := dk_29 (dk_at dksX1_returnError_0 22 rfl rfl)
theorem dX1_returnError_23 : decode cX1_returnError 23 = .ok (.aaload, 1) := dk_50 (dk_at dksX1_returnError_0 23 rfl rfl)
theorem dX1_returnError_24 : decode cX1_returnError 24 = .ok (.iconst 0, 1) := dk_3 (dk_at dksX1_returnError_1 0 rfl rfl)
theorem dX1_returnError_25 : decode cX1_returnError 25 = .ok (.iaload, 1) := dk_46 (dk_at dksX1_returnError_1 1 rfl rfl)
theorem dX1_returnError_26 : decode cX1_returnError 26 = .ok (.isub, 1) := dk_100 (dk_at dksX1_returnError_1 2 rfl rfl)
theorem dX1_returnError_27 : decode cX1_returnError 27 = .ok (.aload_n 0, 1) := dk_42 (dk_at dksX1_returnError_1 3 rfl rfl)
theorem dX1_returnError_28 : decode cX1_returnError 28 = .ok (.getfield 56, 3) := dk_180 0 56 (dk_at dksX1_returnError_1 4 rfl rfl)
theorem dX1_returnError_31 : decode cX1_returnError 31 = .ok (.iload_n 3, 1) := dk_29 (dk_at dksX1_returnError_1 7 rfl rfl)
theorem dX1_returnError_32 : decode cX1_returnError 32 = .ok (.aaload, 1) := dk_50 (dk_at dksX1_returnError_1 8 rfl rfl)
theorem dX1_returnError_33 : decode cX1_returnError 33 = .ok (.iload_n 1, 1) := dk_27 (dk_at dksX1_returnError_1 9 rfl rfl)
theorem dX1_returnError_34 : decode cX1_returnError 34 = .ok (.iaload, 1) := dk_46 (dk_at dksX1_returnError_1 10 rfl rfl)
theorem dX1_returnError_35 : decode cX1_returnError 35 = .ok (.aload_n 0, 1) := dk_42 (dk_at dksX1_returnError_1 11 rfl rfl)
theorem dX1_returnError_36 : decode cX1_returnError 36 = .ok (.getfield 56, 3) := dk_180 0 56 (dk_at dksX1_returnError_1 12 rfl rfl)
theorem dX1_returnError_39 : decode cX1_returnError 39 = .ok (.iload_n 3, 1) := dk_29 (dk_at dksX1_returnError_1 15 rfl rfl)
theorem dX1_returnError_40 : decode cX1_returnError 40 = .ok (.aaload, 1) := dk_50 (dk_at dksX1_returnError_1 16 rfl rfl)
theorem dX1_returnError_41 : decode cX1_returnError 41 = .ok (.iconst 0, 1) := dk_3 (dk_at dksX1_returnError_1 17 rfl rfl)
theorem dX1_returnError_42 : decode cX1_returnError 42 = .ok (.iaload, 1) := dk_46 (dk_at dksX1_returnError_1 18 rfl rfl)
theorem dX1_returnError_43 : decode cX1_returnError 43 = .ok (.isub, 1) := dk_100 (dk_at dksX1_returnError_1 19 rfl rfl)
theorem dX1_returnError_44 : decode cX1_returnError 44 = .ok (.invokestatic 59, 3) := dk_184 0 59 (dk_at dksX1_returnError_1 20 rfl rfl)
theorem dX1_returnError_47 : decode cX1_returnError 47 = .ok (.invokestatic 20, 3) := dk_184 0 20 (dk_at dksX1_returnError_2 0 rfl rfl)
theorem dX1_returnError_50 : decode cX1_returnError 50 = .ok (.istore_n 2, 1) := dk_61 (dk_at dksX1_returnError_2 3 rfl rfl)
theorem dX1_returnError_51 : decode cX1_returnError 51 = .ok (.iinc 3 1, 3) := dk_132 3 1 (dk_at dksX1_returnError_2 4 rfl rfl)
theorem dX1_returnError_54 : decode cX1_returnError 54 = .ok (.goto (-50), 3) := dk_167 255 206 (dk_at dksX1_returnError_2 7 rfl rfl)
theorem dX1_returnError_57 : decode cX1_returnError 57 = .ok (.iload_n 2, 1) := dk_28 (dk_at dksX1_returnError_2 10 rfl rfl)
theorem dX1_returnError_58 : decode cX1_returnError 58 = .ok (.ireturn, 1) := dk_172 (dk_at dksX1_returnError_2 11 rfl rfl)
abbrev cX1_lambda_measures_7 : ByteArray := prog_1_method_71_code
def yX1_lambda_measures_7 : MethodName := ⟨RX1, "lambda$measures$7", "(LThreeBodies$Path;I)I"⟩
def dkwX1_lambda_measures_7_0 : List UInt8 := [42, 27, 184, 1, 238, 172]
abbrev dktX1_lambda_measures_7_0 : List UInt8 := dkwX1_lambda_measures_7_0 ++ []
theorem dksX1_lambda_measures_7_0 : cX1_lambda_measures_7.data.toList.drop 0 = dktX1_lambda_measures_7_0 := by decide +kernel
theorem dX1_lambda_measures_7_0 : decode cX1_lambda_measures_7 0 = .ok (.aload_n 0, 1) := dk_42 (dk_at dksX1_lambda_measures_7_0 0 rfl rfl)
theorem dX1_lambda_measures_7_1 : decode cX1_lambda_measures_7 1 = .ok (.iload_n 1, 1) := dk_27 (dk_at dksX1_lambda_measures_7_0 1 rfl rfl)
theorem dX1_lambda_measures_7_2 : decode cX1_lambda_measures_7 2 = .ok (.invokestatic 494, 3) := dk_184 1 238 (dk_at dksX1_lambda_measures_7_0 2 rfl rfl)
theorem dX1_lambda_measures_7_5 : decode cX1_lambda_measures_7 5 = .ok (.ireturn, 1) := dk_172 (dk_at dksX1_lambda_measures_7_0 5 rfl rfl)
abbrev cX1_mirrorError : ByteArray := prog_1_method_12_code
def yX1_mirrorError : MethodName := ⟨RX1, "mirrorError", "(LThreeBodies$Path;I)I"⟩
def dkwX1_mirrorError_3 : List UInt8 := [184, 0, 20, 61, 132, 5, 1, 167, 255, 199, 132, 3, 1, 167, 255, 178, 28, 172]
abbrev dktX1_mirrorError_3 : List UInt8 := dkwX1_mirrorError_3 ++ []
def dkwX1_mirrorError_2 : List UInt8 := [42, 180, 0, 56, 21, 5, 50, 21, 4, 46, 42, 180, 0, 56, 21, 5, 50, 29, 46, 96, 184, 0, 59]
abbrev dktX1_mirrorError_2 : List UInt8 := dkwX1_mirrorError_2 ++ dktX1_mirrorError_3
def dkwX1_mirrorError_1 : List UInt8 := [162, 0, 57, 28, 42, 180, 0, 50, 21, 5, 50, 21, 4, 46, 42, 180, 0, 50, 21, 5, 50, 29, 46, 100]
abbrev dktX1_mirrorError_1 : List UInt8 := dkwX1_mirrorError_1 ++ dktX1_mirrorError_2
def dkwX1_mirrorError_0 : List UInt8 := [3, 61, 3, 62, 29, 27, 162, 0, 79, 27, 29, 100, 27, 112, 54, 4, 3, 54, 5, 21, 5, 6]
abbrev dktX1_mirrorError_0 : List UInt8 := dkwX1_mirrorError_0 ++ dktX1_mirrorError_1
theorem dksX1_mirrorError_0 : cX1_mirrorError.data.toList.drop 0 = dktX1_mirrorError_0 := by decide +kernel
theorem dksX1_mirrorError_1 : cX1_mirrorError.data.toList.drop 22 = dktX1_mirrorError_1 := dk_seg dksX1_mirrorError_0 22 rfl rfl
theorem dksX1_mirrorError_2 : cX1_mirrorError.data.toList.drop 46 = dktX1_mirrorError_2 := dk_seg dksX1_mirrorError_1 24 rfl rfl
theorem dksX1_mirrorError_3 : cX1_mirrorError.data.toList.drop 69 = dktX1_mirrorError_3 := dk_seg dksX1_mirrorError_2 23 rfl rfl
theorem dX1_mirrorError_0 : decode cX1_mirrorError 0 = .ok (.iconst 0, 1) := dk_3 (dk_at dksX1_mirrorError_0 0 rfl rfl)
theorem dX1_mirrorError_1 : decode cX1_mirrorError 1 = .ok (.istore_n 2, 1) := dk_61 (dk_at dksX1_mirrorError_0 1 rfl rfl)
theorem dX1_mirrorError_2 : decode cX1_mirrorError 2 = .ok (.iconst 0, 1) := dk_3 (dk_at dksX1_mirrorError_0 2 rfl rfl)
theorem dX1_mirrorError_3 : decode cX1_mirrorError 3 = .ok (.istore_n 3, 1) := dk_62 (dk_at dksX1_mirrorError_0 3 rfl rfl)
theorem dX1_mirrorError_4 : decode cX1_mirrorError 4 = .ok (.iload_n 3, 1) := dk_29 (dk_at dksX1_mirrorError_0 4 rfl rfl)
theorem dX1_mirrorError_5 : decode cX1_mirrorError 5 = .ok (.iload_n 1, 1) := dk_27 (dk_at dksX1_mirrorError_0 5 rfl rfl)
theorem dX1_mirrorError_6 : decode cX1_mirrorError 6 = .ok (.if_icmp .ge 79, 3) := dk_162 0 79 (dk_at dksX1_mirrorError_0 6 rfl rfl)
theorem dX1_mirrorError_9 : decode cX1_mirrorError 9 = .ok (.iload_n 1, 1) := dk_27 (dk_at dksX1_mirrorError_0 9 rfl rfl)
theorem dX1_mirrorError_10 : decode cX1_mirrorError 10 = .ok (.iload_n 3, 1) := dk_29 (dk_at dksX1_mirrorError_0 10 rfl rfl)
theorem dX1_mirrorError_11 : decode cX1_mirrorError 11 = .ok (.isub, 1) := dk_100 (dk_at dksX1_mirrorError_0 11 rfl rfl)
theorem dX1_mirrorError_12 : decode cX1_mirrorError 12 = .ok (.iload_n 1, 1) := dk_27 (dk_at dksX1_mirrorError_0 12 rfl rfl)
theorem dX1_mirrorError_13 : decode cX1_mirrorError 13 = .ok (.irem, 1) := dk_112 (dk_at dksX1_mirrorError_0 13 rfl rfl)
theorem dX1_mirrorError_14 : decode cX1_mirrorError 14 = .ok (.istore 4, 2) := dk_54 4 (dk_at dksX1_mirrorError_0 14 rfl rfl)
theorem dX1_mirrorError_16 : decode cX1_mirrorError 16 = .ok (.iconst 0, 1) := dk_3 (dk_at dksX1_mirrorError_0 16 rfl rfl)
theorem dX1_mirrorError_17 : decode cX1_mirrorError 17 = .ok (.istore 5, 2) := dk_54 5 (dk_at dksX1_mirrorError_0 17 rfl rfl)
theorem dX1_mirrorError_19 : decode cX1_mirrorError 19 = .ok (.iload 5, 2) := dk_21 5 (dk_at dksX1_mirrorError_0 19 rfl rfl)
theorem dX1_mirrorError_21 : decode cX1_mirrorError 21 = .ok (.iconst 3, 1) := dk_6 (dk_at dksX1_mirrorError_0 21 rfl rfl)
theorem dX1_mirrorError_22 : decode cX1_mirrorError 22 = .ok (.if_icmp .ge 57, 3) := dk_162 0 57 (dk_at dksX1_mirrorError_1 0 rfl rfl)
theorem dX1_mirrorError_25 : decode cX1_mirrorError 25 = .ok (.iload_n 2, 1) := dk_28 (dk_at dksX1_mirrorError_1 3 rfl rfl)
theorem dX1_mirrorError_26 : decode cX1_mirrorError 26 = .ok (.aload_n 0, 1) := dk_42 (dk_at dksX1_mirrorError_1 4 rfl rfl)
theorem dX1_mirrorError_27 : decode cX1_mirrorError 27 = .ok (.getfield 50, 3) := dk_180 0 50 (dk_at dksX1_mirrorError_1 5 rfl rfl)
theorem dX1_mirrorError_30 : decode cX1_mirrorError 30 = .ok (.iload 5, 2) := dk_21 5 (dk_at dksX1_mirrorError_1 8 rfl rfl)
theorem dX1_mirrorError_32 : decode cX1_mirrorError 32 = .ok (.aaload, 1) := dk_50 (dk_at dksX1_mirrorError_1 10 rfl rfl)
theorem dX1_mirrorError_33 : decode cX1_mirrorError 33 = .ok (.iload 4, 2) := dk_21 4 (dk_at dksX1_mirrorError_1 11 rfl rfl)
theorem dX1_mirrorError_35 : decode cX1_mirrorError 35 = .ok (.iaload, 1) := dk_46 (dk_at dksX1_mirrorError_1 13 rfl rfl)
theorem dX1_mirrorError_36 : decode cX1_mirrorError 36 = .ok (.aload_n 0, 1) := dk_42 (dk_at dksX1_mirrorError_1 14 rfl rfl)
theorem dX1_mirrorError_37 : decode cX1_mirrorError 37 = .ok (.getfield 50, 3) := dk_180 0 50 (dk_at dksX1_mirrorError_1 15 rfl rfl)
theorem dX1_mirrorError_40 : decode cX1_mirrorError 40 = .ok (.iload 5, 2) := dk_21 5 (dk_at dksX1_mirrorError_1 18 rfl rfl)
theorem dX1_mirrorError_42 : decode cX1_mirrorError 42 = .ok (.aaload, 1) := dk_50 (dk_at dksX1_mirrorError_1 20 rfl rfl)
theorem dX1_mirrorError_43 : decode cX1_mirrorError 43 = .ok (.iload_n 3, 1) := dk_29 (dk_at dksX1_mirrorError_1 21 rfl rfl)
theorem dX1_mirrorError_44 : decode cX1_mirrorError 44 = .ok (.iaload, 1) := dk_46 (dk_at dksX1_mirrorError_1 22 rfl rfl)
theorem dX1_mirrorError_45 : decode cX1_mirrorError 45 = .ok (.isub, 1) := dk_100 (dk_at dksX1_mirrorError_1 23 rfl rfl)
theorem dX1_mirrorError_46 : decode cX1_mirrorError 46 = .ok (.aload_n 0, 1) := dk_42 (dk_at dksX1_mirrorError_2 0 rfl rfl)
theorem dX1_mirrorError_47 : decode cX1_mirrorError 47 = .ok (.getfield 56, 3) := dk_180 0 56 (dk_at dksX1_mirrorError_2 1 rfl rfl)
theorem dX1_mirrorError_50 : decode cX1_mirrorError 50 = .ok (.iload 5, 2) := dk_21 5 (dk_at dksX1_mirrorError_2 4 rfl rfl)
theorem dX1_mirrorError_52 : decode cX1_mirrorError 52 = .ok (.aaload, 1) := dk_50 (dk_at dksX1_mirrorError_2 6 rfl rfl)
theorem dX1_mirrorError_53 : decode cX1_mirrorError 53 = .ok (.iload 4, 2) := dk_21 4 (dk_at dksX1_mirrorError_2 7 rfl rfl)
theorem dX1_mirrorError_55 : decode cX1_mirrorError 55 = .ok (.iaload, 1) := dk_46 (dk_at dksX1_mirrorError_2 9 rfl rfl)
theorem dX1_mirrorError_56 : decode cX1_mirrorError 56 = .ok (.aload_n 0, 1) := dk_42 (dk_at dksX1_mirrorError_2 10 rfl rfl)
theorem dX1_mirrorError_57 : decode cX1_mirrorError 57 = .ok (.getfield 56, 3) := dk_180 0 56 (dk_at dksX1_mirrorError_2 11 rfl rfl)
theorem dX1_mirrorError_60 : decode cX1_mirrorError 60 = .ok (.iload 5, 2) := dk_21 5 (dk_at dksX1_mirrorError_2 14 rfl rfl)
theorem dX1_mirrorError_62 : decode cX1_mirrorError 62 = .ok (.aaload, 1) := dk_50 (dk_at dksX1_mirrorError_2 16 rfl rfl)
theorem dX1_mirrorError_63 : decode cX1_mirrorError 63 = .ok (.iload_n 3, 1) := dk_29 (dk_at dksX1_mirrorError_2 17 rfl rfl)
theorem dX1_mirrorError_64 : decode cX1_mirrorError 64 = .ok (.iaload, 1) := dk_46 (dk_at dksX1_mirrorError_2 18 rfl rfl)
theorem dX1_mirrorError_65 : decode cX1_mirrorError 65 = .ok (.iadd, 1) := dk_96 (dk_at dksX1_mirrorError_2 19 rfl rfl)
theorem dX1_mirrorError_66 : decode cX1_mirrorError 66 = .ok (.invokestatic 59, 3) := dk_184 0 59 (dk_at dksX1_mirrorError_2 20 rfl rfl)
theorem dX1_mirrorError_69 : decode cX1_mirrorError 69 = .ok (.invokestatic 20, 3) := dk_184 0 20 (dk_at dksX1_mirrorError_3 0 rfl rfl)
theorem dX1_mirrorError_72 : decode cX1_mirrorError 72 = .ok (.istore_n 2, 1) := dk_61 (dk_at dksX1_mirrorError_3 3 rfl rfl)
theorem dX1_mirrorError_73 : decode cX1_mirrorError 73 = .ok (.iinc 5 1, 3) := dk_132 5 1 (dk_at dksX1_mirrorError_3 4 rfl rfl)
theorem dX1_mirrorError_76 : decode cX1_mirrorError 76 = .ok (.goto (-57), 3) := dk_167 255 199 (dk_at dksX1_mirrorError_3 7 rfl rfl)
theorem dX1_mirrorError_79 : decode cX1_mirrorError 79 = .ok (.iinc 3 1, 3) := dk_132 3 1 (dk_at dksX1_mirrorError_3 10 rfl rfl)
theorem dX1_mirrorError_82 : decode cX1_mirrorError 82 = .ok (.goto (-78), 3) := dk_167 255 178 (dk_at dksX1_mirrorError_3 13 rfl rfl)
theorem dX1_mirrorError_85 : decode cX1_mirrorError 85 = .ok (.iload_n 2, 1) := dk_28 (dk_at dksX1_mirrorError_3 16 rfl rfl)
theorem dX1_mirrorError_86 : decode cX1_mirrorError 86 = .ok (.ireturn, 1) := dk_172 (dk_at dksX1_mirrorError_3 17 rfl rfl)
abbrev cX1_feed : ByteArray := prog_1_method_19_code
def yX1_feed : MethodName := ⟨RX1, "feed", "(IIIII)I"⟩
def dkwX1_feed_2 : List UInt8 := [172]
abbrev dktX1_feed_2 : List UInt8 := dkwX1_feed_2 ++ []
def dkwX1_feed_1 : List UInt8 := [4, 28, 79, 89, 5, 29, 79, 89, 6, 21, 4, 79, 89, 7, 21, 5, 79, 182, 0, 196, 42, 180, 0, 193]
abbrev dktX1_feed_1 : List UInt8 := dkwX1_feed_1 ++ dktX1_feed_2
def dkwX1_feed_0 : List UInt8 := [42, 180, 0, 193, 16, 20, 96, 17, 2, 88, 164, 0, 5, 2, 172, 42, 8, 188, 10, 89, 3, 27, 79, 89]
abbrev dktX1_feed_0 : List UInt8 := dkwX1_feed_0 ++ dktX1_feed_1
theorem dksX1_feed_0 : cX1_feed.data.toList.drop 0 = dktX1_feed_0 := by decide +kernel
theorem dksX1_feed_1 : cX1_feed.data.toList.drop 24 = dktX1_feed_1 := dk_seg dksX1_feed_0 24 rfl rfl
theorem dksX1_feed_2 : cX1_feed.data.toList.drop 48 = dktX1_feed_2 := dk_seg dksX1_feed_1 24 rfl rfl
theorem dX1_feed_0 : decode cX1_feed 0 = .ok (.aload_n 0, 1) := dk_42 (dk_at dksX1_feed_0 0 rfl rfl)
theorem dX1_feed_1 : decode cX1_feed 1 = .ok (.getfield 193, 3) := dk_180 0 193 (dk_at dksX1_feed_0 1 rfl rfl)
theorem dX1_feed_4 : decode cX1_feed 4 = .ok (.bipush 20, 2) := dk_16 20 (dk_at dksX1_feed_0 4 rfl rfl)
theorem dX1_feed_6 : decode cX1_feed 6 = .ok (.iadd, 1) := dk_96 (dk_at dksX1_feed_0 6 rfl rfl)
theorem dX1_feed_7 : decode cX1_feed 7 = .ok (.sipush 600, 3) := dk_17 2 88 (dk_at dksX1_feed_0 7 rfl rfl)
theorem dX1_feed_10 : decode cX1_feed 10 = .ok (.if_icmp .le 5, 3) := dk_164 0 5 (dk_at dksX1_feed_0 10 rfl rfl)
theorem dX1_feed_13 : decode cX1_feed 13 = .ok (.iconst (-1), 1) := dk_2 (dk_at dksX1_feed_0 13 rfl rfl)
theorem dX1_feed_14 : decode cX1_feed 14 = .ok (.ireturn, 1) := dk_172 (dk_at dksX1_feed_0 14 rfl rfl)
theorem dX1_feed_15 : decode cX1_feed 15 = .ok (.aload_n 0, 1) := dk_42 (dk_at dksX1_feed_0 15 rfl rfl)
theorem dX1_feed_16 : decode cX1_feed 16 = .ok (.iconst 5, 1) := dk_8 (dk_at dksX1_feed_0 16 rfl rfl)
theorem dX1_feed_17 : decode cX1_feed 17 = .ok (.newarray .int, 2) := dk_188_10 (dk_at dksX1_feed_0 17 rfl rfl)
theorem dX1_feed_19 : decode cX1_feed 19 = .ok (.dup, 1) := dk_89 (dk_at dksX1_feed_0 19 rfl rfl)
theorem dX1_feed_20 : decode cX1_feed 20 = .ok (.iconst 0, 1) := dk_3 (dk_at dksX1_feed_0 20 rfl rfl)
theorem dX1_feed_21 : decode cX1_feed 21 = .ok (.iload_n 1, 1) := dk_27 (dk_at dksX1_feed_0 21 rfl rfl)
theorem dX1_feed_22 : decode cX1_feed 22 = .ok (.iastore, 1) := dk_79 (dk_at dksX1_feed_0 22 rfl rfl)
theorem dX1_feed_23 : decode cX1_feed 23 = .ok (.dup, 1) := dk_89 (dk_at dksX1_feed_0 23 rfl rfl)
theorem dX1_feed_24 : decode cX1_feed 24 = .ok (.iconst 1, 1) := dk_4 (dk_at dksX1_feed_1 0 rfl rfl)
theorem dX1_feed_25 : decode cX1_feed 25 = .ok (.iload_n 2, 1) := dk_28 (dk_at dksX1_feed_1 1 rfl rfl)
theorem dX1_feed_26 : decode cX1_feed 26 = .ok (.iastore, 1) := dk_79 (dk_at dksX1_feed_1 2 rfl rfl)
theorem dX1_feed_27 : decode cX1_feed 27 = .ok (.dup, 1) := dk_89 (dk_at dksX1_feed_1 3 rfl rfl)
theorem dX1_feed_28 : decode cX1_feed 28 = .ok (.iconst 2, 1) := dk_5 (dk_at dksX1_feed_1 4 rfl rfl)
theorem dX1_feed_29 : decode cX1_feed 29 = .ok (.iload_n 3, 1) := dk_29 (dk_at dksX1_feed_1 5 rfl rfl)
theorem dX1_feed_30 : decode cX1_feed 30 = .ok (.iastore, 1) := dk_79 (dk_at dksX1_feed_1 6 rfl rfl)
theorem dX1_feed_31 : decode cX1_feed 31 = .ok (.dup, 1) := dk_89 (dk_at dksX1_feed_1 7 rfl rfl)
theorem dX1_feed_32 : decode cX1_feed 32 = .ok (.iconst 3, 1) := dk_6 (dk_at dksX1_feed_1 8 rfl rfl)
theorem dX1_feed_33 : decode cX1_feed 33 = .ok (.iload 4, 2) := dk_21 4 (dk_at dksX1_feed_1 9 rfl rfl)
theorem dX1_feed_35 : decode cX1_feed 35 = .ok (.iastore, 1) := dk_79 (dk_at dksX1_feed_1 11 rfl rfl)
theorem dX1_feed_36 : decode cX1_feed 36 = .ok (.dup, 1) := dk_89 (dk_at dksX1_feed_1 12 rfl rfl)
theorem dX1_feed_37 : decode cX1_feed 37 = .ok (.iconst 4, 1) := dk_7 (dk_at dksX1_feed_1 13 rfl rfl)
theorem dX1_feed_38 : decode cX1_feed 38 = .ok (.iload 5, 2) := dk_21 5 (dk_at dksX1_feed_1 14 rfl rfl)
theorem dX1_feed_40 : decode cX1_feed 40 = .ok (.iastore, 1) := dk_79 (dk_at dksX1_feed_1 16 rfl rfl)
theorem dX1_feed_41 : decode cX1_feed 41 = .ok (.invokevirtual 196, 3) := dk_182 0 196 (dk_at dksX1_feed_1 17 rfl rfl)
theorem dX1_feed_44 : decode cX1_feed 44 = .ok (.aload_n 0, 1) := dk_42 (dk_at dksX1_feed_1 20 rfl rfl)
theorem dX1_feed_45 : decode cX1_feed 45 = .ok (.getfield 193, 3) := dk_180 0 193 (dk_at dksX1_feed_1 21 rfl rfl)
theorem dX1_feed_48 : decode cX1_feed 48 = .ok (.ireturn, 1) := dk_172 (dk_at dksX1_feed_2 0 rfl rfl)
abbrev cX1_append : ByteArray := prog_1_method_20_code
def yX1_append : MethodName := ⟨RX1, "append", "([I)V"⟩
def dkwX1_append_2 : List UInt8 := [180, 0, 193, 4, 96, 181, 0, 193, 132, 6, 248, 167, 255, 223, 132, 4, 1, 167, 255, 201, 177]
abbrev dktX1_append_2 : List UInt8 := dkwX1_append_2 ++ []
def dkwX1_append_1 : List UInt8 := [21, 6, 155, 0, 34, 42, 180, 0, 96, 42, 180, 0, 193, 21, 5, 21, 6, 122, 145, 84, 42, 89]
abbrev dktX1_append_1 : List UInt8 := dkwX1_append_1 ++ dktX1_append_2
def dkwX1_append_0 : List UInt8 := [43, 77, 44, 190, 62, 3, 54, 4, 21, 4, 29, 162, 0, 55, 44, 21, 4, 46, 54, 5, 16, 24, 54, 6]
abbrev dktX1_append_0 : List UInt8 := dkwX1_append_0 ++ dktX1_append_1
theorem dksX1_append_0 : cX1_append.data.toList.drop 0 = dktX1_append_0 := by decide +kernel
theorem dksX1_append_1 : cX1_append.data.toList.drop 24 = dktX1_append_1 := dk_seg dksX1_append_0 24 rfl rfl
theorem dksX1_append_2 : cX1_append.data.toList.drop 46 = dktX1_append_2 := dk_seg dksX1_append_1 22 rfl rfl
theorem dX1_append_0 : decode cX1_append 0 = .ok (.aload_n 1, 1) := dk_43 (dk_at dksX1_append_0 0 rfl rfl)
theorem dX1_append_1 : decode cX1_append 1 = .ok (.astore_n 2, 1) := dk_77 (dk_at dksX1_append_0 1 rfl rfl)
theorem dX1_append_2 : decode cX1_append 2 = .ok (.aload_n 2, 1) := dk_44 (dk_at dksX1_append_0 2 rfl rfl)
theorem dX1_append_3 : decode cX1_append 3 = .ok (.arraylength, 1) := dk_190 (dk_at dksX1_append_0 3 rfl rfl)
theorem dX1_append_4 : decode cX1_append 4 = .ok (.istore_n 3, 1) := dk_62 (dk_at dksX1_append_0 4 rfl rfl)
theorem dX1_append_5 : decode cX1_append 5 = .ok (.iconst 0, 1) := dk_3 (dk_at dksX1_append_0 5 rfl rfl)
theorem dX1_append_6 : decode cX1_append 6 = .ok (.istore 4, 2) := dk_54 4 (dk_at dksX1_append_0 6 rfl rfl)
theorem dX1_append_8 : decode cX1_append 8 = .ok (.iload 4, 2) := dk_21 4 (dk_at dksX1_append_0 8 rfl rfl)
theorem dX1_append_10 : decode cX1_append 10 = .ok (.iload_n 3, 1) := dk_29 (dk_at dksX1_append_0 10 rfl rfl)
theorem dX1_append_11 : decode cX1_append 11 = .ok (.if_icmp .ge 55, 3) := dk_162 0 55 (dk_at dksX1_append_0 11 rfl rfl)
theorem dX1_append_14 : decode cX1_append 14 = .ok (.aload_n 2, 1) := dk_44 (dk_at dksX1_append_0 14 rfl rfl)
theorem dX1_append_15 : decode cX1_append 15 = .ok (.iload 4, 2) := dk_21 4 (dk_at dksX1_append_0 15 rfl rfl)
theorem dX1_append_17 : decode cX1_append 17 = .ok (.iaload, 1) := dk_46 (dk_at dksX1_append_0 17 rfl rfl)
theorem dX1_append_18 : decode cX1_append 18 = .ok (.istore 5, 2) := dk_54 5 (dk_at dksX1_append_0 18 rfl rfl)
theorem dX1_append_20 : decode cX1_append 20 = .ok (.bipush 24, 2) := dk_16 24 (dk_at dksX1_append_0 20 rfl rfl)
theorem dX1_append_22 : decode cX1_append 22 = .ok (.istore 6, 2) := dk_54 6 (dk_at dksX1_append_0 22 rfl rfl)
theorem dX1_append_24 : decode cX1_append 24 = .ok (.iload 6, 2) := dk_21 6 (dk_at dksX1_append_1 0 rfl rfl)
theorem dX1_append_26 : decode cX1_append 26 = .ok (.ifCond .lt 34, 3) := dk_155 0 34 (dk_at dksX1_append_1 2 rfl rfl)
theorem dX1_append_29 : decode cX1_append 29 = .ok (.aload_n 0, 1) := dk_42 (dk_at dksX1_append_1 5 rfl rfl)
theorem dX1_append_30 : decode cX1_append 30 = .ok (.getfield 96, 3) := dk_180 0 96 (dk_at dksX1_append_1 6 rfl rfl)
theorem dX1_append_33 : decode cX1_append 33 = .ok (.aload_n 0, 1) := dk_42 (dk_at dksX1_append_1 9 rfl rfl)
theorem dX1_append_34 : decode cX1_append 34 = .ok (.getfield 193, 3) := dk_180 0 193 (dk_at dksX1_append_1 10 rfl rfl)
theorem dX1_append_37 : decode cX1_append 37 = .ok (.iload 5, 2) := dk_21 5 (dk_at dksX1_append_1 13 rfl rfl)
theorem dX1_append_39 : decode cX1_append 39 = .ok (.iload 6, 2) := dk_21 6 (dk_at dksX1_append_1 15 rfl rfl)
theorem dX1_append_41 : decode cX1_append 41 = .ok (.ishr, 1) := dk_122 (dk_at dksX1_append_1 17 rfl rfl)
theorem dX1_append_42 : decode cX1_append 42 = .ok (.i2b, 1) := dk_145 (dk_at dksX1_append_1 18 rfl rfl)
theorem dX1_append_43 : decode cX1_append 43 = .ok (.bastore, 1) := dk_84 (dk_at dksX1_append_1 19 rfl rfl)
theorem dX1_append_44 : decode cX1_append 44 = .ok (.aload_n 0, 1) := dk_42 (dk_at dksX1_append_1 20 rfl rfl)
theorem dX1_append_45 : decode cX1_append 45 = .ok (.dup, 1) := dk_89 (dk_at dksX1_append_1 21 rfl rfl)
theorem dX1_append_46 : decode cX1_append 46 = .ok (.getfield 193, 3) := dk_180 0 193 (dk_at dksX1_append_2 0 rfl rfl)
theorem dX1_append_49 : decode cX1_append 49 = .ok (.iconst 1, 1) := dk_4 (dk_at dksX1_append_2 3 rfl rfl)
theorem dX1_append_50 : decode cX1_append 50 = .ok (.iadd, 1) := dk_96 (dk_at dksX1_append_2 4 rfl rfl)
theorem dX1_append_51 : decode cX1_append 51 = .ok (.putfield 193, 3) := dk_181 0 193 (dk_at dksX1_append_2 5 rfl rfl)
theorem dX1_append_54 : decode cX1_append 54 = .ok (.iinc 6 (-8), 3) := dk_132 6 248 (dk_at dksX1_append_2 8 rfl rfl)
theorem dX1_append_57 : decode cX1_append 57 = .ok (.goto (-33), 3) := dk_167 255 223 (dk_at dksX1_append_2 11 rfl rfl)
theorem dX1_append_60 : decode cX1_append 60 = .ok (.iinc 4 1, 3) := dk_132 4 1 (dk_at dksX1_append_2 14 rfl rfl)
theorem dX1_append_63 : decode cX1_append 63 = .ok (.goto (-55), 3) := dk_167 255 201 (dk_at dksX1_append_2 17 rfl rfl)
theorem dX1_append_66 : decode cX1_append 66 = .ok (.return_, 1) := dk_177 (dk_at dksX1_append_2 20 rfl rfl)
abbrev cX1_errorPosition : ByteArray := prog_1_method_22_code
def yX1_errorPosition : MethodName := ⟨RX1, "errorPosition", "()I"⟩
theorem dX1_errorPosition_0 : decode cX1_errorPosition 0 = .ok (.aload_n 0, 1) := by decide +kernel
theorem dX1_errorPosition_1 : decode cX1_errorPosition 1 = .ok (.getfield 100, 3) := by decide +kernel
theorem dX1_errorPosition_4 : decode cX1_errorPosition 4 = .ok (.ireturn, 1) := by decide +kernel
abbrev cX1_clock : ByteArray := prog_1_method_23_code
def yX1_clock : MethodName := ⟨RX1, "clock", "()I"⟩
def dkwX1_clock_0 : List UInt8 := [42, 180, 0, 107, 180, 0, 238, 180, 0, 241, 172]
abbrev dktX1_clock_0 : List UInt8 := dkwX1_clock_0 ++ []
theorem dksX1_clock_0 : cX1_clock.data.toList.drop 0 = dktX1_clock_0 := by decide +kernel
theorem dX1_clock_0 : decode cX1_clock 0 = .ok (.aload_n 0, 1) := dk_42 (dk_at dksX1_clock_0 0 rfl rfl)
theorem dX1_clock_1 : decode cX1_clock 1 = .ok (.getfield 107, 3) := dk_180 0 107 (dk_at dksX1_clock_0 1 rfl rfl)
theorem dX1_clock_4 : decode cX1_clock 4 = .ok (.getfield 238, 3) := dk_180 0 238 (dk_at dksX1_clock_0 4 rfl rfl)
theorem dX1_clock_7 : decode cX1_clock 7 = .ok (.getfield 241, 3) := dk_180 0 241 (dk_at dksX1_clock_0 7 rfl rfl)
theorem dX1_clock_10 : decode cX1_clock 10 = .ok (.ireturn, 1) := dk_172 (dk_at dksX1_clock_0 10 rfl rfl)
abbrev cX1_angular : ByteArray := prog_1_method_29_code
def yX1_angular : MethodName := ⟨RX1, "angular", "()J"⟩
def dkwX1_angular_3 : List UInt8 := [173]
abbrev dktX1_angular_3 : List UInt8 := dkwX1_angular_3 ++ []
def dkwX1_angular_2 : List UInt8 := [133, 42, 180, 0, 107, 180, 0, 238, 180, 0, 255, 29, 47, 105, 101, 97, 64, 132, 3, 1, 167, 255, 192, 31]
abbrev dktX1_angular_2 : List UInt8 := dkwX1_angular_2 ++ dktX1_angular_3
def dkwX1_angular_1 : List UInt8 := [180, 0, 107, 180, 0, 238, 180, 1, 3, 29, 47, 105, 42, 180, 0, 107, 180, 0, 238, 180, 0, 253, 29, 46]
abbrev dktX1_angular_1 : List UInt8 := dkwX1_angular_1 ++ dktX1_angular_2
def dkwX1_angular_0 : List UInt8 := [9, 64, 3, 62, 29, 6, 162, 0, 65, 31, 42, 180, 0, 107, 180, 0, 238, 180, 0, 251, 29, 46, 133, 42]
abbrev dktX1_angular_0 : List UInt8 := dkwX1_angular_0 ++ dktX1_angular_1
theorem dksX1_angular_0 : cX1_angular.data.toList.drop 0 = dktX1_angular_0 := by decide +kernel
theorem dksX1_angular_1 : cX1_angular.data.toList.drop 24 = dktX1_angular_1 := dk_seg dksX1_angular_0 24 rfl rfl
theorem dksX1_angular_2 : cX1_angular.data.toList.drop 48 = dktX1_angular_2 := dk_seg dksX1_angular_1 24 rfl rfl
theorem dksX1_angular_3 : cX1_angular.data.toList.drop 72 = dktX1_angular_3 := dk_seg dksX1_angular_2 24 rfl rfl
theorem dX1_angular_0 : decode cX1_angular 0 = .ok (.lconst 0, 1) := dk_9 (dk_at dksX1_angular_0 0 rfl rfl)
theorem dX1_angular_1 : decode cX1_angular 1 = .ok (.lstore_n 1, 1) := dk_64 (dk_at dksX1_angular_0 1 rfl rfl)
theorem dX1_angular_2 : decode cX1_angular 2 = .ok (.iconst 0, 1) := dk_3 (dk_at dksX1_angular_0 2 rfl rfl)
theorem dX1_angular_3 : decode cX1_angular 3 = .ok (.istore_n 3, 1) := dk_62 (dk_at dksX1_angular_0 3 rfl rfl)
theorem dX1_angular_4 : decode cX1_angular 4 = .ok (.iload_n 3, 1) := dk_29 (dk_at dksX1_angular_0 4 rfl rfl)
theorem dX1_angular_5 : decode cX1_angular 5 = .ok (.iconst 3, 1) := dk_6 (dk_at dksX1_angular_0 5 rfl rfl)
theorem dX1_angular_6 : decode cX1_angular 6 = .ok (.if_icmp .ge 65, 3) := dk_162 0 65 (dk_at dksX1_angular_0 6 rfl rfl)
theorem dX1_angular_9 : decode cX1_angular 9 = .ok (.lload_n 1, 1) := dk_31 (dk_at dksX1_angular_0 9 rfl rfl)
theorem dX1_angular_10 : decode cX1_angular 10 = .ok (.aload_n 0, 1) := dk_42 (dk_at dksX1_angular_0 10 rfl rfl)
theorem dX1_angular_11 : decode cX1_angular 11 = .ok (.getfield 107, 3) := dk_180 0 107 (dk_at dksX1_angular_0 11 rfl rfl)
theorem dX1_angular_14 : decode cX1_angular 14 = .ok (.getfield 238, 3) := dk_180 0 238 (dk_at dksX1_angular_0 14 rfl rfl)
theorem dX1_angular_17 : decode cX1_angular 17 = .ok (.getfield 251, 3) := dk_180 0 251 (dk_at dksX1_angular_0 17 rfl rfl)
theorem dX1_angular_20 : decode cX1_angular 20 = .ok (.iload_n 3, 1) := dk_29 (dk_at dksX1_angular_0 20 rfl rfl)
theorem dX1_angular_21 : decode cX1_angular 21 = .ok (.iaload, 1) := dk_46 (dk_at dksX1_angular_0 21 rfl rfl)
theorem dX1_angular_22 : decode cX1_angular 22 = .ok (.i2l, 1) := dk_133 (dk_at dksX1_angular_0 22 rfl rfl)
theorem dX1_angular_23 : decode cX1_angular 23 = .ok (.aload_n 0, 1) := dk_42 (dk_at dksX1_angular_0 23 rfl rfl)
theorem dX1_angular_24 : decode cX1_angular 24 = .ok (.getfield 107, 3) := dk_180 0 107 (dk_at dksX1_angular_1 0 rfl rfl)
theorem dX1_angular_27 : decode cX1_angular 27 = .ok (.getfield 238, 3) := dk_180 0 238 (dk_at dksX1_angular_1 3 rfl rfl)
theorem dX1_angular_30 : decode cX1_angular 30 = .ok (.getfield 259, 3) := dk_180 1 3 (dk_at dksX1_angular_1 6 rfl rfl)
theorem dX1_angular_33 : decode cX1_angular 33 = .ok (.iload_n 3, 1) := dk_29 (dk_at dksX1_angular_1 9 rfl rfl)
theorem dX1_angular_34 : decode cX1_angular 34 = .ok (.laload, 1) := dk_47 (dk_at dksX1_angular_1 10 rfl rfl)
theorem dX1_angular_35 : decode cX1_angular 35 = .ok (.lmul, 1) := dk_105 (dk_at dksX1_angular_1 11 rfl rfl)
theorem dX1_angular_36 : decode cX1_angular 36 = .ok (.aload_n 0, 1) := dk_42 (dk_at dksX1_angular_1 12 rfl rfl)
theorem dX1_angular_37 : decode cX1_angular 37 = .ok (.getfield 107, 3) := dk_180 0 107 (dk_at dksX1_angular_1 13 rfl rfl)
theorem dX1_angular_40 : decode cX1_angular 40 = .ok (.getfield 238, 3) := dk_180 0 238 (dk_at dksX1_angular_1 16 rfl rfl)
theorem dX1_angular_43 : decode cX1_angular 43 = .ok (.getfield 253, 3) := dk_180 0 253 (dk_at dksX1_angular_1 19 rfl rfl)
theorem dX1_angular_46 : decode cX1_angular 46 = .ok (.iload_n 3, 1) := dk_29 (dk_at dksX1_angular_1 22 rfl rfl)
theorem dX1_angular_47 : decode cX1_angular 47 = .ok (.iaload, 1) := dk_46 (dk_at dksX1_angular_1 23 rfl rfl)
theorem dX1_angular_48 : decode cX1_angular 48 = .ok (.i2l, 1) := dk_133 (dk_at dksX1_angular_2 0 rfl rfl)
theorem dX1_angular_49 : decode cX1_angular 49 = .ok (.aload_n 0, 1) := dk_42 (dk_at dksX1_angular_2 1 rfl rfl)
theorem dX1_angular_50 : decode cX1_angular 50 = .ok (.getfield 107, 3) := dk_180 0 107 (dk_at dksX1_angular_2 2 rfl rfl)
theorem dX1_angular_53 : decode cX1_angular 53 = .ok (.getfield 238, 3) := dk_180 0 238 (dk_at dksX1_angular_2 5 rfl rfl)
theorem dX1_angular_56 : decode cX1_angular 56 = .ok (.getfield 255, 3) := dk_180 0 255 (dk_at dksX1_angular_2 8 rfl rfl)
theorem dX1_angular_59 : decode cX1_angular 59 = .ok (.iload_n 3, 1) := dk_29 (dk_at dksX1_angular_2 11 rfl rfl)
theorem dX1_angular_60 : decode cX1_angular 60 = .ok (.laload, 1) := dk_47 (dk_at dksX1_angular_2 12 rfl rfl)
theorem dX1_angular_61 : decode cX1_angular 61 = .ok (.lmul, 1) := dk_105 (dk_at dksX1_angular_2 13 rfl rfl)
theorem dX1_angular_62 : decode cX1_angular 62 = .ok (.lsub, 1) := dk_101 (dk_at dksX1_angular_2 14 rfl rfl)
theorem dX1_angular_63 : decode cX1_angular 63 = .ok (.ladd, 1) := dk_97 (dk_at dksX1_angular_2 15 rfl rfl)
theorem dX1_angular_64 : decode cX1_angular 64 = .ok (.lstore_n 1, 1) := dk_64 (dk_at dksX1_angular_2 16 rfl rfl)
theorem dX1_angular_65 : decode cX1_angular 65 = .ok (.iinc 3 1, 3) := dk_132 3 1 (dk_at dksX1_angular_2 17 rfl rfl)
theorem dX1_angular_68 : decode cX1_angular 68 = .ok (.goto (-64), 3) := dk_167 255 192 (dk_at dksX1_angular_2 20 rfl rfl)
theorem dX1_angular_71 : decode cX1_angular 71 = .ok (.lload_n 1, 1) := dk_31 (dk_at dksX1_angular_2 23 rfl rfl)
theorem dX1_angular_72 : decode cX1_angular 72 = .ok (.lreturn, 1) := dk_173 (dk_at dksX1_angular_3 0 rfl rfl)
abbrev cX1_kinetic : ByteArray := prog_1_method_30_code
def yX1_kinetic : MethodName := ⟨RX1, "kinetic", "()J"⟩
def dkwX1_kinetic_0 : List UInt8 := [42, 180, 0, 107, 180, 0, 238, 182, 1, 18, 173]
abbrev dktX1_kinetic_0 : List UInt8 := dkwX1_kinetic_0 ++ []
theorem dksX1_kinetic_0 : cX1_kinetic.data.toList.drop 0 = dktX1_kinetic_0 := by decide +kernel
theorem dX1_kinetic_0 : decode cX1_kinetic 0 = .ok (.aload_n 0, 1) := dk_42 (dk_at dksX1_kinetic_0 0 rfl rfl)
theorem dX1_kinetic_1 : decode cX1_kinetic 1 = .ok (.getfield 107, 3) := dk_180 0 107 (dk_at dksX1_kinetic_0 1 rfl rfl)
theorem dX1_kinetic_4 : decode cX1_kinetic 4 = .ok (.getfield 238, 3) := dk_180 0 238 (dk_at dksX1_kinetic_0 4 rfl rfl)
theorem dX1_kinetic_7 : decode cX1_kinetic 7 = .ok (.invokevirtual 274, 3) := dk_182 1 18 (dk_at dksX1_kinetic_0 7 rfl rfl)
theorem dX1_kinetic_10 : decode cX1_kinetic 10 = .ok (.lreturn, 1) := dk_173 (dk_at dksX1_kinetic_0 10 rfl rfl)
abbrev cX1_potential : ByteArray := prog_1_method_31_code
def yX1_potential : MethodName := ⟨RX1, "potential", "()J"⟩
def dkwX1_potential_0 : List UInt8 := [42, 180, 0, 107, 180, 0, 238, 182, 1, 22, 173]
abbrev dktX1_potential_0 : List UInt8 := dkwX1_potential_0 ++ []
theorem dksX1_potential_0 : cX1_potential.data.toList.drop 0 = dktX1_potential_0 := by decide +kernel
theorem dX1_potential_0 : decode cX1_potential 0 = .ok (.aload_n 0, 1) := dk_42 (dk_at dksX1_potential_0 0 rfl rfl)
theorem dX1_potential_1 : decode cX1_potential 1 = .ok (.getfield 107, 3) := dk_180 0 107 (dk_at dksX1_potential_0 1 rfl rfl)
theorem dX1_potential_4 : decode cX1_potential 4 = .ok (.getfield 238, 3) := dk_180 0 238 (dk_at dksX1_potential_0 4 rfl rfl)
theorem dX1_potential_7 : decode cX1_potential 7 = .ok (.invokevirtual 278, 3) := dk_182 1 22 (dk_at dksX1_potential_0 7 rfl rfl)
theorem dX1_potential_10 : decode cX1_potential 10 = .ok (.lreturn, 1) := dk_173 (dk_at dksX1_potential_0 10 rfl rfl)
abbrev cX1_band : ByteArray := prog_1_method_32_code
def yX1_band : MethodName := ⟨RX1, "band", "()J"⟩
def dkwX1_band_0 : List UInt8 := [42, 180, 0, 107, 180, 0, 238, 182, 1, 25, 173]
abbrev dktX1_band_0 : List UInt8 := dkwX1_band_0 ++ []
theorem dksX1_band_0 : cX1_band.data.toList.drop 0 = dktX1_band_0 := by decide +kernel
theorem dX1_band_0 : decode cX1_band 0 = .ok (.aload_n 0, 1) := dk_42 (dk_at dksX1_band_0 0 rfl rfl)
theorem dX1_band_1 : decode cX1_band 1 = .ok (.getfield 107, 3) := dk_180 0 107 (dk_at dksX1_band_0 1 rfl rfl)
theorem dX1_band_4 : decode cX1_band 4 = .ok (.getfield 238, 3) := dk_180 0 238 (dk_at dksX1_band_0 4 rfl rfl)
theorem dX1_band_7 : decode cX1_band 7 = .ok (.invokevirtual 281, 3) := dk_182 1 25 (dk_at dksX1_band_0 7 rfl rfl)
theorem dX1_band_10 : decode cX1_band 10 = .ok (.lreturn, 1) := dk_173 (dk_at dksX1_band_0 10 rfl rfl)
abbrev cX1_seen : ByteArray := prog_1_method_33_code
def yX1_seen : MethodName := ⟨RX1, "seen", "(Z)J"⟩
def dkwX1_seen_0 : List UInt8 := [27, 153, 0, 13, 42, 180, 0, 107, 180, 1, 28, 167, 0, 10, 42, 180, 0, 107, 180, 1, 32, 173]
abbrev dktX1_seen_0 : List UInt8 := dkwX1_seen_0 ++ []
theorem dksX1_seen_0 : cX1_seen.data.toList.drop 0 = dktX1_seen_0 := by decide +kernel
theorem dX1_seen_0 : decode cX1_seen 0 = .ok (.iload_n 1, 1) := dk_27 (dk_at dksX1_seen_0 0 rfl rfl)
theorem dX1_seen_1 : decode cX1_seen 1 = .ok (.ifCond .eq 13, 3) := dk_153 0 13 (dk_at dksX1_seen_0 1 rfl rfl)
theorem dX1_seen_4 : decode cX1_seen 4 = .ok (.aload_n 0, 1) := dk_42 (dk_at dksX1_seen_0 4 rfl rfl)
theorem dX1_seen_5 : decode cX1_seen 5 = .ok (.getfield 107, 3) := dk_180 0 107 (dk_at dksX1_seen_0 5 rfl rfl)
theorem dX1_seen_8 : decode cX1_seen 8 = .ok (.getfield 284, 3) := dk_180 1 28 (dk_at dksX1_seen_0 8 rfl rfl)
theorem dX1_seen_11 : decode cX1_seen 11 = .ok (.goto 10, 3) := dk_167 0 10 (dk_at dksX1_seen_0 11 rfl rfl)
theorem dX1_seen_14 : decode cX1_seen 14 = .ok (.aload_n 0, 1) := dk_42 (dk_at dksX1_seen_0 14 rfl rfl)
theorem dX1_seen_15 : decode cX1_seen 15 = .ok (.getfield 107, 3) := dk_180 0 107 (dk_at dksX1_seen_0 15 rfl rfl)
theorem dX1_seen_18 : decode cX1_seen 18 = .ok (.getfield 288, 3) := dk_180 1 32 (dk_at dksX1_seen_0 18 rfl rfl)
theorem dX1_seen_21 : decode cX1_seen 21 = .ok (.lreturn, 1) := dk_173 (dk_at dksX1_seen_0 21 rfl rfl)
abbrev cX1_crossings : ByteArray := prog_1_method_34_code
def yX1_crossings : MethodName := ⟨RX1, "crossings", "()I"⟩
def dkwX1_crossings_0 : List UInt8 := [42, 180, 0, 107, 180, 1, 35, 172]
abbrev dktX1_crossings_0 : List UInt8 := dkwX1_crossings_0 ++ []
theorem dksX1_crossings_0 : cX1_crossings.data.toList.drop 0 = dktX1_crossings_0 := by decide +kernel
theorem dX1_crossings_0 : decode cX1_crossings 0 = .ok (.aload_n 0, 1) := dk_42 (dk_at dksX1_crossings_0 0 rfl rfl)
theorem dX1_crossings_1 : decode cX1_crossings 1 = .ok (.getfield 107, 3) := dk_180 0 107 (dk_at dksX1_crossings_0 1 rfl rfl)
theorem dX1_crossings_4 : decode cX1_crossings 4 = .ok (.getfield 291, 3) := dk_180 1 35 (dk_at dksX1_crossings_0 4 rfl rfl)
theorem dX1_crossings_7 : decode cX1_crossings 7 = .ok (.ireturn, 1) := dk_172 (dk_at dksX1_crossings_0 7 rfl rfl)
abbrev cX1_approachCount : ByteArray := prog_1_method_35_code
def yX1_approachCount : MethodName := ⟨RX1, "approachCount", "()I"⟩
def dkwX1_approachCount_0 : List UInt8 := [42, 180, 0, 107, 180, 1, 38, 182, 0, 154, 172]
abbrev dktX1_approachCount_0 : List UInt8 := dkwX1_approachCount_0 ++ []
theorem dksX1_approachCount_0 : cX1_approachCount.data.toList.drop 0 = dktX1_approachCount_0 := by decide +kernel
theorem dX1_approachCount_0 : decode cX1_approachCount 0 = .ok (.aload_n 0, 1) := dk_42 (dk_at dksX1_approachCount_0 0 rfl rfl)
theorem dX1_approachCount_1 : decode cX1_approachCount 1 = .ok (.getfield 107, 3) := dk_180 0 107 (dk_at dksX1_approachCount_0 1 rfl rfl)
theorem dX1_approachCount_4 : decode cX1_approachCount 4 = .ok (.getfield 294, 3) := dk_180 1 38 (dk_at dksX1_approachCount_0 4 rfl rfl)
theorem dX1_approachCount_7 : decode cX1_approachCount 7 = .ok (.invokevirtual 154, 3) := dk_182 0 154 (dk_at dksX1_approachCount_0 7 rfl rfl)
theorem dX1_approachCount_10 : decode cX1_approachCount 10 = .ok (.ireturn, 1) := dk_172 (dk_at dksX1_approachCount_0 10 rfl rfl)
abbrev cX1_reverse : ByteArray := prog_1_method_42_code
def yX1_reverse : MethodName := ⟨RX1, "reverse", "()V"⟩
def dkwX1_reverse_2 : List UInt8 := [167, 255, 222, 177]
abbrev dktX1_reverse_2 : List UInt8 := dkwX1_reverse_2 ++ []
def dkwX1_reverse_1 : List UInt8 := [180, 0, 255, 28, 47, 117, 80, 43, 180, 1, 3, 28, 43, 180, 1, 3, 28, 47, 117, 80, 132, 2, 1]
abbrev dktX1_reverse_1 : List UInt8 := dkwX1_reverse_1 ++ dktX1_reverse_2
def dkwX1_reverse_0 : List UInt8 := [42, 4, 182, 1, 63, 180, 0, 238, 76, 3, 61, 28, 6, 162, 0, 35, 43, 180, 0, 255, 28, 43]
abbrev dktX1_reverse_0 : List UInt8 := dkwX1_reverse_0 ++ dktX1_reverse_1
theorem dksX1_reverse_0 : cX1_reverse.data.toList.drop 0 = dktX1_reverse_0 := by decide +kernel
theorem dksX1_reverse_1 : cX1_reverse.data.toList.drop 22 = dktX1_reverse_1 := dk_seg dksX1_reverse_0 22 rfl rfl
theorem dksX1_reverse_2 : cX1_reverse.data.toList.drop 45 = dktX1_reverse_2 := dk_seg dksX1_reverse_1 23 rfl rfl
theorem dX1_reverse_0 : decode cX1_reverse 0 = .ok (.aload_n 0, 1) := dk_42 (dk_at dksX1_reverse_0 0 rfl rfl)
theorem dX1_reverse_1 : decode cX1_reverse 1 = .ok (.iconst 1, 1) := dk_4 (dk_at dksX1_reverse_0 1 rfl rfl)
theorem dX1_reverse_2 : decode cX1_reverse 2 = .ok (.invokevirtual 319, 3) := dk_182 1 63 (dk_at dksX1_reverse_0 2 rfl rfl)
theorem dX1_reverse_5 : decode cX1_reverse 5 = .ok (.getfield 238, 3) := dk_180 0 238 (dk_at dksX1_reverse_0 5 rfl rfl)
theorem dX1_reverse_8 : decode cX1_reverse 8 = .ok (.astore_n 1, 1) := dk_76 (dk_at dksX1_reverse_0 8 rfl rfl)
theorem dX1_reverse_9 : decode cX1_reverse 9 = .ok (.iconst 0, 1) := dk_3 (dk_at dksX1_reverse_0 9 rfl rfl)
theorem dX1_reverse_10 : decode cX1_reverse 10 = .ok (.istore_n 2, 1) := dk_61 (dk_at dksX1_reverse_0 10 rfl rfl)
theorem dX1_reverse_11 : decode cX1_reverse 11 = .ok (.iload_n 2, 1) := dk_28 (dk_at dksX1_reverse_0 11 rfl rfl)
theorem dX1_reverse_12 : decode cX1_reverse 12 = .ok (.iconst 3, 1) := dk_6 (dk_at dksX1_reverse_0 12 rfl rfl)
theorem dX1_reverse_13 : decode cX1_reverse 13 = .ok (.if_icmp .ge 35, 3) := dk_162 0 35 (dk_at dksX1_reverse_0 13 rfl rfl)
theorem dX1_reverse_16 : decode cX1_reverse 16 = .ok (.aload_n 1, 1) := dk_43 (dk_at dksX1_reverse_0 16 rfl rfl)
theorem dX1_reverse_17 : decode cX1_reverse 17 = .ok (.getfield 255, 3) := dk_180 0 255 (dk_at dksX1_reverse_0 17 rfl rfl)
theorem dX1_reverse_20 : decode cX1_reverse 20 = .ok (.iload_n 2, 1) := dk_28 (dk_at dksX1_reverse_0 20 rfl rfl)
theorem dX1_reverse_21 : decode cX1_reverse 21 = .ok (.aload_n 1, 1) := dk_43 (dk_at dksX1_reverse_0 21 rfl rfl)
theorem dX1_reverse_22 : decode cX1_reverse 22 = .ok (.getfield 255, 3) := dk_180 0 255 (dk_at dksX1_reverse_1 0 rfl rfl)
theorem dX1_reverse_25 : decode cX1_reverse 25 = .ok (.iload_n 2, 1) := dk_28 (dk_at dksX1_reverse_1 3 rfl rfl)
theorem dX1_reverse_26 : decode cX1_reverse 26 = .ok (.laload, 1) := dk_47 (dk_at dksX1_reverse_1 4 rfl rfl)
theorem dX1_reverse_27 : decode cX1_reverse 27 = .ok (.lneg, 1) := dk_117 (dk_at dksX1_reverse_1 5 rfl rfl)
theorem dX1_reverse_28 : decode cX1_reverse 28 = .ok (.lastore, 1) := dk_80 (dk_at dksX1_reverse_1 6 rfl rfl)
theorem dX1_reverse_29 : decode cX1_reverse 29 = .ok (.aload_n 1, 1) := dk_43 (dk_at dksX1_reverse_1 7 rfl rfl)
theorem dX1_reverse_30 : decode cX1_reverse 30 = .ok (.getfield 259, 3) := dk_180 1 3 (dk_at dksX1_reverse_1 8 rfl rfl)
theorem dX1_reverse_33 : decode cX1_reverse 33 = .ok (.iload_n 2, 1) := dk_28 (dk_at dksX1_reverse_1 11 rfl rfl)
theorem dX1_reverse_34 : decode cX1_reverse 34 = .ok (.aload_n 1, 1) := dk_43 (dk_at dksX1_reverse_1 12 rfl rfl)
theorem dX1_reverse_35 : decode cX1_reverse 35 = .ok (.getfield 259, 3) := dk_180 1 3 (dk_at dksX1_reverse_1 13 rfl rfl)
theorem dX1_reverse_38 : decode cX1_reverse 38 = .ok (.iload_n 2, 1) := dk_28 (dk_at dksX1_reverse_1 16 rfl rfl)
theorem dX1_reverse_39 : decode cX1_reverse 39 = .ok (.laload, 1) := dk_47 (dk_at dksX1_reverse_1 17 rfl rfl)
theorem dX1_reverse_40 : decode cX1_reverse 40 = .ok (.lneg, 1) := dk_117 (dk_at dksX1_reverse_1 18 rfl rfl)
theorem dX1_reverse_41 : decode cX1_reverse 41 = .ok (.lastore, 1) := dk_80 (dk_at dksX1_reverse_1 19 rfl rfl)
theorem dX1_reverse_42 : decode cX1_reverse 42 = .ok (.iinc 2 1, 3) := dk_132 2 1 (dk_at dksX1_reverse_1 20 rfl rfl)
theorem dX1_reverse_45 : decode cX1_reverse 45 = .ok (.goto (-34), 3) := dk_167 255 222 (dk_at dksX1_reverse_2 0 rfl rfl)
theorem dX1_reverse_48 : decode cX1_reverse 48 = .ok (.return_, 1) := dk_177 (dk_at dksX1_reverse_2 3 rfl rfl)
abbrev cX1_begin : ByteArray := prog_1_method_16_code
def yX1_begin : MethodName := ⟨RX1, "begin", "(Z)LThreeBodies$State;"⟩
def dkwX1_begin_2 : List UInt8 := [180, 0, 107, 180, 0, 169, 181, 0, 169, 42, 180, 0, 107, 176]
abbrev dktX1_begin_2 : List UInt8 := dkwX1_begin_2 ++ []
def dkwX1_begin_1 : List UInt8 := [42, 180, 0, 107, 182, 0, 161, 182, 0, 165, 42, 180, 0, 107, 27, 153, 0, 7, 3, 167, 0, 10, 42]
abbrev dktX1_begin_1 : List UInt8 := dkwX1_begin_1 ++ dktX1_begin_2
def dkwX1_begin_0 : List UInt8 := [42, 180, 0, 114, 182, 0, 154, 16, 10, 160, 0, 11, 42, 180, 0, 114, 182, 0, 157, 87, 42, 180, 0, 114]
abbrev dktX1_begin_0 : List UInt8 := dkwX1_begin_0 ++ dktX1_begin_1
theorem dksX1_begin_0 : cX1_begin.data.toList.drop 0 = dktX1_begin_0 := by decide +kernel
theorem dksX1_begin_1 : cX1_begin.data.toList.drop 24 = dktX1_begin_1 := dk_seg dksX1_begin_0 24 rfl rfl
theorem dksX1_begin_2 : cX1_begin.data.toList.drop 47 = dktX1_begin_2 := dk_seg dksX1_begin_1 23 rfl rfl
theorem dX1_begin_0 : decode cX1_begin 0 = .ok (.aload_n 0, 1) := dk_42 (dk_at dksX1_begin_0 0 rfl rfl)
theorem dX1_begin_1 : decode cX1_begin 1 = .ok (.getfield 114, 3) := dk_180 0 114 (dk_at dksX1_begin_0 1 rfl rfl)
theorem dX1_begin_4 : decode cX1_begin 4 = .ok (.invokevirtual 154, 3) := dk_182 0 154 (dk_at dksX1_begin_0 4 rfl rfl)
theorem dX1_begin_7 : decode cX1_begin 7 = .ok (.bipush 10, 2) := dk_16 10 (dk_at dksX1_begin_0 7 rfl rfl)
theorem dX1_begin_9 : decode cX1_begin 9 = .ok (.if_icmp .ne 11, 3) := dk_160 0 11 (dk_at dksX1_begin_0 9 rfl rfl)
theorem dX1_begin_12 : decode cX1_begin 12 = .ok (.aload_n 0, 1) := dk_42 (dk_at dksX1_begin_0 12 rfl rfl)
theorem dX1_begin_13 : decode cX1_begin 13 = .ok (.getfield 114, 3) := dk_180 0 114 (dk_at dksX1_begin_0 13 rfl rfl)
theorem dX1_begin_16 : decode cX1_begin 16 = .ok (.invokevirtual 157, 3) := dk_182 0 157 (dk_at dksX1_begin_0 16 rfl rfl)
theorem dX1_begin_19 : decode cX1_begin 19 = .ok (.pop, 1) := dk_87 (dk_at dksX1_begin_0 19 rfl rfl)
theorem dX1_begin_20 : decode cX1_begin 20 = .ok (.aload_n 0, 1) := dk_42 (dk_at dksX1_begin_0 20 rfl rfl)
theorem dX1_begin_21 : decode cX1_begin 21 = .ok (.getfield 114, 3) := dk_180 0 114 (dk_at dksX1_begin_0 21 rfl rfl)
theorem dX1_begin_24 : decode cX1_begin 24 = .ok (.aload_n 0, 1) := dk_42 (dk_at dksX1_begin_1 0 rfl rfl)
theorem dX1_begin_25 : decode cX1_begin 25 = .ok (.getfield 107, 3) := dk_180 0 107 (dk_at dksX1_begin_1 1 rfl rfl)
theorem dX1_begin_28 : decode cX1_begin 28 = .ok (.invokevirtual 161, 3) := dk_182 0 161 (dk_at dksX1_begin_1 4 rfl rfl)
theorem dX1_begin_31 : decode cX1_begin 31 = .ok (.invokevirtual 165, 3) := dk_182 0 165 (dk_at dksX1_begin_1 7 rfl rfl)
theorem dX1_begin_34 : decode cX1_begin 34 = .ok (.aload_n 0, 1) := dk_42 (dk_at dksX1_begin_1 10 rfl rfl)
theorem dX1_begin_35 : decode cX1_begin 35 = .ok (.getfield 107, 3) := dk_180 0 107 (dk_at dksX1_begin_1 11 rfl rfl)
theorem dX1_begin_38 : decode cX1_begin 38 = .ok (.iload_n 1, 1) := dk_27 (dk_at dksX1_begin_1 14 rfl rfl)
theorem dX1_begin_39 : decode cX1_begin 39 = .ok (.ifCond .eq 7, 3) := dk_153 0 7 (dk_at dksX1_begin_1 15 rfl rfl)
theorem dX1_begin_42 : decode cX1_begin 42 = .ok (.iconst 0, 1) := dk_3 (dk_at dksX1_begin_1 18 rfl rfl)
theorem dX1_begin_43 : decode cX1_begin 43 = .ok (.goto 10, 3) := dk_167 0 10 (dk_at dksX1_begin_1 19 rfl rfl)
theorem dX1_begin_46 : decode cX1_begin 46 = .ok (.aload_n 0, 1) := dk_42 (dk_at dksX1_begin_1 22 rfl rfl)
theorem dX1_begin_47 : decode cX1_begin 47 = .ok (.getfield 107, 3) := dk_180 0 107 (dk_at dksX1_begin_2 0 rfl rfl)
theorem dX1_begin_50 : decode cX1_begin 50 = .ok (.getfield 169, 3) := dk_180 0 169 (dk_at dksX1_begin_2 3 rfl rfl)
theorem dX1_begin_53 : decode cX1_begin 53 = .ok (.putfield 169, 3) := dk_181 0 169 (dk_at dksX1_begin_2 6 rfl rfl)
theorem dX1_begin_56 : decode cX1_begin 56 = .ok (.aload_n 0, 1) := dk_42 (dk_at dksX1_begin_2 9 rfl rfl)
theorem dX1_begin_57 : decode cX1_begin 57 = .ok (.getfield 107, 3) := dk_180 0 107 (dk_at dksX1_begin_2 10 rfl rfl)
theorem dX1_begin_60 : decode cX1_begin 60 = .ok (.areturn, 1) := dk_176 (dk_at dksX1_begin_2 13 rfl rfl)
abbrev cX1_turn : ByteArray := prog_1_method_43_code
def yX1_turn : MethodName := ⟨RX1, "turn", "()V"⟩
def dkwX1_turn_3 : List UInt8 := [132, 2, 1, 167, 255, 192, 177]
abbrev dktX1_turn_3 : List UInt8 := dkwX1_turn_3 ++ []
def dkwX1_turn_2 : List UInt8 := [47, 55, 4, 43, 180, 0, 255, 28, 43, 180, 1, 3, 28, 47, 117, 80, 43, 180, 1, 3, 28, 22, 4, 80]
abbrev dktX1_turn_2 : List UInt8 := dkwX1_turn_2 ++ dktX1_turn_3
def dkwX1_turn_1 : List UInt8 := [180, 0, 251, 28, 43, 180, 0, 253, 28, 46, 116, 79, 43, 180, 0, 253, 28, 29, 79, 43, 180, 0, 255, 28]
abbrev dktX1_turn_1 : List UInt8 := dkwX1_turn_1 ++ dktX1_turn_2
def dkwX1_turn_0 : List UInt8 := [42, 4, 182, 1, 63, 180, 0, 238, 76, 3, 61, 28, 6, 162, 0, 65, 43, 180, 0, 251, 28, 46, 62, 43]
abbrev dktX1_turn_0 : List UInt8 := dkwX1_turn_0 ++ dktX1_turn_1
theorem dksX1_turn_0 : cX1_turn.data.toList.drop 0 = dktX1_turn_0 := by decide +kernel
theorem dksX1_turn_1 : cX1_turn.data.toList.drop 24 = dktX1_turn_1 := dk_seg dksX1_turn_0 24 rfl rfl
theorem dksX1_turn_2 : cX1_turn.data.toList.drop 48 = dktX1_turn_2 := dk_seg dksX1_turn_1 24 rfl rfl
theorem dksX1_turn_3 : cX1_turn.data.toList.drop 72 = dktX1_turn_3 := dk_seg dksX1_turn_2 24 rfl rfl
theorem dX1_turn_0 : decode cX1_turn 0 = .ok (.aload_n 0, 1) := dk_42 (dk_at dksX1_turn_0 0 rfl rfl)
theorem dX1_turn_1 : decode cX1_turn 1 = .ok (.iconst 1, 1) := dk_4 (dk_at dksX1_turn_0 1 rfl rfl)
theorem dX1_turn_2 : decode cX1_turn 2 = .ok (.invokevirtual 319, 3) := dk_182 1 63 (dk_at dksX1_turn_0 2 rfl rfl)
theorem dX1_turn_5 : decode cX1_turn 5 = .ok (.getfield 238, 3) := dk_180 0 238 (dk_at dksX1_turn_0 5 rfl rfl)
theorem dX1_turn_8 : decode cX1_turn 8 = .ok (.astore_n 1, 1) := dk_76 (dk_at dksX1_turn_0 8 rfl rfl)
theorem dX1_turn_9 : decode cX1_turn 9 = .ok (.iconst 0, 1) := dk_3 (dk_at dksX1_turn_0 9 rfl rfl)
theorem dX1_turn_10 : decode cX1_turn 10 = .ok (.istore_n 2, 1) := dk_61 (dk_at dksX1_turn_0 10 rfl rfl)
theorem dX1_turn_11 : decode cX1_turn 11 = .ok (.iload_n 2, 1) := dk_28 (dk_at dksX1_turn_0 11 rfl rfl)
theorem dX1_turn_12 : decode cX1_turn 12 = .ok (.iconst 3, 1) := dk_6 (dk_at dksX1_turn_0 12 rfl rfl)
theorem dX1_turn_13 : decode cX1_turn 13 = .ok (.if_icmp .ge 65, 3) := dk_162 0 65 (dk_at dksX1_turn_0 13 rfl rfl)
theorem dX1_turn_16 : decode cX1_turn 16 = .ok (.aload_n 1, 1) := dk_43 (dk_at dksX1_turn_0 16 rfl rfl)
theorem dX1_turn_17 : decode cX1_turn 17 = .ok (.getfield 251, 3) := dk_180 0 251 (dk_at dksX1_turn_0 17 rfl rfl)
theorem dX1_turn_20 : decode cX1_turn 20 = .ok (.iload_n 2, 1) := dk_28 (dk_at dksX1_turn_0 20 rfl rfl)
theorem dX1_turn_21 : decode cX1_turn 21 = .ok (.iaload, 1) := dk_46 (dk_at dksX1_turn_0 21 rfl rfl)
theorem dX1_turn_22 : decode cX1_turn 22 = .ok (.istore_n 3, 1) := dk_62 (dk_at dksX1_turn_0 22 rfl rfl)
theorem dX1_turn_23 : decode cX1_turn 23 = .ok (.aload_n 1, 1) := dk_43 (dk_at dksX1_turn_0 23 rfl rfl)
theorem dX1_turn_24 : decode cX1_turn 24 = .ok (.getfield 251, 3) := dk_180 0 251 (dk_at dksX1_turn_1 0 rfl rfl)
theorem dX1_turn_27 : decode cX1_turn 27 = .ok (.iload_n 2, 1) := dk_28 (dk_at dksX1_turn_1 3 rfl rfl)
theorem dX1_turn_28 : decode cX1_turn 28 = .ok (.aload_n 1, 1) := dk_43 (dk_at dksX1_turn_1 4 rfl rfl)
theorem dX1_turn_29 : decode cX1_turn 29 = .ok (.getfield 253, 3) := dk_180 0 253 (dk_at dksX1_turn_1 5 rfl rfl)
theorem dX1_turn_32 : decode cX1_turn 32 = .ok (.iload_n 2, 1) := dk_28 (dk_at dksX1_turn_1 8 rfl rfl)
theorem dX1_turn_33 : decode cX1_turn 33 = .ok (.iaload, 1) := dk_46 (dk_at dksX1_turn_1 9 rfl rfl)
theorem dX1_turn_34 : decode cX1_turn 34 = .ok (.ineg, 1) := dk_116 (dk_at dksX1_turn_1 10 rfl rfl)
theorem dX1_turn_35 : decode cX1_turn 35 = .ok (.iastore, 1) := dk_79 (dk_at dksX1_turn_1 11 rfl rfl)
theorem dX1_turn_36 : decode cX1_turn 36 = .ok (.aload_n 1, 1) := dk_43 (dk_at dksX1_turn_1 12 rfl rfl)
theorem dX1_turn_37 : decode cX1_turn 37 = .ok (.getfield 253, 3) := dk_180 0 253 (dk_at dksX1_turn_1 13 rfl rfl)
theorem dX1_turn_40 : decode cX1_turn 40 = .ok (.iload_n 2, 1) := dk_28 (dk_at dksX1_turn_1 16 rfl rfl)
theorem dX1_turn_41 : decode cX1_turn 41 = .ok (.iload_n 3, 1) := dk_29 (dk_at dksX1_turn_1 17 rfl rfl)
theorem dX1_turn_42 : decode cX1_turn 42 = .ok (.iastore, 1) := dk_79 (dk_at dksX1_turn_1 18 rfl rfl)
theorem dX1_turn_43 : decode cX1_turn 43 = .ok (.aload_n 1, 1) := dk_43 (dk_at dksX1_turn_1 19 rfl rfl)
theorem dX1_turn_44 : decode cX1_turn 44 = .ok (.getfield 255, 3) := dk_180 0 255 (dk_at dksX1_turn_1 20 rfl rfl)
theorem dX1_turn_47 : decode cX1_turn 47 = .ok (.iload_n 2, 1) := dk_28 (dk_at dksX1_turn_1 23 rfl rfl)
theorem dX1_turn_48 : decode cX1_turn 48 = .ok (.laload, 1) := dk_47 (dk_at dksX1_turn_2 0 rfl rfl)
theorem dX1_turn_49 : decode cX1_turn 49 = .ok (.lstore 4, 2) := dk_55 4 (dk_at dksX1_turn_2 1 rfl rfl)
theorem dX1_turn_51 : decode cX1_turn 51 = .ok (.aload_n 1, 1) := dk_43 (dk_at dksX1_turn_2 3 rfl rfl)
theorem dX1_turn_52 : decode cX1_turn 52 = .ok (.getfield 255, 3) := dk_180 0 255 (dk_at dksX1_turn_2 4 rfl rfl)
theorem dX1_turn_55 : decode cX1_turn 55 = .ok (.iload_n 2, 1) := dk_28 (dk_at dksX1_turn_2 7 rfl rfl)
theorem dX1_turn_56 : decode cX1_turn 56 = .ok (.aload_n 1, 1) := dk_43 (dk_at dksX1_turn_2 8 rfl rfl)
theorem dX1_turn_57 : decode cX1_turn 57 = .ok (.getfield 259, 3) := dk_180 1 3 (dk_at dksX1_turn_2 9 rfl rfl)
theorem dX1_turn_60 : decode cX1_turn 60 = .ok (.iload_n 2, 1) := dk_28 (dk_at dksX1_turn_2 12 rfl rfl)
theorem dX1_turn_61 : decode cX1_turn 61 = .ok (.laload, 1) := dk_47 (dk_at dksX1_turn_2 13 rfl rfl)
theorem dX1_turn_62 : decode cX1_turn 62 = .ok (.lneg, 1) := dk_117 (dk_at dksX1_turn_2 14 rfl rfl)
theorem dX1_turn_63 : decode cX1_turn 63 = .ok (.lastore, 1) := dk_80 (dk_at dksX1_turn_2 15 rfl rfl)
theorem dX1_turn_64 : decode cX1_turn 64 = .ok (.aload_n 1, 1) := dk_43 (dk_at dksX1_turn_2 16 rfl rfl)
theorem dX1_turn_65 : decode cX1_turn 65 = .ok (.getfield 259, 3) := dk_180 1 3 (dk_at dksX1_turn_2 17 rfl rfl)
theorem dX1_turn_68 : decode cX1_turn 68 = .ok (.iload_n 2, 1) := dk_28 (dk_at dksX1_turn_2 20 rfl rfl)
theorem dX1_turn_69 : decode cX1_turn 69 = .ok (.lload 4, 2) := dk_22 4 (dk_at dksX1_turn_2 21 rfl rfl)
theorem dX1_turn_71 : decode cX1_turn 71 = .ok (.lastore, 1) := dk_80 (dk_at dksX1_turn_2 23 rfl rfl)
theorem dX1_turn_72 : decode cX1_turn 72 = .ok (.iinc 2 1, 3) := dk_132 2 1 (dk_at dksX1_turn_3 0 rfl rfl)
theorem dX1_turn_75 : decode cX1_turn 75 = .ok (.goto (-64), 3) := dk_167 255 192 (dk_at dksX1_turn_3 3 rfl rfl)
theorem dX1_turn_78 : decode cX1_turn 78 = .ok (.return_, 1) := dk_177 (dk_at dksX1_turn_3 6 rfl rfl)
abbrev cX1_virial : ByteArray := prog_1_method_58_code
def yX1_virial : MethodName := ⟨RX1, "virial", "()D"⟩
def dkwX1_virial_1 : List UInt8 := [180, 0, 107, 180, 0, 238, 182, 1, 18, 138, 31, 117, 138, 111, 175]
abbrev dktX1_virial_1 : List UInt8 := dkwX1_virial_1 ++ []
def dkwX1_virial_0 : List UInt8 := [42, 180, 0, 107, 180, 0, 238, 182, 1, 22, 64, 31, 9, 148, 154, 0, 7, 14, 167, 0, 18, 42]
abbrev dktX1_virial_0 : List UInt8 := dkwX1_virial_0 ++ dktX1_virial_1
theorem dksX1_virial_0 : cX1_virial.data.toList.drop 0 = dktX1_virial_0 := by decide +kernel
theorem dksX1_virial_1 : cX1_virial.data.toList.drop 22 = dktX1_virial_1 := dk_seg dksX1_virial_0 22 rfl rfl
theorem dX1_virial_0 : decode cX1_virial 0 = .ok (.aload_n 0, 1) := dk_42 (dk_at dksX1_virial_0 0 rfl rfl)
theorem dX1_virial_1 : decode cX1_virial 1 = .ok (.getfield 107, 3) := dk_180 0 107 (dk_at dksX1_virial_0 1 rfl rfl)
theorem dX1_virial_4 : decode cX1_virial 4 = .ok (.getfield 238, 3) := dk_180 0 238 (dk_at dksX1_virial_0 4 rfl rfl)
theorem dX1_virial_7 : decode cX1_virial 7 = .ok (.invokevirtual 278, 3) := dk_182 1 22 (dk_at dksX1_virial_0 7 rfl rfl)
theorem dX1_virial_10 : decode cX1_virial 10 = .ok (.lstore_n 1, 1) := dk_64 (dk_at dksX1_virial_0 10 rfl rfl)
theorem dX1_virial_11 : decode cX1_virial 11 = .ok (.lload_n 1, 1) := dk_31 (dk_at dksX1_virial_0 11 rfl rfl)
theorem dX1_virial_12 : decode cX1_virial 12 = .ok (.lconst 0, 1) := dk_9 (dk_at dksX1_virial_0 12 rfl rfl)
theorem dX1_virial_13 : decode cX1_virial 13 = .ok (.lcmp, 1) := dk_148 (dk_at dksX1_virial_0 13 rfl rfl)
theorem dX1_virial_14 : decode cX1_virial 14 = .ok (.ifCond .ne 7, 3) := dk_154 0 7 (dk_at dksX1_virial_0 14 rfl rfl)
theorem dX1_virial_17 : decode cX1_virial 17 = .ok (.dconst 0, 1) := dk_14 (dk_at dksX1_virial_0 17 rfl rfl)
theorem dX1_virial_18 : decode cX1_virial 18 = .ok (.goto 18, 3) := dk_167 0 18 (dk_at dksX1_virial_0 18 rfl rfl)
theorem dX1_virial_21 : decode cX1_virial 21 = .ok (.aload_n 0, 1) := dk_42 (dk_at dksX1_virial_0 21 rfl rfl)
theorem dX1_virial_22 : decode cX1_virial 22 = .ok (.getfield 107, 3) := dk_180 0 107 (dk_at dksX1_virial_1 0 rfl rfl)
theorem dX1_virial_25 : decode cX1_virial 25 = .ok (.getfield 238, 3) := dk_180 0 238 (dk_at dksX1_virial_1 3 rfl rfl)
theorem dX1_virial_28 : decode cX1_virial 28 = .ok (.invokevirtual 274, 3) := dk_182 1 18 (dk_at dksX1_virial_1 6 rfl rfl)
theorem dX1_virial_31 : decode cX1_virial 31 = .ok (.l2d, 1) := dk_138 (dk_at dksX1_virial_1 9 rfl rfl)
theorem dX1_virial_32 : decode cX1_virial 32 = .ok (.lload_n 1, 1) := dk_31 (dk_at dksX1_virial_1 10 rfl rfl)
theorem dX1_virial_33 : decode cX1_virial 33 = .ok (.lneg, 1) := dk_117 (dk_at dksX1_virial_1 11 rfl rfl)
theorem dX1_virial_34 : decode cX1_virial 34 = .ok (.l2d, 1) := dk_138 (dk_at dksX1_virial_1 12 rfl rfl)
theorem dX1_virial_35 : decode cX1_virial 35 = .ok (.ddiv, 1) := dk_111 (dk_at dksX1_virial_1 13 rfl rfl)
theorem dX1_virial_36 : decode cX1_virial 36 = .ok (.dreturn, 1) := dk_175 (dk_at dksX1_virial_1 14 rfl rfl)
abbrev cX1_meanDistance : ByteArray := prog_1_method_59_code
def yX1_meanDistance : MethodName := ⟨RX1, "meanDistance", "()F"⟩
def dkwX1_meanDistance_1 : List UInt8 := [132, 2, 1, 167, 255, 234, 27, 134, 19, 1, 183, 110, 174]
abbrev dktX1_meanDistance_1 : List UInt8 := dkwX1_meanDistance_1 ++ []
def dkwX1_meanDistance_0 : List UInt8 := [3, 60, 3, 61, 28, 6, 162, 0, 23, 27, 42, 180, 0, 107, 180, 0, 238, 28, 182, 1, 11, 96, 60]
abbrev dktX1_meanDistance_0 : List UInt8 := dkwX1_meanDistance_0 ++ dktX1_meanDistance_1
theorem dksX1_meanDistance_0 : cX1_meanDistance.data.toList.drop 0 = dktX1_meanDistance_0 := by decide +kernel
theorem dksX1_meanDistance_1 : cX1_meanDistance.data.toList.drop 23 = dktX1_meanDistance_1 := dk_seg dksX1_meanDistance_0 23 rfl rfl
theorem dX1_meanDistance_0 : decode cX1_meanDistance 0 = .ok (.iconst 0, 1) := dk_3 (dk_at dksX1_meanDistance_0 0 rfl rfl)
theorem dX1_meanDistance_1 : decode cX1_meanDistance 1 = .ok (.istore_n 1, 1) := dk_60 (dk_at dksX1_meanDistance_0 1 rfl rfl)
theorem dX1_meanDistance_2 : decode cX1_meanDistance 2 = .ok (.iconst 0, 1) := dk_3 (dk_at dksX1_meanDistance_0 2 rfl rfl)
theorem dX1_meanDistance_3 : decode cX1_meanDistance 3 = .ok (.istore_n 2, 1) := dk_61 (dk_at dksX1_meanDistance_0 3 rfl rfl)
theorem dX1_meanDistance_4 : decode cX1_meanDistance 4 = .ok (.iload_n 2, 1) := dk_28 (dk_at dksX1_meanDistance_0 4 rfl rfl)
theorem dX1_meanDistance_5 : decode cX1_meanDistance 5 = .ok (.iconst 3, 1) := dk_6 (dk_at dksX1_meanDistance_0 5 rfl rfl)
theorem dX1_meanDistance_6 : decode cX1_meanDistance 6 = .ok (.if_icmp .ge 23, 3) := dk_162 0 23 (dk_at dksX1_meanDistance_0 6 rfl rfl)
theorem dX1_meanDistance_9 : decode cX1_meanDistance 9 = .ok (.iload_n 1, 1) := dk_27 (dk_at dksX1_meanDistance_0 9 rfl rfl)
theorem dX1_meanDistance_10 : decode cX1_meanDistance 10 = .ok (.aload_n 0, 1) := dk_42 (dk_at dksX1_meanDistance_0 10 rfl rfl)
theorem dX1_meanDistance_11 : decode cX1_meanDistance 11 = .ok (.getfield 107, 3) := dk_180 0 107 (dk_at dksX1_meanDistance_0 11 rfl rfl)
theorem dX1_meanDistance_14 : decode cX1_meanDistance 14 = .ok (.getfield 238, 3) := dk_180 0 238 (dk_at dksX1_meanDistance_0 14 rfl rfl)
theorem dX1_meanDistance_17 : decode cX1_meanDistance 17 = .ok (.iload_n 2, 1) := dk_28 (dk_at dksX1_meanDistance_0 17 rfl rfl)
theorem dX1_meanDistance_18 : decode cX1_meanDistance 18 = .ok (.invokevirtual 267, 3) := dk_182 1 11 (dk_at dksX1_meanDistance_0 18 rfl rfl)
theorem dX1_meanDistance_21 : decode cX1_meanDistance 21 = .ok (.iadd, 1) := dk_96 (dk_at dksX1_meanDistance_0 21 rfl rfl)
theorem dX1_meanDistance_22 : decode cX1_meanDistance 22 = .ok (.istore_n 1, 1) := dk_60 (dk_at dksX1_meanDistance_0 22 rfl rfl)
theorem dX1_meanDistance_23 : decode cX1_meanDistance 23 = .ok (.iinc 2 1, 3) := dk_132 2 1 (dk_at dksX1_meanDistance_1 0 rfl rfl)
theorem dX1_meanDistance_26 : decode cX1_meanDistance 26 = .ok (.goto (-22), 3) := dk_167 255 234 (dk_at dksX1_meanDistance_1 3 rfl rfl)
theorem dX1_meanDistance_29 : decode cX1_meanDistance 29 = .ok (.iload_n 1, 1) := dk_27 (dk_at dksX1_meanDistance_1 6 rfl rfl)
theorem dX1_meanDistance_30 : decode cX1_meanDistance 30 = .ok (.i2f, 1) := dk_134 (dk_at dksX1_meanDistance_1 7 rfl rfl)
theorem dX1_meanDistance_31 : decode cX1_meanDistance 31 = .ok (.ldc_w 439, 3) := dk_19 1 183 (dk_at dksX1_meanDistance_1 8 rfl rfl)
theorem dX1_meanDistance_34 : decode cX1_meanDistance 34 = .ok (.fdiv, 1) := dk_110 (dk_at dksX1_meanDistance_1 11 rfl rfl)
theorem dX1_meanDistance_35 : decode cX1_meanDistance 35 = .ok (.freturn, 1) := dk_174 (dk_at dksX1_meanDistance_1 12 rfl rfl)
abbrev cX1_formattedByte : ByteArray := prog_1_method_61_code
def yX1_formattedByte : MethodName := ⟨RX1, "formattedByte", "(I)I"⟩
def dkwX1_formattedByte_1 : List UInt8 := [182, 1, 208, 167, 0, 4, 2, 172]
abbrev dktX1_formattedByte_1 : List UInt8 := dkwX1_formattedByte_1 ++ []
def dkwX1_formattedByte_0 : List UInt8 := [27, 133, 9, 42, 180, 0, 135, 182, 1, 205, 4, 100, 133, 184, 0, 64, 153, 0, 14, 42, 180, 0, 135, 27]
abbrev dktX1_formattedByte_0 : List UInt8 := dkwX1_formattedByte_0 ++ dktX1_formattedByte_1
theorem dksX1_formattedByte_0 : cX1_formattedByte.data.toList.drop 0 = dktX1_formattedByte_0 := by decide +kernel
theorem dksX1_formattedByte_1 : cX1_formattedByte.data.toList.drop 24 = dktX1_formattedByte_1 := dk_seg dksX1_formattedByte_0 24 rfl rfl
theorem dX1_formattedByte_0 : decode cX1_formattedByte 0 = .ok (.iload_n 1, 1) := dk_27 (dk_at dksX1_formattedByte_0 0 rfl rfl)
theorem dX1_formattedByte_1 : decode cX1_formattedByte 1 = .ok (.i2l, 1) := dk_133 (dk_at dksX1_formattedByte_0 1 rfl rfl)
theorem dX1_formattedByte_2 : decode cX1_formattedByte 2 = .ok (.lconst 0, 1) := dk_9 (dk_at dksX1_formattedByte_0 2 rfl rfl)
theorem dX1_formattedByte_3 : decode cX1_formattedByte 3 = .ok (.aload_n 0, 1) := dk_42 (dk_at dksX1_formattedByte_0 3 rfl rfl)
theorem dX1_formattedByte_4 : decode cX1_formattedByte 4 = .ok (.getfield 135, 3) := dk_180 0 135 (dk_at dksX1_formattedByte_0 4 rfl rfl)
theorem dX1_formattedByte_7 : decode cX1_formattedByte 7 = .ok (.invokevirtual 461, 3) := dk_182 1 205 (dk_at dksX1_formattedByte_0 7 rfl rfl)
theorem dX1_formattedByte_10 : decode cX1_formattedByte 10 = .ok (.iconst 1, 1) := dk_4 (dk_at dksX1_formattedByte_0 10 rfl rfl)
theorem dX1_formattedByte_11 : decode cX1_formattedByte 11 = .ok (.isub, 1) := dk_100 (dk_at dksX1_formattedByte_0 11 rfl rfl)
theorem dX1_formattedByte_12 : decode cX1_formattedByte 12 = .ok (.i2l, 1) := dk_133 (dk_at dksX1_formattedByte_0 12 rfl rfl)
theorem dX1_formattedByte_13 : decode cX1_formattedByte 13 = .ok (.invokestatic 64, 3) := dk_184 0 64 (dk_at dksX1_formattedByte_0 13 rfl rfl)
theorem dX1_formattedByte_16 : decode cX1_formattedByte 16 = .ok (.ifCond .eq 14, 3) := dk_153 0 14 (dk_at dksX1_formattedByte_0 16 rfl rfl)
theorem dX1_formattedByte_19 : decode cX1_formattedByte 19 = .ok (.aload_n 0, 1) := dk_42 (dk_at dksX1_formattedByte_0 19 rfl rfl)
theorem dX1_formattedByte_20 : decode cX1_formattedByte 20 = .ok (.getfield 135, 3) := dk_180 0 135 (dk_at dksX1_formattedByte_0 20 rfl rfl)
theorem dX1_formattedByte_23 : decode cX1_formattedByte 23 = .ok (.iload_n 1, 1) := dk_27 (dk_at dksX1_formattedByte_0 23 rfl rfl)
theorem dX1_formattedByte_24 : decode cX1_formattedByte 24 = .ok (.invokevirtual 464, 3) := dk_182 1 208 (dk_at dksX1_formattedByte_1 0 rfl rfl)
theorem dX1_formattedByte_27 : decode cX1_formattedByte 27 = .ok (.goto 4, 3) := dk_167 0 4 (dk_at dksX1_formattedByte_1 3 rfl rfl)
theorem dX1_formattedByte_30 : decode cX1_formattedByte 30 = .ok (.iconst (-1), 1) := dk_2 (dk_at dksX1_formattedByte_1 6 rfl rfl)
theorem dX1_formattedByte_31 : decode cX1_formattedByte 31 = .ok (.ireturn, 1) := dk_172 (dk_at dksX1_formattedByte_1 7 rfl rfl)
abbrev cX1_undoCount : ByteArray := prog_1_method_62_code
def yX1_undoCount : MethodName := ⟨RX1, "undoCount", "()I"⟩
def dkwX1_undoCount_0 : List UInt8 := [42, 180, 0, 114, 182, 0, 154, 172]
abbrev dktX1_undoCount_0 : List UInt8 := dkwX1_undoCount_0 ++ []
theorem dksX1_undoCount_0 : cX1_undoCount.data.toList.drop 0 = dktX1_undoCount_0 := by decide +kernel
theorem dX1_undoCount_0 : decode cX1_undoCount 0 = .ok (.aload_n 0, 1) := dk_42 (dk_at dksX1_undoCount_0 0 rfl rfl)
theorem dX1_undoCount_1 : decode cX1_undoCount 1 = .ok (.getfield 114, 3) := dk_180 0 114 (dk_at dksX1_undoCount_0 1 rfl rfl)
theorem dX1_undoCount_4 : decode cX1_undoCount 4 = .ok (.invokevirtual 154, 3) := dk_182 0 154 (dk_at dksX1_undoCount_0 4 rfl rfl)
theorem dX1_undoCount_7 : decode cX1_undoCount 7 = .ok (.ireturn, 1) := dk_172 (dk_at dksX1_undoCount_0 7 rfl rfl)
abbrev cX1_undo : ByteArray := prog_1_method_63_code
def yX1_undo : MethodName := ⟨RX1, "undo", "()I"⟩
def dkwX1_undo_1 : List UInt8 := [181, 0, 107, 42, 180, 0, 114, 182, 0, 154, 172]
abbrev dktX1_undo_1 : List UInt8 := dkwX1_undo_1 ++ []
def dkwX1_undo_0 : List UInt8 := [42, 180, 0, 114, 182, 1, 212, 153, 0, 5, 2, 172, 42, 42, 180, 0, 114, 182, 1, 215, 192, 0, 104]
abbrev dktX1_undo_0 : List UInt8 := dkwX1_undo_0 ++ dktX1_undo_1
theorem dksX1_undo_0 : cX1_undo.data.toList.drop 0 = dktX1_undo_0 := by decide +kernel
theorem dksX1_undo_1 : cX1_undo.data.toList.drop 23 = dktX1_undo_1 := dk_seg dksX1_undo_0 23 rfl rfl
theorem dX1_undo_0 : decode cX1_undo 0 = .ok (.aload_n 0, 1) := dk_42 (dk_at dksX1_undo_0 0 rfl rfl)
theorem dX1_undo_1 : decode cX1_undo 1 = .ok (.getfield 114, 3) := dk_180 0 114 (dk_at dksX1_undo_0 1 rfl rfl)
theorem dX1_undo_4 : decode cX1_undo 4 = .ok (.invokevirtual 468, 3) := dk_182 1 212 (dk_at dksX1_undo_0 4 rfl rfl)
theorem dX1_undo_7 : decode cX1_undo 7 = .ok (.ifCond .eq 5, 3) := dk_153 0 5 (dk_at dksX1_undo_0 7 rfl rfl)
theorem dX1_undo_10 : decode cX1_undo 10 = .ok (.iconst (-1), 1) := dk_2 (dk_at dksX1_undo_0 10 rfl rfl)
theorem dX1_undo_11 : decode cX1_undo 11 = .ok (.ireturn, 1) := dk_172 (dk_at dksX1_undo_0 11 rfl rfl)
theorem dX1_undo_12 : decode cX1_undo 12 = .ok (.aload_n 0, 1) := dk_42 (dk_at dksX1_undo_0 12 rfl rfl)
theorem dX1_undo_13 : decode cX1_undo 13 = .ok (.aload_n 0, 1) := dk_42 (dk_at dksX1_undo_0 13 rfl rfl)
theorem dX1_undo_14 : decode cX1_undo 14 = .ok (.getfield 114, 3) := dk_180 0 114 (dk_at dksX1_undo_0 14 rfl rfl)
theorem dX1_undo_17 : decode cX1_undo 17 = .ok (.invokevirtual 471, 3) := dk_182 1 215 (dk_at dksX1_undo_0 17 rfl rfl)
theorem dX1_undo_20 : decode cX1_undo 20 = .ok (.checkcast 104, 3) := dk_192 0 104 (dk_at dksX1_undo_0 20 rfl rfl)
theorem dX1_undo_23 : decode cX1_undo 23 = .ok (.putfield 107, 3) := dk_181 0 107 (dk_at dksX1_undo_1 0 rfl rfl)
theorem dX1_undo_26 : decode cX1_undo 26 = .ok (.aload_n 0, 1) := dk_42 (dk_at dksX1_undo_1 3 rfl rfl)
theorem dX1_undo_27 : decode cX1_undo 27 = .ok (.getfield 114, 3) := dk_180 0 114 (dk_at dksX1_undo_1 4 rfl rfl)
theorem dX1_undo_30 : decode cX1_undo 30 = .ok (.invokevirtual 154, 3) := dk_182 0 154 (dk_at dksX1_undo_1 7 rfl rfl)
theorem dX1_undo_33 : decode cX1_undo 33 = .ok (.ireturn, 1) := dk_172 (dk_at dksX1_undo_1 10 rfl rfl)
abbrev cX1_saveSnapshot : ByteArray := prog_1_method_64_code
def yX1_saveSnapshot : MethodName := ⟨RX1, "saveSnapshot", "()V"⟩
def dkwX1_saveSnapshot_0 : List UInt8 := [42, 42, 180, 0, 107, 182, 0, 161, 181, 0, 235, 177]
abbrev dktX1_saveSnapshot_0 : List UInt8 := dkwX1_saveSnapshot_0 ++ []
theorem dksX1_saveSnapshot_0 : cX1_saveSnapshot.data.toList.drop 0 = dktX1_saveSnapshot_0 := by decide +kernel
theorem dX1_saveSnapshot_0 : decode cX1_saveSnapshot 0 = .ok (.aload_n 0, 1) := dk_42 (dk_at dksX1_saveSnapshot_0 0 rfl rfl)
theorem dX1_saveSnapshot_1 : decode cX1_saveSnapshot 1 = .ok (.aload_n 0, 1) := dk_42 (dk_at dksX1_saveSnapshot_0 1 rfl rfl)
theorem dX1_saveSnapshot_2 : decode cX1_saveSnapshot 2 = .ok (.getfield 107, 3) := dk_180 0 107 (dk_at dksX1_saveSnapshot_0 2 rfl rfl)
theorem dX1_saveSnapshot_5 : decode cX1_saveSnapshot 5 = .ok (.invokevirtual 161, 3) := dk_182 0 161 (dk_at dksX1_saveSnapshot_0 5 rfl rfl)
theorem dX1_saveSnapshot_8 : decode cX1_saveSnapshot 8 = .ok (.putfield 235, 3) := dk_181 0 235 (dk_at dksX1_saveSnapshot_0 8 rfl rfl)
theorem dX1_saveSnapshot_11 : decode cX1_saveSnapshot 11 = .ok (.return_, 1) := dk_177 (dk_at dksX1_saveSnapshot_0 11 rfl rfl)
abbrev cX1_restoreSnapshot : ByteArray := prog_1_method_65_code
def yX1_restoreSnapshot : MethodName := ⟨RX1, "restoreSnapshot", "()Z"⟩
def dkwX1_restoreSnapshot_1 : List UInt8 := [182, 0, 232, 4, 172]
abbrev dktX1_restoreSnapshot_1 : List UInt8 := dkwX1_restoreSnapshot_1 ++ []
def dkwX1_restoreSnapshot_0 : List UInt8 := [42, 180, 0, 235, 199, 0, 5, 3, 172, 42, 42, 180, 0, 235, 182, 0, 161, 181, 0, 107, 42, 180, 0, 114]
abbrev dktX1_restoreSnapshot_0 : List UInt8 := dkwX1_restoreSnapshot_0 ++ dktX1_restoreSnapshot_1
theorem dksX1_restoreSnapshot_0 : cX1_restoreSnapshot.data.toList.drop 0 = dktX1_restoreSnapshot_0 := by decide +kernel
theorem dksX1_restoreSnapshot_1 : cX1_restoreSnapshot.data.toList.drop 24 = dktX1_restoreSnapshot_1 := dk_seg dksX1_restoreSnapshot_0 24 rfl rfl
theorem dX1_restoreSnapshot_0 : decode cX1_restoreSnapshot 0 = .ok (.aload_n 0, 1) := dk_42 (dk_at dksX1_restoreSnapshot_0 0 rfl rfl)
theorem dX1_restoreSnapshot_1 : decode cX1_restoreSnapshot 1 = .ok (.getfield 235, 3) := dk_180 0 235 (dk_at dksX1_restoreSnapshot_0 1 rfl rfl)
theorem dX1_restoreSnapshot_4 : decode cX1_restoreSnapshot 4 = .ok (.ifnonnull 5, 3) := dk_199 0 5 (dk_at dksX1_restoreSnapshot_0 4 rfl rfl)
theorem dX1_restoreSnapshot_7 : decode cX1_restoreSnapshot 7 = .ok (.iconst 0, 1) := dk_3 (dk_at dksX1_restoreSnapshot_0 7 rfl rfl)
theorem dX1_restoreSnapshot_8 : decode cX1_restoreSnapshot 8 = .ok (.ireturn, 1) := dk_172 (dk_at dksX1_restoreSnapshot_0 8 rfl rfl)
theorem dX1_restoreSnapshot_9 : decode cX1_restoreSnapshot 9 = .ok (.aload_n 0, 1) := dk_42 (dk_at dksX1_restoreSnapshot_0 9 rfl rfl)
theorem dX1_restoreSnapshot_10 : decode cX1_restoreSnapshot 10 = .ok (.aload_n 0, 1) := dk_42 (dk_at dksX1_restoreSnapshot_0 10 rfl rfl)
theorem dX1_restoreSnapshot_11 : decode cX1_restoreSnapshot 11 = .ok (.getfield 235, 3) := dk_180 0 235 (dk_at dksX1_restoreSnapshot_0 11 rfl rfl)
theorem dX1_restoreSnapshot_14 : decode cX1_restoreSnapshot 14 = .ok (.invokevirtual 161, 3) := dk_182 0 161 (dk_at dksX1_restoreSnapshot_0 14 rfl rfl)
theorem dX1_restoreSnapshot_17 : decode cX1_restoreSnapshot 17 = .ok (.putfield 107, 3) := dk_181 0 107 (dk_at dksX1_restoreSnapshot_0 17 rfl rfl)
theorem dX1_restoreSnapshot_20 : decode cX1_restoreSnapshot 20 = .ok (.aload_n 0, 1) := dk_42 (dk_at dksX1_restoreSnapshot_0 20 rfl rfl)
theorem dX1_restoreSnapshot_21 : decode cX1_restoreSnapshot 21 = .ok (.getfield 114, 3) := dk_180 0 114 (dk_at dksX1_restoreSnapshot_0 21 rfl rfl)
theorem dX1_restoreSnapshot_24 : decode cX1_restoreSnapshot 24 = .ok (.invokevirtual 232, 3) := dk_182 0 232 (dk_at dksX1_restoreSnapshot_1 0 rfl rfl)
theorem dX1_restoreSnapshot_27 : decode cX1_restoreSnapshot 27 = .ok (.iconst 1, 1) := dk_4 (dk_at dksX1_restoreSnapshot_1 3 rfl rfl)
theorem dX1_restoreSnapshot_28 : decode cX1_restoreSnapshot 28 = .ok (.ireturn, 1) := dk_172 (dk_at dksX1_restoreSnapshot_1 4 rfl rfl)
abbrev cX1_load : ByteArray := prog_1_method_21_code
def yX1_load : MethodName := ⟨RX1, "load", "(I)I"⟩
def dkwX1_load_3 : List UInt8 := [100, 172, 42, 2, 181, 0, 100, 42, 180, 0, 114, 182, 0, 232, 42, 1, 181, 0, 235, 6, 172]
abbrev dktX1_load_3 : List UInt8 := dkwX1_load_3 ++ []
def dkwX1_load_2 : List UInt8 := [167, 0, 26, 77, 42, 44, 182, 0, 220, 180, 0, 224, 181, 0, 100, 16, 246, 44, 182, 0, 220, 182, 0, 229]
abbrev dktX1_load_2 : List UInt8 := dkwX1_load_2 ++ dktX1_load_3
def dkwX1_load_1 : List UInt8 := [187, 0, 205, 89, 42, 180, 0, 96, 27, 18, 207, 183, 0, 209, 183, 0, 212, 182, 0, 215, 181, 0, 107]
abbrev dktX1_load_1 : List UInt8 := dkwX1_load_1 ++ dktX1_load_2
def dkwX1_load_0 : List UInt8 := [27, 133, 9, 42, 180, 0, 193, 133, 184, 0, 64, 184, 0, 200, 42, 3, 181, 0, 193, 42, 187, 0, 203, 89]
abbrev dktX1_load_0 : List UInt8 := dkwX1_load_0 ++ dktX1_load_1
theorem dksX1_load_0 : cX1_load.data.toList.drop 0 = dktX1_load_0 := by decide +kernel
theorem dksX1_load_1 : cX1_load.data.toList.drop 24 = dktX1_load_1 := dk_seg dksX1_load_0 24 rfl rfl
theorem dksX1_load_2 : cX1_load.data.toList.drop 47 = dktX1_load_2 := dk_seg dksX1_load_1 23 rfl rfl
theorem dksX1_load_3 : cX1_load.data.toList.drop 71 = dktX1_load_3 := dk_seg dksX1_load_2 24 rfl rfl
theorem dX1_load_0 : decode cX1_load 0 = .ok (.iload_n 1, 1) := dk_27 (dk_at dksX1_load_0 0 rfl rfl)
theorem dX1_load_1 : decode cX1_load 1 = .ok (.i2l, 1) := dk_133 (dk_at dksX1_load_0 1 rfl rfl)
theorem dX1_load_2 : decode cX1_load 2 = .ok (.lconst 0, 1) := dk_9 (dk_at dksX1_load_0 2 rfl rfl)
theorem dX1_load_3 : decode cX1_load 3 = .ok (.aload_n 0, 1) := dk_42 (dk_at dksX1_load_0 3 rfl rfl)
theorem dX1_load_4 : decode cX1_load 4 = .ok (.getfield 193, 3) := dk_180 0 193 (dk_at dksX1_load_0 4 rfl rfl)
theorem dX1_load_7 : decode cX1_load 7 = .ok (.i2l, 1) := dk_133 (dk_at dksX1_load_0 7 rfl rfl)
theorem dX1_load_8 : decode cX1_load 8 = .ok (.invokestatic 64, 3) := dk_184 0 64 (dk_at dksX1_load_0 8 rfl rfl)
theorem dX1_load_11 : decode cX1_load 11 = .ok (.invokestatic 200, 3) := dk_184 0 200 (dk_at dksX1_load_0 11 rfl rfl)
theorem dX1_load_14 : decode cX1_load 14 = .ok (.aload_n 0, 1) := dk_42 (dk_at dksX1_load_0 14 rfl rfl)
theorem dX1_load_15 : decode cX1_load 15 = .ok (.iconst 0, 1) := dk_3 (dk_at dksX1_load_0 15 rfl rfl)
theorem dX1_load_16 : decode cX1_load 16 = .ok (.putfield 193, 3) := dk_181 0 193 (dk_at dksX1_load_0 16 rfl rfl)
theorem dX1_load_19 : decode cX1_load 19 = .ok (.aload_n 0, 1) := dk_42 (dk_at dksX1_load_0 19 rfl rfl)
theorem dX1_load_20 : decode cX1_load 20 = .ok (.new 203, 3) := dk_187 0 203 (dk_at dksX1_load_0 20 rfl rfl)
theorem dX1_load_23 : decode cX1_load 23 = .ok (.dup, 1) := dk_89 (dk_at dksX1_load_0 23 rfl rfl)
theorem dX1_load_24 : decode cX1_load 24 = .ok (.new 205, 3) := dk_187 0 205 (dk_at dksX1_load_1 0 rfl rfl)
theorem dX1_load_27 : decode cX1_load 27 = .ok (.dup, 1) := dk_89 (dk_at dksX1_load_1 3 rfl rfl)
theorem dX1_load_28 : decode cX1_load 28 = .ok (.aload_n 0, 1) := dk_42 (dk_at dksX1_load_1 4 rfl rfl)
theorem dX1_load_29 : decode cX1_load 29 = .ok (.getfield 96, 3) := dk_180 0 96 (dk_at dksX1_load_1 5 rfl rfl)
theorem dX1_load_32 : decode cX1_load 32 = .ok (.iload_n 1, 1) := dk_27 (dk_at dksX1_load_1 8 rfl rfl)
theorem dX1_load_33 : decode cX1_load 33 = .ok (.ldc 207, 2) := dk_18 207 (dk_at dksX1_load_1 9 rfl rfl)
theorem dX1_load_35 : decode cX1_load 35 = .ok (.invokespecial 209, 3) := dk_183 0 209 (dk_at dksX1_load_1 11 rfl rfl)
theorem dX1_load_38 : decode cX1_load 38 = .ok (.invokespecial 212, 3) := dk_183 0 212 (dk_at dksX1_load_1 14 rfl rfl)
theorem dX1_load_41 : decode cX1_load 41 = .ok (.invokevirtual 215, 3) := dk_182 0 215 (dk_at dksX1_load_1 17 rfl rfl)
theorem dX1_load_44 : decode cX1_load 44 = .ok (.putfield 107, 3) := dk_181 0 107 (dk_at dksX1_load_1 20 rfl rfl)
theorem dX1_load_47 : decode cX1_load 47 = .ok (.goto 26, 3) := dk_167 0 26 (dk_at dksX1_load_2 0 rfl rfl)
theorem dX1_load_50 : decode cX1_load 50 = .ok (.astore_n 2, 1) := dk_77 (dk_at dksX1_load_2 3 rfl rfl)
theorem dX1_load_51 : decode cX1_load 51 = .ok (.aload_n 0, 1) := dk_42 (dk_at dksX1_load_2 4 rfl rfl)
theorem dX1_load_52 : decode cX1_load 52 = .ok (.aload_n 2, 1) := dk_44 (dk_at dksX1_load_2 5 rfl rfl)
theorem dX1_load_53 : decode cX1_load 53 = .ok (.invokevirtual 220, 3) := dk_182 0 220 (dk_at dksX1_load_2 6 rfl rfl)
theorem dX1_load_56 : decode cX1_load 56 = .ok (.getfield 224, 3) := dk_180 0 224 (dk_at dksX1_load_2 9 rfl rfl)
theorem dX1_load_59 : decode cX1_load 59 = .ok (.putfield 100, 3) := dk_181 0 100 (dk_at dksX1_load_2 12 rfl rfl)
theorem dX1_load_62 : decode cX1_load 62 = .ok (.bipush (-10), 2) := dk_16 246 (dk_at dksX1_load_2 15 rfl rfl)
theorem dX1_load_64 : decode cX1_load 64 = .ok (.aload_n 2, 1) := dk_44 (dk_at dksX1_load_2 17 rfl rfl)
theorem dX1_load_65 : decode cX1_load 65 = .ok (.invokevirtual 220, 3) := dk_182 0 220 (dk_at dksX1_load_2 18 rfl rfl)
theorem dX1_load_68 : decode cX1_load 68 = .ok (.invokevirtual 229, 3) := dk_182 0 229 (dk_at dksX1_load_2 21 rfl rfl)
theorem dX1_load_71 : decode cX1_load 71 = .ok (.isub, 1) := dk_100 (dk_at dksX1_load_3 0 rfl rfl)
theorem dX1_load_72 : decode cX1_load 72 = .ok (.ireturn, 1) := dk_172 (dk_at dksX1_load_3 1 rfl rfl)
theorem dX1_load_73 : decode cX1_load 73 = .ok (.aload_n 0, 1) := dk_42 (dk_at dksX1_load_3 2 rfl rfl)
theorem dX1_load_74 : decode cX1_load 74 = .ok (.iconst (-1), 1) := dk_2 (dk_at dksX1_load_3 3 rfl rfl)
theorem dX1_load_75 : decode cX1_load 75 = .ok (.putfield 100, 3) := dk_181 0 100 (dk_at dksX1_load_3 4 rfl rfl)
theorem dX1_load_78 : decode cX1_load 78 = .ok (.aload_n 0, 1) := dk_42 (dk_at dksX1_load_3 7 rfl rfl)
theorem dX1_load_79 : decode cX1_load 79 = .ok (.getfield 114, 3) := dk_180 0 114 (dk_at dksX1_load_3 8 rfl rfl)
theorem dX1_load_82 : decode cX1_load 82 = .ok (.invokevirtual 232, 3) := dk_182 0 232 (dk_at dksX1_load_3 11 rfl rfl)
theorem dX1_load_85 : decode cX1_load 85 = .ok (.aload_n 0, 1) := dk_42 (dk_at dksX1_load_3 14 rfl rfl)
theorem dX1_load_86 : decode cX1_load 86 = .ok (.aconst_null, 1) := dk_1 (dk_at dksX1_load_3 15 rfl rfl)
theorem dX1_load_87 : decode cX1_load 87 = .ok (.putfield 235, 3) := dk_181 0 235 (dk_at dksX1_load_3 16 rfl rfl)
theorem dX1_load_90 : decode cX1_load 90 = .ok (.iconst 3, 1) := dk_6 (dk_at dksX1_load_3 19 rfl rfl)
theorem dX1_load_91 : decode cX1_load 91 = .ok (.ireturn, 1) := dk_172 (dk_at dksX1_load_3 20 rfl rfl)
abbrev cX1_require : ByteArray := prog_1_method_3_code
def yX1_require : MethodName := ⟨RX1, "require", "(Z)V"⟩
def dkwX1_require_0 : List UInt8 := [26, 154, 0, 11, 187, 0, 7, 89, 183, 0, 9, 191, 177]
abbrev dktX1_require_0 : List UInt8 := dkwX1_require_0 ++ []
theorem dksX1_require_0 : cX1_require.data.toList.drop 0 = dktX1_require_0 := by decide +kernel
theorem dX1_require_0 : decode cX1_require 0 = .ok (.iload_n 0, 1) := dk_26 (dk_at dksX1_require_0 0 rfl rfl)
theorem dX1_require_1 : decode cX1_require 1 = .ok (.ifCond .ne 11, 3) := dk_154 0 11 (dk_at dksX1_require_0 1 rfl rfl)
theorem dX1_require_4 : decode cX1_require 4 = .ok (.new 7, 3) := dk_187 0 7 (dk_at dksX1_require_0 4 rfl rfl)
theorem dX1_require_7 : decode cX1_require 7 = .ok (.dup, 1) := dk_89 (dk_at dksX1_require_0 7 rfl rfl)
theorem dX1_require_8 : decode cX1_require 8 = .ok (.invokespecial 9, 3) := dk_183 0 9 (dk_at dksX1_require_0 8 rfl rfl)
theorem dX1_require_11 : decode cX1_require 11 = .ok (.athrow, 1) := dk_191 (dk_at dksX1_require_0 11 rfl rfl)
theorem dX1_require_12 : decode cX1_require 12 = .ok (.return_, 1) := dk_177 (dk_at dksX1_require_0 12 rfl rfl)
abbrev cX1_body : ByteArray := prog_1_method_24_code
def yX1_body : MethodName := ⟨RX1, "body", "(II)I"⟩
def dkwX1_body_4 : List UInt8 := [187, 0, 1, 89, 183, 0, 3, 191, 172]
abbrev dktX1_body_4 : List UInt8 := dkwX1_body_4 ++ []
def dkwX1_body_3 : List UInt8 := [167, 0, 31, 45, 180, 0, 255, 27, 47, 136, 167, 0, 21, 45, 180, 1, 3, 27, 47, 136, 167, 0, 11]
abbrev dktX1_body_3 : List UInt8 := dkwX1_body_3 ++ dktX1_body_4
def dkwX1_body_2 : List UInt8 := [45, 180, 0, 247, 27, 46, 167, 0, 49, 45, 180, 0, 251, 27, 46, 167, 0, 40, 45, 180, 0, 253, 27, 46]
abbrev dktX1_body_2 : List UInt8 := dkwX1_body_2 ++ dktX1_body_3
def dkwX1_body_1 : List UInt8 := [170, 0, 0, 0, 0, 0, 82, 0, 0, 0, 0, 0, 0, 0, 4, 0, 0, 0, 35, 0, 0, 0, 44, 0, 0, 0, 53, 0, 0, 0, 62, 0, 0, 0, 72]
abbrev dktX1_body_1 : List UInt8 := dkwX1_body_1 ++ dktX1_body_2
def dkwX1_body_0 : List UInt8 := [27, 184, 0, 243, 42, 180, 0, 107, 180, 0, 238, 78, 28]
abbrev dktX1_body_0 : List UInt8 := dkwX1_body_0 ++ dktX1_body_1
theorem dksX1_body_0 : cX1_body.data.toList.drop 0 = dktX1_body_0 := by decide +kernel
theorem dksX1_body_1 : cX1_body.data.toList.drop 13 = dktX1_body_1 := dk_seg dksX1_body_0 13 rfl rfl
theorem dksX1_body_2 : cX1_body.data.toList.drop 48 = dktX1_body_2 := dk_seg dksX1_body_1 35 rfl rfl
theorem dksX1_body_3 : cX1_body.data.toList.drop 72 = dktX1_body_3 := dk_seg dksX1_body_2 24 rfl rfl
theorem dksX1_body_4 : cX1_body.data.toList.drop 95 = dktX1_body_4 := dk_seg dksX1_body_3 23 rfl rfl
theorem dX1_body_0 : decode cX1_body 0 = .ok (.iload_n 1, 1) := dk_27 (dk_at dksX1_body_0 0 rfl rfl)
theorem dX1_body_1 : decode cX1_body 1 = .ok (.invokestatic 243, 3) := dk_184 0 243 (dk_at dksX1_body_0 1 rfl rfl)
theorem dX1_body_4 : decode cX1_body 4 = .ok (.aload_n 0, 1) := dk_42 (dk_at dksX1_body_0 4 rfl rfl)
theorem dX1_body_5 : decode cX1_body 5 = .ok (.getfield 107, 3) := dk_180 0 107 (dk_at dksX1_body_0 5 rfl rfl)
theorem dX1_body_8 : decode cX1_body 8 = .ok (.getfield 238, 3) := dk_180 0 238 (dk_at dksX1_body_0 8 rfl rfl)
theorem dX1_body_11 : decode cX1_body 11 = .ok (.astore_n 3, 1) := dk_78 (dk_at dksX1_body_0 11 rfl rfl)
theorem dX1_body_12 : decode cX1_body 12 = .ok (.iload_n 2, 1) := dk_28 (dk_at dksX1_body_0 12 rfl rfl)
theorem dX1_body_13 : decode cX1_body 13 = .ok (.tableswitch 82 0 4 #[35, 44, 53, 62, 72], 35) := by decide +kernel
theorem dX1_body_48 : decode cX1_body 48 = .ok (.aload_n 3, 1) := dk_45 (dk_at dksX1_body_2 0 rfl rfl)
theorem dX1_body_49 : decode cX1_body 49 = .ok (.getfield 247, 3) := dk_180 0 247 (dk_at dksX1_body_2 1 rfl rfl)
theorem dX1_body_52 : decode cX1_body 52 = .ok (.iload_n 1, 1) := dk_27 (dk_at dksX1_body_2 4 rfl rfl)
theorem dX1_body_53 : decode cX1_body 53 = .ok (.iaload, 1) := dk_46 (dk_at dksX1_body_2 5 rfl rfl)
theorem dX1_body_54 : decode cX1_body 54 = .ok (.goto 49, 3) := dk_167 0 49 (dk_at dksX1_body_2 6 rfl rfl)
theorem dX1_body_57 : decode cX1_body 57 = .ok (.aload_n 3, 1) := dk_45 (dk_at dksX1_body_2 9 rfl rfl)
theorem dX1_body_58 : decode cX1_body 58 = .ok (.getfield 251, 3) := dk_180 0 251 (dk_at dksX1_body_2 10 rfl rfl)
theorem dX1_body_61 : decode cX1_body 61 = .ok (.iload_n 1, 1) := dk_27 (dk_at dksX1_body_2 13 rfl rfl)
theorem dX1_body_62 : decode cX1_body 62 = .ok (.iaload, 1) := dk_46 (dk_at dksX1_body_2 14 rfl rfl)
theorem dX1_body_63 : decode cX1_body 63 = .ok (.goto 40, 3) := dk_167 0 40 (dk_at dksX1_body_2 15 rfl rfl)
theorem dX1_body_66 : decode cX1_body 66 = .ok (.aload_n 3, 1) := dk_45 (dk_at dksX1_body_2 18 rfl rfl)
theorem dX1_body_67 : decode cX1_body 67 = .ok (.getfield 253, 3) := dk_180 0 253 (dk_at dksX1_body_2 19 rfl rfl)
theorem dX1_body_70 : decode cX1_body 70 = .ok (.iload_n 1, 1) := dk_27 (dk_at dksX1_body_2 22 rfl rfl)
theorem dX1_body_71 : decode cX1_body 71 = .ok (.iaload, 1) := dk_46 (dk_at dksX1_body_2 23 rfl rfl)
theorem dX1_body_72 : decode cX1_body 72 = .ok (.goto 31, 3) := dk_167 0 31 (dk_at dksX1_body_3 0 rfl rfl)
theorem dX1_body_75 : decode cX1_body 75 = .ok (.aload_n 3, 1) := dk_45 (dk_at dksX1_body_3 3 rfl rfl)
theorem dX1_body_76 : decode cX1_body 76 = .ok (.getfield 255, 3) := dk_180 0 255 (dk_at dksX1_body_3 4 rfl rfl)
theorem dX1_body_79 : decode cX1_body 79 = .ok (.iload_n 1, 1) := dk_27 (dk_at dksX1_body_3 7 rfl rfl)
theorem dX1_body_80 : decode cX1_body 80 = .ok (.laload, 1) := dk_47 (dk_at dksX1_body_3 8 rfl rfl)
theorem dX1_body_81 : decode cX1_body 81 = .ok (.l2i, 1) := dk_136 (dk_at dksX1_body_3 9 rfl rfl)
theorem dX1_body_82 : decode cX1_body 82 = .ok (.goto 21, 3) := dk_167 0 21 (dk_at dksX1_body_3 10 rfl rfl)
theorem dX1_body_85 : decode cX1_body 85 = .ok (.aload_n 3, 1) := dk_45 (dk_at dksX1_body_3 13 rfl rfl)
theorem dX1_body_86 : decode cX1_body 86 = .ok (.getfield 259, 3) := dk_180 1 3 (dk_at dksX1_body_3 14 rfl rfl)
theorem dX1_body_89 : decode cX1_body 89 = .ok (.iload_n 1, 1) := dk_27 (dk_at dksX1_body_3 17 rfl rfl)
theorem dX1_body_90 : decode cX1_body 90 = .ok (.laload, 1) := dk_47 (dk_at dksX1_body_3 18 rfl rfl)
theorem dX1_body_91 : decode cX1_body 91 = .ok (.l2i, 1) := dk_136 (dk_at dksX1_body_3 19 rfl rfl)
theorem dX1_body_92 : decode cX1_body 92 = .ok (.goto 11, 3) := dk_167 0 11 (dk_at dksX1_body_3 20 rfl rfl)
theorem dX1_body_95 : decode cX1_body 95 = .ok (.new 1, 3) := dk_187 0 1 (dk_at dksX1_body_4 0 rfl rfl)
theorem dX1_body_98 : decode cX1_body 98 = .ok (.dup, 1) := dk_89 (dk_at dksX1_body_4 3 rfl rfl)
theorem dX1_body_99 : decode cX1_body 99 = .ok (.invokespecial 3, 3) := dk_183 0 3 (dk_at dksX1_body_4 4 rfl rfl)
theorem dX1_body_102 : decode cX1_body 102 = .ok (.athrow, 1) := dk_191 (dk_at dksX1_body_4 7 rfl rfl)
theorem dX1_body_103 : decode cX1_body 103 = .ok (.ireturn, 1) := dk_172 (dk_at dksX1_body_4 8 rfl rfl)
abbrev cX1_requireBody : ByteArray := prog_1_method_17_code
def yX1_requireBody : MethodName := ⟨RX1, "requireBody", "(I)V"⟩
def dkwX1_requireBody_0 : List UInt8 := [26, 133, 9, 20, 0, 12, 184, 0, 64, 184, 0, 172, 177]
abbrev dktX1_requireBody_0 : List UInt8 := dkwX1_requireBody_0 ++ []
theorem dksX1_requireBody_0 : cX1_requireBody.data.toList.drop 0 = dktX1_requireBody_0 := by decide +kernel
theorem dX1_requireBody_0 : decode cX1_requireBody 0 = .ok (.iload_n 0, 1) := dk_26 (dk_at dksX1_requireBody_0 0 rfl rfl)
theorem dX1_requireBody_1 : decode cX1_requireBody 1 = .ok (.i2l, 1) := dk_133 (dk_at dksX1_requireBody_0 1 rfl rfl)
theorem dX1_requireBody_2 : decode cX1_requireBody 2 = .ok (.lconst 0, 1) := dk_9 (dk_at dksX1_requireBody_0 2 rfl rfl)
theorem dX1_requireBody_3 : decode cX1_requireBody 3 = .ok (.ldc2_w 12, 3) := dk_20 0 12 (dk_at dksX1_requireBody_0 3 rfl rfl)
theorem dX1_requireBody_6 : decode cX1_requireBody 6 = .ok (.invokestatic 64, 3) := dk_184 0 64 (dk_at dksX1_requireBody_0 6 rfl rfl)
theorem dX1_requireBody_9 : decode cX1_requireBody 9 = .ok (.invokestatic 172, 3) := dk_184 0 172 (dk_at dksX1_requireBody_0 9 rfl rfl)
theorem dX1_requireBody_12 : decode cX1_requireBody 12 = .ok (.return_, 1) := dk_177 (dk_at dksX1_requireBody_0 12 rfl rfl)
abbrev cX1_requireExists : ByteArray := prog_1_method_2_code
def yX1_requireExists : MethodName := ⟨RX1, "requireExists", "(Z)V"⟩
def dkwX1_requireExists_0 : List UInt8 := [26, 154, 0, 11, 187, 0, 1, 89, 183, 0, 3, 191, 177]
abbrev dktX1_requireExists_0 : List UInt8 := dkwX1_requireExists_0 ++ []
theorem dksX1_requireExists_0 : cX1_requireExists.data.toList.drop 0 = dktX1_requireExists_0 := by decide +kernel
theorem dX1_requireExists_0 : decode cX1_requireExists 0 = .ok (.iload_n 0, 1) := dk_26 (dk_at dksX1_requireExists_0 0 rfl rfl)
theorem dX1_requireExists_1 : decode cX1_requireExists 1 = .ok (.ifCond .ne 11, 3) := dk_154 0 11 (dk_at dksX1_requireExists_0 1 rfl rfl)
theorem dX1_requireExists_4 : decode cX1_requireExists 4 = .ok (.new 1, 3) := dk_187 0 1 (dk_at dksX1_requireExists_0 4 rfl rfl)
theorem dX1_requireExists_7 : decode cX1_requireExists 7 = .ok (.dup, 1) := dk_89 (dk_at dksX1_requireExists_0 7 rfl rfl)
theorem dX1_requireExists_8 : decode cX1_requireExists 8 = .ok (.invokespecial 3, 3) := dk_183 0 3 (dk_at dksX1_requireExists_0 8 rfl rfl)
theorem dX1_requireExists_11 : decode cX1_requireExists 11 = .ok (.athrow, 1) := dk_191 (dk_at dksX1_requireExists_0 11 rfl rfl)
theorem dX1_requireExists_12 : decode cX1_requireExists 12 = .ok (.return_, 1) := dk_177 (dk_at dksX1_requireExists_0 12 rfl rfl)
abbrev cX1_setting : ByteArray := prog_1_method_25_code
def yX1_setting : MethodName := ⟨RX1, "setting", "(I)I"⟩
def dkwX1_setting_1 : List UInt8 := [172]
abbrev dktX1_setting_1 : List UInt8 := dkwX1_setting_1 ++ []
def dkwX1_setting_0 : List UInt8 := [27, 133, 9, 20, 1, 6, 184, 0, 64, 184, 0, 172, 42, 180, 0, 107, 180, 0, 238, 180, 1, 8, 27, 46]
abbrev dktX1_setting_0 : List UInt8 := dkwX1_setting_0 ++ dktX1_setting_1
theorem dksX1_setting_0 : cX1_setting.data.toList.drop 0 = dktX1_setting_0 := by decide +kernel
theorem dksX1_setting_1 : cX1_setting.data.toList.drop 24 = dktX1_setting_1 := dk_seg dksX1_setting_0 24 rfl rfl
theorem dX1_setting_0 : decode cX1_setting 0 = .ok (.iload_n 1, 1) := dk_27 (dk_at dksX1_setting_0 0 rfl rfl)
theorem dX1_setting_1 : decode cX1_setting 1 = .ok (.i2l, 1) := dk_133 (dk_at dksX1_setting_0 1 rfl rfl)
theorem dX1_setting_2 : decode cX1_setting 2 = .ok (.lconst 0, 1) := dk_9 (dk_at dksX1_setting_0 2 rfl rfl)
theorem dX1_setting_3 : decode cX1_setting 3 = .ok (.ldc2_w 262, 3) := dk_20 1 6 (dk_at dksX1_setting_0 3 rfl rfl)
theorem dX1_setting_6 : decode cX1_setting 6 = .ok (.invokestatic 64, 3) := dk_184 0 64 (dk_at dksX1_setting_0 6 rfl rfl)
theorem dX1_setting_9 : decode cX1_setting 9 = .ok (.invokestatic 172, 3) := dk_184 0 172 (dk_at dksX1_setting_0 9 rfl rfl)
theorem dX1_setting_12 : decode cX1_setting 12 = .ok (.aload_n 0, 1) := dk_42 (dk_at dksX1_setting_0 12 rfl rfl)
theorem dX1_setting_13 : decode cX1_setting 13 = .ok (.getfield 107, 3) := dk_180 0 107 (dk_at dksX1_setting_0 13 rfl rfl)
theorem dX1_setting_16 : decode cX1_setting 16 = .ok (.getfield 238, 3) := dk_180 0 238 (dk_at dksX1_setting_0 16 rfl rfl)
theorem dX1_setting_19 : decode cX1_setting 19 = .ok (.getfield 264, 3) := dk_180 1 8 (dk_at dksX1_setting_0 19 rfl rfl)
theorem dX1_setting_22 : decode cX1_setting 22 = .ok (.iload_n 1, 1) := dk_27 (dk_at dksX1_setting_0 22 rfl rfl)
theorem dX1_setting_23 : decode cX1_setting 23 = .ok (.iaload, 1) := dk_46 (dk_at dksX1_setting_0 23 rfl rfl)
theorem dX1_setting_24 : decode cX1_setting 24 = .ok (.ireturn, 1) := dk_172 (dk_at dksX1_setting_1 0 rfl rfl)
abbrev cX1_distance_2 : ByteArray := prog_1_method_26_code
def yX1_distance_2 : MethodName := ⟨RX1, "distance", "(I)I"⟩
def dkwX1_distance_2_0 : List UInt8 := [27, 184, 0, 243, 42, 180, 0, 107, 180, 0, 238, 27, 182, 1, 11, 172]
abbrev dktX1_distance_2_0 : List UInt8 := dkwX1_distance_2_0 ++ []
theorem dksX1_distance_2_0 : cX1_distance_2.data.toList.drop 0 = dktX1_distance_2_0 := by decide +kernel
theorem dX1_distance_2_0 : decode cX1_distance_2 0 = .ok (.iload_n 1, 1) := dk_27 (dk_at dksX1_distance_2_0 0 rfl rfl)
theorem dX1_distance_2_1 : decode cX1_distance_2 1 = .ok (.invokestatic 243, 3) := dk_184 0 243 (dk_at dksX1_distance_2_0 1 rfl rfl)
theorem dX1_distance_2_4 : decode cX1_distance_2 4 = .ok (.aload_n 0, 1) := dk_42 (dk_at dksX1_distance_2_0 4 rfl rfl)
theorem dX1_distance_2_5 : decode cX1_distance_2 5 = .ok (.getfield 107, 3) := dk_180 0 107 (dk_at dksX1_distance_2_0 5 rfl rfl)
theorem dX1_distance_2_8 : decode cX1_distance_2 8 = .ok (.getfield 238, 3) := dk_180 0 238 (dk_at dksX1_distance_2_0 8 rfl rfl)
theorem dX1_distance_2_11 : decode cX1_distance_2 11 = .ok (.iload_n 1, 1) := dk_27 (dk_at dksX1_distance_2_0 11 rfl rfl)
theorem dX1_distance_2_12 : decode cX1_distance_2 12 = .ok (.invokevirtual 267, 3) := dk_182 1 11 (dk_at dksX1_distance_2_0 12 rfl rfl)
theorem dX1_distance_2_15 : decode cX1_distance_2 15 = .ok (.ireturn, 1) := dk_172 (dk_at dksX1_distance_2_0 15 rfl rfl)
abbrev cX1_impulse : ByteArray := prog_1_method_27_code
def yX1_impulse : MethodName := ⟨RX1, "impulse", "(II)J"⟩
def dkwX1_impulse_1 : List UInt8 := [182, 1, 14, 173]
abbrev dktX1_impulse_1 : List UInt8 := dkwX1_impulse_1 ++ []
def dkwX1_impulse_0 : List UInt8 := [27, 184, 0, 243, 28, 133, 9, 10, 184, 0, 64, 184, 0, 172, 42, 180, 0, 107, 180, 0, 238, 27, 28]
abbrev dktX1_impulse_0 : List UInt8 := dkwX1_impulse_0 ++ dktX1_impulse_1
theorem dksX1_impulse_0 : cX1_impulse.data.toList.drop 0 = dktX1_impulse_0 := by decide +kernel
theorem dksX1_impulse_1 : cX1_impulse.data.toList.drop 23 = dktX1_impulse_1 := dk_seg dksX1_impulse_0 23 rfl rfl
theorem dX1_impulse_0 : decode cX1_impulse 0 = .ok (.iload_n 1, 1) := dk_27 (dk_at dksX1_impulse_0 0 rfl rfl)
theorem dX1_impulse_1 : decode cX1_impulse 1 = .ok (.invokestatic 243, 3) := dk_184 0 243 (dk_at dksX1_impulse_0 1 rfl rfl)
theorem dX1_impulse_4 : decode cX1_impulse 4 = .ok (.iload_n 2, 1) := dk_28 (dk_at dksX1_impulse_0 4 rfl rfl)
theorem dX1_impulse_5 : decode cX1_impulse 5 = .ok (.i2l, 1) := dk_133 (dk_at dksX1_impulse_0 5 rfl rfl)
theorem dX1_impulse_6 : decode cX1_impulse 6 = .ok (.lconst 0, 1) := dk_9 (dk_at dksX1_impulse_0 6 rfl rfl)
theorem dX1_impulse_7 : decode cX1_impulse 7 = .ok (.lconst 1, 1) := dk_10 (dk_at dksX1_impulse_0 7 rfl rfl)
theorem dX1_impulse_8 : decode cX1_impulse 8 = .ok (.invokestatic 64, 3) := dk_184 0 64 (dk_at dksX1_impulse_0 8 rfl rfl)
theorem dX1_impulse_11 : decode cX1_impulse 11 = .ok (.invokestatic 172, 3) := dk_184 0 172 (dk_at dksX1_impulse_0 11 rfl rfl)
theorem dX1_impulse_14 : decode cX1_impulse 14 = .ok (.aload_n 0, 1) := dk_42 (dk_at dksX1_impulse_0 14 rfl rfl)
theorem dX1_impulse_15 : decode cX1_impulse 15 = .ok (.getfield 107, 3) := dk_180 0 107 (dk_at dksX1_impulse_0 15 rfl rfl)
theorem dX1_impulse_18 : decode cX1_impulse 18 = .ok (.getfield 238, 3) := dk_180 0 238 (dk_at dksX1_impulse_0 18 rfl rfl)
theorem dX1_impulse_21 : decode cX1_impulse 21 = .ok (.iload_n 1, 1) := dk_27 (dk_at dksX1_impulse_0 21 rfl rfl)
theorem dX1_impulse_22 : decode cX1_impulse 22 = .ok (.iload_n 2, 1) := dk_28 (dk_at dksX1_impulse_0 22 rfl rfl)
theorem dX1_impulse_23 : decode cX1_impulse 23 = .ok (.invokevirtual 270, 3) := dk_182 1 14 (dk_at dksX1_impulse_1 0 rfl rfl)
theorem dX1_impulse_26 : decode cX1_impulse 26 = .ok (.lreturn, 1) := dk_173 (dk_at dksX1_impulse_1 3 rfl rfl)
abbrev cX1_momentum : ByteArray := prog_1_method_28_code
def yX1_momentum : MethodName := ⟨RX1, "momentum", "(I)J"⟩
def dkwX1_momentum_2 : List UInt8 := [97, 173]
abbrev dktX1_momentum_2 : List UInt8 := dkwX1_momentum_2 ++ []
def dkwX1_momentum_1 : List UInt8 := [167, 0, 13, 42, 180, 0, 107, 180, 0, 238, 180, 1, 3, 77, 44, 3, 47, 44, 4, 47, 97, 44, 5, 47]
abbrev dktX1_momentum_1 : List UInt8 := dkwX1_momentum_1 ++ dktX1_momentum_2
def dkwX1_momentum_0 : List UInt8 := [27, 133, 9, 10, 184, 0, 64, 184, 0, 172, 27, 154, 0, 16, 42, 180, 0, 107, 180, 0, 238, 180, 0, 255]
abbrev dktX1_momentum_0 : List UInt8 := dkwX1_momentum_0 ++ dktX1_momentum_1
theorem dksX1_momentum_0 : cX1_momentum.data.toList.drop 0 = dktX1_momentum_0 := by decide +kernel
theorem dksX1_momentum_1 : cX1_momentum.data.toList.drop 24 = dktX1_momentum_1 := dk_seg dksX1_momentum_0 24 rfl rfl
theorem dksX1_momentum_2 : cX1_momentum.data.toList.drop 48 = dktX1_momentum_2 := dk_seg dksX1_momentum_1 24 rfl rfl
theorem dX1_momentum_0 : decode cX1_momentum 0 = .ok (.iload_n 1, 1) := dk_27 (dk_at dksX1_momentum_0 0 rfl rfl)
theorem dX1_momentum_1 : decode cX1_momentum 1 = .ok (.i2l, 1) := dk_133 (dk_at dksX1_momentum_0 1 rfl rfl)
theorem dX1_momentum_2 : decode cX1_momentum 2 = .ok (.lconst 0, 1) := dk_9 (dk_at dksX1_momentum_0 2 rfl rfl)
theorem dX1_momentum_3 : decode cX1_momentum 3 = .ok (.lconst 1, 1) := dk_10 (dk_at dksX1_momentum_0 3 rfl rfl)
theorem dX1_momentum_4 : decode cX1_momentum 4 = .ok (.invokestatic 64, 3) := dk_184 0 64 (dk_at dksX1_momentum_0 4 rfl rfl)
theorem dX1_momentum_7 : decode cX1_momentum 7 = .ok (.invokestatic 172, 3) := dk_184 0 172 (dk_at dksX1_momentum_0 7 rfl rfl)
theorem dX1_momentum_10 : decode cX1_momentum 10 = .ok (.iload_n 1, 1) := dk_27 (dk_at dksX1_momentum_0 10 rfl rfl)
theorem dX1_momentum_11 : decode cX1_momentum 11 = .ok (.ifCond .ne 16, 3) := dk_154 0 16 (dk_at dksX1_momentum_0 11 rfl rfl)
theorem dX1_momentum_14 : decode cX1_momentum 14 = .ok (.aload_n 0, 1) := dk_42 (dk_at dksX1_momentum_0 14 rfl rfl)
theorem dX1_momentum_15 : decode cX1_momentum 15 = .ok (.getfield 107, 3) := dk_180 0 107 (dk_at dksX1_momentum_0 15 rfl rfl)
theorem dX1_momentum_18 : decode cX1_momentum 18 = .ok (.getfield 238, 3) := dk_180 0 238 (dk_at dksX1_momentum_0 18 rfl rfl)
theorem dX1_momentum_21 : decode cX1_momentum 21 = .ok (.getfield 255, 3) := dk_180 0 255 (dk_at dksX1_momentum_0 21 rfl rfl)
theorem dX1_momentum_24 : decode cX1_momentum 24 = .ok (.goto 13, 3) := dk_167 0 13 (dk_at dksX1_momentum_1 0 rfl rfl)
theorem dX1_momentum_27 : decode cX1_momentum 27 = .ok (.aload_n 0, 1) := dk_42 (dk_at dksX1_momentum_1 3 rfl rfl)
theorem dX1_momentum_28 : decode cX1_momentum 28 = .ok (.getfield 107, 3) := dk_180 0 107 (dk_at dksX1_momentum_1 4 rfl rfl)
theorem dX1_momentum_31 : decode cX1_momentum 31 = .ok (.getfield 238, 3) := dk_180 0 238 (dk_at dksX1_momentum_1 7 rfl rfl)
theorem dX1_momentum_34 : decode cX1_momentum 34 = .ok (.getfield 259, 3) := dk_180 1 3 (dk_at dksX1_momentum_1 10 rfl rfl)
theorem dX1_momentum_37 : decode cX1_momentum 37 = .ok (.astore_n 2, 1) := dk_77 (dk_at dksX1_momentum_1 13 rfl rfl)
theorem dX1_momentum_38 : decode cX1_momentum 38 = .ok (.aload_n 2, 1) := dk_44 (dk_at dksX1_momentum_1 14 rfl rfl)
theorem dX1_momentum_39 : decode cX1_momentum 39 = .ok (.iconst 0, 1) := dk_3 (dk_at dksX1_momentum_1 15 rfl rfl)
theorem dX1_momentum_40 : decode cX1_momentum 40 = .ok (.laload, 1) := dk_47 (dk_at dksX1_momentum_1 16 rfl rfl)
theorem dX1_momentum_41 : decode cX1_momentum 41 = .ok (.aload_n 2, 1) := dk_44 (dk_at dksX1_momentum_1 17 rfl rfl)
theorem dX1_momentum_42 : decode cX1_momentum 42 = .ok (.iconst 1, 1) := dk_4 (dk_at dksX1_momentum_1 18 rfl rfl)
theorem dX1_momentum_43 : decode cX1_momentum 43 = .ok (.laload, 1) := dk_47 (dk_at dksX1_momentum_1 19 rfl rfl)
theorem dX1_momentum_44 : decode cX1_momentum 44 = .ok (.ladd, 1) := dk_97 (dk_at dksX1_momentum_1 20 rfl rfl)
theorem dX1_momentum_45 : decode cX1_momentum 45 = .ok (.aload_n 2, 1) := dk_44 (dk_at dksX1_momentum_1 21 rfl rfl)
theorem dX1_momentum_46 : decode cX1_momentum 46 = .ok (.iconst 2, 1) := dk_5 (dk_at dksX1_momentum_1 22 rfl rfl)
theorem dX1_momentum_47 : decode cX1_momentum 47 = .ok (.laload, 1) := dk_47 (dk_at dksX1_momentum_1 23 rfl rfl)
theorem dX1_momentum_48 : decode cX1_momentum 48 = .ok (.ladd, 1) := dk_97 (dk_at dksX1_momentum_2 0 rfl rfl)
theorem dX1_momentum_49 : decode cX1_momentum 49 = .ok (.lreturn, 1) := dk_173 (dk_at dksX1_momentum_2 1 rfl rfl)
abbrev cX1_approach : ByteArray := prog_1_method_37_code
def yX1_approach : MethodName := ⟨RX1, "approach", "(II)I"⟩
def dkwX1_approach_3 : List UInt8 := [89, 183, 0, 3, 191, 172]
abbrev dktX1_approach_3 : List UInt8 := dkwX1_approach_3 ++ []
def dkwX1_approach_2 : List UInt8 := [45, 180, 1, 56, 167, 0, 25, 45, 180, 1, 57, 167, 0, 18, 45, 180, 1, 59, 167, 0, 11, 187, 0, 1]
abbrev dktX1_approach_2 : List UInt8 := dkwX1_approach_2 ++ dktX1_approach_3
def dkwX1_approach_1 : List UInt8 := [170, 0, 0, 0, 46, 0, 0, 0, 0, 0, 0, 0, 2, 0, 0, 0, 25, 0, 0, 0, 32, 0, 0, 0, 39]
abbrev dktX1_approach_1 : List UInt8 := dkwX1_approach_1 ++ dktX1_approach_2
def dkwX1_approach_0 : List UInt8 := [42, 27, 182, 1, 52, 78, 45, 198, 0, 7, 4, 167, 0, 4, 3, 184, 0, 172, 28]
abbrev dktX1_approach_0 : List UInt8 := dkwX1_approach_0 ++ dktX1_approach_1
theorem dksX1_approach_0 : cX1_approach.data.toList.drop 0 = dktX1_approach_0 := by decide +kernel
theorem dksX1_approach_1 : cX1_approach.data.toList.drop 19 = dktX1_approach_1 := dk_seg dksX1_approach_0 19 rfl rfl
theorem dksX1_approach_2 : cX1_approach.data.toList.drop 44 = dktX1_approach_2 := dk_seg dksX1_approach_1 25 rfl rfl
theorem dksX1_approach_3 : cX1_approach.data.toList.drop 68 = dktX1_approach_3 := dk_seg dksX1_approach_2 24 rfl rfl
theorem dX1_approach_0 : decode cX1_approach 0 = .ok (.aload_n 0, 1) := dk_42 (dk_at dksX1_approach_0 0 rfl rfl)
theorem dX1_approach_1 : decode cX1_approach 1 = .ok (.iload_n 1, 1) := dk_27 (dk_at dksX1_approach_0 1 rfl rfl)
theorem dX1_approach_2 : decode cX1_approach 2 = .ok (.invokevirtual 308, 3) := dk_182 1 52 (dk_at dksX1_approach_0 2 rfl rfl)
theorem dX1_approach_5 : decode cX1_approach 5 = .ok (.astore_n 3, 1) := dk_78 (dk_at dksX1_approach_0 5 rfl rfl)
theorem dX1_approach_6 : decode cX1_approach 6 = .ok (.aload_n 3, 1) := dk_45 (dk_at dksX1_approach_0 6 rfl rfl)
theorem dX1_approach_7 : decode cX1_approach 7 = .ok (.ifnull 7, 3) := dk_198 0 7 (dk_at dksX1_approach_0 7 rfl rfl)
theorem dX1_approach_10 : decode cX1_approach 10 = .ok (.iconst 1, 1) := dk_4 (dk_at dksX1_approach_0 10 rfl rfl)
theorem dX1_approach_11 : decode cX1_approach 11 = .ok (.goto 4, 3) := dk_167 0 4 (dk_at dksX1_approach_0 11 rfl rfl)
theorem dX1_approach_14 : decode cX1_approach 14 = .ok (.iconst 0, 1) := dk_3 (dk_at dksX1_approach_0 14 rfl rfl)
theorem dX1_approach_15 : decode cX1_approach 15 = .ok (.invokestatic 172, 3) := dk_184 0 172 (dk_at dksX1_approach_0 15 rfl rfl)
theorem dX1_approach_18 : decode cX1_approach 18 = .ok (.iload_n 2, 1) := dk_28 (dk_at dksX1_approach_0 18 rfl rfl)
theorem dX1_approach_19 : decode cX1_approach 19 = .ok (.tableswitch 46 0 2 #[25, 32, 39], 25) := by decide +kernel
theorem dX1_approach_44 : decode cX1_approach 44 = .ok (.aload_n 3, 1) := dk_45 (dk_at dksX1_approach_2 0 rfl rfl)
theorem dX1_approach_45 : decode cX1_approach 45 = .ok (.getfield 312, 3) := dk_180 1 56 (dk_at dksX1_approach_2 1 rfl rfl)
theorem dX1_approach_48 : decode cX1_approach 48 = .ok (.goto 25, 3) := dk_167 0 25 (dk_at dksX1_approach_2 4 rfl rfl)
theorem dX1_approach_51 : decode cX1_approach 51 = .ok (.aload_n 3, 1) := dk_45 (dk_at dksX1_approach_2 7 rfl rfl)
theorem dX1_approach_52 : decode cX1_approach 52 = .ok (.getfield 313, 3) := dk_180 1 57 (dk_at dksX1_approach_2 8 rfl rfl)
theorem dX1_approach_55 : decode cX1_approach 55 = .ok (.goto 18, 3) := dk_167 0 18 (dk_at dksX1_approach_2 11 rfl rfl)
theorem dX1_approach_58 : decode cX1_approach 58 = .ok (.aload_n 3, 1) := dk_45 (dk_at dksX1_approach_2 14 rfl rfl)
theorem dX1_approach_59 : decode cX1_approach 59 = .ok (.getfield 315, 3) := dk_180 1 59 (dk_at dksX1_approach_2 15 rfl rfl)
theorem dX1_approach_62 : decode cX1_approach 62 = .ok (.goto 11, 3) := dk_167 0 11 (dk_at dksX1_approach_2 18 rfl rfl)
theorem dX1_approach_65 : decode cX1_approach 65 = .ok (.new 1, 3) := dk_187 0 1 (dk_at dksX1_approach_2 21 rfl rfl)
theorem dX1_approach_68 : decode cX1_approach 68 = .ok (.dup, 1) := dk_89 (dk_at dksX1_approach_3 0 rfl rfl)
theorem dX1_approach_69 : decode cX1_approach 69 = .ok (.invokespecial 3, 3) := dk_183 0 3 (dk_at dksX1_approach_3 1 rfl rfl)
theorem dX1_approach_72 : decode cX1_approach 72 = .ok (.athrow, 1) := dk_191 (dk_at dksX1_approach_3 4 rfl rfl)
theorem dX1_approach_73 : decode cX1_approach 73 = .ok (.ireturn, 1) := dk_172 (dk_at dksX1_approach_3 5 rfl rfl)
abbrev cX1_approachAt : ByteArray := prog_1_method_36_code
def yX1_approachAt : MethodName := ⟨RX1, "approachAt", "(I)LThreeBodies$Approach;"⟩
def dkwX1_approachAt_2 : List UInt8 := [176]
abbrev dktX1_approachAt_2 : List UInt8 := dkwX1_approachAt_2 ++ []
def dkwX1_approachAt_1 : List UInt8 := [185, 1, 48, 1, 0, 192, 1, 50, 58, 4, 28, 154, 0, 6, 25, 4, 176, 132, 2, 255, 167, 255, 226, 1]
abbrev dktX1_approachAt_1 : List UInt8 := dkwX1_approachAt_1 ++ dktX1_approachAt_2
def dkwX1_approachAt_0 : List UInt8 := [27, 61, 42, 180, 0, 107, 180, 1, 38, 182, 1, 41, 78, 45, 185, 1, 45, 1, 0, 153, 0, 27, 45]
abbrev dktX1_approachAt_0 : List UInt8 := dkwX1_approachAt_0 ++ dktX1_approachAt_1
theorem dksX1_approachAt_0 : cX1_approachAt.data.toList.drop 0 = dktX1_approachAt_0 := by decide +kernel
theorem dksX1_approachAt_1 : cX1_approachAt.data.toList.drop 23 = dktX1_approachAt_1 := dk_seg dksX1_approachAt_0 23 rfl rfl
theorem dksX1_approachAt_2 : cX1_approachAt.data.toList.drop 47 = dktX1_approachAt_2 := dk_seg dksX1_approachAt_1 24 rfl rfl
theorem dX1_approachAt_0 : decode cX1_approachAt 0 = .ok (.iload_n 1, 1) := dk_27 (dk_at dksX1_approachAt_0 0 rfl rfl)
theorem dX1_approachAt_1 : decode cX1_approachAt 1 = .ok (.istore_n 2, 1) := dk_61 (dk_at dksX1_approachAt_0 1 rfl rfl)
theorem dX1_approachAt_2 : decode cX1_approachAt 2 = .ok (.aload_n 0, 1) := dk_42 (dk_at dksX1_approachAt_0 2 rfl rfl)
theorem dX1_approachAt_3 : decode cX1_approachAt 3 = .ok (.getfield 107, 3) := dk_180 0 107 (dk_at dksX1_approachAt_0 3 rfl rfl)
theorem dX1_approachAt_6 : decode cX1_approachAt 6 = .ok (.getfield 294, 3) := dk_180 1 38 (dk_at dksX1_approachAt_0 6 rfl rfl)
theorem dX1_approachAt_9 : decode cX1_approachAt 9 = .ok (.invokevirtual 297, 3) := dk_182 1 41 (dk_at dksX1_approachAt_0 9 rfl rfl)
theorem dX1_approachAt_12 : decode cX1_approachAt 12 = .ok (.astore_n 3, 1) := dk_78 (dk_at dksX1_approachAt_0 12 rfl rfl)
theorem dX1_approachAt_13 : decode cX1_approachAt 13 = .ok (.aload_n 3, 1) := dk_45 (dk_at dksX1_approachAt_0 13 rfl rfl)
theorem dX1_approachAt_14 : decode cX1_approachAt 14 = .ok (.invokeinterface 301 1, 5) := by decide +kernel
theorem dX1_approachAt_19 : decode cX1_approachAt 19 = .ok (.ifCond .eq 27, 3) := dk_153 0 27 (dk_at dksX1_approachAt_0 19 rfl rfl)
theorem dX1_approachAt_22 : decode cX1_approachAt 22 = .ok (.aload_n 3, 1) := dk_45 (dk_at dksX1_approachAt_0 22 rfl rfl)
theorem dX1_approachAt_23 : decode cX1_approachAt 23 = .ok (.invokeinterface 304 1, 5) := by decide +kernel
theorem dX1_approachAt_28 : decode cX1_approachAt 28 = .ok (.checkcast 306, 3) := dk_192 1 50 (dk_at dksX1_approachAt_1 5 rfl rfl)
theorem dX1_approachAt_31 : decode cX1_approachAt 31 = .ok (.astore 4, 2) := dk_58 4 (dk_at dksX1_approachAt_1 8 rfl rfl)
theorem dX1_approachAt_33 : decode cX1_approachAt 33 = .ok (.iload_n 2, 1) := dk_28 (dk_at dksX1_approachAt_1 10 rfl rfl)
theorem dX1_approachAt_34 : decode cX1_approachAt 34 = .ok (.ifCond .ne 6, 3) := dk_154 0 6 (dk_at dksX1_approachAt_1 11 rfl rfl)
theorem dX1_approachAt_37 : decode cX1_approachAt 37 = .ok (.aload 4, 2) := dk_25 4 (dk_at dksX1_approachAt_1 14 rfl rfl)
theorem dX1_approachAt_39 : decode cX1_approachAt 39 = .ok (.areturn, 1) := dk_176 (dk_at dksX1_approachAt_1 16 rfl rfl)
theorem dX1_approachAt_40 : decode cX1_approachAt 40 = .ok (.iinc 2 (-1), 3) := dk_132 2 255 (dk_at dksX1_approachAt_1 17 rfl rfl)
theorem dX1_approachAt_43 : decode cX1_approachAt 43 = .ok (.goto (-30), 3) := dk_167 255 226 (dk_at dksX1_approachAt_1 20 rfl rfl)
theorem dX1_approachAt_46 : decode cX1_approachAt 46 = .ok (.aconst_null, 1) := dk_1 (dk_at dksX1_approachAt_1 23 rfl rfl)
theorem dX1_approachAt_47 : decode cX1_approachAt 47 = .ok (.areturn, 1) := dk_176 (dk_at dksX1_approachAt_2 0 rfl rfl)
abbrev cX1_run : ByteArray := prog_1_method_38_code
def yX1_run : MethodName := ⟨RX1, "run", "(I)I"⟩
def dkwX1_run_1 : List UInt8 := [182, 1, 67, 172]
abbrev dktX1_run_1 : List UInt8 := dkwX1_run_1 ++ []
def dkwX1_run_0 : List UInt8 := [27, 133, 9, 20, 1, 61, 184, 0, 64, 184, 0, 200, 42, 3, 182, 1, 63, 42, 180, 0, 122, 27]
abbrev dktX1_run_0 : List UInt8 := dkwX1_run_0 ++ dktX1_run_1
theorem dksX1_run_0 : cX1_run.data.toList.drop 0 = dktX1_run_0 := by decide +kernel
theorem dksX1_run_1 : cX1_run.data.toList.drop 22 = dktX1_run_1 := dk_seg dksX1_run_0 22 rfl rfl
theorem dX1_run_0 : decode cX1_run 0 = .ok (.iload_n 1, 1) := dk_27 (dk_at dksX1_run_0 0 rfl rfl)
theorem dX1_run_1 : decode cX1_run 1 = .ok (.i2l, 1) := dk_133 (dk_at dksX1_run_0 1 rfl rfl)
theorem dX1_run_2 : decode cX1_run 2 = .ok (.lconst 0, 1) := dk_9 (dk_at dksX1_run_0 2 rfl rfl)
theorem dX1_run_3 : decode cX1_run 3 = .ok (.ldc2_w 317, 3) := dk_20 1 61 (dk_at dksX1_run_0 3 rfl rfl)
theorem dX1_run_6 : decode cX1_run 6 = .ok (.invokestatic 64, 3) := dk_184 0 64 (dk_at dksX1_run_0 6 rfl rfl)
theorem dX1_run_9 : decode cX1_run 9 = .ok (.invokestatic 200, 3) := dk_184 0 200 (dk_at dksX1_run_0 9 rfl rfl)
theorem dX1_run_12 : decode cX1_run 12 = .ok (.aload_n 0, 1) := dk_42 (dk_at dksX1_run_0 12 rfl rfl)
theorem dX1_run_13 : decode cX1_run 13 = .ok (.iconst 0, 1) := dk_3 (dk_at dksX1_run_0 13 rfl rfl)
theorem dX1_run_14 : decode cX1_run 14 = .ok (.invokevirtual 319, 3) := dk_182 1 63 (dk_at dksX1_run_0 14 rfl rfl)
theorem dX1_run_17 : decode cX1_run 17 = .ok (.aload_n 0, 1) := dk_42 (dk_at dksX1_run_0 17 rfl rfl)
theorem dX1_run_18 : decode cX1_run 18 = .ok (.getfield 122, 3) := dk_180 0 122 (dk_at dksX1_run_0 18 rfl rfl)
theorem dX1_run_21 : decode cX1_run 21 = .ok (.iload_n 1, 1) := dk_27 (dk_at dksX1_run_0 21 rfl rfl)
theorem dX1_run_22 : decode cX1_run 22 = .ok (.invokevirtual 323, 3) := dk_182 1 67 (dk_at dksX1_run_1 0 rfl rfl)
theorem dX1_run_25 : decode cX1_run 25 = .ok (.ireturn, 1) := dk_172 (dk_at dksX1_run_1 3 rfl rfl)
abbrev cX1_back : ByteArray := prog_1_method_39_code
def yX1_back : MethodName := ⟨RX1, "back", "(I)I"⟩
def dkwX1_back_1 : List UInt8 := [27, 162, 0, 21, 44, 42, 180, 0, 122, 2, 182, 1, 71, 153, 0, 9, 132, 3, 1, 167, 255, 236, 29, 172]
abbrev dktX1_back_1 : List UInt8 := dkwX1_back_1 ++ []
def dkwX1_back_0 : List UInt8 := [27, 133, 9, 20, 1, 61, 184, 0, 64, 184, 0, 200, 42, 4, 182, 1, 63, 180, 0, 238, 77, 3, 62, 29]
abbrev dktX1_back_0 : List UInt8 := dkwX1_back_0 ++ dktX1_back_1
theorem dksX1_back_0 : cX1_back.data.toList.drop 0 = dktX1_back_0 := by decide +kernel
theorem dksX1_back_1 : cX1_back.data.toList.drop 24 = dktX1_back_1 := dk_seg dksX1_back_0 24 rfl rfl
theorem dX1_back_0 : decode cX1_back 0 = .ok (.iload_n 1, 1) := dk_27 (dk_at dksX1_back_0 0 rfl rfl)
theorem dX1_back_1 : decode cX1_back 1 = .ok (.i2l, 1) := dk_133 (dk_at dksX1_back_0 1 rfl rfl)
theorem dX1_back_2 : decode cX1_back 2 = .ok (.lconst 0, 1) := dk_9 (dk_at dksX1_back_0 2 rfl rfl)
theorem dX1_back_3 : decode cX1_back 3 = .ok (.ldc2_w 317, 3) := dk_20 1 61 (dk_at dksX1_back_0 3 rfl rfl)
theorem dX1_back_6 : decode cX1_back 6 = .ok (.invokestatic 64, 3) := dk_184 0 64 (dk_at dksX1_back_0 6 rfl rfl)
theorem dX1_back_9 : decode cX1_back 9 = .ok (.invokestatic 200, 3) := dk_184 0 200 (dk_at dksX1_back_0 9 rfl rfl)
theorem dX1_back_12 : decode cX1_back 12 = .ok (.aload_n 0, 1) := dk_42 (dk_at dksX1_back_0 12 rfl rfl)
theorem dX1_back_13 : decode cX1_back 13 = .ok (.iconst 1, 1) := dk_4 (dk_at dksX1_back_0 13 rfl rfl)
theorem dX1_back_14 : decode cX1_back 14 = .ok (.invokevirtual 319, 3) := dk_182 1 63 (dk_at dksX1_back_0 14 rfl rfl)
theorem dX1_back_17 : decode cX1_back 17 = .ok (.getfield 238, 3) := dk_180 0 238 (dk_at dksX1_back_0 17 rfl rfl)
theorem dX1_back_20 : decode cX1_back 20 = .ok (.astore_n 2, 1) := dk_77 (dk_at dksX1_back_0 20 rfl rfl)
theorem dX1_back_21 : decode cX1_back 21 = .ok (.iconst 0, 1) := dk_3 (dk_at dksX1_back_0 21 rfl rfl)
theorem dX1_back_22 : decode cX1_back 22 = .ok (.istore_n 3, 1) := dk_62 (dk_at dksX1_back_0 22 rfl rfl)
theorem dX1_back_23 : decode cX1_back 23 = .ok (.iload_n 3, 1) := dk_29 (dk_at dksX1_back_0 23 rfl rfl)
theorem dX1_back_24 : decode cX1_back 24 = .ok (.iload_n 1, 1) := dk_27 (dk_at dksX1_back_1 0 rfl rfl)
theorem dX1_back_25 : decode cX1_back 25 = .ok (.if_icmp .ge 21, 3) := dk_162 0 21 (dk_at dksX1_back_1 1 rfl rfl)
theorem dX1_back_28 : decode cX1_back 28 = .ok (.aload_n 2, 1) := dk_44 (dk_at dksX1_back_1 4 rfl rfl)
theorem dX1_back_29 : decode cX1_back 29 = .ok (.aload_n 0, 1) := dk_42 (dk_at dksX1_back_1 5 rfl rfl)
theorem dX1_back_30 : decode cX1_back 30 = .ok (.getfield 122, 3) := dk_180 0 122 (dk_at dksX1_back_1 6 rfl rfl)
theorem dX1_back_33 : decode cX1_back 33 = .ok (.iconst (-1), 1) := dk_2 (dk_at dksX1_back_1 9 rfl rfl)
theorem dX1_back_34 : decode cX1_back 34 = .ok (.invokevirtual 327, 3) := dk_182 1 71 (dk_at dksX1_back_1 10 rfl rfl)
theorem dX1_back_37 : decode cX1_back 37 = .ok (.ifCond .eq 9, 3) := dk_153 0 9 (dk_at dksX1_back_1 13 rfl rfl)
theorem dX1_back_40 : decode cX1_back 40 = .ok (.iinc 3 1, 3) := dk_132 3 1 (dk_at dksX1_back_1 16 rfl rfl)
theorem dX1_back_43 : decode cX1_back 43 = .ok (.goto (-20), 3) := dk_167 255 236 (dk_at dksX1_back_1 19 rfl rfl)
theorem dX1_back_46 : decode cX1_back 46 = .ok (.iload_n 3, 1) := dk_29 (dk_at dksX1_back_1 22 rfl rfl)
theorem dX1_back_47 : decode cX1_back 47 = .ok (.ireturn, 1) := dk_172 (dk_at dksX1_back_1 23 rfl rfl)
abbrev cX1_push : ByteArray := prog_1_method_40_code
def yX1_push : MethodName := ⟨RX1, "push", "(III)I"⟩
def dkwX1_push_4 : List UInt8 := [22, 6, 80, 4, 172]
abbrev dktX1_push_4 : List UInt8 := dkwX1_push_4 ++ []
def dkwX1_push_3 : List UInt8 := [4, 182, 1, 63, 180, 0, 238, 58, 8, 25, 8, 180, 0, 255, 27, 22, 4, 80, 25, 8, 180, 1, 3, 27]
abbrev dktX1_push_3 : List UInt8 := dkwX1_push_3 ++ dktX1_push_4
def dkwX1_push_2 : List UInt8 := [184, 0, 64, 153, 0, 17, 22, 6, 20, 1, 75, 20, 1, 77, 184, 0, 64, 154, 0, 6, 16, 254, 172, 42]
abbrev dktX1_push_2 : List UInt8 := dkwX1_push_2 ++ dktX1_push_3
def dkwX1_push_1 : List UInt8 := [180, 0, 107, 180, 0, 238, 180, 1, 3, 27, 47, 29, 133, 97, 55, 6, 22, 4, 20, 1, 75, 20, 1, 77]
abbrev dktX1_push_1 : List UInt8 := dkwX1_push_1 ++ dktX1_push_2
def dkwX1_push_0 : List UInt8 := [27, 184, 0, 243, 42, 180, 0, 107, 180, 0, 238, 180, 0, 255, 27, 47, 28, 133, 97, 55, 4, 42]
abbrev dktX1_push_0 : List UInt8 := dkwX1_push_0 ++ dktX1_push_1
theorem dksX1_push_0 : cX1_push.data.toList.drop 0 = dktX1_push_0 := by decide +kernel
theorem dksX1_push_1 : cX1_push.data.toList.drop 22 = dktX1_push_1 := dk_seg dksX1_push_0 22 rfl rfl
theorem dksX1_push_2 : cX1_push.data.toList.drop 46 = dktX1_push_2 := dk_seg dksX1_push_1 24 rfl rfl
theorem dksX1_push_3 : cX1_push.data.toList.drop 70 = dktX1_push_3 := dk_seg dksX1_push_2 24 rfl rfl
theorem dksX1_push_4 : cX1_push.data.toList.drop 94 = dktX1_push_4 := dk_seg dksX1_push_3 24 rfl rfl
theorem dX1_push_0 : decode cX1_push 0 = .ok (.iload_n 1, 1) := dk_27 (dk_at dksX1_push_0 0 rfl rfl)
theorem dX1_push_1 : decode cX1_push 1 = .ok (.invokestatic 243, 3) := dk_184 0 243 (dk_at dksX1_push_0 1 rfl rfl)
theorem dX1_push_4 : decode cX1_push 4 = .ok (.aload_n 0, 1) := dk_42 (dk_at dksX1_push_0 4 rfl rfl)
theorem dX1_push_5 : decode cX1_push 5 = .ok (.getfield 107, 3) := dk_180 0 107 (dk_at dksX1_push_0 5 rfl rfl)
theorem dX1_push_8 : decode cX1_push 8 = .ok (.getfield 238, 3) := dk_180 0 238 (dk_at dksX1_push_0 8 rfl rfl)
theorem dX1_push_11 : decode cX1_push 11 = .ok (.getfield 255, 3) := dk_180 0 255 (dk_at dksX1_push_0 11 rfl rfl)
theorem dX1_push_14 : decode cX1_push 14 = .ok (.iload_n 1, 1) := dk_27 (dk_at dksX1_push_0 14 rfl rfl)
theorem dX1_push_15 : decode cX1_push 15 = .ok (.laload, 1) := dk_47 (dk_at dksX1_push_0 15 rfl rfl)
theorem dX1_push_16 : decode cX1_push 16 = .ok (.iload_n 2, 1) := dk_28 (dk_at dksX1_push_0 16 rfl rfl)
theorem dX1_push_17 : decode cX1_push 17 = .ok (.i2l, 1) := dk_133 (dk_at dksX1_push_0 17 rfl rfl)
theorem dX1_push_18 : decode cX1_push 18 = .ok (.ladd, 1) := dk_97 (dk_at dksX1_push_0 18 rfl rfl)
theorem dX1_push_19 : decode cX1_push 19 = .ok (.lstore 4, 2) := dk_55 4 (dk_at dksX1_push_0 19 rfl rfl)
theorem dX1_push_21 : decode cX1_push 21 = .ok (.aload_n 0, 1) := dk_42 (dk_at dksX1_push_0 21 rfl rfl)
theorem dX1_push_22 : decode cX1_push 22 = .ok (.getfield 107, 3) := dk_180 0 107 (dk_at dksX1_push_1 0 rfl rfl)
theorem dX1_push_25 : decode cX1_push 25 = .ok (.getfield 238, 3) := dk_180 0 238 (dk_at dksX1_push_1 3 rfl rfl)
theorem dX1_push_28 : decode cX1_push 28 = .ok (.getfield 259, 3) := dk_180 1 3 (dk_at dksX1_push_1 6 rfl rfl)
theorem dX1_push_31 : decode cX1_push 31 = .ok (.iload_n 1, 1) := dk_27 (dk_at dksX1_push_1 9 rfl rfl)
theorem dX1_push_32 : decode cX1_push 32 = .ok (.laload, 1) := dk_47 (dk_at dksX1_push_1 10 rfl rfl)
theorem dX1_push_33 : decode cX1_push 33 = .ok (.iload_n 3, 1) := dk_29 (dk_at dksX1_push_1 11 rfl rfl)
theorem dX1_push_34 : decode cX1_push 34 = .ok (.i2l, 1) := dk_133 (dk_at dksX1_push_1 12 rfl rfl)
theorem dX1_push_35 : decode cX1_push 35 = .ok (.ladd, 1) := dk_97 (dk_at dksX1_push_1 13 rfl rfl)
theorem dX1_push_36 : decode cX1_push 36 = .ok (.lstore 6, 2) := dk_55 6 (dk_at dksX1_push_1 14 rfl rfl)
theorem dX1_push_38 : decode cX1_push 38 = .ok (.lload 4, 2) := dk_22 4 (dk_at dksX1_push_1 16 rfl rfl)
theorem dX1_push_40 : decode cX1_push 40 = .ok (.ldc2_w 331, 3) := dk_20 1 75 (dk_at dksX1_push_1 18 rfl rfl)
theorem dX1_push_43 : decode cX1_push 43 = .ok (.ldc2_w 333, 3) := dk_20 1 77 (dk_at dksX1_push_1 21 rfl rfl)
theorem dX1_push_46 : decode cX1_push 46 = .ok (.invokestatic 64, 3) := dk_184 0 64 (dk_at dksX1_push_2 0 rfl rfl)
theorem dX1_push_49 : decode cX1_push 49 = .ok (.ifCond .eq 17, 3) := dk_153 0 17 (dk_at dksX1_push_2 3 rfl rfl)
theorem dX1_push_52 : decode cX1_push 52 = .ok (.lload 6, 2) := dk_22 6 (dk_at dksX1_push_2 6 rfl rfl)
theorem dX1_push_54 : decode cX1_push 54 = .ok (.ldc2_w 331, 3) := dk_20 1 75 (dk_at dksX1_push_2 8 rfl rfl)
theorem dX1_push_57 : decode cX1_push 57 = .ok (.ldc2_w 333, 3) := dk_20 1 77 (dk_at dksX1_push_2 11 rfl rfl)
theorem dX1_push_60 : decode cX1_push 60 = .ok (.invokestatic 64, 3) := dk_184 0 64 (dk_at dksX1_push_2 14 rfl rfl)
theorem dX1_push_63 : decode cX1_push 63 = .ok (.ifCond .ne 6, 3) := dk_154 0 6 (dk_at dksX1_push_2 17 rfl rfl)
theorem dX1_push_66 : decode cX1_push 66 = .ok (.bipush (-2), 2) := dk_16 254 (dk_at dksX1_push_2 20 rfl rfl)
theorem dX1_push_68 : decode cX1_push 68 = .ok (.ireturn, 1) := dk_172 (dk_at dksX1_push_2 22 rfl rfl)
theorem dX1_push_69 : decode cX1_push 69 = .ok (.aload_n 0, 1) := dk_42 (dk_at dksX1_push_2 23 rfl rfl)
theorem dX1_push_70 : decode cX1_push 70 = .ok (.iconst 1, 1) := dk_4 (dk_at dksX1_push_3 0 rfl rfl)
theorem dX1_push_71 : decode cX1_push 71 = .ok (.invokevirtual 319, 3) := dk_182 1 63 (dk_at dksX1_push_3 1 rfl rfl)
theorem dX1_push_74 : decode cX1_push 74 = .ok (.getfield 238, 3) := dk_180 0 238 (dk_at dksX1_push_3 4 rfl rfl)
theorem dX1_push_77 : decode cX1_push 77 = .ok (.astore 8, 2) := dk_58 8 (dk_at dksX1_push_3 7 rfl rfl)
theorem dX1_push_79 : decode cX1_push 79 = .ok (.aload 8, 2) := dk_25 8 (dk_at dksX1_push_3 9 rfl rfl)
theorem dX1_push_81 : decode cX1_push 81 = .ok (.getfield 255, 3) := dk_180 0 255 (dk_at dksX1_push_3 11 rfl rfl)
theorem dX1_push_84 : decode cX1_push 84 = .ok (.iload_n 1, 1) := dk_27 (dk_at dksX1_push_3 14 rfl rfl)
theorem dX1_push_85 : decode cX1_push 85 = .ok (.lload 4, 2) := dk_22 4 (dk_at dksX1_push_3 15 rfl rfl)
theorem dX1_push_87 : decode cX1_push 87 = .ok (.lastore, 1) := dk_80 (dk_at dksX1_push_3 17 rfl rfl)
theorem dX1_push_88 : decode cX1_push 88 = .ok (.aload 8, 2) := dk_25 8 (dk_at dksX1_push_3 18 rfl rfl)
theorem dX1_push_90 : decode cX1_push 90 = .ok (.getfield 259, 3) := dk_180 1 3 (dk_at dksX1_push_3 20 rfl rfl)
theorem dX1_push_93 : decode cX1_push 93 = .ok (.iload_n 1, 1) := dk_27 (dk_at dksX1_push_3 23 rfl rfl)
theorem dX1_push_94 : decode cX1_push 94 = .ok (.lload 6, 2) := dk_22 6 (dk_at dksX1_push_4 0 rfl rfl)
theorem dX1_push_96 : decode cX1_push 96 = .ok (.lastore, 1) := dk_80 (dk_at dksX1_push_4 2 rfl rfl)
theorem dX1_push_97 : decode cX1_push 97 = .ok (.iconst 1, 1) := dk_4 (dk_at dksX1_push_4 3 rfl rfl)
theorem dX1_push_98 : decode cX1_push 98 = .ok (.ireturn, 1) := dk_172 (dk_at dksX1_push_4 4 rfl rfl)
abbrev cX1_place : ByteArray := prog_1_method_41_code
def yX1_place : MethodName := ⟨RX1, "place", "(III)I"⟩
def dkwX1_place_6 : List UInt8 := [25, 4, 180, 0, 253, 27, 29, 79, 21, 5, 172]
abbrev dktX1_place_6 : List UInt8 := dkwX1_place_6 ++ []
def dkwX1_place_5 : List UInt8 := [184, 1, 83, 54, 5, 42, 4, 182, 1, 63, 180, 0, 238, 58, 4, 25, 4, 180, 0, 251, 27, 28, 79]
abbrev dktX1_place_5 : List UInt8 := dkwX1_place_5 ++ dktX1_place_6
def dkwX1_place_4 : List UInt8 := [167, 255, 214, 25, 4, 180, 0, 251, 27, 46, 28, 100, 133, 25, 4, 180, 0, 253, 27, 46, 29, 100, 133]
abbrev dktX1_place_4 : List UInt8 := dkwX1_place_4 ++ dktX1_place_5
def dkwX1_place_3 : List UInt8 := [46, 28, 160, 0, 18, 25, 4, 180, 0, 253, 21, 5, 46, 29, 160, 0, 6, 16, 253, 172, 132, 5, 1]
abbrev dktX1_place_3 : List UInt8 := dkwX1_place_3 ++ dktX1_place_4
def dkwX1_place_2 : List UInt8 := [58, 4, 3, 54, 5, 21, 5, 6, 162, 0, 42, 21, 5, 27, 159, 0, 30, 25, 4, 180, 0, 251, 21, 5]
abbrev dktX1_place_2 : List UInt8 := dkwX1_place_2 ++ dktX1_place_3
def dkwX1_place_1 : List UInt8 := [20, 1, 81, 184, 0, 64, 153, 0, 7, 4, 167, 0, 4, 3, 184, 0, 200, 42, 180, 0, 107, 180, 0, 238]
abbrev dktX1_place_1 : List UInt8 := dkwX1_place_1 ++ dktX1_place_2
def dkwX1_place_0 : List UInt8 := [27, 184, 0, 243, 28, 133, 20, 1, 79, 20, 1, 81, 184, 0, 64, 153, 0, 21, 29, 133, 20, 1, 79]
abbrev dktX1_place_0 : List UInt8 := dkwX1_place_0 ++ dktX1_place_1
theorem dksX1_place_0 : cX1_place.data.toList.drop 0 = dktX1_place_0 := by decide +kernel
theorem dksX1_place_1 : cX1_place.data.toList.drop 23 = dktX1_place_1 := dk_seg dksX1_place_0 23 rfl rfl
theorem dksX1_place_2 : cX1_place.data.toList.drop 47 = dktX1_place_2 := dk_seg dksX1_place_1 24 rfl rfl
theorem dksX1_place_3 : cX1_place.data.toList.drop 71 = dktX1_place_3 := dk_seg dksX1_place_2 24 rfl rfl
theorem dksX1_place_4 : cX1_place.data.toList.drop 94 = dktX1_place_4 := dk_seg dksX1_place_3 23 rfl rfl
theorem dksX1_place_5 : cX1_place.data.toList.drop 117 = dktX1_place_5 := dk_seg dksX1_place_4 23 rfl rfl
theorem dksX1_place_6 : cX1_place.data.toList.drop 140 = dktX1_place_6 := dk_seg dksX1_place_5 23 rfl rfl
theorem dX1_place_0 : decode cX1_place 0 = .ok (.iload_n 1, 1) := dk_27 (dk_at dksX1_place_0 0 rfl rfl)
theorem dX1_place_1 : decode cX1_place 1 = .ok (.invokestatic 243, 3) := dk_184 0 243 (dk_at dksX1_place_0 1 rfl rfl)
theorem dX1_place_4 : decode cX1_place 4 = .ok (.iload_n 2, 1) := dk_28 (dk_at dksX1_place_0 4 rfl rfl)
theorem dX1_place_5 : decode cX1_place 5 = .ok (.i2l, 1) := dk_133 (dk_at dksX1_place_0 5 rfl rfl)
theorem dX1_place_6 : decode cX1_place 6 = .ok (.ldc2_w 335, 3) := dk_20 1 79 (dk_at dksX1_place_0 6 rfl rfl)
theorem dX1_place_9 : decode cX1_place 9 = .ok (.ldc2_w 337, 3) := dk_20 1 81 (dk_at dksX1_place_0 9 rfl rfl)
theorem dX1_place_12 : decode cX1_place 12 = .ok (.invokestatic 64, 3) := dk_184 0 64 (dk_at dksX1_place_0 12 rfl rfl)
theorem dX1_place_15 : decode cX1_place 15 = .ok (.ifCond .eq 21, 3) := dk_153 0 21 (dk_at dksX1_place_0 15 rfl rfl)
theorem dX1_place_18 : decode cX1_place 18 = .ok (.iload_n 3, 1) := dk_29 (dk_at dksX1_place_0 18 rfl rfl)
theorem dX1_place_19 : decode cX1_place 19 = .ok (.i2l, 1) := dk_133 (dk_at dksX1_place_0 19 rfl rfl)
theorem dX1_place_20 : decode cX1_place 20 = .ok (.ldc2_w 335, 3) := dk_20 1 79 (dk_at dksX1_place_0 20 rfl rfl)
theorem dX1_place_23 : decode cX1_place 23 = .ok (.ldc2_w 337, 3) := dk_20 1 81 (dk_at dksX1_place_1 0 rfl rfl)
theorem dX1_place_26 : decode cX1_place 26 = .ok (.invokestatic 64, 3) := dk_184 0 64 (dk_at dksX1_place_1 3 rfl rfl)
theorem dX1_place_29 : decode cX1_place 29 = .ok (.ifCond .eq 7, 3) := dk_153 0 7 (dk_at dksX1_place_1 6 rfl rfl)
theorem dX1_place_32 : decode cX1_place 32 = .ok (.iconst 1, 1) := dk_4 (dk_at dksX1_place_1 9 rfl rfl)
theorem dX1_place_33 : decode cX1_place 33 = .ok (.goto 4, 3) := dk_167 0 4 (dk_at dksX1_place_1 10 rfl rfl)
theorem dX1_place_36 : decode cX1_place 36 = .ok (.iconst 0, 1) := dk_3 (dk_at dksX1_place_1 13 rfl rfl)
theorem dX1_place_37 : decode cX1_place 37 = .ok (.invokestatic 200, 3) := dk_184 0 200 (dk_at dksX1_place_1 14 rfl rfl)
theorem dX1_place_40 : decode cX1_place 40 = .ok (.aload_n 0, 1) := dk_42 (dk_at dksX1_place_1 17 rfl rfl)
theorem dX1_place_41 : decode cX1_place 41 = .ok (.getfield 107, 3) := dk_180 0 107 (dk_at dksX1_place_1 18 rfl rfl)
theorem dX1_place_44 : decode cX1_place 44 = .ok (.getfield 238, 3) := dk_180 0 238 (dk_at dksX1_place_1 21 rfl rfl)
theorem dX1_place_47 : decode cX1_place 47 = .ok (.astore 4, 2) := dk_58 4 (dk_at dksX1_place_2 0 rfl rfl)
theorem dX1_place_49 : decode cX1_place 49 = .ok (.iconst 0, 1) := dk_3 (dk_at dksX1_place_2 2 rfl rfl)
theorem dX1_place_50 : decode cX1_place 50 = .ok (.istore 5, 2) := dk_54 5 (dk_at dksX1_place_2 3 rfl rfl)
theorem dX1_place_52 : decode cX1_place 52 = .ok (.iload 5, 2) := dk_21 5 (dk_at dksX1_place_2 5 rfl rfl)
theorem dX1_place_54 : decode cX1_place 54 = .ok (.iconst 3, 1) := dk_6 (dk_at dksX1_place_2 7 rfl rfl)
theorem dX1_place_55 : decode cX1_place 55 = .ok (.if_icmp .ge 42, 3) := dk_162 0 42 (dk_at dksX1_place_2 8 rfl rfl)
theorem dX1_place_58 : decode cX1_place 58 = .ok (.iload 5, 2) := dk_21 5 (dk_at dksX1_place_2 11 rfl rfl)
theorem dX1_place_60 : decode cX1_place 60 = .ok (.iload_n 1, 1) := dk_27 (dk_at dksX1_place_2 13 rfl rfl)
theorem dX1_place_61 : decode cX1_place 61 = .ok (.if_icmp .eq 30, 3) := dk_159 0 30 (dk_at dksX1_place_2 14 rfl rfl)
theorem dX1_place_64 : decode cX1_place 64 = .ok (.aload 4, 2) := dk_25 4 (dk_at dksX1_place_2 17 rfl rfl)
theorem dX1_place_66 : decode cX1_place 66 = .ok (.getfield 251, 3) := dk_180 0 251 (dk_at dksX1_place_2 19 rfl rfl)
theorem dX1_place_69 : decode cX1_place 69 = .ok (.iload 5, 2) := dk_21 5 (dk_at dksX1_place_2 22 rfl rfl)
theorem dX1_place_71 : decode cX1_place 71 = .ok (.iaload, 1) := dk_46 (dk_at dksX1_place_3 0 rfl rfl)
theorem dX1_place_72 : decode cX1_place 72 = .ok (.iload_n 2, 1) := dk_28 (dk_at dksX1_place_3 1 rfl rfl)
theorem dX1_place_73 : decode cX1_place 73 = .ok (.if_icmp .ne 18, 3) := dk_160 0 18 (dk_at dksX1_place_3 2 rfl rfl)
theorem dX1_place_76 : decode cX1_place 76 = .ok (.aload 4, 2) := dk_25 4 (dk_at dksX1_place_3 5 rfl rfl)
theorem dX1_place_78 : decode cX1_place 78 = .ok (.getfield 253, 3) := dk_180 0 253 (dk_at dksX1_place_3 7 rfl rfl)
theorem dX1_place_81 : decode cX1_place 81 = .ok (.iload 5, 2) := dk_21 5 (dk_at dksX1_place_3 10 rfl rfl)
theorem dX1_place_83 : decode cX1_place 83 = .ok (.iaload, 1) := dk_46 (dk_at dksX1_place_3 12 rfl rfl)
theorem dX1_place_84 : decode cX1_place 84 = .ok (.iload_n 3, 1) := dk_29 (dk_at dksX1_place_3 13 rfl rfl)
theorem dX1_place_85 : decode cX1_place 85 = .ok (.if_icmp .ne 6, 3) := dk_160 0 6 (dk_at dksX1_place_3 14 rfl rfl)
theorem dX1_place_88 : decode cX1_place 88 = .ok (.bipush (-3), 2) := dk_16 253 (dk_at dksX1_place_3 17 rfl rfl)
theorem dX1_place_90 : decode cX1_place 90 = .ok (.ireturn, 1) := dk_172 (dk_at dksX1_place_3 19 rfl rfl)
theorem dX1_place_91 : decode cX1_place 91 = .ok (.iinc 5 1, 3) := dk_132 5 1 (dk_at dksX1_place_3 20 rfl rfl)
theorem dX1_place_94 : decode cX1_place 94 = .ok (.goto (-42), 3) := dk_167 255 214 (dk_at dksX1_place_4 0 rfl rfl)
theorem dX1_place_97 : decode cX1_place 97 = .ok (.aload 4, 2) := dk_25 4 (dk_at dksX1_place_4 3 rfl rfl)
theorem dX1_place_99 : decode cX1_place 99 = .ok (.getfield 251, 3) := dk_180 0 251 (dk_at dksX1_place_4 5 rfl rfl)
theorem dX1_place_102 : decode cX1_place 102 = .ok (.iload_n 1, 1) := dk_27 (dk_at dksX1_place_4 8 rfl rfl)
theorem dX1_place_103 : decode cX1_place 103 = .ok (.iaload, 1) := dk_46 (dk_at dksX1_place_4 9 rfl rfl)
theorem dX1_place_104 : decode cX1_place 104 = .ok (.iload_n 2, 1) := dk_28 (dk_at dksX1_place_4 10 rfl rfl)
theorem dX1_place_105 : decode cX1_place 105 = .ok (.isub, 1) := dk_100 (dk_at dksX1_place_4 11 rfl rfl)
theorem dX1_place_106 : decode cX1_place 106 = .ok (.i2l, 1) := dk_133 (dk_at dksX1_place_4 12 rfl rfl)
theorem dX1_place_107 : decode cX1_place 107 = .ok (.aload 4, 2) := dk_25 4 (dk_at dksX1_place_4 13 rfl rfl)
theorem dX1_place_109 : decode cX1_place 109 = .ok (.getfield 253, 3) := dk_180 0 253 (dk_at dksX1_place_4 15 rfl rfl)
theorem dX1_place_112 : decode cX1_place 112 = .ok (.iload_n 1, 1) := dk_27 (dk_at dksX1_place_4 18 rfl rfl)
theorem dX1_place_113 : decode cX1_place 113 = .ok (.iaload, 1) := dk_46 (dk_at dksX1_place_4 19 rfl rfl)
theorem dX1_place_114 : decode cX1_place 114 = .ok (.iload_n 3, 1) := dk_29 (dk_at dksX1_place_4 20 rfl rfl)
theorem dX1_place_115 : decode cX1_place 115 = .ok (.isub, 1) := dk_100 (dk_at dksX1_place_4 21 rfl rfl)
theorem dX1_place_116 : decode cX1_place 116 = .ok (.i2l, 1) := dk_133 (dk_at dksX1_place_4 22 rfl rfl)
theorem dX1_place_117 : decode cX1_place 117 = .ok (.invokestatic 339, 3) := dk_184 1 83 (dk_at dksX1_place_5 0 rfl rfl)
theorem dX1_place_120 : decode cX1_place 120 = .ok (.istore 5, 2) := dk_54 5 (dk_at dksX1_place_5 3 rfl rfl)
theorem dX1_place_122 : decode cX1_place 122 = .ok (.aload_n 0, 1) := dk_42 (dk_at dksX1_place_5 5 rfl rfl)
theorem dX1_place_123 : decode cX1_place 123 = .ok (.iconst 1, 1) := dk_4 (dk_at dksX1_place_5 6 rfl rfl)
theorem dX1_place_124 : decode cX1_place 124 = .ok (.invokevirtual 319, 3) := dk_182 1 63 (dk_at dksX1_place_5 7 rfl rfl)
theorem dX1_place_127 : decode cX1_place 127 = .ok (.getfield 238, 3) := dk_180 0 238 (dk_at dksX1_place_5 10 rfl rfl)
theorem dX1_place_130 : decode cX1_place 130 = .ok (.astore 4, 2) := dk_58 4 (dk_at dksX1_place_5 13 rfl rfl)
theorem dX1_place_132 : decode cX1_place 132 = .ok (.aload 4, 2) := dk_25 4 (dk_at dksX1_place_5 15 rfl rfl)
theorem dX1_place_134 : decode cX1_place 134 = .ok (.getfield 251, 3) := dk_180 0 251 (dk_at dksX1_place_5 17 rfl rfl)
theorem dX1_place_137 : decode cX1_place 137 = .ok (.iload_n 1, 1) := dk_27 (dk_at dksX1_place_5 20 rfl rfl)
theorem dX1_place_138 : decode cX1_place 138 = .ok (.iload_n 2, 1) := dk_28 (dk_at dksX1_place_5 21 rfl rfl)
theorem dX1_place_139 : decode cX1_place 139 = .ok (.iastore, 1) := dk_79 (dk_at dksX1_place_5 22 rfl rfl)
theorem dX1_place_140 : decode cX1_place 140 = .ok (.aload 4, 2) := dk_25 4 (dk_at dksX1_place_6 0 rfl rfl)
theorem dX1_place_142 : decode cX1_place 142 = .ok (.getfield 253, 3) := dk_180 0 253 (dk_at dksX1_place_6 2 rfl rfl)
theorem dX1_place_145 : decode cX1_place 145 = .ok (.iload_n 1, 1) := dk_27 (dk_at dksX1_place_6 5 rfl rfl)
theorem dX1_place_146 : decode cX1_place 146 = .ok (.iload_n 3, 1) := dk_29 (dk_at dksX1_place_6 6 rfl rfl)
theorem dX1_place_147 : decode cX1_place 147 = .ok (.iastore, 1) := dk_79 (dk_at dksX1_place_6 7 rfl rfl)
theorem dX1_place_148 : decode cX1_place 148 = .ok (.iload 5, 2) := dk_21 5 (dk_at dksX1_place_6 8 rfl rfl)
theorem dX1_place_150 : decode cX1_place 150 = .ok (.ireturn, 1) := dk_172 (dk_at dksX1_place_6 10 rfl rfl)
abbrev cX1_exchange : ByteArray := prog_1_method_44_code
def yX1_exchange : MethodName := ⟨RX1, "exchange", "(II)V"⟩
def dkwX1_exchange_3 : List UInt8 := [180, 1, 3, 27, 28, 184, 1, 90, 177]
abbrev dktX1_exchange_3 : List UInt8 := dkwX1_exchange_3 ++ []
def dkwX1_exchange_2 : List UInt8 := [184, 1, 86, 45, 180, 0, 253, 27, 28, 184, 1, 86, 45, 180, 0, 255, 27, 28, 184, 1, 90, 45]
abbrev dktX1_exchange_2 : List UInt8 := dkwX1_exchange_2 ++ dktX1_exchange_3
def dkwX1_exchange_1 : List UInt8 := [182, 1, 63, 180, 0, 238, 78, 45, 180, 0, 247, 27, 28, 184, 1, 86, 45, 180, 0, 251, 27, 28]
abbrev dktX1_exchange_1 : List UInt8 := dkwX1_exchange_1 ++ dktX1_exchange_2
def dkwX1_exchange_0 : List UInt8 := [27, 184, 0, 243, 28, 184, 0, 243, 27, 28, 159, 0, 7, 4, 167, 0, 4, 3, 184, 0, 200, 42, 4]
abbrev dktX1_exchange_0 : List UInt8 := dkwX1_exchange_0 ++ dktX1_exchange_1
theorem dksX1_exchange_0 : cX1_exchange.data.toList.drop 0 = dktX1_exchange_0 := by decide +kernel
theorem dksX1_exchange_1 : cX1_exchange.data.toList.drop 23 = dktX1_exchange_1 := dk_seg dksX1_exchange_0 23 rfl rfl
theorem dksX1_exchange_2 : cX1_exchange.data.toList.drop 45 = dktX1_exchange_2 := dk_seg dksX1_exchange_1 22 rfl rfl
theorem dksX1_exchange_3 : cX1_exchange.data.toList.drop 67 = dktX1_exchange_3 := dk_seg dksX1_exchange_2 22 rfl rfl
theorem dX1_exchange_0 : decode cX1_exchange 0 = .ok (.iload_n 1, 1) := dk_27 (dk_at dksX1_exchange_0 0 rfl rfl)
theorem dX1_exchange_1 : decode cX1_exchange 1 = .ok (.invokestatic 243, 3) := dk_184 0 243 (dk_at dksX1_exchange_0 1 rfl rfl)
theorem dX1_exchange_4 : decode cX1_exchange 4 = .ok (.iload_n 2, 1) := dk_28 (dk_at dksX1_exchange_0 4 rfl rfl)
theorem dX1_exchange_5 : decode cX1_exchange 5 = .ok (.invokestatic 243, 3) := dk_184 0 243 (dk_at dksX1_exchange_0 5 rfl rfl)
theorem dX1_exchange_8 : decode cX1_exchange 8 = .ok (.iload_n 1, 1) := dk_27 (dk_at dksX1_exchange_0 8 rfl rfl)
theorem dX1_exchange_9 : decode cX1_exchange 9 = .ok (.iload_n 2, 1) := dk_28 (dk_at dksX1_exchange_0 9 rfl rfl)
theorem dX1_exchange_10 : decode cX1_exchange 10 = .ok (.if_icmp .eq 7, 3) := dk_159 0 7 (dk_at dksX1_exchange_0 10 rfl rfl)
theorem dX1_exchange_13 : decode cX1_exchange 13 = .ok (.iconst 1, 1) := dk_4 (dk_at dksX1_exchange_0 13 rfl rfl)
theorem dX1_exchange_14 : decode cX1_exchange 14 = .ok (.goto 4, 3) := dk_167 0 4 (dk_at dksX1_exchange_0 14 rfl rfl)
theorem dX1_exchange_17 : decode cX1_exchange 17 = .ok (.iconst 0, 1) := dk_3 (dk_at dksX1_exchange_0 17 rfl rfl)
theorem dX1_exchange_18 : decode cX1_exchange 18 = .ok (.invokestatic 200, 3) := dk_184 0 200 (dk_at dksX1_exchange_0 18 rfl rfl)
theorem dX1_exchange_21 : decode cX1_exchange 21 = .ok (.aload_n 0, 1) := dk_42 (dk_at dksX1_exchange_0 21 rfl rfl)
theorem dX1_exchange_22 : decode cX1_exchange 22 = .ok (.iconst 1, 1) := dk_4 (dk_at dksX1_exchange_0 22 rfl rfl)
theorem dX1_exchange_23 : decode cX1_exchange 23 = .ok (.invokevirtual 319, 3) := dk_182 1 63 (dk_at dksX1_exchange_1 0 rfl rfl)
theorem dX1_exchange_26 : decode cX1_exchange 26 = .ok (.getfield 238, 3) := dk_180 0 238 (dk_at dksX1_exchange_1 3 rfl rfl)
theorem dX1_exchange_29 : decode cX1_exchange 29 = .ok (.astore_n 3, 1) := dk_78 (dk_at dksX1_exchange_1 6 rfl rfl)
theorem dX1_exchange_30 : decode cX1_exchange 30 = .ok (.aload_n 3, 1) := dk_45 (dk_at dksX1_exchange_1 7 rfl rfl)
theorem dX1_exchange_31 : decode cX1_exchange 31 = .ok (.getfield 247, 3) := dk_180 0 247 (dk_at dksX1_exchange_1 8 rfl rfl)
theorem dX1_exchange_34 : decode cX1_exchange 34 = .ok (.iload_n 1, 1) := dk_27 (dk_at dksX1_exchange_1 11 rfl rfl)
theorem dX1_exchange_35 : decode cX1_exchange 35 = .ok (.iload_n 2, 1) := dk_28 (dk_at dksX1_exchange_1 12 rfl rfl)
theorem dX1_exchange_36 : decode cX1_exchange 36 = .ok (.invokestatic 342, 3) := dk_184 1 86 (dk_at dksX1_exchange_1 13 rfl rfl)
theorem dX1_exchange_39 : decode cX1_exchange 39 = .ok (.aload_n 3, 1) := dk_45 (dk_at dksX1_exchange_1 16 rfl rfl)
theorem dX1_exchange_40 : decode cX1_exchange 40 = .ok (.getfield 251, 3) := dk_180 0 251 (dk_at dksX1_exchange_1 17 rfl rfl)
theorem dX1_exchange_43 : decode cX1_exchange 43 = .ok (.iload_n 1, 1) := dk_27 (dk_at dksX1_exchange_1 20 rfl rfl)
theorem dX1_exchange_44 : decode cX1_exchange 44 = .ok (.iload_n 2, 1) := dk_28 (dk_at dksX1_exchange_1 21 rfl rfl)
theorem dX1_exchange_45 : decode cX1_exchange 45 = .ok (.invokestatic 342, 3) := dk_184 1 86 (dk_at dksX1_exchange_2 0 rfl rfl)
theorem dX1_exchange_48 : decode cX1_exchange 48 = .ok (.aload_n 3, 1) := dk_45 (dk_at dksX1_exchange_2 3 rfl rfl)
theorem dX1_exchange_49 : decode cX1_exchange 49 = .ok (.getfield 253, 3) := dk_180 0 253 (dk_at dksX1_exchange_2 4 rfl rfl)
theorem dX1_exchange_52 : decode cX1_exchange 52 = .ok (.iload_n 1, 1) := dk_27 (dk_at dksX1_exchange_2 7 rfl rfl)
theorem dX1_exchange_53 : decode cX1_exchange 53 = .ok (.iload_n 2, 1) := dk_28 (dk_at dksX1_exchange_2 8 rfl rfl)
theorem dX1_exchange_54 : decode cX1_exchange 54 = .ok (.invokestatic 342, 3) := dk_184 1 86 (dk_at dksX1_exchange_2 9 rfl rfl)
theorem dX1_exchange_57 : decode cX1_exchange 57 = .ok (.aload_n 3, 1) := dk_45 (dk_at dksX1_exchange_2 12 rfl rfl)
theorem dX1_exchange_58 : decode cX1_exchange 58 = .ok (.getfield 255, 3) := dk_180 0 255 (dk_at dksX1_exchange_2 13 rfl rfl)
theorem dX1_exchange_61 : decode cX1_exchange 61 = .ok (.iload_n 1, 1) := dk_27 (dk_at dksX1_exchange_2 16 rfl rfl)
theorem dX1_exchange_62 : decode cX1_exchange 62 = .ok (.iload_n 2, 1) := dk_28 (dk_at dksX1_exchange_2 17 rfl rfl)
theorem dX1_exchange_63 : decode cX1_exchange 63 = .ok (.invokestatic 346, 3) := dk_184 1 90 (dk_at dksX1_exchange_2 18 rfl rfl)
theorem dX1_exchange_66 : decode cX1_exchange 66 = .ok (.aload_n 3, 1) := dk_45 (dk_at dksX1_exchange_2 21 rfl rfl)
theorem dX1_exchange_67 : decode cX1_exchange 67 = .ok (.getfield 259, 3) := dk_180 1 3 (dk_at dksX1_exchange_3 0 rfl rfl)
theorem dX1_exchange_70 : decode cX1_exchange 70 = .ok (.iload_n 1, 1) := dk_27 (dk_at dksX1_exchange_3 3 rfl rfl)
theorem dX1_exchange_71 : decode cX1_exchange 71 = .ok (.iload_n 2, 1) := dk_28 (dk_at dksX1_exchange_3 4 rfl rfl)
theorem dX1_exchange_72 : decode cX1_exchange 72 = .ok (.invokestatic 346, 3) := dk_184 1 90 (dk_at dksX1_exchange_3 5 rfl rfl)
theorem dX1_exchange_75 : decode cX1_exchange 75 = .ok (.return_, 1) := dk_177 (dk_at dksX1_exchange_3 8 rfl rfl)
abbrev cX1_swap : ByteArray := prog_1_method_45_code
def yX1_swap : MethodName := ⟨RX1, "swap", "([III)V"⟩
def dkwX1_swap_0 : List UInt8 := [42, 27, 46, 62, 42, 27, 42, 28, 46, 79, 42, 28, 29, 79, 177]
abbrev dktX1_swap_0 : List UInt8 := dkwX1_swap_0 ++ []
theorem dksX1_swap_0 : cX1_swap.data.toList.drop 0 = dktX1_swap_0 := by decide +kernel
theorem dX1_swap_0 : decode cX1_swap 0 = .ok (.aload_n 0, 1) := dk_42 (dk_at dksX1_swap_0 0 rfl rfl)
theorem dX1_swap_1 : decode cX1_swap 1 = .ok (.iload_n 1, 1) := dk_27 (dk_at dksX1_swap_0 1 rfl rfl)
theorem dX1_swap_2 : decode cX1_swap 2 = .ok (.iaload, 1) := dk_46 (dk_at dksX1_swap_0 2 rfl rfl)
theorem dX1_swap_3 : decode cX1_swap 3 = .ok (.istore_n 3, 1) := dk_62 (dk_at dksX1_swap_0 3 rfl rfl)
theorem dX1_swap_4 : decode cX1_swap 4 = .ok (.aload_n 0, 1) := dk_42 (dk_at dksX1_swap_0 4 rfl rfl)
theorem dX1_swap_5 : decode cX1_swap 5 = .ok (.iload_n 1, 1) := dk_27 (dk_at dksX1_swap_0 5 rfl rfl)
theorem dX1_swap_6 : decode cX1_swap 6 = .ok (.aload_n 0, 1) := dk_42 (dk_at dksX1_swap_0 6 rfl rfl)
theorem dX1_swap_7 : decode cX1_swap 7 = .ok (.iload_n 2, 1) := dk_28 (dk_at dksX1_swap_0 7 rfl rfl)
theorem dX1_swap_8 : decode cX1_swap 8 = .ok (.iaload, 1) := dk_46 (dk_at dksX1_swap_0 8 rfl rfl)
theorem dX1_swap_9 : decode cX1_swap 9 = .ok (.iastore, 1) := dk_79 (dk_at dksX1_swap_0 9 rfl rfl)
theorem dX1_swap_10 : decode cX1_swap 10 = .ok (.aload_n 0, 1) := dk_42 (dk_at dksX1_swap_0 10 rfl rfl)
theorem dX1_swap_11 : decode cX1_swap 11 = .ok (.iload_n 2, 1) := dk_28 (dk_at dksX1_swap_0 11 rfl rfl)
theorem dX1_swap_12 : decode cX1_swap 12 = .ok (.iload_n 3, 1) := dk_29 (dk_at dksX1_swap_0 12 rfl rfl)
theorem dX1_swap_13 : decode cX1_swap 13 = .ok (.iastore, 1) := dk_79 (dk_at dksX1_swap_0 13 rfl rfl)
theorem dX1_swap_14 : decode cX1_swap 14 = .ok (.return_, 1) := dk_177 (dk_at dksX1_swap_0 14 rfl rfl)
abbrev cX1_swapLong : ByteArray := prog_1_method_46_code
def yX1_swapLong : MethodName := ⟨RX1, "swapLong", "([JII)V"⟩
def dkwX1_swapLong_0 : List UInt8 := [42, 27, 47, 66, 42, 27, 42, 28, 47, 80, 42, 28, 33, 80, 177]
abbrev dktX1_swapLong_0 : List UInt8 := dkwX1_swapLong_0 ++ []
theorem dksX1_swapLong_0 : cX1_swapLong.data.toList.drop 0 = dktX1_swapLong_0 := by decide +kernel
theorem dX1_swapLong_0 : decode cX1_swapLong 0 = .ok (.aload_n 0, 1) := dk_42 (dk_at dksX1_swapLong_0 0 rfl rfl)
theorem dX1_swapLong_1 : decode cX1_swapLong 1 = .ok (.iload_n 1, 1) := dk_27 (dk_at dksX1_swapLong_0 1 rfl rfl)
theorem dX1_swapLong_2 : decode cX1_swapLong 2 = .ok (.laload, 1) := dk_47 (dk_at dksX1_swapLong_0 2 rfl rfl)
theorem dX1_swapLong_3 : decode cX1_swapLong 3 = .ok (.lstore_n 3, 1) := dk_66 (dk_at dksX1_swapLong_0 3 rfl rfl)
theorem dX1_swapLong_4 : decode cX1_swapLong 4 = .ok (.aload_n 0, 1) := dk_42 (dk_at dksX1_swapLong_0 4 rfl rfl)
theorem dX1_swapLong_5 : decode cX1_swapLong 5 = .ok (.iload_n 1, 1) := dk_27 (dk_at dksX1_swapLong_0 5 rfl rfl)
theorem dX1_swapLong_6 : decode cX1_swapLong 6 = .ok (.aload_n 0, 1) := dk_42 (dk_at dksX1_swapLong_0 6 rfl rfl)
theorem dX1_swapLong_7 : decode cX1_swapLong 7 = .ok (.iload_n 2, 1) := dk_28 (dk_at dksX1_swapLong_0 7 rfl rfl)
theorem dX1_swapLong_8 : decode cX1_swapLong 8 = .ok (.laload, 1) := dk_47 (dk_at dksX1_swapLong_0 8 rfl rfl)
theorem dX1_swapLong_9 : decode cX1_swapLong 9 = .ok (.lastore, 1) := dk_80 (dk_at dksX1_swapLong_0 9 rfl rfl)
theorem dX1_swapLong_10 : decode cX1_swapLong 10 = .ok (.aload_n 0, 1) := dk_42 (dk_at dksX1_swapLong_0 10 rfl rfl)
theorem dX1_swapLong_11 : decode cX1_swapLong 11 = .ok (.iload_n 2, 1) := dk_28 (dk_at dksX1_swapLong_0 11 rfl rfl)
theorem dX1_swapLong_12 : decode cX1_swapLong 12 = .ok (.lload_n 3, 1) := dk_33 (dk_at dksX1_swapLong_0 12 rfl rfl)
theorem dX1_swapLong_13 : decode cX1_swapLong 13 = .ok (.lastore, 1) := dk_80 (dk_at dksX1_swapLong_0 13 rfl rfl)
theorem dX1_swapLong_14 : decode cX1_swapLong 14 = .ok (.return_, 1) := dk_177 (dk_at dksX1_swapLong_0 14 rfl rfl)
abbrev cX1_setScheme : ByteArray := prog_1_method_47_code
def yX1_setScheme : MethodName := ⟨RX1, "setScheme", "(I)I"⟩
def dkwX1_setScheme_1 : List UInt8 := [180, 1, 8, 6, 46, 62, 44, 180, 1, 8, 6, 27, 79, 29, 172]
abbrev dktX1_setScheme_1 : List UInt8 := dkwX1_setScheme_1 ++ []
def dkwX1_setScheme_0 : List UInt8 := [27, 133, 9, 20, 0, 12, 184, 0, 64, 184, 0, 200, 42, 4, 182, 1, 63, 180, 0, 238, 77, 44]
abbrev dktX1_setScheme_0 : List UInt8 := dkwX1_setScheme_0 ++ dktX1_setScheme_1
theorem dksX1_setScheme_0 : cX1_setScheme.data.toList.drop 0 = dktX1_setScheme_0 := by decide +kernel
theorem dksX1_setScheme_1 : cX1_setScheme.data.toList.drop 22 = dktX1_setScheme_1 := dk_seg dksX1_setScheme_0 22 rfl rfl
theorem dX1_setScheme_0 : decode cX1_setScheme 0 = .ok (.iload_n 1, 1) := dk_27 (dk_at dksX1_setScheme_0 0 rfl rfl)
theorem dX1_setScheme_1 : decode cX1_setScheme 1 = .ok (.i2l, 1) := dk_133 (dk_at dksX1_setScheme_0 1 rfl rfl)
theorem dX1_setScheme_2 : decode cX1_setScheme 2 = .ok (.lconst 0, 1) := dk_9 (dk_at dksX1_setScheme_0 2 rfl rfl)
theorem dX1_setScheme_3 : decode cX1_setScheme 3 = .ok (.ldc2_w 12, 3) := dk_20 0 12 (dk_at dksX1_setScheme_0 3 rfl rfl)
theorem dX1_setScheme_6 : decode cX1_setScheme 6 = .ok (.invokestatic 64, 3) := dk_184 0 64 (dk_at dksX1_setScheme_0 6 rfl rfl)
theorem dX1_setScheme_9 : decode cX1_setScheme 9 = .ok (.invokestatic 200, 3) := dk_184 0 200 (dk_at dksX1_setScheme_0 9 rfl rfl)
theorem dX1_setScheme_12 : decode cX1_setScheme 12 = .ok (.aload_n 0, 1) := dk_42 (dk_at dksX1_setScheme_0 12 rfl rfl)
theorem dX1_setScheme_13 : decode cX1_setScheme 13 = .ok (.iconst 1, 1) := dk_4 (dk_at dksX1_setScheme_0 13 rfl rfl)
theorem dX1_setScheme_14 : decode cX1_setScheme 14 = .ok (.invokevirtual 319, 3) := dk_182 1 63 (dk_at dksX1_setScheme_0 14 rfl rfl)
theorem dX1_setScheme_17 : decode cX1_setScheme 17 = .ok (.getfield 238, 3) := dk_180 0 238 (dk_at dksX1_setScheme_0 17 rfl rfl)
theorem dX1_setScheme_20 : decode cX1_setScheme 20 = .ok (.astore_n 2, 1) := dk_77 (dk_at dksX1_setScheme_0 20 rfl rfl)
theorem dX1_setScheme_21 : decode cX1_setScheme 21 = .ok (.aload_n 2, 1) := dk_44 (dk_at dksX1_setScheme_0 21 rfl rfl)
theorem dX1_setScheme_22 : decode cX1_setScheme 22 = .ok (.getfield 264, 3) := dk_180 1 8 (dk_at dksX1_setScheme_1 0 rfl rfl)
theorem dX1_setScheme_25 : decode cX1_setScheme 25 = .ok (.iconst 3, 1) := dk_6 (dk_at dksX1_setScheme_1 3 rfl rfl)
theorem dX1_setScheme_26 : decode cX1_setScheme 26 = .ok (.iaload, 1) := dk_46 (dk_at dksX1_setScheme_1 4 rfl rfl)
theorem dX1_setScheme_27 : decode cX1_setScheme 27 = .ok (.istore_n 3, 1) := dk_62 (dk_at dksX1_setScheme_1 5 rfl rfl)
theorem dX1_setScheme_28 : decode cX1_setScheme 28 = .ok (.aload_n 2, 1) := dk_44 (dk_at dksX1_setScheme_1 6 rfl rfl)
theorem dX1_setScheme_29 : decode cX1_setScheme 29 = .ok (.getfield 264, 3) := dk_180 1 8 (dk_at dksX1_setScheme_1 7 rfl rfl)
theorem dX1_setScheme_32 : decode cX1_setScheme 32 = .ok (.iconst 3, 1) := dk_6 (dk_at dksX1_setScheme_1 10 rfl rfl)
theorem dX1_setScheme_33 : decode cX1_setScheme 33 = .ok (.iload_n 1, 1) := dk_27 (dk_at dksX1_setScheme_1 11 rfl rfl)
theorem dX1_setScheme_34 : decode cX1_setScheme 34 = .ok (.iastore, 1) := dk_79 (dk_at dksX1_setScheme_1 12 rfl rfl)
theorem dX1_setScheme_35 : decode cX1_setScheme 35 = .ok (.iload_n 3, 1) := dk_29 (dk_at dksX1_setScheme_1 13 rfl rfl)
theorem dX1_setScheme_36 : decode cX1_setScheme 36 = .ok (.ireturn, 1) := dk_172 (dk_at dksX1_setScheme_1 14 rfl rfl)
abbrev cX1_refine : ByteArray := prog_1_method_50_code
def yX1_refine : MethodName := ⟨RX1, "refine", "(IIII)I"⟩
def dkwX1_refine_9 : List UInt8 := [182, 1, 101, 132, 8, 1, 167, 255, 135, 21, 5, 172]
abbrev dktX1_refine_9 : List UInt8 := dkwX1_refine_9 ++ []
def dkwX1_refine_8 : List UInt8 := [167, 0, 25, 42, 25, 6, 21, 9, 21, 7, 182, 1, 119, 153, 0, 12, 25, 6, 42, 180, 0, 146]
abbrev dktX1_refine_8 : List UInt8 := dkwX1_refine_8 ++ dktX1_refine_9
def dkwX1_refine_7 : List UInt8 := [54, 9, 21, 11, 54, 5, 132, 10, 1, 167, 255, 196, 21, 9, 2, 160, 0, 12, 21, 7, 5, 108, 54, 7]
abbrev dktX1_refine_7 : List UInt8 := dkwX1_refine_7 ++ dktX1_refine_8
def dkwX1_refine_6 : List UInt8 := [182, 1, 115, 167, 0, 4, 2, 54, 11, 21, 11, 2, 159, 0, 18, 21, 11, 21, 5, 162, 0, 11, 21, 10]
abbrev dktX1_refine_6 : List UInt8 := dkwX1_refine_6 ++ dktX1_refine_7
def dkwX1_refine_5 : List UInt8 := [162, 0, 59, 42, 25, 6, 21, 10, 21, 7, 182, 1, 119, 153, 0, 16, 42, 42, 180, 0, 146, 27, 28]
abbrev dktX1_refine_5 : List UInt8 := dkwX1_refine_5 ++ dktX1_refine_6
def dkwX1_refine_4 : List UInt8 := [21, 8, 21, 4, 162, 0, 120, 21, 7, 158, 0, 115, 2, 54, 9, 3, 54, 10, 21, 10, 16, 8]
abbrev dktX1_refine_4 : List UInt8 := dkwX1_refine_4 ++ dktX1_refine_5
def dkwX1_refine_3 : List UInt8 := [2, 160, 0, 6, 16, 252, 172, 42, 4, 182, 1, 63, 180, 0, 238, 58, 6, 29, 54, 7, 3, 54, 8]
abbrev dktX1_refine_3 : List UInt8 := dkwX1_refine_3 ++ dktX1_refine_4
def dkwX1_refine_2 : List UInt8 := [167, 0, 4, 3, 184, 0, 200, 42, 42, 180, 0, 107, 180, 0, 238, 27, 28, 182, 1, 115, 54, 5, 21, 5]
abbrev dktX1_refine_2 : List UInt8 := dkwX1_refine_2 ++ dktX1_refine_3
def dkwX1_refine_1 : List UInt8 := [20, 1, 111, 184, 0, 64, 153, 0, 20, 21, 4, 133, 10, 20, 1, 113, 184, 0, 64, 153, 0, 7, 4]
abbrev dktX1_refine_1 : List UInt8 := dkwX1_refine_1 ++ dktX1_refine_2
def dkwX1_refine_0 : List UInt8 := [27, 133, 9, 20, 1, 105, 184, 0, 64, 153, 0, 40, 27, 28, 184, 1, 107, 153, 0, 32, 29, 133, 10]
abbrev dktX1_refine_0 : List UInt8 := dkwX1_refine_0 ++ dktX1_refine_1
theorem dksX1_refine_0 : cX1_refine.data.toList.drop 0 = dktX1_refine_0 := by decide +kernel
theorem dksX1_refine_1 : cX1_refine.data.toList.drop 23 = dktX1_refine_1 := dk_seg dksX1_refine_0 23 rfl rfl
theorem dksX1_refine_2 : cX1_refine.data.toList.drop 46 = dktX1_refine_2 := dk_seg dksX1_refine_1 23 rfl rfl
theorem dksX1_refine_3 : cX1_refine.data.toList.drop 70 = dktX1_refine_3 := dk_seg dksX1_refine_2 24 rfl rfl
theorem dksX1_refine_4 : cX1_refine.data.toList.drop 93 = dktX1_refine_4 := dk_seg dksX1_refine_3 23 rfl rfl
theorem dksX1_refine_5 : cX1_refine.data.toList.drop 115 = dktX1_refine_5 := dk_seg dksX1_refine_4 22 rfl rfl
theorem dksX1_refine_6 : cX1_refine.data.toList.drop 138 = dktX1_refine_6 := dk_seg dksX1_refine_5 23 rfl rfl
theorem dksX1_refine_7 : cX1_refine.data.toList.drop 162 = dktX1_refine_7 := dk_seg dksX1_refine_6 24 rfl rfl
theorem dksX1_refine_8 : cX1_refine.data.toList.drop 186 = dktX1_refine_8 := dk_seg dksX1_refine_7 24 rfl rfl
theorem dksX1_refine_9 : cX1_refine.data.toList.drop 208 = dktX1_refine_9 := dk_seg dksX1_refine_8 22 rfl rfl
theorem dX1_refine_0 : decode cX1_refine 0 = .ok (.iload_n 1, 1) := dk_27 (dk_at dksX1_refine_0 0 rfl rfl)
theorem dX1_refine_1 : decode cX1_refine 1 = .ok (.i2l, 1) := dk_133 (dk_at dksX1_refine_0 1 rfl rfl)
theorem dX1_refine_2 : decode cX1_refine 2 = .ok (.lconst 0, 1) := dk_9 (dk_at dksX1_refine_0 2 rfl rfl)
theorem dX1_refine_3 : decode cX1_refine 3 = .ok (.ldc2_w 361, 3) := dk_20 1 105 (dk_at dksX1_refine_0 3 rfl rfl)
theorem dX1_refine_6 : decode cX1_refine 6 = .ok (.invokestatic 64, 3) := dk_184 0 64 (dk_at dksX1_refine_0 6 rfl rfl)
theorem dX1_refine_9 : decode cX1_refine 9 = .ok (.ifCond .eq 40, 3) := dk_153 0 40 (dk_at dksX1_refine_0 9 rfl rfl)
theorem dX1_refine_12 : decode cX1_refine 12 = .ok (.iload_n 1, 1) := dk_27 (dk_at dksX1_refine_0 12 rfl rfl)
theorem dX1_refine_13 : decode cX1_refine 13 = .ok (.iload_n 2, 1) := dk_28 (dk_at dksX1_refine_0 13 rfl rfl)
theorem dX1_refine_14 : decode cX1_refine 14 = .ok (.invokestatic 363, 3) := dk_184 1 107 (dk_at dksX1_refine_0 14 rfl rfl)
theorem dX1_refine_17 : decode cX1_refine 17 = .ok (.ifCond .eq 32, 3) := dk_153 0 32 (dk_at dksX1_refine_0 17 rfl rfl)
theorem dX1_refine_20 : decode cX1_refine 20 = .ok (.iload_n 3, 1) := dk_29 (dk_at dksX1_refine_0 20 rfl rfl)
theorem dX1_refine_21 : decode cX1_refine 21 = .ok (.i2l, 1) := dk_133 (dk_at dksX1_refine_0 21 rfl rfl)
theorem dX1_refine_22 : decode cX1_refine 22 = .ok (.lconst 1, 1) := dk_10 (dk_at dksX1_refine_0 22 rfl rfl)
theorem dX1_refine_23 : decode cX1_refine 23 = .ok (.ldc2_w 367, 3) := dk_20 1 111 (dk_at dksX1_refine_1 0 rfl rfl)
theorem dX1_refine_26 : decode cX1_refine 26 = .ok (.invokestatic 64, 3) := dk_184 0 64 (dk_at dksX1_refine_1 3 rfl rfl)
theorem dX1_refine_29 : decode cX1_refine 29 = .ok (.ifCond .eq 20, 3) := dk_153 0 20 (dk_at dksX1_refine_1 6 rfl rfl)
theorem dX1_refine_32 : decode cX1_refine 32 = .ok (.iload 4, 2) := dk_21 4 (dk_at dksX1_refine_1 9 rfl rfl)
theorem dX1_refine_34 : decode cX1_refine 34 = .ok (.i2l, 1) := dk_133 (dk_at dksX1_refine_1 11 rfl rfl)
theorem dX1_refine_35 : decode cX1_refine 35 = .ok (.lconst 1, 1) := dk_10 (dk_at dksX1_refine_1 12 rfl rfl)
theorem dX1_refine_36 : decode cX1_refine 36 = .ok (.ldc2_w 369, 3) := dk_20 1 113 (dk_at dksX1_refine_1 13 rfl rfl)
theorem dX1_refine_39 : decode cX1_refine 39 = .ok (.invokestatic 64, 3) := dk_184 0 64 (dk_at dksX1_refine_1 16 rfl rfl)
theorem dX1_refine_42 : decode cX1_refine 42 = .ok (.ifCond .eq 7, 3) := dk_153 0 7 (dk_at dksX1_refine_1 19 rfl rfl)
theorem dX1_refine_45 : decode cX1_refine 45 = .ok (.iconst 1, 1) := dk_4 (dk_at dksX1_refine_1 22 rfl rfl)
theorem dX1_refine_46 : decode cX1_refine 46 = .ok (.goto 4, 3) := dk_167 0 4 (dk_at dksX1_refine_2 0 rfl rfl)
theorem dX1_refine_49 : decode cX1_refine 49 = .ok (.iconst 0, 1) := dk_3 (dk_at dksX1_refine_2 3 rfl rfl)
theorem dX1_refine_50 : decode cX1_refine 50 = .ok (.invokestatic 200, 3) := dk_184 0 200 (dk_at dksX1_refine_2 4 rfl rfl)
theorem dX1_refine_53 : decode cX1_refine 53 = .ok (.aload_n 0, 1) := dk_42 (dk_at dksX1_refine_2 7 rfl rfl)
theorem dX1_refine_54 : decode cX1_refine 54 = .ok (.aload_n 0, 1) := dk_42 (dk_at dksX1_refine_2 8 rfl rfl)
theorem dX1_refine_55 : decode cX1_refine 55 = .ok (.getfield 107, 3) := dk_180 0 107 (dk_at dksX1_refine_2 9 rfl rfl)
theorem dX1_refine_58 : decode cX1_refine 58 = .ok (.getfield 238, 3) := dk_180 0 238 (dk_at dksX1_refine_2 12 rfl rfl)
theorem dX1_refine_61 : decode cX1_refine 61 = .ok (.iload_n 1, 1) := dk_27 (dk_at dksX1_refine_2 15 rfl rfl)
theorem dX1_refine_62 : decode cX1_refine 62 = .ok (.iload_n 2, 1) := dk_28 (dk_at dksX1_refine_2 16 rfl rfl)
theorem dX1_refine_63 : decode cX1_refine 63 = .ok (.invokevirtual 371, 3) := dk_182 1 115 (dk_at dksX1_refine_2 17 rfl rfl)
theorem dX1_refine_66 : decode cX1_refine 66 = .ok (.istore 5, 2) := dk_54 5 (dk_at dksX1_refine_2 20 rfl rfl)
theorem dX1_refine_68 : decode cX1_refine 68 = .ok (.iload 5, 2) := dk_21 5 (dk_at dksX1_refine_2 22 rfl rfl)
theorem dX1_refine_70 : decode cX1_refine 70 = .ok (.iconst (-1), 1) := dk_2 (dk_at dksX1_refine_3 0 rfl rfl)
theorem dX1_refine_71 : decode cX1_refine 71 = .ok (.if_icmp .ne 6, 3) := dk_160 0 6 (dk_at dksX1_refine_3 1 rfl rfl)
theorem dX1_refine_74 : decode cX1_refine 74 = .ok (.bipush (-4), 2) := dk_16 252 (dk_at dksX1_refine_3 4 rfl rfl)
theorem dX1_refine_76 : decode cX1_refine 76 = .ok (.ireturn, 1) := dk_172 (dk_at dksX1_refine_3 6 rfl rfl)
theorem dX1_refine_77 : decode cX1_refine 77 = .ok (.aload_n 0, 1) := dk_42 (dk_at dksX1_refine_3 7 rfl rfl)
theorem dX1_refine_78 : decode cX1_refine 78 = .ok (.iconst 1, 1) := dk_4 (dk_at dksX1_refine_3 8 rfl rfl)
theorem dX1_refine_79 : decode cX1_refine 79 = .ok (.invokevirtual 319, 3) := dk_182 1 63 (dk_at dksX1_refine_3 9 rfl rfl)
theorem dX1_refine_82 : decode cX1_refine 82 = .ok (.getfield 238, 3) := dk_180 0 238 (dk_at dksX1_refine_3 12 rfl rfl)
theorem dX1_refine_85 : decode cX1_refine 85 = .ok (.astore 6, 2) := dk_58 6 (dk_at dksX1_refine_3 15 rfl rfl)
theorem dX1_refine_87 : decode cX1_refine 87 = .ok (.iload_n 3, 1) := dk_29 (dk_at dksX1_refine_3 17 rfl rfl)
theorem dX1_refine_88 : decode cX1_refine 88 = .ok (.istore 7, 2) := dk_54 7 (dk_at dksX1_refine_3 18 rfl rfl)
theorem dX1_refine_90 : decode cX1_refine 90 = .ok (.iconst 0, 1) := dk_3 (dk_at dksX1_refine_3 20 rfl rfl)
theorem dX1_refine_91 : decode cX1_refine 91 = .ok (.istore 8, 2) := dk_54 8 (dk_at dksX1_refine_3 21 rfl rfl)
theorem dX1_refine_93 : decode cX1_refine 93 = .ok (.iload 8, 2) := dk_21 8 (dk_at dksX1_refine_4 0 rfl rfl)
theorem dX1_refine_95 : decode cX1_refine 95 = .ok (.iload 4, 2) := dk_21 4 (dk_at dksX1_refine_4 2 rfl rfl)
theorem dX1_refine_97 : decode cX1_refine 97 = .ok (.if_icmp .ge 120, 3) := dk_162 0 120 (dk_at dksX1_refine_4 4 rfl rfl)
theorem dX1_refine_100 : decode cX1_refine 100 = .ok (.iload 7, 2) := dk_21 7 (dk_at dksX1_refine_4 7 rfl rfl)
theorem dX1_refine_102 : decode cX1_refine 102 = .ok (.ifCond .le 115, 3) := dk_158 0 115 (dk_at dksX1_refine_4 9 rfl rfl)
theorem dX1_refine_105 : decode cX1_refine 105 = .ok (.iconst (-1), 1) := dk_2 (dk_at dksX1_refine_4 12 rfl rfl)
theorem dX1_refine_106 : decode cX1_refine 106 = .ok (.istore 9, 2) := dk_54 9 (dk_at dksX1_refine_4 13 rfl rfl)
theorem dX1_refine_108 : decode cX1_refine 108 = .ok (.iconst 0, 1) := dk_3 (dk_at dksX1_refine_4 15 rfl rfl)
theorem dX1_refine_109 : decode cX1_refine 109 = .ok (.istore 10, 2) := dk_54 10 (dk_at dksX1_refine_4 16 rfl rfl)
theorem dX1_refine_111 : decode cX1_refine 111 = .ok (.iload 10, 2) := dk_21 10 (dk_at dksX1_refine_4 18 rfl rfl)
theorem dX1_refine_113 : decode cX1_refine 113 = .ok (.bipush 8, 2) := dk_16 8 (dk_at dksX1_refine_4 20 rfl rfl)
theorem dX1_refine_115 : decode cX1_refine 115 = .ok (.if_icmp .ge 59, 3) := dk_162 0 59 (dk_at dksX1_refine_5 0 rfl rfl)
theorem dX1_refine_118 : decode cX1_refine 118 = .ok (.aload_n 0, 1) := dk_42 (dk_at dksX1_refine_5 3 rfl rfl)
theorem dX1_refine_119 : decode cX1_refine 119 = .ok (.aload 6, 2) := dk_25 6 (dk_at dksX1_refine_5 4 rfl rfl)
theorem dX1_refine_121 : decode cX1_refine 121 = .ok (.iload 10, 2) := dk_21 10 (dk_at dksX1_refine_5 6 rfl rfl)
theorem dX1_refine_123 : decode cX1_refine 123 = .ok (.iload 7, 2) := dk_21 7 (dk_at dksX1_refine_5 8 rfl rfl)
theorem dX1_refine_125 : decode cX1_refine 125 = .ok (.invokevirtual 375, 3) := dk_182 1 119 (dk_at dksX1_refine_5 10 rfl rfl)
theorem dX1_refine_128 : decode cX1_refine 128 = .ok (.ifCond .eq 16, 3) := dk_153 0 16 (dk_at dksX1_refine_5 13 rfl rfl)
theorem dX1_refine_131 : decode cX1_refine 131 = .ok (.aload_n 0, 1) := dk_42 (dk_at dksX1_refine_5 16 rfl rfl)
theorem dX1_refine_132 : decode cX1_refine 132 = .ok (.aload_n 0, 1) := dk_42 (dk_at dksX1_refine_5 17 rfl rfl)
theorem dX1_refine_133 : decode cX1_refine 133 = .ok (.getfield 146, 3) := dk_180 0 146 (dk_at dksX1_refine_5 18 rfl rfl)
theorem dX1_refine_136 : decode cX1_refine 136 = .ok (.iload_n 1, 1) := dk_27 (dk_at dksX1_refine_5 21 rfl rfl)
theorem dX1_refine_137 : decode cX1_refine 137 = .ok (.iload_n 2, 1) := dk_28 (dk_at dksX1_refine_5 22 rfl rfl)
theorem dX1_refine_138 : decode cX1_refine 138 = .ok (.invokevirtual 371, 3) := dk_182 1 115 (dk_at dksX1_refine_6 0 rfl rfl)
theorem dX1_refine_141 : decode cX1_refine 141 = .ok (.goto 4, 3) := dk_167 0 4 (dk_at dksX1_refine_6 3 rfl rfl)
theorem dX1_refine_144 : decode cX1_refine 144 = .ok (.iconst (-1), 1) := dk_2 (dk_at dksX1_refine_6 6 rfl rfl)
theorem dX1_refine_145 : decode cX1_refine 145 = .ok (.istore 11, 2) := dk_54 11 (dk_at dksX1_refine_6 7 rfl rfl)
theorem dX1_refine_147 : decode cX1_refine 147 = .ok (.iload 11, 2) := dk_21 11 (dk_at dksX1_refine_6 9 rfl rfl)
theorem dX1_refine_149 : decode cX1_refine 149 = .ok (.iconst (-1), 1) := dk_2 (dk_at dksX1_refine_6 11 rfl rfl)
theorem dX1_refine_150 : decode cX1_refine 150 = .ok (.if_icmp .eq 18, 3) := dk_159 0 18 (dk_at dksX1_refine_6 12 rfl rfl)
theorem dX1_refine_153 : decode cX1_refine 153 = .ok (.iload 11, 2) := dk_21 11 (dk_at dksX1_refine_6 15 rfl rfl)
theorem dX1_refine_155 : decode cX1_refine 155 = .ok (.iload 5, 2) := dk_21 5 (dk_at dksX1_refine_6 17 rfl rfl)
theorem dX1_refine_157 : decode cX1_refine 157 = .ok (.if_icmp .ge 11, 3) := dk_162 0 11 (dk_at dksX1_refine_6 19 rfl rfl)
theorem dX1_refine_160 : decode cX1_refine 160 = .ok (.iload 10, 2) := dk_21 10 (dk_at dksX1_refine_6 22 rfl rfl)
theorem dX1_refine_162 : decode cX1_refine 162 = .ok (.istore 9, 2) := dk_54 9 (dk_at dksX1_refine_7 0 rfl rfl)
theorem dX1_refine_164 : decode cX1_refine 164 = .ok (.iload 11, 2) := dk_21 11 (dk_at dksX1_refine_7 2 rfl rfl)
theorem dX1_refine_166 : decode cX1_refine 166 = .ok (.istore 5, 2) := dk_54 5 (dk_at dksX1_refine_7 4 rfl rfl)
theorem dX1_refine_168 : decode cX1_refine 168 = .ok (.iinc 10 1, 3) := dk_132 10 1 (dk_at dksX1_refine_7 6 rfl rfl)
theorem dX1_refine_171 : decode cX1_refine 171 = .ok (.goto (-60), 3) := dk_167 255 196 (dk_at dksX1_refine_7 9 rfl rfl)
theorem dX1_refine_174 : decode cX1_refine 174 = .ok (.iload 9, 2) := dk_21 9 (dk_at dksX1_refine_7 12 rfl rfl)
theorem dX1_refine_176 : decode cX1_refine 176 = .ok (.iconst (-1), 1) := dk_2 (dk_at dksX1_refine_7 14 rfl rfl)
theorem dX1_refine_177 : decode cX1_refine 177 = .ok (.if_icmp .ne 12, 3) := dk_160 0 12 (dk_at dksX1_refine_7 15 rfl rfl)
theorem dX1_refine_180 : decode cX1_refine 180 = .ok (.iload 7, 2) := dk_21 7 (dk_at dksX1_refine_7 18 rfl rfl)
theorem dX1_refine_182 : decode cX1_refine 182 = .ok (.iconst 2, 1) := dk_5 (dk_at dksX1_refine_7 20 rfl rfl)
theorem dX1_refine_183 : decode cX1_refine 183 = .ok (.idiv, 1) := dk_108 (dk_at dksX1_refine_7 21 rfl rfl)
theorem dX1_refine_184 : decode cX1_refine 184 = .ok (.istore 7, 2) := dk_54 7 (dk_at dksX1_refine_7 22 rfl rfl)
theorem dX1_refine_186 : decode cX1_refine 186 = .ok (.goto 25, 3) := dk_167 0 25 (dk_at dksX1_refine_8 0 rfl rfl)
theorem dX1_refine_189 : decode cX1_refine 189 = .ok (.aload_n 0, 1) := dk_42 (dk_at dksX1_refine_8 3 rfl rfl)
theorem dX1_refine_190 : decode cX1_refine 190 = .ok (.aload 6, 2) := dk_25 6 (dk_at dksX1_refine_8 4 rfl rfl)
theorem dX1_refine_192 : decode cX1_refine 192 = .ok (.iload 9, 2) := dk_21 9 (dk_at dksX1_refine_8 6 rfl rfl)
theorem dX1_refine_194 : decode cX1_refine 194 = .ok (.iload 7, 2) := dk_21 7 (dk_at dksX1_refine_8 8 rfl rfl)
theorem dX1_refine_196 : decode cX1_refine 196 = .ok (.invokevirtual 375, 3) := dk_182 1 119 (dk_at dksX1_refine_8 10 rfl rfl)
theorem dX1_refine_199 : decode cX1_refine 199 = .ok (.ifCond .eq 12, 3) := dk_153 0 12 (dk_at dksX1_refine_8 13 rfl rfl)
theorem dX1_refine_202 : decode cX1_refine 202 = .ok (.aload 6, 2) := dk_25 6 (dk_at dksX1_refine_8 16 rfl rfl)
theorem dX1_refine_204 : decode cX1_refine 204 = .ok (.aload_n 0, 1) := dk_42 (dk_at dksX1_refine_8 18 rfl rfl)
theorem dX1_refine_205 : decode cX1_refine 205 = .ok (.getfield 146, 3) := dk_180 0 146 (dk_at dksX1_refine_8 19 rfl rfl)
theorem dX1_refine_208 : decode cX1_refine 208 = .ok (.invokevirtual 357, 3) := dk_182 1 101 (dk_at dksX1_refine_9 0 rfl rfl)
theorem dX1_refine_211 : decode cX1_refine 211 = .ok (.iinc 8 1, 3) := dk_132 8 1 (dk_at dksX1_refine_9 3 rfl rfl)
theorem dX1_refine_214 : decode cX1_refine 214 = .ok (.goto (-121), 3) := dk_167 255 135 (dk_at dksX1_refine_9 6 rfl rfl)
theorem dX1_refine_217 : decode cX1_refine 217 = .ok (.iload 5, 2) := dk_21 5 (dk_at dksX1_refine_9 9 rfl rfl)
theorem dX1_refine_219 : decode cX1_refine 219 = .ok (.ireturn, 1) := dk_172 (dk_at dksX1_refine_9 11 rfl rfl)
abbrev cX1_isPeriod : ByteArray := prog_1_method_13_code
def yX1_isPeriod : MethodName := ⟨RX1, "isPeriod", "(II)Z"⟩
def dkwX1_isPeriod_1 : List UInt8 := [26, 4, 160, 0, 9, 27, 5, 112, 154, 0, 7, 4, 167, 0, 4, 3, 172]
abbrev dktX1_isPeriod_1 : List UInt8 := dkwX1_isPeriod_1 ++ []
def dkwX1_isPeriod_0 : List UInt8 := [27, 133, 20, 0, 12, 20, 0, 62, 184, 0, 64, 153, 0, 28, 26, 154, 0, 9, 27, 6, 112, 154, 0, 18]
abbrev dktX1_isPeriod_0 : List UInt8 := dkwX1_isPeriod_0 ++ dktX1_isPeriod_1
theorem dksX1_isPeriod_0 : cX1_isPeriod.data.toList.drop 0 = dktX1_isPeriod_0 := by decide +kernel
theorem dksX1_isPeriod_1 : cX1_isPeriod.data.toList.drop 24 = dktX1_isPeriod_1 := dk_seg dksX1_isPeriod_0 24 rfl rfl
theorem dX1_isPeriod_0 : decode cX1_isPeriod 0 = .ok (.iload_n 1, 1) := dk_27 (dk_at dksX1_isPeriod_0 0 rfl rfl)
theorem dX1_isPeriod_1 : decode cX1_isPeriod 1 = .ok (.i2l, 1) := dk_133 (dk_at dksX1_isPeriod_0 1 rfl rfl)
theorem dX1_isPeriod_2 : decode cX1_isPeriod 2 = .ok (.ldc2_w 12, 3) := dk_20 0 12 (dk_at dksX1_isPeriod_0 2 rfl rfl)
theorem dX1_isPeriod_5 : decode cX1_isPeriod 5 = .ok (.ldc2_w 62, 3) := dk_20 0 62 (dk_at dksX1_isPeriod_0 5 rfl rfl)
theorem dX1_isPeriod_8 : decode cX1_isPeriod 8 = .ok (.invokestatic 64, 3) := dk_184 0 64 (dk_at dksX1_isPeriod_0 8 rfl rfl)
theorem dX1_isPeriod_11 : decode cX1_isPeriod 11 = .ok (.ifCond .eq 28, 3) := dk_153 0 28 (dk_at dksX1_isPeriod_0 11 rfl rfl)
theorem dX1_isPeriod_14 : decode cX1_isPeriod 14 = .ok (.iload_n 0, 1) := dk_26 (dk_at dksX1_isPeriod_0 14 rfl rfl)
theorem dX1_isPeriod_15 : decode cX1_isPeriod 15 = .ok (.ifCond .ne 9, 3) := dk_154 0 9 (dk_at dksX1_isPeriod_0 15 rfl rfl)
theorem dX1_isPeriod_18 : decode cX1_isPeriod 18 = .ok (.iload_n 1, 1) := dk_27 (dk_at dksX1_isPeriod_0 18 rfl rfl)
theorem dX1_isPeriod_19 : decode cX1_isPeriod 19 = .ok (.iconst 3, 1) := dk_6 (dk_at dksX1_isPeriod_0 19 rfl rfl)
theorem dX1_isPeriod_20 : decode cX1_isPeriod 20 = .ok (.irem, 1) := dk_112 (dk_at dksX1_isPeriod_0 20 rfl rfl)
theorem dX1_isPeriod_21 : decode cX1_isPeriod 21 = .ok (.ifCond .ne 18, 3) := dk_154 0 18 (dk_at dksX1_isPeriod_0 21 rfl rfl)
theorem dX1_isPeriod_24 : decode cX1_isPeriod 24 = .ok (.iload_n 0, 1) := dk_26 (dk_at dksX1_isPeriod_1 0 rfl rfl)
theorem dX1_isPeriod_25 : decode cX1_isPeriod 25 = .ok (.iconst 1, 1) := dk_4 (dk_at dksX1_isPeriod_1 1 rfl rfl)
theorem dX1_isPeriod_26 : decode cX1_isPeriod 26 = .ok (.if_icmp .ne 9, 3) := dk_160 0 9 (dk_at dksX1_isPeriod_1 2 rfl rfl)
theorem dX1_isPeriod_29 : decode cX1_isPeriod 29 = .ok (.iload_n 1, 1) := dk_27 (dk_at dksX1_isPeriod_1 5 rfl rfl)
theorem dX1_isPeriod_30 : decode cX1_isPeriod 30 = .ok (.iconst 2, 1) := dk_5 (dk_at dksX1_isPeriod_1 6 rfl rfl)
theorem dX1_isPeriod_31 : decode cX1_isPeriod 31 = .ok (.irem, 1) := dk_112 (dk_at dksX1_isPeriod_1 7 rfl rfl)
theorem dX1_isPeriod_32 : decode cX1_isPeriod 32 = .ok (.ifCond .ne 7, 3) := dk_154 0 7 (dk_at dksX1_isPeriod_1 8 rfl rfl)
theorem dX1_isPeriod_35 : decode cX1_isPeriod 35 = .ok (.iconst 1, 1) := dk_4 (dk_at dksX1_isPeriod_1 11 rfl rfl)
theorem dX1_isPeriod_36 : decode cX1_isPeriod 36 = .ok (.goto 4, 3) := dk_167 0 4 (dk_at dksX1_isPeriod_1 12 rfl rfl)
theorem dX1_isPeriod_39 : decode cX1_isPeriod 39 = .ok (.iconst 0, 1) := dk_3 (dk_at dksX1_isPeriod_1 15 rfl rfl)
theorem dX1_isPeriod_40 : decode cX1_isPeriod 40 = .ok (.ireturn, 1) := dk_172 (dk_at dksX1_isPeriod_1 16 rfl rfl)
abbrev cX1_errorOf : ByteArray := prog_1_method_48_code
def yX1_errorOf : MethodName := ⟨RX1, "errorOf", "(LThreeBodies$Bodies;II)I"⟩
def dkwX1_errorOf_1 : List UInt8 := [185, 1, 98, 3, 0, 167, 0, 4, 2, 172]
abbrev dktX1_errorOf_1 : List UInt8 := dkwX1_errorOf_1 ++ []
def dkwX1_errorOf_0 : List UInt8 := [42, 43, 29, 182, 1, 94, 29, 160, 0, 22, 42, 180, 0, 129, 28, 50, 42, 180, 0, 150, 29]
abbrev dktX1_errorOf_0 : List UInt8 := dkwX1_errorOf_0 ++ dktX1_errorOf_1
theorem dksX1_errorOf_0 : cX1_errorOf.data.toList.drop 0 = dktX1_errorOf_0 := by decide +kernel
theorem dksX1_errorOf_1 : cX1_errorOf.data.toList.drop 21 = dktX1_errorOf_1 := dk_seg dksX1_errorOf_0 21 rfl rfl
theorem dX1_errorOf_0 : decode cX1_errorOf 0 = .ok (.aload_n 0, 1) := dk_42 (dk_at dksX1_errorOf_0 0 rfl rfl)
theorem dX1_errorOf_1 : decode cX1_errorOf 1 = .ok (.aload_n 1, 1) := dk_43 (dk_at dksX1_errorOf_0 1 rfl rfl)
theorem dX1_errorOf_2 : decode cX1_errorOf 2 = .ok (.iload_n 3, 1) := dk_29 (dk_at dksX1_errorOf_0 2 rfl rfl)
theorem dX1_errorOf_3 : decode cX1_errorOf 3 = .ok (.invokevirtual 350, 3) := dk_182 1 94 (dk_at dksX1_errorOf_0 3 rfl rfl)
theorem dX1_errorOf_6 : decode cX1_errorOf 6 = .ok (.iload_n 3, 1) := dk_29 (dk_at dksX1_errorOf_0 6 rfl rfl)
theorem dX1_errorOf_7 : decode cX1_errorOf 7 = .ok (.if_icmp .ne 22, 3) := dk_160 0 22 (dk_at dksX1_errorOf_0 7 rfl rfl)
theorem dX1_errorOf_10 : decode cX1_errorOf 10 = .ok (.aload_n 0, 1) := dk_42 (dk_at dksX1_errorOf_0 10 rfl rfl)
theorem dX1_errorOf_11 : decode cX1_errorOf 11 = .ok (.getfield 129, 3) := dk_180 0 129 (dk_at dksX1_errorOf_0 11 rfl rfl)
theorem dX1_errorOf_14 : decode cX1_errorOf 14 = .ok (.iload_n 2, 1) := dk_28 (dk_at dksX1_errorOf_0 14 rfl rfl)
theorem dX1_errorOf_15 : decode cX1_errorOf 15 = .ok (.aaload, 1) := dk_50 (dk_at dksX1_errorOf_0 15 rfl rfl)
theorem dX1_errorOf_16 : decode cX1_errorOf 16 = .ok (.aload_n 0, 1) := dk_42 (dk_at dksX1_errorOf_0 16 rfl rfl)
theorem dX1_errorOf_17 : decode cX1_errorOf 17 = .ok (.getfield 150, 3) := dk_180 0 150 (dk_at dksX1_errorOf_0 17 rfl rfl)
theorem dX1_errorOf_20 : decode cX1_errorOf 20 = .ok (.iload_n 3, 1) := dk_29 (dk_at dksX1_errorOf_0 20 rfl rfl)
theorem dX1_errorOf_21 : decode cX1_errorOf 21 = .ok (.invokeinterface 354 3, 5) := by decide +kernel
theorem dX1_errorOf_26 : decode cX1_errorOf 26 = .ok (.goto 4, 3) := dk_167 0 4 (dk_at dksX1_errorOf_1 5 rfl rfl)
theorem dX1_errorOf_29 : decode cX1_errorOf 29 = .ok (.iconst (-1), 1) := dk_2 (dk_at dksX1_errorOf_1 8 rfl rfl)
theorem dX1_errorOf_30 : decode cX1_errorOf 30 = .ok (.ireturn, 1) := dk_172 (dk_at dksX1_errorOf_1 9 rfl rfl)
abbrev cX1_layPath : ByteArray := prog_1_method_18_code
def yX1_layPath : MethodName := ⟨RX1, "layPath", "(LThreeBodies$Bodies;I)I"⟩
def dkwX1_layPath_2 : List UInt8 := [167, 255, 232, 29, 172]
abbrev dktX1_layPath_2 : List UInt8 := dkwX1_layPath_2 ++ []
def dkwX1_layPath_1 : List UInt8 := [25, 4, 182, 0, 185, 153, 0, 22, 132, 3, 1, 42, 180, 0, 150, 29, 25, 4, 182, 0, 189, 182, 0, 176]
abbrev dktX1_layPath_1 : List UInt8 := dkwX1_layPath_1 ++ dktX1_layPath_2
def dkwX1_layPath_0 : List UInt8 := [42, 180, 0, 150, 3, 43, 182, 0, 176, 3, 62, 187, 0, 180, 89, 42, 43, 28, 183, 0, 182, 58, 4]
abbrev dktX1_layPath_0 : List UInt8 := dkwX1_layPath_0 ++ dktX1_layPath_1
theorem dksX1_layPath_0 : cX1_layPath.data.toList.drop 0 = dktX1_layPath_0 := by decide +kernel
theorem dksX1_layPath_1 : cX1_layPath.data.toList.drop 23 = dktX1_layPath_1 := dk_seg dksX1_layPath_0 23 rfl rfl
theorem dksX1_layPath_2 : cX1_layPath.data.toList.drop 47 = dktX1_layPath_2 := dk_seg dksX1_layPath_1 24 rfl rfl
theorem dX1_layPath_0 : decode cX1_layPath 0 = .ok (.aload_n 0, 1) := dk_42 (dk_at dksX1_layPath_0 0 rfl rfl)
theorem dX1_layPath_1 : decode cX1_layPath 1 = .ok (.getfield 150, 3) := dk_180 0 150 (dk_at dksX1_layPath_0 1 rfl rfl)
theorem dX1_layPath_4 : decode cX1_layPath 4 = .ok (.iconst 0, 1) := dk_3 (dk_at dksX1_layPath_0 4 rfl rfl)
theorem dX1_layPath_5 : decode cX1_layPath 5 = .ok (.aload_n 1, 1) := dk_43 (dk_at dksX1_layPath_0 5 rfl rfl)
theorem dX1_layPath_6 : decode cX1_layPath 6 = .ok (.invokevirtual 176, 3) := dk_182 0 176 (dk_at dksX1_layPath_0 6 rfl rfl)
theorem dX1_layPath_9 : decode cX1_layPath 9 = .ok (.iconst 0, 1) := dk_3 (dk_at dksX1_layPath_0 9 rfl rfl)
theorem dX1_layPath_10 : decode cX1_layPath 10 = .ok (.istore_n 3, 1) := dk_62 (dk_at dksX1_layPath_0 10 rfl rfl)
theorem dX1_layPath_11 : decode cX1_layPath 11 = .ok (.new 180, 3) := dk_187 0 180 (dk_at dksX1_layPath_0 11 rfl rfl)
theorem dX1_layPath_14 : decode cX1_layPath 14 = .ok (.dup, 1) := dk_89 (dk_at dksX1_layPath_0 14 rfl rfl)
theorem dX1_layPath_15 : decode cX1_layPath 15 = .ok (.aload_n 0, 1) := dk_42 (dk_at dksX1_layPath_0 15 rfl rfl)
theorem dX1_layPath_16 : decode cX1_layPath 16 = .ok (.aload_n 1, 1) := dk_43 (dk_at dksX1_layPath_0 16 rfl rfl)
theorem dX1_layPath_17 : decode cX1_layPath 17 = .ok (.iload_n 2, 1) := dk_28 (dk_at dksX1_layPath_0 17 rfl rfl)
theorem dX1_layPath_18 : decode cX1_layPath 18 = .ok (.invokespecial 182, 3) := dk_183 0 182 (dk_at dksX1_layPath_0 18 rfl rfl)
theorem dX1_layPath_21 : decode cX1_layPath 21 = .ok (.astore 4, 2) := dk_58 4 (dk_at dksX1_layPath_0 21 rfl rfl)
theorem dX1_layPath_23 : decode cX1_layPath 23 = .ok (.aload 4, 2) := dk_25 4 (dk_at dksX1_layPath_1 0 rfl rfl)
theorem dX1_layPath_25 : decode cX1_layPath 25 = .ok (.invokevirtual 185, 3) := dk_182 0 185 (dk_at dksX1_layPath_1 2 rfl rfl)
theorem dX1_layPath_28 : decode cX1_layPath 28 = .ok (.ifCond .eq 22, 3) := dk_153 0 22 (dk_at dksX1_layPath_1 5 rfl rfl)
theorem dX1_layPath_31 : decode cX1_layPath 31 = .ok (.iinc 3 1, 3) := dk_132 3 1 (dk_at dksX1_layPath_1 8 rfl rfl)
theorem dX1_layPath_34 : decode cX1_layPath 34 = .ok (.aload_n 0, 1) := dk_42 (dk_at dksX1_layPath_1 11 rfl rfl)
theorem dX1_layPath_35 : decode cX1_layPath 35 = .ok (.getfield 150, 3) := dk_180 0 150 (dk_at dksX1_layPath_1 12 rfl rfl)
theorem dX1_layPath_38 : decode cX1_layPath 38 = .ok (.iload_n 3, 1) := dk_29 (dk_at dksX1_layPath_1 15 rfl rfl)
theorem dX1_layPath_39 : decode cX1_layPath 39 = .ok (.aload 4, 2) := dk_25 4 (dk_at dksX1_layPath_1 16 rfl rfl)
theorem dX1_layPath_41 : decode cX1_layPath 41 = .ok (.invokevirtual 189, 3) := dk_182 0 189 (dk_at dksX1_layPath_1 18 rfl rfl)
theorem dX1_layPath_44 : decode cX1_layPath 44 = .ok (.invokevirtual 176, 3) := dk_182 0 176 (dk_at dksX1_layPath_1 21 rfl rfl)
theorem dX1_layPath_47 : decode cX1_layPath 47 = .ok (.goto (-24), 3) := dk_167 255 232 (dk_at dksX1_layPath_2 0 rfl rfl)
theorem dX1_layPath_50 : decode cX1_layPath 50 = .ok (.iload_n 3, 1) := dk_29 (dk_at dksX1_layPath_2 3 rfl rfl)
theorem dX1_layPath_51 : decode cX1_layPath 51 = .ok (.ireturn, 1) := dk_172 (dk_at dksX1_layPath_2 4 rfl rfl)
abbrev cX1_change : ByteArray := prog_1_method_49_code
def yX1_change : MethodName := ⟨RX1, "change", "(LThreeBodies$Bodies;II)Z"⟩
def dkwX1_change_4 : List UInt8 := [20, 1, 75, 20, 1, 77, 184, 0, 64, 153, 0, 7, 4, 167, 0, 4, 3, 172]
abbrev dktX1_change_4 : List UInt8 := dkwX1_change_4 ++ []
def dkwX1_change_3 : List UInt8 := [25, 4, 28, 7, 108, 47, 20, 1, 75, 20, 1, 77, 184, 0, 64, 153, 0, 23, 25, 4, 5, 47]
abbrev dktX1_change_3 : List UInt8 := dkwX1_change_3 ++ dktX1_change_4
def dkwX1_change_2 : List UInt8 := [54, 5, 25, 4, 28, 7, 108, 92, 47, 21, 5, 133, 97, 80, 25, 4, 5, 92, 47, 21, 5, 133, 101, 80]
abbrev dktX1_change_2 : List UInt8 := dkwX1_change_2 ++ dktX1_change_3
def dkwX1_change_1 : List UInt8 := [167, 0, 10, 42, 180, 0, 146, 180, 1, 3, 58, 4, 28, 5, 112, 154, 0, 7, 29, 167, 0, 5, 29, 116]
abbrev dktX1_change_1 : List UInt8 := dkwX1_change_1 ++ dktX1_change_2
def dkwX1_change_0 : List UInt8 := [42, 180, 0, 146, 43, 182, 1, 101, 28, 5, 108, 5, 112, 154, 0, 13, 42, 180, 0, 146, 180, 0, 255]
abbrev dktX1_change_0 : List UInt8 := dkwX1_change_0 ++ dktX1_change_1
theorem dksX1_change_0 : cX1_change.data.toList.drop 0 = dktX1_change_0 := by decide +kernel
theorem dksX1_change_1 : cX1_change.data.toList.drop 23 = dktX1_change_1 := dk_seg dksX1_change_0 23 rfl rfl
theorem dksX1_change_2 : cX1_change.data.toList.drop 47 = dktX1_change_2 := dk_seg dksX1_change_1 24 rfl rfl
theorem dksX1_change_3 : cX1_change.data.toList.drop 71 = dktX1_change_3 := dk_seg dksX1_change_2 24 rfl rfl
theorem dksX1_change_4 : cX1_change.data.toList.drop 93 = dktX1_change_4 := dk_seg dksX1_change_3 22 rfl rfl
theorem dX1_change_0 : decode cX1_change 0 = .ok (.aload_n 0, 1) := dk_42 (dk_at dksX1_change_0 0 rfl rfl)
theorem dX1_change_1 : decode cX1_change 1 = .ok (.getfield 146, 3) := dk_180 0 146 (dk_at dksX1_change_0 1 rfl rfl)
theorem dX1_change_4 : decode cX1_change 4 = .ok (.aload_n 1, 1) := dk_43 (dk_at dksX1_change_0 4 rfl rfl)
theorem dX1_change_5 : decode cX1_change 5 = .ok (.invokevirtual 357, 3) := dk_182 1 101 (dk_at dksX1_change_0 5 rfl rfl)
theorem dX1_change_8 : decode cX1_change 8 = .ok (.iload_n 2, 1) := dk_28 (dk_at dksX1_change_0 8 rfl rfl)
theorem dX1_change_9 : decode cX1_change 9 = .ok (.iconst 2, 1) := dk_5 (dk_at dksX1_change_0 9 rfl rfl)
theorem dX1_change_10 : decode cX1_change 10 = .ok (.idiv, 1) := dk_108 (dk_at dksX1_change_0 10 rfl rfl)
theorem dX1_change_11 : decode cX1_change 11 = .ok (.iconst 2, 1) := dk_5 (dk_at dksX1_change_0 11 rfl rfl)
theorem dX1_change_12 : decode cX1_change 12 = .ok (.irem, 1) := dk_112 (dk_at dksX1_change_0 12 rfl rfl)
theorem dX1_change_13 : decode cX1_change 13 = .ok (.ifCond .ne 13, 3) := dk_154 0 13 (dk_at dksX1_change_0 13 rfl rfl)
theorem dX1_change_16 : decode cX1_change 16 = .ok (.aload_n 0, 1) := dk_42 (dk_at dksX1_change_0 16 rfl rfl)
theorem dX1_change_17 : decode cX1_change 17 = .ok (.getfield 146, 3) := dk_180 0 146 (dk_at dksX1_change_0 17 rfl rfl)
theorem dX1_change_20 : decode cX1_change 20 = .ok (.getfield 255, 3) := dk_180 0 255 (dk_at dksX1_change_0 20 rfl rfl)
theorem dX1_change_23 : decode cX1_change 23 = .ok (.goto 10, 3) := dk_167 0 10 (dk_at dksX1_change_1 0 rfl rfl)
theorem dX1_change_26 : decode cX1_change 26 = .ok (.aload_n 0, 1) := dk_42 (dk_at dksX1_change_1 3 rfl rfl)
theorem dX1_change_27 : decode cX1_change 27 = .ok (.getfield 146, 3) := dk_180 0 146 (dk_at dksX1_change_1 4 rfl rfl)
theorem dX1_change_30 : decode cX1_change 30 = .ok (.getfield 259, 3) := dk_180 1 3 (dk_at dksX1_change_1 7 rfl rfl)
theorem dX1_change_33 : decode cX1_change 33 = .ok (.astore 4, 2) := dk_58 4 (dk_at dksX1_change_1 10 rfl rfl)
theorem dX1_change_35 : decode cX1_change 35 = .ok (.iload_n 2, 1) := dk_28 (dk_at dksX1_change_1 12 rfl rfl)
theorem dX1_change_36 : decode cX1_change 36 = .ok (.iconst 2, 1) := dk_5 (dk_at dksX1_change_1 13 rfl rfl)
theorem dX1_change_37 : decode cX1_change 37 = .ok (.irem, 1) := dk_112 (dk_at dksX1_change_1 14 rfl rfl)
theorem dX1_change_38 : decode cX1_change 38 = .ok (.ifCond .ne 7, 3) := dk_154 0 7 (dk_at dksX1_change_1 15 rfl rfl)
theorem dX1_change_41 : decode cX1_change 41 = .ok (.iload_n 3, 1) := dk_29 (dk_at dksX1_change_1 18 rfl rfl)
theorem dX1_change_42 : decode cX1_change 42 = .ok (.goto 5, 3) := dk_167 0 5 (dk_at dksX1_change_1 19 rfl rfl)
theorem dX1_change_45 : decode cX1_change 45 = .ok (.iload_n 3, 1) := dk_29 (dk_at dksX1_change_1 22 rfl rfl)
theorem dX1_change_46 : decode cX1_change 46 = .ok (.ineg, 1) := dk_116 (dk_at dksX1_change_1 23 rfl rfl)
theorem dX1_change_47 : decode cX1_change 47 = .ok (.istore 5, 2) := dk_54 5 (dk_at dksX1_change_2 0 rfl rfl)
theorem dX1_change_49 : decode cX1_change 49 = .ok (.aload 4, 2) := dk_25 4 (dk_at dksX1_change_2 2 rfl rfl)
theorem dX1_change_51 : decode cX1_change 51 = .ok (.iload_n 2, 1) := dk_28 (dk_at dksX1_change_2 4 rfl rfl)
theorem dX1_change_52 : decode cX1_change 52 = .ok (.iconst 4, 1) := dk_7 (dk_at dksX1_change_2 5 rfl rfl)
theorem dX1_change_53 : decode cX1_change 53 = .ok (.idiv, 1) := dk_108 (dk_at dksX1_change_2 6 rfl rfl)
theorem dX1_change_54 : decode cX1_change 54 = .ok (.dup2, 1) := dk_92 (dk_at dksX1_change_2 7 rfl rfl)
theorem dX1_change_55 : decode cX1_change 55 = .ok (.laload, 1) := dk_47 (dk_at dksX1_change_2 8 rfl rfl)
theorem dX1_change_56 : decode cX1_change 56 = .ok (.iload 5, 2) := dk_21 5 (dk_at dksX1_change_2 9 rfl rfl)
theorem dX1_change_58 : decode cX1_change 58 = .ok (.i2l, 1) := dk_133 (dk_at dksX1_change_2 11 rfl rfl)
theorem dX1_change_59 : decode cX1_change 59 = .ok (.ladd, 1) := dk_97 (dk_at dksX1_change_2 12 rfl rfl)
theorem dX1_change_60 : decode cX1_change 60 = .ok (.lastore, 1) := dk_80 (dk_at dksX1_change_2 13 rfl rfl)
theorem dX1_change_61 : decode cX1_change 61 = .ok (.aload 4, 2) := dk_25 4 (dk_at dksX1_change_2 14 rfl rfl)
theorem dX1_change_63 : decode cX1_change 63 = .ok (.iconst 2, 1) := dk_5 (dk_at dksX1_change_2 16 rfl rfl)
theorem dX1_change_64 : decode cX1_change 64 = .ok (.dup2, 1) := dk_92 (dk_at dksX1_change_2 17 rfl rfl)
theorem dX1_change_65 : decode cX1_change 65 = .ok (.laload, 1) := dk_47 (dk_at dksX1_change_2 18 rfl rfl)
theorem dX1_change_66 : decode cX1_change 66 = .ok (.iload 5, 2) := dk_21 5 (dk_at dksX1_change_2 19 rfl rfl)
theorem dX1_change_68 : decode cX1_change 68 = .ok (.i2l, 1) := dk_133 (dk_at dksX1_change_2 21 rfl rfl)
theorem dX1_change_69 : decode cX1_change 69 = .ok (.lsub, 1) := dk_101 (dk_at dksX1_change_2 22 rfl rfl)
theorem dX1_change_70 : decode cX1_change 70 = .ok (.lastore, 1) := dk_80 (dk_at dksX1_change_2 23 rfl rfl)
theorem dX1_change_71 : decode cX1_change 71 = .ok (.aload 4, 2) := dk_25 4 (dk_at dksX1_change_3 0 rfl rfl)
theorem dX1_change_73 : decode cX1_change 73 = .ok (.iload_n 2, 1) := dk_28 (dk_at dksX1_change_3 2 rfl rfl)
theorem dX1_change_74 : decode cX1_change 74 = .ok (.iconst 4, 1) := dk_7 (dk_at dksX1_change_3 3 rfl rfl)
theorem dX1_change_75 : decode cX1_change 75 = .ok (.idiv, 1) := dk_108 (dk_at dksX1_change_3 4 rfl rfl)
theorem dX1_change_76 : decode cX1_change 76 = .ok (.laload, 1) := dk_47 (dk_at dksX1_change_3 5 rfl rfl)
theorem dX1_change_77 : decode cX1_change 77 = .ok (.ldc2_w 331, 3) := dk_20 1 75 (dk_at dksX1_change_3 6 rfl rfl)
theorem dX1_change_80 : decode cX1_change 80 = .ok (.ldc2_w 333, 3) := dk_20 1 77 (dk_at dksX1_change_3 9 rfl rfl)
theorem dX1_change_83 : decode cX1_change 83 = .ok (.invokestatic 64, 3) := dk_184 0 64 (dk_at dksX1_change_3 12 rfl rfl)
theorem dX1_change_86 : decode cX1_change 86 = .ok (.ifCond .eq 23, 3) := dk_153 0 23 (dk_at dksX1_change_3 15 rfl rfl)
theorem dX1_change_89 : decode cX1_change 89 = .ok (.aload 4, 2) := dk_25 4 (dk_at dksX1_change_3 18 rfl rfl)
theorem dX1_change_91 : decode cX1_change 91 = .ok (.iconst 2, 1) := dk_5 (dk_at dksX1_change_3 20 rfl rfl)
theorem dX1_change_92 : decode cX1_change 92 = .ok (.laload, 1) := dk_47 (dk_at dksX1_change_3 21 rfl rfl)
theorem dX1_change_93 : decode cX1_change 93 = .ok (.ldc2_w 331, 3) := dk_20 1 75 (dk_at dksX1_change_4 0 rfl rfl)
theorem dX1_change_96 : decode cX1_change 96 = .ok (.ldc2_w 333, 3) := dk_20 1 77 (dk_at dksX1_change_4 3 rfl rfl)
theorem dX1_change_99 : decode cX1_change 99 = .ok (.invokestatic 64, 3) := dk_184 0 64 (dk_at dksX1_change_4 6 rfl rfl)
theorem dX1_change_102 : decode cX1_change 102 = .ok (.ifCond .eq 7, 3) := dk_153 0 7 (dk_at dksX1_change_4 9 rfl rfl)
theorem dX1_change_105 : decode cX1_change 105 = .ok (.iconst 1, 1) := dk_4 (dk_at dksX1_change_4 12 rfl rfl)
theorem dX1_change_106 : decode cX1_change 106 = .ok (.goto 4, 3) := dk_167 0 4 (dk_at dksX1_change_4 13 rfl rfl)
theorem dX1_change_109 : decode cX1_change 109 = .ok (.iconst 0, 1) := dk_3 (dk_at dksX1_change_4 16 rfl rfl)
theorem dX1_change_110 : decode cX1_change 110 = .ok (.ireturn, 1) := dk_172 (dk_at dksX1_change_4 17 rfl rfl)
abbrev cX1_possible : ByteArray := prog_1_method_51_code
def yX1_possible : MethodName := ⟨RX1, "possible", "(I)I"⟩
def dkwX1_possible_3 : List UInt8 := [3, 96, 61, 167, 255, 213, 28, 172]
abbrev dktX1_possible_3 : List UInt8 := dkwX1_possible_3 ++ []
def dkwX1_possible_2 : List UInt8 := [180, 0, 241, 42, 180, 0, 107, 180, 0, 238, 180, 0, 241, 28, 96, 4, 96, 160, 0, 7, 4, 167, 0, 4]
abbrev dktX1_possible_2 : List UInt8 := dkwX1_possible_2 ++ dktX1_possible_3
def dkwX1_possible_1 : List UInt8 := [180, 0, 238, 27, 183, 0, 182, 78, 45, 182, 0, 185, 153, 0, 42, 45, 182, 0, 189, 58, 4, 28, 25, 4]
abbrev dktX1_possible_1 : List UInt8 := dkwX1_possible_1 ++ dktX1_possible_2
def dkwX1_possible_0 : List UInt8 := [27, 133, 9, 20, 1, 61, 184, 0, 64, 184, 0, 200, 3, 61, 187, 0, 180, 89, 42, 42, 180, 0, 107]
abbrev dktX1_possible_0 : List UInt8 := dkwX1_possible_0 ++ dktX1_possible_1
theorem dksX1_possible_0 : cX1_possible.data.toList.drop 0 = dktX1_possible_0 := by decide +kernel
theorem dksX1_possible_1 : cX1_possible.data.toList.drop 23 = dktX1_possible_1 := dk_seg dksX1_possible_0 23 rfl rfl
theorem dksX1_possible_2 : cX1_possible.data.toList.drop 47 = dktX1_possible_2 := dk_seg dksX1_possible_1 24 rfl rfl
theorem dksX1_possible_3 : cX1_possible.data.toList.drop 71 = dktX1_possible_3 := dk_seg dksX1_possible_2 24 rfl rfl
theorem dX1_possible_0 : decode cX1_possible 0 = .ok (.iload_n 1, 1) := dk_27 (dk_at dksX1_possible_0 0 rfl rfl)
theorem dX1_possible_1 : decode cX1_possible 1 = .ok (.i2l, 1) := dk_133 (dk_at dksX1_possible_0 1 rfl rfl)
theorem dX1_possible_2 : decode cX1_possible 2 = .ok (.lconst 0, 1) := dk_9 (dk_at dksX1_possible_0 2 rfl rfl)
theorem dX1_possible_3 : decode cX1_possible 3 = .ok (.ldc2_w 317, 3) := dk_20 1 61 (dk_at dksX1_possible_0 3 rfl rfl)
theorem dX1_possible_6 : decode cX1_possible 6 = .ok (.invokestatic 64, 3) := dk_184 0 64 (dk_at dksX1_possible_0 6 rfl rfl)
theorem dX1_possible_9 : decode cX1_possible 9 = .ok (.invokestatic 200, 3) := dk_184 0 200 (dk_at dksX1_possible_0 9 rfl rfl)
theorem dX1_possible_12 : decode cX1_possible 12 = .ok (.iconst 0, 1) := dk_3 (dk_at dksX1_possible_0 12 rfl rfl)
theorem dX1_possible_13 : decode cX1_possible 13 = .ok (.istore_n 2, 1) := dk_61 (dk_at dksX1_possible_0 13 rfl rfl)
theorem dX1_possible_14 : decode cX1_possible 14 = .ok (.new 180, 3) := dk_187 0 180 (dk_at dksX1_possible_0 14 rfl rfl)
theorem dX1_possible_17 : decode cX1_possible 17 = .ok (.dup, 1) := dk_89 (dk_at dksX1_possible_0 17 rfl rfl)
theorem dX1_possible_18 : decode cX1_possible 18 = .ok (.aload_n 0, 1) := dk_42 (dk_at dksX1_possible_0 18 rfl rfl)
theorem dX1_possible_19 : decode cX1_possible 19 = .ok (.aload_n 0, 1) := dk_42 (dk_at dksX1_possible_0 19 rfl rfl)
theorem dX1_possible_20 : decode cX1_possible 20 = .ok (.getfield 107, 3) := dk_180 0 107 (dk_at dksX1_possible_0 20 rfl rfl)
theorem dX1_possible_23 : decode cX1_possible 23 = .ok (.getfield 238, 3) := dk_180 0 238 (dk_at dksX1_possible_1 0 rfl rfl)
theorem dX1_possible_26 : decode cX1_possible 26 = .ok (.iload_n 1, 1) := dk_27 (dk_at dksX1_possible_1 3 rfl rfl)
theorem dX1_possible_27 : decode cX1_possible 27 = .ok (.invokespecial 182, 3) := dk_183 0 182 (dk_at dksX1_possible_1 4 rfl rfl)
theorem dX1_possible_30 : decode cX1_possible 30 = .ok (.astore_n 3, 1) := dk_78 (dk_at dksX1_possible_1 7 rfl rfl)
theorem dX1_possible_31 : decode cX1_possible 31 = .ok (.aload_n 3, 1) := dk_45 (dk_at dksX1_possible_1 8 rfl rfl)
theorem dX1_possible_32 : decode cX1_possible 32 = .ok (.invokevirtual 185, 3) := dk_182 0 185 (dk_at dksX1_possible_1 9 rfl rfl)
theorem dX1_possible_35 : decode cX1_possible 35 = .ok (.ifCond .eq 42, 3) := dk_153 0 42 (dk_at dksX1_possible_1 12 rfl rfl)
theorem dX1_possible_38 : decode cX1_possible 38 = .ok (.aload_n 3, 1) := dk_45 (dk_at dksX1_possible_1 15 rfl rfl)
theorem dX1_possible_39 : decode cX1_possible 39 = .ok (.invokevirtual 189, 3) := dk_182 0 189 (dk_at dksX1_possible_1 16 rfl rfl)
theorem dX1_possible_42 : decode cX1_possible 42 = .ok (.astore 4, 2) := dk_58 4 (dk_at dksX1_possible_1 19 rfl rfl)
theorem dX1_possible_44 : decode cX1_possible 44 = .ok (.iload_n 2, 1) := dk_28 (dk_at dksX1_possible_1 21 rfl rfl)
theorem dX1_possible_45 : decode cX1_possible 45 = .ok (.aload 4, 2) := dk_25 4 (dk_at dksX1_possible_1 22 rfl rfl)
theorem dX1_possible_47 : decode cX1_possible 47 = .ok (.getfield 241, 3) := dk_180 0 241 (dk_at dksX1_possible_2 0 rfl rfl)
theorem dX1_possible_50 : decode cX1_possible 50 = .ok (.aload_n 0, 1) := dk_42 (dk_at dksX1_possible_2 3 rfl rfl)
theorem dX1_possible_51 : decode cX1_possible 51 = .ok (.getfield 107, 3) := dk_180 0 107 (dk_at dksX1_possible_2 4 rfl rfl)
theorem dX1_possible_54 : decode cX1_possible 54 = .ok (.getfield 238, 3) := dk_180 0 238 (dk_at dksX1_possible_2 7 rfl rfl)
theorem dX1_possible_57 : decode cX1_possible 57 = .ok (.getfield 241, 3) := dk_180 0 241 (dk_at dksX1_possible_2 10 rfl rfl)
theorem dX1_possible_60 : decode cX1_possible 60 = .ok (.iload_n 2, 1) := dk_28 (dk_at dksX1_possible_2 13 rfl rfl)
theorem dX1_possible_61 : decode cX1_possible 61 = .ok (.iadd, 1) := dk_96 (dk_at dksX1_possible_2 14 rfl rfl)
theorem dX1_possible_62 : decode cX1_possible 62 = .ok (.iconst 1, 1) := dk_4 (dk_at dksX1_possible_2 15 rfl rfl)
theorem dX1_possible_63 : decode cX1_possible 63 = .ok (.iadd, 1) := dk_96 (dk_at dksX1_possible_2 16 rfl rfl)
theorem dX1_possible_64 : decode cX1_possible 64 = .ok (.if_icmp .ne 7, 3) := dk_160 0 7 (dk_at dksX1_possible_2 17 rfl rfl)
theorem dX1_possible_67 : decode cX1_possible 67 = .ok (.iconst 1, 1) := dk_4 (dk_at dksX1_possible_2 20 rfl rfl)
theorem dX1_possible_68 : decode cX1_possible 68 = .ok (.goto 4, 3) := dk_167 0 4 (dk_at dksX1_possible_2 21 rfl rfl)
theorem dX1_possible_71 : decode cX1_possible 71 = .ok (.iconst 0, 1) := dk_3 (dk_at dksX1_possible_3 0 rfl rfl)
theorem dX1_possible_72 : decode cX1_possible 72 = .ok (.iadd, 1) := dk_96 (dk_at dksX1_possible_3 1 rfl rfl)
theorem dX1_possible_73 : decode cX1_possible 73 = .ok (.istore_n 2, 1) := dk_61 (dk_at dksX1_possible_3 2 rfl rfl)
theorem dX1_possible_74 : decode cX1_possible 74 = .ok (.goto (-43), 3) := dk_167 255 213 (dk_at dksX1_possible_3 3 rfl rfl)
theorem dX1_possible_77 : decode cX1_possible 77 = .ok (.iload_n 2, 1) := dk_28 (dk_at dksX1_possible_3 6 rfl rfl)
theorem dX1_possible_78 : decode cX1_possible 78 = .ok (.ireturn, 1) := dk_172 (dk_at dksX1_possible_3 7 rfl rfl)
abbrev cX1_error : ByteArray := prog_1_method_52_code
def yX1_error : MethodName := ⟨RX1, "error", "(II)I"⟩
def dkwX1_error_1 : List UInt8 := [3, 184, 0, 200, 42, 42, 180, 0, 107, 180, 0, 238, 27, 28, 182, 1, 115, 172]
abbrev dktX1_error_1 : List UInt8 := dkwX1_error_1 ++ []
def dkwX1_error_0 : List UInt8 := [27, 133, 9, 20, 1, 105, 184, 0, 64, 153, 0, 15, 27, 28, 184, 1, 107, 153, 0, 7, 4, 167, 0, 4]
abbrev dktX1_error_0 : List UInt8 := dkwX1_error_0 ++ dktX1_error_1
theorem dksX1_error_0 : cX1_error.data.toList.drop 0 = dktX1_error_0 := by decide +kernel
theorem dksX1_error_1 : cX1_error.data.toList.drop 24 = dktX1_error_1 := dk_seg dksX1_error_0 24 rfl rfl
theorem dX1_error_0 : decode cX1_error 0 = .ok (.iload_n 1, 1) := dk_27 (dk_at dksX1_error_0 0 rfl rfl)
theorem dX1_error_1 : decode cX1_error 1 = .ok (.i2l, 1) := dk_133 (dk_at dksX1_error_0 1 rfl rfl)
theorem dX1_error_2 : decode cX1_error 2 = .ok (.lconst 0, 1) := dk_9 (dk_at dksX1_error_0 2 rfl rfl)
theorem dX1_error_3 : decode cX1_error 3 = .ok (.ldc2_w 361, 3) := dk_20 1 105 (dk_at dksX1_error_0 3 rfl rfl)
theorem dX1_error_6 : decode cX1_error 6 = .ok (.invokestatic 64, 3) := dk_184 0 64 (dk_at dksX1_error_0 6 rfl rfl)
theorem dX1_error_9 : decode cX1_error 9 = .ok (.ifCond .eq 15, 3) := dk_153 0 15 (dk_at dksX1_error_0 9 rfl rfl)
theorem dX1_error_12 : decode cX1_error 12 = .ok (.iload_n 1, 1) := dk_27 (dk_at dksX1_error_0 12 rfl rfl)
theorem dX1_error_13 : decode cX1_error 13 = .ok (.iload_n 2, 1) := dk_28 (dk_at dksX1_error_0 13 rfl rfl)
theorem dX1_error_14 : decode cX1_error 14 = .ok (.invokestatic 363, 3) := dk_184 1 107 (dk_at dksX1_error_0 14 rfl rfl)
theorem dX1_error_17 : decode cX1_error 17 = .ok (.ifCond .eq 7, 3) := dk_153 0 7 (dk_at dksX1_error_0 17 rfl rfl)
theorem dX1_error_20 : decode cX1_error 20 = .ok (.iconst 1, 1) := dk_4 (dk_at dksX1_error_0 20 rfl rfl)
theorem dX1_error_21 : decode cX1_error 21 = .ok (.goto 4, 3) := dk_167 0 4 (dk_at dksX1_error_0 21 rfl rfl)
theorem dX1_error_24 : decode cX1_error 24 = .ok (.iconst 0, 1) := dk_3 (dk_at dksX1_error_1 0 rfl rfl)
theorem dX1_error_25 : decode cX1_error 25 = .ok (.invokestatic 200, 3) := dk_184 0 200 (dk_at dksX1_error_1 1 rfl rfl)
theorem dX1_error_28 : decode cX1_error 28 = .ok (.aload_n 0, 1) := dk_42 (dk_at dksX1_error_1 4 rfl rfl)
theorem dX1_error_29 : decode cX1_error 29 = .ok (.aload_n 0, 1) := dk_42 (dk_at dksX1_error_1 5 rfl rfl)
theorem dX1_error_30 : decode cX1_error 30 = .ok (.getfield 107, 3) := dk_180 0 107 (dk_at dksX1_error_1 6 rfl rfl)
theorem dX1_error_33 : decode cX1_error 33 = .ok (.getfield 238, 3) := dk_180 0 238 (dk_at dksX1_error_1 9 rfl rfl)
theorem dX1_error_36 : decode cX1_error 36 = .ok (.iload_n 1, 1) := dk_27 (dk_at dksX1_error_1 12 rfl rfl)
theorem dX1_error_37 : decode cX1_error 37 = .ok (.iload_n 2, 1) := dk_28 (dk_at dksX1_error_1 13 rfl rfl)
theorem dX1_error_38 : decode cX1_error 38 = .ok (.invokevirtual 371, 3) := dk_182 1 115 (dk_at dksX1_error_1 14 rfl rfl)
theorem dX1_error_41 : decode cX1_error 41 = .ok (.ireturn, 1) := dk_172 (dk_at dksX1_error_1 17 rfl rfl)
abbrev cX1_bestPeriod : ByteArray := prog_1_method_53_code
def yX1_bestPeriod : MethodName := ⟨RX1, "bestPeriod", "(II)I"⟩
def dkwX1_bestPeriod_5 : List UInt8 := [21, 7, 54, 5, 132, 6, 1, 167, 255, 188, 21, 4, 172]
abbrev dktX1_bestPeriod_5 : List UInt8 := dkwX1_bestPeriod_5 ++ []
def dkwX1_bestPeriod_4 : List UInt8 := [21, 7, 2, 159, 0, 24, 21, 4, 2, 159, 0, 10, 21, 7, 21, 5, 162, 0, 11, 21, 6, 54, 4]
abbrev dktX1_bestPeriod_4 : List UInt8 := dkwX1_bestPeriod_4 ++ dktX1_bestPeriod_5
def dkwX1_bestPeriod_3 : List UInt8 := [42, 180, 0, 129, 27, 50, 42, 180, 0, 150, 21, 6, 185, 1, 98, 3, 0, 167, 0, 4, 2, 54, 7]
abbrev dktX1_bestPeriod_3 : List UInt8 := dkwX1_bestPeriod_3 ++ dktX1_bestPeriod_4
def dkwX1_bestPeriod_2 : List UInt8 := [2, 54, 4, 3, 54, 5, 5, 54, 6, 21, 6, 29, 163, 0, 68, 27, 21, 6, 184, 1, 107, 153, 0, 23]
abbrev dktX1_bestPeriod_2 : List UInt8 := dkwX1_bestPeriod_2 ++ dktX1_bestPeriod_3
def dkwX1_bestPeriod_1 : List UInt8 := [153, 0, 7, 4, 167, 0, 4, 3, 184, 0, 200, 42, 42, 180, 0, 107, 180, 0, 238, 28, 182, 1, 94, 62]
abbrev dktX1_bestPeriod_1 : List UInt8 := dkwX1_bestPeriod_1 ++ dktX1_bestPeriod_2
def dkwX1_bestPeriod_0 : List UInt8 := [27, 133, 9, 20, 1, 105, 184, 0, 64, 153, 0, 21, 28, 133, 20, 0, 12, 20, 0, 62, 184, 0, 64]
abbrev dktX1_bestPeriod_0 : List UInt8 := dkwX1_bestPeriod_0 ++ dktX1_bestPeriod_1
theorem dksX1_bestPeriod_0 : cX1_bestPeriod.data.toList.drop 0 = dktX1_bestPeriod_0 := by decide +kernel
theorem dksX1_bestPeriod_1 : cX1_bestPeriod.data.toList.drop 23 = dktX1_bestPeriod_1 := dk_seg dksX1_bestPeriod_0 23 rfl rfl
theorem dksX1_bestPeriod_2 : cX1_bestPeriod.data.toList.drop 47 = dktX1_bestPeriod_2 := dk_seg dksX1_bestPeriod_1 24 rfl rfl
theorem dksX1_bestPeriod_3 : cX1_bestPeriod.data.toList.drop 71 = dktX1_bestPeriod_3 := dk_seg dksX1_bestPeriod_2 24 rfl rfl
theorem dksX1_bestPeriod_4 : cX1_bestPeriod.data.toList.drop 94 = dktX1_bestPeriod_4 := dk_seg dksX1_bestPeriod_3 23 rfl rfl
theorem dksX1_bestPeriod_5 : cX1_bestPeriod.data.toList.drop 117 = dktX1_bestPeriod_5 := dk_seg dksX1_bestPeriod_4 23 rfl rfl
theorem dX1_bestPeriod_0 : decode cX1_bestPeriod 0 = .ok (.iload_n 1, 1) := dk_27 (dk_at dksX1_bestPeriod_0 0 rfl rfl)
theorem dX1_bestPeriod_1 : decode cX1_bestPeriod 1 = .ok (.i2l, 1) := dk_133 (dk_at dksX1_bestPeriod_0 1 rfl rfl)
theorem dX1_bestPeriod_2 : decode cX1_bestPeriod 2 = .ok (.lconst 0, 1) := dk_9 (dk_at dksX1_bestPeriod_0 2 rfl rfl)
theorem dX1_bestPeriod_3 : decode cX1_bestPeriod 3 = .ok (.ldc2_w 361, 3) := dk_20 1 105 (dk_at dksX1_bestPeriod_0 3 rfl rfl)
theorem dX1_bestPeriod_6 : decode cX1_bestPeriod 6 = .ok (.invokestatic 64, 3) := dk_184 0 64 (dk_at dksX1_bestPeriod_0 6 rfl rfl)
theorem dX1_bestPeriod_9 : decode cX1_bestPeriod 9 = .ok (.ifCond .eq 21, 3) := dk_153 0 21 (dk_at dksX1_bestPeriod_0 9 rfl rfl)
theorem dX1_bestPeriod_12 : decode cX1_bestPeriod 12 = .ok (.iload_n 2, 1) := dk_28 (dk_at dksX1_bestPeriod_0 12 rfl rfl)
theorem dX1_bestPeriod_13 : decode cX1_bestPeriod 13 = .ok (.i2l, 1) := dk_133 (dk_at dksX1_bestPeriod_0 13 rfl rfl)
theorem dX1_bestPeriod_14 : decode cX1_bestPeriod 14 = .ok (.ldc2_w 12, 3) := dk_20 0 12 (dk_at dksX1_bestPeriod_0 14 rfl rfl)
theorem dX1_bestPeriod_17 : decode cX1_bestPeriod 17 = .ok (.ldc2_w 62, 3) := dk_20 0 62 (dk_at dksX1_bestPeriod_0 17 rfl rfl)
theorem dX1_bestPeriod_20 : decode cX1_bestPeriod 20 = .ok (.invokestatic 64, 3) := dk_184 0 64 (dk_at dksX1_bestPeriod_0 20 rfl rfl)
theorem dX1_bestPeriod_23 : decode cX1_bestPeriod 23 = .ok (.ifCond .eq 7, 3) := dk_153 0 7 (dk_at dksX1_bestPeriod_1 0 rfl rfl)
theorem dX1_bestPeriod_26 : decode cX1_bestPeriod 26 = .ok (.iconst 1, 1) := dk_4 (dk_at dksX1_bestPeriod_1 3 rfl rfl)
theorem dX1_bestPeriod_27 : decode cX1_bestPeriod 27 = .ok (.goto 4, 3) := dk_167 0 4 (dk_at dksX1_bestPeriod_1 4 rfl rfl)
theorem dX1_bestPeriod_30 : decode cX1_bestPeriod 30 = .ok (.iconst 0, 1) := dk_3 (dk_at dksX1_bestPeriod_1 7 rfl rfl)
theorem dX1_bestPeriod_31 : decode cX1_bestPeriod 31 = .ok (.invokestatic 200, 3) := dk_184 0 200 (dk_at dksX1_bestPeriod_1 8 rfl rfl)
theorem dX1_bestPeriod_34 : decode cX1_bestPeriod 34 = .ok (.aload_n 0, 1) := dk_42 (dk_at dksX1_bestPeriod_1 11 rfl rfl)
theorem dX1_bestPeriod_35 : decode cX1_bestPeriod 35 = .ok (.aload_n 0, 1) := dk_42 (dk_at dksX1_bestPeriod_1 12 rfl rfl)
theorem dX1_bestPeriod_36 : decode cX1_bestPeriod 36 = .ok (.getfield 107, 3) := dk_180 0 107 (dk_at dksX1_bestPeriod_1 13 rfl rfl)
theorem dX1_bestPeriod_39 : decode cX1_bestPeriod 39 = .ok (.getfield 238, 3) := dk_180 0 238 (dk_at dksX1_bestPeriod_1 16 rfl rfl)
theorem dX1_bestPeriod_42 : decode cX1_bestPeriod 42 = .ok (.iload_n 2, 1) := dk_28 (dk_at dksX1_bestPeriod_1 19 rfl rfl)
theorem dX1_bestPeriod_43 : decode cX1_bestPeriod 43 = .ok (.invokevirtual 350, 3) := dk_182 1 94 (dk_at dksX1_bestPeriod_1 20 rfl rfl)
theorem dX1_bestPeriod_46 : decode cX1_bestPeriod 46 = .ok (.istore_n 3, 1) := dk_62 (dk_at dksX1_bestPeriod_1 23 rfl rfl)
theorem dX1_bestPeriod_47 : decode cX1_bestPeriod 47 = .ok (.iconst (-1), 1) := dk_2 (dk_at dksX1_bestPeriod_2 0 rfl rfl)
theorem dX1_bestPeriod_48 : decode cX1_bestPeriod 48 = .ok (.istore 4, 2) := dk_54 4 (dk_at dksX1_bestPeriod_2 1 rfl rfl)
theorem dX1_bestPeriod_50 : decode cX1_bestPeriod 50 = .ok (.iconst 0, 1) := dk_3 (dk_at dksX1_bestPeriod_2 3 rfl rfl)
theorem dX1_bestPeriod_51 : decode cX1_bestPeriod 51 = .ok (.istore 5, 2) := dk_54 5 (dk_at dksX1_bestPeriod_2 4 rfl rfl)
theorem dX1_bestPeriod_53 : decode cX1_bestPeriod 53 = .ok (.iconst 2, 1) := dk_5 (dk_at dksX1_bestPeriod_2 6 rfl rfl)
theorem dX1_bestPeriod_54 : decode cX1_bestPeriod 54 = .ok (.istore 6, 2) := dk_54 6 (dk_at dksX1_bestPeriod_2 7 rfl rfl)
theorem dX1_bestPeriod_56 : decode cX1_bestPeriod 56 = .ok (.iload 6, 2) := dk_21 6 (dk_at dksX1_bestPeriod_2 9 rfl rfl)
theorem dX1_bestPeriod_58 : decode cX1_bestPeriod 58 = .ok (.iload_n 3, 1) := dk_29 (dk_at dksX1_bestPeriod_2 11 rfl rfl)
theorem dX1_bestPeriod_59 : decode cX1_bestPeriod 59 = .ok (.if_icmp .gt 68, 3) := dk_163 0 68 (dk_at dksX1_bestPeriod_2 12 rfl rfl)
theorem dX1_bestPeriod_62 : decode cX1_bestPeriod 62 = .ok (.iload_n 1, 1) := dk_27 (dk_at dksX1_bestPeriod_2 15 rfl rfl)
theorem dX1_bestPeriod_63 : decode cX1_bestPeriod 63 = .ok (.iload 6, 2) := dk_21 6 (dk_at dksX1_bestPeriod_2 16 rfl rfl)
theorem dX1_bestPeriod_65 : decode cX1_bestPeriod 65 = .ok (.invokestatic 363, 3) := dk_184 1 107 (dk_at dksX1_bestPeriod_2 18 rfl rfl)
theorem dX1_bestPeriod_68 : decode cX1_bestPeriod 68 = .ok (.ifCond .eq 23, 3) := dk_153 0 23 (dk_at dksX1_bestPeriod_2 21 rfl rfl)
theorem dX1_bestPeriod_71 : decode cX1_bestPeriod 71 = .ok (.aload_n 0, 1) := dk_42 (dk_at dksX1_bestPeriod_3 0 rfl rfl)
theorem dX1_bestPeriod_72 : decode cX1_bestPeriod 72 = .ok (.getfield 129, 3) := dk_180 0 129 (dk_at dksX1_bestPeriod_3 1 rfl rfl)
theorem dX1_bestPeriod_75 : decode cX1_bestPeriod 75 = .ok (.iload_n 1, 1) := dk_27 (dk_at dksX1_bestPeriod_3 4 rfl rfl)
theorem dX1_bestPeriod_76 : decode cX1_bestPeriod 76 = .ok (.aaload, 1) := dk_50 (dk_at dksX1_bestPeriod_3 5 rfl rfl)
theorem dX1_bestPeriod_77 : decode cX1_bestPeriod 77 = .ok (.aload_n 0, 1) := dk_42 (dk_at dksX1_bestPeriod_3 6 rfl rfl)
theorem dX1_bestPeriod_78 : decode cX1_bestPeriod 78 = .ok (.getfield 150, 3) := dk_180 0 150 (dk_at dksX1_bestPeriod_3 7 rfl rfl)
theorem dX1_bestPeriod_81 : decode cX1_bestPeriod 81 = .ok (.iload 6, 2) := dk_21 6 (dk_at dksX1_bestPeriod_3 10 rfl rfl)
theorem dX1_bestPeriod_83 : decode cX1_bestPeriod 83 = .ok (.invokeinterface 354 3, 5) := by decide +kernel
theorem dX1_bestPeriod_88 : decode cX1_bestPeriod 88 = .ok (.goto 4, 3) := dk_167 0 4 (dk_at dksX1_bestPeriod_3 17 rfl rfl)
theorem dX1_bestPeriod_91 : decode cX1_bestPeriod 91 = .ok (.iconst (-1), 1) := dk_2 (dk_at dksX1_bestPeriod_3 20 rfl rfl)
theorem dX1_bestPeriod_92 : decode cX1_bestPeriod 92 = .ok (.istore 7, 2) := dk_54 7 (dk_at dksX1_bestPeriod_3 21 rfl rfl)
theorem dX1_bestPeriod_94 : decode cX1_bestPeriod 94 = .ok (.iload 7, 2) := dk_21 7 (dk_at dksX1_bestPeriod_4 0 rfl rfl)
theorem dX1_bestPeriod_96 : decode cX1_bestPeriod 96 = .ok (.iconst (-1), 1) := dk_2 (dk_at dksX1_bestPeriod_4 2 rfl rfl)
theorem dX1_bestPeriod_97 : decode cX1_bestPeriod 97 = .ok (.if_icmp .eq 24, 3) := dk_159 0 24 (dk_at dksX1_bestPeriod_4 3 rfl rfl)
theorem dX1_bestPeriod_100 : decode cX1_bestPeriod 100 = .ok (.iload 4, 2) := dk_21 4 (dk_at dksX1_bestPeriod_4 6 rfl rfl)
theorem dX1_bestPeriod_102 : decode cX1_bestPeriod 102 = .ok (.iconst (-1), 1) := dk_2 (dk_at dksX1_bestPeriod_4 8 rfl rfl)
theorem dX1_bestPeriod_103 : decode cX1_bestPeriod 103 = .ok (.if_icmp .eq 10, 3) := dk_159 0 10 (dk_at dksX1_bestPeriod_4 9 rfl rfl)
theorem dX1_bestPeriod_106 : decode cX1_bestPeriod 106 = .ok (.iload 7, 2) := dk_21 7 (dk_at dksX1_bestPeriod_4 12 rfl rfl)
theorem dX1_bestPeriod_108 : decode cX1_bestPeriod 108 = .ok (.iload 5, 2) := dk_21 5 (dk_at dksX1_bestPeriod_4 14 rfl rfl)
theorem dX1_bestPeriod_110 : decode cX1_bestPeriod 110 = .ok (.if_icmp .ge 11, 3) := dk_162 0 11 (dk_at dksX1_bestPeriod_4 16 rfl rfl)
theorem dX1_bestPeriod_113 : decode cX1_bestPeriod 113 = .ok (.iload 6, 2) := dk_21 6 (dk_at dksX1_bestPeriod_4 19 rfl rfl)
theorem dX1_bestPeriod_115 : decode cX1_bestPeriod 115 = .ok (.istore 4, 2) := dk_54 4 (dk_at dksX1_bestPeriod_4 21 rfl rfl)
theorem dX1_bestPeriod_117 : decode cX1_bestPeriod 117 = .ok (.iload 7, 2) := dk_21 7 (dk_at dksX1_bestPeriod_5 0 rfl rfl)
theorem dX1_bestPeriod_119 : decode cX1_bestPeriod 119 = .ok (.istore 5, 2) := dk_54 5 (dk_at dksX1_bestPeriod_5 2 rfl rfl)
theorem dX1_bestPeriod_121 : decode cX1_bestPeriod 121 = .ok (.iinc 6 1, 3) := dk_132 6 1 (dk_at dksX1_bestPeriod_5 4 rfl rfl)
theorem dX1_bestPeriod_124 : decode cX1_bestPeriod 124 = .ok (.goto (-68), 3) := dk_167 255 188 (dk_at dksX1_bestPeriod_5 7 rfl rfl)
theorem dX1_bestPeriod_127 : decode cX1_bestPeriod 127 = .ok (.iload 4, 2) := dk_21 4 (dk_at dksX1_bestPeriod_5 10 rfl rfl)
theorem dX1_bestPeriod_129 : decode cX1_bestPeriod 129 = .ok (.ireturn, 1) := dk_172 (dk_at dksX1_bestPeriod_5 12 rfl rfl)
abbrev cX1_recurs : ByteArray := prog_1_method_54_code
def yX1_recurs : MethodName := ⟨RX1, "recurs", "(ZI)I"⟩
def dkwX1_recurs_2 : List UInt8 := [182, 0, 189, 42, 180, 0, 107, 180, 0, 238, 27, 182, 1, 123, 153, 255, 229, 29, 172, 2, 172]
abbrev dktX1_recurs_2 : List UInt8 := dkwX1_recurs_2 ++ []
def dkwX1_recurs_1 : List UInt8 := [180, 0, 238, 28, 183, 0, 182, 58, 4, 25, 4, 182, 0, 185, 153, 0, 27, 132, 3, 1, 25, 4]
abbrev dktX1_recurs_1 : List UInt8 := dkwX1_recurs_1 ++ dktX1_recurs_2
def dkwX1_recurs_0 : List UInt8 := [28, 133, 10, 20, 1, 61, 184, 0, 64, 184, 0, 200, 3, 62, 187, 0, 180, 89, 42, 42, 180, 0, 107]
abbrev dktX1_recurs_0 : List UInt8 := dkwX1_recurs_0 ++ dktX1_recurs_1
theorem dksX1_recurs_0 : cX1_recurs.data.toList.drop 0 = dktX1_recurs_0 := by decide +kernel
theorem dksX1_recurs_1 : cX1_recurs.data.toList.drop 23 = dktX1_recurs_1 := dk_seg dksX1_recurs_0 23 rfl rfl
theorem dksX1_recurs_2 : cX1_recurs.data.toList.drop 45 = dktX1_recurs_2 := dk_seg dksX1_recurs_1 22 rfl rfl
theorem dX1_recurs_0 : decode cX1_recurs 0 = .ok (.iload_n 2, 1) := dk_28 (dk_at dksX1_recurs_0 0 rfl rfl)
theorem dX1_recurs_1 : decode cX1_recurs 1 = .ok (.i2l, 1) := dk_133 (dk_at dksX1_recurs_0 1 rfl rfl)
theorem dX1_recurs_2 : decode cX1_recurs 2 = .ok (.lconst 1, 1) := dk_10 (dk_at dksX1_recurs_0 2 rfl rfl)
theorem dX1_recurs_3 : decode cX1_recurs 3 = .ok (.ldc2_w 317, 3) := dk_20 1 61 (dk_at dksX1_recurs_0 3 rfl rfl)
theorem dX1_recurs_6 : decode cX1_recurs 6 = .ok (.invokestatic 64, 3) := dk_184 0 64 (dk_at dksX1_recurs_0 6 rfl rfl)
theorem dX1_recurs_9 : decode cX1_recurs 9 = .ok (.invokestatic 200, 3) := dk_184 0 200 (dk_at dksX1_recurs_0 9 rfl rfl)
theorem dX1_recurs_12 : decode cX1_recurs 12 = .ok (.iconst 0, 1) := dk_3 (dk_at dksX1_recurs_0 12 rfl rfl)
theorem dX1_recurs_13 : decode cX1_recurs 13 = .ok (.istore_n 3, 1) := dk_62 (dk_at dksX1_recurs_0 13 rfl rfl)
theorem dX1_recurs_14 : decode cX1_recurs 14 = .ok (.new 180, 3) := dk_187 0 180 (dk_at dksX1_recurs_0 14 rfl rfl)
theorem dX1_recurs_17 : decode cX1_recurs 17 = .ok (.dup, 1) := dk_89 (dk_at dksX1_recurs_0 17 rfl rfl)
theorem dX1_recurs_18 : decode cX1_recurs 18 = .ok (.aload_n 0, 1) := dk_42 (dk_at dksX1_recurs_0 18 rfl rfl)
theorem dX1_recurs_19 : decode cX1_recurs 19 = .ok (.aload_n 0, 1) := dk_42 (dk_at dksX1_recurs_0 19 rfl rfl)
theorem dX1_recurs_20 : decode cX1_recurs 20 = .ok (.getfield 107, 3) := dk_180 0 107 (dk_at dksX1_recurs_0 20 rfl rfl)
theorem dX1_recurs_23 : decode cX1_recurs 23 = .ok (.getfield 238, 3) := dk_180 0 238 (dk_at dksX1_recurs_1 0 rfl rfl)
theorem dX1_recurs_26 : decode cX1_recurs 26 = .ok (.iload_n 2, 1) := dk_28 (dk_at dksX1_recurs_1 3 rfl rfl)
theorem dX1_recurs_27 : decode cX1_recurs 27 = .ok (.invokespecial 182, 3) := dk_183 0 182 (dk_at dksX1_recurs_1 4 rfl rfl)
theorem dX1_recurs_30 : decode cX1_recurs 30 = .ok (.astore 4, 2) := dk_58 4 (dk_at dksX1_recurs_1 7 rfl rfl)
theorem dX1_recurs_32 : decode cX1_recurs 32 = .ok (.aload 4, 2) := dk_25 4 (dk_at dksX1_recurs_1 9 rfl rfl)
theorem dX1_recurs_34 : decode cX1_recurs 34 = .ok (.invokevirtual 185, 3) := dk_182 0 185 (dk_at dksX1_recurs_1 11 rfl rfl)
theorem dX1_recurs_37 : decode cX1_recurs 37 = .ok (.ifCond .eq 27, 3) := dk_153 0 27 (dk_at dksX1_recurs_1 14 rfl rfl)
theorem dX1_recurs_40 : decode cX1_recurs 40 = .ok (.iinc 3 1, 3) := dk_132 3 1 (dk_at dksX1_recurs_1 17 rfl rfl)
theorem dX1_recurs_43 : decode cX1_recurs 43 = .ok (.aload 4, 2) := dk_25 4 (dk_at dksX1_recurs_1 20 rfl rfl)
theorem dX1_recurs_45 : decode cX1_recurs 45 = .ok (.invokevirtual 189, 3) := dk_182 0 189 (dk_at dksX1_recurs_2 0 rfl rfl)
theorem dX1_recurs_48 : decode cX1_recurs 48 = .ok (.aload_n 0, 1) := dk_42 (dk_at dksX1_recurs_2 3 rfl rfl)
theorem dX1_recurs_49 : decode cX1_recurs 49 = .ok (.getfield 107, 3) := dk_180 0 107 (dk_at dksX1_recurs_2 4 rfl rfl)
theorem dX1_recurs_52 : decode cX1_recurs 52 = .ok (.getfield 238, 3) := dk_180 0 238 (dk_at dksX1_recurs_2 7 rfl rfl)
theorem dX1_recurs_55 : decode cX1_recurs 55 = .ok (.iload_n 1, 1) := dk_27 (dk_at dksX1_recurs_2 10 rfl rfl)
theorem dX1_recurs_56 : decode cX1_recurs 56 = .ok (.invokevirtual 379, 3) := dk_182 1 123 (dk_at dksX1_recurs_2 11 rfl rfl)
theorem dX1_recurs_59 : decode cX1_recurs 59 = .ok (.ifCond .eq (-27), 3) := dk_153 255 229 (dk_at dksX1_recurs_2 14 rfl rfl)
theorem dX1_recurs_62 : decode cX1_recurs 62 = .ok (.iload_n 3, 1) := dk_29 (dk_at dksX1_recurs_2 17 rfl rfl)
theorem dX1_recurs_63 : decode cX1_recurs 63 = .ok (.ireturn, 1) := dk_172 (dk_at dksX1_recurs_2 18 rfl rfl)
theorem dX1_recurs_64 : decode cX1_recurs 64 = .ok (.iconst (-1), 1) := dk_2 (dk_at dksX1_recurs_2 19 rfl rfl)
theorem dX1_recurs_65 : decode cX1_recurs 65 = .ok (.ireturn, 1) := dk_172 (dk_at dksX1_recurs_2 20 rfl rfl)
abbrev cX1_cellCount : ByteArray := prog_1_method_56_code
def yX1_cellCount : MethodName := ⟨RX1, "cellCount", "(III)I"⟩
def dkwX1_cellCount_2 : List UInt8 := [25, 4, 199, 0, 7, 2, 167, 0, 10, 25, 4, 185, 1, 160, 1, 0, 172]
abbrev dktX1_cellCount_2 : List UInt8 := dkwX1_cellCount_2 ++ []
def dkwX1_cellCount_1 : List UInt8 := [184, 0, 64, 153, 0, 7, 4, 167, 0, 4, 3, 184, 0, 200, 42, 27, 28, 29, 182, 1, 156, 58, 4]
abbrev dktX1_cellCount_1 : List UInt8 := dkwX1_cellCount_1 ++ dktX1_cellCount_2
def dkwX1_cellCount_0 : List UInt8 := [27, 184, 0, 243, 28, 133, 9, 20, 0, 62, 184, 0, 64, 153, 0, 21, 29, 133, 20, 1, 154, 20, 1, 81]
abbrev dktX1_cellCount_0 : List UInt8 := dkwX1_cellCount_0 ++ dktX1_cellCount_1
theorem dksX1_cellCount_0 : cX1_cellCount.data.toList.drop 0 = dktX1_cellCount_0 := by decide +kernel
theorem dksX1_cellCount_1 : cX1_cellCount.data.toList.drop 24 = dktX1_cellCount_1 := dk_seg dksX1_cellCount_0 24 rfl rfl
theorem dksX1_cellCount_2 : cX1_cellCount.data.toList.drop 47 = dktX1_cellCount_2 := dk_seg dksX1_cellCount_1 23 rfl rfl
theorem dX1_cellCount_0 : decode cX1_cellCount 0 = .ok (.iload_n 1, 1) := dk_27 (dk_at dksX1_cellCount_0 0 rfl rfl)
theorem dX1_cellCount_1 : decode cX1_cellCount 1 = .ok (.invokestatic 243, 3) := dk_184 0 243 (dk_at dksX1_cellCount_0 1 rfl rfl)
theorem dX1_cellCount_4 : decode cX1_cellCount 4 = .ok (.iload_n 2, 1) := dk_28 (dk_at dksX1_cellCount_0 4 rfl rfl)
theorem dX1_cellCount_5 : decode cX1_cellCount 5 = .ok (.i2l, 1) := dk_133 (dk_at dksX1_cellCount_0 5 rfl rfl)
theorem dX1_cellCount_6 : decode cX1_cellCount 6 = .ok (.lconst 0, 1) := dk_9 (dk_at dksX1_cellCount_0 6 rfl rfl)
theorem dX1_cellCount_7 : decode cX1_cellCount 7 = .ok (.ldc2_w 62, 3) := dk_20 0 62 (dk_at dksX1_cellCount_0 7 rfl rfl)
theorem dX1_cellCount_10 : decode cX1_cellCount 10 = .ok (.invokestatic 64, 3) := dk_184 0 64 (dk_at dksX1_cellCount_0 10 rfl rfl)
theorem dX1_cellCount_13 : decode cX1_cellCount 13 = .ok (.ifCond .eq 21, 3) := dk_153 0 21 (dk_at dksX1_cellCount_0 13 rfl rfl)
theorem dX1_cellCount_16 : decode cX1_cellCount 16 = .ok (.iload_n 3, 1) := dk_29 (dk_at dksX1_cellCount_0 16 rfl rfl)
theorem dX1_cellCount_17 : decode cX1_cellCount 17 = .ok (.i2l, 1) := dk_133 (dk_at dksX1_cellCount_0 17 rfl rfl)
theorem dX1_cellCount_18 : decode cX1_cellCount 18 = .ok (.ldc2_w 410, 3) := dk_20 1 154 (dk_at dksX1_cellCount_0 18 rfl rfl)
theorem dX1_cellCount_21 : decode cX1_cellCount 21 = .ok (.ldc2_w 337, 3) := dk_20 1 81 (dk_at dksX1_cellCount_0 21 rfl rfl)
theorem dX1_cellCount_24 : decode cX1_cellCount 24 = .ok (.invokestatic 64, 3) := dk_184 0 64 (dk_at dksX1_cellCount_1 0 rfl rfl)
theorem dX1_cellCount_27 : decode cX1_cellCount 27 = .ok (.ifCond .eq 7, 3) := dk_153 0 7 (dk_at dksX1_cellCount_1 3 rfl rfl)
theorem dX1_cellCount_30 : decode cX1_cellCount 30 = .ok (.iconst 1, 1) := dk_4 (dk_at dksX1_cellCount_1 6 rfl rfl)
theorem dX1_cellCount_31 : decode cX1_cellCount 31 = .ok (.goto 4, 3) := dk_167 0 4 (dk_at dksX1_cellCount_1 7 rfl rfl)
theorem dX1_cellCount_34 : decode cX1_cellCount 34 = .ok (.iconst 0, 1) := dk_3 (dk_at dksX1_cellCount_1 10 rfl rfl)
theorem dX1_cellCount_35 : decode cX1_cellCount 35 = .ok (.invokestatic 200, 3) := dk_184 0 200 (dk_at dksX1_cellCount_1 11 rfl rfl)
theorem dX1_cellCount_38 : decode cX1_cellCount 38 = .ok (.aload_n 0, 1) := dk_42 (dk_at dksX1_cellCount_1 14 rfl rfl)
theorem dX1_cellCount_39 : decode cX1_cellCount 39 = .ok (.iload_n 1, 1) := dk_27 (dk_at dksX1_cellCount_1 15 rfl rfl)
theorem dX1_cellCount_40 : decode cX1_cellCount 40 = .ok (.iload_n 2, 1) := dk_28 (dk_at dksX1_cellCount_1 16 rfl rfl)
theorem dX1_cellCount_41 : decode cX1_cellCount 41 = .ok (.iload_n 3, 1) := dk_29 (dk_at dksX1_cellCount_1 17 rfl rfl)
theorem dX1_cellCount_42 : decode cX1_cellCount 42 = .ok (.invokevirtual 412, 3) := dk_182 1 156 (dk_at dksX1_cellCount_1 18 rfl rfl)
theorem dX1_cellCount_45 : decode cX1_cellCount 45 = .ok (.astore 4, 2) := dk_58 4 (dk_at dksX1_cellCount_1 21 rfl rfl)
theorem dX1_cellCount_47 : decode cX1_cellCount 47 = .ok (.aload 4, 2) := dk_25 4 (dk_at dksX1_cellCount_2 0 rfl rfl)
theorem dX1_cellCount_49 : decode cX1_cellCount 49 = .ok (.ifnonnull 7, 3) := dk_199 0 7 (dk_at dksX1_cellCount_2 2 rfl rfl)
theorem dX1_cellCount_52 : decode cX1_cellCount 52 = .ok (.iconst (-1), 1) := dk_2 (dk_at dksX1_cellCount_2 5 rfl rfl)
theorem dX1_cellCount_53 : decode cX1_cellCount 53 = .ok (.goto 10, 3) := dk_167 0 10 (dk_at dksX1_cellCount_2 6 rfl rfl)
theorem dX1_cellCount_56 : decode cX1_cellCount 56 = .ok (.aload 4, 2) := dk_25 4 (dk_at dksX1_cellCount_2 9 rfl rfl)
theorem dX1_cellCount_58 : decode cX1_cellCount 58 = .ok (.invokeinterface 416 1, 5) := by decide +kernel
theorem dX1_cellCount_63 : decode cX1_cellCount 63 = .ok (.ireturn, 1) := dk_172 (dk_at dksX1_cellCount_2 16 rfl rfl)
abbrev cX1_visits : ByteArray := prog_1_method_55_code
def yX1_visits : MethodName := ⟨RX1, "visits", "(III)Ljava/util/Map;"⟩
def dkwX1_visits_6 : List UInt8 := [167, 255, 151, 25, 4, 176]
abbrev dktX1_visits_6 : List UInt8 := dkwX1_visits_6 ++ []
def dkwX1_visits_5 : List UInt8 := [185, 1, 147, 3, 0, 192, 1, 144, 58, 8, 25, 7, 89, 180, 1, 151, 4, 96, 181, 1, 151, 132, 5, 1]
abbrev dktX1_visits_5 : List UInt8 := dkwX1_visits_5 ++ dktX1_visits_6
def dkwX1_visits_4 : List UInt8 := [25, 7, 199, 0, 28, 187, 1, 144, 89, 183, 1, 146, 58, 7, 25, 4, 25, 6, 25, 7]
abbrev dktX1_visits_4 : List UInt8 := dkwX1_visits_4 ++ dktX1_visits_5
def dkwX1_visits_3 : List UInt8 := [29, 184, 1, 132, 183, 1, 135, 58, 6, 25, 4, 25, 6, 185, 1, 138, 2, 0, 192, 1, 144, 58, 7]
abbrev dktX1_visits_3 : List UInt8 := dkwX1_visits_3 ++ dktX1_visits_4
def dkwX1_visits_2 : List UInt8 := [180, 0, 50, 27, 50, 21, 5, 46, 29, 184, 1, 132, 42, 180, 0, 150, 180, 0, 56, 27, 50, 21, 5, 46]
abbrev dktX1_visits_2 : List UInt8 := dkwX1_visits_2 ++ dktX1_visits_3
def dkwX1_visits_1 : List UInt8 := [183, 1, 129, 58, 4, 3, 54, 5, 21, 5, 28, 163, 0, 105, 187, 1, 130, 89, 42, 180, 0, 150]
abbrev dktX1_visits_1 : List UInt8 := dkwX1_visits_1 ++ dktX1_visits_2
def dkwX1_visits_0 : List UInt8 := [42, 42, 180, 0, 107, 180, 0, 238, 28, 182, 1, 94, 28, 162, 0, 5, 1, 176, 187, 1, 127, 89]
abbrev dktX1_visits_0 : List UInt8 := dkwX1_visits_0 ++ dktX1_visits_1
theorem dksX1_visits_0 : cX1_visits.data.toList.drop 0 = dktX1_visits_0 := by decide +kernel
theorem dksX1_visits_1 : cX1_visits.data.toList.drop 22 = dktX1_visits_1 := dk_seg dksX1_visits_0 22 rfl rfl
theorem dksX1_visits_2 : cX1_visits.data.toList.drop 44 = dktX1_visits_2 := dk_seg dksX1_visits_1 22 rfl rfl
theorem dksX1_visits_3 : cX1_visits.data.toList.drop 68 = dktX1_visits_3 := dk_seg dksX1_visits_2 24 rfl rfl
theorem dksX1_visits_4 : cX1_visits.data.toList.drop 91 = dktX1_visits_4 := dk_seg dksX1_visits_3 23 rfl rfl
theorem dksX1_visits_5 : cX1_visits.data.toList.drop 111 = dktX1_visits_5 := dk_seg dksX1_visits_4 20 rfl rfl
theorem dksX1_visits_6 : cX1_visits.data.toList.drop 135 = dktX1_visits_6 := dk_seg dksX1_visits_5 24 rfl rfl
theorem dX1_visits_0 : decode cX1_visits 0 = .ok (.aload_n 0, 1) := dk_42 (dk_at dksX1_visits_0 0 rfl rfl)
theorem dX1_visits_1 : decode cX1_visits 1 = .ok (.aload_n 0, 1) := dk_42 (dk_at dksX1_visits_0 1 rfl rfl)
theorem dX1_visits_2 : decode cX1_visits 2 = .ok (.getfield 107, 3) := dk_180 0 107 (dk_at dksX1_visits_0 2 rfl rfl)
theorem dX1_visits_5 : decode cX1_visits 5 = .ok (.getfield 238, 3) := dk_180 0 238 (dk_at dksX1_visits_0 5 rfl rfl)
theorem dX1_visits_8 : decode cX1_visits 8 = .ok (.iload_n 2, 1) := dk_28 (dk_at dksX1_visits_0 8 rfl rfl)
theorem dX1_visits_9 : decode cX1_visits 9 = .ok (.invokevirtual 350, 3) := dk_182 1 94 (dk_at dksX1_visits_0 9 rfl rfl)
theorem dX1_visits_12 : decode cX1_visits 12 = .ok (.iload_n 2, 1) := dk_28 (dk_at dksX1_visits_0 12 rfl rfl)
theorem dX1_visits_13 : decode cX1_visits 13 = .ok (.if_icmp .ge 5, 3) := dk_162 0 5 (dk_at dksX1_visits_0 13 rfl rfl)
theorem dX1_visits_16 : decode cX1_visits 16 = .ok (.aconst_null, 1) := dk_1 (dk_at dksX1_visits_0 16 rfl rfl)
theorem dX1_visits_17 : decode cX1_visits 17 = .ok (.areturn, 1) := dk_176 (dk_at dksX1_visits_0 17 rfl rfl)
theorem dX1_visits_18 : decode cX1_visits 18 = .ok (.new 383, 3) := dk_187 1 127 (dk_at dksX1_visits_0 18 rfl rfl)
theorem dX1_visits_21 : decode cX1_visits 21 = .ok (.dup, 1) := dk_89 (dk_at dksX1_visits_0 21 rfl rfl)
theorem dX1_visits_22 : decode cX1_visits 22 = .ok (.invokespecial 385, 3) := dk_183 1 129 (dk_at dksX1_visits_1 0 rfl rfl)
theorem dX1_visits_25 : decode cX1_visits 25 = .ok (.astore 4, 2) := dk_58 4 (dk_at dksX1_visits_1 3 rfl rfl)
theorem dX1_visits_27 : decode cX1_visits 27 = .ok (.iconst 0, 1) := dk_3 (dk_at dksX1_visits_1 5 rfl rfl)
theorem dX1_visits_28 : decode cX1_visits 28 = .ok (.istore 5, 2) := dk_54 5 (dk_at dksX1_visits_1 6 rfl rfl)
theorem dX1_visits_30 : decode cX1_visits 30 = .ok (.iload 5, 2) := dk_21 5 (dk_at dksX1_visits_1 8 rfl rfl)
theorem dX1_visits_32 : decode cX1_visits 32 = .ok (.iload_n 2, 1) := dk_28 (dk_at dksX1_visits_1 10 rfl rfl)
theorem dX1_visits_33 : decode cX1_visits 33 = .ok (.if_icmp .gt 105, 3) := dk_163 0 105 (dk_at dksX1_visits_1 11 rfl rfl)
theorem dX1_visits_36 : decode cX1_visits 36 = .ok (.new 386, 3) := dk_187 1 130 (dk_at dksX1_visits_1 14 rfl rfl)
theorem dX1_visits_39 : decode cX1_visits 39 = .ok (.dup, 1) := dk_89 (dk_at dksX1_visits_1 17 rfl rfl)
theorem dX1_visits_40 : decode cX1_visits 40 = .ok (.aload_n 0, 1) := dk_42 (dk_at dksX1_visits_1 18 rfl rfl)
theorem dX1_visits_41 : decode cX1_visits 41 = .ok (.getfield 150, 3) := dk_180 0 150 (dk_at dksX1_visits_1 19 rfl rfl)
theorem dX1_visits_44 : decode cX1_visits 44 = .ok (.getfield 50, 3) := dk_180 0 50 (dk_at dksX1_visits_2 0 rfl rfl)
theorem dX1_visits_47 : decode cX1_visits 47 = .ok (.iload_n 1, 1) := dk_27 (dk_at dksX1_visits_2 3 rfl rfl)
theorem dX1_visits_48 : decode cX1_visits 48 = .ok (.aaload, 1) := dk_50 (dk_at dksX1_visits_2 4 rfl rfl)
theorem dX1_visits_49 : decode cX1_visits 49 = .ok (.iload 5, 2) := dk_21 5 (dk_at dksX1_visits_2 5 rfl rfl)
theorem dX1_visits_51 : decode cX1_visits 51 = .ok (.iaload, 1) := dk_46 (dk_at dksX1_visits_2 7 rfl rfl)
theorem dX1_visits_52 : decode cX1_visits 52 = .ok (.iload_n 3, 1) := dk_29 (dk_at dksX1_visits_2 8 rfl rfl)
theorem dX1_visits_53 : decode cX1_visits 53 = .ok (.invokestatic 388, 3) := dk_184 1 132 (dk_at dksX1_visits_2 9 rfl rfl)
theorem dX1_visits_56 : decode cX1_visits 56 = .ok (.aload_n 0, 1) := dk_42 (dk_at dksX1_visits_2 12 rfl rfl)
theorem dX1_visits_57 : decode cX1_visits 57 = .ok (.getfield 150, 3) := dk_180 0 150 (dk_at dksX1_visits_2 13 rfl rfl)
theorem dX1_visits_60 : decode cX1_visits 60 = .ok (.getfield 56, 3) := dk_180 0 56 (dk_at dksX1_visits_2 16 rfl rfl)
theorem dX1_visits_63 : decode cX1_visits 63 = .ok (.iload_n 1, 1) := dk_27 (dk_at dksX1_visits_2 19 rfl rfl)
theorem dX1_visits_64 : decode cX1_visits 64 = .ok (.aaload, 1) := dk_50 (dk_at dksX1_visits_2 20 rfl rfl)
theorem dX1_visits_65 : decode cX1_visits 65 = .ok (.iload 5, 2) := dk_21 5 (dk_at dksX1_visits_2 21 rfl rfl)
theorem dX1_visits_67 : decode cX1_visits 67 = .ok (.iaload, 1) := dk_46 (dk_at dksX1_visits_2 23 rfl rfl)
theorem dX1_visits_68 : decode cX1_visits 68 = .ok (.iload_n 3, 1) := dk_29 (dk_at dksX1_visits_3 0 rfl rfl)
theorem dX1_visits_69 : decode cX1_visits 69 = .ok (.invokestatic 388, 3) := dk_184 1 132 (dk_at dksX1_visits_3 1 rfl rfl)
theorem dX1_visits_72 : decode cX1_visits 72 = .ok (.invokespecial 391, 3) := dk_183 1 135 (dk_at dksX1_visits_3 4 rfl rfl)
theorem dX1_visits_75 : decode cX1_visits 75 = .ok (.astore 6, 2) := dk_58 6 (dk_at dksX1_visits_3 7 rfl rfl)
theorem dX1_visits_77 : decode cX1_visits 77 = .ok (.aload 4, 2) := dk_25 4 (dk_at dksX1_visits_3 9 rfl rfl)
theorem dX1_visits_79 : decode cX1_visits 79 = .ok (.aload 6, 2) := dk_25 6 (dk_at dksX1_visits_3 11 rfl rfl)
theorem dX1_visits_81 : decode cX1_visits 81 = .ok (.invokeinterface 394 2, 5) := by decide +kernel
theorem dX1_visits_86 : decode cX1_visits 86 = .ok (.checkcast 400, 3) := dk_192 1 144 (dk_at dksX1_visits_3 18 rfl rfl)
theorem dX1_visits_89 : decode cX1_visits 89 = .ok (.astore 7, 2) := dk_58 7 (dk_at dksX1_visits_3 21 rfl rfl)
theorem dX1_visits_91 : decode cX1_visits 91 = .ok (.aload 7, 2) := dk_25 7 (dk_at dksX1_visits_4 0 rfl rfl)
theorem dX1_visits_93 : decode cX1_visits 93 = .ok (.ifnonnull 28, 3) := dk_199 0 28 (dk_at dksX1_visits_4 2 rfl rfl)
theorem dX1_visits_96 : decode cX1_visits 96 = .ok (.new 400, 3) := dk_187 1 144 (dk_at dksX1_visits_4 5 rfl rfl)
theorem dX1_visits_99 : decode cX1_visits 99 = .ok (.dup, 1) := dk_89 (dk_at dksX1_visits_4 8 rfl rfl)
theorem dX1_visits_100 : decode cX1_visits 100 = .ok (.invokespecial 402, 3) := dk_183 1 146 (dk_at dksX1_visits_4 9 rfl rfl)
theorem dX1_visits_103 : decode cX1_visits 103 = .ok (.astore 7, 2) := dk_58 7 (dk_at dksX1_visits_4 12 rfl rfl)
theorem dX1_visits_105 : decode cX1_visits 105 = .ok (.aload 4, 2) := dk_25 4 (dk_at dksX1_visits_4 14 rfl rfl)
theorem dX1_visits_107 : decode cX1_visits 107 = .ok (.aload 6, 2) := dk_25 6 (dk_at dksX1_visits_4 16 rfl rfl)
theorem dX1_visits_109 : decode cX1_visits 109 = .ok (.aload 7, 2) := dk_25 7 (dk_at dksX1_visits_4 18 rfl rfl)
theorem dX1_visits_111 : decode cX1_visits 111 = .ok (.invokeinterface 403 3, 5) := by decide +kernel
theorem dX1_visits_116 : decode cX1_visits 116 = .ok (.checkcast 400, 3) := dk_192 1 144 (dk_at dksX1_visits_5 5 rfl rfl)
theorem dX1_visits_119 : decode cX1_visits 119 = .ok (.astore 8, 2) := dk_58 8 (dk_at dksX1_visits_5 8 rfl rfl)
theorem dX1_visits_121 : decode cX1_visits 121 = .ok (.aload 7, 2) := dk_25 7 (dk_at dksX1_visits_5 10 rfl rfl)
theorem dX1_visits_123 : decode cX1_visits 123 = .ok (.dup, 1) := dk_89 (dk_at dksX1_visits_5 12 rfl rfl)
theorem dX1_visits_124 : decode cX1_visits 124 = .ok (.getfield 407, 3) := dk_180 1 151 (dk_at dksX1_visits_5 13 rfl rfl)
theorem dX1_visits_127 : decode cX1_visits 127 = .ok (.iconst 1, 1) := dk_4 (dk_at dksX1_visits_5 16 rfl rfl)
theorem dX1_visits_128 : decode cX1_visits 128 = .ok (.iadd, 1) := dk_96 (dk_at dksX1_visits_5 17 rfl rfl)
theorem dX1_visits_129 : decode cX1_visits 129 = .ok (.putfield 407, 3) := dk_181 1 151 (dk_at dksX1_visits_5 18 rfl rfl)
theorem dX1_visits_132 : decode cX1_visits 132 = .ok (.iinc 5 1, 3) := dk_132 5 1 (dk_at dksX1_visits_5 21 rfl rfl)
theorem dX1_visits_135 : decode cX1_visits 135 = .ok (.goto (-105), 3) := dk_167 255 151 (dk_at dksX1_visits_6 0 rfl rfl)
theorem dX1_visits_138 : decode cX1_visits 138 = .ok (.aload 4, 2) := dk_25 4 (dk_at dksX1_visits_6 3 rfl rfl)
theorem dX1_visits_140 : decode cX1_visits 140 = .ok (.areturn, 1) := dk_176 (dk_at dksX1_visits_6 5 rfl rfl)
abbrev cX1_cell : ByteArray := prog_1_method_57_code
def yX1_cell : MethodName := ⟨RX1, "cell", "(IIIII)I"⟩
def dkwX1_cell_8 : List UInt8 := [132, 7, 255, 167, 255, 169, 19, 1, 161, 172]
abbrev dktX1_cell_8 : List UInt8 := dkwX1_cell_8 ++ []
def dkwX1_cell_7 : List UInt8 := [192, 1, 130, 180, 1, 177, 167, 0, 16, 25, 9, 185, 1, 180, 1, 0, 192, 1, 144, 180, 1, 151, 172]
abbrev dktX1_cell_7 : List UInt8 := dkwX1_cell_7 ++ dktX1_cell_8
def dkwX1_cell_6 : List UInt8 := [192, 1, 130, 180, 1, 174, 167, 0, 38, 21, 5, 4, 160, 0, 19, 25, 9, 185, 1, 171, 1, 0]
abbrev dktX1_cell_6 : List UInt8 := dkwX1_cell_6 ++ dktX1_cell_7
def dkwX1_cell_5 : List UInt8 := [192, 1, 169, 58, 9, 21, 7, 154, 0, 60, 21, 5, 154, 0, 19, 25, 9, 185, 1, 171, 1, 0]
abbrev dktX1_cell_5 : List UInt8 := dkwX1_cell_5 ++ dktX1_cell_6
def dkwX1_cell_4 : List UInt8 := [185, 1, 166, 1, 0, 58, 8, 25, 8, 185, 1, 45, 1, 0, 153, 0, 83, 25, 8, 185, 1, 48, 1, 0]
abbrev dktX1_cell_4 : List UInt8 := dkwX1_cell_4 ++ dktX1_cell_5
def dkwX1_cell_3 : List UInt8 := [58, 6, 25, 6, 199, 0, 7, 19, 1, 161, 172, 21, 4, 54, 7, 25, 6, 185, 1, 162, 1, 0]
abbrev dktX1_cell_3 : List UInt8 := dkwX1_cell_3 ++ dktX1_cell_4
def dkwX1_cell_2 : List UInt8 := [20, 1, 81, 184, 0, 64, 153, 0, 7, 4, 167, 0, 4, 3, 184, 0, 200, 42, 27, 28, 29, 182, 1, 156]
abbrev dktX1_cell_2 : List UInt8 := dkwX1_cell_2 ++ dktX1_cell_3
def dkwX1_cell_1 : List UInt8 := [167, 0, 4, 3, 184, 0, 172, 28, 133, 9, 20, 0, 62, 184, 0, 64, 153, 0, 21, 29, 133, 20, 1, 154]
abbrev dktX1_cell_1 : List UInt8 := dkwX1_cell_1 ++ dktX1_cell_2
def dkwX1_cell_0 : List UInt8 := [27, 184, 0, 243, 21, 4, 155, 0, 20, 21, 5, 133, 9, 20, 0, 12, 184, 0, 64, 153, 0, 7, 4]
abbrev dktX1_cell_0 : List UInt8 := dkwX1_cell_0 ++ dktX1_cell_1
theorem dksX1_cell_0 : cX1_cell.data.toList.drop 0 = dktX1_cell_0 := by decide +kernel
theorem dksX1_cell_1 : cX1_cell.data.toList.drop 23 = dktX1_cell_1 := dk_seg dksX1_cell_0 23 rfl rfl
theorem dksX1_cell_2 : cX1_cell.data.toList.drop 47 = dktX1_cell_2 := dk_seg dksX1_cell_1 24 rfl rfl
theorem dksX1_cell_3 : cX1_cell.data.toList.drop 71 = dktX1_cell_3 := dk_seg dksX1_cell_2 24 rfl rfl
theorem dksX1_cell_4 : cX1_cell.data.toList.drop 93 = dktX1_cell_4 := dk_seg dksX1_cell_3 22 rfl rfl
theorem dksX1_cell_5 : cX1_cell.data.toList.drop 117 = dktX1_cell_5 := dk_seg dksX1_cell_4 24 rfl rfl
theorem dksX1_cell_6 : cX1_cell.data.toList.drop 139 = dktX1_cell_6 := dk_seg dksX1_cell_5 22 rfl rfl
theorem dksX1_cell_7 : cX1_cell.data.toList.drop 161 = dktX1_cell_7 := dk_seg dksX1_cell_6 22 rfl rfl
theorem dksX1_cell_8 : cX1_cell.data.toList.drop 184 = dktX1_cell_8 := dk_seg dksX1_cell_7 23 rfl rfl
theorem dX1_cell_0 : decode cX1_cell 0 = .ok (.iload_n 1, 1) := dk_27 (dk_at dksX1_cell_0 0 rfl rfl)
theorem dX1_cell_1 : decode cX1_cell 1 = .ok (.invokestatic 243, 3) := dk_184 0 243 (dk_at dksX1_cell_0 1 rfl rfl)
theorem dX1_cell_4 : decode cX1_cell 4 = .ok (.iload 4, 2) := dk_21 4 (dk_at dksX1_cell_0 4 rfl rfl)
theorem dX1_cell_6 : decode cX1_cell 6 = .ok (.ifCond .lt 20, 3) := dk_155 0 20 (dk_at dksX1_cell_0 6 rfl rfl)
theorem dX1_cell_9 : decode cX1_cell 9 = .ok (.iload 5, 2) := dk_21 5 (dk_at dksX1_cell_0 9 rfl rfl)
theorem dX1_cell_11 : decode cX1_cell 11 = .ok (.i2l, 1) := dk_133 (dk_at dksX1_cell_0 11 rfl rfl)
theorem dX1_cell_12 : decode cX1_cell 12 = .ok (.lconst 0, 1) := dk_9 (dk_at dksX1_cell_0 12 rfl rfl)
theorem dX1_cell_13 : decode cX1_cell 13 = .ok (.ldc2_w 12, 3) := dk_20 0 12 (dk_at dksX1_cell_0 13 rfl rfl)
theorem dX1_cell_16 : decode cX1_cell 16 = .ok (.invokestatic 64, 3) := dk_184 0 64 (dk_at dksX1_cell_0 16 rfl rfl)
theorem dX1_cell_19 : decode cX1_cell 19 = .ok (.ifCond .eq 7, 3) := dk_153 0 7 (dk_at dksX1_cell_0 19 rfl rfl)
theorem dX1_cell_22 : decode cX1_cell 22 = .ok (.iconst 1, 1) := dk_4 (dk_at dksX1_cell_0 22 rfl rfl)
theorem dX1_cell_23 : decode cX1_cell 23 = .ok (.goto 4, 3) := dk_167 0 4 (dk_at dksX1_cell_1 0 rfl rfl)
theorem dX1_cell_26 : decode cX1_cell 26 = .ok (.iconst 0, 1) := dk_3 (dk_at dksX1_cell_1 3 rfl rfl)
theorem dX1_cell_27 : decode cX1_cell 27 = .ok (.invokestatic 172, 3) := dk_184 0 172 (dk_at dksX1_cell_1 4 rfl rfl)
theorem dX1_cell_30 : decode cX1_cell 30 = .ok (.iload_n 2, 1) := dk_28 (dk_at dksX1_cell_1 7 rfl rfl)
theorem dX1_cell_31 : decode cX1_cell 31 = .ok (.i2l, 1) := dk_133 (dk_at dksX1_cell_1 8 rfl rfl)
theorem dX1_cell_32 : decode cX1_cell 32 = .ok (.lconst 0, 1) := dk_9 (dk_at dksX1_cell_1 9 rfl rfl)
theorem dX1_cell_33 : decode cX1_cell 33 = .ok (.ldc2_w 62, 3) := dk_20 0 62 (dk_at dksX1_cell_1 10 rfl rfl)
theorem dX1_cell_36 : decode cX1_cell 36 = .ok (.invokestatic 64, 3) := dk_184 0 64 (dk_at dksX1_cell_1 13 rfl rfl)
theorem dX1_cell_39 : decode cX1_cell 39 = .ok (.ifCond .eq 21, 3) := dk_153 0 21 (dk_at dksX1_cell_1 16 rfl rfl)
theorem dX1_cell_42 : decode cX1_cell 42 = .ok (.iload_n 3, 1) := dk_29 (dk_at dksX1_cell_1 19 rfl rfl)
theorem dX1_cell_43 : decode cX1_cell 43 = .ok (.i2l, 1) := dk_133 (dk_at dksX1_cell_1 20 rfl rfl)
theorem dX1_cell_44 : decode cX1_cell 44 = .ok (.ldc2_w 410, 3) := dk_20 1 154 (dk_at dksX1_cell_1 21 rfl rfl)
theorem dX1_cell_47 : decode cX1_cell 47 = .ok (.ldc2_w 337, 3) := dk_20 1 81 (dk_at dksX1_cell_2 0 rfl rfl)
theorem dX1_cell_50 : decode cX1_cell 50 = .ok (.invokestatic 64, 3) := dk_184 0 64 (dk_at dksX1_cell_2 3 rfl rfl)
theorem dX1_cell_53 : decode cX1_cell 53 = .ok (.ifCond .eq 7, 3) := dk_153 0 7 (dk_at dksX1_cell_2 6 rfl rfl)
theorem dX1_cell_56 : decode cX1_cell 56 = .ok (.iconst 1, 1) := dk_4 (dk_at dksX1_cell_2 9 rfl rfl)
theorem dX1_cell_57 : decode cX1_cell 57 = .ok (.goto 4, 3) := dk_167 0 4 (dk_at dksX1_cell_2 10 rfl rfl)
theorem dX1_cell_60 : decode cX1_cell 60 = .ok (.iconst 0, 1) := dk_3 (dk_at dksX1_cell_2 13 rfl rfl)
theorem dX1_cell_61 : decode cX1_cell 61 = .ok (.invokestatic 200, 3) := dk_184 0 200 (dk_at dksX1_cell_2 14 rfl rfl)
theorem dX1_cell_64 : decode cX1_cell 64 = .ok (.aload_n 0, 1) := dk_42 (dk_at dksX1_cell_2 17 rfl rfl)
theorem dX1_cell_65 : decode cX1_cell 65 = .ok (.iload_n 1, 1) := dk_27 (dk_at dksX1_cell_2 18 rfl rfl)
theorem dX1_cell_66 : decode cX1_cell 66 = .ok (.iload_n 2, 1) := dk_28 (dk_at dksX1_cell_2 19 rfl rfl)
theorem dX1_cell_67 : decode cX1_cell 67 = .ok (.iload_n 3, 1) := dk_29 (dk_at dksX1_cell_2 20 rfl rfl)
theorem dX1_cell_68 : decode cX1_cell 68 = .ok (.invokevirtual 412, 3) := dk_182 1 156 (dk_at dksX1_cell_2 21 rfl rfl)
theorem dX1_cell_71 : decode cX1_cell 71 = .ok (.astore 6, 2) := dk_58 6 (dk_at dksX1_cell_3 0 rfl rfl)
theorem dX1_cell_73 : decode cX1_cell 73 = .ok (.aload 6, 2) := dk_25 6 (dk_at dksX1_cell_3 2 rfl rfl)
theorem dX1_cell_75 : decode cX1_cell 75 = .ok (.ifnonnull 7, 3) := dk_199 0 7 (dk_at dksX1_cell_3 4 rfl rfl)
theorem dX1_cell_78 : decode cX1_cell 78 = .ok (.ldc_w 417, 3) := dk_19 1 161 (dk_at dksX1_cell_3 7 rfl rfl)
theorem dX1_cell_81 : decode cX1_cell 81 = .ok (.ireturn, 1) := dk_172 (dk_at dksX1_cell_3 10 rfl rfl)
theorem dX1_cell_82 : decode cX1_cell 82 = .ok (.iload 4, 2) := dk_21 4 (dk_at dksX1_cell_3 11 rfl rfl)
theorem dX1_cell_84 : decode cX1_cell 84 = .ok (.istore 7, 2) := dk_54 7 (dk_at dksX1_cell_3 13 rfl rfl)
theorem dX1_cell_86 : decode cX1_cell 86 = .ok (.aload 6, 2) := dk_25 6 (dk_at dksX1_cell_3 15 rfl rfl)
theorem dX1_cell_88 : decode cX1_cell 88 = .ok (.invokeinterface 418 1, 5) := by decide +kernel
theorem dX1_cell_93 : decode cX1_cell 93 = .ok (.invokeinterface 422 1, 5) := by decide +kernel
theorem dX1_cell_98 : decode cX1_cell 98 = .ok (.astore 8, 2) := dk_58 8 (dk_at dksX1_cell_4 5 rfl rfl)
theorem dX1_cell_100 : decode cX1_cell 100 = .ok (.aload 8, 2) := dk_25 8 (dk_at dksX1_cell_4 7 rfl rfl)
theorem dX1_cell_102 : decode cX1_cell 102 = .ok (.invokeinterface 301 1, 5) := by decide +kernel
theorem dX1_cell_107 : decode cX1_cell 107 = .ok (.ifCond .eq 83, 3) := dk_153 0 83 (dk_at dksX1_cell_4 14 rfl rfl)
theorem dX1_cell_110 : decode cX1_cell 110 = .ok (.aload 8, 2) := dk_25 8 (dk_at dksX1_cell_4 17 rfl rfl)
theorem dX1_cell_112 : decode cX1_cell 112 = .ok (.invokeinterface 304 1, 5) := by decide +kernel
theorem dX1_cell_117 : decode cX1_cell 117 = .ok (.checkcast 425, 3) := dk_192 1 169 (dk_at dksX1_cell_5 0 rfl rfl)
theorem dX1_cell_120 : decode cX1_cell 120 = .ok (.astore 9, 2) := dk_58 9 (dk_at dksX1_cell_5 3 rfl rfl)
theorem dX1_cell_122 : decode cX1_cell 122 = .ok (.iload 7, 2) := dk_21 7 (dk_at dksX1_cell_5 5 rfl rfl)
theorem dX1_cell_124 : decode cX1_cell 124 = .ok (.ifCond .ne 60, 3) := dk_154 0 60 (dk_at dksX1_cell_5 7 rfl rfl)
theorem dX1_cell_127 : decode cX1_cell 127 = .ok (.iload 5, 2) := dk_21 5 (dk_at dksX1_cell_5 10 rfl rfl)
theorem dX1_cell_129 : decode cX1_cell 129 = .ok (.ifCond .ne 19, 3) := dk_154 0 19 (dk_at dksX1_cell_5 12 rfl rfl)
theorem dX1_cell_132 : decode cX1_cell 132 = .ok (.aload 9, 2) := dk_25 9 (dk_at dksX1_cell_5 15 rfl rfl)
theorem dX1_cell_134 : decode cX1_cell 134 = .ok (.invokeinterface 427 1, 5) := by decide +kernel
theorem dX1_cell_139 : decode cX1_cell 139 = .ok (.checkcast 386, 3) := dk_192 1 130 (dk_at dksX1_cell_6 0 rfl rfl)
theorem dX1_cell_142 : decode cX1_cell 142 = .ok (.getfield 430, 3) := dk_180 1 174 (dk_at dksX1_cell_6 3 rfl rfl)
theorem dX1_cell_145 : decode cX1_cell 145 = .ok (.goto 38, 3) := dk_167 0 38 (dk_at dksX1_cell_6 6 rfl rfl)
theorem dX1_cell_148 : decode cX1_cell 148 = .ok (.iload 5, 2) := dk_21 5 (dk_at dksX1_cell_6 9 rfl rfl)
theorem dX1_cell_150 : decode cX1_cell 150 = .ok (.iconst 1, 1) := dk_4 (dk_at dksX1_cell_6 11 rfl rfl)
theorem dX1_cell_151 : decode cX1_cell 151 = .ok (.if_icmp .ne 19, 3) := dk_160 0 19 (dk_at dksX1_cell_6 12 rfl rfl)
theorem dX1_cell_154 : decode cX1_cell 154 = .ok (.aload 9, 2) := dk_25 9 (dk_at dksX1_cell_6 15 rfl rfl)
theorem dX1_cell_156 : decode cX1_cell 156 = .ok (.invokeinterface 427 1, 5) := by decide +kernel
theorem dX1_cell_161 : decode cX1_cell 161 = .ok (.checkcast 386, 3) := dk_192 1 130 (dk_at dksX1_cell_7 0 rfl rfl)
theorem dX1_cell_164 : decode cX1_cell 164 = .ok (.getfield 433, 3) := dk_180 1 177 (dk_at dksX1_cell_7 3 rfl rfl)
theorem dX1_cell_167 : decode cX1_cell 167 = .ok (.goto 16, 3) := dk_167 0 16 (dk_at dksX1_cell_7 6 rfl rfl)
theorem dX1_cell_170 : decode cX1_cell 170 = .ok (.aload 9, 2) := dk_25 9 (dk_at dksX1_cell_7 9 rfl rfl)
theorem dX1_cell_172 : decode cX1_cell 172 = .ok (.invokeinterface 436 1, 5) := by decide +kernel
theorem dX1_cell_177 : decode cX1_cell 177 = .ok (.checkcast 400, 3) := dk_192 1 144 (dk_at dksX1_cell_7 16 rfl rfl)
theorem dX1_cell_180 : decode cX1_cell 180 = .ok (.getfield 407, 3) := dk_180 1 151 (dk_at dksX1_cell_7 19 rfl rfl)
theorem dX1_cell_183 : decode cX1_cell 183 = .ok (.ireturn, 1) := dk_172 (dk_at dksX1_cell_7 22 rfl rfl)
theorem dX1_cell_184 : decode cX1_cell 184 = .ok (.iinc 7 (-1), 3) := dk_132 7 255 (dk_at dksX1_cell_8 0 rfl rfl)
theorem dX1_cell_187 : decode cX1_cell 187 = .ok (.goto (-87), 3) := dk_167 255 169 (dk_at dksX1_cell_8 3 rfl rfl)
theorem dX1_cell_190 : decode cX1_cell 190 = .ok (.ldc_w 417, 3) := dk_19 1 161 (dk_at dksX1_cell_8 6 rfl rfl)
theorem dX1_cell_193 : decode cX1_cell 193 = .ok (.ireturn, 1) := dk_172 (dk_at dksX1_cell_8 9 rfl rfl)
abbrev cX1_format : ByteArray := prog_1_method_60_code
def yX1_format : MethodName := ⟨RX1, "format", "(I)I"⟩
def dkwX1_format_5 : List UInt8 := [182, 1, 187, 87, 42, 180, 0, 135, 182, 1, 205, 172]
abbrev dktX1_format_5 : List UInt8 := dkwX1_format_5 ++ []
def dkwX1_format_4 : List UInt8 := [180, 0, 255, 27, 47, 182, 1, 202, 16, 32, 182, 1, 187, 44, 180, 1, 3, 27, 47, 182, 1, 202, 16, 93]
abbrev dktX1_format_4 : List UInt8 := dkwX1_format_4 ++ dktX1_format_5
def dkwX1_format_3 : List UInt8 := [182, 1, 187, 44, 180, 0, 253, 27, 46, 182, 1, 190, 87, 42, 180, 0, 135, 19, 1, 200, 182, 1, 195, 44]
abbrev dktX1_format_3 : List UInt8 := dkwX1_format_3 ++ dktX1_format_4
def dkwX1_format_2 : List UInt8 := [87, 42, 180, 0, 135, 19, 1, 198, 182, 1, 195, 44, 180, 0, 251, 27, 46, 182, 1, 190, 16, 32]
abbrev dktX1_format_2 : List UInt8 := dkwX1_format_2 ++ dktX1_format_3
def dkwX1_format_1 : List UInt8 := [16, 98, 182, 1, 187, 27, 182, 1, 190, 19, 1, 193, 182, 1, 195, 44, 180, 0, 247, 27, 46, 182, 1, 190]
abbrev dktX1_format_1 : List UInt8 := dkwX1_format_1 ++ dktX1_format_2
def dkwX1_format_0 : List UInt8 := [27, 184, 0, 243, 42, 180, 0, 107, 180, 0, 238, 77, 42, 180, 0, 135, 3, 182, 1, 184, 42, 180, 0, 135]
abbrev dktX1_format_0 : List UInt8 := dkwX1_format_0 ++ dktX1_format_1
theorem dksX1_format_0 : cX1_format.data.toList.drop 0 = dktX1_format_0 := by decide +kernel
theorem dksX1_format_1 : cX1_format.data.toList.drop 24 = dktX1_format_1 := dk_seg dksX1_format_0 24 rfl rfl
theorem dksX1_format_2 : cX1_format.data.toList.drop 48 = dktX1_format_2 := dk_seg dksX1_format_1 24 rfl rfl
theorem dksX1_format_3 : cX1_format.data.toList.drop 70 = dktX1_format_3 := dk_seg dksX1_format_2 22 rfl rfl
theorem dksX1_format_4 : cX1_format.data.toList.drop 94 = dktX1_format_4 := dk_seg dksX1_format_3 24 rfl rfl
theorem dksX1_format_5 : cX1_format.data.toList.drop 118 = dktX1_format_5 := dk_seg dksX1_format_4 24 rfl rfl
theorem dX1_format_0 : decode cX1_format 0 = .ok (.iload_n 1, 1) := dk_27 (dk_at dksX1_format_0 0 rfl rfl)
theorem dX1_format_1 : decode cX1_format 1 = .ok (.invokestatic 243, 3) := dk_184 0 243 (dk_at dksX1_format_0 1 rfl rfl)
theorem dX1_format_4 : decode cX1_format 4 = .ok (.aload_n 0, 1) := dk_42 (dk_at dksX1_format_0 4 rfl rfl)
theorem dX1_format_5 : decode cX1_format 5 = .ok (.getfield 107, 3) := dk_180 0 107 (dk_at dksX1_format_0 5 rfl rfl)
theorem dX1_format_8 : decode cX1_format 8 = .ok (.getfield 238, 3) := dk_180 0 238 (dk_at dksX1_format_0 8 rfl rfl)
theorem dX1_format_11 : decode cX1_format 11 = .ok (.astore_n 2, 1) := dk_77 (dk_at dksX1_format_0 11 rfl rfl)
theorem dX1_format_12 : decode cX1_format 12 = .ok (.aload_n 0, 1) := dk_42 (dk_at dksX1_format_0 12 rfl rfl)
theorem dX1_format_13 : decode cX1_format 13 = .ok (.getfield 135, 3) := dk_180 0 135 (dk_at dksX1_format_0 13 rfl rfl)
theorem dX1_format_16 : decode cX1_format 16 = .ok (.iconst 0, 1) := dk_3 (dk_at dksX1_format_0 16 rfl rfl)
theorem dX1_format_17 : decode cX1_format 17 = .ok (.invokevirtual 440, 3) := dk_182 1 184 (dk_at dksX1_format_0 17 rfl rfl)
theorem dX1_format_20 : decode cX1_format 20 = .ok (.aload_n 0, 1) := dk_42 (dk_at dksX1_format_0 20 rfl rfl)
theorem dX1_format_21 : decode cX1_format 21 = .ok (.getfield 135, 3) := dk_180 0 135 (dk_at dksX1_format_0 21 rfl rfl)
theorem dX1_format_24 : decode cX1_format 24 = .ok (.bipush 98, 2) := dk_16 98 (dk_at dksX1_format_1 0 rfl rfl)
theorem dX1_format_26 : decode cX1_format 26 = .ok (.invokevirtual 443, 3) := dk_182 1 187 (dk_at dksX1_format_1 2 rfl rfl)
theorem dX1_format_29 : decode cX1_format 29 = .ok (.iload_n 1, 1) := dk_27 (dk_at dksX1_format_1 5 rfl rfl)
theorem dX1_format_30 : decode cX1_format 30 = .ok (.invokevirtual 446, 3) := dk_182 1 190 (dk_at dksX1_format_1 6 rfl rfl)
theorem dX1_format_33 : decode cX1_format 33 = .ok (.ldc_w 449, 3) := dk_19 1 193 (dk_at dksX1_format_1 9 rfl rfl)
theorem dX1_format_36 : decode cX1_format 36 = .ok (.invokevirtual 451, 3) := dk_182 1 195 (dk_at dksX1_format_1 12 rfl rfl)
theorem dX1_format_39 : decode cX1_format 39 = .ok (.aload_n 2, 1) := dk_44 (dk_at dksX1_format_1 15 rfl rfl)
theorem dX1_format_40 : decode cX1_format 40 = .ok (.getfield 247, 3) := dk_180 0 247 (dk_at dksX1_format_1 16 rfl rfl)
theorem dX1_format_43 : decode cX1_format 43 = .ok (.iload_n 1, 1) := dk_27 (dk_at dksX1_format_1 19 rfl rfl)
theorem dX1_format_44 : decode cX1_format 44 = .ok (.iaload, 1) := dk_46 (dk_at dksX1_format_1 20 rfl rfl)
theorem dX1_format_45 : decode cX1_format 45 = .ok (.invokevirtual 446, 3) := dk_182 1 190 (dk_at dksX1_format_1 21 rfl rfl)
theorem dX1_format_48 : decode cX1_format 48 = .ok (.pop, 1) := dk_87 (dk_at dksX1_format_2 0 rfl rfl)
theorem dX1_format_49 : decode cX1_format 49 = .ok (.aload_n 0, 1) := dk_42 (dk_at dksX1_format_2 1 rfl rfl)
theorem dX1_format_50 : decode cX1_format 50 = .ok (.getfield 135, 3) := dk_180 0 135 (dk_at dksX1_format_2 2 rfl rfl)
theorem dX1_format_53 : decode cX1_format 53 = .ok (.ldc_w 454, 3) := dk_19 1 198 (dk_at dksX1_format_2 5 rfl rfl)
theorem dX1_format_56 : decode cX1_format 56 = .ok (.invokevirtual 451, 3) := dk_182 1 195 (dk_at dksX1_format_2 8 rfl rfl)
theorem dX1_format_59 : decode cX1_format 59 = .ok (.aload_n 2, 1) := dk_44 (dk_at dksX1_format_2 11 rfl rfl)
theorem dX1_format_60 : decode cX1_format 60 = .ok (.getfield 251, 3) := dk_180 0 251 (dk_at dksX1_format_2 12 rfl rfl)
theorem dX1_format_63 : decode cX1_format 63 = .ok (.iload_n 1, 1) := dk_27 (dk_at dksX1_format_2 15 rfl rfl)
theorem dX1_format_64 : decode cX1_format 64 = .ok (.iaload, 1) := dk_46 (dk_at dksX1_format_2 16 rfl rfl)
theorem dX1_format_65 : decode cX1_format 65 = .ok (.invokevirtual 446, 3) := dk_182 1 190 (dk_at dksX1_format_2 17 rfl rfl)
theorem dX1_format_68 : decode cX1_format 68 = .ok (.bipush 32, 2) := dk_16 32 (dk_at dksX1_format_2 20 rfl rfl)
theorem dX1_format_70 : decode cX1_format 70 = .ok (.invokevirtual 443, 3) := dk_182 1 187 (dk_at dksX1_format_3 0 rfl rfl)
theorem dX1_format_73 : decode cX1_format 73 = .ok (.aload_n 2, 1) := dk_44 (dk_at dksX1_format_3 3 rfl rfl)
theorem dX1_format_74 : decode cX1_format 74 = .ok (.getfield 253, 3) := dk_180 0 253 (dk_at dksX1_format_3 4 rfl rfl)
theorem dX1_format_77 : decode cX1_format 77 = .ok (.iload_n 1, 1) := dk_27 (dk_at dksX1_format_3 7 rfl rfl)
theorem dX1_format_78 : decode cX1_format 78 = .ok (.iaload, 1) := dk_46 (dk_at dksX1_format_3 8 rfl rfl)
theorem dX1_format_79 : decode cX1_format 79 = .ok (.invokevirtual 446, 3) := dk_182 1 190 (dk_at dksX1_format_3 9 rfl rfl)
theorem dX1_format_82 : decode cX1_format 82 = .ok (.pop, 1) := dk_87 (dk_at dksX1_format_3 12 rfl rfl)
theorem dX1_format_83 : decode cX1_format 83 = .ok (.aload_n 0, 1) := dk_42 (dk_at dksX1_format_3 13 rfl rfl)
theorem dX1_format_84 : decode cX1_format 84 = .ok (.getfield 135, 3) := dk_180 0 135 (dk_at dksX1_format_3 14 rfl rfl)
theorem dX1_format_87 : decode cX1_format 87 = .ok (.ldc_w 456, 3) := dk_19 1 200 (dk_at dksX1_format_3 17 rfl rfl)
theorem dX1_format_90 : decode cX1_format 90 = .ok (.invokevirtual 451, 3) := dk_182 1 195 (dk_at dksX1_format_3 20 rfl rfl)
theorem dX1_format_93 : decode cX1_format 93 = .ok (.aload_n 2, 1) := dk_44 (dk_at dksX1_format_3 23 rfl rfl)
theorem dX1_format_94 : decode cX1_format 94 = .ok (.getfield 255, 3) := dk_180 0 255 (dk_at dksX1_format_4 0 rfl rfl)
theorem dX1_format_97 : decode cX1_format 97 = .ok (.iload_n 1, 1) := dk_27 (dk_at dksX1_format_4 3 rfl rfl)
theorem dX1_format_98 : decode cX1_format 98 = .ok (.laload, 1) := dk_47 (dk_at dksX1_format_4 4 rfl rfl)
theorem dX1_format_99 : decode cX1_format 99 = .ok (.invokevirtual 458, 3) := dk_182 1 202 (dk_at dksX1_format_4 5 rfl rfl)
theorem dX1_format_102 : decode cX1_format 102 = .ok (.bipush 32, 2) := dk_16 32 (dk_at dksX1_format_4 8 rfl rfl)
theorem dX1_format_104 : decode cX1_format 104 = .ok (.invokevirtual 443, 3) := dk_182 1 187 (dk_at dksX1_format_4 10 rfl rfl)
theorem dX1_format_107 : decode cX1_format 107 = .ok (.aload_n 2, 1) := dk_44 (dk_at dksX1_format_4 13 rfl rfl)
theorem dX1_format_108 : decode cX1_format 108 = .ok (.getfield 259, 3) := dk_180 1 3 (dk_at dksX1_format_4 14 rfl rfl)
theorem dX1_format_111 : decode cX1_format 111 = .ok (.iload_n 1, 1) := dk_27 (dk_at dksX1_format_4 17 rfl rfl)
theorem dX1_format_112 : decode cX1_format 112 = .ok (.laload, 1) := dk_47 (dk_at dksX1_format_4 18 rfl rfl)
theorem dX1_format_113 : decode cX1_format 113 = .ok (.invokevirtual 458, 3) := dk_182 1 202 (dk_at dksX1_format_4 19 rfl rfl)
theorem dX1_format_116 : decode cX1_format 116 = .ok (.bipush 93, 2) := dk_16 93 (dk_at dksX1_format_4 22 rfl rfl)
theorem dX1_format_118 : decode cX1_format 118 = .ok (.invokevirtual 443, 3) := dk_182 1 187 (dk_at dksX1_format_5 0 rfl rfl)
theorem dX1_format_121 : decode cX1_format 121 = .ok (.pop, 1) := dk_87 (dk_at dksX1_format_5 3 rfl rfl)
theorem dX1_format_122 : decode cX1_format 122 = .ok (.aload_n 0, 1) := dk_42 (dk_at dksX1_format_5 4 rfl rfl)
theorem dX1_format_123 : decode cX1_format 123 = .ok (.getfield 135, 3) := dk_180 0 135 (dk_at dksX1_format_5 5 rfl rfl)
theorem dX1_format_126 : decode cX1_format 126 = .ok (.invokevirtual 461, 3) := dk_182 1 205 (dk_at dksX1_format_5 8 rfl rfl)
theorem dX1_format_129 : decode cX1_format 129 = .ok (.ireturn, 1) := dk_172 (dk_at dksX1_format_5 11 rfl rfl)
abbrev cX1_query : ByteArray := prog_1_method_66_code
def yX1_query : MethodName := ⟨RX1, "query", "(I)I"⟩
def dkwX1_query_8 : List UInt8 := [153, 0, 7, 2, 167, 0, 5, 21, 4, 172]
abbrev dktX1_query_8 : List UInt8 := dkwX1_query_8 ++ []
def dkwX1_query_7 : List UInt8 := [21, 8, 153, 0, 7, 4, 167, 0, 4, 3, 96, 54, 4, 132, 5, 1, 167, 255, 189, 44, 180, 1, 235]
abbrev dktX1_query_7 : List UInt8 := dkwX1_query_7 ++ dktX1_query_8
def dkwX1_query_6 : List UInt8 := [185, 1, 229, 3, 0, 54, 8, 21, 8, 153, 0, 13, 44, 180, 1, 235, 153, 0, 6, 21, 5, 172, 21, 4]
abbrev dktX1_query_6 : List UInt8 := dkwX1_query_6 ++ dktX1_query_7
def dkwX1_query_5 : List UInt8 := [153, 0, 63, 25, 6, 185, 1, 48, 1, 0, 192, 1, 50, 58, 7, 45, 25, 7, 21, 5]
abbrev dktX1_query_5 : List UInt8 := dkwX1_query_5 ++ dktX1_query_6
def dkwX1_query_4 : List UInt8 := [3, 54, 5, 42, 180, 0, 107, 180, 1, 38, 182, 1, 41, 58, 6, 25, 6, 185, 1, 45, 1, 0]
abbrev dktX1_query_4 : List UInt8 := dkwX1_query_4 ++ dktX1_query_5
def dkwX1_query_3 : List UInt8 := [181, 0, 100, 19, 1, 161, 25, 4, 182, 0, 220, 182, 0, 229, 100, 172, 42, 2, 181, 0, 100, 3, 54, 4]
abbrev dktX1_query_3 : List UInt8 := dkwX1_query_3 ++ dktX1_query_4
def dkwX1_query_2 : List UInt8 := [183, 1, 225, 77, 44, 182, 1, 226, 78, 167, 0, 30, 58, 4, 42, 25, 4, 182, 0, 220, 180, 0, 224]
abbrev dktX1_query_2 : List UInt8 := dkwX1_query_2 ++ dktX1_query_3
def dkwX1_query_1 : List UInt8 := [181, 0, 193, 187, 1, 221, 89, 187, 0, 205, 89, 42, 180, 0, 96, 27, 19, 1, 223, 183, 0, 209]
abbrev dktX1_query_1 : List UInt8 := dkwX1_query_1 ++ dktX1_query_2
def dkwX1_query_0 : List UInt8 := [27, 133, 9, 42, 180, 0, 193, 17, 0, 200, 184, 1, 218, 133, 184, 0, 64, 184, 0, 200, 42, 3]
abbrev dktX1_query_0 : List UInt8 := dkwX1_query_0 ++ dktX1_query_1
theorem dksX1_query_0 : cX1_query.data.toList.drop 0 = dktX1_query_0 := by decide +kernel
theorem dksX1_query_1 : cX1_query.data.toList.drop 22 = dktX1_query_1 := dk_seg dksX1_query_0 22 rfl rfl
theorem dksX1_query_2 : cX1_query.data.toList.drop 44 = dktX1_query_2 := dk_seg dksX1_query_1 22 rfl rfl
theorem dksX1_query_3 : cX1_query.data.toList.drop 67 = dktX1_query_3 := dk_seg dksX1_query_2 23 rfl rfl
theorem dksX1_query_4 : cX1_query.data.toList.drop 91 = dktX1_query_4 := dk_seg dksX1_query_3 24 rfl rfl
theorem dksX1_query_5 : cX1_query.data.toList.drop 113 = dktX1_query_5 := dk_seg dksX1_query_4 22 rfl rfl
theorem dksX1_query_6 : cX1_query.data.toList.drop 133 = dktX1_query_6 := dk_seg dksX1_query_5 20 rfl rfl
theorem dksX1_query_7 : cX1_query.data.toList.drop 157 = dktX1_query_7 := dk_seg dksX1_query_6 24 rfl rfl
theorem dksX1_query_8 : cX1_query.data.toList.drop 180 = dktX1_query_8 := dk_seg dksX1_query_7 23 rfl rfl
theorem dX1_query_0 : decode cX1_query 0 = .ok (.iload_n 1, 1) := dk_27 (dk_at dksX1_query_0 0 rfl rfl)
theorem dX1_query_1 : decode cX1_query 1 = .ok (.i2l, 1) := dk_133 (dk_at dksX1_query_0 1 rfl rfl)
theorem dX1_query_2 : decode cX1_query 2 = .ok (.lconst 0, 1) := dk_9 (dk_at dksX1_query_0 2 rfl rfl)
theorem dX1_query_3 : decode cX1_query 3 = .ok (.aload_n 0, 1) := dk_42 (dk_at dksX1_query_0 3 rfl rfl)
theorem dX1_query_4 : decode cX1_query 4 = .ok (.getfield 193, 3) := dk_180 0 193 (dk_at dksX1_query_0 4 rfl rfl)
theorem dX1_query_7 : decode cX1_query 7 = .ok (.sipush 200, 3) := dk_17 0 200 (dk_at dksX1_query_0 7 rfl rfl)
theorem dX1_query_10 : decode cX1_query 10 = .ok (.invokestatic 474, 3) := dk_184 1 218 (dk_at dksX1_query_0 10 rfl rfl)
theorem dX1_query_13 : decode cX1_query 13 = .ok (.i2l, 1) := dk_133 (dk_at dksX1_query_0 13 rfl rfl)
theorem dX1_query_14 : decode cX1_query 14 = .ok (.invokestatic 64, 3) := dk_184 0 64 (dk_at dksX1_query_0 14 rfl rfl)
theorem dX1_query_17 : decode cX1_query 17 = .ok (.invokestatic 200, 3) := dk_184 0 200 (dk_at dksX1_query_0 17 rfl rfl)
theorem dX1_query_20 : decode cX1_query 20 = .ok (.aload_n 0, 1) := dk_42 (dk_at dksX1_query_0 20 rfl rfl)
theorem dX1_query_21 : decode cX1_query 21 = .ok (.iconst 0, 1) := dk_3 (dk_at dksX1_query_0 21 rfl rfl)
theorem dX1_query_22 : decode cX1_query 22 = .ok (.putfield 193, 3) := dk_181 0 193 (dk_at dksX1_query_1 0 rfl rfl)
theorem dX1_query_25 : decode cX1_query 25 = .ok (.new 477, 3) := dk_187 1 221 (dk_at dksX1_query_1 3 rfl rfl)
theorem dX1_query_28 : decode cX1_query 28 = .ok (.dup, 1) := dk_89 (dk_at dksX1_query_1 6 rfl rfl)
theorem dX1_query_29 : decode cX1_query 29 = .ok (.new 205, 3) := dk_187 0 205 (dk_at dksX1_query_1 7 rfl rfl)
theorem dX1_query_32 : decode cX1_query 32 = .ok (.dup, 1) := dk_89 (dk_at dksX1_query_1 10 rfl rfl)
theorem dX1_query_33 : decode cX1_query 33 = .ok (.aload_n 0, 1) := dk_42 (dk_at dksX1_query_1 11 rfl rfl)
theorem dX1_query_34 : decode cX1_query 34 = .ok (.getfield 96, 3) := dk_180 0 96 (dk_at dksX1_query_1 12 rfl rfl)
theorem dX1_query_37 : decode cX1_query 37 = .ok (.iload_n 1, 1) := dk_27 (dk_at dksX1_query_1 15 rfl rfl)
theorem dX1_query_38 : decode cX1_query 38 = .ok (.ldc_w 479, 3) := dk_19 1 223 (dk_at dksX1_query_1 16 rfl rfl)
theorem dX1_query_41 : decode cX1_query 41 = .ok (.invokespecial 209, 3) := dk_183 0 209 (dk_at dksX1_query_1 19 rfl rfl)
theorem dX1_query_44 : decode cX1_query 44 = .ok (.invokespecial 481, 3) := dk_183 1 225 (dk_at dksX1_query_2 0 rfl rfl)
theorem dX1_query_47 : decode cX1_query 47 = .ok (.astore_n 2, 1) := dk_77 (dk_at dksX1_query_2 3 rfl rfl)
theorem dX1_query_48 : decode cX1_query 48 = .ok (.aload_n 2, 1) := dk_44 (dk_at dksX1_query_2 4 rfl rfl)
theorem dX1_query_49 : decode cX1_query 49 = .ok (.invokevirtual 482, 3) := dk_182 1 226 (dk_at dksX1_query_2 5 rfl rfl)
theorem dX1_query_52 : decode cX1_query 52 = .ok (.astore_n 3, 1) := dk_78 (dk_at dksX1_query_2 8 rfl rfl)
theorem dX1_query_53 : decode cX1_query 53 = .ok (.goto 30, 3) := dk_167 0 30 (dk_at dksX1_query_2 9 rfl rfl)
theorem dX1_query_56 : decode cX1_query 56 = .ok (.astore 4, 2) := dk_58 4 (dk_at dksX1_query_2 12 rfl rfl)
theorem dX1_query_58 : decode cX1_query 58 = .ok (.aload_n 0, 1) := dk_42 (dk_at dksX1_query_2 14 rfl rfl)
theorem dX1_query_59 : decode cX1_query 59 = .ok (.aload 4, 2) := dk_25 4 (dk_at dksX1_query_2 15 rfl rfl)
theorem dX1_query_61 : decode cX1_query 61 = .ok (.invokevirtual 220, 3) := dk_182 0 220 (dk_at dksX1_query_2 17 rfl rfl)
theorem dX1_query_64 : decode cX1_query 64 = .ok (.getfield 224, 3) := dk_180 0 224 (dk_at dksX1_query_2 20 rfl rfl)
theorem dX1_query_67 : decode cX1_query 67 = .ok (.putfield 100, 3) := dk_181 0 100 (dk_at dksX1_query_3 0 rfl rfl)
theorem dX1_query_70 : decode cX1_query 70 = .ok (.ldc_w 417, 3) := dk_19 1 161 (dk_at dksX1_query_3 3 rfl rfl)
theorem dX1_query_73 : decode cX1_query 73 = .ok (.aload 4, 2) := dk_25 4 (dk_at dksX1_query_3 6 rfl rfl)
theorem dX1_query_75 : decode cX1_query 75 = .ok (.invokevirtual 220, 3) := dk_182 0 220 (dk_at dksX1_query_3 8 rfl rfl)
theorem dX1_query_78 : decode cX1_query 78 = .ok (.invokevirtual 229, 3) := dk_182 0 229 (dk_at dksX1_query_3 11 rfl rfl)
theorem dX1_query_81 : decode cX1_query 81 = .ok (.isub, 1) := dk_100 (dk_at dksX1_query_3 14 rfl rfl)
theorem dX1_query_82 : decode cX1_query 82 = .ok (.ireturn, 1) := dk_172 (dk_at dksX1_query_3 15 rfl rfl)
theorem dX1_query_83 : decode cX1_query 83 = .ok (.aload_n 0, 1) := dk_42 (dk_at dksX1_query_3 16 rfl rfl)
theorem dX1_query_84 : decode cX1_query 84 = .ok (.iconst (-1), 1) := dk_2 (dk_at dksX1_query_3 17 rfl rfl)
theorem dX1_query_85 : decode cX1_query 85 = .ok (.putfield 100, 3) := dk_181 0 100 (dk_at dksX1_query_3 18 rfl rfl)
theorem dX1_query_88 : decode cX1_query 88 = .ok (.iconst 0, 1) := dk_3 (dk_at dksX1_query_3 21 rfl rfl)
theorem dX1_query_89 : decode cX1_query 89 = .ok (.istore 4, 2) := dk_54 4 (dk_at dksX1_query_3 22 rfl rfl)
theorem dX1_query_91 : decode cX1_query 91 = .ok (.iconst 0, 1) := dk_3 (dk_at dksX1_query_4 0 rfl rfl)
theorem dX1_query_92 : decode cX1_query 92 = .ok (.istore 5, 2) := dk_54 5 (dk_at dksX1_query_4 1 rfl rfl)
theorem dX1_query_94 : decode cX1_query 94 = .ok (.aload_n 0, 1) := dk_42 (dk_at dksX1_query_4 3 rfl rfl)
theorem dX1_query_95 : decode cX1_query 95 = .ok (.getfield 107, 3) := dk_180 0 107 (dk_at dksX1_query_4 4 rfl rfl)
theorem dX1_query_98 : decode cX1_query 98 = .ok (.getfield 294, 3) := dk_180 1 38 (dk_at dksX1_query_4 7 rfl rfl)
theorem dX1_query_101 : decode cX1_query 101 = .ok (.invokevirtual 297, 3) := dk_182 1 41 (dk_at dksX1_query_4 10 rfl rfl)
theorem dX1_query_104 : decode cX1_query 104 = .ok (.astore 6, 2) := dk_58 6 (dk_at dksX1_query_4 13 rfl rfl)
theorem dX1_query_106 : decode cX1_query 106 = .ok (.aload 6, 2) := dk_25 6 (dk_at dksX1_query_4 15 rfl rfl)
theorem dX1_query_108 : decode cX1_query 108 = .ok (.invokeinterface 301 1, 5) := by decide +kernel
theorem dX1_query_113 : decode cX1_query 113 = .ok (.ifCond .eq 63, 3) := dk_153 0 63 (dk_at dksX1_query_5 0 rfl rfl)
theorem dX1_query_116 : decode cX1_query 116 = .ok (.aload 6, 2) := dk_25 6 (dk_at dksX1_query_5 3 rfl rfl)
theorem dX1_query_118 : decode cX1_query 118 = .ok (.invokeinterface 304 1, 5) := by decide +kernel
theorem dX1_query_123 : decode cX1_query 123 = .ok (.checkcast 306, 3) := dk_192 1 50 (dk_at dksX1_query_5 10 rfl rfl)
theorem dX1_query_126 : decode cX1_query 126 = .ok (.astore 7, 2) := dk_58 7 (dk_at dksX1_query_5 13 rfl rfl)
theorem dX1_query_128 : decode cX1_query 128 = .ok (.aload_n 3, 1) := dk_45 (dk_at dksX1_query_5 15 rfl rfl)
theorem dX1_query_129 : decode cX1_query 129 = .ok (.aload 7, 2) := dk_25 7 (dk_at dksX1_query_5 16 rfl rfl)
theorem dX1_query_131 : decode cX1_query 131 = .ok (.iload 5, 2) := dk_21 5 (dk_at dksX1_query_5 18 rfl rfl)
theorem dX1_query_133 : decode cX1_query 133 = .ok (.invokeinterface 485 3, 5) := by decide +kernel
theorem dX1_query_138 : decode cX1_query 138 = .ok (.istore 8, 2) := dk_54 8 (dk_at dksX1_query_6 5 rfl rfl)
theorem dX1_query_140 : decode cX1_query 140 = .ok (.iload 8, 2) := dk_21 8 (dk_at dksX1_query_6 7 rfl rfl)
theorem dX1_query_142 : decode cX1_query 142 = .ok (.ifCond .eq 13, 3) := dk_153 0 13 (dk_at dksX1_query_6 9 rfl rfl)
theorem dX1_query_145 : decode cX1_query 145 = .ok (.aload_n 2, 1) := dk_44 (dk_at dksX1_query_6 12 rfl rfl)
theorem dX1_query_146 : decode cX1_query 146 = .ok (.getfield 491, 3) := dk_180 1 235 (dk_at dksX1_query_6 13 rfl rfl)
theorem dX1_query_149 : decode cX1_query 149 = .ok (.ifCond .eq 6, 3) := dk_153 0 6 (dk_at dksX1_query_6 16 rfl rfl)
theorem dX1_query_152 : decode cX1_query 152 = .ok (.iload 5, 2) := dk_21 5 (dk_at dksX1_query_6 19 rfl rfl)
theorem dX1_query_154 : decode cX1_query 154 = .ok (.ireturn, 1) := dk_172 (dk_at dksX1_query_6 21 rfl rfl)
theorem dX1_query_155 : decode cX1_query 155 = .ok (.iload 4, 2) := dk_21 4 (dk_at dksX1_query_6 22 rfl rfl)
theorem dX1_query_157 : decode cX1_query 157 = .ok (.iload 8, 2) := dk_21 8 (dk_at dksX1_query_7 0 rfl rfl)
theorem dX1_query_159 : decode cX1_query 159 = .ok (.ifCond .eq 7, 3) := dk_153 0 7 (dk_at dksX1_query_7 2 rfl rfl)
theorem dX1_query_162 : decode cX1_query 162 = .ok (.iconst 1, 1) := dk_4 (dk_at dksX1_query_7 5 rfl rfl)
theorem dX1_query_163 : decode cX1_query 163 = .ok (.goto 4, 3) := dk_167 0 4 (dk_at dksX1_query_7 6 rfl rfl)
theorem dX1_query_166 : decode cX1_query 166 = .ok (.iconst 0, 1) := dk_3 (dk_at dksX1_query_7 9 rfl rfl)
theorem dX1_query_167 : decode cX1_query 167 = .ok (.iadd, 1) := dk_96 (dk_at dksX1_query_7 10 rfl rfl)
theorem dX1_query_168 : decode cX1_query 168 = .ok (.istore 4, 2) := dk_54 4 (dk_at dksX1_query_7 11 rfl rfl)
theorem dX1_query_170 : decode cX1_query 170 = .ok (.iinc 5 1, 3) := dk_132 5 1 (dk_at dksX1_query_7 13 rfl rfl)
theorem dX1_query_173 : decode cX1_query 173 = .ok (.goto (-67), 3) := dk_167 255 189 (dk_at dksX1_query_7 16 rfl rfl)
theorem dX1_query_176 : decode cX1_query 176 = .ok (.aload_n 2, 1) := dk_44 (dk_at dksX1_query_7 19 rfl rfl)
theorem dX1_query_177 : decode cX1_query 177 = .ok (.getfield 491, 3) := dk_180 1 235 (dk_at dksX1_query_7 20 rfl rfl)
theorem dX1_query_180 : decode cX1_query 180 = .ok (.ifCond .eq 7, 3) := dk_153 0 7 (dk_at dksX1_query_8 0 rfl rfl)
theorem dX1_query_183 : decode cX1_query 183 = .ok (.iconst (-1), 1) := dk_2 (dk_at dksX1_query_8 3 rfl rfl)
theorem dX1_query_184 : decode cX1_query 184 = .ok (.goto 5, 3) := dk_167 0 5 (dk_at dksX1_query_8 4 rfl rfl)
theorem dX1_query_187 : decode cX1_query 187 = .ok (.iload 4, 2) := dk_21 4 (dk_at dksX1_query_8 7 rfl rfl)
theorem dX1_query_189 : decode cX1_query 189 = .ok (.ireturn, 1) := dk_172 (dk_at dksX1_query_8 9 rfl rfl)
abbrev cX1_property : ByteArray := prog_1_method_14_code
def yX1_property : MethodName := ⟨RX1, "property", "(Ljava/lang/String;)LThreeBodies$Value;"⟩
def dkwX1_property_7 : List UInt8 := [186, 0, 92, 0, 0, 167, 0, 4, 1, 176]
abbrev dktX1_property_7 : List UInt8 := dkwX1_property_7 ++ []
def dkwX1_property_6 : List UInt8 := [186, 0, 86, 0, 0, 167, 0, 28, 186, 0, 90, 0, 0, 167, 0, 20, 186, 0, 91, 0, 0, 167, 0, 12]
abbrev dktX1_property_6 : List UInt8 := dkwX1_property_6 ++ dktX1_property_7
def dkwX1_property_5 : List UInt8 := [170, 0, 0, 0, 0, 62, 0, 0, 0, 0, 0, 0, 0, 3, 0, 0, 0, 30, 0, 0, 0, 38, 0, 0, 0, 46, 0, 0, 0, 54]
abbrev dktX1_property_5 : List UInt8 := dkwX1_property_5 ++ dktX1_property_6
def dkwX1_property_4 : List UInt8 := [153, 0, 5, 6, 61, 28]
abbrev dktX1_property_4 : List UInt8 := dkwX1_property_4 ++ dktX1_property_5
def dkwX1_property_3 : List UInt8 := [61, 167, 0, 28, 43, 18, 82, 182, 0, 76, 153, 0, 19, 5, 61, 167, 0, 14, 43, 18, 84, 182, 0, 76]
abbrev dktX1_property_3 : List UInt8 := dkwX1_property_3 ++ dktX1_property_4
def dkwX1_property_2 : List UInt8 := [43, 18, 74, 182, 0, 76, 153, 0, 47, 3, 61, 167, 0, 42, 43, 18, 80, 182, 0, 76, 153, 0, 33, 4]
abbrev dktX1_property_2 : List UInt8 := dkwX1_property_2 ++ dktX1_property_3
def dkwX1_property_1 : List UInt8 := [171, 0, 0, 0, 0, 0, 0, 97, 0, 0, 0, 4, 194, 88, 219, 73, 0, 0, 0, 44, 0, 52, 98, 218, 0, 0, 0, 72, 5, 165, 220, 14, 0, 0, 0, 58, 17, 49, 139, 245, 0, 0, 0, 86]
abbrev dktX1_property_1 : List UInt8 := dkwX1_property_1 ++ dktX1_property_2
def dkwX1_property_0 : List UInt8 := [42, 76, 2, 61, 43, 182, 0, 68]
abbrev dktX1_property_0 : List UInt8 := dkwX1_property_0 ++ dktX1_property_1
theorem dksX1_property_0 : cX1_property.data.toList.drop 0 = dktX1_property_0 := by decide +kernel
theorem dksX1_property_1 : cX1_property.data.toList.drop 8 = dktX1_property_1 := dk_seg dksX1_property_0 8 rfl rfl
theorem dksX1_property_2 : cX1_property.data.toList.drop 52 = dktX1_property_2 := dk_seg dksX1_property_1 44 rfl rfl
theorem dksX1_property_3 : cX1_property.data.toList.drop 76 = dktX1_property_3 := dk_seg dksX1_property_2 24 rfl rfl
theorem dksX1_property_4 : cX1_property.data.toList.drop 100 = dktX1_property_4 := dk_seg dksX1_property_3 24 rfl rfl
theorem dksX1_property_5 : cX1_property.data.toList.drop 106 = dktX1_property_5 := dk_seg dksX1_property_4 6 rfl rfl
theorem dksX1_property_6 : cX1_property.data.toList.drop 136 = dktX1_property_6 := dk_seg dksX1_property_5 30 rfl rfl
theorem dksX1_property_7 : cX1_property.data.toList.drop 160 = dktX1_property_7 := dk_seg dksX1_property_6 24 rfl rfl
theorem dX1_property_0 : decode cX1_property 0 = .ok (.aload_n 0, 1) := dk_42 (dk_at dksX1_property_0 0 rfl rfl)
theorem dX1_property_1 : decode cX1_property 1 = .ok (.astore_n 1, 1) := dk_76 (dk_at dksX1_property_0 1 rfl rfl)
theorem dX1_property_2 : decode cX1_property 2 = .ok (.iconst (-1), 1) := dk_2 (dk_at dksX1_property_0 2 rfl rfl)
theorem dX1_property_3 : decode cX1_property 3 = .ok (.istore_n 2, 1) := dk_61 (dk_at dksX1_property_0 3 rfl rfl)
theorem dX1_property_4 : decode cX1_property 4 = .ok (.aload_n 1, 1) := dk_43 (dk_at dksX1_property_0 4 rfl rfl)
theorem dX1_property_5 : decode cX1_property 5 = .ok (.invokevirtual 68, 3) := dk_182 0 68 (dk_at dksX1_property_0 5 rfl rfl)
theorem dX1_property_8 : decode cX1_property 8 = .ok (.lookupswitch 97 #[(-1034364087, 44), (3433178, 72), (94755854, 58), (288459765, 86)], 44) := by decide +kernel
theorem dX1_property_52 : decode cX1_property 52 = .ok (.aload_n 1, 1) := dk_43 (dk_at dksX1_property_2 0 rfl rfl)
theorem dX1_property_53 : decode cX1_property 53 = .ok (.ldc 74, 2) := dk_18 74 (dk_at dksX1_property_2 1 rfl rfl)
theorem dX1_property_55 : decode cX1_property 55 = .ok (.invokevirtual 76, 3) := dk_182 0 76 (dk_at dksX1_property_2 3 rfl rfl)
theorem dX1_property_58 : decode cX1_property 58 = .ok (.ifCond .eq 47, 3) := dk_153 0 47 (dk_at dksX1_property_2 6 rfl rfl)
theorem dX1_property_61 : decode cX1_property 61 = .ok (.iconst 0, 1) := dk_3 (dk_at dksX1_property_2 9 rfl rfl)
theorem dX1_property_62 : decode cX1_property 62 = .ok (.istore_n 2, 1) := dk_61 (dk_at dksX1_property_2 10 rfl rfl)
theorem dX1_property_63 : decode cX1_property 63 = .ok (.goto 42, 3) := dk_167 0 42 (dk_at dksX1_property_2 11 rfl rfl)
theorem dX1_property_66 : decode cX1_property 66 = .ok (.aload_n 1, 1) := dk_43 (dk_at dksX1_property_2 14 rfl rfl)
theorem dX1_property_67 : decode cX1_property 67 = .ok (.ldc 80, 2) := dk_18 80 (dk_at dksX1_property_2 15 rfl rfl)
theorem dX1_property_69 : decode cX1_property 69 = .ok (.invokevirtual 76, 3) := dk_182 0 76 (dk_at dksX1_property_2 17 rfl rfl)
theorem dX1_property_72 : decode cX1_property 72 = .ok (.ifCond .eq 33, 3) := dk_153 0 33 (dk_at dksX1_property_2 20 rfl rfl)
theorem dX1_property_75 : decode cX1_property 75 = .ok (.iconst 1, 1) := dk_4 (dk_at dksX1_property_2 23 rfl rfl)
theorem dX1_property_76 : decode cX1_property 76 = .ok (.istore_n 2, 1) := dk_61 (dk_at dksX1_property_3 0 rfl rfl)
theorem dX1_property_77 : decode cX1_property 77 = .ok (.goto 28, 3) := dk_167 0 28 (dk_at dksX1_property_3 1 rfl rfl)
theorem dX1_property_80 : decode cX1_property 80 = .ok (.aload_n 1, 1) := dk_43 (dk_at dksX1_property_3 4 rfl rfl)
theorem dX1_property_81 : decode cX1_property 81 = .ok (.ldc 82, 2) := dk_18 82 (dk_at dksX1_property_3 5 rfl rfl)
theorem dX1_property_83 : decode cX1_property 83 = .ok (.invokevirtual 76, 3) := dk_182 0 76 (dk_at dksX1_property_3 7 rfl rfl)
theorem dX1_property_86 : decode cX1_property 86 = .ok (.ifCond .eq 19, 3) := dk_153 0 19 (dk_at dksX1_property_3 10 rfl rfl)
theorem dX1_property_89 : decode cX1_property 89 = .ok (.iconst 2, 1) := dk_5 (dk_at dksX1_property_3 13 rfl rfl)
theorem dX1_property_90 : decode cX1_property 90 = .ok (.istore_n 2, 1) := dk_61 (dk_at dksX1_property_3 14 rfl rfl)
theorem dX1_property_91 : decode cX1_property 91 = .ok (.goto 14, 3) := dk_167 0 14 (dk_at dksX1_property_3 15 rfl rfl)
theorem dX1_property_94 : decode cX1_property 94 = .ok (.aload_n 1, 1) := dk_43 (dk_at dksX1_property_3 18 rfl rfl)
theorem dX1_property_95 : decode cX1_property 95 = .ok (.ldc 84, 2) := dk_18 84 (dk_at dksX1_property_3 19 rfl rfl)
theorem dX1_property_97 : decode cX1_property 97 = .ok (.invokevirtual 76, 3) := dk_182 0 76 (dk_at dksX1_property_3 21 rfl rfl)
theorem dX1_property_100 : decode cX1_property 100 = .ok (.ifCond .eq 5, 3) := dk_153 0 5 (dk_at dksX1_property_4 0 rfl rfl)
theorem dX1_property_103 : decode cX1_property 103 = .ok (.iconst 3, 1) := dk_6 (dk_at dksX1_property_4 3 rfl rfl)
theorem dX1_property_104 : decode cX1_property 104 = .ok (.istore_n 2, 1) := dk_61 (dk_at dksX1_property_4 4 rfl rfl)
theorem dX1_property_105 : decode cX1_property 105 = .ok (.iload_n 2, 1) := dk_28 (dk_at dksX1_property_4 5 rfl rfl)
theorem dX1_property_106 : decode cX1_property 106 = .ok (.tableswitch 62 0 3 #[30, 38, 46, 54], 30) := by decide +kernel
theorem dX1_property_136 : decode cX1_property 136 = .ok (.invokedynamic 86, 5) := by decide +kernel
theorem dX1_property_141 : decode cX1_property 141 = .ok (.goto 28, 3) := dk_167 0 28 (dk_at dksX1_property_6 5 rfl rfl)
theorem dX1_property_144 : decode cX1_property 144 = .ok (.invokedynamic 90, 5) := by decide +kernel
theorem dX1_property_149 : decode cX1_property 149 = .ok (.goto 20, 3) := dk_167 0 20 (dk_at dksX1_property_6 13 rfl rfl)
theorem dX1_property_152 : decode cX1_property 152 = .ok (.invokedynamic 91, 5) := by decide +kernel
theorem dX1_property_157 : decode cX1_property 157 = .ok (.goto 12, 3) := dk_167 0 12 (dk_at dksX1_property_6 21 rfl rfl)
theorem dX1_property_160 : decode cX1_property 160 = .ok (.invokedynamic 92, 5) := by decide +kernel
theorem dX1_property_165 : decode cX1_property 165 = .ok (.goto 4, 3) := dk_167 0 4 (dk_at dksX1_property_7 5 rfl rfl)
theorem dX1_property_168 : decode cX1_property 168 = .ok (.aconst_null, 1) := dk_1 (dk_at dksX1_property_7 8 rfl rfl)
theorem dX1_property_169 : decode cX1_property 169 = .ok (.areturn, 1) := dk_176 (dk_at dksX1_property_7 9 rfl rfl)
abbrev cX1_lambda_property_8 : ByteArray := prog_1_method_70_code
def yX1_lambda_property_8 : MethodName := ⟨RX1, "lambda$property$8", "(LThreeBodies$Approach;I)I"⟩
theorem dX1_lambda_property_8_0 : decode cX1_lambda_property_8 0 = .ok (.iload_n 1, 1) := by decide +kernel
theorem dX1_lambda_property_8_1 : decode cX1_lambda_property_8 1 = .ok (.ireturn, 1) := by decide +kernel
abbrev cX1_lambda_property_9 : ByteArray := prog_1_method_69_code
def yX1_lambda_property_9 : MethodName := ⟨RX1, "lambda$property$9", "(LThreeBodies$Approach;I)I"⟩
theorem dX1_lambda_property_9_0 : decode cX1_lambda_property_9 0 = .ok (.aload_n 0, 1) := by decide +kernel
theorem dX1_lambda_property_9_1 : decode cX1_lambda_property_9 1 = .ok (.getfield 312, 3) := by decide +kernel
theorem dX1_lambda_property_9_4 : decode cX1_lambda_property_9 4 = .ok (.ireturn, 1) := by decide +kernel
abbrev cX1_lambda_property_10 : ByteArray := prog_1_method_68_code
def yX1_lambda_property_10 : MethodName := ⟨RX1, "lambda$property$10", "(LThreeBodies$Approach;I)I"⟩
theorem dX1_lambda_property_10_0 : decode cX1_lambda_property_10 0 = .ok (.aload_n 0, 1) := by decide +kernel
theorem dX1_lambda_property_10_1 : decode cX1_lambda_property_10 1 = .ok (.getfield 313, 3) := by decide +kernel
theorem dX1_lambda_property_10_4 : decode cX1_lambda_property_10 4 = .ok (.ireturn, 1) := by decide +kernel
abbrev cX1_lambda_property_11 : ByteArray := prog_1_method_67_code
def yX1_lambda_property_11 : MethodName := ⟨RX1, "lambda$property$11", "(LThreeBodies$Approach;I)I"⟩
theorem dX1_lambda_property_11_0 : decode cX1_lambda_property_11 0 = .ok (.aload_n 0, 1) := by decide +kernel
theorem dX1_lambda_property_11_1 : decode cX1_lambda_property_11 1 = .ok (.getfield 315, 3) := by decide +kernel
theorem dX1_lambda_property_11_4 : decode cX1_lambda_property_11 4 = .ok (.ireturn, 1) := by decide +kernel
theorem q99 : (Jvm.Cond.initialized "ThreeBodies") ∈ lw_all := lw_g (lw_at lw_m1 1 rfl) rfl
theorem q154 : (Jvm.Cond.instantiable "ThreeBodies" (12 : Nat)) ∈ lw_all := lw_g (lw_at lw_m1 56 rfl) rfl
theorem q156 : (Jvm.Cond.instanceMethod ({ cls := "ThreeBodies", name := "<init>", desc := "()V" } : Jvm.MethodName)) ∈ lw_all := lw_g (lw_at lw_m1 58 rfl) rfl
theorem q157 : (Jvm.Cond.code ({ cls := "ThreeBodies", name := "<init>", desc := "()V" } : Jvm.MethodName) prog_1_method_15_code (1 : Nat) (Option.none : Option Jvm.ClassFile.FieldType)) ∈ lw_all := lw_g (lw_at lw_m1 59 rfl) rfl
theorem q158 : (Jvm.Cond.methodLink "ThreeBodies" (93 : Nat) ({ cls := "java/lang/Object", name := "<init>", desc := "()V" } : Jvm.MethodName)) ∈ lw_all := lw_g (lw_at lw_m1 60 rfl) rfl
theorem q161 : (Jvm.Cond.classLink "ThreeBodies" (104 : Nat) "ThreeBodies$State") ∈ lw_all := lw_g (lw_at lw_m1 63 rfl) rfl
theorem q163 : (Jvm.Cond.methodLinkNest "ThreeBodies" (106 : Nat) ({ cls := "ThreeBodies$State", name := "<init>", desc := "()V" } : Jvm.MethodName) "ThreeBodies") ∈ lw_tbl := lw_at lw_m1 65 rfl
theorem q176 : (Jvm.Cond.fieldLinkNest "ThreeBodies" (264 : Nat) "ThreeBodies$Bodies" "settings" "[I" "ThreeBodies") ∈ lw_tbl := lw_at lw_m1 78 rfl
theorem q179 : (Jvm.Cond.fieldLinkNest "ThreeBodies" (247 : Nat) "ThreeBodies$Bodies" "mass" "[I" "ThreeBodies") ∈ lw_tbl := lw_at lw_m1 81 rfl
theorem q183 : (Jvm.Cond.fieldLinkNest "ThreeBodies" (251 : Nat) "ThreeBodies$Bodies" "x" "[I" "ThreeBodies") ∈ lw_tbl := lw_at lw_m1 85 rfl
theorem q187 : (Jvm.Cond.fieldLinkNest "ThreeBodies" (253 : Nat) "ThreeBodies$Bodies" "y" "[I" "ThreeBodies") ∈ lw_tbl := lw_at lw_m1 89 rfl
theorem q190 : (Jvm.Cond.fieldLinkNest "ThreeBodies" (255 : Nat) "ThreeBodies$Bodies" "px" "[J" "ThreeBodies") ∈ lw_tbl := lw_at lw_m1 92 rfl
theorem q193 : (Jvm.Cond.fieldLinkNest "ThreeBodies" (259 : Nat) "ThreeBodies$Bodies" "py" "[J" "ThreeBodies") ∈ lw_tbl := lw_at lw_m1 95 rfl
theorem q200 : (Jvm.Cond.fieldLinkNest "ThreeBodies" (241 : Nat) "ThreeBodies$Bodies" "clock" "I" "ThreeBodies") ∈ lw_tbl := lw_at lw_m1 102 rfl
theorem q272 : (Jvm.Cond.laysStatic "ThreeBodies" "ONE" "[I") ∈ lw_tbl := lw_at lw_m1 174 rfl
theorem q274 : (Jvm.Cond.laysStatic "ThreeBodies" "OTHER" "[I") ∈ lw_tbl := lw_at lw_m1 176 rfl
theorem q284 : (Jvm.Cond.static ({ cls := "ThreeBodies", name := "distance", desc := "(JJ)I" } : Jvm.MethodName)) ∈ lw_all := lw_g (lw_at lw_m1 186 rfl) rfl
theorem q285 : (Jvm.Cond.code ({ cls := "ThreeBodies", name := "distance", desc := "(JJ)I" } : Jvm.MethodName) prog_1_method_4_code (12 : Nat) (Option.some Jvm.ClassFile.FieldType.int)) ∈ lw_all := lw_g (lw_at lw_m1 187 rfl) rfl
theorem q286 : (Jvm.Cond.constantLong "ThreeBodies" (10 : Nat) (300000 : Int64)) ∈ lw_all := lw_g (lw_at lw_m1 188 rfl) rfl
theorem q287 : (Jvm.Cond.constantLong "ThreeBodies" (12 : Nat) (2 : Int64)) ∈ lw_all := lw_g (lw_at lw_m1 189 rfl) rfl
theorem q290 : (Jvm.Cond.fieldLinkNest "ThreeBodies" (238 : Nat) "ThreeBodies$State" "bodies" "LThreeBodies$Bodies;" "ThreeBodies") ∈ lw_tbl := lw_at lw_m1 192 rfl
theorem q292 : (Jvm.Cond.fieldLinkNest "ThreeBodies" (294 : Nat) "ThreeBodies$State" "approaches" "Ljava/util/ArrayDeque;" "ThreeBodies") ∈ lw_tbl := lw_at lw_m1 194 rfl
theorem q296 : (Jvm.Cond.fieldLinkNest "ThreeBodies" (169 : Nat) "ThreeBodies$State" "remembered" "I" "ThreeBodies") ∈ lw_tbl := lw_at lw_m1 198 rfl
theorem q298 : (Jvm.Cond.fieldLinkNest "ThreeBodies" (291 : Nat) "ThreeBodies$State" "crossings" "I" "ThreeBodies") ∈ lw_tbl := lw_at lw_m1 200 rfl
theorem q300 : (Jvm.Cond.fieldLinkNest "ThreeBodies" (288 : Nat) "ThreeBodies$State" "lowest" "J" "ThreeBodies") ∈ lw_tbl := lw_at lw_m1 202 rfl
theorem q302 : (Jvm.Cond.fieldLinkNest "ThreeBodies" (284 : Nat) "ThreeBodies$State" "highest" "J" "ThreeBodies") ∈ lw_tbl := lw_at lw_m1 204 rfl
theorem q320 : (Jvm.Cond.classLink "ThreeBodies" (111 : Nat) "java/util/ArrayDeque") ∈ lw_all := lw_g (lw_at lw_m1 222 rfl) rfl
theorem q321 : (Jvm.Cond.methodLink "ThreeBodies" (113 : Nat) ({ cls := "java/util/ArrayDeque", name := "<init>", desc := "()V" } : Jvm.MethodName)) ∈ lw_all := lw_g (lw_at lw_m1 223 rfl) rfl
theorem q322 : (Jvm.Cond.methodLink "ThreeBodies" (118 : Nat) ({ cls := "ThreeBodies", name := "schemes", desc := "()[[LThreeBodies$Part;" } : Jvm.MethodName)) ∈ lw_all := lw_g (lw_at lw_m1 224 rfl) rfl
theorem q323 : (Jvm.Cond.static ({ cls := "ThreeBodies", name := "schemes", desc := "()[[LThreeBodies$Part;" } : Jvm.MethodName)) ∈ lw_all := lw_g (lw_at lw_m1 225 rfl) rfl
theorem q324 : (Jvm.Cond.code ({ cls := "ThreeBodies", name := "schemes", desc := "()[[LThreeBodies$Part;" } : Jvm.MethodName) prog_1_method_6_code (5 : Nat) (Option.some (Jvm.ClassFile.FieldType.array (Jvm.ClassFile.FieldType.array (Jvm.ClassFile.FieldType.object "ThreeBodies$Part"))))) ∈ lw_all := lw_g (lw_at lw_m1 226 rfl) rfl
theorem q325 : (Jvm.Cond.static ({ cls := "ThreeBodies", name := "lambda$schemes$0", desc := "(LThreeBodies$Bodies;I)V" } : Jvm.MethodName)) ∈ lw_all := lw_g (lw_at lw_m1 227 rfl) rfl
theorem q326 : (Jvm.Cond.code ({ cls := "ThreeBodies", name := "lambda$schemes$0", desc := "(LThreeBodies$Bodies;I)V" } : Jvm.MethodName) prog_1_method_78_code (2 : Nat) (Option.none : Option Jvm.ClassFile.FieldType)) ∈ lw_all := lw_g (lw_at lw_m1 228 rfl) rfl
theorem q327 : (Jvm.Cond.methodLink "ThreeBodies" (509 : Nat) ({ cls := "ThreeBodies$Bodies", name := "kick", desc := "(II)V" } : Jvm.MethodName)) ∈ lw_all := lw_g (lw_at lw_m1 229 rfl) rfl
theorem q340 : (Jvm.Cond.static ({ cls := "ThreeBodies", name := "inRange", desc := "(JJJ)Z" } : Jvm.MethodName)) ∈ lw_all := lw_g (lw_at lw_m2 2 rfl) rfl
theorem q341 : (Jvm.Cond.code ({ cls := "ThreeBodies", name := "inRange", desc := "(JJJ)Z" } : Jvm.MethodName) prog_1_method_1_code (6 : Nat) (Option.some Jvm.ClassFile.FieldType.boolean)) ∈ lw_all := lw_g (lw_at lw_m2 3 rfl) rfl
theorem q408 : (Jvm.Cond.static ({ cls := "ThreeBodies", name := "lambda$schemes$1", desc := "(LThreeBodies$Bodies;I)V" } : Jvm.MethodName)) ∈ lw_all := lw_g (lw_at lw_m2 70 rfl) rfl
theorem q409 : (Jvm.Cond.code ({ cls := "ThreeBodies", name := "lambda$schemes$1", desc := "(LThreeBodies$Bodies;I)V" } : Jvm.MethodName) prog_1_method_77_code (2 : Nat) (Option.none : Option Jvm.ClassFile.FieldType)) ∈ lw_all := lw_g (lw_at lw_m2 71 rfl) rfl
theorem q410 : (Jvm.Cond.static ({ cls := "ThreeBodies", name := "lambda$schemes$2", desc := "(LThreeBodies$Bodies;I)V" } : Jvm.MethodName)) ∈ lw_all := lw_g (lw_at lw_m2 72 rfl) rfl
theorem q411 : (Jvm.Cond.code ({ cls := "ThreeBodies", name := "lambda$schemes$2", desc := "(LThreeBodies$Bodies;I)V" } : Jvm.MethodName) prog_1_method_76_code (2 : Nat) (Option.none : Option Jvm.ClassFile.FieldType)) ∈ lw_all := lw_g (lw_at lw_m2 73 rfl) rfl
theorem q412 : (Jvm.Cond.methodLink "ThreeBodies" (506 : Nat) ({ cls := "ThreeBodies$Bodies", name := "drift", desc := "(II)V" } : Jvm.MethodName)) ∈ lw_all := lw_g (lw_at lw_m2 74 rfl) rfl
theorem q424 : (Jvm.Cond.static ({ cls := "ThreeBodies", name := "lambda$schemes$3", desc := "(LThreeBodies$Bodies;I)V" } : Jvm.MethodName)) ∈ lw_all := lw_g (lw_at lw_m2 86 rfl) rfl
theorem q425 : (Jvm.Cond.code ({ cls := "ThreeBodies", name := "lambda$schemes$3", desc := "(LThreeBodies$Bodies;I)V" } : Jvm.MethodName) prog_1_method_75_code (2 : Nat) (Option.none : Option Jvm.ClassFile.FieldType)) ∈ lw_all := lw_g (lw_at lw_m2 87 rfl) rfl
theorem q426 : (Jvm.Cond.classLink "ThreeBodies" (31 : Nat) "[LThreeBodies$Part;") ∈ lw_all := lw_g (lw_at lw_m2 88 rfl) rfl
theorem q429 : (Jvm.Cond.classLink "ThreeBodies" (33 : Nat) "ThreeBodies$Part") ∈ lw_all := lw_g (lw_at lw_m2 91 rfl) rfl
theorem q430 : (Jvm.Cond.methodLink "ThreeBodies" (35 : Nat) ({ cls := "ThreeBodies", name := "row", desc := "([LThreeBodies$Part;)[LThreeBodies$Part;" } : Jvm.MethodName)) ∈ lw_all := lw_g (lw_at lw_m2 92 rfl) rfl
theorem q431 : (Jvm.Cond.static ({ cls := "ThreeBodies", name := "row", desc := "([LThreeBodies$Part;)[LThreeBodies$Part;" } : Jvm.MethodName)) ∈ lw_all := lw_g (lw_at lw_m2 93 rfl) rfl
theorem q432 : (Jvm.Cond.code ({ cls := "ThreeBodies", name := "row", desc := "([LThreeBodies$Part;)[LThreeBodies$Part;" } : Jvm.MethodName) prog_1_method_7_code (1 : Nat) (Option.some (Jvm.ClassFile.FieldType.array (Jvm.ClassFile.FieldType.object "ThreeBodies$Part")))) ∈ lw_all := lw_g (lw_at lw_m2 94 rfl) rfl
theorem q433 : (Jvm.Cond.methodLink "ThreeBodies" (125 : Nat) ({ cls := "ThreeBodies", name := "measures", desc := "()[LThreeBodies$Measure;" } : Jvm.MethodName)) ∈ lw_all := lw_g (lw_at lw_m2 95 rfl) rfl
theorem q434 : (Jvm.Cond.static ({ cls := "ThreeBodies", name := "measures", desc := "()[LThreeBodies$Measure;" } : Jvm.MethodName)) ∈ lw_all := lw_g (lw_at lw_m2 96 rfl) rfl
theorem q435 : (Jvm.Cond.code ({ cls := "ThreeBodies", name := "measures", desc := "()[LThreeBodies$Measure;" } : Jvm.MethodName) prog_1_method_8_code (1 : Nat) (Option.some (Jvm.ClassFile.FieldType.array (Jvm.ClassFile.FieldType.object "ThreeBodies$Measure")))) ∈ lw_all := lw_g (lw_at lw_m2 97 rfl) rfl
theorem q436 : (Jvm.Cond.classLink "ThreeBodies" (41 : Nat) "ThreeBodies$Measure") ∈ lw_all := lw_g (lw_at lw_m2 98 rfl) rfl
theorem q438 : (Jvm.Cond.static ({ cls := "ThreeBodies", name := "lambda$measures$4", desc := "(LThreeBodies$Path;I)I" } : Jvm.MethodName)) ∈ lw_all := lw_g (lw_at lw_m2 100 rfl) rfl
theorem q439 : (Jvm.Cond.code ({ cls := "ThreeBodies", name := "lambda$measures$4", desc := "(LThreeBodies$Path;I)I" } : Jvm.MethodName) prog_1_method_74_code (2 : Nat) (Option.some Jvm.ClassFile.FieldType.int)) ∈ lw_all := lw_g (lw_at lw_m2 101 rfl) rfl
theorem q440 : (Jvm.Cond.methodLink "ThreeBodies" (503 : Nat) ({ cls := "ThreeBodies", name := "chaseError", desc := "(LThreeBodies$Path;I)I" } : Jvm.MethodName)) ∈ lw_all := lw_g (lw_at lw_m2 102 rfl) rfl
theorem q441 : (Jvm.Cond.static ({ cls := "ThreeBodies", name := "chaseError", desc := "(LThreeBodies$Path;I)I" } : Jvm.MethodName)) ∈ lw_all := lw_g (lw_at lw_m2 103 rfl) rfl
theorem q442 : (Jvm.Cond.code ({ cls := "ThreeBodies", name := "chaseError", desc := "(LThreeBodies$Path;I)I" } : Jvm.MethodName) prog_1_method_9_code (6 : Nat) (Option.some Jvm.ClassFile.FieldType.int)) ∈ lw_all := lw_g (lw_at lw_m2 104 rfl) rfl
theorem q443 : (Jvm.Cond.methodLink "ThreeBodies" (59 : Nat) ({ cls := "ThreeBodies", name := "gap", desc := "(II)I" } : Jvm.MethodName)) ∈ lw_all := lw_g (lw_at lw_m2 105 rfl) rfl
theorem q444 : (Jvm.Cond.static ({ cls := "ThreeBodies", name := "gap", desc := "(II)I" } : Jvm.MethodName)) ∈ lw_all := lw_g (lw_at lw_m2 106 rfl) rfl
theorem q445 : (Jvm.Cond.code ({ cls := "ThreeBodies", name := "gap", desc := "(II)I" } : Jvm.MethodName) prog_1_method_5_code (2 : Nat) (Option.some Jvm.ClassFile.FieldType.int)) ∈ lw_all := lw_g (lw_at lw_m2 107 rfl) rfl
theorem q446 : (Jvm.Cond.methodLink "ThreeBodies" (14 : Nat) ({ cls := "java/lang/Math", name := "abs", desc := "(I)I" } : Jvm.MethodName)) ∈ lw_all := lw_g (lw_at lw_m2 108 rfl) rfl
theorem q449 : (Jvm.Cond.methodLink "ThreeBodies" (20 : Nat) ({ cls := "java/lang/Math", name := "max", desc := "(II)I" } : Jvm.MethodName)) ∈ lw_all := lw_g (lw_at lw_m2 111 rfl) rfl
theorem q452 : (Jvm.Cond.static ({ cls := "ThreeBodies", name := "lambda$measures$5", desc := "(LThreeBodies$Path;I)I" } : Jvm.MethodName)) ∈ lw_all := lw_g (lw_at lw_m2 114 rfl) rfl
theorem q453 : (Jvm.Cond.code ({ cls := "ThreeBodies", name := "lambda$measures$5", desc := "(LThreeBodies$Path;I)I" } : Jvm.MethodName) prog_1_method_73_code (2 : Nat) (Option.some Jvm.ClassFile.FieldType.int)) ∈ lw_all := lw_g (lw_at lw_m2 115 rfl) rfl
theorem q454 : (Jvm.Cond.methodLink "ThreeBodies" (500 : Nat) ({ cls := "ThreeBodies", name := "centreError", desc := "(LThreeBodies$Path;I)I" } : Jvm.MethodName)) ∈ lw_all := lw_g (lw_at lw_m2 116 rfl) rfl
theorem q455 : (Jvm.Cond.static ({ cls := "ThreeBodies", name := "centreError", desc := "(LThreeBodies$Path;I)I" } : Jvm.MethodName)) ∈ lw_all := lw_g (lw_at lw_m2 117 rfl) rfl
theorem q456 : (Jvm.Cond.code ({ cls := "ThreeBodies", name := "centreError", desc := "(LThreeBodies$Path;I)I" } : Jvm.MethodName) prog_1_method_10_code (6 : Nat) (Option.some Jvm.ClassFile.FieldType.int)) ∈ lw_all := lw_g (lw_at lw_m2 118 rfl) rfl
theorem q457 : (Jvm.Cond.static ({ cls := "ThreeBodies", name := "lambda$measures$6", desc := "(LThreeBodies$Path;I)I" } : Jvm.MethodName)) ∈ lw_all := lw_g (lw_at lw_m2 119 rfl) rfl
theorem q458 : (Jvm.Cond.code ({ cls := "ThreeBodies", name := "lambda$measures$6", desc := "(LThreeBodies$Path;I)I" } : Jvm.MethodName) prog_1_method_72_code (2 : Nat) (Option.some Jvm.ClassFile.FieldType.int)) ∈ lw_all := lw_g (lw_at lw_m2 120 rfl) rfl
theorem q459 : (Jvm.Cond.methodLink "ThreeBodies" (497 : Nat) ({ cls := "ThreeBodies", name := "returnError", desc := "(LThreeBodies$Path;I)I" } : Jvm.MethodName)) ∈ lw_all := lw_g (lw_at lw_m2 121 rfl) rfl
theorem q460 : (Jvm.Cond.static ({ cls := "ThreeBodies", name := "returnError", desc := "(LThreeBodies$Path;I)I" } : Jvm.MethodName)) ∈ lw_all := lw_g (lw_at lw_m2 122 rfl) rfl
theorem q461 : (Jvm.Cond.code ({ cls := "ThreeBodies", name := "returnError", desc := "(LThreeBodies$Path;I)I" } : Jvm.MethodName) prog_1_method_11_code (4 : Nat) (Option.some Jvm.ClassFile.FieldType.int)) ∈ lw_all := lw_g (lw_at lw_m2 123 rfl) rfl
theorem q462 : (Jvm.Cond.static ({ cls := "ThreeBodies", name := "lambda$measures$7", desc := "(LThreeBodies$Path;I)I" } : Jvm.MethodName)) ∈ lw_all := lw_g (lw_at lw_m2 124 rfl) rfl
theorem q463 : (Jvm.Cond.code ({ cls := "ThreeBodies", name := "lambda$measures$7", desc := "(LThreeBodies$Path;I)I" } : Jvm.MethodName) prog_1_method_71_code (2 : Nat) (Option.some Jvm.ClassFile.FieldType.int)) ∈ lw_all := lw_g (lw_at lw_m2 125 rfl) rfl
theorem q464 : (Jvm.Cond.methodLink "ThreeBodies" (494 : Nat) ({ cls := "ThreeBodies", name := "mirrorError", desc := "(LThreeBodies$Path;I)I" } : Jvm.MethodName)) ∈ lw_all := lw_g (lw_at lw_m2 126 rfl) rfl
theorem q465 : (Jvm.Cond.static ({ cls := "ThreeBodies", name := "mirrorError", desc := "(LThreeBodies$Path;I)I" } : Jvm.MethodName)) ∈ lw_all := lw_g (lw_at lw_m2 127 rfl) rfl
theorem q466 : (Jvm.Cond.code ({ cls := "ThreeBodies", name := "mirrorError", desc := "(LThreeBodies$Path;I)I" } : Jvm.MethodName) prog_1_method_12_code (6 : Nat) (Option.some Jvm.ClassFile.FieldType.int)) ∈ lw_all := lw_g (lw_at lw_m2 128 rfl) rfl
theorem q467 : (Jvm.Cond.classLink "ThreeBodies" (132 : Nat) "java/lang/StringBuilder") ∈ lw_all := lw_g (lw_at lw_m2 129 rfl) rfl
theorem q469 : (Jvm.Cond.methodLink "ThreeBodies" (134 : Nat) ({ cls := "java/lang/StringBuilder", name := "<init>", desc := "()V" } : Jvm.MethodName)) ∈ lw_all := lw_g (lw_at lw_m2 131 rfl) rfl
theorem q499 : (Jvm.Cond.classLink "ThreeBodies" (139 : Nat) "ThreeBodies$Bodies") ∈ lw_all := lw_g (lw_at lw_m2 161 rfl) rfl
theorem q500 : (Jvm.Cond.methodLinkNest "ThreeBodies" (141 : Nat) ({ cls := "ThreeBodies$Bodies", name := "<init>", desc := "()V" } : Jvm.MethodName) "ThreeBodies") ∈ lw_tbl := lw_at lw_m2 162 rfl
theorem q501 : (Jvm.Cond.classLink "ThreeBodies" (51 : Nat) "ThreeBodies$Path") ∈ lw_all := lw_g (lw_at lw_m2 163 rfl) rfl
theorem q503 : (Jvm.Cond.methodLinkNest "ThreeBodies" (149 : Nat) ({ cls := "ThreeBodies$Path", name := "<init>", desc := "()V" } : Jvm.MethodName) "ThreeBodies") ∈ lw_tbl := lw_at lw_m2 165 rfl
theorem q510 : (Jvm.Cond.fieldLinkNest "ThreeBodies" (50 : Nat) "ThreeBodies$Path" "x" "[[I" "ThreeBodies") ∈ lw_tbl := lw_at lw_m2 172 rfl
theorem q512 : (Jvm.Cond.fieldLinkNest "ThreeBodies" (56 : Nat) "ThreeBodies$Path" "y" "[[I" "ThreeBodies") ∈ lw_tbl := lw_at lw_m2 174 rfl
theorem q518 : (Jvm.Cond.fieldLink "ThreeBodies" (96 : Nat) "ThreeBodies" "buffer" "[B") ∈ lw_all := lw_g (lw_at lw_m2 180 rfl) rfl
theorem q519 : (Jvm.Cond.fieldLink "ThreeBodies" (193 : Nat) "ThreeBodies" "bufferLength" "I") ∈ lw_all := lw_g (lw_at lw_m2 181 rfl) rfl
theorem q520 : (Jvm.Cond.fieldLink "ThreeBodies" (100 : Nat) "ThreeBodies" "errorPosition" "I") ∈ lw_all := lw_g (lw_at lw_m2 182 rfl) rfl
theorem q521 : (Jvm.Cond.fieldLink "ThreeBodies" (107 : Nat) "ThreeBodies" "state" "LThreeBodies$State;") ∈ lw_all := lw_g (lw_at lw_m2 183 rfl) rfl
theorem q522 : (Jvm.Cond.fieldLink "ThreeBodies" (235 : Nat) "ThreeBodies" "snapshot" "LThreeBodies$State;") ∈ lw_all := lw_g (lw_at lw_m2 184 rfl) rfl
theorem q523 : (Jvm.Cond.fieldLink "ThreeBodies" (114 : Nat) "ThreeBodies" "history" "Ljava/util/ArrayDeque;") ∈ lw_all := lw_g (lw_at lw_m2 185 rfl) rfl
theorem q525 : (Jvm.Cond.fieldLink "ThreeBodies" (122 : Nat) "ThreeBodies" "schemes" "[[LThreeBodies$Part;") ∈ lw_all := lw_g (lw_at lw_m2 187 rfl) rfl
theorem q526 : (Jvm.Cond.fieldLink "ThreeBodies" (129 : Nat) "ThreeBodies" "measures" "[LThreeBodies$Measure;") ∈ lw_all := lw_g (lw_at lw_m2 188 rfl) rfl
theorem q527 : (Jvm.Cond.fieldLink "ThreeBodies" (135 : Nat) "ThreeBodies" "formatted" "Ljava/lang/StringBuilder;") ∈ lw_all := lw_g (lw_at lw_m2 189 rfl) rfl
theorem q529 : (Jvm.Cond.fieldLink "ThreeBodies" (142 : Nat) "ThreeBodies" "walker" "LThreeBodies$Bodies;") ∈ lw_all := lw_g (lw_at lw_m2 191 rfl) rfl
theorem q530 : (Jvm.Cond.fieldLink "ThreeBodies" (146 : Nat) "ThreeBodies" "tried" "LThreeBodies$Bodies;") ∈ lw_all := lw_g (lw_at lw_m2 192 rfl) rfl
theorem q531 : (Jvm.Cond.fieldLink "ThreeBodies" (150 : Nat) "ThreeBodies" "path" "LThreeBodies$Path;") ∈ lw_all := lw_g (lw_at lw_m2 193 rfl) rfl
theorem q532 : (Jvm.Cond.laysFinal "ThreeBodies" "ThreeBodies" "buffer" "[B") ∈ lw_all := lw_g (lw_at lw_m2 194 rfl) rfl
theorem q533 : (Jvm.Cond.soleField "ThreeBodies" "buffer") ∈ lw_all := lw_g (lw_at lw_m2 195 rfl) rfl
theorem q534 : (Jvm.Cond.lays "ThreeBodies" "ThreeBodies" "bufferLength" "I") ∈ lw_all := lw_g (lw_at lw_m2 196 rfl) rfl
theorem q535 : (Jvm.Cond.soleField "ThreeBodies" "bufferLength") ∈ lw_all := lw_g (lw_at lw_m2 197 rfl) rfl
theorem q536 : (Jvm.Cond.lays "ThreeBodies" "ThreeBodies" "errorPosition" "I") ∈ lw_all := lw_g (lw_at lw_m2 198 rfl) rfl
theorem q537 : (Jvm.Cond.soleField "ThreeBodies" "errorPosition") ∈ lw_all := lw_g (lw_at lw_m2 199 rfl) rfl
theorem q538 : (Jvm.Cond.lays "ThreeBodies" "ThreeBodies" "state" "LThreeBodies$State;") ∈ lw_all := lw_g (lw_at lw_m2 200 rfl) rfl
theorem q539 : (Jvm.Cond.soleField "ThreeBodies" "state") ∈ lw_all := lw_g (lw_at lw_m2 201 rfl) rfl
theorem q540 : (Jvm.Cond.lays "ThreeBodies" "ThreeBodies" "snapshot" "LThreeBodies$State;") ∈ lw_all := lw_g (lw_at lw_m2 202 rfl) rfl
theorem q541 : (Jvm.Cond.soleField "ThreeBodies" "snapshot") ∈ lw_all := lw_g (lw_at lw_m2 203 rfl) rfl
theorem q542 : (Jvm.Cond.laysFinal "ThreeBodies" "ThreeBodies" "history" "Ljava/util/ArrayDeque;") ∈ lw_all := lw_g (lw_at lw_m2 204 rfl) rfl
theorem q543 : (Jvm.Cond.soleField "ThreeBodies" "history") ∈ lw_all := lw_g (lw_at lw_m2 205 rfl) rfl
theorem q544 : (Jvm.Cond.laysFinal "ThreeBodies" "ThreeBodies" "schemes" "[[LThreeBodies$Part;") ∈ lw_all := lw_g (lw_at lw_m2 206 rfl) rfl
theorem q545 : (Jvm.Cond.soleField "ThreeBodies" "schemes") ∈ lw_all := lw_g (lw_at lw_m2 207 rfl) rfl
theorem q546 : (Jvm.Cond.laysFinal "ThreeBodies" "ThreeBodies" "measures" "[LThreeBodies$Measure;") ∈ lw_all := lw_g (lw_at lw_m2 208 rfl) rfl
theorem q547 : (Jvm.Cond.soleField "ThreeBodies" "measures") ∈ lw_all := lw_g (lw_at lw_m2 209 rfl) rfl
theorem q548 : (Jvm.Cond.laysFinal "ThreeBodies" "ThreeBodies" "formatted" "Ljava/lang/StringBuilder;") ∈ lw_all := lw_g (lw_at lw_m2 210 rfl) rfl
theorem q549 : (Jvm.Cond.soleField "ThreeBodies" "formatted") ∈ lw_all := lw_g (lw_at lw_m2 211 rfl) rfl
theorem q550 : (Jvm.Cond.laysFinal "ThreeBodies" "ThreeBodies" "walker" "LThreeBodies$Bodies;") ∈ lw_all := lw_g (lw_at lw_m2 212 rfl) rfl
theorem q551 : (Jvm.Cond.soleField "ThreeBodies" "walker") ∈ lw_all := lw_g (lw_at lw_m2 213 rfl) rfl
theorem q552 : (Jvm.Cond.laysFinal "ThreeBodies" "ThreeBodies" "tried" "LThreeBodies$Bodies;") ∈ lw_all := lw_g (lw_at lw_m2 214 rfl) rfl
theorem q553 : (Jvm.Cond.soleField "ThreeBodies" "tried") ∈ lw_all := lw_g (lw_at lw_m2 215 rfl) rfl
theorem q554 : (Jvm.Cond.laysFinal "ThreeBodies" "ThreeBodies" "path" "LThreeBodies$Path;") ∈ lw_all := lw_g (lw_at lw_m2 216 rfl) rfl
theorem q555 : (Jvm.Cond.soleField "ThreeBodies" "path") ∈ lw_all := lw_g (lw_at lw_m2 217 rfl) rfl
theorem q556 : (Jvm.Cond.superclass "ThreeBodies" "java/lang/Object") ∈ lw_all := lw_g (lw_at lw_m2 218 rfl) rfl
theorem q558 : (Jvm.Cond.instanceMethod ({ cls := "ThreeBodies", name := "feed", desc := "(IIIII)I" } : Jvm.MethodName)) ∈ lw_all := lw_g (lw_at lw_m2 220 rfl) rfl
theorem q559 : (Jvm.Cond.selects "ThreeBodies" ({ cls := "ThreeBodies", name := "feed", desc := "(IIIII)I" } : Jvm.MethodName) ({ cls := "ThreeBodies", name := "feed", desc := "(IIIII)I" } : Jvm.MethodName)) ∈ lw_all := lw_g (lw_at lw_m2 221 rfl) rfl
theorem q560 : (Jvm.Cond.code ({ cls := "ThreeBodies", name := "feed", desc := "(IIIII)I" } : Jvm.MethodName) prog_1_method_19_code (6 : Nat) (Option.some Jvm.ClassFile.FieldType.int)) ∈ lw_all := lw_g (lw_at lw_m2 222 rfl) rfl
theorem q561 : (Jvm.Cond.methodLink "ThreeBodies" (196 : Nat) ({ cls := "ThreeBodies", name := "append", desc := "([I)V" } : Jvm.MethodName)) ∈ lw_all := lw_g (lw_at lw_m2 223 rfl) rfl
theorem q562 : (Jvm.Cond.privateMethod ({ cls := "ThreeBodies", name := "append", desc := "([I)V" } : Jvm.MethodName)) ∈ lw_tbl := lw_at lw_m2 224 rfl
theorem q563 : (Jvm.Cond.instanceMethod ({ cls := "ThreeBodies", name := "append", desc := "([I)V" } : Jvm.MethodName)) ∈ lw_all := lw_g (lw_at lw_m2 225 rfl) rfl
theorem q564 : (Jvm.Cond.code ({ cls := "ThreeBodies", name := "append", desc := "([I)V" } : Jvm.MethodName) prog_1_method_20_code (7 : Nat) (Option.none : Option Jvm.ClassFile.FieldType)) ∈ lw_all := lw_g (lw_at lw_m2 226 rfl) rfl
theorem q566 : (Jvm.Cond.instanceMethod ({ cls := "ThreeBodies", name := "errorPosition", desc := "()I" } : Jvm.MethodName)) ∈ lw_all := lw_g (lw_at lw_m2 228 rfl) rfl
theorem q567 : (Jvm.Cond.selects "ThreeBodies" ({ cls := "ThreeBodies", name := "errorPosition", desc := "()I" } : Jvm.MethodName) ({ cls := "ThreeBodies", name := "errorPosition", desc := "()I" } : Jvm.MethodName)) ∈ lw_all := lw_g (lw_at lw_m2 229 rfl) rfl
theorem q568 : (Jvm.Cond.code ({ cls := "ThreeBodies", name := "errorPosition", desc := "()I" } : Jvm.MethodName) prog_1_method_22_code (1 : Nat) (Option.some Jvm.ClassFile.FieldType.int)) ∈ lw_all := lw_g (lw_at lw_m2 230 rfl) rfl
theorem q570 : (Jvm.Cond.instanceMethod ({ cls := "ThreeBodies", name := "clock", desc := "()I" } : Jvm.MethodName)) ∈ lw_all := lw_g (lw_at lw_m2 232 rfl) rfl
theorem q571 : (Jvm.Cond.selects "ThreeBodies" ({ cls := "ThreeBodies", name := "clock", desc := "()I" } : Jvm.MethodName) ({ cls := "ThreeBodies", name := "clock", desc := "()I" } : Jvm.MethodName)) ∈ lw_all := lw_g (lw_at lw_m2 233 rfl) rfl
theorem q572 : (Jvm.Cond.code ({ cls := "ThreeBodies", name := "clock", desc := "()I" } : Jvm.MethodName) prog_1_method_23_code (1 : Nat) (Option.some Jvm.ClassFile.FieldType.int)) ∈ lw_all := lw_g (lw_at lw_m2 234 rfl) rfl
theorem q574 : (Jvm.Cond.instanceMethod ({ cls := "ThreeBodies", name := "angular", desc := "()J" } : Jvm.MethodName)) ∈ lw_all := lw_g (lw_at lw_m2 236 rfl) rfl
theorem q575 : (Jvm.Cond.selects "ThreeBodies" ({ cls := "ThreeBodies", name := "angular", desc := "()J" } : Jvm.MethodName) ({ cls := "ThreeBodies", name := "angular", desc := "()J" } : Jvm.MethodName)) ∈ lw_all := lw_g (lw_at lw_m2 237 rfl) rfl
theorem q576 : (Jvm.Cond.code ({ cls := "ThreeBodies", name := "angular", desc := "()J" } : Jvm.MethodName) prog_1_method_29_code (4 : Nat) (Option.some Jvm.ClassFile.FieldType.long)) ∈ lw_all := lw_g (lw_at lw_m2 238 rfl) rfl
theorem q578 : (Jvm.Cond.instanceMethod ({ cls := "ThreeBodies", name := "kinetic", desc := "()J" } : Jvm.MethodName)) ∈ lw_all := lw_g (lw_at lw_m3 0 rfl) rfl
theorem q579 : (Jvm.Cond.selects "ThreeBodies" ({ cls := "ThreeBodies", name := "kinetic", desc := "()J" } : Jvm.MethodName) ({ cls := "ThreeBodies", name := "kinetic", desc := "()J" } : Jvm.MethodName)) ∈ lw_all := lw_g (lw_at lw_m3 1 rfl) rfl
theorem q580 : (Jvm.Cond.code ({ cls := "ThreeBodies", name := "kinetic", desc := "()J" } : Jvm.MethodName) prog_1_method_30_code (1 : Nat) (Option.some Jvm.ClassFile.FieldType.long)) ∈ lw_all := lw_g (lw_at lw_m3 2 rfl) rfl
theorem q581 : (Jvm.Cond.methodLink "ThreeBodies" (274 : Nat) ({ cls := "ThreeBodies$Bodies", name := "kinetic", desc := "()J" } : Jvm.MethodName)) ∈ lw_all := lw_g (lw_at lw_m3 3 rfl) rfl
theorem q583 : (Jvm.Cond.instanceMethod ({ cls := "ThreeBodies", name := "potential", desc := "()J" } : Jvm.MethodName)) ∈ lw_all := lw_g (lw_at lw_m3 5 rfl) rfl
theorem q584 : (Jvm.Cond.selects "ThreeBodies" ({ cls := "ThreeBodies", name := "potential", desc := "()J" } : Jvm.MethodName) ({ cls := "ThreeBodies", name := "potential", desc := "()J" } : Jvm.MethodName)) ∈ lw_all := lw_g (lw_at lw_m3 6 rfl) rfl
theorem q585 : (Jvm.Cond.code ({ cls := "ThreeBodies", name := "potential", desc := "()J" } : Jvm.MethodName) prog_1_method_31_code (1 : Nat) (Option.some Jvm.ClassFile.FieldType.long)) ∈ lw_all := lw_g (lw_at lw_m3 7 rfl) rfl
theorem q586 : (Jvm.Cond.methodLink "ThreeBodies" (278 : Nat) ({ cls := "ThreeBodies$Bodies", name := "potential", desc := "()J" } : Jvm.MethodName)) ∈ lw_all := lw_g (lw_at lw_m3 8 rfl) rfl
theorem q588 : (Jvm.Cond.instanceMethod ({ cls := "ThreeBodies", name := "band", desc := "()J" } : Jvm.MethodName)) ∈ lw_all := lw_g (lw_at lw_m3 10 rfl) rfl
theorem q589 : (Jvm.Cond.selects "ThreeBodies" ({ cls := "ThreeBodies", name := "band", desc := "()J" } : Jvm.MethodName) ({ cls := "ThreeBodies", name := "band", desc := "()J" } : Jvm.MethodName)) ∈ lw_all := lw_g (lw_at lw_m3 11 rfl) rfl
theorem q590 : (Jvm.Cond.code ({ cls := "ThreeBodies", name := "band", desc := "()J" } : Jvm.MethodName) prog_1_method_32_code (1 : Nat) (Option.some Jvm.ClassFile.FieldType.long)) ∈ lw_all := lw_g (lw_at lw_m3 12 rfl) rfl
theorem q591 : (Jvm.Cond.methodLink "ThreeBodies" (281 : Nat) ({ cls := "ThreeBodies$Bodies", name := "band", desc := "()J" } : Jvm.MethodName)) ∈ lw_all := lw_g (lw_at lw_m3 13 rfl) rfl
theorem q597 : (Jvm.Cond.instanceMethod ({ cls := "ThreeBodies", name := "seen", desc := "(Z)J" } : Jvm.MethodName)) ∈ lw_all := lw_g (lw_at lw_m3 19 rfl) rfl
theorem q598 : (Jvm.Cond.selects "ThreeBodies" ({ cls := "ThreeBodies", name := "seen", desc := "(Z)J" } : Jvm.MethodName) ({ cls := "ThreeBodies", name := "seen", desc := "(Z)J" } : Jvm.MethodName)) ∈ lw_all := lw_g (lw_at lw_m3 20 rfl) rfl
theorem q599 : (Jvm.Cond.code ({ cls := "ThreeBodies", name := "seen", desc := "(Z)J" } : Jvm.MethodName) prog_1_method_33_code (2 : Nat) (Option.some Jvm.ClassFile.FieldType.long)) ∈ lw_all := lw_g (lw_at lw_m3 21 rfl) rfl
theorem q601 : (Jvm.Cond.instanceMethod ({ cls := "ThreeBodies", name := "crossings", desc := "()I" } : Jvm.MethodName)) ∈ lw_all := lw_g (lw_at lw_m3 23 rfl) rfl
theorem q602 : (Jvm.Cond.selects "ThreeBodies" ({ cls := "ThreeBodies", name := "crossings", desc := "()I" } : Jvm.MethodName) ({ cls := "ThreeBodies", name := "crossings", desc := "()I" } : Jvm.MethodName)) ∈ lw_all := lw_g (lw_at lw_m3 24 rfl) rfl
theorem q603 : (Jvm.Cond.code ({ cls := "ThreeBodies", name := "crossings", desc := "()I" } : Jvm.MethodName) prog_1_method_34_code (1 : Nat) (Option.some Jvm.ClassFile.FieldType.int)) ∈ lw_all := lw_g (lw_at lw_m3 25 rfl) rfl
theorem q605 : (Jvm.Cond.instanceMethod ({ cls := "ThreeBodies", name := "approachCount", desc := "()I" } : Jvm.MethodName)) ∈ lw_all := lw_g (lw_at lw_m3 27 rfl) rfl
theorem q606 : (Jvm.Cond.selects "ThreeBodies" ({ cls := "ThreeBodies", name := "approachCount", desc := "()I" } : Jvm.MethodName) ({ cls := "ThreeBodies", name := "approachCount", desc := "()I" } : Jvm.MethodName)) ∈ lw_all := lw_g (lw_at lw_m3 28 rfl) rfl
theorem q607 : (Jvm.Cond.code ({ cls := "ThreeBodies", name := "approachCount", desc := "()I" } : Jvm.MethodName) prog_1_method_35_code (1 : Nat) (Option.some Jvm.ClassFile.FieldType.int)) ∈ lw_all := lw_g (lw_at lw_m3 29 rfl) rfl
theorem q608 : (Jvm.Cond.methodLink "ThreeBodies" (154 : Nat) ({ cls := "java/util/ArrayDeque", name := "size", desc := "()I" } : Jvm.MethodName)) ∈ lw_all := lw_g (lw_at lw_m3 30 rfl) rfl
theorem q616 : (Jvm.Cond.instanceMethod ({ cls := "ThreeBodies", name := "reverse", desc := "()V" } : Jvm.MethodName)) ∈ lw_all := lw_g (lw_at lw_m3 38 rfl) rfl
theorem q617 : (Jvm.Cond.selects "ThreeBodies" ({ cls := "ThreeBodies", name := "reverse", desc := "()V" } : Jvm.MethodName) ({ cls := "ThreeBodies", name := "reverse", desc := "()V" } : Jvm.MethodName)) ∈ lw_all := lw_g (lw_at lw_m3 39 rfl) rfl
theorem q618 : (Jvm.Cond.code ({ cls := "ThreeBodies", name := "reverse", desc := "()V" } : Jvm.MethodName) prog_1_method_42_code (3 : Nat) (Option.none : Option Jvm.ClassFile.FieldType)) ∈ lw_all := lw_g (lw_at lw_m3 40 rfl) rfl
theorem q619 : (Jvm.Cond.methodLink "ThreeBodies" (319 : Nat) ({ cls := "ThreeBodies", name := "begin", desc := "(Z)LThreeBodies$State;" } : Jvm.MethodName)) ∈ lw_all := lw_g (lw_at lw_m3 41 rfl) rfl
theorem q620 : (Jvm.Cond.privateMethod ({ cls := "ThreeBodies", name := "begin", desc := "(Z)LThreeBodies$State;" } : Jvm.MethodName)) ∈ lw_tbl := lw_at lw_m3 42 rfl
theorem q621 : (Jvm.Cond.instanceMethod ({ cls := "ThreeBodies", name := "begin", desc := "(Z)LThreeBodies$State;" } : Jvm.MethodName)) ∈ lw_all := lw_g (lw_at lw_m3 43 rfl) rfl
theorem q622 : (Jvm.Cond.code ({ cls := "ThreeBodies", name := "begin", desc := "(Z)LThreeBodies$State;" } : Jvm.MethodName) prog_1_method_16_code (2 : Nat) (Option.some (Jvm.ClassFile.FieldType.object "ThreeBodies$State"))) ∈ lw_all := lw_g (lw_at lw_m3 44 rfl) rfl
theorem q623 : (Jvm.Cond.methodLink "ThreeBodies" (157 : Nat) ({ cls := "java/util/ArrayDeque", name := "removeFirst", desc := "()Ljava/lang/Object;" } : Jvm.MethodName)) ∈ lw_all := lw_g (lw_at lw_m3 45 rfl) rfl
theorem q660 : (Jvm.Cond.methodLink "ThreeBodies" (161 : Nat) ({ cls := "ThreeBodies$State", name := "copy", desc := "()LThreeBodies$State;" } : Jvm.MethodName)) ∈ lw_all := lw_g (lw_at lw_m3 82 rfl) rfl
theorem q802 : (Jvm.Cond.selects "ThreeBodies" ({ cls := "java/lang/Object", name := "getClass", desc := "()Ljava/lang/Class;" } : Jvm.MethodName) ({ cls := "java/lang/Object", name := "getClass", desc := "()Ljava/lang/Class;" } : Jvm.MethodName)) ∈ lw_all := lw_g (lw_at lw_m3 224 rfl) rfl
theorem q846 : (Jvm.Cond.methodLink "ThreeBodies" (165 : Nat) ({ cls := "java/util/ArrayDeque", name := "addLast", desc := "(Ljava/lang/Object;)V" } : Jvm.MethodName)) ∈ lw_all := lw_g (lw_at lw_m4 28 rfl) rfl
theorem q848 : (Jvm.Cond.instanceMethod ({ cls := "ThreeBodies", name := "turn", desc := "()V" } : Jvm.MethodName)) ∈ lw_all := lw_g (lw_at lw_m4 30 rfl) rfl
theorem q849 : (Jvm.Cond.selects "ThreeBodies" ({ cls := "ThreeBodies", name := "turn", desc := "()V" } : Jvm.MethodName) ({ cls := "ThreeBodies", name := "turn", desc := "()V" } : Jvm.MethodName)) ∈ lw_all := lw_g (lw_at lw_m4 31 rfl) rfl
theorem q850 : (Jvm.Cond.code ({ cls := "ThreeBodies", name := "turn", desc := "()V" } : Jvm.MethodName) prog_1_method_43_code (6 : Nat) (Option.none : Option Jvm.ClassFile.FieldType)) ∈ lw_all := lw_g (lw_at lw_m4 32 rfl) rfl
theorem q852 : (Jvm.Cond.instanceMethod ({ cls := "ThreeBodies", name := "virial", desc := "()D" } : Jvm.MethodName)) ∈ lw_all := lw_g (lw_at lw_m4 34 rfl) rfl
theorem q853 : (Jvm.Cond.selects "ThreeBodies" ({ cls := "ThreeBodies", name := "virial", desc := "()D" } : Jvm.MethodName) ({ cls := "ThreeBodies", name := "virial", desc := "()D" } : Jvm.MethodName)) ∈ lw_all := lw_g (lw_at lw_m4 35 rfl) rfl
theorem q854 : (Jvm.Cond.code ({ cls := "ThreeBodies", name := "virial", desc := "()D" } : Jvm.MethodName) prog_1_method_58_code (3 : Nat) (Option.some Jvm.ClassFile.FieldType.double)) ∈ lw_all := lw_g (lw_at lw_m4 36 rfl) rfl
theorem q856 : (Jvm.Cond.instanceMethod ({ cls := "ThreeBodies", name := "meanDistance", desc := "()F" } : Jvm.MethodName)) ∈ lw_all := lw_g (lw_at lw_m4 38 rfl) rfl
theorem q857 : (Jvm.Cond.selects "ThreeBodies" ({ cls := "ThreeBodies", name := "meanDistance", desc := "()F" } : Jvm.MethodName) ({ cls := "ThreeBodies", name := "meanDistance", desc := "()F" } : Jvm.MethodName)) ∈ lw_all := lw_g (lw_at lw_m4 39 rfl) rfl
theorem q858 : (Jvm.Cond.code ({ cls := "ThreeBodies", name := "meanDistance", desc := "()F" } : Jvm.MethodName) prog_1_method_59_code (3 : Nat) (Option.some Jvm.ClassFile.FieldType.float)) ∈ lw_all := lw_g (lw_at lw_m4 40 rfl) rfl
theorem q859 : (Jvm.Cond.methodLink "ThreeBodies" (267 : Nat) ({ cls := "ThreeBodies$Bodies", name := "distanceOf", desc := "(I)I" } : Jvm.MethodName)) ∈ lw_all := lw_g (lw_at lw_m4 41 rfl) rfl
theorem q860 : (Jvm.Cond.constantFloat "ThreeBodies" (439 : Nat) (1077936128 : UInt32)) ∈ lw_all := lw_g (lw_at lw_m4 42 rfl) rfl
theorem q862 : (Jvm.Cond.instanceMethod ({ cls := "ThreeBodies", name := "formattedByte", desc := "(I)I" } : Jvm.MethodName)) ∈ lw_all := lw_g (lw_at lw_m4 44 rfl) rfl
theorem q863 : (Jvm.Cond.selects "ThreeBodies" ({ cls := "ThreeBodies", name := "formattedByte", desc := "(I)I" } : Jvm.MethodName) ({ cls := "ThreeBodies", name := "formattedByte", desc := "(I)I" } : Jvm.MethodName)) ∈ lw_all := lw_g (lw_at lw_m4 45 rfl) rfl
theorem q864 : (Jvm.Cond.code ({ cls := "ThreeBodies", name := "formattedByte", desc := "(I)I" } : Jvm.MethodName) prog_1_method_61_code (2 : Nat) (Option.some Jvm.ClassFile.FieldType.int)) ∈ lw_all := lw_g (lw_at lw_m4 46 rfl) rfl
theorem q865 : (Jvm.Cond.methodLink "ThreeBodies" (461 : Nat) ({ cls := "java/lang/StringBuilder", name := "length", desc := "()I" } : Jvm.MethodName)) ∈ lw_all := lw_g (lw_at lw_m4 47 rfl) rfl
theorem q872 : (Jvm.Cond.methodLink "ThreeBodies" (64 : Nat) ({ cls := "ThreeBodies", name := "inRange", desc := "(JJJ)Z" } : Jvm.MethodName)) ∈ lw_all := lw_g (lw_at lw_m4 54 rfl) rfl
theorem q873 : (Jvm.Cond.methodLink "ThreeBodies" (464 : Nat) ({ cls := "java/lang/StringBuilder", name := "charAt", desc := "(I)C" } : Jvm.MethodName)) ∈ lw_all := lw_g (lw_at lw_m4 55 rfl) rfl
theorem q902 : (Jvm.Cond.instanceMethod ({ cls := "ThreeBodies", name := "undoCount", desc := "()I" } : Jvm.MethodName)) ∈ lw_all := lw_g (lw_at lw_m4 84 rfl) rfl
theorem q903 : (Jvm.Cond.selects "ThreeBodies" ({ cls := "ThreeBodies", name := "undoCount", desc := "()I" } : Jvm.MethodName) ({ cls := "ThreeBodies", name := "undoCount", desc := "()I" } : Jvm.MethodName)) ∈ lw_all := lw_g (lw_at lw_m4 85 rfl) rfl
theorem q904 : (Jvm.Cond.code ({ cls := "ThreeBodies", name := "undoCount", desc := "()I" } : Jvm.MethodName) prog_1_method_62_code (1 : Nat) (Option.some Jvm.ClassFile.FieldType.int)) ∈ lw_all := lw_g (lw_at lw_m4 86 rfl) rfl
theorem q906 : (Jvm.Cond.instanceMethod ({ cls := "ThreeBodies", name := "undo", desc := "()I" } : Jvm.MethodName)) ∈ lw_all := lw_g (lw_at lw_m4 88 rfl) rfl
theorem q907 : (Jvm.Cond.selects "ThreeBodies" ({ cls := "ThreeBodies", name := "undo", desc := "()I" } : Jvm.MethodName) ({ cls := "ThreeBodies", name := "undo", desc := "()I" } : Jvm.MethodName)) ∈ lw_all := lw_g (lw_at lw_m4 89 rfl) rfl
theorem q908 : (Jvm.Cond.code ({ cls := "ThreeBodies", name := "undo", desc := "()I" } : Jvm.MethodName) prog_1_method_63_code (1 : Nat) (Option.some Jvm.ClassFile.FieldType.int)) ∈ lw_all := lw_g (lw_at lw_m4 90 rfl) rfl
theorem q909 : (Jvm.Cond.methodLink "ThreeBodies" (468 : Nat) ({ cls := "java/util/ArrayDeque", name := "isEmpty", desc := "()Z" } : Jvm.MethodName)) ∈ lw_all := lw_g (lw_at lw_m4 91 rfl) rfl
theorem q913 : (Jvm.Cond.methodLink "ThreeBodies" (471 : Nat) ({ cls := "java/util/ArrayDeque", name := "removeLast", desc := "()Ljava/lang/Object;" } : Jvm.MethodName)) ∈ lw_all := lw_g (lw_at lw_m4 95 rfl) rfl
theorem q925 : (Jvm.Cond.instanceMethod ({ cls := "ThreeBodies", name := "saveSnapshot", desc := "()V" } : Jvm.MethodName)) ∈ lw_all := lw_g (lw_at lw_m4 107 rfl) rfl
theorem q926 : (Jvm.Cond.selects "ThreeBodies" ({ cls := "ThreeBodies", name := "saveSnapshot", desc := "()V" } : Jvm.MethodName) ({ cls := "ThreeBodies", name := "saveSnapshot", desc := "()V" } : Jvm.MethodName)) ∈ lw_all := lw_g (lw_at lw_m4 108 rfl) rfl
theorem q927 : (Jvm.Cond.code ({ cls := "ThreeBodies", name := "saveSnapshot", desc := "()V" } : Jvm.MethodName) prog_1_method_64_code (1 : Nat) (Option.none : Option Jvm.ClassFile.FieldType)) ∈ lw_all := lw_g (lw_at lw_m4 109 rfl) rfl
theorem q929 : (Jvm.Cond.instanceMethod ({ cls := "ThreeBodies", name := "restoreSnapshot", desc := "()Z" } : Jvm.MethodName)) ∈ lw_all := lw_g (lw_at lw_m4 111 rfl) rfl
theorem q930 : (Jvm.Cond.selects "ThreeBodies" ({ cls := "ThreeBodies", name := "restoreSnapshot", desc := "()Z" } : Jvm.MethodName) ({ cls := "ThreeBodies", name := "restoreSnapshot", desc := "()Z" } : Jvm.MethodName)) ∈ lw_all := lw_g (lw_at lw_m4 112 rfl) rfl
theorem q931 : (Jvm.Cond.code ({ cls := "ThreeBodies", name := "restoreSnapshot", desc := "()Z" } : Jvm.MethodName) prog_1_method_65_code (1 : Nat) (Option.some Jvm.ClassFile.FieldType.boolean)) ∈ lw_all := lw_g (lw_at lw_m4 113 rfl) rfl
theorem q932 : (Jvm.Cond.methodLink "ThreeBodies" (232 : Nat) ({ cls := "java/util/ArrayDeque", name := "clear", desc := "()V" } : Jvm.MethodName)) ∈ lw_all := lw_g (lw_at lw_m4 114 rfl) rfl
theorem q944 : (Jvm.Cond.instanceMethod ({ cls := "ThreeBodies", name := "load", desc := "(I)I" } : Jvm.MethodName)) ∈ lw_all := lw_g (lw_at lw_m4 126 rfl) rfl
theorem q945 : (Jvm.Cond.selects "ThreeBodies" ({ cls := "ThreeBodies", name := "load", desc := "(I)I" } : Jvm.MethodName) ({ cls := "ThreeBodies", name := "load", desc := "(I)I" } : Jvm.MethodName)) ∈ lw_all := lw_g (lw_at lw_m4 127 rfl) rfl
theorem q946 : (Jvm.Cond.codeWith ({ cls := "ThreeBodies", name := "load", desc := "(I)I" } : Jvm.MethodName) prog_1_method_21_code (3 : Nat) (Option.some Jvm.ClassFile.FieldType.int) [((19 : Nat), (47 : Nat), (50 : Nat), (218 : Nat))]) ∈ lw_all := lw_g (lw_at lw_m4 128 rfl) rfl
theorem q947 : (Jvm.Cond.classLink "ThreeBodies" (218 : Nat) "ThreeBodies$UnreadableException") ∈ lw_all := lw_g (lw_at lw_m4 129 rfl) rfl
theorem q948 : (Jvm.Cond.methodLink "ThreeBodies" (200 : Nat) ({ cls := "ThreeBodies", name := "require", desc := "(Z)V" } : Jvm.MethodName)) ∈ lw_all := lw_g (lw_at lw_m4 130 rfl) rfl
theorem q949 : (Jvm.Cond.static ({ cls := "ThreeBodies", name := "require", desc := "(Z)V" } : Jvm.MethodName)) ∈ lw_all := lw_g (lw_at lw_m4 131 rfl) rfl
theorem q950 : (Jvm.Cond.code ({ cls := "ThreeBodies", name := "require", desc := "(Z)V" } : Jvm.MethodName) prog_1_method_3_code (1 : Nat) (Option.none : Option Jvm.ClassFile.FieldType)) ∈ lw_all := lw_g (lw_at lw_m4 132 rfl) rfl
theorem q951 : (Jvm.Cond.classLink "ThreeBodies" (7 : Nat) "java/lang/IllegalArgumentException") ∈ lw_all := lw_g (lw_at lw_m4 133 rfl) rfl
theorem q960 : (Jvm.Cond.methodLink "ThreeBodies" (9 : Nat) ({ cls := "java/lang/IllegalArgumentException", name := "<init>", desc := "()V" } : Jvm.MethodName)) ∈ lw_all := lw_g (lw_at lw_m4 142 rfl) rfl
theorem q966 : (Jvm.Cond.classLink "ThreeBodies" (203 : Nat) "ThreeBodies$Reader") ∈ lw_all := lw_g (lw_at lw_m4 148 rfl) rfl
theorem q968 : (Jvm.Cond.classLink "ThreeBodies" (205 : Nat) "ThreeBodies$Scanner") ∈ lw_all := lw_g (lw_at lw_m4 150 rfl) rfl
theorem q970 : (Jvm.Cond.stringRef "ThreeBodies" (207 : Nat) ";-") ∈ lw_tbl := lw_at lw_m4 152 rfl
theorem q971 : (Jvm.Cond.methodLink "ThreeBodies" (209 : Nat) ({ cls := "ThreeBodies$Scanner", name := "<init>", desc := "([BILjava/lang/String;)V" } : Jvm.MethodName)) ∈ lw_all := lw_g (lw_at lw_m4 153 rfl) rfl
theorem q1293 : (Jvm.Cond.methodLink "ThreeBodies" (212 : Nat) ({ cls := "ThreeBodies$Reader", name := "<init>", desc := "(LThreeBodies$Scanner;)V" } : Jvm.MethodName)) ∈ lw_all := lw_g (lw_at lw_m5 235 rfl) rfl
theorem q1309 : (Jvm.Cond.methodLink "ThreeBodies" (215 : Nat) ({ cls := "ThreeBodies$Reader", name := "read", desc := "()LThreeBodies$State;" } : Jvm.MethodName)) ∈ lw_all := lw_g (lw_at lw_m6 11 rfl) rfl
theorem q1367 : (Jvm.Cond.fieldLinkNest "ThreeBodies" (224 : Nat) "ThreeBodies$TextException" "place" "I" "ThreeBodies") ∈ lw_tbl := lw_at lw_m6 69 rfl
theorem q1458 : (Jvm.Cond.methodLink "ThreeBodies" (220 : Nat) ({ cls := "ThreeBodies$UnreadableException", name := "reason", desc := "()LThreeBodies$TextException;" } : Jvm.MethodName)) ∈ lw_all := lw_g (lw_at lw_m6 160 rfl) rfl
theorem q1471 : (Jvm.Cond.methodLink "ThreeBodies" (229 : Nat) ({ cls := "ThreeBodies$TextException", name := "code", desc := "()I" } : Jvm.MethodName)) ∈ lw_all := lw_g (lw_at lw_m6 173 rfl) rfl
theorem q1491 : (Jvm.Cond.instanceMethod ({ cls := "ThreeBodies", name := "body", desc := "(II)I" } : Jvm.MethodName)) ∈ lw_all := lw_g (lw_at lw_m6 193 rfl) rfl
theorem q1492 : (Jvm.Cond.selects "ThreeBodies" ({ cls := "ThreeBodies", name := "body", desc := "(II)I" } : Jvm.MethodName) ({ cls := "ThreeBodies", name := "body", desc := "(II)I" } : Jvm.MethodName)) ∈ lw_all := lw_g (lw_at lw_m6 194 rfl) rfl
theorem q1493 : (Jvm.Cond.code ({ cls := "ThreeBodies", name := "body", desc := "(II)I" } : Jvm.MethodName) prog_1_method_24_code (4 : Nat) (Option.some Jvm.ClassFile.FieldType.int)) ∈ lw_all := lw_g (lw_at lw_m6 195 rfl) rfl
theorem q1494 : (Jvm.Cond.methodLink "ThreeBodies" (243 : Nat) ({ cls := "ThreeBodies", name := "requireBody", desc := "(I)V" } : Jvm.MethodName)) ∈ lw_all := lw_g (lw_at lw_m6 196 rfl) rfl
theorem q1495 : (Jvm.Cond.static ({ cls := "ThreeBodies", name := "requireBody", desc := "(I)V" } : Jvm.MethodName)) ∈ lw_all := lw_g (lw_at lw_m6 197 rfl) rfl
theorem q1496 : (Jvm.Cond.code ({ cls := "ThreeBodies", name := "requireBody", desc := "(I)V" } : Jvm.MethodName) prog_1_method_17_code (1 : Nat) (Option.none : Option Jvm.ClassFile.FieldType)) ∈ lw_all := lw_g (lw_at lw_m6 198 rfl) rfl
theorem q1497 : (Jvm.Cond.methodLink "ThreeBodies" (172 : Nat) ({ cls := "ThreeBodies", name := "requireExists", desc := "(Z)V" } : Jvm.MethodName)) ∈ lw_all := lw_g (lw_at lw_m6 199 rfl) rfl
theorem q1498 : (Jvm.Cond.static ({ cls := "ThreeBodies", name := "requireExists", desc := "(Z)V" } : Jvm.MethodName)) ∈ lw_all := lw_g (lw_at lw_m6 200 rfl) rfl
theorem q1499 : (Jvm.Cond.code ({ cls := "ThreeBodies", name := "requireExists", desc := "(Z)V" } : Jvm.MethodName) prog_1_method_2_code (1 : Nat) (Option.none : Option Jvm.ClassFile.FieldType)) ∈ lw_all := lw_g (lw_at lw_m6 201 rfl) rfl
theorem q1500 : (Jvm.Cond.classLink "ThreeBodies" (1 : Nat) "java/util/NoSuchElementException") ∈ lw_all := lw_g (lw_at lw_m6 202 rfl) rfl
theorem q1501 : (Jvm.Cond.methodLink "ThreeBodies" (3 : Nat) ({ cls := "java/util/NoSuchElementException", name := "<init>", desc := "()V" } : Jvm.MethodName)) ∈ lw_all := lw_g (lw_at lw_m6 203 rfl) rfl
theorem q1506 : (Jvm.Cond.instanceMethod ({ cls := "ThreeBodies", name := "setting", desc := "(I)I" } : Jvm.MethodName)) ∈ lw_all := lw_g (lw_at lw_m6 208 rfl) rfl
theorem q1507 : (Jvm.Cond.selects "ThreeBodies" ({ cls := "ThreeBodies", name := "setting", desc := "(I)I" } : Jvm.MethodName) ({ cls := "ThreeBodies", name := "setting", desc := "(I)I" } : Jvm.MethodName)) ∈ lw_all := lw_g (lw_at lw_m6 209 rfl) rfl
theorem q1508 : (Jvm.Cond.code ({ cls := "ThreeBodies", name := "setting", desc := "(I)I" } : Jvm.MethodName) prog_1_method_25_code (2 : Nat) (Option.some Jvm.ClassFile.FieldType.int)) ∈ lw_all := lw_g (lw_at lw_m6 210 rfl) rfl
theorem q1509 : (Jvm.Cond.constantLong "ThreeBodies" (262 : Nat) (5 : Int64)) ∈ lw_all := lw_g (lw_at lw_m6 211 rfl) rfl
theorem q1514 : (Jvm.Cond.instanceMethod ({ cls := "ThreeBodies", name := "distance", desc := "(I)I" } : Jvm.MethodName)) ∈ lw_all := lw_g (lw_at lw_m6 216 rfl) rfl
theorem q1515 : (Jvm.Cond.selects "ThreeBodies" ({ cls := "ThreeBodies", name := "distance", desc := "(I)I" } : Jvm.MethodName) ({ cls := "ThreeBodies", name := "distance", desc := "(I)I" } : Jvm.MethodName)) ∈ lw_all := lw_g (lw_at lw_m6 217 rfl) rfl
theorem q1516 : (Jvm.Cond.code ({ cls := "ThreeBodies", name := "distance", desc := "(I)I" } : Jvm.MethodName) prog_1_method_26_code (2 : Nat) (Option.some Jvm.ClassFile.FieldType.int)) ∈ lw_all := lw_g (lw_at lw_m6 218 rfl) rfl
theorem q1521 : (Jvm.Cond.instanceMethod ({ cls := "ThreeBodies", name := "impulse", desc := "(II)J" } : Jvm.MethodName)) ∈ lw_all := lw_g (lw_at lw_m6 223 rfl) rfl
theorem q1522 : (Jvm.Cond.selects "ThreeBodies" ({ cls := "ThreeBodies", name := "impulse", desc := "(II)J" } : Jvm.MethodName) ({ cls := "ThreeBodies", name := "impulse", desc := "(II)J" } : Jvm.MethodName)) ∈ lw_all := lw_g (lw_at lw_m6 224 rfl) rfl
theorem q1523 : (Jvm.Cond.code ({ cls := "ThreeBodies", name := "impulse", desc := "(II)J" } : Jvm.MethodName) prog_1_method_27_code (3 : Nat) (Option.some Jvm.ClassFile.FieldType.long)) ∈ lw_all := lw_g (lw_at lw_m6 225 rfl) rfl
theorem q1524 : (Jvm.Cond.methodLink "ThreeBodies" (270 : Nat) ({ cls := "ThreeBodies$Bodies", name := "impulse", desc := "(II)J" } : Jvm.MethodName)) ∈ lw_all := lw_g (lw_at lw_m6 226 rfl) rfl
theorem q1529 : (Jvm.Cond.instanceMethod ({ cls := "ThreeBodies", name := "momentum", desc := "(I)J" } : Jvm.MethodName)) ∈ lw_all := lw_g (lw_at lw_m6 231 rfl) rfl
theorem q1530 : (Jvm.Cond.selects "ThreeBodies" ({ cls := "ThreeBodies", name := "momentum", desc := "(I)J" } : Jvm.MethodName) ({ cls := "ThreeBodies", name := "momentum", desc := "(I)J" } : Jvm.MethodName)) ∈ lw_all := lw_g (lw_at lw_m6 232 rfl) rfl
theorem q1531 : (Jvm.Cond.code ({ cls := "ThreeBodies", name := "momentum", desc := "(I)J" } : Jvm.MethodName) prog_1_method_28_code (3 : Nat) (Option.some Jvm.ClassFile.FieldType.long)) ∈ lw_all := lw_g (lw_at lw_m6 233 rfl) rfl
theorem q1536 : (Jvm.Cond.instanceMethod ({ cls := "ThreeBodies", name := "approach", desc := "(II)I" } : Jvm.MethodName)) ∈ lw_all := lw_g (lw_at lw_m6 238 rfl) rfl
theorem q1537 : (Jvm.Cond.selects "ThreeBodies" ({ cls := "ThreeBodies", name := "approach", desc := "(II)I" } : Jvm.MethodName) ({ cls := "ThreeBodies", name := "approach", desc := "(II)I" } : Jvm.MethodName)) ∈ lw_all := lw_g (lw_at lw_m6 239 rfl) rfl
theorem q1538 : (Jvm.Cond.code ({ cls := "ThreeBodies", name := "approach", desc := "(II)I" } : Jvm.MethodName) prog_1_method_37_code (4 : Nat) (Option.some Jvm.ClassFile.FieldType.int)) ∈ lw_all := lw_g (lw_at lw_m7 0 rfl) rfl
theorem q1539 : (Jvm.Cond.methodLink "ThreeBodies" (308 : Nat) ({ cls := "ThreeBodies", name := "approachAt", desc := "(I)LThreeBodies$Approach;" } : Jvm.MethodName)) ∈ lw_all := lw_g (lw_at lw_m7 1 rfl) rfl
theorem q1540 : (Jvm.Cond.privateMethod ({ cls := "ThreeBodies", name := "approachAt", desc := "(I)LThreeBodies$Approach;" } : Jvm.MethodName)) ∈ lw_tbl := lw_at lw_m7 2 rfl
theorem q1541 : (Jvm.Cond.instanceMethod ({ cls := "ThreeBodies", name := "approachAt", desc := "(I)LThreeBodies$Approach;" } : Jvm.MethodName)) ∈ lw_all := lw_g (lw_at lw_m7 3 rfl) rfl
theorem q1542 : (Jvm.Cond.code ({ cls := "ThreeBodies", name := "approachAt", desc := "(I)LThreeBodies$Approach;" } : Jvm.MethodName) prog_1_method_36_code (5 : Nat) (Option.some (Jvm.ClassFile.FieldType.object "ThreeBodies$Approach"))) ∈ lw_all := lw_g (lw_at lw_m7 4 rfl) rfl
theorem q1543 : (Jvm.Cond.methodLink "ThreeBodies" (297 : Nat) ({ cls := "java/util/ArrayDeque", name := "iterator", desc := "()Ljava/util/Iterator;" } : Jvm.MethodName)) ∈ lw_all := lw_g (lw_at lw_m7 5 rfl) rfl
theorem q1544 : (Jvm.Cond.interfaceEntry "ThreeBodies" (301 : Nat)) ∈ lw_tbl := lw_at lw_m7 6 rfl
theorem q1545 : (Jvm.Cond.methodLink "ThreeBodies" (301 : Nat) ({ cls := "java/util/Iterator", name := "hasNext", desc := "()Z" } : Jvm.MethodName)) ∈ lw_all := lw_g (lw_at lw_m7 7 rfl) rfl
theorem q1546 : (Jvm.Cond.interfaceEntry "ThreeBodies" (304 : Nat)) ∈ lw_tbl := lw_at lw_m7 8 rfl
theorem q1547 : (Jvm.Cond.methodLink "ThreeBodies" (304 : Nat) ({ cls := "java/util/Iterator", name := "next", desc := "()Ljava/lang/Object;" } : Jvm.MethodName)) ∈ lw_all := lw_g (lw_at lw_m7 9 rfl) rfl
theorem q1548 : (Jvm.Cond.classLink "ThreeBodies" (306 : Nat) "ThreeBodies$Approach") ∈ lw_all := lw_g (lw_at lw_m7 10 rfl) rfl
theorem q1553 : (Jvm.Cond.instanceMethod ({ cls := "ThreeBodies", name := "run", desc := "(I)I" } : Jvm.MethodName)) ∈ lw_all := lw_g (lw_at lw_m7 15 rfl) rfl
theorem q1554 : (Jvm.Cond.selects "ThreeBodies" ({ cls := "ThreeBodies", name := "run", desc := "(I)I" } : Jvm.MethodName) ({ cls := "ThreeBodies", name := "run", desc := "(I)I" } : Jvm.MethodName)) ∈ lw_all := lw_g (lw_at lw_m7 16 rfl) rfl
theorem q1555 : (Jvm.Cond.code ({ cls := "ThreeBodies", name := "run", desc := "(I)I" } : Jvm.MethodName) prog_1_method_38_code (2 : Nat) (Option.some Jvm.ClassFile.FieldType.int)) ∈ lw_all := lw_g (lw_at lw_m7 17 rfl) rfl
theorem q1556 : (Jvm.Cond.constantLong "ThreeBodies" (317 : Nat) (500 : Int64)) ∈ lw_all := lw_g (lw_at lw_m7 18 rfl) rfl
theorem q1557 : (Jvm.Cond.methodLink "ThreeBodies" (323 : Nat) ({ cls := "ThreeBodies$State", name := "run", desc := "([[LThreeBodies$Part;I)I" } : Jvm.MethodName)) ∈ lw_all := lw_g (lw_at lw_m7 19 rfl) rfl
theorem q1582 : (Jvm.Cond.fieldLinkNest "ThreeBodies" (312 : Nat) "ThreeBodies$Approach" "clock" "I" "ThreeBodies") ∈ lw_tbl := lw_at lw_m7 44 rfl
theorem q1584 : (Jvm.Cond.fieldLinkNest "ThreeBodies" (313 : Nat) "ThreeBodies$Approach" "pair" "I" "ThreeBodies") ∈ lw_tbl := lw_at lw_m7 46 rfl
theorem q1586 : (Jvm.Cond.fieldLinkNest "ThreeBodies" (315 : Nat) "ThreeBodies$Approach" "distance" "I" "ThreeBodies") ∈ lw_tbl := lw_at lw_m7 48 rfl
theorem q1602 : (Jvm.Cond.instanceMethod ({ cls := "ThreeBodies", name := "back", desc := "(I)I" } : Jvm.MethodName)) ∈ lw_all := lw_g (lw_at lw_m7 64 rfl) rfl
theorem q1603 : (Jvm.Cond.selects "ThreeBodies" ({ cls := "ThreeBodies", name := "back", desc := "(I)I" } : Jvm.MethodName) ({ cls := "ThreeBodies", name := "back", desc := "(I)I" } : Jvm.MethodName)) ∈ lw_all := lw_g (lw_at lw_m7 65 rfl) rfl
theorem q1604 : (Jvm.Cond.code ({ cls := "ThreeBodies", name := "back", desc := "(I)I" } : Jvm.MethodName) prog_1_method_39_code (4 : Nat) (Option.some Jvm.ClassFile.FieldType.int)) ∈ lw_all := lw_g (lw_at lw_m7 66 rfl) rfl
theorem q1605 : (Jvm.Cond.methodLink "ThreeBodies" (327 : Nat) ({ cls := "ThreeBodies$Bodies", name := "step", desc := "([[LThreeBodies$Part;I)Z" } : Jvm.MethodName)) ∈ lw_all := lw_g (lw_at lw_m7 67 rfl) rfl
theorem q1610 : (Jvm.Cond.instanceMethod ({ cls := "ThreeBodies", name := "push", desc := "(III)I" } : Jvm.MethodName)) ∈ lw_all := lw_g (lw_at lw_m7 72 rfl) rfl
theorem q1611 : (Jvm.Cond.selects "ThreeBodies" ({ cls := "ThreeBodies", name := "push", desc := "(III)I" } : Jvm.MethodName) ({ cls := "ThreeBodies", name := "push", desc := "(III)I" } : Jvm.MethodName)) ∈ lw_all := lw_g (lw_at lw_m7 73 rfl) rfl
theorem q1612 : (Jvm.Cond.code ({ cls := "ThreeBodies", name := "push", desc := "(III)I" } : Jvm.MethodName) prog_1_method_40_code (9 : Nat) (Option.some Jvm.ClassFile.FieldType.int)) ∈ lw_all := lw_g (lw_at lw_m7 74 rfl) rfl
theorem q1613 : (Jvm.Cond.constantLong "ThreeBodies" (331 : Nat) (-1000000000 : Int64)) ∈ lw_all := lw_g (lw_at lw_m7 75 rfl) rfl
theorem q1614 : (Jvm.Cond.constantLong "ThreeBodies" (333 : Nat) (1000000000 : Int64)) ∈ lw_all := lw_g (lw_at lw_m7 76 rfl) rfl
theorem q1619 : (Jvm.Cond.instanceMethod ({ cls := "ThreeBodies", name := "place", desc := "(III)I" } : Jvm.MethodName)) ∈ lw_all := lw_g (lw_at lw_m7 81 rfl) rfl
theorem q1620 : (Jvm.Cond.selects "ThreeBodies" ({ cls := "ThreeBodies", name := "place", desc := "(III)I" } : Jvm.MethodName) ({ cls := "ThreeBodies", name := "place", desc := "(III)I" } : Jvm.MethodName)) ∈ lw_all := lw_g (lw_at lw_m7 82 rfl) rfl
theorem q1621 : (Jvm.Cond.code ({ cls := "ThreeBodies", name := "place", desc := "(III)I" } : Jvm.MethodName) prog_1_method_41_code (6 : Nat) (Option.some Jvm.ClassFile.FieldType.int)) ∈ lw_all := lw_g (lw_at lw_m7 83 rfl) rfl
theorem q1622 : (Jvm.Cond.constantLong "ThreeBodies" (335 : Nat) (-100000 : Int64)) ∈ lw_all := lw_g (lw_at lw_m7 84 rfl) rfl
theorem q1623 : (Jvm.Cond.constantLong "ThreeBodies" (337 : Nat) (100000 : Int64)) ∈ lw_all := lw_g (lw_at lw_m7 85 rfl) rfl
theorem q1624 : (Jvm.Cond.methodLink "ThreeBodies" (339 : Nat) ({ cls := "ThreeBodies", name := "distance", desc := "(JJ)I" } : Jvm.MethodName)) ∈ lw_all := lw_g (lw_at lw_m7 86 rfl) rfl
theorem q1629 : (Jvm.Cond.instanceMethod ({ cls := "ThreeBodies", name := "exchange", desc := "(II)V" } : Jvm.MethodName)) ∈ lw_all := lw_g (lw_at lw_m7 91 rfl) rfl
theorem q1630 : (Jvm.Cond.selects "ThreeBodies" ({ cls := "ThreeBodies", name := "exchange", desc := "(II)V" } : Jvm.MethodName) ({ cls := "ThreeBodies", name := "exchange", desc := "(II)V" } : Jvm.MethodName)) ∈ lw_all := lw_g (lw_at lw_m7 92 rfl) rfl
theorem q1631 : (Jvm.Cond.code ({ cls := "ThreeBodies", name := "exchange", desc := "(II)V" } : Jvm.MethodName) prog_1_method_44_code (4 : Nat) (Option.none : Option Jvm.ClassFile.FieldType)) ∈ lw_all := lw_g (lw_at lw_m7 93 rfl) rfl
theorem q1632 : (Jvm.Cond.methodLink "ThreeBodies" (342 : Nat) ({ cls := "ThreeBodies", name := "swap", desc := "([III)V" } : Jvm.MethodName)) ∈ lw_all := lw_g (lw_at lw_m7 94 rfl) rfl
theorem q1633 : (Jvm.Cond.static ({ cls := "ThreeBodies", name := "swap", desc := "([III)V" } : Jvm.MethodName)) ∈ lw_all := lw_g (lw_at lw_m7 95 rfl) rfl
theorem q1634 : (Jvm.Cond.code ({ cls := "ThreeBodies", name := "swap", desc := "([III)V" } : Jvm.MethodName) prog_1_method_45_code (4 : Nat) (Option.none : Option Jvm.ClassFile.FieldType)) ∈ lw_all := lw_g (lw_at lw_m7 96 rfl) rfl
theorem q1635 : (Jvm.Cond.methodLink "ThreeBodies" (346 : Nat) ({ cls := "ThreeBodies", name := "swapLong", desc := "([JII)V" } : Jvm.MethodName)) ∈ lw_all := lw_g (lw_at lw_m7 97 rfl) rfl
theorem q1636 : (Jvm.Cond.static ({ cls := "ThreeBodies", name := "swapLong", desc := "([JII)V" } : Jvm.MethodName)) ∈ lw_all := lw_g (lw_at lw_m7 98 rfl) rfl
theorem q1637 : (Jvm.Cond.code ({ cls := "ThreeBodies", name := "swapLong", desc := "([JII)V" } : Jvm.MethodName) prog_1_method_46_code (5 : Nat) (Option.none : Option Jvm.ClassFile.FieldType)) ∈ lw_all := lw_g (lw_at lw_m7 99 rfl) rfl
theorem q1642 : (Jvm.Cond.instanceMethod ({ cls := "ThreeBodies", name := "setScheme", desc := "(I)I" } : Jvm.MethodName)) ∈ lw_all := lw_g (lw_at lw_m7 104 rfl) rfl
theorem q1643 : (Jvm.Cond.selects "ThreeBodies" ({ cls := "ThreeBodies", name := "setScheme", desc := "(I)I" } : Jvm.MethodName) ({ cls := "ThreeBodies", name := "setScheme", desc := "(I)I" } : Jvm.MethodName)) ∈ lw_all := lw_g (lw_at lw_m7 105 rfl) rfl
theorem q1644 : (Jvm.Cond.code ({ cls := "ThreeBodies", name := "setScheme", desc := "(I)I" } : Jvm.MethodName) prog_1_method_47_code (4 : Nat) (Option.some Jvm.ClassFile.FieldType.int)) ∈ lw_all := lw_g (lw_at lw_m7 106 rfl) rfl
theorem q1649 : (Jvm.Cond.instanceMethod ({ cls := "ThreeBodies", name := "refine", desc := "(IIII)I" } : Jvm.MethodName)) ∈ lw_all := lw_g (lw_at lw_m7 111 rfl) rfl
theorem q1650 : (Jvm.Cond.selects "ThreeBodies" ({ cls := "ThreeBodies", name := "refine", desc := "(IIII)I" } : Jvm.MethodName) ({ cls := "ThreeBodies", name := "refine", desc := "(IIII)I" } : Jvm.MethodName)) ∈ lw_all := lw_g (lw_at lw_m7 112 rfl) rfl
theorem q1651 : (Jvm.Cond.code ({ cls := "ThreeBodies", name := "refine", desc := "(IIII)I" } : Jvm.MethodName) prog_1_method_50_code (12 : Nat) (Option.some Jvm.ClassFile.FieldType.int)) ∈ lw_all := lw_g (lw_at lw_m7 113 rfl) rfl
theorem q1652 : (Jvm.Cond.constantLong "ThreeBodies" (361 : Nat) (3 : Int64)) ∈ lw_all := lw_g (lw_at lw_m7 114 rfl) rfl
theorem q1653 : (Jvm.Cond.methodLink "ThreeBodies" (363 : Nat) ({ cls := "ThreeBodies", name := "isPeriod", desc := "(II)Z" } : Jvm.MethodName)) ∈ lw_all := lw_g (lw_at lw_m7 115 rfl) rfl
theorem q1654 : (Jvm.Cond.static ({ cls := "ThreeBodies", name := "isPeriod", desc := "(II)Z" } : Jvm.MethodName)) ∈ lw_all := lw_g (lw_at lw_m7 116 rfl) rfl
theorem q1655 : (Jvm.Cond.code ({ cls := "ThreeBodies", name := "isPeriod", desc := "(II)Z" } : Jvm.MethodName) prog_1_method_13_code (2 : Nat) (Option.some Jvm.ClassFile.FieldType.boolean)) ∈ lw_all := lw_g (lw_at lw_m7 117 rfl) rfl
theorem q1656 : (Jvm.Cond.constantLong "ThreeBodies" (62 : Nat) (300 : Int64)) ∈ lw_all := lw_g (lw_at lw_m7 118 rfl) rfl
theorem q1657 : (Jvm.Cond.constantLong "ThreeBodies" (367 : Nat) (1000000 : Int64)) ∈ lw_all := lw_g (lw_at lw_m7 119 rfl) rfl
theorem q1658 : (Jvm.Cond.constantLong "ThreeBodies" (369 : Nat) (20 : Int64)) ∈ lw_all := lw_g (lw_at lw_m7 120 rfl) rfl
theorem q1659 : (Jvm.Cond.methodLink "ThreeBodies" (371 : Nat) ({ cls := "ThreeBodies", name := "errorOf", desc := "(LThreeBodies$Bodies;II)I" } : Jvm.MethodName)) ∈ lw_all := lw_g (lw_at lw_m7 121 rfl) rfl
theorem q1660 : (Jvm.Cond.privateMethod ({ cls := "ThreeBodies", name := "errorOf", desc := "(LThreeBodies$Bodies;II)I" } : Jvm.MethodName)) ∈ lw_tbl := lw_at lw_m7 122 rfl
theorem q1661 : (Jvm.Cond.instanceMethod ({ cls := "ThreeBodies", name := "errorOf", desc := "(LThreeBodies$Bodies;II)I" } : Jvm.MethodName)) ∈ lw_all := lw_g (lw_at lw_m7 123 rfl) rfl
theorem q1662 : (Jvm.Cond.code ({ cls := "ThreeBodies", name := "errorOf", desc := "(LThreeBodies$Bodies;II)I" } : Jvm.MethodName) prog_1_method_48_code (4 : Nat) (Option.some Jvm.ClassFile.FieldType.int)) ∈ lw_all := lw_g (lw_at lw_m7 124 rfl) rfl
theorem q1663 : (Jvm.Cond.methodLink "ThreeBodies" (350 : Nat) ({ cls := "ThreeBodies", name := "layPath", desc := "(LThreeBodies$Bodies;I)I" } : Jvm.MethodName)) ∈ lw_all := lw_g (lw_at lw_m7 125 rfl) rfl
theorem q1664 : (Jvm.Cond.privateMethod ({ cls := "ThreeBodies", name := "layPath", desc := "(LThreeBodies$Bodies;I)I" } : Jvm.MethodName)) ∈ lw_tbl := lw_at lw_m7 126 rfl
theorem q1665 : (Jvm.Cond.instanceMethod ({ cls := "ThreeBodies", name := "layPath", desc := "(LThreeBodies$Bodies;I)I" } : Jvm.MethodName)) ∈ lw_all := lw_g (lw_at lw_m7 127 rfl) rfl
theorem q1666 : (Jvm.Cond.code ({ cls := "ThreeBodies", name := "layPath", desc := "(LThreeBodies$Bodies;I)I" } : Jvm.MethodName) prog_1_method_18_code (5 : Nat) (Option.some Jvm.ClassFile.FieldType.int)) ∈ lw_all := lw_g (lw_at lw_m7 128 rfl) rfl
theorem q1667 : (Jvm.Cond.methodLink "ThreeBodies" (176 : Nat) ({ cls := "ThreeBodies$Path", name := "lay", desc := "(ILThreeBodies$Bodies;)V" } : Jvm.MethodName)) ∈ lw_all := lw_g (lw_at lw_m7 129 rfl) rfl
theorem q1671 : (Jvm.Cond.classLink "ThreeBodies" (180 : Nat) "ThreeBodies$Walk") ∈ lw_all := lw_g (lw_at lw_m7 133 rfl) rfl
theorem q1673 : (Jvm.Cond.methodLink "ThreeBodies" (182 : Nat) ({ cls := "ThreeBodies$Walk", name := "<init>", desc := "(LThreeBodies;LThreeBodies$Bodies;I)V" } : Jvm.MethodName)) ∈ lw_all := lw_g (lw_at lw_m7 135 rfl) rfl
theorem q1688 : (Jvm.Cond.methodLink "ThreeBodies" (185 : Nat) ({ cls := "ThreeBodies$Walk", name := "hasNext", desc := "()Z" } : Jvm.MethodName)) ∈ lw_all := lw_g (lw_at lw_m7 150 rfl) rfl
theorem q1689 : (Jvm.Cond.methodLink "ThreeBodies" (189 : Nat) ({ cls := "ThreeBodies$Walk", name := "next", desc := "()LThreeBodies$Bodies;" } : Jvm.MethodName)) ∈ lw_all := lw_g (lw_at lw_m7 151 rfl) rfl
theorem q1690 : (Jvm.Cond.interfaceEntry "ThreeBodies" (354 : Nat)) ∈ lw_tbl := lw_at lw_m7 152 rfl
theorem q1691 : (Jvm.Cond.methodLink "ThreeBodies" (354 : Nat) ({ cls := "ThreeBodies$Measure", name := "error", desc := "(LThreeBodies$Path;I)I" } : Jvm.MethodName)) ∈ lw_all := lw_g (lw_at lw_m7 153 rfl) rfl
theorem q1694 : (Jvm.Cond.methodLink "ThreeBodies" (375 : Nat) ({ cls := "ThreeBodies", name := "change", desc := "(LThreeBodies$Bodies;II)Z" } : Jvm.MethodName)) ∈ lw_all := lw_g (lw_at lw_m7 156 rfl) rfl
theorem q1695 : (Jvm.Cond.privateMethod ({ cls := "ThreeBodies", name := "change", desc := "(LThreeBodies$Bodies;II)Z" } : Jvm.MethodName)) ∈ lw_tbl := lw_at lw_m7 157 rfl
theorem q1696 : (Jvm.Cond.instanceMethod ({ cls := "ThreeBodies", name := "change", desc := "(LThreeBodies$Bodies;II)Z" } : Jvm.MethodName)) ∈ lw_all := lw_g (lw_at lw_m7 158 rfl) rfl
theorem q1697 : (Jvm.Cond.code ({ cls := "ThreeBodies", name := "change", desc := "(LThreeBodies$Bodies;II)Z" } : Jvm.MethodName) prog_1_method_49_code (6 : Nat) (Option.some Jvm.ClassFile.FieldType.boolean)) ∈ lw_all := lw_g (lw_at lw_m7 159 rfl) rfl
theorem q1698 : (Jvm.Cond.methodLink "ThreeBodies" (357 : Nat) ({ cls := "ThreeBodies$Bodies", name := "become", desc := "(LThreeBodies$Bodies;)V" } : Jvm.MethodName)) ∈ lw_all := lw_g (lw_at lw_m7 160 rfl) rfl
theorem q1703 : (Jvm.Cond.instanceMethod ({ cls := "ThreeBodies", name := "possible", desc := "(I)I" } : Jvm.MethodName)) ∈ lw_all := lw_g (lw_at lw_m7 165 rfl) rfl
theorem q1704 : (Jvm.Cond.selects "ThreeBodies" ({ cls := "ThreeBodies", name := "possible", desc := "(I)I" } : Jvm.MethodName) ({ cls := "ThreeBodies", name := "possible", desc := "(I)I" } : Jvm.MethodName)) ∈ lw_all := lw_g (lw_at lw_m7 166 rfl) rfl
theorem q1705 : (Jvm.Cond.code ({ cls := "ThreeBodies", name := "possible", desc := "(I)I" } : Jvm.MethodName) prog_1_method_51_code (5 : Nat) (Option.some Jvm.ClassFile.FieldType.int)) ∈ lw_all := lw_g (lw_at lw_m7 167 rfl) rfl
theorem q1710 : (Jvm.Cond.instanceMethod ({ cls := "ThreeBodies", name := "error", desc := "(II)I" } : Jvm.MethodName)) ∈ lw_all := lw_g (lw_at lw_m7 172 rfl) rfl
theorem q1711 : (Jvm.Cond.selects "ThreeBodies" ({ cls := "ThreeBodies", name := "error", desc := "(II)I" } : Jvm.MethodName) ({ cls := "ThreeBodies", name := "error", desc := "(II)I" } : Jvm.MethodName)) ∈ lw_all := lw_g (lw_at lw_m7 173 rfl) rfl
theorem q1712 : (Jvm.Cond.code ({ cls := "ThreeBodies", name := "error", desc := "(II)I" } : Jvm.MethodName) prog_1_method_52_code (3 : Nat) (Option.some Jvm.ClassFile.FieldType.int)) ∈ lw_all := lw_g (lw_at lw_m7 174 rfl) rfl
theorem q1717 : (Jvm.Cond.instanceMethod ({ cls := "ThreeBodies", name := "bestPeriod", desc := "(II)I" } : Jvm.MethodName)) ∈ lw_all := lw_g (lw_at lw_m7 179 rfl) rfl
theorem q1718 : (Jvm.Cond.selects "ThreeBodies" ({ cls := "ThreeBodies", name := "bestPeriod", desc := "(II)I" } : Jvm.MethodName) ({ cls := "ThreeBodies", name := "bestPeriod", desc := "(II)I" } : Jvm.MethodName)) ∈ lw_all := lw_g (lw_at lw_m7 180 rfl) rfl
theorem q1719 : (Jvm.Cond.code ({ cls := "ThreeBodies", name := "bestPeriod", desc := "(II)I" } : Jvm.MethodName) prog_1_method_53_code (8 : Nat) (Option.some Jvm.ClassFile.FieldType.int)) ∈ lw_all := lw_g (lw_at lw_m7 181 rfl) rfl
theorem q1724 : (Jvm.Cond.instanceMethod ({ cls := "ThreeBodies", name := "recurs", desc := "(ZI)I" } : Jvm.MethodName)) ∈ lw_all := lw_g (lw_at lw_m7 186 rfl) rfl
theorem q1725 : (Jvm.Cond.selects "ThreeBodies" ({ cls := "ThreeBodies", name := "recurs", desc := "(ZI)I" } : Jvm.MethodName) ({ cls := "ThreeBodies", name := "recurs", desc := "(ZI)I" } : Jvm.MethodName)) ∈ lw_all := lw_g (lw_at lw_m7 187 rfl) rfl
theorem q1726 : (Jvm.Cond.code ({ cls := "ThreeBodies", name := "recurs", desc := "(ZI)I" } : Jvm.MethodName) prog_1_method_54_code (5 : Nat) (Option.some Jvm.ClassFile.FieldType.int)) ∈ lw_all := lw_g (lw_at lw_m7 188 rfl) rfl
theorem q1727 : (Jvm.Cond.methodLink "ThreeBodies" (379 : Nat) ({ cls := "ThreeBodies$Bodies", name := "isLike", desc := "(LThreeBodies$Bodies;Z)Z" } : Jvm.MethodName)) ∈ lw_all := lw_g (lw_at lw_m7 189 rfl) rfl
theorem q1743 : (Jvm.Cond.instanceMethod ({ cls := "ThreeBodies", name := "cellCount", desc := "(III)I" } : Jvm.MethodName)) ∈ lw_all := lw_g (lw_at lw_m7 205 rfl) rfl
theorem q1744 : (Jvm.Cond.selects "ThreeBodies" ({ cls := "ThreeBodies", name := "cellCount", desc := "(III)I" } : Jvm.MethodName) ({ cls := "ThreeBodies", name := "cellCount", desc := "(III)I" } : Jvm.MethodName)) ∈ lw_all := lw_g (lw_at lw_m7 206 rfl) rfl
theorem q1745 : (Jvm.Cond.code ({ cls := "ThreeBodies", name := "cellCount", desc := "(III)I" } : Jvm.MethodName) prog_1_method_56_code (5 : Nat) (Option.some Jvm.ClassFile.FieldType.int)) ∈ lw_all := lw_g (lw_at lw_m7 207 rfl) rfl
theorem q1746 : (Jvm.Cond.constantLong "ThreeBodies" (410 : Nat) (1000 : Int64)) ∈ lw_all := lw_g (lw_at lw_m7 208 rfl) rfl
theorem q1747 : (Jvm.Cond.methodLink "ThreeBodies" (412 : Nat) ({ cls := "ThreeBodies", name := "visits", desc := "(III)Ljava/util/Map;" } : Jvm.MethodName)) ∈ lw_all := lw_g (lw_at lw_m7 209 rfl) rfl
theorem q1748 : (Jvm.Cond.privateMethod ({ cls := "ThreeBodies", name := "visits", desc := "(III)Ljava/util/Map;" } : Jvm.MethodName)) ∈ lw_tbl := lw_at lw_m7 210 rfl
theorem q1749 : (Jvm.Cond.instanceMethod ({ cls := "ThreeBodies", name := "visits", desc := "(III)Ljava/util/Map;" } : Jvm.MethodName)) ∈ lw_all := lw_g (lw_at lw_m7 211 rfl) rfl
theorem q1750 : (Jvm.Cond.code ({ cls := "ThreeBodies", name := "visits", desc := "(III)Ljava/util/Map;" } : Jvm.MethodName) prog_1_method_55_code (9 : Nat) (Option.some (Jvm.ClassFile.FieldType.object "java/util/Map"))) ∈ lw_all := lw_g (lw_at lw_m7 212 rfl) rfl
theorem q1751 : (Jvm.Cond.classLink "ThreeBodies" (383 : Nat) "java/util/LinkedHashMap") ∈ lw_all := lw_g (lw_at lw_m7 213 rfl) rfl
theorem q1753 : (Jvm.Cond.methodLink "ThreeBodies" (385 : Nat) ({ cls := "java/util/LinkedHashMap", name := "<init>", desc := "()V" } : Jvm.MethodName)) ∈ lw_all := lw_g (lw_at lw_m7 215 rfl) rfl
theorem q1805 : (Jvm.Cond.classLink "ThreeBodies" (386 : Nat) "ThreeBodies$Cell") ∈ lw_all := lw_g (lw_at lw_m8 27 rfl) rfl
theorem q1807 : (Jvm.Cond.methodLink "ThreeBodies" (388 : Nat) ({ cls := "java/lang/Math", name := "floorDiv", desc := "(II)I" } : Jvm.MethodName)) ∈ lw_all := lw_g (lw_at lw_m8 29 rfl) rfl
theorem q1810 : (Jvm.Cond.methodLink "ThreeBodies" (391 : Nat) ({ cls := "ThreeBodies$Cell", name := "<init>", desc := "(II)V" } : Jvm.MethodName)) ∈ lw_all := lw_g (lw_at lw_m8 32 rfl) rfl
theorem q1815 : (Jvm.Cond.fieldLinkNest "ThreeBodies" (430 : Nat) "ThreeBodies$Cell" "first" "I" "ThreeBodies") ∈ lw_tbl := lw_at lw_m8 37 rfl
theorem q1817 : (Jvm.Cond.fieldLinkNest "ThreeBodies" (433 : Nat) "ThreeBodies$Cell" "second" "I" "ThreeBodies") ∈ lw_tbl := lw_at lw_m8 39 rfl
theorem q1823 : (Jvm.Cond.interfaceEntry "ThreeBodies" (394 : Nat)) ∈ lw_tbl := lw_at lw_m8 45 rfl
theorem q1824 : (Jvm.Cond.methodLink "ThreeBodies" (394 : Nat) ({ cls := "java/util/Map", name := "get", desc := "(Ljava/lang/Object;)Ljava/lang/Object;" } : Jvm.MethodName)) ∈ lw_all := lw_g (lw_at lw_m8 46 rfl) rfl
theorem q1846 : (Jvm.Cond.selects "ThreeBodies" ({ cls := "java/lang/Object", name := "hashCode", desc := "()I" } : Jvm.MethodName) ({ cls := "java/lang/Object", name := "hashCode", desc := "()I" } : Jvm.MethodName)) ∈ lw_all := lw_g (lw_at lw_m8 68 rfl) rfl
theorem q1932 : (Jvm.Cond.selects "ThreeBodies" ({ cls := "java/lang/Object", name := "equals", desc := "(Ljava/lang/Object;)Z" } : Jvm.MethodName) ({ cls := "java/lang/Object", name := "equals", desc := "(Ljava/lang/Object;)Z" } : Jvm.MethodName)) ∈ lw_all := lw_g (lw_at lw_m8 154 rfl) rfl
theorem q2168 : (Jvm.Cond.classLink "ThreeBodies" (400 : Nat) "ThreeBodies$Visits") ∈ lw_all := lw_g (lw_at lw_m9 150 rfl) rfl
theorem q2170 : (Jvm.Cond.methodLinkNest "ThreeBodies" (402 : Nat) ({ cls := "ThreeBodies$Visits", name := "<init>", desc := "()V" } : Jvm.MethodName) "ThreeBodies") ∈ lw_tbl := lw_at lw_m9 152 rfl
theorem q2174 : (Jvm.Cond.fieldLinkNest "ThreeBodies" (407 : Nat) "ThreeBodies$Visits" "count" "I" "ThreeBodies") ∈ lw_tbl := lw_at lw_m9 156 rfl
theorem q2178 : (Jvm.Cond.interfaceEntry "ThreeBodies" (403 : Nat)) ∈ lw_tbl := lw_at lw_m9 160 rfl
theorem q2179 : (Jvm.Cond.methodLink "ThreeBodies" (403 : Nat) ({ cls := "java/util/Map", name := "put", desc := "(Ljava/lang/Object;Ljava/lang/Object;)Ljava/lang/Object;" } : Jvm.MethodName)) ∈ lw_all := lw_g (lw_at lw_m9 161 rfl) rfl
theorem q2368 : (Jvm.Cond.interfaceEntry "ThreeBodies" (416 : Nat)) ∈ lw_tbl := lw_at lw_m10 110 rfl
theorem q2369 : (Jvm.Cond.methodLink "ThreeBodies" (416 : Nat) ({ cls := "java/util/Map", name := "size", desc := "()I" } : Jvm.MethodName)) ∈ lw_all := lw_g (lw_at lw_m10 111 rfl) rfl
theorem q2381 : (Jvm.Cond.instanceMethod ({ cls := "ThreeBodies", name := "cell", desc := "(IIIII)I" } : Jvm.MethodName)) ∈ lw_all := lw_g (lw_at lw_m10 123 rfl) rfl
theorem q2382 : (Jvm.Cond.selects "ThreeBodies" ({ cls := "ThreeBodies", name := "cell", desc := "(IIIII)I" } : Jvm.MethodName) ({ cls := "ThreeBodies", name := "cell", desc := "(IIIII)I" } : Jvm.MethodName)) ∈ lw_all := lw_g (lw_at lw_m10 124 rfl) rfl
theorem q2383 : (Jvm.Cond.code ({ cls := "ThreeBodies", name := "cell", desc := "(IIIII)I" } : Jvm.MethodName) prog_1_method_57_code (10 : Nat) (Option.some Jvm.ClassFile.FieldType.int)) ∈ lw_all := lw_g (lw_at lw_m10 125 rfl) rfl
theorem q2384 : (Jvm.Cond.constant "ThreeBodies" (417 : Nat) (-1000000000 : Int32)) ∈ lw_all := lw_g (lw_at lw_m10 126 rfl) rfl
theorem q2385 : (Jvm.Cond.interfaceEntry "ThreeBodies" (418 : Nat)) ∈ lw_tbl := lw_at lw_m10 127 rfl
theorem q2386 : (Jvm.Cond.methodLink "ThreeBodies" (418 : Nat) ({ cls := "java/util/Map", name := "entrySet", desc := "()Ljava/util/Set;" } : Jvm.MethodName)) ∈ lw_all := lw_g (lw_at lw_m10 128 rfl) rfl
theorem q2415 : (Jvm.Cond.interfaceEntry "ThreeBodies" (422 : Nat)) ∈ lw_tbl := lw_at lw_m10 157 rfl
theorem q2416 : (Jvm.Cond.methodLink "ThreeBodies" (422 : Nat) ({ cls := "java/util/Set", name := "iterator", desc := "()Ljava/util/Iterator;" } : Jvm.MethodName)) ∈ lw_all := lw_g (lw_at lw_m10 158 rfl) rfl
theorem q2450 : (Jvm.Cond.classLink "ThreeBodies" (425 : Nat) "java/util/Map$Entry") ∈ lw_all := lw_g (lw_at lw_m10 192 rfl) rfl
theorem q2451 : (Jvm.Cond.interfaceEntry "ThreeBodies" (427 : Nat)) ∈ lw_tbl := lw_at lw_m10 193 rfl
theorem q2452 : (Jvm.Cond.methodLink "ThreeBodies" (427 : Nat) ({ cls := "java/util/Map$Entry", name := "getKey", desc := "()Ljava/lang/Object;" } : Jvm.MethodName)) ∈ lw_all := lw_g (lw_at lw_m10 194 rfl) rfl
theorem q2467 : (Jvm.Cond.interfaceEntry "ThreeBodies" (436 : Nat)) ∈ lw_tbl := lw_at lw_m10 209 rfl
theorem q2468 : (Jvm.Cond.methodLink "ThreeBodies" (436 : Nat) ({ cls := "java/util/Map$Entry", name := "getValue", desc := "()Ljava/lang/Object;" } : Jvm.MethodName)) ∈ lw_all := lw_g (lw_at lw_m10 210 rfl) rfl
theorem q2484 : (Jvm.Cond.instanceMethod ({ cls := "ThreeBodies", name := "format", desc := "(I)I" } : Jvm.MethodName)) ∈ lw_all := lw_g (lw_at lw_m10 226 rfl) rfl
theorem q2485 : (Jvm.Cond.selects "ThreeBodies" ({ cls := "ThreeBodies", name := "format", desc := "(I)I" } : Jvm.MethodName) ({ cls := "ThreeBodies", name := "format", desc := "(I)I" } : Jvm.MethodName)) ∈ lw_all := lw_g (lw_at lw_m10 227 rfl) rfl
theorem q2486 : (Jvm.Cond.code ({ cls := "ThreeBodies", name := "format", desc := "(I)I" } : Jvm.MethodName) prog_1_method_60_code (3 : Nat) (Option.some Jvm.ClassFile.FieldType.int)) ∈ lw_all := lw_g (lw_at lw_m10 228 rfl) rfl
theorem q2487 : (Jvm.Cond.methodLink "ThreeBodies" (440 : Nat) ({ cls := "java/lang/StringBuilder", name := "setLength", desc := "(I)V" } : Jvm.MethodName)) ∈ lw_all := lw_g (lw_at lw_m10 229 rfl) rfl
theorem q2510 : (Jvm.Cond.methodLink "ThreeBodies" (443 : Nat) ({ cls := "java/lang/StringBuilder", name := "append", desc := "(C)Ljava/lang/StringBuilder;" } : Jvm.MethodName)) ∈ lw_all := lw_g (lw_at lw_m11 12 rfl) rfl
theorem q2511 : (Jvm.Cond.methodLink "ThreeBodies" (446 : Nat) ({ cls := "java/lang/StringBuilder", name := "append", desc := "(I)Ljava/lang/StringBuilder;" } : Jvm.MethodName)) ∈ lw_all := lw_g (lw_at lw_m11 13 rfl) rfl
theorem q2512 : (Jvm.Cond.stringRef "ThreeBodies" (449 : Nat) " m") ∈ lw_tbl := lw_at lw_m11 14 rfl
theorem q2513 : (Jvm.Cond.methodLink "ThreeBodies" (451 : Nat) ({ cls := "java/lang/StringBuilder", name := "append", desc := "(Ljava/lang/String;)Ljava/lang/StringBuilder;" } : Jvm.MethodName)) ∈ lw_all := lw_g (lw_at lw_m11 15 rfl) rfl
theorem q2514 : (Jvm.Cond.stringRef "ThreeBodies" (454 : Nat) " (") ∈ lw_tbl := lw_at lw_m11 16 rfl
theorem q2515 : (Jvm.Cond.stringRef "ThreeBodies" (456 : Nat) ") [") ∈ lw_tbl := lw_at lw_m11 17 rfl
theorem q2516 : (Jvm.Cond.methodLink "ThreeBodies" (458 : Nat) ({ cls := "java/lang/StringBuilder", name := "append", desc := "(J)Ljava/lang/StringBuilder;" } : Jvm.MethodName)) ∈ lw_all := lw_g (lw_at lw_m11 18 rfl) rfl
theorem q2547 : (Jvm.Cond.instanceMethod ({ cls := "ThreeBodies", name := "query", desc := "(I)I" } : Jvm.MethodName)) ∈ lw_all := lw_g (lw_at lw_m11 49 rfl) rfl
theorem q2548 : (Jvm.Cond.selects "ThreeBodies" ({ cls := "ThreeBodies", name := "query", desc := "(I)I" } : Jvm.MethodName) ({ cls := "ThreeBodies", name := "query", desc := "(I)I" } : Jvm.MethodName)) ∈ lw_all := lw_g (lw_at lw_m11 50 rfl) rfl
theorem q2549 : (Jvm.Cond.codeWith ({ cls := "ThreeBodies", name := "query", desc := "(I)I" } : Jvm.MethodName) prog_1_method_66_code (9 : Nat) (Option.some Jvm.ClassFile.FieldType.int) [((48 : Nat), (53 : Nat), (56 : Nat), (218 : Nat))]) ∈ lw_all := lw_g (lw_at lw_m11 51 rfl) rfl
theorem q2550 : (Jvm.Cond.methodLink "ThreeBodies" (474 : Nat) ({ cls := "java/lang/Math", name := "min", desc := "(II)I" } : Jvm.MethodName)) ∈ lw_all := lw_g (lw_at lw_m11 52 rfl) rfl
theorem q2551 : (Jvm.Cond.classLink "ThreeBodies" (477 : Nat) "ThreeBodies$QueryParser") ∈ lw_all := lw_g (lw_at lw_m11 53 rfl) rfl
theorem q2553 : (Jvm.Cond.stringRef "ThreeBodies" (479 : Nat) ";()<=>") ∈ lw_tbl := lw_at lw_m11 55 rfl
theorem q2554 : (Jvm.Cond.methodLink "ThreeBodies" (481 : Nat) ({ cls := "ThreeBodies$QueryParser", name := "<init>", desc := "(LThreeBodies$Scanner;)V" } : Jvm.MethodName)) ∈ lw_all := lw_g (lw_at lw_m11 56 rfl) rfl
theorem q2560 : (Jvm.Cond.fieldLinkNest "ThreeBodies" (491 : Nat) "ThreeBodies$QueryParser" "first" "Z" "ThreeBodies") ∈ lw_tbl := lw_at lw_m11 62 rfl
theorem q2569 : (Jvm.Cond.methodLink "ThreeBodies" (482 : Nat) ({ cls := "ThreeBodies$QueryParser", name := "read", desc := "()LThreeBodies$Test;" } : Jvm.MethodName)) ∈ lw_all := lw_g (lw_at lw_m11 71 rfl) rfl
theorem q2664 : (Jvm.Cond.static ({ cls := "ThreeBodies", name := "property", desc := "(Ljava/lang/String;)LThreeBodies$Value;" } : Jvm.MethodName)) ∈ lw_all := lw_g (lw_at lw_m11 166 rfl) rfl
theorem q2665 : (Jvm.Cond.code ({ cls := "ThreeBodies", name := "property", desc := "(Ljava/lang/String;)LThreeBodies$Value;" } : Jvm.MethodName) prog_1_method_14_code (3 : Nat) (Option.some (Jvm.ClassFile.FieldType.object "ThreeBodies$Value"))) ∈ lw_all := lw_g (lw_at lw_m11 167 rfl) rfl
theorem q2666 : (Jvm.Cond.methodLink "ThreeBodies" (68 : Nat) ({ cls := "java/lang/String", name := "hashCode", desc := "()I" } : Jvm.MethodName)) ∈ lw_all := lw_g (lw_at lw_m11 168 rfl) rfl
theorem q2667 : (Jvm.Cond.stringRef "ThreeBodies" (74 : Nat) "number") ∈ lw_tbl := lw_at lw_m11 169 rfl
theorem q2668 : (Jvm.Cond.methodLink "ThreeBodies" (76 : Nat) ({ cls := "java/lang/String", name := "equals", desc := "(Ljava/lang/Object;)Z" } : Jvm.MethodName)) ∈ lw_all := lw_g (lw_at lw_m11 170 rfl) rfl
theorem q2669 : (Jvm.Cond.stringRef "ThreeBodies" (80 : Nat) "clock") ∈ lw_tbl := lw_at lw_m11 171 rfl
theorem q2670 : (Jvm.Cond.stringRef "ThreeBodies" (82 : Nat) "pair") ∈ lw_tbl := lw_at lw_m11 172 rfl
theorem q2671 : (Jvm.Cond.stringRef "ThreeBodies" (84 : Nat) "distance") ∈ lw_tbl := lw_at lw_m11 173 rfl
theorem q2672 : (Jvm.Cond.static ({ cls := "ThreeBodies", name := "lambda$property$8", desc := "(LThreeBodies$Approach;I)I" } : Jvm.MethodName)) ∈ lw_all := lw_g (lw_at lw_m11 174 rfl) rfl
theorem q2673 : (Jvm.Cond.code ({ cls := "ThreeBodies", name := "lambda$property$8", desc := "(LThreeBodies$Approach;I)I" } : Jvm.MethodName) prog_1_method_70_code (2 : Nat) (Option.some Jvm.ClassFile.FieldType.int)) ∈ lw_all := lw_g (lw_at lw_m11 175 rfl) rfl
theorem q2674 : (Jvm.Cond.static ({ cls := "ThreeBodies", name := "lambda$property$9", desc := "(LThreeBodies$Approach;I)I" } : Jvm.MethodName)) ∈ lw_all := lw_g (lw_at lw_m11 176 rfl) rfl
theorem q2675 : (Jvm.Cond.code ({ cls := "ThreeBodies", name := "lambda$property$9", desc := "(LThreeBodies$Approach;I)I" } : Jvm.MethodName) prog_1_method_69_code (2 : Nat) (Option.some Jvm.ClassFile.FieldType.int)) ∈ lw_all := lw_g (lw_at lw_m11 177 rfl) rfl
theorem q2676 : (Jvm.Cond.static ({ cls := "ThreeBodies", name := "lambda$property$10", desc := "(LThreeBodies$Approach;I)I" } : Jvm.MethodName)) ∈ lw_all := lw_g (lw_at lw_m11 178 rfl) rfl
theorem q2677 : (Jvm.Cond.code ({ cls := "ThreeBodies", name := "lambda$property$10", desc := "(LThreeBodies$Approach;I)I" } : Jvm.MethodName) prog_1_method_68_code (2 : Nat) (Option.some Jvm.ClassFile.FieldType.int)) ∈ lw_all := lw_g (lw_at lw_m11 179 rfl) rfl
theorem q2678 : (Jvm.Cond.static ({ cls := "ThreeBodies", name := "lambda$property$11", desc := "(LThreeBodies$Approach;I)I" } : Jvm.MethodName)) ∈ lw_all := lw_g (lw_at lw_m11 180 rfl) rfl
theorem q2679 : (Jvm.Cond.code ({ cls := "ThreeBodies", name := "lambda$property$11", desc := "(LThreeBodies$Approach;I)I" } : Jvm.MethodName) prog_1_method_67_code (2 : Nat) (Option.some Jvm.ClassFile.FieldType.int)) ∈ lw_all := lw_g (lw_at lw_m11 181 rfl) rfl
theorem q2696 : (Jvm.Cond.interfaceEntry "ThreeBodies" (485 : Nat)) ∈ lw_tbl := lw_at lw_m11 198 rfl
theorem q2697 : (Jvm.Cond.methodLink "ThreeBodies" (485 : Nat) ({ cls := "ThreeBodies$Test", name := "holds", desc := "(LThreeBodies$Approach;I)Z" } : Jvm.MethodName)) ∈ lw_all := lw_g (lw_at lw_m11 199 rfl) rfl
theorem q3389 : (Jvm.Cond.castable "ThreeBodies" "java/lang/Object") ∈ lw_tbl := lw_at lw_m14 171 rfl
theorem in_X1 : ∀ w ∈ wsX10, w ∈ lw_all := lw_in wsX10 [532, 534, 536, 538, 540, 542, 544, 546, 548, 550, 552, 554] (by decide +kernel) (by decide +kernel)
/-! ThreeBodies$State -/
set_option maxRecDepth 100000
def RX2 : String := "ThreeBodies$State"
def TX2 : u_T := fun k => match k with
  | 0 => ("ThreeBodies$State", "bodies", "LThreeBodies$Bodies;", true)
  | 1 => ("ThreeBodies$State", "approaches", "Ljava/util/ArrayDeque;", true)
  | 2 => ("ThreeBodies$State", "older", "[I", true)
  | 3 => ("ThreeBodies$State", "latest", "[I", true)
  | 4 => ("ThreeBodies$State", "remembered", "I", false)
  | 5 => ("ThreeBodies$State", "crossings", "I", false)
  | 6 => ("ThreeBodies$State", "lowest", "J", false)
  | _ => ("ThreeBodies$State", "highest", "J", false)
def tyX2 : Nat → FieldType := fun k => match k with
  | 0 => .object "ThreeBodies$Bodies"
  | 1 => .object "java/util/ArrayDeque"
  | 2 => .array .int
  | 3 => .array .int
  | 4 => .int
  | 5 => .int
  | 6 => .long
  | _ => .long
abbrev wsX20 : List Cond := u_ws RX2 TX2 8
theorem nmX2 : ∀ a, a < 8 → ∀ b, b < 8 → a ≠ b → (TX2 a).2.1 ≠ (TX2 b).2.1 := by decide +kernel
theorem tyX2_ok : ∀ k, k < 8 → parseFieldDescriptor (TX2 k).2.2.1 = some (tyX2 k) := by decide +kernel
abbrev cX2_init : ByteArray := prog_15_method_1_code
def yX2_init : MethodName := ⟨RX2, "<init>", "()V"⟩
def dkwX2_init_1 : List UInt8 := [181, 0, 21, 42, 6, 188, 10, 181, 0, 25, 42, 6, 188, 10, 181, 0, 29, 42, 182, 0, 32, 177]
abbrev dktX2_init_1 : List UInt8 := dkwX2_init_1 ++ []
def dkwX2_init_0 : List UInt8 := [42, 183, 0, 3, 42, 187, 0, 9, 89, 183, 0, 11, 181, 0, 12, 42, 187, 0, 18, 89, 183, 0, 20]
abbrev dktX2_init_0 : List UInt8 := dkwX2_init_0 ++ dktX2_init_1
theorem dksX2_init_0 : cX2_init.data.toList.drop 0 = dktX2_init_0 := by decide +kernel
theorem dksX2_init_1 : cX2_init.data.toList.drop 23 = dktX2_init_1 := dk_seg dksX2_init_0 23 rfl rfl
theorem dX2_init_0 : decode cX2_init 0 = .ok (.aload_n 0, 1) := dk_42 (dk_at dksX2_init_0 0 rfl rfl)
theorem dX2_init_1 : decode cX2_init 1 = .ok (.invokespecial 3, 3) := dk_183 0 3 (dk_at dksX2_init_0 1 rfl rfl)
theorem dX2_init_4 : decode cX2_init 4 = .ok (.aload_n 0, 1) := dk_42 (dk_at dksX2_init_0 4 rfl rfl)
theorem dX2_init_5 : decode cX2_init 5 = .ok (.new 9, 3) := dk_187 0 9 (dk_at dksX2_init_0 5 rfl rfl)
theorem dX2_init_8 : decode cX2_init 8 = .ok (.dup, 1) := dk_89 (dk_at dksX2_init_0 8 rfl rfl)
theorem dX2_init_9 : decode cX2_init 9 = .ok (.invokespecial 11, 3) := dk_183 0 11 (dk_at dksX2_init_0 9 rfl rfl)
theorem dX2_init_12 : decode cX2_init 12 = .ok (.putfield 12, 3) := dk_181 0 12 (dk_at dksX2_init_0 12 rfl rfl)
theorem dX2_init_15 : decode cX2_init 15 = .ok (.aload_n 0, 1) := dk_42 (dk_at dksX2_init_0 15 rfl rfl)
theorem dX2_init_16 : decode cX2_init 16 = .ok (.new 18, 3) := dk_187 0 18 (dk_at dksX2_init_0 16 rfl rfl)
theorem dX2_init_19 : decode cX2_init 19 = .ok (.dup, 1) := dk_89 (dk_at dksX2_init_0 19 rfl rfl)
theorem dX2_init_20 : decode cX2_init 20 = .ok (.invokespecial 20, 3) := dk_183 0 20 (dk_at dksX2_init_0 20 rfl rfl)
theorem dX2_init_23 : decode cX2_init 23 = .ok (.putfield 21, 3) := dk_181 0 21 (dk_at dksX2_init_1 0 rfl rfl)
theorem dX2_init_26 : decode cX2_init 26 = .ok (.aload_n 0, 1) := dk_42 (dk_at dksX2_init_1 3 rfl rfl)
theorem dX2_init_27 : decode cX2_init 27 = .ok (.iconst 3, 1) := dk_6 (dk_at dksX2_init_1 4 rfl rfl)
theorem dX2_init_28 : decode cX2_init 28 = .ok (.newarray .int, 2) := dk_188_10 (dk_at dksX2_init_1 5 rfl rfl)
theorem dX2_init_30 : decode cX2_init 30 = .ok (.putfield 25, 3) := dk_181 0 25 (dk_at dksX2_init_1 7 rfl rfl)
theorem dX2_init_33 : decode cX2_init 33 = .ok (.aload_n 0, 1) := dk_42 (dk_at dksX2_init_1 10 rfl rfl)
theorem dX2_init_34 : decode cX2_init 34 = .ok (.iconst 3, 1) := dk_6 (dk_at dksX2_init_1 11 rfl rfl)
theorem dX2_init_35 : decode cX2_init 35 = .ok (.newarray .int, 2) := dk_188_10 (dk_at dksX2_init_1 12 rfl rfl)
theorem dX2_init_37 : decode cX2_init 37 = .ok (.putfield 29, 3) := dk_181 0 29 (dk_at dksX2_init_1 14 rfl rfl)
theorem dX2_init_40 : decode cX2_init 40 = .ok (.aload_n 0, 1) := dk_42 (dk_at dksX2_init_1 17 rfl rfl)
theorem dX2_init_41 : decode cX2_init 41 = .ok (.invokevirtual 32, 3) := dk_182 0 32 (dk_at dksX2_init_1 18 rfl rfl)
theorem dX2_init_44 : decode cX2_init 44 = .ok (.return_, 1) := dk_177 (dk_at dksX2_init_1 21 rfl rfl)
abbrev cX2_see : ByteArray := prog_15_method_3_code
def yX2_see : MethodName := ⟨RX2, "see", "()V"⟩
def dkwX2_see_0 : List UInt8 := [42, 42, 180, 0, 12, 182, 0, 71, 181, 0, 64, 42, 42, 180, 0, 64, 181, 0, 68, 177]
abbrev dktX2_see_0 : List UInt8 := dkwX2_see_0 ++ []
theorem dksX2_see_0 : cX2_see.data.toList.drop 0 = dktX2_see_0 := by decide +kernel
theorem dX2_see_0 : decode cX2_see 0 = .ok (.aload_n 0, 1) := dk_42 (dk_at dksX2_see_0 0 rfl rfl)
theorem dX2_see_1 : decode cX2_see 1 = .ok (.aload_n 0, 1) := dk_42 (dk_at dksX2_see_0 1 rfl rfl)
theorem dX2_see_2 : decode cX2_see 2 = .ok (.getfield 12, 3) := dk_180 0 12 (dk_at dksX2_see_0 2 rfl rfl)
theorem dX2_see_5 : decode cX2_see 5 = .ok (.invokevirtual 71, 3) := dk_182 0 71 (dk_at dksX2_see_0 5 rfl rfl)
theorem dX2_see_8 : decode cX2_see 8 = .ok (.putfield 64, 3) := dk_181 0 64 (dk_at dksX2_see_0 8 rfl rfl)
theorem dX2_see_11 : decode cX2_see 11 = .ok (.aload_n 0, 1) := dk_42 (dk_at dksX2_see_0 11 rfl rfl)
theorem dX2_see_12 : decode cX2_see 12 = .ok (.aload_n 0, 1) := dk_42 (dk_at dksX2_see_0 12 rfl rfl)
theorem dX2_see_13 : decode cX2_see 13 = .ok (.getfield 64, 3) := dk_180 0 64 (dk_at dksX2_see_0 13 rfl rfl)
theorem dX2_see_16 : decode cX2_see 16 = .ok (.putfield 68, 3) := dk_181 0 68 (dk_at dksX2_see_0 16 rfl rfl)
theorem dX2_see_19 : decode cX2_see 19 = .ok (.return_, 1) := dk_177 (dk_at dksX2_see_0 19 rfl rfl)
abbrev cX2_copy : ByteArray := prog_15_method_2_code
def yX2_copy : MethodName := ⟨RX2, "copy", "()LThreeBodies$State;"⟩
def dkwX2_copy_3 : List UInt8 := [181, 0, 64, 43, 42, 180, 0, 68, 181, 0, 68, 43, 176]
abbrev dktX2_copy_3 : List UInt8 := dkwX2_copy_3 ++ []
def dkwX2_copy_2 : List UInt8 := [180, 0, 21, 45, 182, 0, 56, 167, 255, 229, 43, 42, 180, 0, 60, 181, 0, 60, 43, 42, 180, 0, 64]
abbrev dktX2_copy_2 : List UInt8 := dkwX2_copy_2 ++ dktX2_copy_3
def dkwX2_copy_1 : List UInt8 := [182, 0, 40, 77, 44, 185, 0, 44, 1, 0, 153, 0, 24, 44, 185, 0, 50, 1, 0, 192, 0, 54, 78, 43]
abbrev dktX2_copy_1 : List UInt8 := dkwX2_copy_1 ++ dktX2_copy_2
def dkwX2_copy_0 : List UInt8 := [187, 0, 13, 89, 183, 0, 35, 76, 43, 180, 0, 12, 42, 180, 0, 12, 182, 0, 36, 42, 180, 0, 21]
abbrev dktX2_copy_0 : List UInt8 := dkwX2_copy_0 ++ dktX2_copy_1
theorem dksX2_copy_0 : cX2_copy.data.toList.drop 0 = dktX2_copy_0 := by decide +kernel
theorem dksX2_copy_1 : cX2_copy.data.toList.drop 23 = dktX2_copy_1 := dk_seg dksX2_copy_0 23 rfl rfl
theorem dksX2_copy_2 : cX2_copy.data.toList.drop 47 = dktX2_copy_2 := dk_seg dksX2_copy_1 24 rfl rfl
theorem dksX2_copy_3 : cX2_copy.data.toList.drop 70 = dktX2_copy_3 := dk_seg dksX2_copy_2 23 rfl rfl
theorem dX2_copy_0 : decode cX2_copy 0 = .ok (.new 13, 3) := dk_187 0 13 (dk_at dksX2_copy_0 0 rfl rfl)
theorem dX2_copy_3 : decode cX2_copy 3 = .ok (.dup, 1) := dk_89 (dk_at dksX2_copy_0 3 rfl rfl)
theorem dX2_copy_4 : decode cX2_copy 4 = .ok (.invokespecial 35, 3) := dk_183 0 35 (dk_at dksX2_copy_0 4 rfl rfl)
theorem dX2_copy_7 : decode cX2_copy 7 = .ok (.astore_n 1, 1) := dk_76 (dk_at dksX2_copy_0 7 rfl rfl)
theorem dX2_copy_8 : decode cX2_copy 8 = .ok (.aload_n 1, 1) := dk_43 (dk_at dksX2_copy_0 8 rfl rfl)
theorem dX2_copy_9 : decode cX2_copy 9 = .ok (.getfield 12, 3) := dk_180 0 12 (dk_at dksX2_copy_0 9 rfl rfl)
theorem dX2_copy_12 : decode cX2_copy 12 = .ok (.aload_n 0, 1) := dk_42 (dk_at dksX2_copy_0 12 rfl rfl)
theorem dX2_copy_13 : decode cX2_copy 13 = .ok (.getfield 12, 3) := dk_180 0 12 (dk_at dksX2_copy_0 13 rfl rfl)
theorem dX2_copy_16 : decode cX2_copy 16 = .ok (.invokevirtual 36, 3) := dk_182 0 36 (dk_at dksX2_copy_0 16 rfl rfl)
theorem dX2_copy_19 : decode cX2_copy 19 = .ok (.aload_n 0, 1) := dk_42 (dk_at dksX2_copy_0 19 rfl rfl)
theorem dX2_copy_20 : decode cX2_copy 20 = .ok (.getfield 21, 3) := dk_180 0 21 (dk_at dksX2_copy_0 20 rfl rfl)
theorem dX2_copy_23 : decode cX2_copy 23 = .ok (.invokevirtual 40, 3) := dk_182 0 40 (dk_at dksX2_copy_1 0 rfl rfl)
theorem dX2_copy_26 : decode cX2_copy 26 = .ok (.astore_n 2, 1) := dk_77 (dk_at dksX2_copy_1 3 rfl rfl)
theorem dX2_copy_27 : decode cX2_copy 27 = .ok (.aload_n 2, 1) := dk_44 (dk_at dksX2_copy_1 4 rfl rfl)
theorem dX2_copy_28 : decode cX2_copy 28 = .ok (.invokeinterface 44 1, 5) := by decide +kernel
theorem dX2_copy_33 : decode cX2_copy 33 = .ok (.ifCond .eq 24, 3) := dk_153 0 24 (dk_at dksX2_copy_1 10 rfl rfl)
theorem dX2_copy_36 : decode cX2_copy 36 = .ok (.aload_n 2, 1) := dk_44 (dk_at dksX2_copy_1 13 rfl rfl)
theorem dX2_copy_37 : decode cX2_copy 37 = .ok (.invokeinterface 50 1, 5) := by decide +kernel
theorem dX2_copy_42 : decode cX2_copy 42 = .ok (.checkcast 54, 3) := dk_192 0 54 (dk_at dksX2_copy_1 19 rfl rfl)
theorem dX2_copy_45 : decode cX2_copy 45 = .ok (.astore_n 3, 1) := dk_78 (dk_at dksX2_copy_1 22 rfl rfl)
theorem dX2_copy_46 : decode cX2_copy 46 = .ok (.aload_n 1, 1) := dk_43 (dk_at dksX2_copy_1 23 rfl rfl)
theorem dX2_copy_47 : decode cX2_copy 47 = .ok (.getfield 21, 3) := dk_180 0 21 (dk_at dksX2_copy_2 0 rfl rfl)
theorem dX2_copy_50 : decode cX2_copy 50 = .ok (.aload_n 3, 1) := dk_45 (dk_at dksX2_copy_2 3 rfl rfl)
theorem dX2_copy_51 : decode cX2_copy 51 = .ok (.invokevirtual 56, 3) := dk_182 0 56 (dk_at dksX2_copy_2 4 rfl rfl)
theorem dX2_copy_54 : decode cX2_copy 54 = .ok (.goto (-27), 3) := dk_167 255 229 (dk_at dksX2_copy_2 7 rfl rfl)
theorem dX2_copy_57 : decode cX2_copy 57 = .ok (.aload_n 1, 1) := dk_43 (dk_at dksX2_copy_2 10 rfl rfl)
theorem dX2_copy_58 : decode cX2_copy 58 = .ok (.aload_n 0, 1) := dk_42 (dk_at dksX2_copy_2 11 rfl rfl)
theorem dX2_copy_59 : decode cX2_copy 59 = .ok (.getfield 60, 3) := dk_180 0 60 (dk_at dksX2_copy_2 12 rfl rfl)
theorem dX2_copy_62 : decode cX2_copy 62 = .ok (.putfield 60, 3) := dk_181 0 60 (dk_at dksX2_copy_2 15 rfl rfl)
theorem dX2_copy_65 : decode cX2_copy 65 = .ok (.aload_n 1, 1) := dk_43 (dk_at dksX2_copy_2 18 rfl rfl)
theorem dX2_copy_66 : decode cX2_copy 66 = .ok (.aload_n 0, 1) := dk_42 (dk_at dksX2_copy_2 19 rfl rfl)
theorem dX2_copy_67 : decode cX2_copy 67 = .ok (.getfield 64, 3) := dk_180 0 64 (dk_at dksX2_copy_2 20 rfl rfl)
theorem dX2_copy_70 : decode cX2_copy 70 = .ok (.putfield 64, 3) := dk_181 0 64 (dk_at dksX2_copy_3 0 rfl rfl)
theorem dX2_copy_73 : decode cX2_copy 73 = .ok (.aload_n 1, 1) := dk_43 (dk_at dksX2_copy_3 3 rfl rfl)
theorem dX2_copy_74 : decode cX2_copy 74 = .ok (.aload_n 0, 1) := dk_42 (dk_at dksX2_copy_3 4 rfl rfl)
theorem dX2_copy_75 : decode cX2_copy 75 = .ok (.getfield 68, 3) := dk_180 0 68 (dk_at dksX2_copy_3 5 rfl rfl)
theorem dX2_copy_78 : decode cX2_copy 78 = .ok (.putfield 68, 3) := dk_181 0 68 (dk_at dksX2_copy_3 8 rfl rfl)
theorem dX2_copy_81 : decode cX2_copy 81 = .ok (.aload_n 1, 1) := dk_43 (dk_at dksX2_copy_3 11 rfl rfl)
theorem dX2_copy_82 : decode cX2_copy 82 = .ok (.areturn, 1) := dk_176 (dk_at dksX2_copy_3 12 rfl rfl)
abbrev cX2_run : ByteArray := prog_15_method_6_code
def yX2_run : MethodName := ⟨RX2, "run", "([[LThreeBodies$Part;I)I"⟩
def dkwX2_run_5 : List UInt8 := [180, 0, 12, 182, 0, 113, 55, 4, 167, 255, 157, 29, 172]
abbrev dktX2_run_5 : List UInt8 := dkwX2_run_5 ++ []
def dkwX2_run_4 : List UInt8 := [180, 0, 12, 182, 0, 113, 22, 4, 148, 154, 0, 7, 3, 167, 0, 4, 4, 96, 181, 0, 60, 42]
abbrev dktX2_run_4 : List UInt8 := dkwX2_run_4 ++ dktX2_run_5
def dkwX2_run_3 : List UInt8 := [181, 0, 64, 42, 42, 180, 0, 68, 22, 6, 184, 0, 126, 181, 0, 68, 42, 89, 180, 0, 60, 42]
abbrev dktX2_run_3 : List UInt8 := dkwX2_run_3 ++ dktX2_run_4
def dkwX2_run_2 : List UInt8 := [182, 0, 110, 42, 180, 0, 12, 182, 0, 71, 55, 6, 42, 42, 180, 0, 64, 22, 6, 184, 0, 123]
abbrev dktX2_run_2 : List UInt8 := dkwX2_run_2 ++ dktX2_run_3
def dkwX2_run_1 : List UInt8 := [162, 0, 100, 42, 180, 0, 12, 43, 4, 182, 0, 116, 153, 0, 88, 132, 3, 1, 42, 182, 0, 120, 42]
abbrev dktX2_run_1 : List UInt8 := dkwX2_run_1 ++ dktX2_run_2
def dkwX2_run_0 : List UInt8 := [42, 180, 0, 85, 154, 0, 7, 42, 182, 0, 110, 3, 62, 42, 180, 0, 12, 182, 0, 113, 55, 4, 29, 28]
abbrev dktX2_run_0 : List UInt8 := dkwX2_run_0 ++ dktX2_run_1
theorem dksX2_run_0 : cX2_run.data.toList.drop 0 = dktX2_run_0 := by decide +kernel
theorem dksX2_run_1 : cX2_run.data.toList.drop 24 = dktX2_run_1 := dk_seg dksX2_run_0 24 rfl rfl
theorem dksX2_run_2 : cX2_run.data.toList.drop 47 = dktX2_run_2 := dk_seg dksX2_run_1 23 rfl rfl
theorem dksX2_run_3 : cX2_run.data.toList.drop 69 = dktX2_run_3 := dk_seg dksX2_run_2 22 rfl rfl
theorem dksX2_run_4 : cX2_run.data.toList.drop 91 = dktX2_run_4 := dk_seg dksX2_run_3 22 rfl rfl
theorem dksX2_run_5 : cX2_run.data.toList.drop 113 = dktX2_run_5 := dk_seg dksX2_run_4 22 rfl rfl
theorem dX2_run_0 : decode cX2_run 0 = .ok (.aload_n 0, 1) := dk_42 (dk_at dksX2_run_0 0 rfl rfl)
theorem dX2_run_1 : decode cX2_run 1 = .ok (.getfield 85, 3) := dk_180 0 85 (dk_at dksX2_run_0 1 rfl rfl)
theorem dX2_run_4 : decode cX2_run 4 = .ok (.ifCond .ne 7, 3) := dk_154 0 7 (dk_at dksX2_run_0 4 rfl rfl)
theorem dX2_run_7 : decode cX2_run 7 = .ok (.aload_n 0, 1) := dk_42 (dk_at dksX2_run_0 7 rfl rfl)
theorem dX2_run_8 : decode cX2_run 8 = .ok (.invokevirtual 110, 3) := dk_182 0 110 (dk_at dksX2_run_0 8 rfl rfl)
theorem dX2_run_11 : decode cX2_run 11 = .ok (.iconst 0, 1) := dk_3 (dk_at dksX2_run_0 11 rfl rfl)
theorem dX2_run_12 : decode cX2_run 12 = .ok (.istore_n 3, 1) := dk_62 (dk_at dksX2_run_0 12 rfl rfl)
theorem dX2_run_13 : decode cX2_run 13 = .ok (.aload_n 0, 1) := dk_42 (dk_at dksX2_run_0 13 rfl rfl)
theorem dX2_run_14 : decode cX2_run 14 = .ok (.getfield 12, 3) := dk_180 0 12 (dk_at dksX2_run_0 14 rfl rfl)
theorem dX2_run_17 : decode cX2_run 17 = .ok (.invokevirtual 113, 3) := dk_182 0 113 (dk_at dksX2_run_0 17 rfl rfl)
theorem dX2_run_20 : decode cX2_run 20 = .ok (.lstore 4, 2) := dk_55 4 (dk_at dksX2_run_0 20 rfl rfl)
theorem dX2_run_22 : decode cX2_run 22 = .ok (.iload_n 3, 1) := dk_29 (dk_at dksX2_run_0 22 rfl rfl)
theorem dX2_run_23 : decode cX2_run 23 = .ok (.iload_n 2, 1) := dk_28 (dk_at dksX2_run_0 23 rfl rfl)
theorem dX2_run_24 : decode cX2_run 24 = .ok (.if_icmp .ge 100, 3) := dk_162 0 100 (dk_at dksX2_run_1 0 rfl rfl)
theorem dX2_run_27 : decode cX2_run 27 = .ok (.aload_n 0, 1) := dk_42 (dk_at dksX2_run_1 3 rfl rfl)
theorem dX2_run_28 : decode cX2_run 28 = .ok (.getfield 12, 3) := dk_180 0 12 (dk_at dksX2_run_1 4 rfl rfl)
theorem dX2_run_31 : decode cX2_run 31 = .ok (.aload_n 1, 1) := dk_43 (dk_at dksX2_run_1 7 rfl rfl)
theorem dX2_run_32 : decode cX2_run 32 = .ok (.iconst 1, 1) := dk_4 (dk_at dksX2_run_1 8 rfl rfl)
theorem dX2_run_33 : decode cX2_run 33 = .ok (.invokevirtual 116, 3) := dk_182 0 116 (dk_at dksX2_run_1 9 rfl rfl)
theorem dX2_run_36 : decode cX2_run 36 = .ok (.ifCond .eq 88, 3) := dk_153 0 88 (dk_at dksX2_run_1 12 rfl rfl)
theorem dX2_run_39 : decode cX2_run 39 = .ok (.iinc 3 1, 3) := dk_132 3 1 (dk_at dksX2_run_1 15 rfl rfl)
theorem dX2_run_42 : decode cX2_run 42 = .ok (.aload_n 0, 1) := dk_42 (dk_at dksX2_run_1 18 rfl rfl)
theorem dX2_run_43 : decode cX2_run 43 = .ok (.invokevirtual 120, 3) := dk_182 0 120 (dk_at dksX2_run_1 19 rfl rfl)
theorem dX2_run_46 : decode cX2_run 46 = .ok (.aload_n 0, 1) := dk_42 (dk_at dksX2_run_1 22 rfl rfl)
theorem dX2_run_47 : decode cX2_run 47 = .ok (.invokevirtual 110, 3) := dk_182 0 110 (dk_at dksX2_run_2 0 rfl rfl)
theorem dX2_run_50 : decode cX2_run 50 = .ok (.aload_n 0, 1) := dk_42 (dk_at dksX2_run_2 3 rfl rfl)
theorem dX2_run_51 : decode cX2_run 51 = .ok (.getfield 12, 3) := dk_180 0 12 (dk_at dksX2_run_2 4 rfl rfl)
theorem dX2_run_54 : decode cX2_run 54 = .ok (.invokevirtual 71, 3) := dk_182 0 71 (dk_at dksX2_run_2 7 rfl rfl)
theorem dX2_run_57 : decode cX2_run 57 = .ok (.lstore 6, 2) := dk_55 6 (dk_at dksX2_run_2 10 rfl rfl)
theorem dX2_run_59 : decode cX2_run 59 = .ok (.aload_n 0, 1) := dk_42 (dk_at dksX2_run_2 12 rfl rfl)
theorem dX2_run_60 : decode cX2_run 60 = .ok (.aload_n 0, 1) := dk_42 (dk_at dksX2_run_2 13 rfl rfl)
theorem dX2_run_61 : decode cX2_run 61 = .ok (.getfield 64, 3) := dk_180 0 64 (dk_at dksX2_run_2 14 rfl rfl)
theorem dX2_run_64 : decode cX2_run 64 = .ok (.lload 6, 2) := dk_22 6 (dk_at dksX2_run_2 17 rfl rfl)
theorem dX2_run_66 : decode cX2_run 66 = .ok (.invokestatic 123, 3) := dk_184 0 123 (dk_at dksX2_run_2 19 rfl rfl)
theorem dX2_run_69 : decode cX2_run 69 = .ok (.putfield 64, 3) := dk_181 0 64 (dk_at dksX2_run_3 0 rfl rfl)
theorem dX2_run_72 : decode cX2_run 72 = .ok (.aload_n 0, 1) := dk_42 (dk_at dksX2_run_3 3 rfl rfl)
theorem dX2_run_73 : decode cX2_run 73 = .ok (.aload_n 0, 1) := dk_42 (dk_at dksX2_run_3 4 rfl rfl)
theorem dX2_run_74 : decode cX2_run 74 = .ok (.getfield 68, 3) := dk_180 0 68 (dk_at dksX2_run_3 5 rfl rfl)
theorem dX2_run_77 : decode cX2_run 77 = .ok (.lload 6, 2) := dk_22 6 (dk_at dksX2_run_3 8 rfl rfl)
theorem dX2_run_79 : decode cX2_run 79 = .ok (.invokestatic 126, 3) := dk_184 0 126 (dk_at dksX2_run_3 10 rfl rfl)
theorem dX2_run_82 : decode cX2_run 82 = .ok (.putfield 68, 3) := dk_181 0 68 (dk_at dksX2_run_3 13 rfl rfl)
theorem dX2_run_85 : decode cX2_run 85 = .ok (.aload_n 0, 1) := dk_42 (dk_at dksX2_run_3 16 rfl rfl)
theorem dX2_run_86 : decode cX2_run 86 = .ok (.dup, 1) := dk_89 (dk_at dksX2_run_3 17 rfl rfl)
theorem dX2_run_87 : decode cX2_run 87 = .ok (.getfield 60, 3) := dk_180 0 60 (dk_at dksX2_run_3 18 rfl rfl)
theorem dX2_run_90 : decode cX2_run 90 = .ok (.aload_n 0, 1) := dk_42 (dk_at dksX2_run_3 21 rfl rfl)
theorem dX2_run_91 : decode cX2_run 91 = .ok (.getfield 12, 3) := dk_180 0 12 (dk_at dksX2_run_4 0 rfl rfl)
theorem dX2_run_94 : decode cX2_run 94 = .ok (.invokevirtual 113, 3) := dk_182 0 113 (dk_at dksX2_run_4 3 rfl rfl)
theorem dX2_run_97 : decode cX2_run 97 = .ok (.lload 4, 2) := dk_22 4 (dk_at dksX2_run_4 6 rfl rfl)
theorem dX2_run_99 : decode cX2_run 99 = .ok (.lcmp, 1) := dk_148 (dk_at dksX2_run_4 8 rfl rfl)
theorem dX2_run_100 : decode cX2_run 100 = .ok (.ifCond .ne 7, 3) := dk_154 0 7 (dk_at dksX2_run_4 9 rfl rfl)
theorem dX2_run_103 : decode cX2_run 103 = .ok (.iconst 0, 1) := dk_3 (dk_at dksX2_run_4 12 rfl rfl)
theorem dX2_run_104 : decode cX2_run 104 = .ok (.goto 4, 3) := dk_167 0 4 (dk_at dksX2_run_4 13 rfl rfl)
theorem dX2_run_107 : decode cX2_run 107 = .ok (.iconst 1, 1) := dk_4 (dk_at dksX2_run_4 16 rfl rfl)
theorem dX2_run_108 : decode cX2_run 108 = .ok (.iadd, 1) := dk_96 (dk_at dksX2_run_4 17 rfl rfl)
theorem dX2_run_109 : decode cX2_run 109 = .ok (.putfield 60, 3) := dk_181 0 60 (dk_at dksX2_run_4 18 rfl rfl)
theorem dX2_run_112 : decode cX2_run 112 = .ok (.aload_n 0, 1) := dk_42 (dk_at dksX2_run_4 21 rfl rfl)
theorem dX2_run_113 : decode cX2_run 113 = .ok (.getfield 12, 3) := dk_180 0 12 (dk_at dksX2_run_5 0 rfl rfl)
theorem dX2_run_116 : decode cX2_run 116 = .ok (.invokevirtual 113, 3) := dk_182 0 113 (dk_at dksX2_run_5 3 rfl rfl)
theorem dX2_run_119 : decode cX2_run 119 = .ok (.lstore 4, 2) := dk_55 4 (dk_at dksX2_run_5 6 rfl rfl)
theorem dX2_run_121 : decode cX2_run 121 = .ok (.goto (-99), 3) := dk_167 255 157 (dk_at dksX2_run_5 8 rfl rfl)
theorem dX2_run_124 : decode cX2_run 124 = .ok (.iload_n 3, 1) := dk_29 (dk_at dksX2_run_5 11 rfl rfl)
theorem dX2_run_125 : decode cX2_run 125 = .ok (.ireturn, 1) := dk_172 (dk_at dksX2_run_5 12 rfl rfl)
abbrev cX2_remember : ByteArray := prog_15_method_4_code
def yX2_remember : MethodName := ⟨RX2, "remember", "()V"⟩
def dkwX2_remember_2 : List UInt8 := [180, 0, 85, 4, 96, 184, 0, 88, 181, 0, 85, 177]
abbrev dktX2_remember_2 : List UInt8 := dkwX2_remember_2 ++ []
def dkwX2_remember_1 : List UInt8 := [180, 0, 29, 27, 42, 180, 0, 12, 27, 182, 0, 81, 79, 132, 1, 1, 167, 255, 234, 42, 5, 42]
abbrev dktX2_remember_1 : List UInt8 := dkwX2_remember_1 ++ dktX2_remember_2
def dkwX2_remember_0 : List UInt8 := [42, 180, 0, 29, 3, 42, 180, 0, 25, 3, 6, 184, 0, 75, 3, 60, 27, 6, 162, 0, 23, 42]
abbrev dktX2_remember_0 : List UInt8 := dkwX2_remember_0 ++ dktX2_remember_1
theorem dksX2_remember_0 : cX2_remember.data.toList.drop 0 = dktX2_remember_0 := by decide +kernel
theorem dksX2_remember_1 : cX2_remember.data.toList.drop 22 = dktX2_remember_1 := dk_seg dksX2_remember_0 22 rfl rfl
theorem dksX2_remember_2 : cX2_remember.data.toList.drop 44 = dktX2_remember_2 := dk_seg dksX2_remember_1 22 rfl rfl
theorem dX2_remember_0 : decode cX2_remember 0 = .ok (.aload_n 0, 1) := dk_42 (dk_at dksX2_remember_0 0 rfl rfl)
theorem dX2_remember_1 : decode cX2_remember 1 = .ok (.getfield 29, 3) := dk_180 0 29 (dk_at dksX2_remember_0 1 rfl rfl)
theorem dX2_remember_4 : decode cX2_remember 4 = .ok (.iconst 0, 1) := dk_3 (dk_at dksX2_remember_0 4 rfl rfl)
theorem dX2_remember_5 : decode cX2_remember 5 = .ok (.aload_n 0, 1) := dk_42 (dk_at dksX2_remember_0 5 rfl rfl)
theorem dX2_remember_6 : decode cX2_remember 6 = .ok (.getfield 25, 3) := dk_180 0 25 (dk_at dksX2_remember_0 6 rfl rfl)
theorem dX2_remember_9 : decode cX2_remember 9 = .ok (.iconst 0, 1) := dk_3 (dk_at dksX2_remember_0 9 rfl rfl)
theorem dX2_remember_10 : decode cX2_remember 10 = .ok (.iconst 3, 1) := dk_6 (dk_at dksX2_remember_0 10 rfl rfl)
theorem dX2_remember_11 : decode cX2_remember 11 = .ok (.invokestatic 75, 3) := dk_184 0 75 (dk_at dksX2_remember_0 11 rfl rfl)
theorem dX2_remember_14 : decode cX2_remember 14 = .ok (.iconst 0, 1) := dk_3 (dk_at dksX2_remember_0 14 rfl rfl)
theorem dX2_remember_15 : decode cX2_remember 15 = .ok (.istore_n 1, 1) := dk_60 (dk_at dksX2_remember_0 15 rfl rfl)
theorem dX2_remember_16 : decode cX2_remember 16 = .ok (.iload_n 1, 1) := dk_27 (dk_at dksX2_remember_0 16 rfl rfl)
theorem dX2_remember_17 : decode cX2_remember 17 = .ok (.iconst 3, 1) := dk_6 (dk_at dksX2_remember_0 17 rfl rfl)
theorem dX2_remember_18 : decode cX2_remember 18 = .ok (.if_icmp .ge 23, 3) := dk_162 0 23 (dk_at dksX2_remember_0 18 rfl rfl)
theorem dX2_remember_21 : decode cX2_remember 21 = .ok (.aload_n 0, 1) := dk_42 (dk_at dksX2_remember_0 21 rfl rfl)
theorem dX2_remember_22 : decode cX2_remember 22 = .ok (.getfield 29, 3) := dk_180 0 29 (dk_at dksX2_remember_1 0 rfl rfl)
theorem dX2_remember_25 : decode cX2_remember 25 = .ok (.iload_n 1, 1) := dk_27 (dk_at dksX2_remember_1 3 rfl rfl)
theorem dX2_remember_26 : decode cX2_remember 26 = .ok (.aload_n 0, 1) := dk_42 (dk_at dksX2_remember_1 4 rfl rfl)
theorem dX2_remember_27 : decode cX2_remember 27 = .ok (.getfield 12, 3) := dk_180 0 12 (dk_at dksX2_remember_1 5 rfl rfl)
theorem dX2_remember_30 : decode cX2_remember 30 = .ok (.iload_n 1, 1) := dk_27 (dk_at dksX2_remember_1 8 rfl rfl)
theorem dX2_remember_31 : decode cX2_remember 31 = .ok (.invokevirtual 81, 3) := dk_182 0 81 (dk_at dksX2_remember_1 9 rfl rfl)
theorem dX2_remember_34 : decode cX2_remember 34 = .ok (.iastore, 1) := dk_79 (dk_at dksX2_remember_1 12 rfl rfl)
theorem dX2_remember_35 : decode cX2_remember 35 = .ok (.iinc 1 1, 3) := dk_132 1 1 (dk_at dksX2_remember_1 13 rfl rfl)
theorem dX2_remember_38 : decode cX2_remember 38 = .ok (.goto (-22), 3) := dk_167 255 234 (dk_at dksX2_remember_1 16 rfl rfl)
theorem dX2_remember_41 : decode cX2_remember 41 = .ok (.aload_n 0, 1) := dk_42 (dk_at dksX2_remember_1 19 rfl rfl)
theorem dX2_remember_42 : decode cX2_remember 42 = .ok (.iconst 2, 1) := dk_5 (dk_at dksX2_remember_1 20 rfl rfl)
theorem dX2_remember_43 : decode cX2_remember 43 = .ok (.aload_n 0, 1) := dk_42 (dk_at dksX2_remember_1 21 rfl rfl)
theorem dX2_remember_44 : decode cX2_remember 44 = .ok (.getfield 85, 3) := dk_180 0 85 (dk_at dksX2_remember_2 0 rfl rfl)
theorem dX2_remember_47 : decode cX2_remember 47 = .ok (.iconst 1, 1) := dk_4 (dk_at dksX2_remember_2 3 rfl rfl)
theorem dX2_remember_48 : decode cX2_remember 48 = .ok (.iadd, 1) := dk_96 (dk_at dksX2_remember_2 4 rfl rfl)
theorem dX2_remember_49 : decode cX2_remember 49 = .ok (.invokestatic 88, 3) := dk_184 0 88 (dk_at dksX2_remember_2 5 rfl rfl)
theorem dX2_remember_52 : decode cX2_remember 52 = .ok (.putfield 85, 3) := dk_181 0 85 (dk_at dksX2_remember_2 8 rfl rfl)
theorem dX2_remember_55 : decode cX2_remember 55 = .ok (.return_, 1) := dk_177 (dk_at dksX2_remember_2 11 rfl rfl)
abbrev cX2_notice : ByteArray := prog_15_method_5_code
def yX2_notice : MethodName := ⟨RX2, "notice", "()V"⟩
def dkwX2_notice_4 : List UInt8 := [27, 28, 183, 0, 107, 182, 0, 56, 132, 1, 1, 167, 255, 153, 177]
abbrev dktX2_notice_4 : List UInt8 := dkwX2_notice_4 ++ []
def dkwX2_notice_3 : List UInt8 := [180, 0, 21, 182, 0, 101, 87, 42, 180, 0, 21, 187, 0, 54, 89, 42, 180, 0, 12, 180, 0, 104, 4, 100]
abbrev dktX2_notice_3 : List UInt8 := dkwX2_notice_3 ++ dktX2_notice_4
def dkwX2_notice_2 : List UInt8 := [180, 0, 12, 180, 0, 94, 7, 46, 163, 0, 48, 42, 180, 0, 21, 182, 0, 97, 16, 30, 160, 0, 11, 42]
abbrev dktX2_notice_2 : List UInt8 := dkwX2_notice_2 ++ dktX2_notice_3
def dkwX2_notice_1 : List UInt8 := [180, 0, 25, 27, 46, 162, 0, 73, 28, 42, 180, 0, 12, 27, 182, 0, 81, 163, 0, 61, 28, 42]
abbrev dktX2_notice_1 : List UInt8 := dkwX2_notice_1 ++ dktX2_notice_2
def dkwX2_notice_0 : List UInt8 := [3, 60, 27, 6, 162, 0, 104, 42, 180, 0, 85, 5, 160, 0, 96, 42, 180, 0, 29, 27, 46, 61, 28, 42]
abbrev dktX2_notice_0 : List UInt8 := dkwX2_notice_0 ++ dktX2_notice_1
theorem dksX2_notice_0 : cX2_notice.data.toList.drop 0 = dktX2_notice_0 := by decide +kernel
theorem dksX2_notice_1 : cX2_notice.data.toList.drop 24 = dktX2_notice_1 := dk_seg dksX2_notice_0 24 rfl rfl
theorem dksX2_notice_2 : cX2_notice.data.toList.drop 46 = dktX2_notice_2 := dk_seg dksX2_notice_1 22 rfl rfl
theorem dksX2_notice_3 : cX2_notice.data.toList.drop 70 = dktX2_notice_3 := dk_seg dksX2_notice_2 24 rfl rfl
theorem dksX2_notice_4 : cX2_notice.data.toList.drop 94 = dktX2_notice_4 := dk_seg dksX2_notice_3 24 rfl rfl
theorem dX2_notice_0 : decode cX2_notice 0 = .ok (.iconst 0, 1) := dk_3 (dk_at dksX2_notice_0 0 rfl rfl)
theorem dX2_notice_1 : decode cX2_notice 1 = .ok (.istore_n 1, 1) := dk_60 (dk_at dksX2_notice_0 1 rfl rfl)
theorem dX2_notice_2 : decode cX2_notice 2 = .ok (.iload_n 1, 1) := dk_27 (dk_at dksX2_notice_0 2 rfl rfl)
theorem dX2_notice_3 : decode cX2_notice 3 = .ok (.iconst 3, 1) := dk_6 (dk_at dksX2_notice_0 3 rfl rfl)
theorem dX2_notice_4 : decode cX2_notice 4 = .ok (.if_icmp .ge 104, 3) := dk_162 0 104 (dk_at dksX2_notice_0 4 rfl rfl)
theorem dX2_notice_7 : decode cX2_notice 7 = .ok (.aload_n 0, 1) := dk_42 (dk_at dksX2_notice_0 7 rfl rfl)
theorem dX2_notice_8 : decode cX2_notice 8 = .ok (.getfield 85, 3) := dk_180 0 85 (dk_at dksX2_notice_0 8 rfl rfl)
theorem dX2_notice_11 : decode cX2_notice 11 = .ok (.iconst 2, 1) := dk_5 (dk_at dksX2_notice_0 11 rfl rfl)
theorem dX2_notice_12 : decode cX2_notice 12 = .ok (.if_icmp .ne 96, 3) := dk_160 0 96 (dk_at dksX2_notice_0 12 rfl rfl)
theorem dX2_notice_15 : decode cX2_notice 15 = .ok (.aload_n 0, 1) := dk_42 (dk_at dksX2_notice_0 15 rfl rfl)
theorem dX2_notice_16 : decode cX2_notice 16 = .ok (.getfield 29, 3) := dk_180 0 29 (dk_at dksX2_notice_0 16 rfl rfl)
theorem dX2_notice_19 : decode cX2_notice 19 = .ok (.iload_n 1, 1) := dk_27 (dk_at dksX2_notice_0 19 rfl rfl)
theorem dX2_notice_20 : decode cX2_notice 20 = .ok (.iaload, 1) := dk_46 (dk_at dksX2_notice_0 20 rfl rfl)
theorem dX2_notice_21 : decode cX2_notice 21 = .ok (.istore_n 2, 1) := dk_61 (dk_at dksX2_notice_0 21 rfl rfl)
theorem dX2_notice_22 : decode cX2_notice 22 = .ok (.iload_n 2, 1) := dk_28 (dk_at dksX2_notice_0 22 rfl rfl)
theorem dX2_notice_23 : decode cX2_notice 23 = .ok (.aload_n 0, 1) := dk_42 (dk_at dksX2_notice_0 23 rfl rfl)
theorem dX2_notice_24 : decode cX2_notice 24 = .ok (.getfield 25, 3) := dk_180 0 25 (dk_at dksX2_notice_1 0 rfl rfl)
theorem dX2_notice_27 : decode cX2_notice 27 = .ok (.iload_n 1, 1) := dk_27 (dk_at dksX2_notice_1 3 rfl rfl)
theorem dX2_notice_28 : decode cX2_notice 28 = .ok (.iaload, 1) := dk_46 (dk_at dksX2_notice_1 4 rfl rfl)
theorem dX2_notice_29 : decode cX2_notice 29 = .ok (.if_icmp .ge 73, 3) := dk_162 0 73 (dk_at dksX2_notice_1 5 rfl rfl)
theorem dX2_notice_32 : decode cX2_notice 32 = .ok (.iload_n 2, 1) := dk_28 (dk_at dksX2_notice_1 8 rfl rfl)
theorem dX2_notice_33 : decode cX2_notice 33 = .ok (.aload_n 0, 1) := dk_42 (dk_at dksX2_notice_1 9 rfl rfl)
theorem dX2_notice_34 : decode cX2_notice 34 = .ok (.getfield 12, 3) := dk_180 0 12 (dk_at dksX2_notice_1 10 rfl rfl)
theorem dX2_notice_37 : decode cX2_notice 37 = .ok (.iload_n 1, 1) := dk_27 (dk_at dksX2_notice_1 13 rfl rfl)
theorem dX2_notice_38 : decode cX2_notice 38 = .ok (.invokevirtual 81, 3) := dk_182 0 81 (dk_at dksX2_notice_1 14 rfl rfl)
theorem dX2_notice_41 : decode cX2_notice 41 = .ok (.if_icmp .gt 61, 3) := dk_163 0 61 (dk_at dksX2_notice_1 17 rfl rfl)
theorem dX2_notice_44 : decode cX2_notice 44 = .ok (.iload_n 2, 1) := dk_28 (dk_at dksX2_notice_1 20 rfl rfl)
theorem dX2_notice_45 : decode cX2_notice 45 = .ok (.aload_n 0, 1) := dk_42 (dk_at dksX2_notice_1 21 rfl rfl)
theorem dX2_notice_46 : decode cX2_notice 46 = .ok (.getfield 12, 3) := dk_180 0 12 (dk_at dksX2_notice_2 0 rfl rfl)
theorem dX2_notice_49 : decode cX2_notice 49 = .ok (.getfield 94, 3) := dk_180 0 94 (dk_at dksX2_notice_2 3 rfl rfl)
theorem dX2_notice_52 : decode cX2_notice 52 = .ok (.iconst 4, 1) := dk_7 (dk_at dksX2_notice_2 6 rfl rfl)
theorem dX2_notice_53 : decode cX2_notice 53 = .ok (.iaload, 1) := dk_46 (dk_at dksX2_notice_2 7 rfl rfl)
theorem dX2_notice_54 : decode cX2_notice 54 = .ok (.if_icmp .gt 48, 3) := dk_163 0 48 (dk_at dksX2_notice_2 8 rfl rfl)
theorem dX2_notice_57 : decode cX2_notice 57 = .ok (.aload_n 0, 1) := dk_42 (dk_at dksX2_notice_2 11 rfl rfl)
theorem dX2_notice_58 : decode cX2_notice 58 = .ok (.getfield 21, 3) := dk_180 0 21 (dk_at dksX2_notice_2 12 rfl rfl)
theorem dX2_notice_61 : decode cX2_notice 61 = .ok (.invokevirtual 97, 3) := dk_182 0 97 (dk_at dksX2_notice_2 15 rfl rfl)
theorem dX2_notice_64 : decode cX2_notice 64 = .ok (.bipush 30, 2) := dk_16 30 (dk_at dksX2_notice_2 18 rfl rfl)
theorem dX2_notice_66 : decode cX2_notice 66 = .ok (.if_icmp .ne 11, 3) := dk_160 0 11 (dk_at dksX2_notice_2 20 rfl rfl)
theorem dX2_notice_69 : decode cX2_notice 69 = .ok (.aload_n 0, 1) := dk_42 (dk_at dksX2_notice_2 23 rfl rfl)
theorem dX2_notice_70 : decode cX2_notice 70 = .ok (.getfield 21, 3) := dk_180 0 21 (dk_at dksX2_notice_3 0 rfl rfl)
theorem dX2_notice_73 : decode cX2_notice 73 = .ok (.invokevirtual 101, 3) := dk_182 0 101 (dk_at dksX2_notice_3 3 rfl rfl)
theorem dX2_notice_76 : decode cX2_notice 76 = .ok (.pop, 1) := dk_87 (dk_at dksX2_notice_3 6 rfl rfl)
theorem dX2_notice_77 : decode cX2_notice 77 = .ok (.aload_n 0, 1) := dk_42 (dk_at dksX2_notice_3 7 rfl rfl)
theorem dX2_notice_78 : decode cX2_notice 78 = .ok (.getfield 21, 3) := dk_180 0 21 (dk_at dksX2_notice_3 8 rfl rfl)
theorem dX2_notice_81 : decode cX2_notice 81 = .ok (.new 54, 3) := dk_187 0 54 (dk_at dksX2_notice_3 11 rfl rfl)
theorem dX2_notice_84 : decode cX2_notice 84 = .ok (.dup, 1) := dk_89 (dk_at dksX2_notice_3 14 rfl rfl)
theorem dX2_notice_85 : decode cX2_notice 85 = .ok (.aload_n 0, 1) := dk_42 (dk_at dksX2_notice_3 15 rfl rfl)
theorem dX2_notice_86 : decode cX2_notice 86 = .ok (.getfield 12, 3) := dk_180 0 12 (dk_at dksX2_notice_3 16 rfl rfl)
theorem dX2_notice_89 : decode cX2_notice 89 = .ok (.getfield 104, 3) := dk_180 0 104 (dk_at dksX2_notice_3 19 rfl rfl)
theorem dX2_notice_92 : decode cX2_notice 92 = .ok (.iconst 1, 1) := dk_4 (dk_at dksX2_notice_3 22 rfl rfl)
theorem dX2_notice_93 : decode cX2_notice 93 = .ok (.isub, 1) := dk_100 (dk_at dksX2_notice_3 23 rfl rfl)
theorem dX2_notice_94 : decode cX2_notice 94 = .ok (.iload_n 1, 1) := dk_27 (dk_at dksX2_notice_4 0 rfl rfl)
theorem dX2_notice_95 : decode cX2_notice 95 = .ok (.iload_n 2, 1) := dk_28 (dk_at dksX2_notice_4 1 rfl rfl)
theorem dX2_notice_96 : decode cX2_notice 96 = .ok (.invokespecial 107, 3) := dk_183 0 107 (dk_at dksX2_notice_4 2 rfl rfl)
theorem dX2_notice_99 : decode cX2_notice 99 = .ok (.invokevirtual 56, 3) := dk_182 0 56 (dk_at dksX2_notice_4 5 rfl rfl)
theorem dX2_notice_102 : decode cX2_notice 102 = .ok (.iinc 1 1, 3) := dk_132 1 1 (dk_at dksX2_notice_4 8 rfl rfl)
theorem dX2_notice_105 : decode cX2_notice 105 = .ok (.goto (-103), 3) := dk_167 255 153 (dk_at dksX2_notice_4 11 rfl rfl)
theorem dX2_notice_108 : decode cX2_notice 108 = .ok (.return_, 1) := dk_177 (dk_at dksX2_notice_4 14 rfl rfl)
theorem q100 : (Jvm.Cond.initialized "ThreeBodies$State") ∈ lw_all := lw_g (lw_at lw_m1 2 rfl) rfl
theorem q162 : (Jvm.Cond.instantiable "ThreeBodies$State" (8 : Nat)) ∈ lw_all := lw_g (lw_at lw_m1 64 rfl) rfl
theorem q164 : (Jvm.Cond.instanceMethod ({ cls := "ThreeBodies$State", name := "<init>", desc := "()V" } : Jvm.MethodName)) ∈ lw_all := lw_g (lw_at lw_m1 66 rfl) rfl
theorem q165 : (Jvm.Cond.code ({ cls := "ThreeBodies$State", name := "<init>", desc := "()V" } : Jvm.MethodName) prog_15_method_1_code (1 : Nat) (Option.none : Option Jvm.ClassFile.FieldType)) ∈ lw_all := lw_g (lw_at lw_m1 67 rfl) rfl
theorem q166 : (Jvm.Cond.methodLink "ThreeBodies$State" (3 : Nat) ({ cls := "java/lang/Object", name := "<init>", desc := "()V" } : Jvm.MethodName)) ∈ lw_all := lw_g (lw_at lw_m1 68 rfl) rfl
theorem q167 : (Jvm.Cond.classLink "ThreeBodies$State" (9 : Nat) "ThreeBodies$Bodies") ∈ lw_all := lw_g (lw_at lw_m1 69 rfl) rfl
theorem q169 : (Jvm.Cond.methodLinkNest "ThreeBodies$State" (11 : Nat) ({ cls := "ThreeBodies$Bodies", name := "<init>", desc := "()V" } : Jvm.MethodName) "ThreeBodies") ∈ lw_tbl := lw_at lw_m1 71 rfl
theorem q175 : (Jvm.Cond.fieldLinkNest "ThreeBodies$State" (94 : Nat) "ThreeBodies$Bodies" "settings" "[I" "ThreeBodies") ∈ lw_tbl := lw_at lw_m1 77 rfl
theorem q199 : (Jvm.Cond.fieldLinkNest "ThreeBodies$State" (104 : Nat) "ThreeBodies$Bodies" "clock" "I" "ThreeBodies") ∈ lw_tbl := lw_at lw_m1 101 rfl
theorem q227 : (Jvm.Cond.classLink "ThreeBodies$State" (18 : Nat) "java/util/ArrayDeque") ∈ lw_all := lw_g (lw_at lw_m1 129 rfl) rfl
theorem q229 : (Jvm.Cond.methodLink "ThreeBodies$State" (20 : Nat) ({ cls := "java/util/ArrayDeque", name := "<init>", desc := "()V" } : Jvm.MethodName)) ∈ lw_all := lw_g (lw_at lw_m1 131 rfl) rfl
theorem q250 : (Jvm.Cond.methodLink "ThreeBodies$State" (32 : Nat) ({ cls := "ThreeBodies$State", name := "see", desc := "()V" } : Jvm.MethodName)) ∈ lw_all := lw_g (lw_at lw_m1 152 rfl) rfl
theorem q251 : (Jvm.Cond.instanceMethod ({ cls := "ThreeBodies$State", name := "see", desc := "()V" } : Jvm.MethodName)) ∈ lw_all := lw_g (lw_at lw_m1 153 rfl) rfl
theorem q252 : (Jvm.Cond.selects "ThreeBodies$State" ({ cls := "ThreeBodies$State", name := "see", desc := "()V" } : Jvm.MethodName) ({ cls := "ThreeBodies$State", name := "see", desc := "()V" } : Jvm.MethodName)) ∈ lw_all := lw_g (lw_at lw_m1 154 rfl) rfl
theorem q253 : (Jvm.Cond.code ({ cls := "ThreeBodies$State", name := "see", desc := "()V" } : Jvm.MethodName) prog_15_method_3_code (1 : Nat) (Option.none : Option Jvm.ClassFile.FieldType)) ∈ lw_all := lw_g (lw_at lw_m1 155 rfl) rfl
theorem q254 : (Jvm.Cond.methodLink "ThreeBodies$State" (71 : Nat) ({ cls := "ThreeBodies$Bodies", name := "energy", desc := "()J" } : Jvm.MethodName)) ∈ lw_all := lw_g (lw_at lw_m1 156 rfl) rfl
theorem q288 : (Jvm.Cond.fieldLink "ThreeBodies$State" (12 : Nat) "ThreeBodies$State" "bodies" "LThreeBodies$Bodies;") ∈ lw_all := lw_g (lw_at lw_m1 190 rfl) rfl
theorem q291 : (Jvm.Cond.fieldLink "ThreeBodies$State" (21 : Nat) "ThreeBodies$State" "approaches" "Ljava/util/ArrayDeque;") ∈ lw_all := lw_g (lw_at lw_m1 193 rfl) rfl
theorem q293 : (Jvm.Cond.fieldLink "ThreeBodies$State" (25 : Nat) "ThreeBodies$State" "older" "[I") ∈ lw_all := lw_g (lw_at lw_m1 195 rfl) rfl
theorem q294 : (Jvm.Cond.fieldLink "ThreeBodies$State" (29 : Nat) "ThreeBodies$State" "latest" "[I") ∈ lw_all := lw_g (lw_at lw_m1 196 rfl) rfl
theorem q295 : (Jvm.Cond.fieldLink "ThreeBodies$State" (85 : Nat) "ThreeBodies$State" "remembered" "I") ∈ lw_all := lw_g (lw_at lw_m1 197 rfl) rfl
theorem q297 : (Jvm.Cond.fieldLink "ThreeBodies$State" (60 : Nat) "ThreeBodies$State" "crossings" "I") ∈ lw_all := lw_g (lw_at lw_m1 199 rfl) rfl
theorem q299 : (Jvm.Cond.fieldLink "ThreeBodies$State" (64 : Nat) "ThreeBodies$State" "lowest" "J") ∈ lw_all := lw_g (lw_at lw_m1 201 rfl) rfl
theorem q301 : (Jvm.Cond.fieldLink "ThreeBodies$State" (68 : Nat) "ThreeBodies$State" "highest" "J") ∈ lw_all := lw_g (lw_at lw_m1 203 rfl) rfl
theorem q303 : (Jvm.Cond.laysFinal "ThreeBodies$State" "ThreeBodies$State" "bodies" "LThreeBodies$Bodies;") ∈ lw_all := lw_g (lw_at lw_m1 205 rfl) rfl
theorem q304 : (Jvm.Cond.soleField "ThreeBodies$State" "bodies") ∈ lw_all := lw_g (lw_at lw_m1 206 rfl) rfl
theorem q305 : (Jvm.Cond.laysFinal "ThreeBodies$State" "ThreeBodies$State" "approaches" "Ljava/util/ArrayDeque;") ∈ lw_all := lw_g (lw_at lw_m1 207 rfl) rfl
theorem q306 : (Jvm.Cond.soleField "ThreeBodies$State" "approaches") ∈ lw_all := lw_g (lw_at lw_m1 208 rfl) rfl
theorem q307 : (Jvm.Cond.laysFinal "ThreeBodies$State" "ThreeBodies$State" "older" "[I") ∈ lw_all := lw_g (lw_at lw_m1 209 rfl) rfl
theorem q308 : (Jvm.Cond.soleField "ThreeBodies$State" "older") ∈ lw_all := lw_g (lw_at lw_m1 210 rfl) rfl
theorem q309 : (Jvm.Cond.laysFinal "ThreeBodies$State" "ThreeBodies$State" "latest" "[I") ∈ lw_all := lw_g (lw_at lw_m1 211 rfl) rfl
theorem q310 : (Jvm.Cond.soleField "ThreeBodies$State" "latest") ∈ lw_all := lw_g (lw_at lw_m1 212 rfl) rfl
theorem q311 : (Jvm.Cond.lays "ThreeBodies$State" "ThreeBodies$State" "remembered" "I") ∈ lw_all := lw_g (lw_at lw_m1 213 rfl) rfl
theorem q312 : (Jvm.Cond.soleField "ThreeBodies$State" "remembered") ∈ lw_all := lw_g (lw_at lw_m1 214 rfl) rfl
theorem q313 : (Jvm.Cond.lays "ThreeBodies$State" "ThreeBodies$State" "crossings" "I") ∈ lw_all := lw_g (lw_at lw_m1 215 rfl) rfl
theorem q314 : (Jvm.Cond.soleField "ThreeBodies$State" "crossings") ∈ lw_all := lw_g (lw_at lw_m1 216 rfl) rfl
theorem q315 : (Jvm.Cond.lays "ThreeBodies$State" "ThreeBodies$State" "lowest" "J") ∈ lw_all := lw_g (lw_at lw_m1 217 rfl) rfl
theorem q316 : (Jvm.Cond.soleField "ThreeBodies$State" "lowest") ∈ lw_all := lw_g (lw_at lw_m1 218 rfl) rfl
theorem q317 : (Jvm.Cond.lays "ThreeBodies$State" "ThreeBodies$State" "highest" "J") ∈ lw_all := lw_g (lw_at lw_m1 219 rfl) rfl
theorem q318 : (Jvm.Cond.soleField "ThreeBodies$State" "highest") ∈ lw_all := lw_g (lw_at lw_m1 220 rfl) rfl
theorem q319 : (Jvm.Cond.superclass "ThreeBodies$State" "java/lang/Object") ∈ lw_all := lw_g (lw_at lw_m1 221 rfl) rfl
theorem q661 : (Jvm.Cond.instanceMethod ({ cls := "ThreeBodies$State", name := "copy", desc := "()LThreeBodies$State;" } : Jvm.MethodName)) ∈ lw_all := lw_g (lw_at lw_m3 83 rfl) rfl
theorem q662 : (Jvm.Cond.selects "ThreeBodies$State" ({ cls := "ThreeBodies$State", name := "copy", desc := "()LThreeBodies$State;" } : Jvm.MethodName) ({ cls := "ThreeBodies$State", name := "copy", desc := "()LThreeBodies$State;" } : Jvm.MethodName)) ∈ lw_all := lw_g (lw_at lw_m3 84 rfl) rfl
theorem q663 : (Jvm.Cond.code ({ cls := "ThreeBodies$State", name := "copy", desc := "()LThreeBodies$State;" } : Jvm.MethodName) prog_15_method_2_code (4 : Nat) (Option.some (Jvm.ClassFile.FieldType.object "ThreeBodies$State"))) ∈ lw_all := lw_g (lw_at lw_m3 85 rfl) rfl
theorem q664 : (Jvm.Cond.classLink "ThreeBodies$State" (13 : Nat) "ThreeBodies$State") ∈ lw_all := lw_g (lw_at lw_m3 86 rfl) rfl
theorem q665 : (Jvm.Cond.methodLink "ThreeBodies$State" (35 : Nat) ({ cls := "ThreeBodies$State", name := "<init>", desc := "()V" } : Jvm.MethodName)) ∈ lw_all := lw_g (lw_at lw_m3 87 rfl) rfl
theorem q666 : (Jvm.Cond.methodLink "ThreeBodies$State" (36 : Nat) ({ cls := "ThreeBodies$Bodies", name := "become", desc := "(LThreeBodies$Bodies;)V" } : Jvm.MethodName)) ∈ lw_all := lw_g (lw_at lw_m3 88 rfl) rfl
theorem q673 : (Jvm.Cond.methodLink "ThreeBodies$State" (40 : Nat) ({ cls := "java/util/ArrayDeque", name := "iterator", desc := "()Ljava/util/Iterator;" } : Jvm.MethodName)) ∈ lw_all := lw_g (lw_at lw_m3 95 rfl) rfl
theorem q697 : (Jvm.Cond.interfaceEntry "ThreeBodies$State" (44 : Nat)) ∈ lw_tbl := lw_at lw_m3 119 rfl
theorem q698 : (Jvm.Cond.methodLink "ThreeBodies$State" (44 : Nat) ({ cls := "java/util/Iterator", name := "hasNext", desc := "()Z" } : Jvm.MethodName)) ∈ lw_all := lw_g (lw_at lw_m3 120 rfl) rfl
theorem q737 : (Jvm.Cond.interfaceEntry "ThreeBodies$State" (50 : Nat)) ∈ lw_tbl := lw_at lw_m3 159 rfl
theorem q738 : (Jvm.Cond.methodLink "ThreeBodies$State" (50 : Nat) ({ cls := "java/util/Iterator", name := "next", desc := "()Ljava/lang/Object;" } : Jvm.MethodName)) ∈ lw_all := lw_g (lw_at lw_m3 160 rfl) rfl
theorem q781 : (Jvm.Cond.classLink "ThreeBodies$State" (54 : Nat) "ThreeBodies$Approach") ∈ lw_all := lw_g (lw_at lw_m3 203 rfl) rfl
theorem q782 : (Jvm.Cond.methodLink "ThreeBodies$State" (56 : Nat) ({ cls := "java/util/ArrayDeque", name := "addLast", desc := "(Ljava/lang/Object;)V" } : Jvm.MethodName)) ∈ lw_all := lw_g (lw_at lw_m3 204 rfl) rfl
theorem q814 : (Jvm.Cond.selects "ThreeBodies$State" ({ cls := "java/lang/Object", name := "getClass", desc := "()Ljava/lang/Class;" } : Jvm.MethodName) ({ cls := "java/lang/Object", name := "getClass", desc := "()Ljava/lang/Class;" } : Jvm.MethodName)) ∈ lw_all := lw_g (lw_at lw_m3 236 rfl) rfl
theorem q1558 : (Jvm.Cond.instanceMethod ({ cls := "ThreeBodies$State", name := "run", desc := "([[LThreeBodies$Part;I)I" } : Jvm.MethodName)) ∈ lw_all := lw_g (lw_at lw_m7 20 rfl) rfl
theorem q1559 : (Jvm.Cond.selects "ThreeBodies$State" ({ cls := "ThreeBodies$State", name := "run", desc := "([[LThreeBodies$Part;I)I" } : Jvm.MethodName) ({ cls := "ThreeBodies$State", name := "run", desc := "([[LThreeBodies$Part;I)I" } : Jvm.MethodName)) ∈ lw_all := lw_g (lw_at lw_m7 21 rfl) rfl
theorem q1560 : (Jvm.Cond.code ({ cls := "ThreeBodies$State", name := "run", desc := "([[LThreeBodies$Part;I)I" } : Jvm.MethodName) prog_15_method_6_code (8 : Nat) (Option.some Jvm.ClassFile.FieldType.int)) ∈ lw_all := lw_g (lw_at lw_m7 22 rfl) rfl
theorem q1561 : (Jvm.Cond.methodLink "ThreeBodies$State" (110 : Nat) ({ cls := "ThreeBodies$State", name := "remember", desc := "()V" } : Jvm.MethodName)) ∈ lw_all := lw_g (lw_at lw_m7 23 rfl) rfl
theorem q1562 : (Jvm.Cond.privateMethod ({ cls := "ThreeBodies$State", name := "remember", desc := "()V" } : Jvm.MethodName)) ∈ lw_tbl := lw_at lw_m7 24 rfl
theorem q1563 : (Jvm.Cond.instanceMethod ({ cls := "ThreeBodies$State", name := "remember", desc := "()V" } : Jvm.MethodName)) ∈ lw_all := lw_g (lw_at lw_m7 25 rfl) rfl
theorem q1564 : (Jvm.Cond.code ({ cls := "ThreeBodies$State", name := "remember", desc := "()V" } : Jvm.MethodName) prog_15_method_4_code (2 : Nat) (Option.none : Option Jvm.ClassFile.FieldType)) ∈ lw_all := lw_g (lw_at lw_m7 26 rfl) rfl
theorem q1565 : (Jvm.Cond.methodLink "ThreeBodies$State" (75 : Nat) ({ cls := "java/lang/System", name := "arraycopy", desc := "(Ljava/lang/Object;ILjava/lang/Object;II)V" } : Jvm.MethodName)) ∈ lw_all := lw_g (lw_at lw_m7 27 rfl) rfl
theorem q1566 : (Jvm.Cond.methodLink "ThreeBodies$State" (81 : Nat) ({ cls := "ThreeBodies$Bodies", name := "distanceOf", desc := "(I)I" } : Jvm.MethodName)) ∈ lw_all := lw_g (lw_at lw_m7 28 rfl) rfl
theorem q1567 : (Jvm.Cond.methodLink "ThreeBodies$State" (88 : Nat) ({ cls := "java/lang/Math", name := "min", desc := "(II)I" } : Jvm.MethodName)) ∈ lw_all := lw_g (lw_at lw_m7 29 rfl) rfl
theorem q1568 : (Jvm.Cond.methodLink "ThreeBodies$State" (113 : Nat) ({ cls := "ThreeBodies$Bodies", name := "band", desc := "()J" } : Jvm.MethodName)) ∈ lw_all := lw_g (lw_at lw_m7 30 rfl) rfl
theorem q1569 : (Jvm.Cond.methodLink "ThreeBodies$State" (116 : Nat) ({ cls := "ThreeBodies$Bodies", name := "step", desc := "([[LThreeBodies$Part;I)Z" } : Jvm.MethodName)) ∈ lw_all := lw_g (lw_at lw_m7 31 rfl) rfl
theorem q1570 : (Jvm.Cond.methodLink "ThreeBodies$State" (120 : Nat) ({ cls := "ThreeBodies$State", name := "notice", desc := "()V" } : Jvm.MethodName)) ∈ lw_all := lw_g (lw_at lw_m7 32 rfl) rfl
theorem q1571 : (Jvm.Cond.privateMethod ({ cls := "ThreeBodies$State", name := "notice", desc := "()V" } : Jvm.MethodName)) ∈ lw_tbl := lw_at lw_m7 33 rfl
theorem q1572 : (Jvm.Cond.instanceMethod ({ cls := "ThreeBodies$State", name := "notice", desc := "()V" } : Jvm.MethodName)) ∈ lw_all := lw_g (lw_at lw_m7 34 rfl) rfl
theorem q1573 : (Jvm.Cond.code ({ cls := "ThreeBodies$State", name := "notice", desc := "()V" } : Jvm.MethodName) prog_15_method_5_code (3 : Nat) (Option.none : Option Jvm.ClassFile.FieldType)) ∈ lw_all := lw_g (lw_at lw_m7 35 rfl) rfl
theorem q1574 : (Jvm.Cond.methodLink "ThreeBodies$State" (97 : Nat) ({ cls := "java/util/ArrayDeque", name := "size", desc := "()I" } : Jvm.MethodName)) ∈ lw_all := lw_g (lw_at lw_m7 36 rfl) rfl
theorem q1575 : (Jvm.Cond.methodLink "ThreeBodies$State" (101 : Nat) ({ cls := "java/util/ArrayDeque", name := "removeFirst", desc := "()Ljava/lang/Object;" } : Jvm.MethodName)) ∈ lw_all := lw_g (lw_at lw_m7 37 rfl) rfl
theorem q1577 : (Jvm.Cond.methodLink "ThreeBodies$State" (107 : Nat) ({ cls := "ThreeBodies$Approach", name := "<init>", desc := "(III)V" } : Jvm.MethodName)) ∈ lw_all := lw_g (lw_at lw_m7 39 rfl) rfl
theorem q1594 : (Jvm.Cond.methodLink "ThreeBodies$State" (123 : Nat) ({ cls := "java/lang/Math", name := "min", desc := "(JJ)J" } : Jvm.MethodName)) ∈ lw_all := lw_g (lw_at lw_m7 56 rfl) rfl
theorem q1595 : (Jvm.Cond.methodLink "ThreeBodies$State" (126 : Nat) ({ cls := "java/lang/Math", name := "max", desc := "(JJ)J" } : Jvm.MethodName)) ∈ lw_all := lw_g (lw_at lw_m7 57 rfl) rfl
theorem q1860 : (Jvm.Cond.selects "ThreeBodies$State" ({ cls := "java/lang/Object", name := "hashCode", desc := "()I" } : Jvm.MethodName) ({ cls := "java/lang/Object", name := "hashCode", desc := "()I" } : Jvm.MethodName)) ∈ lw_all := lw_g (lw_at lw_m8 82 rfl) rfl
theorem q1947 : (Jvm.Cond.selects "ThreeBodies$State" ({ cls := "java/lang/Object", name := "equals", desc := "(Ljava/lang/Object;)Z" } : Jvm.MethodName) ({ cls := "java/lang/Object", name := "equals", desc := "(Ljava/lang/Object;)Z" } : Jvm.MethodName)) ∈ lw_all := lw_g (lw_at lw_m8 169 rfl) rfl
theorem q3390 : (Jvm.Cond.castable "ThreeBodies$State" "java/lang/Object") ∈ lw_tbl := lw_at lw_m14 172 rfl
theorem in_X2 : ∀ w ∈ wsX20, w ∈ lw_all := lw_in wsX20 [303, 305, 307, 309, 311, 313, 315, 317] (by decide +kernel) (by decide +kernel)
/-! ThreeBodies$Bodies -/
set_option maxRecDepth 100000
def RX3 : String := "ThreeBodies$Bodies"
def TX3 : u_T := fun k => match k with
  | 0 => ("ThreeBodies$Bodies", "settings", "[I", true)
  | 1 => ("ThreeBodies$Bodies", "mass", "[I", true)
  | 2 => ("ThreeBodies$Bodies", "x", "[I", true)
  | 3 => ("ThreeBodies$Bodies", "y", "[I", true)
  | 4 => ("ThreeBodies$Bodies", "px", "[J", true)
  | 5 => ("ThreeBodies$Bodies", "py", "[J", true)
  | 6 => ("ThreeBodies$Bodies", "oldX", "[I", true)
  | 7 => ("ThreeBodies$Bodies", "oldY", "[I", true)
  | 8 => ("ThreeBodies$Bodies", "oldPx", "[J", true)
  | 9 => ("ThreeBodies$Bodies", "oldPy", "[J", true)
  | _ => ("ThreeBodies$Bodies", "clock", "I", false)
def tyX3 : Nat → FieldType := fun k => match k with
  | 0 => .array .int
  | 1 => .array .int
  | 2 => .array .int
  | 3 => .array .int
  | 4 => .array .long
  | 5 => .array .long
  | 6 => .array .int
  | 7 => .array .int
  | 8 => .array .long
  | 9 => .array .long
  | _ => .int
abbrev wsX30 : List Cond := u_ws RX3 TX3 11
theorem nmX3 : ∀ a, a < 11 → ∀ b, b < 11 → a ≠ b → (TX3 a).2.1 ≠ (TX3 b).2.1 := by decide +kernel
theorem tyX3_ok : ∀ k, k < 11 → parseFieldDescriptor (TX3 k).2.2.1 = some (tyX3 k) := by decide +kernel
abbrev cX3_init : ByteArray := prog_3_method_1_code
def yX3_init : MethodName := ⟨RX3, "<init>", "()V"⟩
def dkwX3_init_6 : List UInt8 := [181, 0, 40, 177]
abbrev dktX3_init_6 : List UInt8 := dkwX3_init_6 ++ []
def dkwX3_init_5 : List UInt8 := [188, 10, 181, 0, 31, 42, 6, 188, 10, 181, 0, 34, 42, 6, 188, 11, 181, 0, 37, 42, 6, 188, 11]
abbrev dktX3_init_5 : List UInt8 := dkwX3_init_5 ++ dktX3_init_6
def dkwX3_init_4 : List UInt8 := [5, 17, 3, 232, 79, 181, 0, 21, 42, 6, 188, 11, 181, 0, 24, 42, 6, 188, 11, 181, 0, 28, 42, 6]
abbrev dktX3_init_4 : List UInt8 := dkwX3_init_4 ++ dktX3_init_5
def dkwX3_init_3 : List UInt8 := [17, 3, 232, 79, 89, 5, 3, 79, 181, 0, 18, 42, 6, 188, 10, 89, 3, 3, 79, 89, 4, 3, 79, 89]
abbrev dktX3_init_3 : List UInt8 := dkwX3_init_3 ++ dktX3_init_4
def dkwX3_init_2 : List UInt8 := [4, 79, 89, 4, 4, 79, 89, 5, 4, 79, 181, 0, 15, 42, 6, 188, 10, 89, 3, 3, 79, 89, 4]
abbrev dktX3_init_2 : List UInt8 := dkwX3_init_2 ++ dktX3_init_3
def dkwX3_init_1 : List UInt8 := [89, 6, 3, 79, 89, 7, 16, 100, 79, 89, 8, 17, 3, 232, 79, 181, 0, 9, 42, 6, 188, 10, 89, 3]
abbrev dktX3_init_1 : List UInt8 := dkwX3_init_1 ++ dktX3_init_2
def dkwX3_init_0 : List UInt8 := [42, 183, 0, 3, 42, 16, 6, 188, 10, 89, 3, 17, 3, 232, 79, 89, 4, 16, 10, 79, 89, 5, 4, 79]
abbrev dktX3_init_0 : List UInt8 := dkwX3_init_0 ++ dktX3_init_1
theorem dksX3_init_0 : cX3_init.data.toList.drop 0 = dktX3_init_0 := by decide +kernel
theorem dksX3_init_1 : cX3_init.data.toList.drop 24 = dktX3_init_1 := dk_seg dksX3_init_0 24 rfl rfl
theorem dksX3_init_2 : cX3_init.data.toList.drop 48 = dktX3_init_2 := dk_seg dksX3_init_1 24 rfl rfl
theorem dksX3_init_3 : cX3_init.data.toList.drop 71 = dktX3_init_3 := dk_seg dksX3_init_2 23 rfl rfl
theorem dksX3_init_4 : cX3_init.data.toList.drop 95 = dktX3_init_4 := dk_seg dksX3_init_3 24 rfl rfl
theorem dksX3_init_5 : cX3_init.data.toList.drop 119 = dktX3_init_5 := dk_seg dksX3_init_4 24 rfl rfl
theorem dksX3_init_6 : cX3_init.data.toList.drop 142 = dktX3_init_6 := dk_seg dksX3_init_5 23 rfl rfl
theorem dX3_init_0 : decode cX3_init 0 = .ok (.aload_n 0, 1) := dk_42 (dk_at dksX3_init_0 0 rfl rfl)
theorem dX3_init_1 : decode cX3_init 1 = .ok (.invokespecial 3, 3) := dk_183 0 3 (dk_at dksX3_init_0 1 rfl rfl)
theorem dX3_init_4 : decode cX3_init 4 = .ok (.aload_n 0, 1) := dk_42 (dk_at dksX3_init_0 4 rfl rfl)
theorem dX3_init_5 : decode cX3_init 5 = .ok (.bipush 6, 2) := dk_16 6 (dk_at dksX3_init_0 5 rfl rfl)
theorem dX3_init_7 : decode cX3_init 7 = .ok (.newarray .int, 2) := dk_188_10 (dk_at dksX3_init_0 7 rfl rfl)
theorem dX3_init_9 : decode cX3_init 9 = .ok (.dup, 1) := dk_89 (dk_at dksX3_init_0 9 rfl rfl)
theorem dX3_init_10 : decode cX3_init 10 = .ok (.iconst 0, 1) := dk_3 (dk_at dksX3_init_0 10 rfl rfl)
theorem dX3_init_11 : decode cX3_init 11 = .ok (.sipush 1000, 3) := dk_17 3 232 (dk_at dksX3_init_0 11 rfl rfl)
theorem dX3_init_14 : decode cX3_init 14 = .ok (.iastore, 1) := dk_79 (dk_at dksX3_init_0 14 rfl rfl)
theorem dX3_init_15 : decode cX3_init 15 = .ok (.dup, 1) := dk_89 (dk_at dksX3_init_0 15 rfl rfl)
theorem dX3_init_16 : decode cX3_init 16 = .ok (.iconst 1, 1) := dk_4 (dk_at dksX3_init_0 16 rfl rfl)
theorem dX3_init_17 : decode cX3_init 17 = .ok (.bipush 10, 2) := dk_16 10 (dk_at dksX3_init_0 17 rfl rfl)
theorem dX3_init_19 : decode cX3_init 19 = .ok (.iastore, 1) := dk_79 (dk_at dksX3_init_0 19 rfl rfl)
theorem dX3_init_20 : decode cX3_init 20 = .ok (.dup, 1) := dk_89 (dk_at dksX3_init_0 20 rfl rfl)
theorem dX3_init_21 : decode cX3_init 21 = .ok (.iconst 2, 1) := dk_5 (dk_at dksX3_init_0 21 rfl rfl)
theorem dX3_init_22 : decode cX3_init 22 = .ok (.iconst 1, 1) := dk_4 (dk_at dksX3_init_0 22 rfl rfl)
theorem dX3_init_23 : decode cX3_init 23 = .ok (.iastore, 1) := dk_79 (dk_at dksX3_init_0 23 rfl rfl)
theorem dX3_init_24 : decode cX3_init 24 = .ok (.dup, 1) := dk_89 (dk_at dksX3_init_1 0 rfl rfl)
theorem dX3_init_25 : decode cX3_init 25 = .ok (.iconst 3, 1) := dk_6 (dk_at dksX3_init_1 1 rfl rfl)
theorem dX3_init_26 : decode cX3_init 26 = .ok (.iconst 0, 1) := dk_3 (dk_at dksX3_init_1 2 rfl rfl)
theorem dX3_init_27 : decode cX3_init 27 = .ok (.iastore, 1) := dk_79 (dk_at dksX3_init_1 3 rfl rfl)
theorem dX3_init_28 : decode cX3_init 28 = .ok (.dup, 1) := dk_89 (dk_at dksX3_init_1 4 rfl rfl)
theorem dX3_init_29 : decode cX3_init 29 = .ok (.iconst 4, 1) := dk_7 (dk_at dksX3_init_1 5 rfl rfl)
theorem dX3_init_30 : decode cX3_init 30 = .ok (.bipush 100, 2) := dk_16 100 (dk_at dksX3_init_1 6 rfl rfl)
theorem dX3_init_32 : decode cX3_init 32 = .ok (.iastore, 1) := dk_79 (dk_at dksX3_init_1 8 rfl rfl)
theorem dX3_init_33 : decode cX3_init 33 = .ok (.dup, 1) := dk_89 (dk_at dksX3_init_1 9 rfl rfl)
theorem dX3_init_34 : decode cX3_init 34 = .ok (.iconst 5, 1) := dk_8 (dk_at dksX3_init_1 10 rfl rfl)
theorem dX3_init_35 : decode cX3_init 35 = .ok (.sipush 1000, 3) := dk_17 3 232 (dk_at dksX3_init_1 11 rfl rfl)
theorem dX3_init_38 : decode cX3_init 38 = .ok (.iastore, 1) := dk_79 (dk_at dksX3_init_1 14 rfl rfl)
theorem dX3_init_39 : decode cX3_init 39 = .ok (.putfield 9, 3) := dk_181 0 9 (dk_at dksX3_init_1 15 rfl rfl)
theorem dX3_init_42 : decode cX3_init 42 = .ok (.aload_n 0, 1) := dk_42 (dk_at dksX3_init_1 18 rfl rfl)
theorem dX3_init_43 : decode cX3_init 43 = .ok (.iconst 3, 1) := dk_6 (dk_at dksX3_init_1 19 rfl rfl)
theorem dX3_init_44 : decode cX3_init 44 = .ok (.newarray .int, 2) := dk_188_10 (dk_at dksX3_init_1 20 rfl rfl)
theorem dX3_init_46 : decode cX3_init 46 = .ok (.dup, 1) := dk_89 (dk_at dksX3_init_1 22 rfl rfl)
theorem dX3_init_47 : decode cX3_init 47 = .ok (.iconst 0, 1) := dk_3 (dk_at dksX3_init_1 23 rfl rfl)
theorem dX3_init_48 : decode cX3_init 48 = .ok (.iconst 1, 1) := dk_4 (dk_at dksX3_init_2 0 rfl rfl)
theorem dX3_init_49 : decode cX3_init 49 = .ok (.iastore, 1) := dk_79 (dk_at dksX3_init_2 1 rfl rfl)
theorem dX3_init_50 : decode cX3_init 50 = .ok (.dup, 1) := dk_89 (dk_at dksX3_init_2 2 rfl rfl)
theorem dX3_init_51 : decode cX3_init 51 = .ok (.iconst 1, 1) := dk_4 (dk_at dksX3_init_2 3 rfl rfl)
theorem dX3_init_52 : decode cX3_init 52 = .ok (.iconst 1, 1) := dk_4 (dk_at dksX3_init_2 4 rfl rfl)
theorem dX3_init_53 : decode cX3_init 53 = .ok (.iastore, 1) := dk_79 (dk_at dksX3_init_2 5 rfl rfl)
theorem dX3_init_54 : decode cX3_init 54 = .ok (.dup, 1) := dk_89 (dk_at dksX3_init_2 6 rfl rfl)
theorem dX3_init_55 : decode cX3_init 55 = .ok (.iconst 2, 1) := dk_5 (dk_at dksX3_init_2 7 rfl rfl)
theorem dX3_init_56 : decode cX3_init 56 = .ok (.iconst 1, 1) := dk_4 (dk_at dksX3_init_2 8 rfl rfl)
theorem dX3_init_57 : decode cX3_init 57 = .ok (.iastore, 1) := dk_79 (dk_at dksX3_init_2 9 rfl rfl)
theorem dX3_init_58 : decode cX3_init 58 = .ok (.putfield 15, 3) := dk_181 0 15 (dk_at dksX3_init_2 10 rfl rfl)
theorem dX3_init_61 : decode cX3_init 61 = .ok (.aload_n 0, 1) := dk_42 (dk_at dksX3_init_2 13 rfl rfl)
theorem dX3_init_62 : decode cX3_init 62 = .ok (.iconst 3, 1) := dk_6 (dk_at dksX3_init_2 14 rfl rfl)
theorem dX3_init_63 : decode cX3_init 63 = .ok (.newarray .int, 2) := dk_188_10 (dk_at dksX3_init_2 15 rfl rfl)
theorem dX3_init_65 : decode cX3_init 65 = .ok (.dup, 1) := dk_89 (dk_at dksX3_init_2 17 rfl rfl)
theorem dX3_init_66 : decode cX3_init 66 = .ok (.iconst 0, 1) := dk_3 (dk_at dksX3_init_2 18 rfl rfl)
theorem dX3_init_67 : decode cX3_init 67 = .ok (.iconst 0, 1) := dk_3 (dk_at dksX3_init_2 19 rfl rfl)
theorem dX3_init_68 : decode cX3_init 68 = .ok (.iastore, 1) := dk_79 (dk_at dksX3_init_2 20 rfl rfl)
theorem dX3_init_69 : decode cX3_init 69 = .ok (.dup, 1) := dk_89 (dk_at dksX3_init_2 21 rfl rfl)
theorem dX3_init_70 : decode cX3_init 70 = .ok (.iconst 1, 1) := dk_4 (dk_at dksX3_init_2 22 rfl rfl)
theorem dX3_init_71 : decode cX3_init 71 = .ok (.sipush 1000, 3) := dk_17 3 232 (dk_at dksX3_init_3 0 rfl rfl)
theorem dX3_init_74 : decode cX3_init 74 = .ok (.iastore, 1) := dk_79 (dk_at dksX3_init_3 3 rfl rfl)
theorem dX3_init_75 : decode cX3_init 75 = .ok (.dup, 1) := dk_89 (dk_at dksX3_init_3 4 rfl rfl)
theorem dX3_init_76 : decode cX3_init 76 = .ok (.iconst 2, 1) := dk_5 (dk_at dksX3_init_3 5 rfl rfl)
theorem dX3_init_77 : decode cX3_init 77 = .ok (.iconst 0, 1) := dk_3 (dk_at dksX3_init_3 6 rfl rfl)
theorem dX3_init_78 : decode cX3_init 78 = .ok (.iastore, 1) := dk_79 (dk_at dksX3_init_3 7 rfl rfl)
theorem dX3_init_79 : decode cX3_init 79 = .ok (.putfield 18, 3) := dk_181 0 18 (dk_at dksX3_init_3 8 rfl rfl)
theorem dX3_init_82 : decode cX3_init 82 = .ok (.aload_n 0, 1) := dk_42 (dk_at dksX3_init_3 11 rfl rfl)
theorem dX3_init_83 : decode cX3_init 83 = .ok (.iconst 3, 1) := dk_6 (dk_at dksX3_init_3 12 rfl rfl)
theorem dX3_init_84 : decode cX3_init 84 = .ok (.newarray .int, 2) := dk_188_10 (dk_at dksX3_init_3 13 rfl rfl)
theorem dX3_init_86 : decode cX3_init 86 = .ok (.dup, 1) := dk_89 (dk_at dksX3_init_3 15 rfl rfl)
theorem dX3_init_87 : decode cX3_init 87 = .ok (.iconst 0, 1) := dk_3 (dk_at dksX3_init_3 16 rfl rfl)
theorem dX3_init_88 : decode cX3_init 88 = .ok (.iconst 0, 1) := dk_3 (dk_at dksX3_init_3 17 rfl rfl)
theorem dX3_init_89 : decode cX3_init 89 = .ok (.iastore, 1) := dk_79 (dk_at dksX3_init_3 18 rfl rfl)
theorem dX3_init_90 : decode cX3_init 90 = .ok (.dup, 1) := dk_89 (dk_at dksX3_init_3 19 rfl rfl)
theorem dX3_init_91 : decode cX3_init 91 = .ok (.iconst 1, 1) := dk_4 (dk_at dksX3_init_3 20 rfl rfl)
theorem dX3_init_92 : decode cX3_init 92 = .ok (.iconst 0, 1) := dk_3 (dk_at dksX3_init_3 21 rfl rfl)
theorem dX3_init_93 : decode cX3_init 93 = .ok (.iastore, 1) := dk_79 (dk_at dksX3_init_3 22 rfl rfl)
theorem dX3_init_94 : decode cX3_init 94 = .ok (.dup, 1) := dk_89 (dk_at dksX3_init_3 23 rfl rfl)
theorem dX3_init_95 : decode cX3_init 95 = .ok (.iconst 2, 1) := dk_5 (dk_at dksX3_init_4 0 rfl rfl)
theorem dX3_init_96 : decode cX3_init 96 = .ok (.sipush 1000, 3) := dk_17 3 232 (dk_at dksX3_init_4 1 rfl rfl)
theorem dX3_init_99 : decode cX3_init 99 = .ok (.iastore, 1) := dk_79 (dk_at dksX3_init_4 4 rfl rfl)
theorem dX3_init_100 : decode cX3_init 100 = .ok (.putfield 21, 3) := dk_181 0 21 (dk_at dksX3_init_4 5 rfl rfl)
theorem dX3_init_103 : decode cX3_init 103 = .ok (.aload_n 0, 1) := dk_42 (dk_at dksX3_init_4 8 rfl rfl)
theorem dX3_init_104 : decode cX3_init 104 = .ok (.iconst 3, 1) := dk_6 (dk_at dksX3_init_4 9 rfl rfl)
theorem dX3_init_105 : decode cX3_init 105 = .ok (.newarray .long, 2) := dk_188_11 (dk_at dksX3_init_4 10 rfl rfl)
theorem dX3_init_107 : decode cX3_init 107 = .ok (.putfield 24, 3) := dk_181 0 24 (dk_at dksX3_init_4 12 rfl rfl)
theorem dX3_init_110 : decode cX3_init 110 = .ok (.aload_n 0, 1) := dk_42 (dk_at dksX3_init_4 15 rfl rfl)
theorem dX3_init_111 : decode cX3_init 111 = .ok (.iconst 3, 1) := dk_6 (dk_at dksX3_init_4 16 rfl rfl)
theorem dX3_init_112 : decode cX3_init 112 = .ok (.newarray .long, 2) := dk_188_11 (dk_at dksX3_init_4 17 rfl rfl)
theorem dX3_init_114 : decode cX3_init 114 = .ok (.putfield 28, 3) := dk_181 0 28 (dk_at dksX3_init_4 19 rfl rfl)
theorem dX3_init_117 : decode cX3_init 117 = .ok (.aload_n 0, 1) := dk_42 (dk_at dksX3_init_4 22 rfl rfl)
theorem dX3_init_118 : decode cX3_init 118 = .ok (.iconst 3, 1) := dk_6 (dk_at dksX3_init_4 23 rfl rfl)
theorem dX3_init_119 : decode cX3_init 119 = .ok (.newarray .int, 2) := dk_188_10 (dk_at dksX3_init_5 0 rfl rfl)
theorem dX3_init_121 : decode cX3_init 121 = .ok (.putfield 31, 3) := dk_181 0 31 (dk_at dksX3_init_5 2 rfl rfl)
theorem dX3_init_124 : decode cX3_init 124 = .ok (.aload_n 0, 1) := dk_42 (dk_at dksX3_init_5 5 rfl rfl)
theorem dX3_init_125 : decode cX3_init 125 = .ok (.iconst 3, 1) := dk_6 (dk_at dksX3_init_5 6 rfl rfl)
theorem dX3_init_126 : decode cX3_init 126 = .ok (.newarray .int, 2) := dk_188_10 (dk_at dksX3_init_5 7 rfl rfl)
theorem dX3_init_128 : decode cX3_init 128 = .ok (.putfield 34, 3) := dk_181 0 34 (dk_at dksX3_init_5 9 rfl rfl)
theorem dX3_init_131 : decode cX3_init 131 = .ok (.aload_n 0, 1) := dk_42 (dk_at dksX3_init_5 12 rfl rfl)
theorem dX3_init_132 : decode cX3_init 132 = .ok (.iconst 3, 1) := dk_6 (dk_at dksX3_init_5 13 rfl rfl)
theorem dX3_init_133 : decode cX3_init 133 = .ok (.newarray .long, 2) := dk_188_11 (dk_at dksX3_init_5 14 rfl rfl)
theorem dX3_init_135 : decode cX3_init 135 = .ok (.putfield 37, 3) := dk_181 0 37 (dk_at dksX3_init_5 16 rfl rfl)
theorem dX3_init_138 : decode cX3_init 138 = .ok (.aload_n 0, 1) := dk_42 (dk_at dksX3_init_5 19 rfl rfl)
theorem dX3_init_139 : decode cX3_init 139 = .ok (.iconst 3, 1) := dk_6 (dk_at dksX3_init_5 20 rfl rfl)
theorem dX3_init_140 : decode cX3_init 140 = .ok (.newarray .long, 2) := dk_188_11 (dk_at dksX3_init_5 21 rfl rfl)
theorem dX3_init_142 : decode cX3_init 142 = .ok (.putfield 40, 3) := dk_181 0 40 (dk_at dksX3_init_6 0 rfl rfl)
theorem dX3_init_145 : decode cX3_init 145 = .ok (.return_, 1) := dk_177 (dk_at dksX3_init_6 3 rfl rfl)
abbrev cX3_energy : ByteArray := prog_3_method_16_code
def yX3_energy : MethodName := ⟨RX3, "energy", "()J"⟩
def dkwX3_energy_0 : List UInt8 := [42, 182, 0, 121, 42, 182, 0, 125, 97, 173]
abbrev dktX3_energy_0 : List UInt8 := dkwX3_energy_0 ++ []
theorem dksX3_energy_0 : cX3_energy.data.toList.drop 0 = dktX3_energy_0 := by decide +kernel
theorem dX3_energy_0 : decode cX3_energy 0 = .ok (.aload_n 0, 1) := dk_42 (dk_at dksX3_energy_0 0 rfl rfl)
theorem dX3_energy_1 : decode cX3_energy 1 = .ok (.invokevirtual 121, 3) := dk_182 0 121 (dk_at dksX3_energy_0 1 rfl rfl)
theorem dX3_energy_4 : decode cX3_energy 4 = .ok (.aload_n 0, 1) := dk_42 (dk_at dksX3_energy_0 4 rfl rfl)
theorem dX3_energy_5 : decode cX3_energy 5 = .ok (.invokevirtual 125, 3) := dk_182 0 125 (dk_at dksX3_energy_0 5 rfl rfl)
theorem dX3_energy_8 : decode cX3_energy 8 = .ok (.ladd, 1) := dk_97 (dk_at dksX3_energy_0 8 rfl rfl)
theorem dX3_energy_9 : decode cX3_energy 9 = .ok (.lreturn, 1) := dk_173 (dk_at dksX3_energy_0 9 rfl rfl)
abbrev cX3_kinetic : ByteArray := prog_3_method_14_code
def yX3_kinetic : MethodName := ⟨RX3, "kinetic", "()J"⟩
def dkwX3_kinetic_2 : List UInt8 := [109, 97, 64, 132, 3, 1, 167, 255, 206, 31, 173]
abbrev dktX3_kinetic_2 : List UInt8 := dkwX3_kinetic_2 ++ []
def dkwX3_kinetic_1 : List UInt8 := [180, 0, 28, 29, 47, 42, 180, 0, 28, 29, 47, 105, 97, 20, 0, 119, 42, 180, 0, 15, 29, 46, 133, 105]
abbrev dktX3_kinetic_1 : List UInt8 := dkwX3_kinetic_1 ++ dktX3_kinetic_2
def dkwX3_kinetic_0 : List UInt8 := [9, 64, 3, 62, 29, 6, 162, 0, 51, 31, 42, 180, 0, 24, 29, 47, 42, 180, 0, 24, 29, 47, 105, 42]
abbrev dktX3_kinetic_0 : List UInt8 := dkwX3_kinetic_0 ++ dktX3_kinetic_1
theorem dksX3_kinetic_0 : cX3_kinetic.data.toList.drop 0 = dktX3_kinetic_0 := by decide +kernel
theorem dksX3_kinetic_1 : cX3_kinetic.data.toList.drop 24 = dktX3_kinetic_1 := dk_seg dksX3_kinetic_0 24 rfl rfl
theorem dksX3_kinetic_2 : cX3_kinetic.data.toList.drop 48 = dktX3_kinetic_2 := dk_seg dksX3_kinetic_1 24 rfl rfl
theorem dX3_kinetic_0 : decode cX3_kinetic 0 = .ok (.lconst 0, 1) := dk_9 (dk_at dksX3_kinetic_0 0 rfl rfl)
theorem dX3_kinetic_1 : decode cX3_kinetic 1 = .ok (.lstore_n 1, 1) := dk_64 (dk_at dksX3_kinetic_0 1 rfl rfl)
theorem dX3_kinetic_2 : decode cX3_kinetic 2 = .ok (.iconst 0, 1) := dk_3 (dk_at dksX3_kinetic_0 2 rfl rfl)
theorem dX3_kinetic_3 : decode cX3_kinetic 3 = .ok (.istore_n 3, 1) := dk_62 (dk_at dksX3_kinetic_0 3 rfl rfl)
theorem dX3_kinetic_4 : decode cX3_kinetic 4 = .ok (.iload_n 3, 1) := dk_29 (dk_at dksX3_kinetic_0 4 rfl rfl)
theorem dX3_kinetic_5 : decode cX3_kinetic 5 = .ok (.iconst 3, 1) := dk_6 (dk_at dksX3_kinetic_0 5 rfl rfl)
theorem dX3_kinetic_6 : decode cX3_kinetic 6 = .ok (.if_icmp .ge 51, 3) := dk_162 0 51 (dk_at dksX3_kinetic_0 6 rfl rfl)
theorem dX3_kinetic_9 : decode cX3_kinetic 9 = .ok (.lload_n 1, 1) := dk_31 (dk_at dksX3_kinetic_0 9 rfl rfl)
theorem dX3_kinetic_10 : decode cX3_kinetic 10 = .ok (.aload_n 0, 1) := dk_42 (dk_at dksX3_kinetic_0 10 rfl rfl)
theorem dX3_kinetic_11 : decode cX3_kinetic 11 = .ok (.getfield 24, 3) := dk_180 0 24 (dk_at dksX3_kinetic_0 11 rfl rfl)
theorem dX3_kinetic_14 : decode cX3_kinetic 14 = .ok (.iload_n 3, 1) := dk_29 (dk_at dksX3_kinetic_0 14 rfl rfl)
theorem dX3_kinetic_15 : decode cX3_kinetic 15 = .ok (.laload, 1) := dk_47 (dk_at dksX3_kinetic_0 15 rfl rfl)
theorem dX3_kinetic_16 : decode cX3_kinetic 16 = .ok (.aload_n 0, 1) := dk_42 (dk_at dksX3_kinetic_0 16 rfl rfl)
theorem dX3_kinetic_17 : decode cX3_kinetic 17 = .ok (.getfield 24, 3) := dk_180 0 24 (dk_at dksX3_kinetic_0 17 rfl rfl)
theorem dX3_kinetic_20 : decode cX3_kinetic 20 = .ok (.iload_n 3, 1) := dk_29 (dk_at dksX3_kinetic_0 20 rfl rfl)
theorem dX3_kinetic_21 : decode cX3_kinetic 21 = .ok (.laload, 1) := dk_47 (dk_at dksX3_kinetic_0 21 rfl rfl)
theorem dX3_kinetic_22 : decode cX3_kinetic 22 = .ok (.lmul, 1) := dk_105 (dk_at dksX3_kinetic_0 22 rfl rfl)
theorem dX3_kinetic_23 : decode cX3_kinetic 23 = .ok (.aload_n 0, 1) := dk_42 (dk_at dksX3_kinetic_0 23 rfl rfl)
theorem dX3_kinetic_24 : decode cX3_kinetic 24 = .ok (.getfield 28, 3) := dk_180 0 28 (dk_at dksX3_kinetic_1 0 rfl rfl)
theorem dX3_kinetic_27 : decode cX3_kinetic 27 = .ok (.iload_n 3, 1) := dk_29 (dk_at dksX3_kinetic_1 3 rfl rfl)
theorem dX3_kinetic_28 : decode cX3_kinetic 28 = .ok (.laload, 1) := dk_47 (dk_at dksX3_kinetic_1 4 rfl rfl)
theorem dX3_kinetic_29 : decode cX3_kinetic 29 = .ok (.aload_n 0, 1) := dk_42 (dk_at dksX3_kinetic_1 5 rfl rfl)
theorem dX3_kinetic_30 : decode cX3_kinetic 30 = .ok (.getfield 28, 3) := dk_180 0 28 (dk_at dksX3_kinetic_1 6 rfl rfl)
theorem dX3_kinetic_33 : decode cX3_kinetic 33 = .ok (.iload_n 3, 1) := dk_29 (dk_at dksX3_kinetic_1 9 rfl rfl)
theorem dX3_kinetic_34 : decode cX3_kinetic 34 = .ok (.laload, 1) := dk_47 (dk_at dksX3_kinetic_1 10 rfl rfl)
theorem dX3_kinetic_35 : decode cX3_kinetic 35 = .ok (.lmul, 1) := dk_105 (dk_at dksX3_kinetic_1 11 rfl rfl)
theorem dX3_kinetic_36 : decode cX3_kinetic 36 = .ok (.ladd, 1) := dk_97 (dk_at dksX3_kinetic_1 12 rfl rfl)
theorem dX3_kinetic_37 : decode cX3_kinetic 37 = .ok (.ldc2_w 119, 3) := dk_20 0 119 (dk_at dksX3_kinetic_1 13 rfl rfl)
theorem dX3_kinetic_40 : decode cX3_kinetic 40 = .ok (.aload_n 0, 1) := dk_42 (dk_at dksX3_kinetic_1 16 rfl rfl)
theorem dX3_kinetic_41 : decode cX3_kinetic 41 = .ok (.getfield 15, 3) := dk_180 0 15 (dk_at dksX3_kinetic_1 17 rfl rfl)
theorem dX3_kinetic_44 : decode cX3_kinetic 44 = .ok (.iload_n 3, 1) := dk_29 (dk_at dksX3_kinetic_1 20 rfl rfl)
theorem dX3_kinetic_45 : decode cX3_kinetic 45 = .ok (.iaload, 1) := dk_46 (dk_at dksX3_kinetic_1 21 rfl rfl)
theorem dX3_kinetic_46 : decode cX3_kinetic 46 = .ok (.i2l, 1) := dk_133 (dk_at dksX3_kinetic_1 22 rfl rfl)
theorem dX3_kinetic_47 : decode cX3_kinetic 47 = .ok (.lmul, 1) := dk_105 (dk_at dksX3_kinetic_1 23 rfl rfl)
theorem dX3_kinetic_48 : decode cX3_kinetic 48 = .ok (.ldiv, 1) := dk_109 (dk_at dksX3_kinetic_2 0 rfl rfl)
theorem dX3_kinetic_49 : decode cX3_kinetic 49 = .ok (.ladd, 1) := dk_97 (dk_at dksX3_kinetic_2 1 rfl rfl)
theorem dX3_kinetic_50 : decode cX3_kinetic 50 = .ok (.lstore_n 1, 1) := dk_64 (dk_at dksX3_kinetic_2 2 rfl rfl)
theorem dX3_kinetic_51 : decode cX3_kinetic 51 = .ok (.iinc 3 1, 3) := dk_132 3 1 (dk_at dksX3_kinetic_2 3 rfl rfl)
theorem dX3_kinetic_54 : decode cX3_kinetic 54 = .ok (.goto (-50), 3) := dk_167 255 206 (dk_at dksX3_kinetic_2 6 rfl rfl)
theorem dX3_kinetic_57 : decode cX3_kinetic 57 = .ok (.lload_n 1, 1) := dk_31 (dk_at dksX3_kinetic_2 9 rfl rfl)
theorem dX3_kinetic_58 : decode cX3_kinetic 58 = .ok (.lreturn, 1) := dk_173 (dk_at dksX3_kinetic_2 10 rfl rfl)
abbrev cX3_potential : ByteArray := prog_3_method_15_code
def yX3_potential : MethodName := ⟨RX3, "potential", "()J"⟩
def dkwX3_potential_1 : List UInt8 := [132, 3, 1, 167, 255, 234, 31, 173]
abbrev dktX3_potential_1 : List UInt8 := dkwX3_potential_1 ++ []
def dkwX3_potential_0 : List UInt8 := [9, 64, 3, 62, 29, 6, 162, 0, 23, 31, 42, 29, 182, 0, 71, 42, 29, 182, 0, 67, 109, 101, 64]
abbrev dktX3_potential_0 : List UInt8 := dkwX3_potential_0 ++ dktX3_potential_1
theorem dksX3_potential_0 : cX3_potential.data.toList.drop 0 = dktX3_potential_0 := by decide +kernel
theorem dksX3_potential_1 : cX3_potential.data.toList.drop 23 = dktX3_potential_1 := dk_seg dksX3_potential_0 23 rfl rfl
theorem dX3_potential_0 : decode cX3_potential 0 = .ok (.lconst 0, 1) := dk_9 (dk_at dksX3_potential_0 0 rfl rfl)
theorem dX3_potential_1 : decode cX3_potential 1 = .ok (.lstore_n 1, 1) := dk_64 (dk_at dksX3_potential_0 1 rfl rfl)
theorem dX3_potential_2 : decode cX3_potential 2 = .ok (.iconst 0, 1) := dk_3 (dk_at dksX3_potential_0 2 rfl rfl)
theorem dX3_potential_3 : decode cX3_potential 3 = .ok (.istore_n 3, 1) := dk_62 (dk_at dksX3_potential_0 3 rfl rfl)
theorem dX3_potential_4 : decode cX3_potential 4 = .ok (.iload_n 3, 1) := dk_29 (dk_at dksX3_potential_0 4 rfl rfl)
theorem dX3_potential_5 : decode cX3_potential 5 = .ok (.iconst 3, 1) := dk_6 (dk_at dksX3_potential_0 5 rfl rfl)
theorem dX3_potential_6 : decode cX3_potential 6 = .ok (.if_icmp .ge 23, 3) := dk_162 0 23 (dk_at dksX3_potential_0 6 rfl rfl)
theorem dX3_potential_9 : decode cX3_potential 9 = .ok (.lload_n 1, 1) := dk_31 (dk_at dksX3_potential_0 9 rfl rfl)
theorem dX3_potential_10 : decode cX3_potential 10 = .ok (.aload_n 0, 1) := dk_42 (dk_at dksX3_potential_0 10 rfl rfl)
theorem dX3_potential_11 : decode cX3_potential 11 = .ok (.iload_n 3, 1) := dk_29 (dk_at dksX3_potential_0 11 rfl rfl)
theorem dX3_potential_12 : decode cX3_potential 12 = .ok (.invokevirtual 71, 3) := dk_182 0 71 (dk_at dksX3_potential_0 12 rfl rfl)
theorem dX3_potential_15 : decode cX3_potential 15 = .ok (.aload_n 0, 1) := dk_42 (dk_at dksX3_potential_0 15 rfl rfl)
theorem dX3_potential_16 : decode cX3_potential 16 = .ok (.iload_n 3, 1) := dk_29 (dk_at dksX3_potential_0 16 rfl rfl)
theorem dX3_potential_17 : decode cX3_potential 17 = .ok (.invokevirtual 67, 3) := dk_182 0 67 (dk_at dksX3_potential_0 17 rfl rfl)
theorem dX3_potential_20 : decode cX3_potential 20 = .ok (.ldiv, 1) := dk_109 (dk_at dksX3_potential_0 20 rfl rfl)
theorem dX3_potential_21 : decode cX3_potential 21 = .ok (.lsub, 1) := dk_101 (dk_at dksX3_potential_0 21 rfl rfl)
theorem dX3_potential_22 : decode cX3_potential 22 = .ok (.lstore_n 1, 1) := dk_64 (dk_at dksX3_potential_0 22 rfl rfl)
theorem dX3_potential_23 : decode cX3_potential 23 = .ok (.iinc 3 1, 3) := dk_132 3 1 (dk_at dksX3_potential_1 0 rfl rfl)
theorem dX3_potential_26 : decode cX3_potential 26 = .ok (.goto (-22), 3) := dk_167 255 234 (dk_at dksX3_potential_1 3 rfl rfl)
theorem dX3_potential_29 : decode cX3_potential 29 = .ok (.lload_n 1, 1) := dk_31 (dk_at dksX3_potential_1 6 rfl rfl)
theorem dX3_potential_30 : decode cX3_potential 30 = .ok (.lreturn, 1) := dk_173 (dk_at dksX3_potential_1 7 rfl rfl)
abbrev cX3_strength : ByteArray := prog_3_method_5_code
def yX3_strength : MethodName := ⟨RX3, "strength", "(I)J"⟩
def dkwX3_strength_1 : List UInt8 := [178, 0, 56, 27, 46, 46, 133, 105, 173]
abbrev dktX3_strength_1 : List UInt8 := dkwX3_strength_1 ++ []
def dkwX3_strength_0 : List UInt8 := [42, 180, 0, 9, 3, 46, 133, 42, 180, 0, 15, 178, 0, 53, 27, 46, 46, 133, 105, 42, 180, 0, 15]
abbrev dktX3_strength_0 : List UInt8 := dkwX3_strength_0 ++ dktX3_strength_1
theorem dksX3_strength_0 : cX3_strength.data.toList.drop 0 = dktX3_strength_0 := by decide +kernel
theorem dksX3_strength_1 : cX3_strength.data.toList.drop 23 = dktX3_strength_1 := dk_seg dksX3_strength_0 23 rfl rfl
theorem dX3_strength_0 : decode cX3_strength 0 = .ok (.aload_n 0, 1) := dk_42 (dk_at dksX3_strength_0 0 rfl rfl)
theorem dX3_strength_1 : decode cX3_strength 1 = .ok (.getfield 9, 3) := dk_180 0 9 (dk_at dksX3_strength_0 1 rfl rfl)
theorem dX3_strength_4 : decode cX3_strength 4 = .ok (.iconst 0, 1) := dk_3 (dk_at dksX3_strength_0 4 rfl rfl)
theorem dX3_strength_5 : decode cX3_strength 5 = .ok (.iaload, 1) := dk_46 (dk_at dksX3_strength_0 5 rfl rfl)
theorem dX3_strength_6 : decode cX3_strength 6 = .ok (.i2l, 1) := dk_133 (dk_at dksX3_strength_0 6 rfl rfl)
theorem dX3_strength_7 : decode cX3_strength 7 = .ok (.aload_n 0, 1) := dk_42 (dk_at dksX3_strength_0 7 rfl rfl)
theorem dX3_strength_8 : decode cX3_strength 8 = .ok (.getfield 15, 3) := dk_180 0 15 (dk_at dksX3_strength_0 8 rfl rfl)
theorem dX3_strength_11 : decode cX3_strength 11 = .ok (.getstatic 53, 3) := dk_178 0 53 (dk_at dksX3_strength_0 11 rfl rfl)
theorem dX3_strength_14 : decode cX3_strength 14 = .ok (.iload_n 1, 1) := dk_27 (dk_at dksX3_strength_0 14 rfl rfl)
theorem dX3_strength_15 : decode cX3_strength 15 = .ok (.iaload, 1) := dk_46 (dk_at dksX3_strength_0 15 rfl rfl)
theorem dX3_strength_16 : decode cX3_strength 16 = .ok (.iaload, 1) := dk_46 (dk_at dksX3_strength_0 16 rfl rfl)
theorem dX3_strength_17 : decode cX3_strength 17 = .ok (.i2l, 1) := dk_133 (dk_at dksX3_strength_0 17 rfl rfl)
theorem dX3_strength_18 : decode cX3_strength 18 = .ok (.lmul, 1) := dk_105 (dk_at dksX3_strength_0 18 rfl rfl)
theorem dX3_strength_19 : decode cX3_strength 19 = .ok (.aload_n 0, 1) := dk_42 (dk_at dksX3_strength_0 19 rfl rfl)
theorem dX3_strength_20 : decode cX3_strength 20 = .ok (.getfield 15, 3) := dk_180 0 15 (dk_at dksX3_strength_0 20 rfl rfl)
theorem dX3_strength_23 : decode cX3_strength 23 = .ok (.getstatic 56, 3) := dk_178 0 56 (dk_at dksX3_strength_1 0 rfl rfl)
theorem dX3_strength_26 : decode cX3_strength 26 = .ok (.iload_n 1, 1) := dk_27 (dk_at dksX3_strength_1 3 rfl rfl)
theorem dX3_strength_27 : decode cX3_strength 27 = .ok (.iaload, 1) := dk_46 (dk_at dksX3_strength_1 4 rfl rfl)
theorem dX3_strength_28 : decode cX3_strength 28 = .ok (.iaload, 1) := dk_46 (dk_at dksX3_strength_1 5 rfl rfl)
theorem dX3_strength_29 : decode cX3_strength 29 = .ok (.i2l, 1) := dk_133 (dk_at dksX3_strength_1 6 rfl rfl)
theorem dX3_strength_30 : decode cX3_strength 30 = .ok (.lmul, 1) := dk_105 (dk_at dksX3_strength_1 7 rfl rfl)
theorem dX3_strength_31 : decode cX3_strength 31 = .ok (.lreturn, 1) := dk_173 (dk_at dksX3_strength_1 8 rfl rfl)
abbrev cX3_reach : ByteArray := prog_3_method_4_code
def yX3_reach : MethodName := ⟨RX3, "reach", "(I)J"⟩
def dkwX3_reach_0 : List UInt8 := [42, 27, 182, 0, 63, 42, 180, 0, 9, 4, 46, 96, 133, 173]
abbrev dktX3_reach_0 : List UInt8 := dkwX3_reach_0 ++ []
theorem dksX3_reach_0 : cX3_reach.data.toList.drop 0 = dktX3_reach_0 := by decide +kernel
theorem dX3_reach_0 : decode cX3_reach 0 = .ok (.aload_n 0, 1) := dk_42 (dk_at dksX3_reach_0 0 rfl rfl)
theorem dX3_reach_1 : decode cX3_reach 1 = .ok (.iload_n 1, 1) := dk_27 (dk_at dksX3_reach_0 1 rfl rfl)
theorem dX3_reach_2 : decode cX3_reach 2 = .ok (.invokevirtual 63, 3) := dk_182 0 63 (dk_at dksX3_reach_0 2 rfl rfl)
theorem dX3_reach_5 : decode cX3_reach 5 = .ok (.aload_n 0, 1) := dk_42 (dk_at dksX3_reach_0 5 rfl rfl)
theorem dX3_reach_6 : decode cX3_reach 6 = .ok (.getfield 9, 3) := dk_180 0 9 (dk_at dksX3_reach_0 6 rfl rfl)
theorem dX3_reach_9 : decode cX3_reach 9 = .ok (.iconst 1, 1) := dk_4 (dk_at dksX3_reach_0 9 rfl rfl)
theorem dX3_reach_10 : decode cX3_reach 10 = .ok (.iaload, 1) := dk_46 (dk_at dksX3_reach_0 10 rfl rfl)
theorem dX3_reach_11 : decode cX3_reach 11 = .ok (.iadd, 1) := dk_96 (dk_at dksX3_reach_0 11 rfl rfl)
theorem dX3_reach_12 : decode cX3_reach 12 = .ok (.i2l, 1) := dk_133 (dk_at dksX3_reach_0 12 rfl rfl)
theorem dX3_reach_13 : decode cX3_reach 13 = .ok (.lreturn, 1) := dk_173 (dk_at dksX3_reach_0 13 rfl rfl)
abbrev cX3_distanceOf : ByteArray := prog_3_method_3_code
def yX3_distanceOf : MethodName := ⟨RX3, "distanceOf", "(I)I"⟩
def dkwX3_distanceOf_2 : List UInt8 := [172]
abbrev dktX3_distanceOf_2 : List UInt8 := dkwX3_distanceOf_2 ++ []
def dkwX3_distanceOf_1 : List UInt8 := [180, 0, 21, 178, 0, 53, 27, 46, 46, 42, 180, 0, 21, 178, 0, 56, 27, 46, 46, 100, 133, 184, 0, 59]
abbrev dktX3_distanceOf_1 : List UInt8 := dkwX3_distanceOf_1 ++ dktX3_distanceOf_2
def dkwX3_distanceOf_0 : List UInt8 := [42, 180, 0, 18, 178, 0, 53, 27, 46, 46, 42, 180, 0, 18, 178, 0, 56, 27, 46, 46, 100, 133, 42]
abbrev dktX3_distanceOf_0 : List UInt8 := dkwX3_distanceOf_0 ++ dktX3_distanceOf_1
theorem dksX3_distanceOf_0 : cX3_distanceOf.data.toList.drop 0 = dktX3_distanceOf_0 := by decide +kernel
theorem dksX3_distanceOf_1 : cX3_distanceOf.data.toList.drop 23 = dktX3_distanceOf_1 := dk_seg dksX3_distanceOf_0 23 rfl rfl
theorem dksX3_distanceOf_2 : cX3_distanceOf.data.toList.drop 47 = dktX3_distanceOf_2 := dk_seg dksX3_distanceOf_1 24 rfl rfl
theorem dX3_distanceOf_0 : decode cX3_distanceOf 0 = .ok (.aload_n 0, 1) := dk_42 (dk_at dksX3_distanceOf_0 0 rfl rfl)
theorem dX3_distanceOf_1 : decode cX3_distanceOf 1 = .ok (.getfield 18, 3) := dk_180 0 18 (dk_at dksX3_distanceOf_0 1 rfl rfl)
theorem dX3_distanceOf_4 : decode cX3_distanceOf 4 = .ok (.getstatic 53, 3) := dk_178 0 53 (dk_at dksX3_distanceOf_0 4 rfl rfl)
theorem dX3_distanceOf_7 : decode cX3_distanceOf 7 = .ok (.iload_n 1, 1) := dk_27 (dk_at dksX3_distanceOf_0 7 rfl rfl)
theorem dX3_distanceOf_8 : decode cX3_distanceOf 8 = .ok (.iaload, 1) := dk_46 (dk_at dksX3_distanceOf_0 8 rfl rfl)
theorem dX3_distanceOf_9 : decode cX3_distanceOf 9 = .ok (.iaload, 1) := dk_46 (dk_at dksX3_distanceOf_0 9 rfl rfl)
theorem dX3_distanceOf_10 : decode cX3_distanceOf 10 = .ok (.aload_n 0, 1) := dk_42 (dk_at dksX3_distanceOf_0 10 rfl rfl)
theorem dX3_distanceOf_11 : decode cX3_distanceOf 11 = .ok (.getfield 18, 3) := dk_180 0 18 (dk_at dksX3_distanceOf_0 11 rfl rfl)
theorem dX3_distanceOf_14 : decode cX3_distanceOf 14 = .ok (.getstatic 56, 3) := dk_178 0 56 (dk_at dksX3_distanceOf_0 14 rfl rfl)
theorem dX3_distanceOf_17 : decode cX3_distanceOf 17 = .ok (.iload_n 1, 1) := dk_27 (dk_at dksX3_distanceOf_0 17 rfl rfl)
theorem dX3_distanceOf_18 : decode cX3_distanceOf 18 = .ok (.iaload, 1) := dk_46 (dk_at dksX3_distanceOf_0 18 rfl rfl)
theorem dX3_distanceOf_19 : decode cX3_distanceOf 19 = .ok (.iaload, 1) := dk_46 (dk_at dksX3_distanceOf_0 19 rfl rfl)
theorem dX3_distanceOf_20 : decode cX3_distanceOf 20 = .ok (.isub, 1) := dk_100 (dk_at dksX3_distanceOf_0 20 rfl rfl)
theorem dX3_distanceOf_21 : decode cX3_distanceOf 21 = .ok (.i2l, 1) := dk_133 (dk_at dksX3_distanceOf_0 21 rfl rfl)
theorem dX3_distanceOf_22 : decode cX3_distanceOf 22 = .ok (.aload_n 0, 1) := dk_42 (dk_at dksX3_distanceOf_0 22 rfl rfl)
theorem dX3_distanceOf_23 : decode cX3_distanceOf 23 = .ok (.getfield 21, 3) := dk_180 0 21 (dk_at dksX3_distanceOf_1 0 rfl rfl)
theorem dX3_distanceOf_26 : decode cX3_distanceOf 26 = .ok (.getstatic 53, 3) := dk_178 0 53 (dk_at dksX3_distanceOf_1 3 rfl rfl)
theorem dX3_distanceOf_29 : decode cX3_distanceOf 29 = .ok (.iload_n 1, 1) := dk_27 (dk_at dksX3_distanceOf_1 6 rfl rfl)
theorem dX3_distanceOf_30 : decode cX3_distanceOf 30 = .ok (.iaload, 1) := dk_46 (dk_at dksX3_distanceOf_1 7 rfl rfl)
theorem dX3_distanceOf_31 : decode cX3_distanceOf 31 = .ok (.iaload, 1) := dk_46 (dk_at dksX3_distanceOf_1 8 rfl rfl)
theorem dX3_distanceOf_32 : decode cX3_distanceOf 32 = .ok (.aload_n 0, 1) := dk_42 (dk_at dksX3_distanceOf_1 9 rfl rfl)
theorem dX3_distanceOf_33 : decode cX3_distanceOf 33 = .ok (.getfield 21, 3) := dk_180 0 21 (dk_at dksX3_distanceOf_1 10 rfl rfl)
theorem dX3_distanceOf_36 : decode cX3_distanceOf 36 = .ok (.getstatic 56, 3) := dk_178 0 56 (dk_at dksX3_distanceOf_1 13 rfl rfl)
theorem dX3_distanceOf_39 : decode cX3_distanceOf 39 = .ok (.iload_n 1, 1) := dk_27 (dk_at dksX3_distanceOf_1 16 rfl rfl)
theorem dX3_distanceOf_40 : decode cX3_distanceOf 40 = .ok (.iaload, 1) := dk_46 (dk_at dksX3_distanceOf_1 17 rfl rfl)
theorem dX3_distanceOf_41 : decode cX3_distanceOf 41 = .ok (.iaload, 1) := dk_46 (dk_at dksX3_distanceOf_1 18 rfl rfl)
theorem dX3_distanceOf_42 : decode cX3_distanceOf 42 = .ok (.isub, 1) := dk_100 (dk_at dksX3_distanceOf_1 19 rfl rfl)
theorem dX3_distanceOf_43 : decode cX3_distanceOf 43 = .ok (.i2l, 1) := dk_133 (dk_at dksX3_distanceOf_1 20 rfl rfl)
theorem dX3_distanceOf_44 : decode cX3_distanceOf 44 = .ok (.invokestatic 59, 3) := dk_184 0 59 (dk_at dksX3_distanceOf_1 21 rfl rfl)
theorem dX3_distanceOf_47 : decode cX3_distanceOf 47 = .ok (.ireturn, 1) := dk_172 (dk_at dksX3_distanceOf_2 0 rfl rfl)
abbrev cX3_kick : ByteArray := prog_3_method_8_code
def yX3_kick : MethodName := ⟨RX3, "kick", "(II)V"⟩
def dkwX3_kick_5 : List UInt8 := [184, 0, 87, 42, 180, 0, 28, 29, 47, 20, 0, 85, 184, 0, 87, 132, 3, 1, 167, 255, 224, 177]
abbrev dktX3_kick_5 : List UInt8 := dkwX3_kick_5 ++ []
def dkwX3_kick_4 : List UInt8 := [132, 3, 1, 167, 255, 160, 3, 62, 29, 6, 162, 0, 33, 42, 180, 0, 24, 29, 47, 20, 0, 85]
abbrev dktX3_kick_4 : List UInt8 := dkwX3_kick_4 ++ dktX3_kick_5
def dkwX3_kick_3 : List UInt8 := [29, 46, 92, 47, 22, 4, 101, 80, 42, 180, 0, 28, 178, 0, 56, 29, 46, 92, 47, 22, 6, 101, 80]
abbrev dktX3_kick_3 : List UInt8 := dkwX3_kick_3 ++ dktX3_kick_4
def dkwX3_kick_2 : List UInt8 := [97, 80, 42, 180, 0, 28, 178, 0, 53, 29, 46, 92, 47, 22, 6, 97, 80, 42, 180, 0, 24, 178, 0, 56]
abbrev dktX3_kick_2 : List UInt8 := dkwX3_kick_2 ++ dktX3_kick_3
def dkwX3_kick_1 : List UInt8 := [29, 4, 182, 0, 81, 28, 133, 109, 105, 55, 6, 42, 180, 0, 24, 178, 0, 53, 29, 46, 92, 47, 22, 4]
abbrev dktX3_kick_1 : List UInt8 := dkwX3_kick_1 ++ dktX3_kick_2
def dkwX3_kick_0 : List UInt8 := [3, 62, 29, 6, 162, 0, 97, 27, 133, 42, 29, 3, 182, 0, 81, 28, 133, 109, 105, 55, 4, 27, 133, 42]
abbrev dktX3_kick_0 : List UInt8 := dkwX3_kick_0 ++ dktX3_kick_1
theorem dksX3_kick_0 : cX3_kick.data.toList.drop 0 = dktX3_kick_0 := by decide +kernel
theorem dksX3_kick_1 : cX3_kick.data.toList.drop 24 = dktX3_kick_1 := dk_seg dksX3_kick_0 24 rfl rfl
theorem dksX3_kick_2 : cX3_kick.data.toList.drop 48 = dktX3_kick_2 := dk_seg dksX3_kick_1 24 rfl rfl
theorem dksX3_kick_3 : cX3_kick.data.toList.drop 72 = dktX3_kick_3 := dk_seg dksX3_kick_2 24 rfl rfl
theorem dksX3_kick_4 : cX3_kick.data.toList.drop 95 = dktX3_kick_4 := dk_seg dksX3_kick_3 23 rfl rfl
theorem dksX3_kick_5 : cX3_kick.data.toList.drop 117 = dktX3_kick_5 := dk_seg dksX3_kick_4 22 rfl rfl
theorem dX3_kick_0 : decode cX3_kick 0 = .ok (.iconst 0, 1) := dk_3 (dk_at dksX3_kick_0 0 rfl rfl)
theorem dX3_kick_1 : decode cX3_kick 1 = .ok (.istore_n 3, 1) := dk_62 (dk_at dksX3_kick_0 1 rfl rfl)
theorem dX3_kick_2 : decode cX3_kick 2 = .ok (.iload_n 3, 1) := dk_29 (dk_at dksX3_kick_0 2 rfl rfl)
theorem dX3_kick_3 : decode cX3_kick 3 = .ok (.iconst 3, 1) := dk_6 (dk_at dksX3_kick_0 3 rfl rfl)
theorem dX3_kick_4 : decode cX3_kick 4 = .ok (.if_icmp .ge 97, 3) := dk_162 0 97 (dk_at dksX3_kick_0 4 rfl rfl)
theorem dX3_kick_7 : decode cX3_kick 7 = .ok (.iload_n 1, 1) := dk_27 (dk_at dksX3_kick_0 7 rfl rfl)
theorem dX3_kick_8 : decode cX3_kick 8 = .ok (.i2l, 1) := dk_133 (dk_at dksX3_kick_0 8 rfl rfl)
theorem dX3_kick_9 : decode cX3_kick 9 = .ok (.aload_n 0, 1) := dk_42 (dk_at dksX3_kick_0 9 rfl rfl)
theorem dX3_kick_10 : decode cX3_kick 10 = .ok (.iload_n 3, 1) := dk_29 (dk_at dksX3_kick_0 10 rfl rfl)
theorem dX3_kick_11 : decode cX3_kick 11 = .ok (.iconst 0, 1) := dk_3 (dk_at dksX3_kick_0 11 rfl rfl)
theorem dX3_kick_12 : decode cX3_kick 12 = .ok (.invokevirtual 81, 3) := dk_182 0 81 (dk_at dksX3_kick_0 12 rfl rfl)
theorem dX3_kick_15 : decode cX3_kick 15 = .ok (.iload_n 2, 1) := dk_28 (dk_at dksX3_kick_0 15 rfl rfl)
theorem dX3_kick_16 : decode cX3_kick 16 = .ok (.i2l, 1) := dk_133 (dk_at dksX3_kick_0 16 rfl rfl)
theorem dX3_kick_17 : decode cX3_kick 17 = .ok (.ldiv, 1) := dk_109 (dk_at dksX3_kick_0 17 rfl rfl)
theorem dX3_kick_18 : decode cX3_kick 18 = .ok (.lmul, 1) := dk_105 (dk_at dksX3_kick_0 18 rfl rfl)
theorem dX3_kick_19 : decode cX3_kick 19 = .ok (.lstore 4, 2) := dk_55 4 (dk_at dksX3_kick_0 19 rfl rfl)
theorem dX3_kick_21 : decode cX3_kick 21 = .ok (.iload_n 1, 1) := dk_27 (dk_at dksX3_kick_0 21 rfl rfl)
theorem dX3_kick_22 : decode cX3_kick 22 = .ok (.i2l, 1) := dk_133 (dk_at dksX3_kick_0 22 rfl rfl)
theorem dX3_kick_23 : decode cX3_kick 23 = .ok (.aload_n 0, 1) := dk_42 (dk_at dksX3_kick_0 23 rfl rfl)
theorem dX3_kick_24 : decode cX3_kick 24 = .ok (.iload_n 3, 1) := dk_29 (dk_at dksX3_kick_1 0 rfl rfl)
theorem dX3_kick_25 : decode cX3_kick 25 = .ok (.iconst 1, 1) := dk_4 (dk_at dksX3_kick_1 1 rfl rfl)
theorem dX3_kick_26 : decode cX3_kick 26 = .ok (.invokevirtual 81, 3) := dk_182 0 81 (dk_at dksX3_kick_1 2 rfl rfl)
theorem dX3_kick_29 : decode cX3_kick 29 = .ok (.iload_n 2, 1) := dk_28 (dk_at dksX3_kick_1 5 rfl rfl)
theorem dX3_kick_30 : decode cX3_kick 30 = .ok (.i2l, 1) := dk_133 (dk_at dksX3_kick_1 6 rfl rfl)
theorem dX3_kick_31 : decode cX3_kick 31 = .ok (.ldiv, 1) := dk_109 (dk_at dksX3_kick_1 7 rfl rfl)
theorem dX3_kick_32 : decode cX3_kick 32 = .ok (.lmul, 1) := dk_105 (dk_at dksX3_kick_1 8 rfl rfl)
theorem dX3_kick_33 : decode cX3_kick 33 = .ok (.lstore 6, 2) := dk_55 6 (dk_at dksX3_kick_1 9 rfl rfl)
theorem dX3_kick_35 : decode cX3_kick 35 = .ok (.aload_n 0, 1) := dk_42 (dk_at dksX3_kick_1 11 rfl rfl)
theorem dX3_kick_36 : decode cX3_kick 36 = .ok (.getfield 24, 3) := dk_180 0 24 (dk_at dksX3_kick_1 12 rfl rfl)
theorem dX3_kick_39 : decode cX3_kick 39 = .ok (.getstatic 53, 3) := dk_178 0 53 (dk_at dksX3_kick_1 15 rfl rfl)
theorem dX3_kick_42 : decode cX3_kick 42 = .ok (.iload_n 3, 1) := dk_29 (dk_at dksX3_kick_1 18 rfl rfl)
theorem dX3_kick_43 : decode cX3_kick 43 = .ok (.iaload, 1) := dk_46 (dk_at dksX3_kick_1 19 rfl rfl)
theorem dX3_kick_44 : decode cX3_kick 44 = .ok (.dup2, 1) := dk_92 (dk_at dksX3_kick_1 20 rfl rfl)
theorem dX3_kick_45 : decode cX3_kick 45 = .ok (.laload, 1) := dk_47 (dk_at dksX3_kick_1 21 rfl rfl)
theorem dX3_kick_46 : decode cX3_kick 46 = .ok (.lload 4, 2) := dk_22 4 (dk_at dksX3_kick_1 22 rfl rfl)
theorem dX3_kick_48 : decode cX3_kick 48 = .ok (.ladd, 1) := dk_97 (dk_at dksX3_kick_2 0 rfl rfl)
theorem dX3_kick_49 : decode cX3_kick 49 = .ok (.lastore, 1) := dk_80 (dk_at dksX3_kick_2 1 rfl rfl)
theorem dX3_kick_50 : decode cX3_kick 50 = .ok (.aload_n 0, 1) := dk_42 (dk_at dksX3_kick_2 2 rfl rfl)
theorem dX3_kick_51 : decode cX3_kick 51 = .ok (.getfield 28, 3) := dk_180 0 28 (dk_at dksX3_kick_2 3 rfl rfl)
theorem dX3_kick_54 : decode cX3_kick 54 = .ok (.getstatic 53, 3) := dk_178 0 53 (dk_at dksX3_kick_2 6 rfl rfl)
theorem dX3_kick_57 : decode cX3_kick 57 = .ok (.iload_n 3, 1) := dk_29 (dk_at dksX3_kick_2 9 rfl rfl)
theorem dX3_kick_58 : decode cX3_kick 58 = .ok (.iaload, 1) := dk_46 (dk_at dksX3_kick_2 10 rfl rfl)
theorem dX3_kick_59 : decode cX3_kick 59 = .ok (.dup2, 1) := dk_92 (dk_at dksX3_kick_2 11 rfl rfl)
theorem dX3_kick_60 : decode cX3_kick 60 = .ok (.laload, 1) := dk_47 (dk_at dksX3_kick_2 12 rfl rfl)
theorem dX3_kick_61 : decode cX3_kick 61 = .ok (.lload 6, 2) := dk_22 6 (dk_at dksX3_kick_2 13 rfl rfl)
theorem dX3_kick_63 : decode cX3_kick 63 = .ok (.ladd, 1) := dk_97 (dk_at dksX3_kick_2 15 rfl rfl)
theorem dX3_kick_64 : decode cX3_kick 64 = .ok (.lastore, 1) := dk_80 (dk_at dksX3_kick_2 16 rfl rfl)
theorem dX3_kick_65 : decode cX3_kick 65 = .ok (.aload_n 0, 1) := dk_42 (dk_at dksX3_kick_2 17 rfl rfl)
theorem dX3_kick_66 : decode cX3_kick 66 = .ok (.getfield 24, 3) := dk_180 0 24 (dk_at dksX3_kick_2 18 rfl rfl)
theorem dX3_kick_69 : decode cX3_kick 69 = .ok (.getstatic 56, 3) := dk_178 0 56 (dk_at dksX3_kick_2 21 rfl rfl)
theorem dX3_kick_72 : decode cX3_kick 72 = .ok (.iload_n 3, 1) := dk_29 (dk_at dksX3_kick_3 0 rfl rfl)
theorem dX3_kick_73 : decode cX3_kick 73 = .ok (.iaload, 1) := dk_46 (dk_at dksX3_kick_3 1 rfl rfl)
theorem dX3_kick_74 : decode cX3_kick 74 = .ok (.dup2, 1) := dk_92 (dk_at dksX3_kick_3 2 rfl rfl)
theorem dX3_kick_75 : decode cX3_kick 75 = .ok (.laload, 1) := dk_47 (dk_at dksX3_kick_3 3 rfl rfl)
theorem dX3_kick_76 : decode cX3_kick 76 = .ok (.lload 4, 2) := dk_22 4 (dk_at dksX3_kick_3 4 rfl rfl)
theorem dX3_kick_78 : decode cX3_kick 78 = .ok (.lsub, 1) := dk_101 (dk_at dksX3_kick_3 6 rfl rfl)
theorem dX3_kick_79 : decode cX3_kick 79 = .ok (.lastore, 1) := dk_80 (dk_at dksX3_kick_3 7 rfl rfl)
theorem dX3_kick_80 : decode cX3_kick 80 = .ok (.aload_n 0, 1) := dk_42 (dk_at dksX3_kick_3 8 rfl rfl)
theorem dX3_kick_81 : decode cX3_kick 81 = .ok (.getfield 28, 3) := dk_180 0 28 (dk_at dksX3_kick_3 9 rfl rfl)
theorem dX3_kick_84 : decode cX3_kick 84 = .ok (.getstatic 56, 3) := dk_178 0 56 (dk_at dksX3_kick_3 12 rfl rfl)
theorem dX3_kick_87 : decode cX3_kick 87 = .ok (.iload_n 3, 1) := dk_29 (dk_at dksX3_kick_3 15 rfl rfl)
theorem dX3_kick_88 : decode cX3_kick 88 = .ok (.iaload, 1) := dk_46 (dk_at dksX3_kick_3 16 rfl rfl)
theorem dX3_kick_89 : decode cX3_kick 89 = .ok (.dup2, 1) := dk_92 (dk_at dksX3_kick_3 17 rfl rfl)
theorem dX3_kick_90 : decode cX3_kick 90 = .ok (.laload, 1) := dk_47 (dk_at dksX3_kick_3 18 rfl rfl)
theorem dX3_kick_91 : decode cX3_kick 91 = .ok (.lload 6, 2) := dk_22 6 (dk_at dksX3_kick_3 19 rfl rfl)
theorem dX3_kick_93 : decode cX3_kick 93 = .ok (.lsub, 1) := dk_101 (dk_at dksX3_kick_3 21 rfl rfl)
theorem dX3_kick_94 : decode cX3_kick 94 = .ok (.lastore, 1) := dk_80 (dk_at dksX3_kick_3 22 rfl rfl)
theorem dX3_kick_95 : decode cX3_kick 95 = .ok (.iinc 3 1, 3) := dk_132 3 1 (dk_at dksX3_kick_4 0 rfl rfl)
theorem dX3_kick_98 : decode cX3_kick 98 = .ok (.goto (-96), 3) := dk_167 255 160 (dk_at dksX3_kick_4 3 rfl rfl)
theorem dX3_kick_101 : decode cX3_kick 101 = .ok (.iconst 0, 1) := dk_3 (dk_at dksX3_kick_4 6 rfl rfl)
theorem dX3_kick_102 : decode cX3_kick 102 = .ok (.istore_n 3, 1) := dk_62 (dk_at dksX3_kick_4 7 rfl rfl)
theorem dX3_kick_103 : decode cX3_kick 103 = .ok (.iload_n 3, 1) := dk_29 (dk_at dksX3_kick_4 8 rfl rfl)
theorem dX3_kick_104 : decode cX3_kick 104 = .ok (.iconst 3, 1) := dk_6 (dk_at dksX3_kick_4 9 rfl rfl)
theorem dX3_kick_105 : decode cX3_kick 105 = .ok (.if_icmp .ge 33, 3) := dk_162 0 33 (dk_at dksX3_kick_4 10 rfl rfl)
theorem dX3_kick_108 : decode cX3_kick 108 = .ok (.aload_n 0, 1) := dk_42 (dk_at dksX3_kick_4 13 rfl rfl)
theorem dX3_kick_109 : decode cX3_kick 109 = .ok (.getfield 24, 3) := dk_180 0 24 (dk_at dksX3_kick_4 14 rfl rfl)
theorem dX3_kick_112 : decode cX3_kick 112 = .ok (.iload_n 3, 1) := dk_29 (dk_at dksX3_kick_4 17 rfl rfl)
theorem dX3_kick_113 : decode cX3_kick 113 = .ok (.laload, 1) := dk_47 (dk_at dksX3_kick_4 18 rfl rfl)
theorem dX3_kick_114 : decode cX3_kick 114 = .ok (.ldc2_w 85, 3) := dk_20 0 85 (dk_at dksX3_kick_4 19 rfl rfl)
theorem dX3_kick_117 : decode cX3_kick 117 = .ok (.invokestatic 87, 3) := dk_184 0 87 (dk_at dksX3_kick_5 0 rfl rfl)
theorem dX3_kick_120 : decode cX3_kick 120 = .ok (.aload_n 0, 1) := dk_42 (dk_at dksX3_kick_5 3 rfl rfl)
theorem dX3_kick_121 : decode cX3_kick 121 = .ok (.getfield 28, 3) := dk_180 0 28 (dk_at dksX3_kick_5 4 rfl rfl)
theorem dX3_kick_124 : decode cX3_kick 124 = .ok (.iload_n 3, 1) := dk_29 (dk_at dksX3_kick_5 7 rfl rfl)
theorem dX3_kick_125 : decode cX3_kick 125 = .ok (.laload, 1) := dk_47 (dk_at dksX3_kick_5 8 rfl rfl)
theorem dX3_kick_126 : decode cX3_kick 126 = .ok (.ldc2_w 85, 3) := dk_20 0 85 (dk_at dksX3_kick_5 9 rfl rfl)
theorem dX3_kick_129 : decode cX3_kick 129 = .ok (.invokestatic 87, 3) := dk_184 0 87 (dk_at dksX3_kick_5 12 rfl rfl)
theorem dX3_kick_132 : decode cX3_kick 132 = .ok (.iinc 3 1, 3) := dk_132 3 1 (dk_at dksX3_kick_5 15 rfl rfl)
theorem dX3_kick_135 : decode cX3_kick 135 = .ok (.goto (-32), 3) := dk_167 255 224 (dk_at dksX3_kick_5 18 rfl rfl)
theorem dX3_kick_138 : decode cX3_kick 138 = .ok (.return_, 1) := dk_177 (dk_at dksX3_kick_5 21 rfl rfl)
abbrev cX3_impulse : ByteArray := prog_3_method_6_code
def yX3_impulse : MethodName := ⟨RX3, "impulse", "(II)J"⟩
def dkwX3_impulse_2 : List UInt8 := [22, 4, 105, 22, 4, 105, 109, 173]
abbrev dktX3_impulse_2 : List UInt8 := dkwX3_impulse_2 ++ []
def dkwX3_impulse_1 : List UInt8 := [27, 182, 0, 71, 45, 178, 0, 56, 27, 46, 46, 45, 178, 0, 53, 27, 46, 46, 100, 133, 105, 22, 4]
abbrev dktX3_impulse_1 : List UInt8 := dkwX3_impulse_1 ++ dktX3_impulse_2
def dkwX3_impulse_0 : List UInt8 := [28, 154, 0, 10, 42, 180, 0, 18, 167, 0, 7, 42, 180, 0, 21, 78, 42, 27, 182, 0, 67, 55, 4, 42]
abbrev dktX3_impulse_0 : List UInt8 := dkwX3_impulse_0 ++ dktX3_impulse_1
theorem dksX3_impulse_0 : cX3_impulse.data.toList.drop 0 = dktX3_impulse_0 := by decide +kernel
theorem dksX3_impulse_1 : cX3_impulse.data.toList.drop 24 = dktX3_impulse_1 := dk_seg dksX3_impulse_0 24 rfl rfl
theorem dksX3_impulse_2 : cX3_impulse.data.toList.drop 47 = dktX3_impulse_2 := dk_seg dksX3_impulse_1 23 rfl rfl
theorem dX3_impulse_0 : decode cX3_impulse 0 = .ok (.iload_n 2, 1) := dk_28 (dk_at dksX3_impulse_0 0 rfl rfl)
theorem dX3_impulse_1 : decode cX3_impulse 1 = .ok (.ifCond .ne 10, 3) := dk_154 0 10 (dk_at dksX3_impulse_0 1 rfl rfl)
theorem dX3_impulse_4 : decode cX3_impulse 4 = .ok (.aload_n 0, 1) := dk_42 (dk_at dksX3_impulse_0 4 rfl rfl)
theorem dX3_impulse_5 : decode cX3_impulse 5 = .ok (.getfield 18, 3) := dk_180 0 18 (dk_at dksX3_impulse_0 5 rfl rfl)
theorem dX3_impulse_8 : decode cX3_impulse 8 = .ok (.goto 7, 3) := dk_167 0 7 (dk_at dksX3_impulse_0 8 rfl rfl)
theorem dX3_impulse_11 : decode cX3_impulse 11 = .ok (.aload_n 0, 1) := dk_42 (dk_at dksX3_impulse_0 11 rfl rfl)
theorem dX3_impulse_12 : decode cX3_impulse 12 = .ok (.getfield 21, 3) := dk_180 0 21 (dk_at dksX3_impulse_0 12 rfl rfl)
theorem dX3_impulse_15 : decode cX3_impulse 15 = .ok (.astore_n 3, 1) := dk_78 (dk_at dksX3_impulse_0 15 rfl rfl)
theorem dX3_impulse_16 : decode cX3_impulse 16 = .ok (.aload_n 0, 1) := dk_42 (dk_at dksX3_impulse_0 16 rfl rfl)
theorem dX3_impulse_17 : decode cX3_impulse 17 = .ok (.iload_n 1, 1) := dk_27 (dk_at dksX3_impulse_0 17 rfl rfl)
theorem dX3_impulse_18 : decode cX3_impulse 18 = .ok (.invokevirtual 67, 3) := dk_182 0 67 (dk_at dksX3_impulse_0 18 rfl rfl)
theorem dX3_impulse_21 : decode cX3_impulse 21 = .ok (.lstore 4, 2) := dk_55 4 (dk_at dksX3_impulse_0 21 rfl rfl)
theorem dX3_impulse_23 : decode cX3_impulse 23 = .ok (.aload_n 0, 1) := dk_42 (dk_at dksX3_impulse_0 23 rfl rfl)
theorem dX3_impulse_24 : decode cX3_impulse 24 = .ok (.iload_n 1, 1) := dk_27 (dk_at dksX3_impulse_1 0 rfl rfl)
theorem dX3_impulse_25 : decode cX3_impulse 25 = .ok (.invokevirtual 71, 3) := dk_182 0 71 (dk_at dksX3_impulse_1 1 rfl rfl)
theorem dX3_impulse_28 : decode cX3_impulse 28 = .ok (.aload_n 3, 1) := dk_45 (dk_at dksX3_impulse_1 4 rfl rfl)
theorem dX3_impulse_29 : decode cX3_impulse 29 = .ok (.getstatic 56, 3) := dk_178 0 56 (dk_at dksX3_impulse_1 5 rfl rfl)
theorem dX3_impulse_32 : decode cX3_impulse 32 = .ok (.iload_n 1, 1) := dk_27 (dk_at dksX3_impulse_1 8 rfl rfl)
theorem dX3_impulse_33 : decode cX3_impulse 33 = .ok (.iaload, 1) := dk_46 (dk_at dksX3_impulse_1 9 rfl rfl)
theorem dX3_impulse_34 : decode cX3_impulse 34 = .ok (.iaload, 1) := dk_46 (dk_at dksX3_impulse_1 10 rfl rfl)
theorem dX3_impulse_35 : decode cX3_impulse 35 = .ok (.aload_n 3, 1) := dk_45 (dk_at dksX3_impulse_1 11 rfl rfl)
theorem dX3_impulse_36 : decode cX3_impulse 36 = .ok (.getstatic 53, 3) := dk_178 0 53 (dk_at dksX3_impulse_1 12 rfl rfl)
theorem dX3_impulse_39 : decode cX3_impulse 39 = .ok (.iload_n 1, 1) := dk_27 (dk_at dksX3_impulse_1 15 rfl rfl)
theorem dX3_impulse_40 : decode cX3_impulse 40 = .ok (.iaload, 1) := dk_46 (dk_at dksX3_impulse_1 16 rfl rfl)
theorem dX3_impulse_41 : decode cX3_impulse 41 = .ok (.iaload, 1) := dk_46 (dk_at dksX3_impulse_1 17 rfl rfl)
theorem dX3_impulse_42 : decode cX3_impulse 42 = .ok (.isub, 1) := dk_100 (dk_at dksX3_impulse_1 18 rfl rfl)
theorem dX3_impulse_43 : decode cX3_impulse 43 = .ok (.i2l, 1) := dk_133 (dk_at dksX3_impulse_1 19 rfl rfl)
theorem dX3_impulse_44 : decode cX3_impulse 44 = .ok (.lmul, 1) := dk_105 (dk_at dksX3_impulse_1 20 rfl rfl)
theorem dX3_impulse_45 : decode cX3_impulse 45 = .ok (.lload 4, 2) := dk_22 4 (dk_at dksX3_impulse_1 21 rfl rfl)
theorem dX3_impulse_47 : decode cX3_impulse 47 = .ok (.lload 4, 2) := dk_22 4 (dk_at dksX3_impulse_2 0 rfl rfl)
theorem dX3_impulse_49 : decode cX3_impulse 49 = .ok (.lmul, 1) := dk_105 (dk_at dksX3_impulse_2 2 rfl rfl)
theorem dX3_impulse_50 : decode cX3_impulse 50 = .ok (.lload 4, 2) := dk_22 4 (dk_at dksX3_impulse_2 3 rfl rfl)
theorem dX3_impulse_52 : decode cX3_impulse 52 = .ok (.lmul, 1) := dk_105 (dk_at dksX3_impulse_2 5 rfl rfl)
theorem dX3_impulse_53 : decode cX3_impulse 53 = .ok (.ldiv, 1) := dk_109 (dk_at dksX3_impulse_2 6 rfl rfl)
theorem dX3_impulse_54 : decode cX3_impulse 54 = .ok (.lreturn, 1) := dk_173 (dk_at dksX3_impulse_2 7 rfl rfl)
abbrev cX3_check : ByteArray := prog_3_method_7_code
def yX3_check : MethodName := ⟨RX3, "check", "(JJ)V"⟩
def dkwX3_check_0 : List UInt8 := [30, 32, 117, 32, 184, 0, 74, 154, 0, 11, 187, 0, 78, 89, 183, 0, 80, 191, 177]
abbrev dktX3_check_0 : List UInt8 := dkwX3_check_0 ++ []
theorem dksX3_check_0 : cX3_check.data.toList.drop 0 = dktX3_check_0 := by decide +kernel
theorem dX3_check_0 : decode cX3_check 0 = .ok (.lload_n 0, 1) := dk_30 (dk_at dksX3_check_0 0 rfl rfl)
theorem dX3_check_1 : decode cX3_check 1 = .ok (.lload_n 2, 1) := dk_32 (dk_at dksX3_check_0 1 rfl rfl)
theorem dX3_check_2 : decode cX3_check 2 = .ok (.lneg, 1) := dk_117 (dk_at dksX3_check_0 2 rfl rfl)
theorem dX3_check_3 : decode cX3_check 3 = .ok (.lload_n 2, 1) := dk_32 (dk_at dksX3_check_0 3 rfl rfl)
theorem dX3_check_4 : decode cX3_check 4 = .ok (.invokestatic 74, 3) := dk_184 0 74 (dk_at dksX3_check_0 4 rfl rfl)
theorem dX3_check_7 : decode cX3_check 7 = .ok (.ifCond .ne 11, 3) := dk_154 0 11 (dk_at dksX3_check_0 7 rfl rfl)
theorem dX3_check_10 : decode cX3_check 10 = .ok (.new 78, 3) := dk_187 0 78 (dk_at dksX3_check_0 10 rfl rfl)
theorem dX3_check_13 : decode cX3_check 13 = .ok (.dup, 1) := dk_89 (dk_at dksX3_check_0 13 rfl rfl)
theorem dX3_check_14 : decode cX3_check 14 = .ok (.invokespecial 80, 3) := dk_183 0 80 (dk_at dksX3_check_0 14 rfl rfl)
theorem dX3_check_17 : decode cX3_check 17 = .ok (.athrow, 1) := dk_191 (dk_at dksX3_check_0 17 rfl rfl)
theorem dX3_check_18 : decode cX3_check 18 = .ok (.return_, 1) := dk_177 (dk_at dksX3_check_0 18 rfl rfl)
abbrev cX3_drift : ByteArray := prog_3_method_10_code
def yX3_drift : MethodName := ⟨RX3, "drift", "(II)V"⟩
def dkwX3_drift_3 : List UInt8 := [167, 255, 186, 177]
abbrev dktX3_drift_3 : List UInt8 := dkwX3_drift_3 ++ []
def dkwX3_drift_2 : List UInt8 := [29, 46, 42, 180, 0, 28, 29, 47, 28, 42, 180, 0, 15, 29, 46, 104, 27, 182, 0, 99, 79, 132, 3, 1]
abbrev dktX3_drift_2 : List UInt8 := dkwX3_drift_2 ++ dktX3_drift_3
def dkwX3_drift_1 : List UInt8 := [47, 28, 42, 180, 0, 15, 29, 46, 104, 27, 182, 0, 99, 79, 42, 180, 0, 21, 29, 42, 42, 180, 0, 21]
abbrev dktX3_drift_1 : List UInt8 := dkwX3_drift_1 ++ dktX3_drift_2
def dkwX3_drift_0 : List UInt8 := [3, 62, 29, 6, 162, 0, 71, 42, 180, 0, 18, 29, 42, 42, 180, 0, 18, 29, 46, 42, 180, 0, 24, 29]
abbrev dktX3_drift_0 : List UInt8 := dkwX3_drift_0 ++ dktX3_drift_1
theorem dksX3_drift_0 : cX3_drift.data.toList.drop 0 = dktX3_drift_0 := by decide +kernel
theorem dksX3_drift_1 : cX3_drift.data.toList.drop 24 = dktX3_drift_1 := dk_seg dksX3_drift_0 24 rfl rfl
theorem dksX3_drift_2 : cX3_drift.data.toList.drop 48 = dktX3_drift_2 := dk_seg dksX3_drift_1 24 rfl rfl
theorem dksX3_drift_3 : cX3_drift.data.toList.drop 72 = dktX3_drift_3 := dk_seg dksX3_drift_2 24 rfl rfl
theorem dX3_drift_0 : decode cX3_drift 0 = .ok (.iconst 0, 1) := dk_3 (dk_at dksX3_drift_0 0 rfl rfl)
theorem dX3_drift_1 : decode cX3_drift 1 = .ok (.istore_n 3, 1) := dk_62 (dk_at dksX3_drift_0 1 rfl rfl)
theorem dX3_drift_2 : decode cX3_drift 2 = .ok (.iload_n 3, 1) := dk_29 (dk_at dksX3_drift_0 2 rfl rfl)
theorem dX3_drift_3 : decode cX3_drift 3 = .ok (.iconst 3, 1) := dk_6 (dk_at dksX3_drift_0 3 rfl rfl)
theorem dX3_drift_4 : decode cX3_drift 4 = .ok (.if_icmp .ge 71, 3) := dk_162 0 71 (dk_at dksX3_drift_0 4 rfl rfl)
theorem dX3_drift_7 : decode cX3_drift 7 = .ok (.aload_n 0, 1) := dk_42 (dk_at dksX3_drift_0 7 rfl rfl)
theorem dX3_drift_8 : decode cX3_drift 8 = .ok (.getfield 18, 3) := dk_180 0 18 (dk_at dksX3_drift_0 8 rfl rfl)
theorem dX3_drift_11 : decode cX3_drift 11 = .ok (.iload_n 3, 1) := dk_29 (dk_at dksX3_drift_0 11 rfl rfl)
theorem dX3_drift_12 : decode cX3_drift 12 = .ok (.aload_n 0, 1) := dk_42 (dk_at dksX3_drift_0 12 rfl rfl)
theorem dX3_drift_13 : decode cX3_drift 13 = .ok (.aload_n 0, 1) := dk_42 (dk_at dksX3_drift_0 13 rfl rfl)
theorem dX3_drift_14 : decode cX3_drift 14 = .ok (.getfield 18, 3) := dk_180 0 18 (dk_at dksX3_drift_0 14 rfl rfl)
theorem dX3_drift_17 : decode cX3_drift 17 = .ok (.iload_n 3, 1) := dk_29 (dk_at dksX3_drift_0 17 rfl rfl)
theorem dX3_drift_18 : decode cX3_drift 18 = .ok (.iaload, 1) := dk_46 (dk_at dksX3_drift_0 18 rfl rfl)
theorem dX3_drift_19 : decode cX3_drift 19 = .ok (.aload_n 0, 1) := dk_42 (dk_at dksX3_drift_0 19 rfl rfl)
theorem dX3_drift_20 : decode cX3_drift 20 = .ok (.getfield 24, 3) := dk_180 0 24 (dk_at dksX3_drift_0 20 rfl rfl)
theorem dX3_drift_23 : decode cX3_drift 23 = .ok (.iload_n 3, 1) := dk_29 (dk_at dksX3_drift_0 23 rfl rfl)
theorem dX3_drift_24 : decode cX3_drift 24 = .ok (.laload, 1) := dk_47 (dk_at dksX3_drift_1 0 rfl rfl)
theorem dX3_drift_25 : decode cX3_drift 25 = .ok (.iload_n 2, 1) := dk_28 (dk_at dksX3_drift_1 1 rfl rfl)
theorem dX3_drift_26 : decode cX3_drift 26 = .ok (.aload_n 0, 1) := dk_42 (dk_at dksX3_drift_1 2 rfl rfl)
theorem dX3_drift_27 : decode cX3_drift 27 = .ok (.getfield 15, 3) := dk_180 0 15 (dk_at dksX3_drift_1 3 rfl rfl)
theorem dX3_drift_30 : decode cX3_drift 30 = .ok (.iload_n 3, 1) := dk_29 (dk_at dksX3_drift_1 6 rfl rfl)
theorem dX3_drift_31 : decode cX3_drift 31 = .ok (.iaload, 1) := dk_46 (dk_at dksX3_drift_1 7 rfl rfl)
theorem dX3_drift_32 : decode cX3_drift 32 = .ok (.imul, 1) := dk_104 (dk_at dksX3_drift_1 8 rfl rfl)
theorem dX3_drift_33 : decode cX3_drift 33 = .ok (.iload_n 1, 1) := dk_27 (dk_at dksX3_drift_1 9 rfl rfl)
theorem dX3_drift_34 : decode cX3_drift 34 = .ok (.invokevirtual 99, 3) := dk_182 0 99 (dk_at dksX3_drift_1 10 rfl rfl)
theorem dX3_drift_37 : decode cX3_drift 37 = .ok (.iastore, 1) := dk_79 (dk_at dksX3_drift_1 13 rfl rfl)
theorem dX3_drift_38 : decode cX3_drift 38 = .ok (.aload_n 0, 1) := dk_42 (dk_at dksX3_drift_1 14 rfl rfl)
theorem dX3_drift_39 : decode cX3_drift 39 = .ok (.getfield 21, 3) := dk_180 0 21 (dk_at dksX3_drift_1 15 rfl rfl)
theorem dX3_drift_42 : decode cX3_drift 42 = .ok (.iload_n 3, 1) := dk_29 (dk_at dksX3_drift_1 18 rfl rfl)
theorem dX3_drift_43 : decode cX3_drift 43 = .ok (.aload_n 0, 1) := dk_42 (dk_at dksX3_drift_1 19 rfl rfl)
theorem dX3_drift_44 : decode cX3_drift 44 = .ok (.aload_n 0, 1) := dk_42 (dk_at dksX3_drift_1 20 rfl rfl)
theorem dX3_drift_45 : decode cX3_drift 45 = .ok (.getfield 21, 3) := dk_180 0 21 (dk_at dksX3_drift_1 21 rfl rfl)
theorem dX3_drift_48 : decode cX3_drift 48 = .ok (.iload_n 3, 1) := dk_29 (dk_at dksX3_drift_2 0 rfl rfl)
theorem dX3_drift_49 : decode cX3_drift 49 = .ok (.iaload, 1) := dk_46 (dk_at dksX3_drift_2 1 rfl rfl)
theorem dX3_drift_50 : decode cX3_drift 50 = .ok (.aload_n 0, 1) := dk_42 (dk_at dksX3_drift_2 2 rfl rfl)
theorem dX3_drift_51 : decode cX3_drift 51 = .ok (.getfield 28, 3) := dk_180 0 28 (dk_at dksX3_drift_2 3 rfl rfl)
theorem dX3_drift_54 : decode cX3_drift 54 = .ok (.iload_n 3, 1) := dk_29 (dk_at dksX3_drift_2 6 rfl rfl)
theorem dX3_drift_55 : decode cX3_drift 55 = .ok (.laload, 1) := dk_47 (dk_at dksX3_drift_2 7 rfl rfl)
theorem dX3_drift_56 : decode cX3_drift 56 = .ok (.iload_n 2, 1) := dk_28 (dk_at dksX3_drift_2 8 rfl rfl)
theorem dX3_drift_57 : decode cX3_drift 57 = .ok (.aload_n 0, 1) := dk_42 (dk_at dksX3_drift_2 9 rfl rfl)
theorem dX3_drift_58 : decode cX3_drift 58 = .ok (.getfield 15, 3) := dk_180 0 15 (dk_at dksX3_drift_2 10 rfl rfl)
theorem dX3_drift_61 : decode cX3_drift 61 = .ok (.iload_n 3, 1) := dk_29 (dk_at dksX3_drift_2 13 rfl rfl)
theorem dX3_drift_62 : decode cX3_drift 62 = .ok (.iaload, 1) := dk_46 (dk_at dksX3_drift_2 14 rfl rfl)
theorem dX3_drift_63 : decode cX3_drift 63 = .ok (.imul, 1) := dk_104 (dk_at dksX3_drift_2 15 rfl rfl)
theorem dX3_drift_64 : decode cX3_drift 64 = .ok (.iload_n 1, 1) := dk_27 (dk_at dksX3_drift_2 16 rfl rfl)
theorem dX3_drift_65 : decode cX3_drift 65 = .ok (.invokevirtual 99, 3) := dk_182 0 99 (dk_at dksX3_drift_2 17 rfl rfl)
theorem dX3_drift_68 : decode cX3_drift 68 = .ok (.iastore, 1) := dk_79 (dk_at dksX3_drift_2 20 rfl rfl)
theorem dX3_drift_69 : decode cX3_drift 69 = .ok (.iinc 3 1, 3) := dk_132 3 1 (dk_at dksX3_drift_2 21 rfl rfl)
theorem dX3_drift_72 : decode cX3_drift 72 = .ok (.goto (-70), 3) := dk_167 255 186 (dk_at dksX3_drift_3 0 rfl rfl)
theorem dX3_drift_75 : decode cX3_drift 75 = .ok (.return_, 1) := dk_177 (dk_at dksX3_drift_3 3 rfl rfl)
abbrev cX3_moved : ByteArray := prog_3_method_9_code
def yX3_moved : MethodName := ⟨RX3, "moved", "(IJII)I"⟩
def dkwX3_moved_1 : List UInt8 := [22, 6, 20, 0, 97, 184, 0, 87, 22, 6, 136, 172]
abbrev dktX3_moved_1 : List UInt8 := dkwX3_moved_1 ++ []
def dkwX3_moved_0 : List UInt8 := [27, 133, 21, 5, 133, 42, 180, 0, 9, 5, 46, 133, 32, 105, 21, 4, 133, 184, 0, 91, 105, 97, 55, 6]
abbrev dktX3_moved_0 : List UInt8 := dkwX3_moved_0 ++ dktX3_moved_1
theorem dksX3_moved_0 : cX3_moved.data.toList.drop 0 = dktX3_moved_0 := by decide +kernel
theorem dksX3_moved_1 : cX3_moved.data.toList.drop 24 = dktX3_moved_1 := dk_seg dksX3_moved_0 24 rfl rfl
theorem dX3_moved_0 : decode cX3_moved 0 = .ok (.iload_n 1, 1) := dk_27 (dk_at dksX3_moved_0 0 rfl rfl)
theorem dX3_moved_1 : decode cX3_moved 1 = .ok (.i2l, 1) := dk_133 (dk_at dksX3_moved_0 1 rfl rfl)
theorem dX3_moved_2 : decode cX3_moved 2 = .ok (.iload 5, 2) := dk_21 5 (dk_at dksX3_moved_0 2 rfl rfl)
theorem dX3_moved_4 : decode cX3_moved 4 = .ok (.i2l, 1) := dk_133 (dk_at dksX3_moved_0 4 rfl rfl)
theorem dX3_moved_5 : decode cX3_moved 5 = .ok (.aload_n 0, 1) := dk_42 (dk_at dksX3_moved_0 5 rfl rfl)
theorem dX3_moved_6 : decode cX3_moved 6 = .ok (.getfield 9, 3) := dk_180 0 9 (dk_at dksX3_moved_0 6 rfl rfl)
theorem dX3_moved_9 : decode cX3_moved 9 = .ok (.iconst 2, 1) := dk_5 (dk_at dksX3_moved_0 9 rfl rfl)
theorem dX3_moved_10 : decode cX3_moved 10 = .ok (.iaload, 1) := dk_46 (dk_at dksX3_moved_0 10 rfl rfl)
theorem dX3_moved_11 : decode cX3_moved 11 = .ok (.i2l, 1) := dk_133 (dk_at dksX3_moved_0 11 rfl rfl)
theorem dX3_moved_12 : decode cX3_moved 12 = .ok (.lload_n 2, 1) := dk_32 (dk_at dksX3_moved_0 12 rfl rfl)
theorem dX3_moved_13 : decode cX3_moved 13 = .ok (.lmul, 1) := dk_105 (dk_at dksX3_moved_0 13 rfl rfl)
theorem dX3_moved_14 : decode cX3_moved 14 = .ok (.iload 4, 2) := dk_21 4 (dk_at dksX3_moved_0 14 rfl rfl)
theorem dX3_moved_16 : decode cX3_moved 16 = .ok (.i2l, 1) := dk_133 (dk_at dksX3_moved_0 16 rfl rfl)
theorem dX3_moved_17 : decode cX3_moved 17 = .ok (.invokestatic 91, 3) := dk_184 0 91 (dk_at dksX3_moved_0 17 rfl rfl)
theorem dX3_moved_20 : decode cX3_moved 20 = .ok (.lmul, 1) := dk_105 (dk_at dksX3_moved_0 20 rfl rfl)
theorem dX3_moved_21 : decode cX3_moved 21 = .ok (.ladd, 1) := dk_97 (dk_at dksX3_moved_0 21 rfl rfl)
theorem dX3_moved_22 : decode cX3_moved 22 = .ok (.lstore 6, 2) := dk_55 6 (dk_at dksX3_moved_0 22 rfl rfl)
theorem dX3_moved_24 : decode cX3_moved 24 = .ok (.lload 6, 2) := dk_22 6 (dk_at dksX3_moved_1 0 rfl rfl)
theorem dX3_moved_26 : decode cX3_moved 26 = .ok (.ldc2_w 97, 3) := dk_20 0 97 (dk_at dksX3_moved_1 2 rfl rfl)
theorem dX3_moved_29 : decode cX3_moved 29 = .ok (.invokestatic 87, 3) := dk_184 0 87 (dk_at dksX3_moved_1 5 rfl rfl)
theorem dX3_moved_32 : decode cX3_moved 32 = .ok (.lload 6, 2) := dk_22 6 (dk_at dksX3_moved_1 8 rfl rfl)
theorem dX3_moved_34 : decode cX3_moved 34 = .ok (.l2i, 1) := dk_136 (dk_at dksX3_moved_1 10 rfl rfl)
theorem dX3_moved_35 : decode cX3_moved 35 = .ok (.ireturn, 1) := dk_172 (dk_at dksX3_moved_1 11 rfl rfl)
abbrev cX3_band : ByteArray := prog_3_method_17_code
def yX3_band : MethodName := ⟨RX3, "band", "()J"⟩
def dkwX3_band_0 : List UInt8 := [42, 182, 0, 128, 42, 180, 0, 9, 8, 46, 133, 184, 0, 91, 173]
abbrev dktX3_band_0 : List UInt8 := dkwX3_band_0 ++ []
theorem dksX3_band_0 : cX3_band.data.toList.drop 0 = dktX3_band_0 := by decide +kernel
theorem dX3_band_0 : decode cX3_band 0 = .ok (.aload_n 0, 1) := dk_42 (dk_at dksX3_band_0 0 rfl rfl)
theorem dX3_band_1 : decode cX3_band 1 = .ok (.invokevirtual 128, 3) := dk_182 0 128 (dk_at dksX3_band_0 1 rfl rfl)
theorem dX3_band_4 : decode cX3_band 4 = .ok (.aload_n 0, 1) := dk_42 (dk_at dksX3_band_0 4 rfl rfl)
theorem dX3_band_5 : decode cX3_band 5 = .ok (.getfield 9, 3) := dk_180 0 9 (dk_at dksX3_band_0 5 rfl rfl)
theorem dX3_band_8 : decode cX3_band 8 = .ok (.iconst 5, 1) := dk_8 (dk_at dksX3_band_0 8 rfl rfl)
theorem dX3_band_9 : decode cX3_band 9 = .ok (.iaload, 1) := dk_46 (dk_at dksX3_band_0 9 rfl rfl)
theorem dX3_band_10 : decode cX3_band 10 = .ok (.i2l, 1) := dk_133 (dk_at dksX3_band_0 10 rfl rfl)
theorem dX3_band_11 : decode cX3_band 11 = .ok (.invokestatic 91, 3) := dk_184 0 91 (dk_at dksX3_band_0 11 rfl rfl)
theorem dX3_band_14 : decode cX3_band 14 = .ok (.lreturn, 1) := dk_173 (dk_at dksX3_band_0 14 rfl rfl)
abbrev cX3_become : ByteArray := prog_3_method_2_code
def yX3_become : MethodName := ⟨RX3, "become", "(LThreeBodies$Bodies;)V"⟩
def dkwX3_become_3 : List UInt8 := [180, 0, 28, 3, 42, 180, 0, 28, 3, 6, 184, 0, 43, 42, 43, 180, 0, 49, 181, 0, 49, 177]
abbrev dktX3_become_3 : List UInt8 := dkwX3_become_3 ++ []
def dkwX3_become_2 : List UInt8 := [42, 180, 0, 21, 3, 6, 184, 0, 43, 43, 180, 0, 24, 3, 42, 180, 0, 24, 3, 6, 184, 0, 43, 43]
abbrev dktX3_become_2 : List UInt8 := dkwX3_become_2 ++ dktX3_become_3
def dkwX3_become_1 : List UInt8 := [3, 6, 184, 0, 43, 43, 180, 0, 18, 3, 42, 180, 0, 18, 3, 6, 184, 0, 43, 43, 180, 0, 21, 3]
abbrev dktX3_become_1 : List UInt8 := dkwX3_become_1 ++ dktX3_become_2
def dkwX3_become_0 : List UInt8 := [43, 180, 0, 9, 3, 42, 180, 0, 9, 3, 16, 6, 184, 0, 43, 43, 180, 0, 15, 3, 42, 180, 0, 15]
abbrev dktX3_become_0 : List UInt8 := dkwX3_become_0 ++ dktX3_become_1
theorem dksX3_become_0 : cX3_become.data.toList.drop 0 = dktX3_become_0 := by decide +kernel
theorem dksX3_become_1 : cX3_become.data.toList.drop 24 = dktX3_become_1 := dk_seg dksX3_become_0 24 rfl rfl
theorem dksX3_become_2 : cX3_become.data.toList.drop 48 = dktX3_become_2 := dk_seg dksX3_become_1 24 rfl rfl
theorem dksX3_become_3 : cX3_become.data.toList.drop 72 = dktX3_become_3 := dk_seg dksX3_become_2 24 rfl rfl
theorem dX3_become_0 : decode cX3_become 0 = .ok (.aload_n 1, 1) := dk_43 (dk_at dksX3_become_0 0 rfl rfl)
theorem dX3_become_1 : decode cX3_become 1 = .ok (.getfield 9, 3) := dk_180 0 9 (dk_at dksX3_become_0 1 rfl rfl)
theorem dX3_become_4 : decode cX3_become 4 = .ok (.iconst 0, 1) := dk_3 (dk_at dksX3_become_0 4 rfl rfl)
theorem dX3_become_5 : decode cX3_become 5 = .ok (.aload_n 0, 1) := dk_42 (dk_at dksX3_become_0 5 rfl rfl)
theorem dX3_become_6 : decode cX3_become 6 = .ok (.getfield 9, 3) := dk_180 0 9 (dk_at dksX3_become_0 6 rfl rfl)
theorem dX3_become_9 : decode cX3_become 9 = .ok (.iconst 0, 1) := dk_3 (dk_at dksX3_become_0 9 rfl rfl)
theorem dX3_become_10 : decode cX3_become 10 = .ok (.bipush 6, 2) := dk_16 6 (dk_at dksX3_become_0 10 rfl rfl)
theorem dX3_become_12 : decode cX3_become 12 = .ok (.invokestatic 43, 3) := dk_184 0 43 (dk_at dksX3_become_0 12 rfl rfl)
theorem dX3_become_15 : decode cX3_become 15 = .ok (.aload_n 1, 1) := dk_43 (dk_at dksX3_become_0 15 rfl rfl)
theorem dX3_become_16 : decode cX3_become 16 = .ok (.getfield 15, 3) := dk_180 0 15 (dk_at dksX3_become_0 16 rfl rfl)
theorem dX3_become_19 : decode cX3_become 19 = .ok (.iconst 0, 1) := dk_3 (dk_at dksX3_become_0 19 rfl rfl)
theorem dX3_become_20 : decode cX3_become 20 = .ok (.aload_n 0, 1) := dk_42 (dk_at dksX3_become_0 20 rfl rfl)
theorem dX3_become_21 : decode cX3_become 21 = .ok (.getfield 15, 3) := dk_180 0 15 (dk_at dksX3_become_0 21 rfl rfl)
theorem dX3_become_24 : decode cX3_become 24 = .ok (.iconst 0, 1) := dk_3 (dk_at dksX3_become_1 0 rfl rfl)
theorem dX3_become_25 : decode cX3_become 25 = .ok (.iconst 3, 1) := dk_6 (dk_at dksX3_become_1 1 rfl rfl)
theorem dX3_become_26 : decode cX3_become 26 = .ok (.invokestatic 43, 3) := dk_184 0 43 (dk_at dksX3_become_1 2 rfl rfl)
theorem dX3_become_29 : decode cX3_become 29 = .ok (.aload_n 1, 1) := dk_43 (dk_at dksX3_become_1 5 rfl rfl)
theorem dX3_become_30 : decode cX3_become 30 = .ok (.getfield 18, 3) := dk_180 0 18 (dk_at dksX3_become_1 6 rfl rfl)
theorem dX3_become_33 : decode cX3_become 33 = .ok (.iconst 0, 1) := dk_3 (dk_at dksX3_become_1 9 rfl rfl)
theorem dX3_become_34 : decode cX3_become 34 = .ok (.aload_n 0, 1) := dk_42 (dk_at dksX3_become_1 10 rfl rfl)
theorem dX3_become_35 : decode cX3_become 35 = .ok (.getfield 18, 3) := dk_180 0 18 (dk_at dksX3_become_1 11 rfl rfl)
theorem dX3_become_38 : decode cX3_become 38 = .ok (.iconst 0, 1) := dk_3 (dk_at dksX3_become_1 14 rfl rfl)
theorem dX3_become_39 : decode cX3_become 39 = .ok (.iconst 3, 1) := dk_6 (dk_at dksX3_become_1 15 rfl rfl)
theorem dX3_become_40 : decode cX3_become 40 = .ok (.invokestatic 43, 3) := dk_184 0 43 (dk_at dksX3_become_1 16 rfl rfl)
theorem dX3_become_43 : decode cX3_become 43 = .ok (.aload_n 1, 1) := dk_43 (dk_at dksX3_become_1 19 rfl rfl)
theorem dX3_become_44 : decode cX3_become 44 = .ok (.getfield 21, 3) := dk_180 0 21 (dk_at dksX3_become_1 20 rfl rfl)
theorem dX3_become_47 : decode cX3_become 47 = .ok (.iconst 0, 1) := dk_3 (dk_at dksX3_become_1 23 rfl rfl)
theorem dX3_become_48 : decode cX3_become 48 = .ok (.aload_n 0, 1) := dk_42 (dk_at dksX3_become_2 0 rfl rfl)
theorem dX3_become_49 : decode cX3_become 49 = .ok (.getfield 21, 3) := dk_180 0 21 (dk_at dksX3_become_2 1 rfl rfl)
theorem dX3_become_52 : decode cX3_become 52 = .ok (.iconst 0, 1) := dk_3 (dk_at dksX3_become_2 4 rfl rfl)
theorem dX3_become_53 : decode cX3_become 53 = .ok (.iconst 3, 1) := dk_6 (dk_at dksX3_become_2 5 rfl rfl)
theorem dX3_become_54 : decode cX3_become 54 = .ok (.invokestatic 43, 3) := dk_184 0 43 (dk_at dksX3_become_2 6 rfl rfl)
theorem dX3_become_57 : decode cX3_become 57 = .ok (.aload_n 1, 1) := dk_43 (dk_at dksX3_become_2 9 rfl rfl)
theorem dX3_become_58 : decode cX3_become 58 = .ok (.getfield 24, 3) := dk_180 0 24 (dk_at dksX3_become_2 10 rfl rfl)
theorem dX3_become_61 : decode cX3_become 61 = .ok (.iconst 0, 1) := dk_3 (dk_at dksX3_become_2 13 rfl rfl)
theorem dX3_become_62 : decode cX3_become 62 = .ok (.aload_n 0, 1) := dk_42 (dk_at dksX3_become_2 14 rfl rfl)
theorem dX3_become_63 : decode cX3_become 63 = .ok (.getfield 24, 3) := dk_180 0 24 (dk_at dksX3_become_2 15 rfl rfl)
theorem dX3_become_66 : decode cX3_become 66 = .ok (.iconst 0, 1) := dk_3 (dk_at dksX3_become_2 18 rfl rfl)
theorem dX3_become_67 : decode cX3_become 67 = .ok (.iconst 3, 1) := dk_6 (dk_at dksX3_become_2 19 rfl rfl)
theorem dX3_become_68 : decode cX3_become 68 = .ok (.invokestatic 43, 3) := dk_184 0 43 (dk_at dksX3_become_2 20 rfl rfl)
theorem dX3_become_71 : decode cX3_become 71 = .ok (.aload_n 1, 1) := dk_43 (dk_at dksX3_become_2 23 rfl rfl)
theorem dX3_become_72 : decode cX3_become 72 = .ok (.getfield 28, 3) := dk_180 0 28 (dk_at dksX3_become_3 0 rfl rfl)
theorem dX3_become_75 : decode cX3_become 75 = .ok (.iconst 0, 1) := dk_3 (dk_at dksX3_become_3 3 rfl rfl)
theorem dX3_become_76 : decode cX3_become 76 = .ok (.aload_n 0, 1) := dk_42 (dk_at dksX3_become_3 4 rfl rfl)
theorem dX3_become_77 : decode cX3_become 77 = .ok (.getfield 28, 3) := dk_180 0 28 (dk_at dksX3_become_3 5 rfl rfl)
theorem dX3_become_80 : decode cX3_become 80 = .ok (.iconst 0, 1) := dk_3 (dk_at dksX3_become_3 8 rfl rfl)
theorem dX3_become_81 : decode cX3_become 81 = .ok (.iconst 3, 1) := dk_6 (dk_at dksX3_become_3 9 rfl rfl)
theorem dX3_become_82 : decode cX3_become 82 = .ok (.invokestatic 43, 3) := dk_184 0 43 (dk_at dksX3_become_3 10 rfl rfl)
theorem dX3_become_85 : decode cX3_become 85 = .ok (.aload_n 0, 1) := dk_42 (dk_at dksX3_become_3 13 rfl rfl)
theorem dX3_become_86 : decode cX3_become 86 = .ok (.aload_n 1, 1) := dk_43 (dk_at dksX3_become_3 14 rfl rfl)
theorem dX3_become_87 : decode cX3_become 87 = .ok (.getfield 49, 3) := dk_180 0 49 (dk_at dksX3_become_3 15 rfl rfl)
theorem dX3_become_90 : decode cX3_become 90 = .ok (.putfield 49, 3) := dk_181 0 49 (dk_at dksX3_become_3 18 rfl rfl)
theorem dX3_become_93 : decode cX3_become 93 = .ok (.return_, 1) := dk_177 (dk_at dksX3_become_3 21 rfl rfl)
abbrev cX3_step : ByteArray := prog_3_method_13_code
def yX3_step : MethodName := ⟨RX3, "step", "([[LThreeBodies$Part;I)Z"⟩
def dkwX3_step_4 : List UInt8 := [181, 0, 49, 4, 172]
abbrev dktX3_step_4 : List UInt8 := dkwX3_step_4 ++ []
def dkwX3_step_3 : List UInt8 := [132, 4, 1, 167, 255, 221, 167, 0, 11, 58, 4, 42, 182, 0, 116, 3, 172, 42, 89, 180, 0, 49, 28, 96]
abbrev dktX3_step_3 : List UInt8 := dkwX3_step_3 ++ dktX3_step_4
def dkwX3_step_2 : List UInt8 := [158, 0, 8, 21, 4, 167, 0, 10, 45, 190, 4, 100, 21, 4, 100, 50, 42, 28, 185, 0, 110, 3, 0]
abbrev dktX3_step_2 : List UInt8 := dkwX3_step_2 ++ dktX3_step_3
def dkwX3_step_1 : List UInt8 := [180, 0, 9, 6, 46, 50, 78, 42, 182, 0, 107, 3, 54, 4, 21, 4, 45, 190, 162, 0, 34, 45, 28]
abbrev dktX3_step_1 : List UInt8 := dkwX3_step_1 ++ dktX3_step_2
def dkwX3_step_0 : List UInt8 := [42, 180, 0, 49, 28, 96, 133, 20, 0, 103, 20, 0, 105, 184, 0, 74, 154, 0, 5, 3, 172, 43, 42]
abbrev dktX3_step_0 : List UInt8 := dkwX3_step_0 ++ dktX3_step_1
theorem dksX3_step_0 : cX3_step.data.toList.drop 0 = dktX3_step_0 := by decide +kernel
theorem dksX3_step_1 : cX3_step.data.toList.drop 23 = dktX3_step_1 := dk_seg dksX3_step_0 23 rfl rfl
theorem dksX3_step_2 : cX3_step.data.toList.drop 46 = dktX3_step_2 := dk_seg dksX3_step_1 23 rfl rfl
theorem dksX3_step_3 : cX3_step.data.toList.drop 69 = dktX3_step_3 := dk_seg dksX3_step_2 23 rfl rfl
theorem dksX3_step_4 : cX3_step.data.toList.drop 93 = dktX3_step_4 := dk_seg dksX3_step_3 24 rfl rfl
theorem dX3_step_0 : decode cX3_step 0 = .ok (.aload_n 0, 1) := dk_42 (dk_at dksX3_step_0 0 rfl rfl)
theorem dX3_step_1 : decode cX3_step 1 = .ok (.getfield 49, 3) := dk_180 0 49 (dk_at dksX3_step_0 1 rfl rfl)
theorem dX3_step_4 : decode cX3_step 4 = .ok (.iload_n 2, 1) := dk_28 (dk_at dksX3_step_0 4 rfl rfl)
theorem dX3_step_5 : decode cX3_step 5 = .ok (.iadd, 1) := dk_96 (dk_at dksX3_step_0 5 rfl rfl)
theorem dX3_step_6 : decode cX3_step 6 = .ok (.i2l, 1) := dk_133 (dk_at dksX3_step_0 6 rfl rfl)
theorem dX3_step_7 : decode cX3_step 7 = .ok (.ldc2_w 103, 3) := dk_20 0 103 (dk_at dksX3_step_0 7 rfl rfl)
theorem dX3_step_10 : decode cX3_step 10 = .ok (.ldc2_w 105, 3) := dk_20 0 105 (dk_at dksX3_step_0 10 rfl rfl)
theorem dX3_step_13 : decode cX3_step 13 = .ok (.invokestatic 74, 3) := dk_184 0 74 (dk_at dksX3_step_0 13 rfl rfl)
theorem dX3_step_16 : decode cX3_step 16 = .ok (.ifCond .ne 5, 3) := dk_154 0 5 (dk_at dksX3_step_0 16 rfl rfl)
theorem dX3_step_19 : decode cX3_step 19 = .ok (.iconst 0, 1) := dk_3 (dk_at dksX3_step_0 19 rfl rfl)
theorem dX3_step_20 : decode cX3_step 20 = .ok (.ireturn, 1) := dk_172 (dk_at dksX3_step_0 20 rfl rfl)
theorem dX3_step_21 : decode cX3_step 21 = .ok (.aload_n 1, 1) := dk_43 (dk_at dksX3_step_0 21 rfl rfl)
theorem dX3_step_22 : decode cX3_step 22 = .ok (.aload_n 0, 1) := dk_42 (dk_at dksX3_step_0 22 rfl rfl)
theorem dX3_step_23 : decode cX3_step 23 = .ok (.getfield 9, 3) := dk_180 0 9 (dk_at dksX3_step_1 0 rfl rfl)
theorem dX3_step_26 : decode cX3_step 26 = .ok (.iconst 3, 1) := dk_6 (dk_at dksX3_step_1 3 rfl rfl)
theorem dX3_step_27 : decode cX3_step 27 = .ok (.iaload, 1) := dk_46 (dk_at dksX3_step_1 4 rfl rfl)
theorem dX3_step_28 : decode cX3_step 28 = .ok (.aaload, 1) := dk_50 (dk_at dksX3_step_1 5 rfl rfl)
theorem dX3_step_29 : decode cX3_step 29 = .ok (.astore_n 3, 1) := dk_78 (dk_at dksX3_step_1 6 rfl rfl)
theorem dX3_step_30 : decode cX3_step 30 = .ok (.aload_n 0, 1) := dk_42 (dk_at dksX3_step_1 7 rfl rfl)
theorem dX3_step_31 : decode cX3_step 31 = .ok (.invokevirtual 107, 3) := dk_182 0 107 (dk_at dksX3_step_1 8 rfl rfl)
theorem dX3_step_34 : decode cX3_step 34 = .ok (.iconst 0, 1) := dk_3 (dk_at dksX3_step_1 11 rfl rfl)
theorem dX3_step_35 : decode cX3_step 35 = .ok (.istore 4, 2) := dk_54 4 (dk_at dksX3_step_1 12 rfl rfl)
theorem dX3_step_37 : decode cX3_step 37 = .ok (.iload 4, 2) := dk_21 4 (dk_at dksX3_step_1 14 rfl rfl)
theorem dX3_step_39 : decode cX3_step 39 = .ok (.aload_n 3, 1) := dk_45 (dk_at dksX3_step_1 16 rfl rfl)
theorem dX3_step_40 : decode cX3_step 40 = .ok (.arraylength, 1) := dk_190 (dk_at dksX3_step_1 17 rfl rfl)
theorem dX3_step_41 : decode cX3_step 41 = .ok (.if_icmp .ge 34, 3) := dk_162 0 34 (dk_at dksX3_step_1 18 rfl rfl)
theorem dX3_step_44 : decode cX3_step 44 = .ok (.aload_n 3, 1) := dk_45 (dk_at dksX3_step_1 21 rfl rfl)
theorem dX3_step_45 : decode cX3_step 45 = .ok (.iload_n 2, 1) := dk_28 (dk_at dksX3_step_1 22 rfl rfl)
theorem dX3_step_46 : decode cX3_step 46 = .ok (.ifCond .le 8, 3) := dk_158 0 8 (dk_at dksX3_step_2 0 rfl rfl)
theorem dX3_step_49 : decode cX3_step 49 = .ok (.iload 4, 2) := dk_21 4 (dk_at dksX3_step_2 3 rfl rfl)
theorem dX3_step_51 : decode cX3_step 51 = .ok (.goto 10, 3) := dk_167 0 10 (dk_at dksX3_step_2 5 rfl rfl)
theorem dX3_step_54 : decode cX3_step 54 = .ok (.aload_n 3, 1) := dk_45 (dk_at dksX3_step_2 8 rfl rfl)
theorem dX3_step_55 : decode cX3_step 55 = .ok (.arraylength, 1) := dk_190 (dk_at dksX3_step_2 9 rfl rfl)
theorem dX3_step_56 : decode cX3_step 56 = .ok (.iconst 1, 1) := dk_4 (dk_at dksX3_step_2 10 rfl rfl)
theorem dX3_step_57 : decode cX3_step 57 = .ok (.isub, 1) := dk_100 (dk_at dksX3_step_2 11 rfl rfl)
theorem dX3_step_58 : decode cX3_step 58 = .ok (.iload 4, 2) := dk_21 4 (dk_at dksX3_step_2 12 rfl rfl)
theorem dX3_step_60 : decode cX3_step 60 = .ok (.isub, 1) := dk_100 (dk_at dksX3_step_2 14 rfl rfl)
theorem dX3_step_61 : decode cX3_step 61 = .ok (.aaload, 1) := dk_50 (dk_at dksX3_step_2 15 rfl rfl)
theorem dX3_step_62 : decode cX3_step 62 = .ok (.aload_n 0, 1) := dk_42 (dk_at dksX3_step_2 16 rfl rfl)
theorem dX3_step_63 : decode cX3_step 63 = .ok (.iload_n 2, 1) := dk_28 (dk_at dksX3_step_2 17 rfl rfl)
theorem dX3_step_64 : decode cX3_step 64 = .ok (.invokeinterface 110 3, 5) := by decide +kernel
theorem dX3_step_69 : decode cX3_step 69 = .ok (.iinc 4 1, 3) := dk_132 4 1 (dk_at dksX3_step_3 0 rfl rfl)
theorem dX3_step_72 : decode cX3_step 72 = .ok (.goto (-35), 3) := dk_167 255 221 (dk_at dksX3_step_3 3 rfl rfl)
theorem dX3_step_75 : decode cX3_step 75 = .ok (.goto 11, 3) := dk_167 0 11 (dk_at dksX3_step_3 6 rfl rfl)
theorem dX3_step_78 : decode cX3_step 78 = .ok (.astore 4, 2) := dk_58 4 (dk_at dksX3_step_3 9 rfl rfl)
theorem dX3_step_80 : decode cX3_step 80 = .ok (.aload_n 0, 1) := dk_42 (dk_at dksX3_step_3 11 rfl rfl)
theorem dX3_step_81 : decode cX3_step 81 = .ok (.invokevirtual 116, 3) := dk_182 0 116 (dk_at dksX3_step_3 12 rfl rfl)
theorem dX3_step_84 : decode cX3_step 84 = .ok (.iconst 0, 1) := dk_3 (dk_at dksX3_step_3 15 rfl rfl)
theorem dX3_step_85 : decode cX3_step 85 = .ok (.ireturn, 1) := dk_172 (dk_at dksX3_step_3 16 rfl rfl)
theorem dX3_step_86 : decode cX3_step 86 = .ok (.aload_n 0, 1) := dk_42 (dk_at dksX3_step_3 17 rfl rfl)
theorem dX3_step_87 : decode cX3_step 87 = .ok (.dup, 1) := dk_89 (dk_at dksX3_step_3 18 rfl rfl)
theorem dX3_step_88 : decode cX3_step 88 = .ok (.getfield 49, 3) := dk_180 0 49 (dk_at dksX3_step_3 19 rfl rfl)
theorem dX3_step_91 : decode cX3_step 91 = .ok (.iload_n 2, 1) := dk_28 (dk_at dksX3_step_3 22 rfl rfl)
theorem dX3_step_92 : decode cX3_step 92 = .ok (.iadd, 1) := dk_96 (dk_at dksX3_step_3 23 rfl rfl)
theorem dX3_step_93 : decode cX3_step 93 = .ok (.putfield 49, 3) := dk_181 0 49 (dk_at dksX3_step_4 0 rfl rfl)
theorem dX3_step_96 : decode cX3_step 96 = .ok (.iconst 1, 1) := dk_4 (dk_at dksX3_step_4 3 rfl rfl)
theorem dX3_step_97 : decode cX3_step 97 = .ok (.ireturn, 1) := dk_172 (dk_at dksX3_step_4 4 rfl rfl)
abbrev cX3_keep : ByteArray := prog_3_method_11_code
def yX3_keep : MethodName := ⟨RX3, "keep", "()V"⟩
def dkwX3_keep_2 : List UInt8 := [180, 0, 40, 3, 6, 184, 0, 43, 177]
abbrev dktX3_keep_2 : List UInt8 := dkwX3_keep_2 ++ []
def dkwX3_keep_1 : List UInt8 := [6, 184, 0, 43, 42, 180, 0, 24, 3, 42, 180, 0, 37, 3, 6, 184, 0, 43, 42, 180, 0, 28, 3, 42]
abbrev dktX3_keep_1 : List UInt8 := dkwX3_keep_1 ++ dktX3_keep_2
def dkwX3_keep_0 : List UInt8 := [42, 180, 0, 18, 3, 42, 180, 0, 31, 3, 6, 184, 0, 43, 42, 180, 0, 21, 3, 42, 180, 0, 34, 3]
abbrev dktX3_keep_0 : List UInt8 := dkwX3_keep_0 ++ dktX3_keep_1
theorem dksX3_keep_0 : cX3_keep.data.toList.drop 0 = dktX3_keep_0 := by decide +kernel
theorem dksX3_keep_1 : cX3_keep.data.toList.drop 24 = dktX3_keep_1 := dk_seg dksX3_keep_0 24 rfl rfl
theorem dksX3_keep_2 : cX3_keep.data.toList.drop 48 = dktX3_keep_2 := dk_seg dksX3_keep_1 24 rfl rfl
theorem dX3_keep_0 : decode cX3_keep 0 = .ok (.aload_n 0, 1) := dk_42 (dk_at dksX3_keep_0 0 rfl rfl)
theorem dX3_keep_1 : decode cX3_keep 1 = .ok (.getfield 18, 3) := dk_180 0 18 (dk_at dksX3_keep_0 1 rfl rfl)
theorem dX3_keep_4 : decode cX3_keep 4 = .ok (.iconst 0, 1) := dk_3 (dk_at dksX3_keep_0 4 rfl rfl)
theorem dX3_keep_5 : decode cX3_keep 5 = .ok (.aload_n 0, 1) := dk_42 (dk_at dksX3_keep_0 5 rfl rfl)
theorem dX3_keep_6 : decode cX3_keep 6 = .ok (.getfield 31, 3) := dk_180 0 31 (dk_at dksX3_keep_0 6 rfl rfl)
theorem dX3_keep_9 : decode cX3_keep 9 = .ok (.iconst 0, 1) := dk_3 (dk_at dksX3_keep_0 9 rfl rfl)
theorem dX3_keep_10 : decode cX3_keep 10 = .ok (.iconst 3, 1) := dk_6 (dk_at dksX3_keep_0 10 rfl rfl)
theorem dX3_keep_11 : decode cX3_keep 11 = .ok (.invokestatic 43, 3) := dk_184 0 43 (dk_at dksX3_keep_0 11 rfl rfl)
theorem dX3_keep_14 : decode cX3_keep 14 = .ok (.aload_n 0, 1) := dk_42 (dk_at dksX3_keep_0 14 rfl rfl)
theorem dX3_keep_15 : decode cX3_keep 15 = .ok (.getfield 21, 3) := dk_180 0 21 (dk_at dksX3_keep_0 15 rfl rfl)
theorem dX3_keep_18 : decode cX3_keep 18 = .ok (.iconst 0, 1) := dk_3 (dk_at dksX3_keep_0 18 rfl rfl)
theorem dX3_keep_19 : decode cX3_keep 19 = .ok (.aload_n 0, 1) := dk_42 (dk_at dksX3_keep_0 19 rfl rfl)
theorem dX3_keep_20 : decode cX3_keep 20 = .ok (.getfield 34, 3) := dk_180 0 34 (dk_at dksX3_keep_0 20 rfl rfl)
theorem dX3_keep_23 : decode cX3_keep 23 = .ok (.iconst 0, 1) := dk_3 (dk_at dksX3_keep_0 23 rfl rfl)
theorem dX3_keep_24 : decode cX3_keep 24 = .ok (.iconst 3, 1) := dk_6 (dk_at dksX3_keep_1 0 rfl rfl)
theorem dX3_keep_25 : decode cX3_keep 25 = .ok (.invokestatic 43, 3) := dk_184 0 43 (dk_at dksX3_keep_1 1 rfl rfl)
theorem dX3_keep_28 : decode cX3_keep 28 = .ok (.aload_n 0, 1) := dk_42 (dk_at dksX3_keep_1 4 rfl rfl)
theorem dX3_keep_29 : decode cX3_keep 29 = .ok (.getfield 24, 3) := dk_180 0 24 (dk_at dksX3_keep_1 5 rfl rfl)
theorem dX3_keep_32 : decode cX3_keep 32 = .ok (.iconst 0, 1) := dk_3 (dk_at dksX3_keep_1 8 rfl rfl)
theorem dX3_keep_33 : decode cX3_keep 33 = .ok (.aload_n 0, 1) := dk_42 (dk_at dksX3_keep_1 9 rfl rfl)
theorem dX3_keep_34 : decode cX3_keep 34 = .ok (.getfield 37, 3) := dk_180 0 37 (dk_at dksX3_keep_1 10 rfl rfl)
theorem dX3_keep_37 : decode cX3_keep 37 = .ok (.iconst 0, 1) := dk_3 (dk_at dksX3_keep_1 13 rfl rfl)
theorem dX3_keep_38 : decode cX3_keep 38 = .ok (.iconst 3, 1) := dk_6 (dk_at dksX3_keep_1 14 rfl rfl)
theorem dX3_keep_39 : decode cX3_keep 39 = .ok (.invokestatic 43, 3) := dk_184 0 43 (dk_at dksX3_keep_1 15 rfl rfl)
theorem dX3_keep_42 : decode cX3_keep 42 = .ok (.aload_n 0, 1) := dk_42 (dk_at dksX3_keep_1 18 rfl rfl)
theorem dX3_keep_43 : decode cX3_keep 43 = .ok (.getfield 28, 3) := dk_180 0 28 (dk_at dksX3_keep_1 19 rfl rfl)
theorem dX3_keep_46 : decode cX3_keep 46 = .ok (.iconst 0, 1) := dk_3 (dk_at dksX3_keep_1 22 rfl rfl)
theorem dX3_keep_47 : decode cX3_keep 47 = .ok (.aload_n 0, 1) := dk_42 (dk_at dksX3_keep_1 23 rfl rfl)
theorem dX3_keep_48 : decode cX3_keep 48 = .ok (.getfield 40, 3) := dk_180 0 40 (dk_at dksX3_keep_2 0 rfl rfl)
theorem dX3_keep_51 : decode cX3_keep 51 = .ok (.iconst 0, 1) := dk_3 (dk_at dksX3_keep_2 3 rfl rfl)
theorem dX3_keep_52 : decode cX3_keep 52 = .ok (.iconst 3, 1) := dk_6 (dk_at dksX3_keep_2 4 rfl rfl)
theorem dX3_keep_53 : decode cX3_keep 53 = .ok (.invokestatic 43, 3) := dk_184 0 43 (dk_at dksX3_keep_2 5 rfl rfl)
theorem dX3_keep_56 : decode cX3_keep 56 = .ok (.return_, 1) := dk_177 (dk_at dksX3_keep_2 8 rfl rfl)
abbrev cX3_layBack : ByteArray := prog_3_method_12_code
def yX3_layBack : MethodName := ⟨RX3, "layBack", "()V"⟩
def dkwX3_layBack_2 : List UInt8 := [180, 0, 28, 3, 6, 184, 0, 43, 177]
abbrev dktX3_layBack_2 : List UInt8 := dkwX3_layBack_2 ++ []
def dkwX3_layBack_1 : List UInt8 := [6, 184, 0, 43, 42, 180, 0, 37, 3, 42, 180, 0, 24, 3, 6, 184, 0, 43, 42, 180, 0, 40, 3, 42]
abbrev dktX3_layBack_1 : List UInt8 := dkwX3_layBack_1 ++ dktX3_layBack_2
def dkwX3_layBack_0 : List UInt8 := [42, 180, 0, 31, 3, 42, 180, 0, 18, 3, 6, 184, 0, 43, 42, 180, 0, 34, 3, 42, 180, 0, 21, 3]
abbrev dktX3_layBack_0 : List UInt8 := dkwX3_layBack_0 ++ dktX3_layBack_1
theorem dksX3_layBack_0 : cX3_layBack.data.toList.drop 0 = dktX3_layBack_0 := by decide +kernel
theorem dksX3_layBack_1 : cX3_layBack.data.toList.drop 24 = dktX3_layBack_1 := dk_seg dksX3_layBack_0 24 rfl rfl
theorem dksX3_layBack_2 : cX3_layBack.data.toList.drop 48 = dktX3_layBack_2 := dk_seg dksX3_layBack_1 24 rfl rfl
theorem dX3_layBack_0 : decode cX3_layBack 0 = .ok (.aload_n 0, 1) := dk_42 (dk_at dksX3_layBack_0 0 rfl rfl)
theorem dX3_layBack_1 : decode cX3_layBack 1 = .ok (.getfield 31, 3) := dk_180 0 31 (dk_at dksX3_layBack_0 1 rfl rfl)
theorem dX3_layBack_4 : decode cX3_layBack 4 = .ok (.iconst 0, 1) := dk_3 (dk_at dksX3_layBack_0 4 rfl rfl)
theorem dX3_layBack_5 : decode cX3_layBack 5 = .ok (.aload_n 0, 1) := dk_42 (dk_at dksX3_layBack_0 5 rfl rfl)
theorem dX3_layBack_6 : decode cX3_layBack 6 = .ok (.getfield 18, 3) := dk_180 0 18 (dk_at dksX3_layBack_0 6 rfl rfl)
theorem dX3_layBack_9 : decode cX3_layBack 9 = .ok (.iconst 0, 1) := dk_3 (dk_at dksX3_layBack_0 9 rfl rfl)
theorem dX3_layBack_10 : decode cX3_layBack 10 = .ok (.iconst 3, 1) := dk_6 (dk_at dksX3_layBack_0 10 rfl rfl)
theorem dX3_layBack_11 : decode cX3_layBack 11 = .ok (.invokestatic 43, 3) := dk_184 0 43 (dk_at dksX3_layBack_0 11 rfl rfl)
theorem dX3_layBack_14 : decode cX3_layBack 14 = .ok (.aload_n 0, 1) := dk_42 (dk_at dksX3_layBack_0 14 rfl rfl)
theorem dX3_layBack_15 : decode cX3_layBack 15 = .ok (.getfield 34, 3) := dk_180 0 34 (dk_at dksX3_layBack_0 15 rfl rfl)
theorem dX3_layBack_18 : decode cX3_layBack 18 = .ok (.iconst 0, 1) := dk_3 (dk_at dksX3_layBack_0 18 rfl rfl)
theorem dX3_layBack_19 : decode cX3_layBack 19 = .ok (.aload_n 0, 1) := dk_42 (dk_at dksX3_layBack_0 19 rfl rfl)
theorem dX3_layBack_20 : decode cX3_layBack 20 = .ok (.getfield 21, 3) := dk_180 0 21 (dk_at dksX3_layBack_0 20 rfl rfl)
theorem dX3_layBack_23 : decode cX3_layBack 23 = .ok (.iconst 0, 1) := dk_3 (dk_at dksX3_layBack_0 23 rfl rfl)
theorem dX3_layBack_24 : decode cX3_layBack 24 = .ok (.iconst 3, 1) := dk_6 (dk_at dksX3_layBack_1 0 rfl rfl)
theorem dX3_layBack_25 : decode cX3_layBack 25 = .ok (.invokestatic 43, 3) := dk_184 0 43 (dk_at dksX3_layBack_1 1 rfl rfl)
theorem dX3_layBack_28 : decode cX3_layBack 28 = .ok (.aload_n 0, 1) := dk_42 (dk_at dksX3_layBack_1 4 rfl rfl)
theorem dX3_layBack_29 : decode cX3_layBack 29 = .ok (.getfield 37, 3) := dk_180 0 37 (dk_at dksX3_layBack_1 5 rfl rfl)
theorem dX3_layBack_32 : decode cX3_layBack 32 = .ok (.iconst 0, 1) := dk_3 (dk_at dksX3_layBack_1 8 rfl rfl)
theorem dX3_layBack_33 : decode cX3_layBack 33 = .ok (.aload_n 0, 1) := dk_42 (dk_at dksX3_layBack_1 9 rfl rfl)
theorem dX3_layBack_34 : decode cX3_layBack 34 = .ok (.getfield 24, 3) := dk_180 0 24 (dk_at dksX3_layBack_1 10 rfl rfl)
theorem dX3_layBack_37 : decode cX3_layBack 37 = .ok (.iconst 0, 1) := dk_3 (dk_at dksX3_layBack_1 13 rfl rfl)
theorem dX3_layBack_38 : decode cX3_layBack 38 = .ok (.iconst 3, 1) := dk_6 (dk_at dksX3_layBack_1 14 rfl rfl)
theorem dX3_layBack_39 : decode cX3_layBack 39 = .ok (.invokestatic 43, 3) := dk_184 0 43 (dk_at dksX3_layBack_1 15 rfl rfl)
theorem dX3_layBack_42 : decode cX3_layBack 42 = .ok (.aload_n 0, 1) := dk_42 (dk_at dksX3_layBack_1 18 rfl rfl)
theorem dX3_layBack_43 : decode cX3_layBack 43 = .ok (.getfield 40, 3) := dk_180 0 40 (dk_at dksX3_layBack_1 19 rfl rfl)
theorem dX3_layBack_46 : decode cX3_layBack 46 = .ok (.iconst 0, 1) := dk_3 (dk_at dksX3_layBack_1 22 rfl rfl)
theorem dX3_layBack_47 : decode cX3_layBack 47 = .ok (.aload_n 0, 1) := dk_42 (dk_at dksX3_layBack_1 23 rfl rfl)
theorem dX3_layBack_48 : decode cX3_layBack 48 = .ok (.getfield 28, 3) := dk_180 0 28 (dk_at dksX3_layBack_2 0 rfl rfl)
theorem dX3_layBack_51 : decode cX3_layBack 51 = .ok (.iconst 0, 1) := dk_3 (dk_at dksX3_layBack_2 3 rfl rfl)
theorem dX3_layBack_52 : decode cX3_layBack 52 = .ok (.iconst 3, 1) := dk_6 (dk_at dksX3_layBack_2 4 rfl rfl)
theorem dX3_layBack_53 : decode cX3_layBack 53 = .ok (.invokestatic 43, 3) := dk_184 0 43 (dk_at dksX3_layBack_2 5 rfl rfl)
theorem dX3_layBack_56 : decode cX3_layBack 56 = .ok (.return_, 1) := dk_177 (dk_at dksX3_layBack_2 8 rfl rfl)
abbrev cX3_isLike : ByteArray := prog_3_method_20_code
def yX3_isLike : MethodName := ⟨RX3, "isLike", "(LThreeBodies$Bodies;Z)Z"⟩
def dkwX3_isLike_3 : List UInt8 := [62, 132, 4, 1, 167, 255, 199, 29, 172]
abbrev dktX3_isLike_3 : List UInt8 := dkwX3_isLike_3 ++ []
def dkwX3_isLike_2 : List UInt8 := [178, 0, 56, 21, 4, 46, 178, 0, 53, 21, 4, 46, 182, 0, 135, 153, 0, 7, 4, 167, 0, 4, 3, 128]
abbrev dktX3_isLike_2 : List UInt8 := dkwX3_isLike_2 ++ dktX3_isLike_3
def dkwX3_isLike_1 : List UInt8 := [42, 43, 178, 0, 53, 21, 4, 46, 178, 0, 56, 21, 4, 46, 182, 0, 135, 154, 0, 23, 42, 43]
abbrev dktX3_isLike_1 : List UInt8 := dkwX3_isLike_1 ++ dktX3_isLike_2
def dkwX3_isLike_0 : List UInt8 := [28, 154, 0, 11, 42, 43, 3, 4, 182, 0, 135, 172, 3, 62, 3, 54, 4, 21, 4, 6, 162, 0, 57, 29]
abbrev dktX3_isLike_0 : List UInt8 := dkwX3_isLike_0 ++ dktX3_isLike_1
theorem dksX3_isLike_0 : cX3_isLike.data.toList.drop 0 = dktX3_isLike_0 := by decide +kernel
theorem dksX3_isLike_1 : cX3_isLike.data.toList.drop 24 = dktX3_isLike_1 := dk_seg dksX3_isLike_0 24 rfl rfl
theorem dksX3_isLike_2 : cX3_isLike.data.toList.drop 46 = dktX3_isLike_2 := dk_seg dksX3_isLike_1 22 rfl rfl
theorem dksX3_isLike_3 : cX3_isLike.data.toList.drop 70 = dktX3_isLike_3 := dk_seg dksX3_isLike_2 24 rfl rfl
theorem dX3_isLike_0 : decode cX3_isLike 0 = .ok (.iload_n 2, 1) := dk_28 (dk_at dksX3_isLike_0 0 rfl rfl)
theorem dX3_isLike_1 : decode cX3_isLike 1 = .ok (.ifCond .ne 11, 3) := dk_154 0 11 (dk_at dksX3_isLike_0 1 rfl rfl)
theorem dX3_isLike_4 : decode cX3_isLike 4 = .ok (.aload_n 0, 1) := dk_42 (dk_at dksX3_isLike_0 4 rfl rfl)
theorem dX3_isLike_5 : decode cX3_isLike 5 = .ok (.aload_n 1, 1) := dk_43 (dk_at dksX3_isLike_0 5 rfl rfl)
theorem dX3_isLike_6 : decode cX3_isLike 6 = .ok (.iconst 0, 1) := dk_3 (dk_at dksX3_isLike_0 6 rfl rfl)
theorem dX3_isLike_7 : decode cX3_isLike 7 = .ok (.iconst 1, 1) := dk_4 (dk_at dksX3_isLike_0 7 rfl rfl)
theorem dX3_isLike_8 : decode cX3_isLike 8 = .ok (.invokevirtual 135, 3) := dk_182 0 135 (dk_at dksX3_isLike_0 8 rfl rfl)
theorem dX3_isLike_11 : decode cX3_isLike 11 = .ok (.ireturn, 1) := dk_172 (dk_at dksX3_isLike_0 11 rfl rfl)
theorem dX3_isLike_12 : decode cX3_isLike 12 = .ok (.iconst 0, 1) := dk_3 (dk_at dksX3_isLike_0 12 rfl rfl)
theorem dX3_isLike_13 : decode cX3_isLike 13 = .ok (.istore_n 3, 1) := dk_62 (dk_at dksX3_isLike_0 13 rfl rfl)
theorem dX3_isLike_14 : decode cX3_isLike 14 = .ok (.iconst 0, 1) := dk_3 (dk_at dksX3_isLike_0 14 rfl rfl)
theorem dX3_isLike_15 : decode cX3_isLike 15 = .ok (.istore 4, 2) := dk_54 4 (dk_at dksX3_isLike_0 15 rfl rfl)
theorem dX3_isLike_17 : decode cX3_isLike 17 = .ok (.iload 4, 2) := dk_21 4 (dk_at dksX3_isLike_0 17 rfl rfl)
theorem dX3_isLike_19 : decode cX3_isLike 19 = .ok (.iconst 3, 1) := dk_6 (dk_at dksX3_isLike_0 19 rfl rfl)
theorem dX3_isLike_20 : decode cX3_isLike 20 = .ok (.if_icmp .ge 57, 3) := dk_162 0 57 (dk_at dksX3_isLike_0 20 rfl rfl)
theorem dX3_isLike_23 : decode cX3_isLike 23 = .ok (.iload_n 3, 1) := dk_29 (dk_at dksX3_isLike_0 23 rfl rfl)
theorem dX3_isLike_24 : decode cX3_isLike 24 = .ok (.aload_n 0, 1) := dk_42 (dk_at dksX3_isLike_1 0 rfl rfl)
theorem dX3_isLike_25 : decode cX3_isLike 25 = .ok (.aload_n 1, 1) := dk_43 (dk_at dksX3_isLike_1 1 rfl rfl)
theorem dX3_isLike_26 : decode cX3_isLike 26 = .ok (.getstatic 53, 3) := dk_178 0 53 (dk_at dksX3_isLike_1 2 rfl rfl)
theorem dX3_isLike_29 : decode cX3_isLike 29 = .ok (.iload 4, 2) := dk_21 4 (dk_at dksX3_isLike_1 5 rfl rfl)
theorem dX3_isLike_31 : decode cX3_isLike 31 = .ok (.iaload, 1) := dk_46 (dk_at dksX3_isLike_1 7 rfl rfl)
theorem dX3_isLike_32 : decode cX3_isLike 32 = .ok (.getstatic 56, 3) := dk_178 0 56 (dk_at dksX3_isLike_1 8 rfl rfl)
theorem dX3_isLike_35 : decode cX3_isLike 35 = .ok (.iload 4, 2) := dk_21 4 (dk_at dksX3_isLike_1 11 rfl rfl)
theorem dX3_isLike_37 : decode cX3_isLike 37 = .ok (.iaload, 1) := dk_46 (dk_at dksX3_isLike_1 13 rfl rfl)
theorem dX3_isLike_38 : decode cX3_isLike 38 = .ok (.invokevirtual 135, 3) := dk_182 0 135 (dk_at dksX3_isLike_1 14 rfl rfl)
theorem dX3_isLike_41 : decode cX3_isLike 41 = .ok (.ifCond .ne 23, 3) := dk_154 0 23 (dk_at dksX3_isLike_1 17 rfl rfl)
theorem dX3_isLike_44 : decode cX3_isLike 44 = .ok (.aload_n 0, 1) := dk_42 (dk_at dksX3_isLike_1 20 rfl rfl)
theorem dX3_isLike_45 : decode cX3_isLike 45 = .ok (.aload_n 1, 1) := dk_43 (dk_at dksX3_isLike_1 21 rfl rfl)
theorem dX3_isLike_46 : decode cX3_isLike 46 = .ok (.getstatic 56, 3) := dk_178 0 56 (dk_at dksX3_isLike_2 0 rfl rfl)
theorem dX3_isLike_49 : decode cX3_isLike 49 = .ok (.iload 4, 2) := dk_21 4 (dk_at dksX3_isLike_2 3 rfl rfl)
theorem dX3_isLike_51 : decode cX3_isLike 51 = .ok (.iaload, 1) := dk_46 (dk_at dksX3_isLike_2 5 rfl rfl)
theorem dX3_isLike_52 : decode cX3_isLike 52 = .ok (.getstatic 53, 3) := dk_178 0 53 (dk_at dksX3_isLike_2 6 rfl rfl)
theorem dX3_isLike_55 : decode cX3_isLike 55 = .ok (.iload 4, 2) := dk_21 4 (dk_at dksX3_isLike_2 9 rfl rfl)
theorem dX3_isLike_57 : decode cX3_isLike 57 = .ok (.iaload, 1) := dk_46 (dk_at dksX3_isLike_2 11 rfl rfl)
theorem dX3_isLike_58 : decode cX3_isLike 58 = .ok (.invokevirtual 135, 3) := dk_182 0 135 (dk_at dksX3_isLike_2 12 rfl rfl)
theorem dX3_isLike_61 : decode cX3_isLike 61 = .ok (.ifCond .eq 7, 3) := dk_153 0 7 (dk_at dksX3_isLike_2 15 rfl rfl)
theorem dX3_isLike_64 : decode cX3_isLike 64 = .ok (.iconst 1, 1) := dk_4 (dk_at dksX3_isLike_2 18 rfl rfl)
theorem dX3_isLike_65 : decode cX3_isLike 65 = .ok (.goto 4, 3) := dk_167 0 4 (dk_at dksX3_isLike_2 19 rfl rfl)
theorem dX3_isLike_68 : decode cX3_isLike 68 = .ok (.iconst 0, 1) := dk_3 (dk_at dksX3_isLike_2 22 rfl rfl)
theorem dX3_isLike_69 : decode cX3_isLike 69 = .ok (.ior, 1) := dk_128 (dk_at dksX3_isLike_2 23 rfl rfl)
theorem dX3_isLike_70 : decode cX3_isLike 70 = .ok (.istore_n 3, 1) := dk_62 (dk_at dksX3_isLike_3 0 rfl rfl)
theorem dX3_isLike_71 : decode cX3_isLike 71 = .ok (.iinc 4 1, 3) := dk_132 4 1 (dk_at dksX3_isLike_3 1 rfl rfl)
theorem dX3_isLike_74 : decode cX3_isLike 74 = .ok (.goto (-57), 3) := dk_167 255 199 (dk_at dksX3_isLike_3 4 rfl rfl)
theorem dX3_isLike_77 : decode cX3_isLike 77 = .ok (.iload_n 3, 1) := dk_29 (dk_at dksX3_isLike_3 7 rfl rfl)
theorem dX3_isLike_78 : decode cX3_isLike 78 = .ok (.ireturn, 1) := dk_172 (dk_at dksX3_isLike_3 8 rfl rfl)
abbrev cX3_areAt : ByteArray := prog_3_method_19_code
def yX3_areAt : MethodName := ⟨RX3, "areAt", "(LThreeBodies$Bodies;II)Z"⟩
def dkwX3_areAt_1 : List UInt8 := [28, 100, 29, 100, 182, 0, 131, 153, 0, 7, 4, 167, 0, 4, 3, 172]
abbrev dktX3_areAt_1 : List UInt8 := dkwX3_areAt_1 ++ []
def dkwX3_areAt_0 : List UInt8 := [42, 3, 43, 28, 182, 0, 131, 153, 0, 31, 42, 4, 43, 29, 182, 0, 131, 153, 0, 21, 42, 5, 43, 6]
abbrev dktX3_areAt_0 : List UInt8 := dkwX3_areAt_0 ++ dktX3_areAt_1
theorem dksX3_areAt_0 : cX3_areAt.data.toList.drop 0 = dktX3_areAt_0 := by decide +kernel
theorem dksX3_areAt_1 : cX3_areAt.data.toList.drop 24 = dktX3_areAt_1 := dk_seg dksX3_areAt_0 24 rfl rfl
theorem dX3_areAt_0 : decode cX3_areAt 0 = .ok (.aload_n 0, 1) := dk_42 (dk_at dksX3_areAt_0 0 rfl rfl)
theorem dX3_areAt_1 : decode cX3_areAt 1 = .ok (.iconst 0, 1) := dk_3 (dk_at dksX3_areAt_0 1 rfl rfl)
theorem dX3_areAt_2 : decode cX3_areAt 2 = .ok (.aload_n 1, 1) := dk_43 (dk_at dksX3_areAt_0 2 rfl rfl)
theorem dX3_areAt_3 : decode cX3_areAt 3 = .ok (.iload_n 2, 1) := dk_28 (dk_at dksX3_areAt_0 3 rfl rfl)
theorem dX3_areAt_4 : decode cX3_areAt 4 = .ok (.invokevirtual 131, 3) := dk_182 0 131 (dk_at dksX3_areAt_0 4 rfl rfl)
theorem dX3_areAt_7 : decode cX3_areAt 7 = .ok (.ifCond .eq 31, 3) := dk_153 0 31 (dk_at dksX3_areAt_0 7 rfl rfl)
theorem dX3_areAt_10 : decode cX3_areAt 10 = .ok (.aload_n 0, 1) := dk_42 (dk_at dksX3_areAt_0 10 rfl rfl)
theorem dX3_areAt_11 : decode cX3_areAt 11 = .ok (.iconst 1, 1) := dk_4 (dk_at dksX3_areAt_0 11 rfl rfl)
theorem dX3_areAt_12 : decode cX3_areAt 12 = .ok (.aload_n 1, 1) := dk_43 (dk_at dksX3_areAt_0 12 rfl rfl)
theorem dX3_areAt_13 : decode cX3_areAt 13 = .ok (.iload_n 3, 1) := dk_29 (dk_at dksX3_areAt_0 13 rfl rfl)
theorem dX3_areAt_14 : decode cX3_areAt 14 = .ok (.invokevirtual 131, 3) := dk_182 0 131 (dk_at dksX3_areAt_0 14 rfl rfl)
theorem dX3_areAt_17 : decode cX3_areAt 17 = .ok (.ifCond .eq 21, 3) := dk_153 0 21 (dk_at dksX3_areAt_0 17 rfl rfl)
theorem dX3_areAt_20 : decode cX3_areAt 20 = .ok (.aload_n 0, 1) := dk_42 (dk_at dksX3_areAt_0 20 rfl rfl)
theorem dX3_areAt_21 : decode cX3_areAt 21 = .ok (.iconst 2, 1) := dk_5 (dk_at dksX3_areAt_0 21 rfl rfl)
theorem dX3_areAt_22 : decode cX3_areAt 22 = .ok (.aload_n 1, 1) := dk_43 (dk_at dksX3_areAt_0 22 rfl rfl)
theorem dX3_areAt_23 : decode cX3_areAt 23 = .ok (.iconst 3, 1) := dk_6 (dk_at dksX3_areAt_0 23 rfl rfl)
theorem dX3_areAt_24 : decode cX3_areAt 24 = .ok (.iload_n 2, 1) := dk_28 (dk_at dksX3_areAt_1 0 rfl rfl)
theorem dX3_areAt_25 : decode cX3_areAt 25 = .ok (.isub, 1) := dk_100 (dk_at dksX3_areAt_1 1 rfl rfl)
theorem dX3_areAt_26 : decode cX3_areAt 26 = .ok (.iload_n 3, 1) := dk_29 (dk_at dksX3_areAt_1 2 rfl rfl)
theorem dX3_areAt_27 : decode cX3_areAt 27 = .ok (.isub, 1) := dk_100 (dk_at dksX3_areAt_1 3 rfl rfl)
theorem dX3_areAt_28 : decode cX3_areAt 28 = .ok (.invokevirtual 131, 3) := dk_182 0 131 (dk_at dksX3_areAt_1 4 rfl rfl)
theorem dX3_areAt_31 : decode cX3_areAt 31 = .ok (.ifCond .eq 7, 3) := dk_153 0 7 (dk_at dksX3_areAt_1 7 rfl rfl)
theorem dX3_areAt_34 : decode cX3_areAt 34 = .ok (.iconst 1, 1) := dk_4 (dk_at dksX3_areAt_1 10 rfl rfl)
theorem dX3_areAt_35 : decode cX3_areAt 35 = .ok (.goto 4, 3) := dk_167 0 4 (dk_at dksX3_areAt_1 11 rfl rfl)
theorem dX3_areAt_38 : decode cX3_areAt 38 = .ok (.iconst 0, 1) := dk_3 (dk_at dksX3_areAt_1 14 rfl rfl)
theorem dX3_areAt_39 : decode cX3_areAt 39 = .ok (.ireturn, 1) := dk_172 (dk_at dksX3_areAt_1 15 rfl rfl)
abbrev cX3_isAt : ByteArray := prog_3_method_18_code
def yX3_isAt : MethodName := ⟨RX3, "isAt", "(ILThreeBodies$Bodies;I)Z"⟩
def dkwX3_isAt_3 : List UInt8 := [180, 0, 28, 29, 47, 148, 154, 0, 7, 4, 167, 0, 4, 3, 172]
abbrev dktX3_isAt_3 : List UInt8 := dkwX3_isAt_3 ++ []
def dkwX3_isAt_2 : List UInt8 := [180, 0, 24, 27, 47, 44, 180, 0, 24, 29, 47, 148, 154, 0, 23, 42, 180, 0, 28, 27, 47, 44]
abbrev dktX3_isAt_2 : List UInt8 := dkwX3_isAt_2 ++ dktX3_isAt_3
def dkwX3_isAt_1 : List UInt8 := [180, 0, 18, 29, 46, 160, 0, 54, 42, 180, 0, 21, 27, 46, 44, 180, 0, 21, 29, 46, 160, 0, 39, 42]
abbrev dktX3_isAt_1 : List UInt8 := dkwX3_isAt_1 ++ dktX3_isAt_2
def dkwX3_isAt_0 : List UInt8 := [42, 180, 0, 15, 27, 46, 44, 180, 0, 15, 29, 46, 160, 0, 69, 42, 180, 0, 18, 27, 46, 44]
abbrev dktX3_isAt_0 : List UInt8 := dkwX3_isAt_0 ++ dktX3_isAt_1
theorem dksX3_isAt_0 : cX3_isAt.data.toList.drop 0 = dktX3_isAt_0 := by decide +kernel
theorem dksX3_isAt_1 : cX3_isAt.data.toList.drop 22 = dktX3_isAt_1 := dk_seg dksX3_isAt_0 22 rfl rfl
theorem dksX3_isAt_2 : cX3_isAt.data.toList.drop 46 = dktX3_isAt_2 := dk_seg dksX3_isAt_1 24 rfl rfl
theorem dksX3_isAt_3 : cX3_isAt.data.toList.drop 68 = dktX3_isAt_3 := dk_seg dksX3_isAt_2 22 rfl rfl
theorem dX3_isAt_0 : decode cX3_isAt 0 = .ok (.aload_n 0, 1) := dk_42 (dk_at dksX3_isAt_0 0 rfl rfl)
theorem dX3_isAt_1 : decode cX3_isAt 1 = .ok (.getfield 15, 3) := dk_180 0 15 (dk_at dksX3_isAt_0 1 rfl rfl)
theorem dX3_isAt_4 : decode cX3_isAt 4 = .ok (.iload_n 1, 1) := dk_27 (dk_at dksX3_isAt_0 4 rfl rfl)
theorem dX3_isAt_5 : decode cX3_isAt 5 = .ok (.iaload, 1) := dk_46 (dk_at dksX3_isAt_0 5 rfl rfl)
theorem dX3_isAt_6 : decode cX3_isAt 6 = .ok (.aload_n 2, 1) := dk_44 (dk_at dksX3_isAt_0 6 rfl rfl)
theorem dX3_isAt_7 : decode cX3_isAt 7 = .ok (.getfield 15, 3) := dk_180 0 15 (dk_at dksX3_isAt_0 7 rfl rfl)
theorem dX3_isAt_10 : decode cX3_isAt 10 = .ok (.iload_n 3, 1) := dk_29 (dk_at dksX3_isAt_0 10 rfl rfl)
theorem dX3_isAt_11 : decode cX3_isAt 11 = .ok (.iaload, 1) := dk_46 (dk_at dksX3_isAt_0 11 rfl rfl)
theorem dX3_isAt_12 : decode cX3_isAt 12 = .ok (.if_icmp .ne 69, 3) := dk_160 0 69 (dk_at dksX3_isAt_0 12 rfl rfl)
theorem dX3_isAt_15 : decode cX3_isAt 15 = .ok (.aload_n 0, 1) := dk_42 (dk_at dksX3_isAt_0 15 rfl rfl)
theorem dX3_isAt_16 : decode cX3_isAt 16 = .ok (.getfield 18, 3) := dk_180 0 18 (dk_at dksX3_isAt_0 16 rfl rfl)
theorem dX3_isAt_19 : decode cX3_isAt 19 = .ok (.iload_n 1, 1) := dk_27 (dk_at dksX3_isAt_0 19 rfl rfl)
theorem dX3_isAt_20 : decode cX3_isAt 20 = .ok (.iaload, 1) := dk_46 (dk_at dksX3_isAt_0 20 rfl rfl)
theorem dX3_isAt_21 : decode cX3_isAt 21 = .ok (.aload_n 2, 1) := dk_44 (dk_at dksX3_isAt_0 21 rfl rfl)
theorem dX3_isAt_22 : decode cX3_isAt 22 = .ok (.getfield 18, 3) := dk_180 0 18 (dk_at dksX3_isAt_1 0 rfl rfl)
theorem dX3_isAt_25 : decode cX3_isAt 25 = .ok (.iload_n 3, 1) := dk_29 (dk_at dksX3_isAt_1 3 rfl rfl)
theorem dX3_isAt_26 : decode cX3_isAt 26 = .ok (.iaload, 1) := dk_46 (dk_at dksX3_isAt_1 4 rfl rfl)
theorem dX3_isAt_27 : decode cX3_isAt 27 = .ok (.if_icmp .ne 54, 3) := dk_160 0 54 (dk_at dksX3_isAt_1 5 rfl rfl)
theorem dX3_isAt_30 : decode cX3_isAt 30 = .ok (.aload_n 0, 1) := dk_42 (dk_at dksX3_isAt_1 8 rfl rfl)
theorem dX3_isAt_31 : decode cX3_isAt 31 = .ok (.getfield 21, 3) := dk_180 0 21 (dk_at dksX3_isAt_1 9 rfl rfl)
theorem dX3_isAt_34 : decode cX3_isAt 34 = .ok (.iload_n 1, 1) := dk_27 (dk_at dksX3_isAt_1 12 rfl rfl)
theorem dX3_isAt_35 : decode cX3_isAt 35 = .ok (.iaload, 1) := dk_46 (dk_at dksX3_isAt_1 13 rfl rfl)
theorem dX3_isAt_36 : decode cX3_isAt 36 = .ok (.aload_n 2, 1) := dk_44 (dk_at dksX3_isAt_1 14 rfl rfl)
theorem dX3_isAt_37 : decode cX3_isAt 37 = .ok (.getfield 21, 3) := dk_180 0 21 (dk_at dksX3_isAt_1 15 rfl rfl)
theorem dX3_isAt_40 : decode cX3_isAt 40 = .ok (.iload_n 3, 1) := dk_29 (dk_at dksX3_isAt_1 18 rfl rfl)
theorem dX3_isAt_41 : decode cX3_isAt 41 = .ok (.iaload, 1) := dk_46 (dk_at dksX3_isAt_1 19 rfl rfl)
theorem dX3_isAt_42 : decode cX3_isAt 42 = .ok (.if_icmp .ne 39, 3) := dk_160 0 39 (dk_at dksX3_isAt_1 20 rfl rfl)
theorem dX3_isAt_45 : decode cX3_isAt 45 = .ok (.aload_n 0, 1) := dk_42 (dk_at dksX3_isAt_1 23 rfl rfl)
theorem dX3_isAt_46 : decode cX3_isAt 46 = .ok (.getfield 24, 3) := dk_180 0 24 (dk_at dksX3_isAt_2 0 rfl rfl)
theorem dX3_isAt_49 : decode cX3_isAt 49 = .ok (.iload_n 1, 1) := dk_27 (dk_at dksX3_isAt_2 3 rfl rfl)
theorem dX3_isAt_50 : decode cX3_isAt 50 = .ok (.laload, 1) := dk_47 (dk_at dksX3_isAt_2 4 rfl rfl)
theorem dX3_isAt_51 : decode cX3_isAt 51 = .ok (.aload_n 2, 1) := dk_44 (dk_at dksX3_isAt_2 5 rfl rfl)
theorem dX3_isAt_52 : decode cX3_isAt 52 = .ok (.getfield 24, 3) := dk_180 0 24 (dk_at dksX3_isAt_2 6 rfl rfl)
theorem dX3_isAt_55 : decode cX3_isAt 55 = .ok (.iload_n 3, 1) := dk_29 (dk_at dksX3_isAt_2 9 rfl rfl)
theorem dX3_isAt_56 : decode cX3_isAt 56 = .ok (.laload, 1) := dk_47 (dk_at dksX3_isAt_2 10 rfl rfl)
theorem dX3_isAt_57 : decode cX3_isAt 57 = .ok (.lcmp, 1) := dk_148 (dk_at dksX3_isAt_2 11 rfl rfl)
theorem dX3_isAt_58 : decode cX3_isAt 58 = .ok (.ifCond .ne 23, 3) := dk_154 0 23 (dk_at dksX3_isAt_2 12 rfl rfl)
theorem dX3_isAt_61 : decode cX3_isAt 61 = .ok (.aload_n 0, 1) := dk_42 (dk_at dksX3_isAt_2 15 rfl rfl)
theorem dX3_isAt_62 : decode cX3_isAt 62 = .ok (.getfield 28, 3) := dk_180 0 28 (dk_at dksX3_isAt_2 16 rfl rfl)
theorem dX3_isAt_65 : decode cX3_isAt 65 = .ok (.iload_n 1, 1) := dk_27 (dk_at dksX3_isAt_2 19 rfl rfl)
theorem dX3_isAt_66 : decode cX3_isAt 66 = .ok (.laload, 1) := dk_47 (dk_at dksX3_isAt_2 20 rfl rfl)
theorem dX3_isAt_67 : decode cX3_isAt 67 = .ok (.aload_n 2, 1) := dk_44 (dk_at dksX3_isAt_2 21 rfl rfl)
theorem dX3_isAt_68 : decode cX3_isAt 68 = .ok (.getfield 28, 3) := dk_180 0 28 (dk_at dksX3_isAt_3 0 rfl rfl)
theorem dX3_isAt_71 : decode cX3_isAt 71 = .ok (.iload_n 3, 1) := dk_29 (dk_at dksX3_isAt_3 3 rfl rfl)
theorem dX3_isAt_72 : decode cX3_isAt 72 = .ok (.laload, 1) := dk_47 (dk_at dksX3_isAt_3 4 rfl rfl)
theorem dX3_isAt_73 : decode cX3_isAt 73 = .ok (.lcmp, 1) := dk_148 (dk_at dksX3_isAt_3 5 rfl rfl)
theorem dX3_isAt_74 : decode cX3_isAt 74 = .ok (.ifCond .ne 7, 3) := dk_154 0 7 (dk_at dksX3_isAt_3 6 rfl rfl)
theorem dX3_isAt_77 : decode cX3_isAt 77 = .ok (.iconst 1, 1) := dk_4 (dk_at dksX3_isAt_3 9 rfl rfl)
theorem dX3_isAt_78 : decode cX3_isAt 78 = .ok (.goto 4, 3) := dk_167 0 4 (dk_at dksX3_isAt_3 10 rfl rfl)
theorem dX3_isAt_81 : decode cX3_isAt 81 = .ok (.iconst 0, 1) := dk_3 (dk_at dksX3_isAt_3 13 rfl rfl)
theorem dX3_isAt_82 : decode cX3_isAt 82 = .ok (.ireturn, 1) := dk_172 (dk_at dksX3_isAt_3 14 rfl rfl)
theorem q101 : (Jvm.Cond.initialized "ThreeBodies$Bodies") ∈ lw_all := lw_g (lw_at lw_m1 3 rfl) rfl
theorem q168 : (Jvm.Cond.instantiable "ThreeBodies$Bodies" (11 : Nat)) ∈ lw_all := lw_g (lw_at lw_m1 70 rfl) rfl
theorem q170 : (Jvm.Cond.instanceMethod ({ cls := "ThreeBodies$Bodies", name := "<init>", desc := "()V" } : Jvm.MethodName)) ∈ lw_all := lw_g (lw_at lw_m1 72 rfl) rfl
theorem q171 : (Jvm.Cond.code ({ cls := "ThreeBodies$Bodies", name := "<init>", desc := "()V" } : Jvm.MethodName) prog_3_method_1_code (1 : Nat) (Option.none : Option Jvm.ClassFile.FieldType)) ∈ lw_all := lw_g (lw_at lw_m1 73 rfl) rfl
theorem q172 : (Jvm.Cond.methodLink "ThreeBodies$Bodies" (3 : Nat) ({ cls := "java/lang/Object", name := "<init>", desc := "()V" } : Jvm.MethodName)) ∈ lw_all := lw_g (lw_at lw_m1 74 rfl) rfl
theorem q173 : (Jvm.Cond.fieldLink "ThreeBodies$Bodies" (9 : Nat) "ThreeBodies$Bodies" "settings" "[I") ∈ lw_all := lw_g (lw_at lw_m1 75 rfl) rfl
theorem q177 : (Jvm.Cond.fieldLink "ThreeBodies$Bodies" (15 : Nat) "ThreeBodies$Bodies" "mass" "[I") ∈ lw_all := lw_g (lw_at lw_m1 79 rfl) rfl
theorem q180 : (Jvm.Cond.fieldLink "ThreeBodies$Bodies" (18 : Nat) "ThreeBodies$Bodies" "x" "[I") ∈ lw_all := lw_g (lw_at lw_m1 82 rfl) rfl
theorem q184 : (Jvm.Cond.fieldLink "ThreeBodies$Bodies" (21 : Nat) "ThreeBodies$Bodies" "y" "[I") ∈ lw_all := lw_g (lw_at lw_m1 86 rfl) rfl
theorem q188 : (Jvm.Cond.fieldLink "ThreeBodies$Bodies" (24 : Nat) "ThreeBodies$Bodies" "px" "[J") ∈ lw_all := lw_g (lw_at lw_m1 90 rfl) rfl
theorem q191 : (Jvm.Cond.fieldLink "ThreeBodies$Bodies" (28 : Nat) "ThreeBodies$Bodies" "py" "[J") ∈ lw_all := lw_g (lw_at lw_m1 93 rfl) rfl
theorem q194 : (Jvm.Cond.fieldLink "ThreeBodies$Bodies" (31 : Nat) "ThreeBodies$Bodies" "oldX" "[I") ∈ lw_all := lw_g (lw_at lw_m1 96 rfl) rfl
theorem q195 : (Jvm.Cond.fieldLink "ThreeBodies$Bodies" (34 : Nat) "ThreeBodies$Bodies" "oldY" "[I") ∈ lw_all := lw_g (lw_at lw_m1 97 rfl) rfl
theorem q196 : (Jvm.Cond.fieldLink "ThreeBodies$Bodies" (37 : Nat) "ThreeBodies$Bodies" "oldPx" "[J") ∈ lw_all := lw_g (lw_at lw_m1 98 rfl) rfl
theorem q197 : (Jvm.Cond.fieldLink "ThreeBodies$Bodies" (40 : Nat) "ThreeBodies$Bodies" "oldPy" "[J") ∈ lw_all := lw_g (lw_at lw_m1 99 rfl) rfl
theorem q198 : (Jvm.Cond.fieldLink "ThreeBodies$Bodies" (49 : Nat) "ThreeBodies$Bodies" "clock" "I") ∈ lw_all := lw_g (lw_at lw_m1 100 rfl) rfl
theorem q201 : (Jvm.Cond.laysFinal "ThreeBodies$Bodies" "ThreeBodies$Bodies" "settings" "[I") ∈ lw_all := lw_g (lw_at lw_m1 103 rfl) rfl
theorem q202 : (Jvm.Cond.soleField "ThreeBodies$Bodies" "settings") ∈ lw_all := lw_g (lw_at lw_m1 104 rfl) rfl
theorem q203 : (Jvm.Cond.laysFinal "ThreeBodies$Bodies" "ThreeBodies$Bodies" "mass" "[I") ∈ lw_all := lw_g (lw_at lw_m1 105 rfl) rfl
theorem q204 : (Jvm.Cond.soleField "ThreeBodies$Bodies" "mass") ∈ lw_all := lw_g (lw_at lw_m1 106 rfl) rfl
theorem q205 : (Jvm.Cond.laysFinal "ThreeBodies$Bodies" "ThreeBodies$Bodies" "x" "[I") ∈ lw_all := lw_g (lw_at lw_m1 107 rfl) rfl
theorem q206 : (Jvm.Cond.soleField "ThreeBodies$Bodies" "x") ∈ lw_all := lw_g (lw_at lw_m1 108 rfl) rfl
theorem q207 : (Jvm.Cond.laysFinal "ThreeBodies$Bodies" "ThreeBodies$Bodies" "y" "[I") ∈ lw_all := lw_g (lw_at lw_m1 109 rfl) rfl
theorem q208 : (Jvm.Cond.soleField "ThreeBodies$Bodies" "y") ∈ lw_all := lw_g (lw_at lw_m1 110 rfl) rfl
theorem q209 : (Jvm.Cond.laysFinal "ThreeBodies$Bodies" "ThreeBodies$Bodies" "px" "[J") ∈ lw_all := lw_g (lw_at lw_m1 111 rfl) rfl
theorem q210 : (Jvm.Cond.soleField "ThreeBodies$Bodies" "px") ∈ lw_all := lw_g (lw_at lw_m1 112 rfl) rfl
theorem q211 : (Jvm.Cond.laysFinal "ThreeBodies$Bodies" "ThreeBodies$Bodies" "py" "[J") ∈ lw_all := lw_g (lw_at lw_m1 113 rfl) rfl
theorem q212 : (Jvm.Cond.soleField "ThreeBodies$Bodies" "py") ∈ lw_all := lw_g (lw_at lw_m1 114 rfl) rfl
theorem q213 : (Jvm.Cond.laysFinal "ThreeBodies$Bodies" "ThreeBodies$Bodies" "oldX" "[I") ∈ lw_all := lw_g (lw_at lw_m1 115 rfl) rfl
theorem q214 : (Jvm.Cond.soleField "ThreeBodies$Bodies" "oldX") ∈ lw_all := lw_g (lw_at lw_m1 116 rfl) rfl
theorem q215 : (Jvm.Cond.laysFinal "ThreeBodies$Bodies" "ThreeBodies$Bodies" "oldY" "[I") ∈ lw_all := lw_g (lw_at lw_m1 117 rfl) rfl
theorem q216 : (Jvm.Cond.soleField "ThreeBodies$Bodies" "oldY") ∈ lw_all := lw_g (lw_at lw_m1 118 rfl) rfl
theorem q217 : (Jvm.Cond.laysFinal "ThreeBodies$Bodies" "ThreeBodies$Bodies" "oldPx" "[J") ∈ lw_all := lw_g (lw_at lw_m1 119 rfl) rfl
theorem q218 : (Jvm.Cond.soleField "ThreeBodies$Bodies" "oldPx") ∈ lw_all := lw_g (lw_at lw_m1 120 rfl) rfl
theorem q219 : (Jvm.Cond.laysFinal "ThreeBodies$Bodies" "ThreeBodies$Bodies" "oldPy" "[J") ∈ lw_all := lw_g (lw_at lw_m1 121 rfl) rfl
theorem q220 : (Jvm.Cond.soleField "ThreeBodies$Bodies" "oldPy") ∈ lw_all := lw_g (lw_at lw_m1 122 rfl) rfl
theorem q221 : (Jvm.Cond.lays "ThreeBodies$Bodies" "ThreeBodies$Bodies" "clock" "I") ∈ lw_all := lw_g (lw_at lw_m1 123 rfl) rfl
theorem q222 : (Jvm.Cond.soleField "ThreeBodies$Bodies" "clock") ∈ lw_all := lw_g (lw_at lw_m1 124 rfl) rfl
theorem q223 : (Jvm.Cond.superclass "ThreeBodies$Bodies" "java/lang/Object") ∈ lw_all := lw_g (lw_at lw_m1 125 rfl) rfl
theorem q255 : (Jvm.Cond.instanceMethod ({ cls := "ThreeBodies$Bodies", name := "energy", desc := "()J" } : Jvm.MethodName)) ∈ lw_all := lw_g (lw_at lw_m1 157 rfl) rfl
theorem q256 : (Jvm.Cond.selects "ThreeBodies$Bodies" ({ cls := "ThreeBodies$Bodies", name := "energy", desc := "()J" } : Jvm.MethodName) ({ cls := "ThreeBodies$Bodies", name := "energy", desc := "()J" } : Jvm.MethodName)) ∈ lw_all := lw_g (lw_at lw_m1 158 rfl) rfl
theorem q257 : (Jvm.Cond.code ({ cls := "ThreeBodies$Bodies", name := "energy", desc := "()J" } : Jvm.MethodName) prog_3_method_16_code (1 : Nat) (Option.some Jvm.ClassFile.FieldType.long)) ∈ lw_all := lw_g (lw_at lw_m1 159 rfl) rfl
theorem q258 : (Jvm.Cond.methodLink "ThreeBodies$Bodies" (121 : Nat) ({ cls := "ThreeBodies$Bodies", name := "kinetic", desc := "()J" } : Jvm.MethodName)) ∈ lw_all := lw_g (lw_at lw_m1 160 rfl) rfl
theorem q259 : (Jvm.Cond.instanceMethod ({ cls := "ThreeBodies$Bodies", name := "kinetic", desc := "()J" } : Jvm.MethodName)) ∈ lw_all := lw_g (lw_at lw_m1 161 rfl) rfl
theorem q260 : (Jvm.Cond.selects "ThreeBodies$Bodies" ({ cls := "ThreeBodies$Bodies", name := "kinetic", desc := "()J" } : Jvm.MethodName) ({ cls := "ThreeBodies$Bodies", name := "kinetic", desc := "()J" } : Jvm.MethodName)) ∈ lw_all := lw_g (lw_at lw_m1 162 rfl) rfl
theorem q261 : (Jvm.Cond.code ({ cls := "ThreeBodies$Bodies", name := "kinetic", desc := "()J" } : Jvm.MethodName) prog_3_method_14_code (4 : Nat) (Option.some Jvm.ClassFile.FieldType.long)) ∈ lw_all := lw_g (lw_at lw_m1 163 rfl) rfl
theorem q262 : (Jvm.Cond.constantLong "ThreeBodies$Bodies" (119 : Nat) (2 : Int64)) ∈ lw_all := lw_g (lw_at lw_m1 164 rfl) rfl
theorem q263 : (Jvm.Cond.methodLink "ThreeBodies$Bodies" (125 : Nat) ({ cls := "ThreeBodies$Bodies", name := "potential", desc := "()J" } : Jvm.MethodName)) ∈ lw_all := lw_g (lw_at lw_m1 165 rfl) rfl
theorem q264 : (Jvm.Cond.instanceMethod ({ cls := "ThreeBodies$Bodies", name := "potential", desc := "()J" } : Jvm.MethodName)) ∈ lw_all := lw_g (lw_at lw_m1 166 rfl) rfl
theorem q265 : (Jvm.Cond.selects "ThreeBodies$Bodies" ({ cls := "ThreeBodies$Bodies", name := "potential", desc := "()J" } : Jvm.MethodName) ({ cls := "ThreeBodies$Bodies", name := "potential", desc := "()J" } : Jvm.MethodName)) ∈ lw_all := lw_g (lw_at lw_m1 167 rfl) rfl
theorem q266 : (Jvm.Cond.code ({ cls := "ThreeBodies$Bodies", name := "potential", desc := "()J" } : Jvm.MethodName) prog_3_method_15_code (4 : Nat) (Option.some Jvm.ClassFile.FieldType.long)) ∈ lw_all := lw_g (lw_at lw_m1 168 rfl) rfl
theorem q267 : (Jvm.Cond.methodLink "ThreeBodies$Bodies" (71 : Nat) ({ cls := "ThreeBodies$Bodies", name := "strength", desc := "(I)J" } : Jvm.MethodName)) ∈ lw_all := lw_g (lw_at lw_m1 169 rfl) rfl
theorem q268 : (Jvm.Cond.privateMethod ({ cls := "ThreeBodies$Bodies", name := "strength", desc := "(I)J" } : Jvm.MethodName)) ∈ lw_tbl := lw_at lw_m1 170 rfl
theorem q269 : (Jvm.Cond.instanceMethod ({ cls := "ThreeBodies$Bodies", name := "strength", desc := "(I)J" } : Jvm.MethodName)) ∈ lw_all := lw_g (lw_at lw_m1 171 rfl) rfl
theorem q270 : (Jvm.Cond.code ({ cls := "ThreeBodies$Bodies", name := "strength", desc := "(I)J" } : Jvm.MethodName) prog_3_method_5_code (2 : Nat) (Option.some Jvm.ClassFile.FieldType.long)) ∈ lw_all := lw_g (lw_at lw_m1 172 rfl) rfl
theorem q271 : (Jvm.Cond.fieldLinkNest "ThreeBodies$Bodies" (53 : Nat) "ThreeBodies" "ONE" "[I" "ThreeBodies") ∈ lw_tbl := lw_at lw_m1 173 rfl
theorem q273 : (Jvm.Cond.fieldLinkNest "ThreeBodies$Bodies" (56 : Nat) "ThreeBodies" "OTHER" "[I" "ThreeBodies") ∈ lw_tbl := lw_at lw_m1 175 rfl
theorem q275 : (Jvm.Cond.methodLink "ThreeBodies$Bodies" (67 : Nat) ({ cls := "ThreeBodies$Bodies", name := "reach", desc := "(I)J" } : Jvm.MethodName)) ∈ lw_all := lw_g (lw_at lw_m1 177 rfl) rfl
theorem q276 : (Jvm.Cond.privateMethod ({ cls := "ThreeBodies$Bodies", name := "reach", desc := "(I)J" } : Jvm.MethodName)) ∈ lw_tbl := lw_at lw_m1 178 rfl
theorem q277 : (Jvm.Cond.instanceMethod ({ cls := "ThreeBodies$Bodies", name := "reach", desc := "(I)J" } : Jvm.MethodName)) ∈ lw_all := lw_g (lw_at lw_m1 179 rfl) rfl
theorem q278 : (Jvm.Cond.code ({ cls := "ThreeBodies$Bodies", name := "reach", desc := "(I)J" } : Jvm.MethodName) prog_3_method_4_code (2 : Nat) (Option.some Jvm.ClassFile.FieldType.long)) ∈ lw_all := lw_g (lw_at lw_m1 180 rfl) rfl
theorem q279 : (Jvm.Cond.methodLink "ThreeBodies$Bodies" (63 : Nat) ({ cls := "ThreeBodies$Bodies", name := "distanceOf", desc := "(I)I" } : Jvm.MethodName)) ∈ lw_all := lw_g (lw_at lw_m1 181 rfl) rfl
theorem q280 : (Jvm.Cond.instanceMethod ({ cls := "ThreeBodies$Bodies", name := "distanceOf", desc := "(I)I" } : Jvm.MethodName)) ∈ lw_all := lw_g (lw_at lw_m1 182 rfl) rfl
theorem q281 : (Jvm.Cond.selects "ThreeBodies$Bodies" ({ cls := "ThreeBodies$Bodies", name := "distanceOf", desc := "(I)I" } : Jvm.MethodName) ({ cls := "ThreeBodies$Bodies", name := "distanceOf", desc := "(I)I" } : Jvm.MethodName)) ∈ lw_all := lw_g (lw_at lw_m1 183 rfl) rfl
theorem q282 : (Jvm.Cond.code ({ cls := "ThreeBodies$Bodies", name := "distanceOf", desc := "(I)I" } : Jvm.MethodName) prog_3_method_3_code (2 : Nat) (Option.some Jvm.ClassFile.FieldType.int)) ∈ lw_all := lw_g (lw_at lw_m1 184 rfl) rfl
theorem q283 : (Jvm.Cond.methodLinkNest "ThreeBodies$Bodies" (59 : Nat) ({ cls := "ThreeBodies", name := "distance", desc := "(JJ)I" } : Jvm.MethodName) "ThreeBodies") ∈ lw_tbl := lw_at lw_m1 185 rfl
theorem q328 : (Jvm.Cond.instanceMethod ({ cls := "ThreeBodies$Bodies", name := "kick", desc := "(II)V" } : Jvm.MethodName)) ∈ lw_all := lw_g (lw_at lw_m1 230 rfl) rfl
theorem q329 : (Jvm.Cond.selects "ThreeBodies$Bodies" ({ cls := "ThreeBodies$Bodies", name := "kick", desc := "(II)V" } : Jvm.MethodName) ({ cls := "ThreeBodies$Bodies", name := "kick", desc := "(II)V" } : Jvm.MethodName)) ∈ lw_all := lw_g (lw_at lw_m1 231 rfl) rfl
theorem q330 : (Jvm.Cond.code ({ cls := "ThreeBodies$Bodies", name := "kick", desc := "(II)V" } : Jvm.MethodName) prog_3_method_8_code (8 : Nat) (Option.none : Option Jvm.ClassFile.FieldType)) ∈ lw_all := lw_g (lw_at lw_m1 232 rfl) rfl
theorem q331 : (Jvm.Cond.methodLink "ThreeBodies$Bodies" (81 : Nat) ({ cls := "ThreeBodies$Bodies", name := "impulse", desc := "(II)J" } : Jvm.MethodName)) ∈ lw_all := lw_g (lw_at lw_m1 233 rfl) rfl
theorem q332 : (Jvm.Cond.instanceMethod ({ cls := "ThreeBodies$Bodies", name := "impulse", desc := "(II)J" } : Jvm.MethodName)) ∈ lw_all := lw_g (lw_at lw_m1 234 rfl) rfl
theorem q333 : (Jvm.Cond.selects "ThreeBodies$Bodies" ({ cls := "ThreeBodies$Bodies", name := "impulse", desc := "(II)J" } : Jvm.MethodName) ({ cls := "ThreeBodies$Bodies", name := "impulse", desc := "(II)J" } : Jvm.MethodName)) ∈ lw_all := lw_g (lw_at lw_m1 235 rfl) rfl
theorem q334 : (Jvm.Cond.code ({ cls := "ThreeBodies$Bodies", name := "impulse", desc := "(II)J" } : Jvm.MethodName) prog_3_method_6_code (6 : Nat) (Option.some Jvm.ClassFile.FieldType.long)) ∈ lw_all := lw_g (lw_at lw_m1 236 rfl) rfl
theorem q335 : (Jvm.Cond.constantLong "ThreeBodies$Bodies" (85 : Nat) (1000000000 : Int64)) ∈ lw_all := lw_g (lw_at lw_m1 237 rfl) rfl
theorem q336 : (Jvm.Cond.methodLink "ThreeBodies$Bodies" (87 : Nat) ({ cls := "ThreeBodies$Bodies", name := "check", desc := "(JJ)V" } : Jvm.MethodName)) ∈ lw_all := lw_g (lw_at lw_m1 238 rfl) rfl
theorem q337 : (Jvm.Cond.static ({ cls := "ThreeBodies$Bodies", name := "check", desc := "(JJ)V" } : Jvm.MethodName)) ∈ lw_all := lw_g (lw_at lw_m1 239 rfl) rfl
theorem q338 : (Jvm.Cond.code ({ cls := "ThreeBodies$Bodies", name := "check", desc := "(JJ)V" } : Jvm.MethodName) prog_3_method_7_code (4 : Nat) (Option.none : Option Jvm.ClassFile.FieldType)) ∈ lw_all := lw_g (lw_at lw_m2 0 rfl) rfl
theorem q339 : (Jvm.Cond.methodLinkNest "ThreeBodies$Bodies" (74 : Nat) ({ cls := "ThreeBodies", name := "inRange", desc := "(JJJ)Z" } : Jvm.MethodName) "ThreeBodies") ∈ lw_tbl := lw_at lw_m2 1 rfl
theorem q342 : (Jvm.Cond.classLink "ThreeBodies$Bodies" (78 : Nat) "ThreeBodies$EscapeException") ∈ lw_all := lw_g (lw_at lw_m2 4 rfl) rfl
theorem q386 : (Jvm.Cond.methodLink "ThreeBodies$Bodies" (80 : Nat) ({ cls := "ThreeBodies$EscapeException", name := "<init>", desc := "()V" } : Jvm.MethodName)) ∈ lw_all := lw_g (lw_at lw_m2 48 rfl) rfl
theorem q413 : (Jvm.Cond.instanceMethod ({ cls := "ThreeBodies$Bodies", name := "drift", desc := "(II)V" } : Jvm.MethodName)) ∈ lw_all := lw_g (lw_at lw_m2 75 rfl) rfl
theorem q414 : (Jvm.Cond.selects "ThreeBodies$Bodies" ({ cls := "ThreeBodies$Bodies", name := "drift", desc := "(II)V" } : Jvm.MethodName) ({ cls := "ThreeBodies$Bodies", name := "drift", desc := "(II)V" } : Jvm.MethodName)) ∈ lw_all := lw_g (lw_at lw_m2 76 rfl) rfl
theorem q415 : (Jvm.Cond.code ({ cls := "ThreeBodies$Bodies", name := "drift", desc := "(II)V" } : Jvm.MethodName) prog_3_method_10_code (4 : Nat) (Option.none : Option Jvm.ClassFile.FieldType)) ∈ lw_all := lw_g (lw_at lw_m2 77 rfl) rfl
theorem q416 : (Jvm.Cond.methodLink "ThreeBodies$Bodies" (99 : Nat) ({ cls := "ThreeBodies$Bodies", name := "moved", desc := "(IJII)I" } : Jvm.MethodName)) ∈ lw_all := lw_g (lw_at lw_m2 78 rfl) rfl
theorem q417 : (Jvm.Cond.privateMethod ({ cls := "ThreeBodies$Bodies", name := "moved", desc := "(IJII)I" } : Jvm.MethodName)) ∈ lw_tbl := lw_at lw_m2 79 rfl
theorem q418 : (Jvm.Cond.instanceMethod ({ cls := "ThreeBodies$Bodies", name := "moved", desc := "(IJII)I" } : Jvm.MethodName)) ∈ lw_all := lw_g (lw_at lw_m2 80 rfl) rfl
theorem q419 : (Jvm.Cond.code ({ cls := "ThreeBodies$Bodies", name := "moved", desc := "(IJII)I" } : Jvm.MethodName) prog_3_method_9_code (8 : Nat) (Option.some Jvm.ClassFile.FieldType.int)) ∈ lw_all := lw_g (lw_at lw_m2 81 rfl) rfl
theorem q420 : (Jvm.Cond.methodLink "ThreeBodies$Bodies" (91 : Nat) ({ cls := "java/lang/Math", name := "floorDiv", desc := "(JJ)J" } : Jvm.MethodName)) ∈ lw_all := lw_g (lw_at lw_m2 82 rfl) rfl
theorem q423 : (Jvm.Cond.constantLong "ThreeBodies$Bodies" (97 : Nat) (100000 : Int64)) ∈ lw_all := lw_g (lw_at lw_m2 85 rfl) rfl
theorem q592 : (Jvm.Cond.instanceMethod ({ cls := "ThreeBodies$Bodies", name := "band", desc := "()J" } : Jvm.MethodName)) ∈ lw_all := lw_g (lw_at lw_m3 14 rfl) rfl
theorem q593 : (Jvm.Cond.selects "ThreeBodies$Bodies" ({ cls := "ThreeBodies$Bodies", name := "band", desc := "()J" } : Jvm.MethodName) ({ cls := "ThreeBodies$Bodies", name := "band", desc := "()J" } : Jvm.MethodName)) ∈ lw_all := lw_g (lw_at lw_m3 15 rfl) rfl
theorem q594 : (Jvm.Cond.code ({ cls := "ThreeBodies$Bodies", name := "band", desc := "()J" } : Jvm.MethodName) prog_3_method_17_code (1 : Nat) (Option.some Jvm.ClassFile.FieldType.long)) ∈ lw_all := lw_g (lw_at lw_m3 16 rfl) rfl
theorem q595 : (Jvm.Cond.methodLink "ThreeBodies$Bodies" (128 : Nat) ({ cls := "ThreeBodies$Bodies", name := "energy", desc := "()J" } : Jvm.MethodName)) ∈ lw_all := lw_g (lw_at lw_m3 17 rfl) rfl
theorem q667 : (Jvm.Cond.instanceMethod ({ cls := "ThreeBodies$Bodies", name := "become", desc := "(LThreeBodies$Bodies;)V" } : Jvm.MethodName)) ∈ lw_all := lw_g (lw_at lw_m3 89 rfl) rfl
theorem q668 : (Jvm.Cond.selects "ThreeBodies$Bodies" ({ cls := "ThreeBodies$Bodies", name := "become", desc := "(LThreeBodies$Bodies;)V" } : Jvm.MethodName) ({ cls := "ThreeBodies$Bodies", name := "become", desc := "(LThreeBodies$Bodies;)V" } : Jvm.MethodName)) ∈ lw_all := lw_g (lw_at lw_m3 90 rfl) rfl
theorem q669 : (Jvm.Cond.code ({ cls := "ThreeBodies$Bodies", name := "become", desc := "(LThreeBodies$Bodies;)V" } : Jvm.MethodName) prog_3_method_2_code (2 : Nat) (Option.none : Option Jvm.ClassFile.FieldType)) ∈ lw_all := lw_g (lw_at lw_m3 91 rfl) rfl
theorem q670 : (Jvm.Cond.methodLink "ThreeBodies$Bodies" (43 : Nat) ({ cls := "java/lang/System", name := "arraycopy", desc := "(Ljava/lang/Object;ILjava/lang/Object;II)V" } : Jvm.MethodName)) ∈ lw_all := lw_g (lw_at lw_m3 92 rfl) rfl
theorem q708 : (Jvm.Cond.instanceMethod ({ cls := "ThreeBodies$Bodies", name := "step", desc := "([[LThreeBodies$Part;I)Z" } : Jvm.MethodName)) ∈ lw_all := lw_g (lw_at lw_m3 130 rfl) rfl
theorem q709 : (Jvm.Cond.selects "ThreeBodies$Bodies" ({ cls := "ThreeBodies$Bodies", name := "step", desc := "([[LThreeBodies$Part;I)Z" } : Jvm.MethodName) ({ cls := "ThreeBodies$Bodies", name := "step", desc := "([[LThreeBodies$Part;I)Z" } : Jvm.MethodName)) ∈ lw_all := lw_g (lw_at lw_m3 131 rfl) rfl
theorem q710 : (Jvm.Cond.codeWith ({ cls := "ThreeBodies$Bodies", name := "step", desc := "([[LThreeBodies$Part;I)Z" } : Jvm.MethodName) prog_3_method_13_code (5 : Nat) (Option.some Jvm.ClassFile.FieldType.boolean) [((34 : Nat), (75 : Nat), (78 : Nat), (78 : Nat))]) ∈ lw_all := lw_g (lw_at lw_m3 132 rfl) rfl
theorem q711 : (Jvm.Cond.constantLong "ThreeBodies$Bodies" (103 : Nat) (-1000000 : Int64)) ∈ lw_all := lw_g (lw_at lw_m3 133 rfl) rfl
theorem q712 : (Jvm.Cond.constantLong "ThreeBodies$Bodies" (105 : Nat) (1000000 : Int64)) ∈ lw_all := lw_g (lw_at lw_m3 134 rfl) rfl
theorem q713 : (Jvm.Cond.methodLink "ThreeBodies$Bodies" (107 : Nat) ({ cls := "ThreeBodies$Bodies", name := "keep", desc := "()V" } : Jvm.MethodName)) ∈ lw_all := lw_g (lw_at lw_m3 135 rfl) rfl
theorem q714 : (Jvm.Cond.privateMethod ({ cls := "ThreeBodies$Bodies", name := "keep", desc := "()V" } : Jvm.MethodName)) ∈ lw_tbl := lw_at lw_m3 136 rfl
theorem q715 : (Jvm.Cond.instanceMethod ({ cls := "ThreeBodies$Bodies", name := "keep", desc := "()V" } : Jvm.MethodName)) ∈ lw_all := lw_g (lw_at lw_m3 137 rfl) rfl
theorem q716 : (Jvm.Cond.code ({ cls := "ThreeBodies$Bodies", name := "keep", desc := "()V" } : Jvm.MethodName) prog_3_method_11_code (1 : Nat) (Option.none : Option Jvm.ClassFile.FieldType)) ∈ lw_all := lw_g (lw_at lw_m3 138 rfl) rfl
theorem q717 : (Jvm.Cond.interfaceEntry "ThreeBodies$Bodies" (110 : Nat)) ∈ lw_tbl := lw_at lw_m3 139 rfl
theorem q718 : (Jvm.Cond.methodLink "ThreeBodies$Bodies" (110 : Nat) ({ cls := "ThreeBodies$Part", name := "make", desc := "(LThreeBodies$Bodies;I)V" } : Jvm.MethodName)) ∈ lw_all := lw_g (lw_at lw_m3 140 rfl) rfl
theorem q721 : (Jvm.Cond.methodLink "ThreeBodies$Bodies" (116 : Nat) ({ cls := "ThreeBodies$Bodies", name := "layBack", desc := "()V" } : Jvm.MethodName)) ∈ lw_all := lw_g (lw_at lw_m3 143 rfl) rfl
theorem q722 : (Jvm.Cond.privateMethod ({ cls := "ThreeBodies$Bodies", name := "layBack", desc := "()V" } : Jvm.MethodName)) ∈ lw_tbl := lw_at lw_m3 144 rfl
theorem q723 : (Jvm.Cond.instanceMethod ({ cls := "ThreeBodies$Bodies", name := "layBack", desc := "()V" } : Jvm.MethodName)) ∈ lw_all := lw_g (lw_at lw_m3 145 rfl) rfl
theorem q724 : (Jvm.Cond.code ({ cls := "ThreeBodies$Bodies", name := "layBack", desc := "()V" } : Jvm.MethodName) prog_3_method_12_code (1 : Nat) (Option.none : Option Jvm.ClassFile.FieldType)) ∈ lw_all := lw_g (lw_at lw_m3 146 rfl) rfl
theorem q804 : (Jvm.Cond.selects "ThreeBodies$Bodies" ({ cls := "java/lang/Object", name := "getClass", desc := "()Ljava/lang/Class;" } : Jvm.MethodName) ({ cls := "java/lang/Object", name := "getClass", desc := "()Ljava/lang/Class;" } : Jvm.MethodName)) ∈ lw_all := lw_g (lw_at lw_m3 226 rfl) rfl
theorem q1728 : (Jvm.Cond.instanceMethod ({ cls := "ThreeBodies$Bodies", name := "isLike", desc := "(LThreeBodies$Bodies;Z)Z" } : Jvm.MethodName)) ∈ lw_all := lw_g (lw_at lw_m7 190 rfl) rfl
theorem q1729 : (Jvm.Cond.selects "ThreeBodies$Bodies" ({ cls := "ThreeBodies$Bodies", name := "isLike", desc := "(LThreeBodies$Bodies;Z)Z" } : Jvm.MethodName) ({ cls := "ThreeBodies$Bodies", name := "isLike", desc := "(LThreeBodies$Bodies;Z)Z" } : Jvm.MethodName)) ∈ lw_all := lw_g (lw_at lw_m7 191 rfl) rfl
theorem q1730 : (Jvm.Cond.code ({ cls := "ThreeBodies$Bodies", name := "isLike", desc := "(LThreeBodies$Bodies;Z)Z" } : Jvm.MethodName) prog_3_method_20_code (5 : Nat) (Option.some Jvm.ClassFile.FieldType.boolean)) ∈ lw_all := lw_g (lw_at lw_m7 192 rfl) rfl
theorem q1731 : (Jvm.Cond.methodLink "ThreeBodies$Bodies" (135 : Nat) ({ cls := "ThreeBodies$Bodies", name := "areAt", desc := "(LThreeBodies$Bodies;II)Z" } : Jvm.MethodName)) ∈ lw_all := lw_g (lw_at lw_m7 193 rfl) rfl
theorem q1732 : (Jvm.Cond.privateMethod ({ cls := "ThreeBodies$Bodies", name := "areAt", desc := "(LThreeBodies$Bodies;II)Z" } : Jvm.MethodName)) ∈ lw_tbl := lw_at lw_m7 194 rfl
theorem q1733 : (Jvm.Cond.instanceMethod ({ cls := "ThreeBodies$Bodies", name := "areAt", desc := "(LThreeBodies$Bodies;II)Z" } : Jvm.MethodName)) ∈ lw_all := lw_g (lw_at lw_m7 195 rfl) rfl
theorem q1734 : (Jvm.Cond.code ({ cls := "ThreeBodies$Bodies", name := "areAt", desc := "(LThreeBodies$Bodies;II)Z" } : Jvm.MethodName) prog_3_method_19_code (4 : Nat) (Option.some Jvm.ClassFile.FieldType.boolean)) ∈ lw_all := lw_g (lw_at lw_m7 196 rfl) rfl
theorem q1735 : (Jvm.Cond.methodLink "ThreeBodies$Bodies" (131 : Nat) ({ cls := "ThreeBodies$Bodies", name := "isAt", desc := "(ILThreeBodies$Bodies;I)Z" } : Jvm.MethodName)) ∈ lw_all := lw_g (lw_at lw_m7 197 rfl) rfl
theorem q1736 : (Jvm.Cond.instanceMethod ({ cls := "ThreeBodies$Bodies", name := "isAt", desc := "(ILThreeBodies$Bodies;I)Z" } : Jvm.MethodName)) ∈ lw_all := lw_g (lw_at lw_m7 198 rfl) rfl
theorem q1737 : (Jvm.Cond.selects "ThreeBodies$Bodies" ({ cls := "ThreeBodies$Bodies", name := "isAt", desc := "(ILThreeBodies$Bodies;I)Z" } : Jvm.MethodName) ({ cls := "ThreeBodies$Bodies", name := "isAt", desc := "(ILThreeBodies$Bodies;I)Z" } : Jvm.MethodName)) ∈ lw_all := lw_g (lw_at lw_m7 199 rfl) rfl
theorem q1738 : (Jvm.Cond.code ({ cls := "ThreeBodies$Bodies", name := "isAt", desc := "(ILThreeBodies$Bodies;I)Z" } : Jvm.MethodName) prog_3_method_18_code (4 : Nat) (Option.some Jvm.ClassFile.FieldType.boolean)) ∈ lw_all := lw_g (lw_at lw_m7 200 rfl) rfl
theorem q1848 : (Jvm.Cond.selects "ThreeBodies$Bodies" ({ cls := "java/lang/Object", name := "hashCode", desc := "()I" } : Jvm.MethodName) ({ cls := "java/lang/Object", name := "hashCode", desc := "()I" } : Jvm.MethodName)) ∈ lw_all := lw_g (lw_at lw_m8 70 rfl) rfl
theorem q1934 : (Jvm.Cond.selects "ThreeBodies$Bodies" ({ cls := "java/lang/Object", name := "equals", desc := "(Ljava/lang/Object;)Z" } : Jvm.MethodName) ({ cls := "java/lang/Object", name := "equals", desc := "(Ljava/lang/Object;)Z" } : Jvm.MethodName)) ∈ lw_all := lw_g (lw_at lw_m8 156 rfl) rfl
theorem q3391 : (Jvm.Cond.castable "ThreeBodies$Bodies" "java/lang/Object") ∈ lw_tbl := lw_at lw_m14 173 rfl
theorem in_X3 : ∀ w ∈ wsX30, w ∈ lw_all := lw_in wsX30 [201, 203, 205, 207, 209, 211, 213, 215, 217, 219, 221] (by decide +kernel) (by decide +kernel)
/-! ThreeBodies$EscapeException -/
set_option maxRecDepth 100000
def RX4 : String := "ThreeBodies$EscapeException"
def TX4 : u_T := fun k => match k with
  | 0 => ("java/lang/Throwable", "cause", "Ljava/lang/Throwable;", false)
  | 1 => ("java/lang/Throwable", "stackTrace", "[Ljava/lang/StackTraceElement;", false)
  | 2 => ("java/lang/Throwable", "suppressedExceptions", "Ljava/util/List;", false)
  | 3 => ("java/lang/Throwable", "detailMessage", "Ljava/lang/String;", false)
  | 4 => ("java/lang/Throwable", "backtrace", "Ljava/lang/Object;", false)
  | _ => ("java/lang/Throwable", "depth", "I", false)
def tyX4 : Nat → FieldType := fun k => match k with
  | 0 => .object "java/lang/Throwable"
  | 1 => .array (.object "java/lang/StackTraceElement")
  | 2 => .object "java/util/List"
  | 3 => .object "java/lang/String"
  | 4 => .object "java/lang/Object"
  | _ => .int
abbrev wsX40 : List Cond := u_ws RX4 TX4 6
theorem nmX4 : ∀ a, a < 6 → ∀ b, b < 6 → a ≠ b → (TX4 a).2.1 ≠ (TX4 b).2.1 := by decide +kernel
theorem tyX4_ok : ∀ k, k < 6 → parseFieldDescriptor (TX4 k).2.2.1 = some (tyX4 k) := by decide +kernel
abbrev cX4_init : ByteArray := prog_6_method_1_code
def yX4_init : MethodName := ⟨RX4, "<init>", "()V"⟩
def dkwX4_init_0 : List UInt8 := [42, 1, 1, 3, 3, 183, 0, 1, 177]
abbrev dktX4_init_0 : List UInt8 := dkwX4_init_0 ++ []
theorem dksX4_init_0 : cX4_init.data.toList.drop 0 = dktX4_init_0 := by decide +kernel
theorem dX4_init_0 : decode cX4_init 0 = .ok (.aload_n 0, 1) := dk_42 (dk_at dksX4_init_0 0 rfl rfl)
theorem dX4_init_1 : decode cX4_init 1 = .ok (.aconst_null, 1) := dk_1 (dk_at dksX4_init_0 1 rfl rfl)
theorem dX4_init_2 : decode cX4_init 2 = .ok (.aconst_null, 1) := dk_1 (dk_at dksX4_init_0 2 rfl rfl)
theorem dX4_init_3 : decode cX4_init 3 = .ok (.iconst 0, 1) := dk_3 (dk_at dksX4_init_0 3 rfl rfl)
theorem dX4_init_4 : decode cX4_init 4 = .ok (.iconst 0, 1) := dk_3 (dk_at dksX4_init_0 4 rfl rfl)
theorem dX4_init_5 : decode cX4_init 5 = .ok (.invokespecial 1, 3) := dk_183 0 1 (dk_at dksX4_init_0 5 rfl rfl)
theorem dX4_init_8 : decode cX4_init 8 = .ok (.return_, 1) := dk_177 (dk_at dksX4_init_0 8 rfl rfl)
theorem q106 : (Jvm.Cond.initialized "ThreeBodies$EscapeException") ∈ lw_all := lw_g (lw_at lw_m1 8 rfl) rfl
theorem q343 : (Jvm.Cond.instantiable "ThreeBodies$EscapeException" (6 : Nat)) ∈ lw_all := lw_g (lw_at lw_m2 5 rfl) rfl
theorem q344 : (Jvm.Cond.castable "ThreeBodies$EscapeException" "ThreeBodies$EscapeException") ∈ lw_tbl := lw_at lw_m2 6 rfl
theorem q349 : (Jvm.Cond.selects "ThreeBodies$EscapeException" ({ cls := "java/lang/Throwable", name := "fillInStackTrace", desc := "(I)Ljava/lang/Throwable;" } : Jvm.MethodName) ({ cls := "java/lang/Throwable", name := "fillInStackTrace", desc := "(I)Ljava/lang/Throwable;" } : Jvm.MethodName)) ∈ lw_all := lw_g (lw_at lw_m2 11 rfl) rfl
theorem q350 : (Jvm.Cond.selects "ThreeBodies$EscapeException" ({ cls := "java/lang/Throwable", name := "fillInStackTrace", desc := "()Ljava/lang/Throwable;" } : Jvm.MethodName) ({ cls := "java/lang/Throwable", name := "fillInStackTrace", desc := "()Ljava/lang/Throwable;" } : Jvm.MethodName)) ∈ lw_all := lw_g (lw_at lw_m2 12 rfl) rfl
theorem q351 : (Jvm.Cond.lays "ThreeBodies$EscapeException" "java/lang/Throwable" "cause" "Ljava/lang/Throwable;") ∈ lw_all := lw_g (lw_at lw_m2 13 rfl) rfl
theorem q353 : (Jvm.Cond.lays "ThreeBodies$EscapeException" "java/lang/Throwable" "stackTrace" "[Ljava/lang/StackTraceElement;") ∈ lw_all := lw_g (lw_at lw_m2 15 rfl) rfl
theorem q355 : (Jvm.Cond.lays "ThreeBodies$EscapeException" "java/lang/Throwable" "suppressedExceptions" "Ljava/util/List;") ∈ lw_all := lw_g (lw_at lw_m2 17 rfl) rfl
theorem q357 : (Jvm.Cond.lays "ThreeBodies$EscapeException" "java/lang/Throwable" "detailMessage" "Ljava/lang/String;") ∈ lw_all := lw_g (lw_at lw_m2 19 rfl) rfl
theorem q359 : (Jvm.Cond.lays "ThreeBodies$EscapeException" "java/lang/Throwable" "backtrace" "Ljava/lang/Object;") ∈ lw_all := lw_g (lw_at lw_m2 21 rfl) rfl
theorem q387 : (Jvm.Cond.instanceMethod ({ cls := "ThreeBodies$EscapeException", name := "<init>", desc := "()V" } : Jvm.MethodName)) ∈ lw_all := lw_g (lw_at lw_m2 49 rfl) rfl
theorem q388 : (Jvm.Cond.code ({ cls := "ThreeBodies$EscapeException", name := "<init>", desc := "()V" } : Jvm.MethodName) prog_6_method_1_code (1 : Nat) (Option.none : Option Jvm.ClassFile.FieldType)) ∈ lw_all := lw_g (lw_at lw_m2 50 rfl) rfl
theorem q389 : (Jvm.Cond.methodLink "ThreeBodies$EscapeException" (1 : Nat) ({ cls := "java/lang/Exception", name := "<init>", desc := "(Ljava/lang/String;Ljava/lang/Throwable;ZZ)V" } : Jvm.MethodName)) ∈ lw_all := lw_g (lw_at lw_m2 51 rfl) rfl
theorem q404 : (Jvm.Cond.lays "ThreeBodies$EscapeException" "java/lang/Throwable" "depth" "I") ∈ lw_all := lw_g (lw_at lw_m2 66 rfl) rfl
theorem q407 : (Jvm.Cond.superclass "ThreeBodies$EscapeException" "java/lang/Exception") ∈ lw_all := lw_g (lw_at lw_m2 69 rfl) rfl
theorem q807 : (Jvm.Cond.selects "ThreeBodies$EscapeException" ({ cls := "java/lang/Object", name := "getClass", desc := "()Ljava/lang/Class;" } : Jvm.MethodName) ({ cls := "java/lang/Object", name := "getClass", desc := "()Ljava/lang/Class;" } : Jvm.MethodName)) ∈ lw_all := lw_g (lw_at lw_m3 229 rfl) rfl
theorem q1853 : (Jvm.Cond.selects "ThreeBodies$EscapeException" ({ cls := "java/lang/Object", name := "hashCode", desc := "()I" } : Jvm.MethodName) ({ cls := "java/lang/Object", name := "hashCode", desc := "()I" } : Jvm.MethodName)) ∈ lw_all := lw_g (lw_at lw_m8 75 rfl) rfl
theorem q1940 : (Jvm.Cond.selects "ThreeBodies$EscapeException" ({ cls := "java/lang/Object", name := "equals", desc := "(Ljava/lang/Object;)Z" } : Jvm.MethodName) ({ cls := "java/lang/Object", name := "equals", desc := "(Ljava/lang/Object;)Z" } : Jvm.MethodName)) ∈ lw_all := lw_g (lw_at lw_m8 162 rfl) rfl
theorem q3393 : (Jvm.Cond.castable "ThreeBodies$EscapeException" "java/lang/Object") ∈ lw_tbl := lw_at lw_m14 175 rfl
theorem in_X4 : ∀ w ∈ wsX40, w ∈ lw_all := lw_in wsX40 [351, 353, 355, 357, 359, 404] (by decide +kernel) (by decide +kernel)
/-! ThreeBodies$Path -/
set_option maxRecDepth 100000
def RX5 : String := "ThreeBodies$Path"
def TX5 : u_T := fun k => match k with
  | 0 => ("ThreeBodies$Path", "x", "[[I", true)
  | _ => ("ThreeBodies$Path", "y", "[[I", true)
def tyX5 : Nat → FieldType := fun k => match k with
  | 0 => .array (.array .int)
  | _ => .array (.array .int)
abbrev wsX50 : List Cond := u_ws RX5 TX5 2
theorem nmX5 : ∀ a, a < 2 → ∀ b, b < 2 → a ≠ b → (TX5 a).2.1 ≠ (TX5 b).2.1 := by decide +kernel
theorem tyX5_ok : ∀ k, k < 2 → parseFieldDescriptor (TX5 k).2.2.1 = some (tyX5 k) := by decide +kernel
abbrev cX5_init : ByteArray := prog_10_method_1_code
def yX5_init : MethodName := ⟨RX5, "<init>", "()V"⟩
def dkwX5_init_1 : List UInt8 := [197, 0, 9, 2, 181, 0, 16, 177]
abbrev dktX5_init_1 : List UInt8 := dkwX5_init_1 ++ []
def dkwX5_init_0 : List UInt8 := [42, 183, 0, 3, 42, 6, 17, 1, 45, 197, 0, 9, 2, 181, 0, 11, 42, 6, 17, 1, 45]
abbrev dktX5_init_0 : List UInt8 := dkwX5_init_0 ++ dktX5_init_1
theorem dksX5_init_0 : cX5_init.data.toList.drop 0 = dktX5_init_0 := by decide +kernel
theorem dksX5_init_1 : cX5_init.data.toList.drop 21 = dktX5_init_1 := dk_seg dksX5_init_0 21 rfl rfl
theorem dX5_init_0 : decode cX5_init 0 = .ok (.aload_n 0, 1) := dk_42 (dk_at dksX5_init_0 0 rfl rfl)
theorem dX5_init_1 : decode cX5_init 1 = .ok (.invokespecial 3, 3) := dk_183 0 3 (dk_at dksX5_init_0 1 rfl rfl)
theorem dX5_init_4 : decode cX5_init 4 = .ok (.aload_n 0, 1) := dk_42 (dk_at dksX5_init_0 4 rfl rfl)
theorem dX5_init_5 : decode cX5_init 5 = .ok (.iconst 3, 1) := dk_6 (dk_at dksX5_init_0 5 rfl rfl)
theorem dX5_init_6 : decode cX5_init 6 = .ok (.sipush 301, 3) := dk_17 1 45 (dk_at dksX5_init_0 6 rfl rfl)
theorem dX5_init_9 : decode cX5_init 9 = .ok (.multianewarray 9 2, 4) := by decide +kernel
theorem dX5_init_13 : decode cX5_init 13 = .ok (.putfield 11, 3) := dk_181 0 11 (dk_at dksX5_init_0 13 rfl rfl)
theorem dX5_init_16 : decode cX5_init 16 = .ok (.aload_n 0, 1) := dk_42 (dk_at dksX5_init_0 16 rfl rfl)
theorem dX5_init_17 : decode cX5_init 17 = .ok (.iconst 3, 1) := dk_6 (dk_at dksX5_init_0 17 rfl rfl)
theorem dX5_init_18 : decode cX5_init 18 = .ok (.sipush 301, 3) := dk_17 1 45 (dk_at dksX5_init_0 18 rfl rfl)
theorem dX5_init_21 : decode cX5_init 21 = .ok (.multianewarray 9 2, 4) := by decide +kernel
theorem dX5_init_25 : decode cX5_init 25 = .ok (.putfield 16, 3) := dk_181 0 16 (dk_at dksX5_init_1 4 rfl rfl)
theorem dX5_init_28 : decode cX5_init 28 = .ok (.return_, 1) := dk_177 (dk_at dksX5_init_1 7 rfl rfl)
abbrev cX5_lay : ByteArray := prog_10_method_2_code
def yX5_lay : MethodName := ⟨RX5, "lay", "(ILThreeBodies$Bodies;)V"⟩
def dkwX5_lay_1 : List UInt8 := [180, 0, 16, 29, 50, 27, 44, 180, 0, 24, 29, 46, 79, 132, 3, 1, 167, 255, 220, 177]
abbrev dktX5_lay_1 : List UInt8 := dkwX5_lay_1 ++ []
def dkwX5_lay_0 : List UInt8 := [3, 62, 29, 6, 162, 0, 37, 42, 180, 0, 11, 29, 50, 27, 44, 180, 0, 19, 29, 46, 79, 42]
abbrev dktX5_lay_0 : List UInt8 := dkwX5_lay_0 ++ dktX5_lay_1
theorem dksX5_lay_0 : cX5_lay.data.toList.drop 0 = dktX5_lay_0 := by decide +kernel
theorem dksX5_lay_1 : cX5_lay.data.toList.drop 22 = dktX5_lay_1 := dk_seg dksX5_lay_0 22 rfl rfl
theorem dX5_lay_0 : decode cX5_lay 0 = .ok (.iconst 0, 1) := dk_3 (dk_at dksX5_lay_0 0 rfl rfl)
theorem dX5_lay_1 : decode cX5_lay 1 = .ok (.istore_n 3, 1) := dk_62 (dk_at dksX5_lay_0 1 rfl rfl)
theorem dX5_lay_2 : decode cX5_lay 2 = .ok (.iload_n 3, 1) := dk_29 (dk_at dksX5_lay_0 2 rfl rfl)
theorem dX5_lay_3 : decode cX5_lay 3 = .ok (.iconst 3, 1) := dk_6 (dk_at dksX5_lay_0 3 rfl rfl)
theorem dX5_lay_4 : decode cX5_lay 4 = .ok (.if_icmp .ge 37, 3) := dk_162 0 37 (dk_at dksX5_lay_0 4 rfl rfl)
theorem dX5_lay_7 : decode cX5_lay 7 = .ok (.aload_n 0, 1) := dk_42 (dk_at dksX5_lay_0 7 rfl rfl)
theorem dX5_lay_8 : decode cX5_lay 8 = .ok (.getfield 11, 3) := dk_180 0 11 (dk_at dksX5_lay_0 8 rfl rfl)
theorem dX5_lay_11 : decode cX5_lay 11 = .ok (.iload_n 3, 1) := dk_29 (dk_at dksX5_lay_0 11 rfl rfl)
theorem dX5_lay_12 : decode cX5_lay 12 = .ok (.aaload, 1) := dk_50 (dk_at dksX5_lay_0 12 rfl rfl)
theorem dX5_lay_13 : decode cX5_lay 13 = .ok (.iload_n 1, 1) := dk_27 (dk_at dksX5_lay_0 13 rfl rfl)
theorem dX5_lay_14 : decode cX5_lay 14 = .ok (.aload_n 2, 1) := dk_44 (dk_at dksX5_lay_0 14 rfl rfl)
theorem dX5_lay_15 : decode cX5_lay 15 = .ok (.getfield 19, 3) := dk_180 0 19 (dk_at dksX5_lay_0 15 rfl rfl)
theorem dX5_lay_18 : decode cX5_lay 18 = .ok (.iload_n 3, 1) := dk_29 (dk_at dksX5_lay_0 18 rfl rfl)
theorem dX5_lay_19 : decode cX5_lay 19 = .ok (.iaload, 1) := dk_46 (dk_at dksX5_lay_0 19 rfl rfl)
theorem dX5_lay_20 : decode cX5_lay 20 = .ok (.iastore, 1) := dk_79 (dk_at dksX5_lay_0 20 rfl rfl)
theorem dX5_lay_21 : decode cX5_lay 21 = .ok (.aload_n 0, 1) := dk_42 (dk_at dksX5_lay_0 21 rfl rfl)
theorem dX5_lay_22 : decode cX5_lay 22 = .ok (.getfield 16, 3) := dk_180 0 16 (dk_at dksX5_lay_1 0 rfl rfl)
theorem dX5_lay_25 : decode cX5_lay 25 = .ok (.iload_n 3, 1) := dk_29 (dk_at dksX5_lay_1 3 rfl rfl)
theorem dX5_lay_26 : decode cX5_lay 26 = .ok (.aaload, 1) := dk_50 (dk_at dksX5_lay_1 4 rfl rfl)
theorem dX5_lay_27 : decode cX5_lay 27 = .ok (.iload_n 1, 1) := dk_27 (dk_at dksX5_lay_1 5 rfl rfl)
theorem dX5_lay_28 : decode cX5_lay 28 = .ok (.aload_n 2, 1) := dk_44 (dk_at dksX5_lay_1 6 rfl rfl)
theorem dX5_lay_29 : decode cX5_lay 29 = .ok (.getfield 24, 3) := dk_180 0 24 (dk_at dksX5_lay_1 7 rfl rfl)
theorem dX5_lay_32 : decode cX5_lay 32 = .ok (.iload_n 3, 1) := dk_29 (dk_at dksX5_lay_1 10 rfl rfl)
theorem dX5_lay_33 : decode cX5_lay 33 = .ok (.iaload, 1) := dk_46 (dk_at dksX5_lay_1 11 rfl rfl)
theorem dX5_lay_34 : decode cX5_lay 34 = .ok (.iastore, 1) := dk_79 (dk_at dksX5_lay_1 12 rfl rfl)
theorem dX5_lay_35 : decode cX5_lay 35 = .ok (.iinc 3 1, 3) := dk_132 3 1 (dk_at dksX5_lay_1 13 rfl rfl)
theorem dX5_lay_38 : decode cX5_lay 38 = .ok (.goto (-36), 3) := dk_167 255 220 (dk_at dksX5_lay_1 16 rfl rfl)
theorem dX5_lay_41 : decode cX5_lay 41 = .ok (.return_, 1) := dk_177 (dk_at dksX5_lay_1 19 rfl rfl)
theorem q112 : (Jvm.Cond.initialized "ThreeBodies$Path") ∈ lw_all := lw_g (lw_at lw_m1 14 rfl) rfl
theorem q181 : (Jvm.Cond.fieldLinkNest "ThreeBodies$Path" (19 : Nat) "ThreeBodies$Bodies" "x" "[I" "ThreeBodies") ∈ lw_tbl := lw_at lw_m1 83 rfl
theorem q185 : (Jvm.Cond.fieldLinkNest "ThreeBodies$Path" (24 : Nat) "ThreeBodies$Bodies" "y" "[I" "ThreeBodies") ∈ lw_tbl := lw_at lw_m1 87 rfl
theorem q502 : (Jvm.Cond.instantiable "ThreeBodies$Path" (2 : Nat)) ∈ lw_all := lw_g (lw_at lw_m2 164 rfl) rfl
theorem q504 : (Jvm.Cond.instanceMethod ({ cls := "ThreeBodies$Path", name := "<init>", desc := "()V" } : Jvm.MethodName)) ∈ lw_all := lw_g (lw_at lw_m2 166 rfl) rfl
theorem q505 : (Jvm.Cond.code ({ cls := "ThreeBodies$Path", name := "<init>", desc := "()V" } : Jvm.MethodName) prog_10_method_1_code (1 : Nat) (Option.none : Option Jvm.ClassFile.FieldType)) ∈ lw_all := lw_g (lw_at lw_m2 167 rfl) rfl
theorem q506 : (Jvm.Cond.methodLink "ThreeBodies$Path" (3 : Nat) ({ cls := "java/lang/Object", name := "<init>", desc := "()V" } : Jvm.MethodName)) ∈ lw_all := lw_g (lw_at lw_m2 168 rfl) rfl
theorem q507 : (Jvm.Cond.classLink "ThreeBodies$Path" (9 : Nat) "[[I") ∈ lw_all := lw_g (lw_at lw_m2 169 rfl) rfl
theorem q509 : (Jvm.Cond.fieldLink "ThreeBodies$Path" (11 : Nat) "ThreeBodies$Path" "x" "[[I") ∈ lw_all := lw_g (lw_at lw_m2 171 rfl) rfl
theorem q511 : (Jvm.Cond.fieldLink "ThreeBodies$Path" (16 : Nat) "ThreeBodies$Path" "y" "[[I") ∈ lw_all := lw_g (lw_at lw_m2 173 rfl) rfl
theorem q513 : (Jvm.Cond.laysFinal "ThreeBodies$Path" "ThreeBodies$Path" "x" "[[I") ∈ lw_all := lw_g (lw_at lw_m2 175 rfl) rfl
theorem q514 : (Jvm.Cond.soleField "ThreeBodies$Path" "x") ∈ lw_all := lw_g (lw_at lw_m2 176 rfl) rfl
theorem q515 : (Jvm.Cond.laysFinal "ThreeBodies$Path" "ThreeBodies$Path" "y" "[[I") ∈ lw_all := lw_g (lw_at lw_m2 177 rfl) rfl
theorem q516 : (Jvm.Cond.soleField "ThreeBodies$Path" "y") ∈ lw_all := lw_g (lw_at lw_m2 178 rfl) rfl
theorem q517 : (Jvm.Cond.superclass "ThreeBodies$Path" "java/lang/Object") ∈ lw_all := lw_g (lw_at lw_m2 179 rfl) rfl
theorem q809 : (Jvm.Cond.selects "ThreeBodies$Path" ({ cls := "java/lang/Object", name := "getClass", desc := "()Ljava/lang/Class;" } : Jvm.MethodName) ({ cls := "java/lang/Object", name := "getClass", desc := "()Ljava/lang/Class;" } : Jvm.MethodName)) ∈ lw_all := lw_g (lw_at lw_m3 231 rfl) rfl
theorem q1668 : (Jvm.Cond.instanceMethod ({ cls := "ThreeBodies$Path", name := "lay", desc := "(ILThreeBodies$Bodies;)V" } : Jvm.MethodName)) ∈ lw_all := lw_g (lw_at lw_m7 130 rfl) rfl
theorem q1669 : (Jvm.Cond.selects "ThreeBodies$Path" ({ cls := "ThreeBodies$Path", name := "lay", desc := "(ILThreeBodies$Bodies;)V" } : Jvm.MethodName) ({ cls := "ThreeBodies$Path", name := "lay", desc := "(ILThreeBodies$Bodies;)V" } : Jvm.MethodName)) ∈ lw_all := lw_g (lw_at lw_m7 131 rfl) rfl
theorem q1670 : (Jvm.Cond.code ({ cls := "ThreeBodies$Path", name := "lay", desc := "(ILThreeBodies$Bodies;)V" } : Jvm.MethodName) prog_10_method_2_code (4 : Nat) (Option.none : Option Jvm.ClassFile.FieldType)) ∈ lw_all := lw_g (lw_at lw_m7 132 rfl) rfl
theorem q1855 : (Jvm.Cond.selects "ThreeBodies$Path" ({ cls := "java/lang/Object", name := "hashCode", desc := "()I" } : Jvm.MethodName) ({ cls := "java/lang/Object", name := "hashCode", desc := "()I" } : Jvm.MethodName)) ∈ lw_all := lw_g (lw_at lw_m8 77 rfl) rfl
theorem q1942 : (Jvm.Cond.selects "ThreeBodies$Path" ({ cls := "java/lang/Object", name := "equals", desc := "(Ljava/lang/Object;)Z" } : Jvm.MethodName) ({ cls := "java/lang/Object", name := "equals", desc := "(Ljava/lang/Object;)Z" } : Jvm.MethodName)) ∈ lw_all := lw_g (lw_at lw_m8 164 rfl) rfl
theorem q3395 : (Jvm.Cond.castable "ThreeBodies$Path" "java/lang/Object") ∈ lw_tbl := lw_at lw_m14 177 rfl
theorem in_X5 : ∀ w ∈ wsX50, w ∈ lw_all := lw_in wsX50 [513, 515] (by decide +kernel) (by decide +kernel)
