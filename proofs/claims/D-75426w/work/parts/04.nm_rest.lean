/-! ThreeBodiesLaw -/
set_option maxRecDepth 100000
def RX0 : String := "ThreeBodiesLaw"
abbrev cX0_load : ByteArray := method_3_code
def yX0_load : MethodName := ⟨RX0, "load", "(LThreeBodies;I[J)I"⟩
def dkwX0_load_0 : List UInt8 := [44, 3, 42, 27, 182, 0, 7, 133, 80, 167, 0, 6, 78, 4, 172, 3, 172]
abbrev dktX0_load_0 : List UInt8 := dkwX0_load_0 ++ []
theorem dksX0_load_0 : cX0_load.data.toList.drop 0 = dktX0_load_0 := by decide +kernel
theorem dX0_load_0 : decode cX0_load 0 = .ok (.aload_n 2, 1) := dk_44 (dk_at dksX0_load_0 0 rfl rfl)
theorem dX0_load_1 : decode cX0_load 1 = .ok (.iconst 0, 1) := dk_3 (dk_at dksX0_load_0 1 rfl rfl)
theorem dX0_load_2 : decode cX0_load 2 = .ok (.aload_n 0, 1) := dk_42 (dk_at dksX0_load_0 2 rfl rfl)
theorem dX0_load_3 : decode cX0_load 3 = .ok (.iload_n 1, 1) := dk_27 (dk_at dksX0_load_0 3 rfl rfl)
theorem dX0_load_4 : decode cX0_load 4 = .ok (.invokevirtual 7, 3) := dk_182 0 7 (dk_at dksX0_load_0 4 rfl rfl)
theorem dX0_load_7 : decode cX0_load 7 = .ok (.i2l, 1) := dk_133 (dk_at dksX0_load_0 7 rfl rfl)
theorem dX0_load_8 : decode cX0_load 8 = .ok (.lastore, 1) := dk_80 (dk_at dksX0_load_0 8 rfl rfl)
theorem dX0_load_9 : decode cX0_load 9 = .ok (.goto 6, 3) := dk_167 0 6 (dk_at dksX0_load_0 9 rfl rfl)
theorem dX0_load_12 : decode cX0_load 12 = .ok (.astore_n 3, 1) := dk_78 (dk_at dksX0_load_0 12 rfl rfl)
theorem dX0_load_13 : decode cX0_load 13 = .ok (.iconst 1, 1) := dk_4 (dk_at dksX0_load_0 13 rfl rfl)
theorem dX0_load_14 : decode cX0_load 14 = .ok (.ireturn, 1) := dk_172 (dk_at dksX0_load_0 14 rfl rfl)
theorem dX0_load_15 : decode cX0_load 15 = .ok (.iconst 0, 1) := dk_3 (dk_at dksX0_load_0 15 rfl rfl)
theorem dX0_load_16 : decode cX0_load 16 = .ok (.ireturn, 1) := dk_172 (dk_at dksX0_load_0 16 rfl rfl)
abbrev cX0_body : ByteArray := method_4_code
def yX0_body : MethodName := ⟨RX0, "body", "(LThreeBodies;II[J)I"⟩
def dkwX0_body_0 : List UInt8 := [45, 3, 42, 27, 28, 182, 0, 15, 133, 80, 167, 0, 7, 58, 4, 4, 172, 3, 172]
abbrev dktX0_body_0 : List UInt8 := dkwX0_body_0 ++ []
theorem dksX0_body_0 : cX0_body.data.toList.drop 0 = dktX0_body_0 := by decide +kernel
theorem dX0_body_0 : decode cX0_body 0 = .ok (.aload_n 3, 1) := dk_45 (dk_at dksX0_body_0 0 rfl rfl)
theorem dX0_body_1 : decode cX0_body 1 = .ok (.iconst 0, 1) := dk_3 (dk_at dksX0_body_0 1 rfl rfl)
theorem dX0_body_2 : decode cX0_body 2 = .ok (.aload_n 0, 1) := dk_42 (dk_at dksX0_body_0 2 rfl rfl)
theorem dX0_body_3 : decode cX0_body 3 = .ok (.iload_n 1, 1) := dk_27 (dk_at dksX0_body_0 3 rfl rfl)
theorem dX0_body_4 : decode cX0_body 4 = .ok (.iload_n 2, 1) := dk_28 (dk_at dksX0_body_0 4 rfl rfl)
theorem dX0_body_5 : decode cX0_body 5 = .ok (.invokevirtual 15, 3) := dk_182 0 15 (dk_at dksX0_body_0 5 rfl rfl)
theorem dX0_body_8 : decode cX0_body 8 = .ok (.i2l, 1) := dk_133 (dk_at dksX0_body_0 8 rfl rfl)
theorem dX0_body_9 : decode cX0_body 9 = .ok (.lastore, 1) := dk_80 (dk_at dksX0_body_0 9 rfl rfl)
theorem dX0_body_10 : decode cX0_body 10 = .ok (.goto 7, 3) := dk_167 0 7 (dk_at dksX0_body_0 10 rfl rfl)
theorem dX0_body_13 : decode cX0_body 13 = .ok (.astore 4, 2) := dk_58 4 (dk_at dksX0_body_0 13 rfl rfl)
theorem dX0_body_15 : decode cX0_body 15 = .ok (.iconst 1, 1) := dk_4 (dk_at dksX0_body_0 15 rfl rfl)
theorem dX0_body_16 : decode cX0_body 16 = .ok (.ireturn, 1) := dk_172 (dk_at dksX0_body_0 16 rfl rfl)
theorem dX0_body_17 : decode cX0_body 17 = .ok (.iconst 0, 1) := dk_3 (dk_at dksX0_body_0 17 rfl rfl)
theorem dX0_body_18 : decode cX0_body 18 = .ok (.ireturn, 1) := dk_172 (dk_at dksX0_body_0 18 rfl rfl)
abbrev cX0_setting : ByteArray := method_5_code
def yX0_setting : MethodName := ⟨RX0, "setting", "(LThreeBodies;I[J)I"⟩
def dkwX0_setting_0 : List UInt8 := [44, 3, 42, 27, 182, 0, 21, 133, 80, 167, 0, 6, 78, 4, 172, 3, 172]
abbrev dktX0_setting_0 : List UInt8 := dkwX0_setting_0 ++ []
theorem dksX0_setting_0 : cX0_setting.data.toList.drop 0 = dktX0_setting_0 := by decide +kernel
theorem dX0_setting_0 : decode cX0_setting 0 = .ok (.aload_n 2, 1) := dk_44 (dk_at dksX0_setting_0 0 rfl rfl)
theorem dX0_setting_1 : decode cX0_setting 1 = .ok (.iconst 0, 1) := dk_3 (dk_at dksX0_setting_0 1 rfl rfl)
theorem dX0_setting_2 : decode cX0_setting 2 = .ok (.aload_n 0, 1) := dk_42 (dk_at dksX0_setting_0 2 rfl rfl)
theorem dX0_setting_3 : decode cX0_setting 3 = .ok (.iload_n 1, 1) := dk_27 (dk_at dksX0_setting_0 3 rfl rfl)
theorem dX0_setting_4 : decode cX0_setting 4 = .ok (.invokevirtual 21, 3) := dk_182 0 21 (dk_at dksX0_setting_0 4 rfl rfl)
theorem dX0_setting_7 : decode cX0_setting 7 = .ok (.i2l, 1) := dk_133 (dk_at dksX0_setting_0 7 rfl rfl)
theorem dX0_setting_8 : decode cX0_setting 8 = .ok (.lastore, 1) := dk_80 (dk_at dksX0_setting_0 8 rfl rfl)
theorem dX0_setting_9 : decode cX0_setting 9 = .ok (.goto 6, 3) := dk_167 0 6 (dk_at dksX0_setting_0 9 rfl rfl)
theorem dX0_setting_12 : decode cX0_setting 12 = .ok (.astore_n 3, 1) := dk_78 (dk_at dksX0_setting_0 12 rfl rfl)
theorem dX0_setting_13 : decode cX0_setting 13 = .ok (.iconst 1, 1) := dk_4 (dk_at dksX0_setting_0 13 rfl rfl)
theorem dX0_setting_14 : decode cX0_setting 14 = .ok (.ireturn, 1) := dk_172 (dk_at dksX0_setting_0 14 rfl rfl)
theorem dX0_setting_15 : decode cX0_setting 15 = .ok (.iconst 0, 1) := dk_3 (dk_at dksX0_setting_0 15 rfl rfl)
theorem dX0_setting_16 : decode cX0_setting 16 = .ok (.ireturn, 1) := dk_172 (dk_at dksX0_setting_0 16 rfl rfl)
abbrev cX0_distance : ByteArray := method_6_code
def yX0_distance : MethodName := ⟨RX0, "distance", "(LThreeBodies;I[J)I"⟩
def dkwX0_distance_0 : List UInt8 := [44, 3, 42, 27, 182, 0, 24, 133, 80, 167, 0, 6, 78, 4, 172, 3, 172]
abbrev dktX0_distance_0 : List UInt8 := dkwX0_distance_0 ++ []
theorem dksX0_distance_0 : cX0_distance.data.toList.drop 0 = dktX0_distance_0 := by decide +kernel
theorem dX0_distance_0 : decode cX0_distance 0 = .ok (.aload_n 2, 1) := dk_44 (dk_at dksX0_distance_0 0 rfl rfl)
theorem dX0_distance_1 : decode cX0_distance 1 = .ok (.iconst 0, 1) := dk_3 (dk_at dksX0_distance_0 1 rfl rfl)
theorem dX0_distance_2 : decode cX0_distance 2 = .ok (.aload_n 0, 1) := dk_42 (dk_at dksX0_distance_0 2 rfl rfl)
theorem dX0_distance_3 : decode cX0_distance 3 = .ok (.iload_n 1, 1) := dk_27 (dk_at dksX0_distance_0 3 rfl rfl)
theorem dX0_distance_4 : decode cX0_distance 4 = .ok (.invokevirtual 24, 3) := dk_182 0 24 (dk_at dksX0_distance_0 4 rfl rfl)
theorem dX0_distance_7 : decode cX0_distance 7 = .ok (.i2l, 1) := dk_133 (dk_at dksX0_distance_0 7 rfl rfl)
theorem dX0_distance_8 : decode cX0_distance 8 = .ok (.lastore, 1) := dk_80 (dk_at dksX0_distance_0 8 rfl rfl)
theorem dX0_distance_9 : decode cX0_distance 9 = .ok (.goto 6, 3) := dk_167 0 6 (dk_at dksX0_distance_0 9 rfl rfl)
theorem dX0_distance_12 : decode cX0_distance 12 = .ok (.astore_n 3, 1) := dk_78 (dk_at dksX0_distance_0 12 rfl rfl)
theorem dX0_distance_13 : decode cX0_distance 13 = .ok (.iconst 1, 1) := dk_4 (dk_at dksX0_distance_0 13 rfl rfl)
theorem dX0_distance_14 : decode cX0_distance 14 = .ok (.ireturn, 1) := dk_172 (dk_at dksX0_distance_0 14 rfl rfl)
theorem dX0_distance_15 : decode cX0_distance 15 = .ok (.iconst 0, 1) := dk_3 (dk_at dksX0_distance_0 15 rfl rfl)
theorem dX0_distance_16 : decode cX0_distance 16 = .ok (.ireturn, 1) := dk_172 (dk_at dksX0_distance_0 16 rfl rfl)
abbrev cX0_impulse : ByteArray := method_7_code
def yX0_impulse : MethodName := ⟨RX0, "impulse", "(LThreeBodies;II[J)I"⟩
def dkwX0_impulse_0 : List UInt8 := [45, 3, 42, 27, 28, 182, 0, 27, 80, 167, 0, 7, 58, 4, 4, 172, 3, 172]
abbrev dktX0_impulse_0 : List UInt8 := dkwX0_impulse_0 ++ []
theorem dksX0_impulse_0 : cX0_impulse.data.toList.drop 0 = dktX0_impulse_0 := by decide +kernel
theorem dX0_impulse_0 : decode cX0_impulse 0 = .ok (.aload_n 3, 1) := dk_45 (dk_at dksX0_impulse_0 0 rfl rfl)
theorem dX0_impulse_1 : decode cX0_impulse 1 = .ok (.iconst 0, 1) := dk_3 (dk_at dksX0_impulse_0 1 rfl rfl)
theorem dX0_impulse_2 : decode cX0_impulse 2 = .ok (.aload_n 0, 1) := dk_42 (dk_at dksX0_impulse_0 2 rfl rfl)
theorem dX0_impulse_3 : decode cX0_impulse 3 = .ok (.iload_n 1, 1) := dk_27 (dk_at dksX0_impulse_0 3 rfl rfl)
theorem dX0_impulse_4 : decode cX0_impulse 4 = .ok (.iload_n 2, 1) := dk_28 (dk_at dksX0_impulse_0 4 rfl rfl)
theorem dX0_impulse_5 : decode cX0_impulse 5 = .ok (.invokevirtual 27, 3) := dk_182 0 27 (dk_at dksX0_impulse_0 5 rfl rfl)
theorem dX0_impulse_8 : decode cX0_impulse 8 = .ok (.lastore, 1) := dk_80 (dk_at dksX0_impulse_0 8 rfl rfl)
theorem dX0_impulse_9 : decode cX0_impulse 9 = .ok (.goto 7, 3) := dk_167 0 7 (dk_at dksX0_impulse_0 9 rfl rfl)
theorem dX0_impulse_12 : decode cX0_impulse 12 = .ok (.astore 4, 2) := dk_58 4 (dk_at dksX0_impulse_0 12 rfl rfl)
theorem dX0_impulse_14 : decode cX0_impulse 14 = .ok (.iconst 1, 1) := dk_4 (dk_at dksX0_impulse_0 14 rfl rfl)
theorem dX0_impulse_15 : decode cX0_impulse 15 = .ok (.ireturn, 1) := dk_172 (dk_at dksX0_impulse_0 15 rfl rfl)
theorem dX0_impulse_16 : decode cX0_impulse 16 = .ok (.iconst 0, 1) := dk_3 (dk_at dksX0_impulse_0 16 rfl rfl)
theorem dX0_impulse_17 : decode cX0_impulse 17 = .ok (.ireturn, 1) := dk_172 (dk_at dksX0_impulse_0 17 rfl rfl)
abbrev cX0_momentum : ByteArray := method_8_code
def yX0_momentum : MethodName := ⟨RX0, "momentum", "(LThreeBodies;I[J)I"⟩
def dkwX0_momentum_0 : List UInt8 := [44, 3, 42, 27, 182, 0, 31, 80, 167, 0, 6, 78, 4, 172, 3, 172]
abbrev dktX0_momentum_0 : List UInt8 := dkwX0_momentum_0 ++ []
theorem dksX0_momentum_0 : cX0_momentum.data.toList.drop 0 = dktX0_momentum_0 := by decide +kernel
theorem dX0_momentum_0 : decode cX0_momentum 0 = .ok (.aload_n 2, 1) := dk_44 (dk_at dksX0_momentum_0 0 rfl rfl)
theorem dX0_momentum_1 : decode cX0_momentum 1 = .ok (.iconst 0, 1) := dk_3 (dk_at dksX0_momentum_0 1 rfl rfl)
theorem dX0_momentum_2 : decode cX0_momentum 2 = .ok (.aload_n 0, 1) := dk_42 (dk_at dksX0_momentum_0 2 rfl rfl)
theorem dX0_momentum_3 : decode cX0_momentum 3 = .ok (.iload_n 1, 1) := dk_27 (dk_at dksX0_momentum_0 3 rfl rfl)
theorem dX0_momentum_4 : decode cX0_momentum 4 = .ok (.invokevirtual 31, 3) := dk_182 0 31 (dk_at dksX0_momentum_0 4 rfl rfl)
theorem dX0_momentum_7 : decode cX0_momentum 7 = .ok (.lastore, 1) := dk_80 (dk_at dksX0_momentum_0 7 rfl rfl)
theorem dX0_momentum_8 : decode cX0_momentum 8 = .ok (.goto 6, 3) := dk_167 0 6 (dk_at dksX0_momentum_0 8 rfl rfl)
theorem dX0_momentum_11 : decode cX0_momentum 11 = .ok (.astore_n 3, 1) := dk_78 (dk_at dksX0_momentum_0 11 rfl rfl)
theorem dX0_momentum_12 : decode cX0_momentum 12 = .ok (.iconst 1, 1) := dk_4 (dk_at dksX0_momentum_0 12 rfl rfl)
theorem dX0_momentum_13 : decode cX0_momentum 13 = .ok (.ireturn, 1) := dk_172 (dk_at dksX0_momentum_0 13 rfl rfl)
theorem dX0_momentum_14 : decode cX0_momentum 14 = .ok (.iconst 0, 1) := dk_3 (dk_at dksX0_momentum_0 14 rfl rfl)
theorem dX0_momentum_15 : decode cX0_momentum 15 = .ok (.ireturn, 1) := dk_172 (dk_at dksX0_momentum_0 15 rfl rfl)
abbrev cX0_approach : ByteArray := method_9_code
def yX0_approach : MethodName := ⟨RX0, "approach", "(LThreeBodies;II[J)I"⟩
def dkwX0_approach_0 : List UInt8 := [45, 3, 42, 27, 28, 182, 0, 35, 133, 80, 167, 0, 7, 58, 4, 4, 172, 3, 172]
abbrev dktX0_approach_0 : List UInt8 := dkwX0_approach_0 ++ []
theorem dksX0_approach_0 : cX0_approach.data.toList.drop 0 = dktX0_approach_0 := by decide +kernel
theorem dX0_approach_0 : decode cX0_approach 0 = .ok (.aload_n 3, 1) := dk_45 (dk_at dksX0_approach_0 0 rfl rfl)
theorem dX0_approach_1 : decode cX0_approach 1 = .ok (.iconst 0, 1) := dk_3 (dk_at dksX0_approach_0 1 rfl rfl)
theorem dX0_approach_2 : decode cX0_approach 2 = .ok (.aload_n 0, 1) := dk_42 (dk_at dksX0_approach_0 2 rfl rfl)
theorem dX0_approach_3 : decode cX0_approach 3 = .ok (.iload_n 1, 1) := dk_27 (dk_at dksX0_approach_0 3 rfl rfl)
theorem dX0_approach_4 : decode cX0_approach 4 = .ok (.iload_n 2, 1) := dk_28 (dk_at dksX0_approach_0 4 rfl rfl)
theorem dX0_approach_5 : decode cX0_approach 5 = .ok (.invokevirtual 35, 3) := dk_182 0 35 (dk_at dksX0_approach_0 5 rfl rfl)
theorem dX0_approach_8 : decode cX0_approach 8 = .ok (.i2l, 1) := dk_133 (dk_at dksX0_approach_0 8 rfl rfl)
theorem dX0_approach_9 : decode cX0_approach 9 = .ok (.lastore, 1) := dk_80 (dk_at dksX0_approach_0 9 rfl rfl)
theorem dX0_approach_10 : decode cX0_approach 10 = .ok (.goto 7, 3) := dk_167 0 7 (dk_at dksX0_approach_0 10 rfl rfl)
theorem dX0_approach_13 : decode cX0_approach 13 = .ok (.astore 4, 2) := dk_58 4 (dk_at dksX0_approach_0 13 rfl rfl)
theorem dX0_approach_15 : decode cX0_approach 15 = .ok (.iconst 1, 1) := dk_4 (dk_at dksX0_approach_0 15 rfl rfl)
theorem dX0_approach_16 : decode cX0_approach 16 = .ok (.ireturn, 1) := dk_172 (dk_at dksX0_approach_0 16 rfl rfl)
theorem dX0_approach_17 : decode cX0_approach 17 = .ok (.iconst 0, 1) := dk_3 (dk_at dksX0_approach_0 17 rfl rfl)
theorem dX0_approach_18 : decode cX0_approach 18 = .ok (.ireturn, 1) := dk_172 (dk_at dksX0_approach_0 18 rfl rfl)
abbrev cX0_run : ByteArray := method_10_code
def yX0_run : MethodName := ⟨RX0, "run", "(LThreeBodies;I[J)I"⟩
def dkwX0_run_0 : List UInt8 := [44, 3, 42, 27, 182, 0, 38, 133, 80, 167, 0, 6, 78, 4, 172, 3, 172]
abbrev dktX0_run_0 : List UInt8 := dkwX0_run_0 ++ []
theorem dksX0_run_0 : cX0_run.data.toList.drop 0 = dktX0_run_0 := by decide +kernel
theorem dX0_run_0 : decode cX0_run 0 = .ok (.aload_n 2, 1) := dk_44 (dk_at dksX0_run_0 0 rfl rfl)
theorem dX0_run_1 : decode cX0_run 1 = .ok (.iconst 0, 1) := dk_3 (dk_at dksX0_run_0 1 rfl rfl)
theorem dX0_run_2 : decode cX0_run 2 = .ok (.aload_n 0, 1) := dk_42 (dk_at dksX0_run_0 2 rfl rfl)
theorem dX0_run_3 : decode cX0_run 3 = .ok (.iload_n 1, 1) := dk_27 (dk_at dksX0_run_0 3 rfl rfl)
theorem dX0_run_4 : decode cX0_run 4 = .ok (.invokevirtual 38, 3) := dk_182 0 38 (dk_at dksX0_run_0 4 rfl rfl)
theorem dX0_run_7 : decode cX0_run 7 = .ok (.i2l, 1) := dk_133 (dk_at dksX0_run_0 7 rfl rfl)
theorem dX0_run_8 : decode cX0_run 8 = .ok (.lastore, 1) := dk_80 (dk_at dksX0_run_0 8 rfl rfl)
theorem dX0_run_9 : decode cX0_run 9 = .ok (.goto 6, 3) := dk_167 0 6 (dk_at dksX0_run_0 9 rfl rfl)
theorem dX0_run_12 : decode cX0_run 12 = .ok (.astore_n 3, 1) := dk_78 (dk_at dksX0_run_0 12 rfl rfl)
theorem dX0_run_13 : decode cX0_run 13 = .ok (.iconst 1, 1) := dk_4 (dk_at dksX0_run_0 13 rfl rfl)
theorem dX0_run_14 : decode cX0_run 14 = .ok (.ireturn, 1) := dk_172 (dk_at dksX0_run_0 14 rfl rfl)
theorem dX0_run_15 : decode cX0_run 15 = .ok (.iconst 0, 1) := dk_3 (dk_at dksX0_run_0 15 rfl rfl)
theorem dX0_run_16 : decode cX0_run 16 = .ok (.ireturn, 1) := dk_172 (dk_at dksX0_run_0 16 rfl rfl)
abbrev cX0_back : ByteArray := method_11_code
def yX0_back : MethodName := ⟨RX0, "back", "(LThreeBodies;I[J)I"⟩
def dkwX0_back_0 : List UInt8 := [44, 3, 42, 27, 182, 0, 41, 133, 80, 167, 0, 6, 78, 4, 172, 3, 172]
abbrev dktX0_back_0 : List UInt8 := dkwX0_back_0 ++ []
theorem dksX0_back_0 : cX0_back.data.toList.drop 0 = dktX0_back_0 := by decide +kernel
theorem dX0_back_0 : decode cX0_back 0 = .ok (.aload_n 2, 1) := dk_44 (dk_at dksX0_back_0 0 rfl rfl)
theorem dX0_back_1 : decode cX0_back 1 = .ok (.iconst 0, 1) := dk_3 (dk_at dksX0_back_0 1 rfl rfl)
theorem dX0_back_2 : decode cX0_back 2 = .ok (.aload_n 0, 1) := dk_42 (dk_at dksX0_back_0 2 rfl rfl)
theorem dX0_back_3 : decode cX0_back 3 = .ok (.iload_n 1, 1) := dk_27 (dk_at dksX0_back_0 3 rfl rfl)
theorem dX0_back_4 : decode cX0_back 4 = .ok (.invokevirtual 41, 3) := dk_182 0 41 (dk_at dksX0_back_0 4 rfl rfl)
theorem dX0_back_7 : decode cX0_back 7 = .ok (.i2l, 1) := dk_133 (dk_at dksX0_back_0 7 rfl rfl)
theorem dX0_back_8 : decode cX0_back 8 = .ok (.lastore, 1) := dk_80 (dk_at dksX0_back_0 8 rfl rfl)
theorem dX0_back_9 : decode cX0_back 9 = .ok (.goto 6, 3) := dk_167 0 6 (dk_at dksX0_back_0 9 rfl rfl)
theorem dX0_back_12 : decode cX0_back 12 = .ok (.astore_n 3, 1) := dk_78 (dk_at dksX0_back_0 12 rfl rfl)
theorem dX0_back_13 : decode cX0_back 13 = .ok (.iconst 1, 1) := dk_4 (dk_at dksX0_back_0 13 rfl rfl)
theorem dX0_back_14 : decode cX0_back 14 = .ok (.ireturn, 1) := dk_172 (dk_at dksX0_back_0 14 rfl rfl)
theorem dX0_back_15 : decode cX0_back 15 = .ok (.iconst 0, 1) := dk_3 (dk_at dksX0_back_0 15 rfl rfl)
theorem dX0_back_16 : decode cX0_back 16 = .ok (.ireturn, 1) := dk_172 (dk_at dksX0_back_0 16 rfl rfl)
abbrev cX0_push : ByteArray := method_12_code
def yX0_push : MethodName := ⟨RX0, "push", "(LThreeBodies;III[J)I"⟩
def dkwX0_push_0 : List UInt8 := [25, 4, 3, 42, 27, 28, 29, 182, 0, 44, 133, 80, 167, 0, 7, 58, 5, 4, 172, 3, 172]
abbrev dktX0_push_0 : List UInt8 := dkwX0_push_0 ++ []
theorem dksX0_push_0 : cX0_push.data.toList.drop 0 = dktX0_push_0 := by decide +kernel
theorem dX0_push_0 : decode cX0_push 0 = .ok (.aload 4, 2) := dk_25 4 (dk_at dksX0_push_0 0 rfl rfl)
theorem dX0_push_2 : decode cX0_push 2 = .ok (.iconst 0, 1) := dk_3 (dk_at dksX0_push_0 2 rfl rfl)
theorem dX0_push_3 : decode cX0_push 3 = .ok (.aload_n 0, 1) := dk_42 (dk_at dksX0_push_0 3 rfl rfl)
theorem dX0_push_4 : decode cX0_push 4 = .ok (.iload_n 1, 1) := dk_27 (dk_at dksX0_push_0 4 rfl rfl)
theorem dX0_push_5 : decode cX0_push 5 = .ok (.iload_n 2, 1) := dk_28 (dk_at dksX0_push_0 5 rfl rfl)
theorem dX0_push_6 : decode cX0_push 6 = .ok (.iload_n 3, 1) := dk_29 (dk_at dksX0_push_0 6 rfl rfl)
theorem dX0_push_7 : decode cX0_push 7 = .ok (.invokevirtual 44, 3) := dk_182 0 44 (dk_at dksX0_push_0 7 rfl rfl)
theorem dX0_push_10 : decode cX0_push 10 = .ok (.i2l, 1) := dk_133 (dk_at dksX0_push_0 10 rfl rfl)
theorem dX0_push_11 : decode cX0_push 11 = .ok (.lastore, 1) := dk_80 (dk_at dksX0_push_0 11 rfl rfl)
theorem dX0_push_12 : decode cX0_push 12 = .ok (.goto 7, 3) := dk_167 0 7 (dk_at dksX0_push_0 12 rfl rfl)
theorem dX0_push_15 : decode cX0_push 15 = .ok (.astore 5, 2) := dk_58 5 (dk_at dksX0_push_0 15 rfl rfl)
theorem dX0_push_17 : decode cX0_push 17 = .ok (.iconst 1, 1) := dk_4 (dk_at dksX0_push_0 17 rfl rfl)
theorem dX0_push_18 : decode cX0_push 18 = .ok (.ireturn, 1) := dk_172 (dk_at dksX0_push_0 18 rfl rfl)
theorem dX0_push_19 : decode cX0_push 19 = .ok (.iconst 0, 1) := dk_3 (dk_at dksX0_push_0 19 rfl rfl)
theorem dX0_push_20 : decode cX0_push 20 = .ok (.ireturn, 1) := dk_172 (dk_at dksX0_push_0 20 rfl rfl)
abbrev cX0_place : ByteArray := method_13_code
def yX0_place : MethodName := ⟨RX0, "place", "(LThreeBodies;III[J)I"⟩
def dkwX0_place_1 : List UInt8 := [172]
abbrev dktX0_place_1 : List UInt8 := dkwX0_place_1 ++ []
def dkwX0_place_0 : List UInt8 := [25, 4, 3, 42, 27, 28, 29, 182, 0, 48, 133, 80, 167, 0, 11, 58, 5, 4, 172, 58, 5, 5, 172, 3]
abbrev dktX0_place_0 : List UInt8 := dkwX0_place_0 ++ dktX0_place_1
theorem dksX0_place_0 : cX0_place.data.toList.drop 0 = dktX0_place_0 := by decide +kernel
theorem dksX0_place_1 : cX0_place.data.toList.drop 24 = dktX0_place_1 := dk_seg dksX0_place_0 24 rfl rfl
theorem dX0_place_0 : decode cX0_place 0 = .ok (.aload 4, 2) := dk_25 4 (dk_at dksX0_place_0 0 rfl rfl)
theorem dX0_place_2 : decode cX0_place 2 = .ok (.iconst 0, 1) := dk_3 (dk_at dksX0_place_0 2 rfl rfl)
theorem dX0_place_3 : decode cX0_place 3 = .ok (.aload_n 0, 1) := dk_42 (dk_at dksX0_place_0 3 rfl rfl)
theorem dX0_place_4 : decode cX0_place 4 = .ok (.iload_n 1, 1) := dk_27 (dk_at dksX0_place_0 4 rfl rfl)
theorem dX0_place_5 : decode cX0_place 5 = .ok (.iload_n 2, 1) := dk_28 (dk_at dksX0_place_0 5 rfl rfl)
theorem dX0_place_6 : decode cX0_place 6 = .ok (.iload_n 3, 1) := dk_29 (dk_at dksX0_place_0 6 rfl rfl)
theorem dX0_place_7 : decode cX0_place 7 = .ok (.invokevirtual 48, 3) := dk_182 0 48 (dk_at dksX0_place_0 7 rfl rfl)
theorem dX0_place_10 : decode cX0_place 10 = .ok (.i2l, 1) := dk_133 (dk_at dksX0_place_0 10 rfl rfl)
theorem dX0_place_11 : decode cX0_place 11 = .ok (.lastore, 1) := dk_80 (dk_at dksX0_place_0 11 rfl rfl)
theorem dX0_place_12 : decode cX0_place 12 = .ok (.goto 11, 3) := dk_167 0 11 (dk_at dksX0_place_0 12 rfl rfl)
theorem dX0_place_15 : decode cX0_place 15 = .ok (.astore 5, 2) := dk_58 5 (dk_at dksX0_place_0 15 rfl rfl)
theorem dX0_place_17 : decode cX0_place 17 = .ok (.iconst 1, 1) := dk_4 (dk_at dksX0_place_0 17 rfl rfl)
theorem dX0_place_18 : decode cX0_place 18 = .ok (.ireturn, 1) := dk_172 (dk_at dksX0_place_0 18 rfl rfl)
theorem dX0_place_19 : decode cX0_place 19 = .ok (.astore 5, 2) := dk_58 5 (dk_at dksX0_place_0 19 rfl rfl)
theorem dX0_place_21 : decode cX0_place 21 = .ok (.iconst 2, 1) := dk_5 (dk_at dksX0_place_0 21 rfl rfl)
theorem dX0_place_22 : decode cX0_place 22 = .ok (.ireturn, 1) := dk_172 (dk_at dksX0_place_0 22 rfl rfl)
theorem dX0_place_23 : decode cX0_place 23 = .ok (.iconst 0, 1) := dk_3 (dk_at dksX0_place_0 23 rfl rfl)
theorem dX0_place_24 : decode cX0_place 24 = .ok (.ireturn, 1) := dk_172 (dk_at dksX0_place_1 0 rfl rfl)
abbrev cX0_exchange : ByteArray := method_14_code
def yX0_exchange : MethodName := ⟨RX0, "exchange", "(LThreeBodies;II)I"⟩
def dkwX0_exchange_0 : List UInt8 := [42, 27, 28, 182, 0, 51, 167, 0, 9, 78, 4, 172, 78, 5, 172, 3, 172]
abbrev dktX0_exchange_0 : List UInt8 := dkwX0_exchange_0 ++ []
theorem dksX0_exchange_0 : cX0_exchange.data.toList.drop 0 = dktX0_exchange_0 := by decide +kernel
theorem dX0_exchange_0 : decode cX0_exchange 0 = .ok (.aload_n 0, 1) := dk_42 (dk_at dksX0_exchange_0 0 rfl rfl)
theorem dX0_exchange_1 : decode cX0_exchange 1 = .ok (.iload_n 1, 1) := dk_27 (dk_at dksX0_exchange_0 1 rfl rfl)
theorem dX0_exchange_2 : decode cX0_exchange 2 = .ok (.iload_n 2, 1) := dk_28 (dk_at dksX0_exchange_0 2 rfl rfl)
theorem dX0_exchange_3 : decode cX0_exchange 3 = .ok (.invokevirtual 51, 3) := dk_182 0 51 (dk_at dksX0_exchange_0 3 rfl rfl)
theorem dX0_exchange_6 : decode cX0_exchange 6 = .ok (.goto 9, 3) := dk_167 0 9 (dk_at dksX0_exchange_0 6 rfl rfl)
theorem dX0_exchange_9 : decode cX0_exchange 9 = .ok (.astore_n 3, 1) := dk_78 (dk_at dksX0_exchange_0 9 rfl rfl)
theorem dX0_exchange_10 : decode cX0_exchange 10 = .ok (.iconst 1, 1) := dk_4 (dk_at dksX0_exchange_0 10 rfl rfl)
theorem dX0_exchange_11 : decode cX0_exchange 11 = .ok (.ireturn, 1) := dk_172 (dk_at dksX0_exchange_0 11 rfl rfl)
theorem dX0_exchange_12 : decode cX0_exchange 12 = .ok (.astore_n 3, 1) := dk_78 (dk_at dksX0_exchange_0 12 rfl rfl)
theorem dX0_exchange_13 : decode cX0_exchange 13 = .ok (.iconst 2, 1) := dk_5 (dk_at dksX0_exchange_0 13 rfl rfl)
theorem dX0_exchange_14 : decode cX0_exchange 14 = .ok (.ireturn, 1) := dk_172 (dk_at dksX0_exchange_0 14 rfl rfl)
theorem dX0_exchange_15 : decode cX0_exchange 15 = .ok (.iconst 0, 1) := dk_3 (dk_at dksX0_exchange_0 15 rfl rfl)
theorem dX0_exchange_16 : decode cX0_exchange 16 = .ok (.ireturn, 1) := dk_172 (dk_at dksX0_exchange_0 16 rfl rfl)
abbrev cX0_setScheme : ByteArray := method_15_code
def yX0_setScheme : MethodName := ⟨RX0, "setScheme", "(LThreeBodies;I[J)I"⟩
def dkwX0_setScheme_0 : List UInt8 := [44, 3, 42, 27, 182, 0, 55, 133, 80, 167, 0, 6, 78, 4, 172, 3, 172]
abbrev dktX0_setScheme_0 : List UInt8 := dkwX0_setScheme_0 ++ []
theorem dksX0_setScheme_0 : cX0_setScheme.data.toList.drop 0 = dktX0_setScheme_0 := by decide +kernel
theorem dX0_setScheme_0 : decode cX0_setScheme 0 = .ok (.aload_n 2, 1) := dk_44 (dk_at dksX0_setScheme_0 0 rfl rfl)
theorem dX0_setScheme_1 : decode cX0_setScheme 1 = .ok (.iconst 0, 1) := dk_3 (dk_at dksX0_setScheme_0 1 rfl rfl)
theorem dX0_setScheme_2 : decode cX0_setScheme 2 = .ok (.aload_n 0, 1) := dk_42 (dk_at dksX0_setScheme_0 2 rfl rfl)
theorem dX0_setScheme_3 : decode cX0_setScheme 3 = .ok (.iload_n 1, 1) := dk_27 (dk_at dksX0_setScheme_0 3 rfl rfl)
theorem dX0_setScheme_4 : decode cX0_setScheme 4 = .ok (.invokevirtual 55, 3) := dk_182 0 55 (dk_at dksX0_setScheme_0 4 rfl rfl)
theorem dX0_setScheme_7 : decode cX0_setScheme 7 = .ok (.i2l, 1) := dk_133 (dk_at dksX0_setScheme_0 7 rfl rfl)
theorem dX0_setScheme_8 : decode cX0_setScheme 8 = .ok (.lastore, 1) := dk_80 (dk_at dksX0_setScheme_0 8 rfl rfl)
theorem dX0_setScheme_9 : decode cX0_setScheme 9 = .ok (.goto 6, 3) := dk_167 0 6 (dk_at dksX0_setScheme_0 9 rfl rfl)
theorem dX0_setScheme_12 : decode cX0_setScheme 12 = .ok (.astore_n 3, 1) := dk_78 (dk_at dksX0_setScheme_0 12 rfl rfl)
theorem dX0_setScheme_13 : decode cX0_setScheme 13 = .ok (.iconst 1, 1) := dk_4 (dk_at dksX0_setScheme_0 13 rfl rfl)
theorem dX0_setScheme_14 : decode cX0_setScheme 14 = .ok (.ireturn, 1) := dk_172 (dk_at dksX0_setScheme_0 14 rfl rfl)
theorem dX0_setScheme_15 : decode cX0_setScheme 15 = .ok (.iconst 0, 1) := dk_3 (dk_at dksX0_setScheme_0 15 rfl rfl)
theorem dX0_setScheme_16 : decode cX0_setScheme 16 = .ok (.ireturn, 1) := dk_172 (dk_at dksX0_setScheme_0 16 rfl rfl)
abbrev cX0_refine : ByteArray := method_16_code
def yX0_refine : MethodName := ⟨RX0, "refine", "(LThreeBodies;IIII[J)I"⟩
def dkwX0_refine_0 : List UInt8 := [25, 5, 3, 42, 27, 28, 29, 21, 4, 182, 0, 58, 133, 80, 167, 0, 7, 58, 6, 4, 172, 3, 172]
abbrev dktX0_refine_0 : List UInt8 := dkwX0_refine_0 ++ []
theorem dksX0_refine_0 : cX0_refine.data.toList.drop 0 = dktX0_refine_0 := by decide +kernel
theorem dX0_refine_0 : decode cX0_refine 0 = .ok (.aload 5, 2) := dk_25 5 (dk_at dksX0_refine_0 0 rfl rfl)
theorem dX0_refine_2 : decode cX0_refine 2 = .ok (.iconst 0, 1) := dk_3 (dk_at dksX0_refine_0 2 rfl rfl)
theorem dX0_refine_3 : decode cX0_refine 3 = .ok (.aload_n 0, 1) := dk_42 (dk_at dksX0_refine_0 3 rfl rfl)
theorem dX0_refine_4 : decode cX0_refine 4 = .ok (.iload_n 1, 1) := dk_27 (dk_at dksX0_refine_0 4 rfl rfl)
theorem dX0_refine_5 : decode cX0_refine 5 = .ok (.iload_n 2, 1) := dk_28 (dk_at dksX0_refine_0 5 rfl rfl)
theorem dX0_refine_6 : decode cX0_refine 6 = .ok (.iload_n 3, 1) := dk_29 (dk_at dksX0_refine_0 6 rfl rfl)
theorem dX0_refine_7 : decode cX0_refine 7 = .ok (.iload 4, 2) := dk_21 4 (dk_at dksX0_refine_0 7 rfl rfl)
theorem dX0_refine_9 : decode cX0_refine 9 = .ok (.invokevirtual 58, 3) := dk_182 0 58 (dk_at dksX0_refine_0 9 rfl rfl)
theorem dX0_refine_12 : decode cX0_refine 12 = .ok (.i2l, 1) := dk_133 (dk_at dksX0_refine_0 12 rfl rfl)
theorem dX0_refine_13 : decode cX0_refine 13 = .ok (.lastore, 1) := dk_80 (dk_at dksX0_refine_0 13 rfl rfl)
theorem dX0_refine_14 : decode cX0_refine 14 = .ok (.goto 7, 3) := dk_167 0 7 (dk_at dksX0_refine_0 14 rfl rfl)
theorem dX0_refine_17 : decode cX0_refine 17 = .ok (.astore 6, 2) := dk_58 6 (dk_at dksX0_refine_0 17 rfl rfl)
theorem dX0_refine_19 : decode cX0_refine 19 = .ok (.iconst 1, 1) := dk_4 (dk_at dksX0_refine_0 19 rfl rfl)
theorem dX0_refine_20 : decode cX0_refine 20 = .ok (.ireturn, 1) := dk_172 (dk_at dksX0_refine_0 20 rfl rfl)
theorem dX0_refine_21 : decode cX0_refine 21 = .ok (.iconst 0, 1) := dk_3 (dk_at dksX0_refine_0 21 rfl rfl)
theorem dX0_refine_22 : decode cX0_refine 22 = .ok (.ireturn, 1) := dk_172 (dk_at dksX0_refine_0 22 rfl rfl)
abbrev cX0_possible : ByteArray := method_17_code
def yX0_possible : MethodName := ⟨RX0, "possible", "(LThreeBodies;I[J)I"⟩
def dkwX0_possible_0 : List UInt8 := [44, 3, 42, 27, 182, 0, 62, 133, 80, 167, 0, 6, 78, 4, 172, 3, 172]
abbrev dktX0_possible_0 : List UInt8 := dkwX0_possible_0 ++ []
theorem dksX0_possible_0 : cX0_possible.data.toList.drop 0 = dktX0_possible_0 := by decide +kernel
theorem dX0_possible_0 : decode cX0_possible 0 = .ok (.aload_n 2, 1) := dk_44 (dk_at dksX0_possible_0 0 rfl rfl)
theorem dX0_possible_1 : decode cX0_possible 1 = .ok (.iconst 0, 1) := dk_3 (dk_at dksX0_possible_0 1 rfl rfl)
theorem dX0_possible_2 : decode cX0_possible 2 = .ok (.aload_n 0, 1) := dk_42 (dk_at dksX0_possible_0 2 rfl rfl)
theorem dX0_possible_3 : decode cX0_possible 3 = .ok (.iload_n 1, 1) := dk_27 (dk_at dksX0_possible_0 3 rfl rfl)
theorem dX0_possible_4 : decode cX0_possible 4 = .ok (.invokevirtual 62, 3) := dk_182 0 62 (dk_at dksX0_possible_0 4 rfl rfl)
theorem dX0_possible_7 : decode cX0_possible 7 = .ok (.i2l, 1) := dk_133 (dk_at dksX0_possible_0 7 rfl rfl)
theorem dX0_possible_8 : decode cX0_possible 8 = .ok (.lastore, 1) := dk_80 (dk_at dksX0_possible_0 8 rfl rfl)
theorem dX0_possible_9 : decode cX0_possible 9 = .ok (.goto 6, 3) := dk_167 0 6 (dk_at dksX0_possible_0 9 rfl rfl)
theorem dX0_possible_12 : decode cX0_possible 12 = .ok (.astore_n 3, 1) := dk_78 (dk_at dksX0_possible_0 12 rfl rfl)
theorem dX0_possible_13 : decode cX0_possible 13 = .ok (.iconst 1, 1) := dk_4 (dk_at dksX0_possible_0 13 rfl rfl)
theorem dX0_possible_14 : decode cX0_possible 14 = .ok (.ireturn, 1) := dk_172 (dk_at dksX0_possible_0 14 rfl rfl)
theorem dX0_possible_15 : decode cX0_possible 15 = .ok (.iconst 0, 1) := dk_3 (dk_at dksX0_possible_0 15 rfl rfl)
theorem dX0_possible_16 : decode cX0_possible 16 = .ok (.ireturn, 1) := dk_172 (dk_at dksX0_possible_0 16 rfl rfl)
abbrev cX0_error : ByteArray := method_18_code
def yX0_error : MethodName := ⟨RX0, "error", "(LThreeBodies;II[J)I"⟩
def dkwX0_error_0 : List UInt8 := [45, 3, 42, 27, 28, 182, 0, 65, 133, 80, 167, 0, 7, 58, 4, 4, 172, 3, 172]
abbrev dktX0_error_0 : List UInt8 := dkwX0_error_0 ++ []
theorem dksX0_error_0 : cX0_error.data.toList.drop 0 = dktX0_error_0 := by decide +kernel
theorem dX0_error_0 : decode cX0_error 0 = .ok (.aload_n 3, 1) := dk_45 (dk_at dksX0_error_0 0 rfl rfl)
theorem dX0_error_1 : decode cX0_error 1 = .ok (.iconst 0, 1) := dk_3 (dk_at dksX0_error_0 1 rfl rfl)
theorem dX0_error_2 : decode cX0_error 2 = .ok (.aload_n 0, 1) := dk_42 (dk_at dksX0_error_0 2 rfl rfl)
theorem dX0_error_3 : decode cX0_error 3 = .ok (.iload_n 1, 1) := dk_27 (dk_at dksX0_error_0 3 rfl rfl)
theorem dX0_error_4 : decode cX0_error 4 = .ok (.iload_n 2, 1) := dk_28 (dk_at dksX0_error_0 4 rfl rfl)
theorem dX0_error_5 : decode cX0_error 5 = .ok (.invokevirtual 65, 3) := dk_182 0 65 (dk_at dksX0_error_0 5 rfl rfl)
theorem dX0_error_8 : decode cX0_error 8 = .ok (.i2l, 1) := dk_133 (dk_at dksX0_error_0 8 rfl rfl)
theorem dX0_error_9 : decode cX0_error 9 = .ok (.lastore, 1) := dk_80 (dk_at dksX0_error_0 9 rfl rfl)
theorem dX0_error_10 : decode cX0_error 10 = .ok (.goto 7, 3) := dk_167 0 7 (dk_at dksX0_error_0 10 rfl rfl)
theorem dX0_error_13 : decode cX0_error 13 = .ok (.astore 4, 2) := dk_58 4 (dk_at dksX0_error_0 13 rfl rfl)
theorem dX0_error_15 : decode cX0_error 15 = .ok (.iconst 1, 1) := dk_4 (dk_at dksX0_error_0 15 rfl rfl)
theorem dX0_error_16 : decode cX0_error 16 = .ok (.ireturn, 1) := dk_172 (dk_at dksX0_error_0 16 rfl rfl)
theorem dX0_error_17 : decode cX0_error 17 = .ok (.iconst 0, 1) := dk_3 (dk_at dksX0_error_0 17 rfl rfl)
theorem dX0_error_18 : decode cX0_error 18 = .ok (.ireturn, 1) := dk_172 (dk_at dksX0_error_0 18 rfl rfl)
abbrev cX0_bestPeriod : ByteArray := method_19_code
def yX0_bestPeriod : MethodName := ⟨RX0, "bestPeriod", "(LThreeBodies;II[J)I"⟩
def dkwX0_bestPeriod_0 : List UInt8 := [45, 3, 42, 27, 28, 182, 0, 68, 133, 80, 167, 0, 7, 58, 4, 4, 172, 3, 172]
abbrev dktX0_bestPeriod_0 : List UInt8 := dkwX0_bestPeriod_0 ++ []
theorem dksX0_bestPeriod_0 : cX0_bestPeriod.data.toList.drop 0 = dktX0_bestPeriod_0 := by decide +kernel
theorem dX0_bestPeriod_0 : decode cX0_bestPeriod 0 = .ok (.aload_n 3, 1) := dk_45 (dk_at dksX0_bestPeriod_0 0 rfl rfl)
theorem dX0_bestPeriod_1 : decode cX0_bestPeriod 1 = .ok (.iconst 0, 1) := dk_3 (dk_at dksX0_bestPeriod_0 1 rfl rfl)
theorem dX0_bestPeriod_2 : decode cX0_bestPeriod 2 = .ok (.aload_n 0, 1) := dk_42 (dk_at dksX0_bestPeriod_0 2 rfl rfl)
theorem dX0_bestPeriod_3 : decode cX0_bestPeriod 3 = .ok (.iload_n 1, 1) := dk_27 (dk_at dksX0_bestPeriod_0 3 rfl rfl)
theorem dX0_bestPeriod_4 : decode cX0_bestPeriod 4 = .ok (.iload_n 2, 1) := dk_28 (dk_at dksX0_bestPeriod_0 4 rfl rfl)
theorem dX0_bestPeriod_5 : decode cX0_bestPeriod 5 = .ok (.invokevirtual 68, 3) := dk_182 0 68 (dk_at dksX0_bestPeriod_0 5 rfl rfl)
theorem dX0_bestPeriod_8 : decode cX0_bestPeriod 8 = .ok (.i2l, 1) := dk_133 (dk_at dksX0_bestPeriod_0 8 rfl rfl)
theorem dX0_bestPeriod_9 : decode cX0_bestPeriod 9 = .ok (.lastore, 1) := dk_80 (dk_at dksX0_bestPeriod_0 9 rfl rfl)
theorem dX0_bestPeriod_10 : decode cX0_bestPeriod 10 = .ok (.goto 7, 3) := dk_167 0 7 (dk_at dksX0_bestPeriod_0 10 rfl rfl)
theorem dX0_bestPeriod_13 : decode cX0_bestPeriod 13 = .ok (.astore 4, 2) := dk_58 4 (dk_at dksX0_bestPeriod_0 13 rfl rfl)
theorem dX0_bestPeriod_15 : decode cX0_bestPeriod 15 = .ok (.iconst 1, 1) := dk_4 (dk_at dksX0_bestPeriod_0 15 rfl rfl)
theorem dX0_bestPeriod_16 : decode cX0_bestPeriod 16 = .ok (.ireturn, 1) := dk_172 (dk_at dksX0_bestPeriod_0 16 rfl rfl)
theorem dX0_bestPeriod_17 : decode cX0_bestPeriod 17 = .ok (.iconst 0, 1) := dk_3 (dk_at dksX0_bestPeriod_0 17 rfl rfl)
theorem dX0_bestPeriod_18 : decode cX0_bestPeriod 18 = .ok (.ireturn, 1) := dk_172 (dk_at dksX0_bestPeriod_0 18 rfl rfl)
abbrev cX0_recurs : ByteArray := method_20_code
def yX0_recurs : MethodName := ⟨RX0, "recurs", "(LThreeBodies;ZI[J)I"⟩
def dkwX0_recurs_0 : List UInt8 := [45, 3, 42, 27, 28, 182, 0, 71, 133, 80, 167, 0, 7, 58, 4, 4, 172, 3, 172]
abbrev dktX0_recurs_0 : List UInt8 := dkwX0_recurs_0 ++ []
theorem dksX0_recurs_0 : cX0_recurs.data.toList.drop 0 = dktX0_recurs_0 := by decide +kernel
theorem dX0_recurs_0 : decode cX0_recurs 0 = .ok (.aload_n 3, 1) := dk_45 (dk_at dksX0_recurs_0 0 rfl rfl)
theorem dX0_recurs_1 : decode cX0_recurs 1 = .ok (.iconst 0, 1) := dk_3 (dk_at dksX0_recurs_0 1 rfl rfl)
theorem dX0_recurs_2 : decode cX0_recurs 2 = .ok (.aload_n 0, 1) := dk_42 (dk_at dksX0_recurs_0 2 rfl rfl)
theorem dX0_recurs_3 : decode cX0_recurs 3 = .ok (.iload_n 1, 1) := dk_27 (dk_at dksX0_recurs_0 3 rfl rfl)
theorem dX0_recurs_4 : decode cX0_recurs 4 = .ok (.iload_n 2, 1) := dk_28 (dk_at dksX0_recurs_0 4 rfl rfl)
theorem dX0_recurs_5 : decode cX0_recurs 5 = .ok (.invokevirtual 71, 3) := dk_182 0 71 (dk_at dksX0_recurs_0 5 rfl rfl)
theorem dX0_recurs_8 : decode cX0_recurs 8 = .ok (.i2l, 1) := dk_133 (dk_at dksX0_recurs_0 8 rfl rfl)
theorem dX0_recurs_9 : decode cX0_recurs 9 = .ok (.lastore, 1) := dk_80 (dk_at dksX0_recurs_0 9 rfl rfl)
theorem dX0_recurs_10 : decode cX0_recurs 10 = .ok (.goto 7, 3) := dk_167 0 7 (dk_at dksX0_recurs_0 10 rfl rfl)
theorem dX0_recurs_13 : decode cX0_recurs 13 = .ok (.astore 4, 2) := dk_58 4 (dk_at dksX0_recurs_0 13 rfl rfl)
theorem dX0_recurs_15 : decode cX0_recurs 15 = .ok (.iconst 1, 1) := dk_4 (dk_at dksX0_recurs_0 15 rfl rfl)
theorem dX0_recurs_16 : decode cX0_recurs 16 = .ok (.ireturn, 1) := dk_172 (dk_at dksX0_recurs_0 16 rfl rfl)
theorem dX0_recurs_17 : decode cX0_recurs 17 = .ok (.iconst 0, 1) := dk_3 (dk_at dksX0_recurs_0 17 rfl rfl)
theorem dX0_recurs_18 : decode cX0_recurs 18 = .ok (.ireturn, 1) := dk_172 (dk_at dksX0_recurs_0 18 rfl rfl)
abbrev cX0_cellCount : ByteArray := method_21_code
def yX0_cellCount : MethodName := ⟨RX0, "cellCount", "(LThreeBodies;III[J)I"⟩
def dkwX0_cellCount_1 : List UInt8 := [172]
abbrev dktX0_cellCount_1 : List UInt8 := dkwX0_cellCount_1 ++ []
def dkwX0_cellCount_0 : List UInt8 := [25, 4, 3, 42, 27, 28, 29, 182, 0, 75, 133, 80, 167, 0, 11, 58, 5, 4, 172, 58, 5, 5, 172, 3]
abbrev dktX0_cellCount_0 : List UInt8 := dkwX0_cellCount_0 ++ dktX0_cellCount_1
theorem dksX0_cellCount_0 : cX0_cellCount.data.toList.drop 0 = dktX0_cellCount_0 := by decide +kernel
theorem dksX0_cellCount_1 : cX0_cellCount.data.toList.drop 24 = dktX0_cellCount_1 := dk_seg dksX0_cellCount_0 24 rfl rfl
theorem dX0_cellCount_0 : decode cX0_cellCount 0 = .ok (.aload 4, 2) := dk_25 4 (dk_at dksX0_cellCount_0 0 rfl rfl)
theorem dX0_cellCount_2 : decode cX0_cellCount 2 = .ok (.iconst 0, 1) := dk_3 (dk_at dksX0_cellCount_0 2 rfl rfl)
theorem dX0_cellCount_3 : decode cX0_cellCount 3 = .ok (.aload_n 0, 1) := dk_42 (dk_at dksX0_cellCount_0 3 rfl rfl)
theorem dX0_cellCount_4 : decode cX0_cellCount 4 = .ok (.iload_n 1, 1) := dk_27 (dk_at dksX0_cellCount_0 4 rfl rfl)
theorem dX0_cellCount_5 : decode cX0_cellCount 5 = .ok (.iload_n 2, 1) := dk_28 (dk_at dksX0_cellCount_0 5 rfl rfl)
theorem dX0_cellCount_6 : decode cX0_cellCount 6 = .ok (.iload_n 3, 1) := dk_29 (dk_at dksX0_cellCount_0 6 rfl rfl)
theorem dX0_cellCount_7 : decode cX0_cellCount 7 = .ok (.invokevirtual 75, 3) := dk_182 0 75 (dk_at dksX0_cellCount_0 7 rfl rfl)
theorem dX0_cellCount_10 : decode cX0_cellCount 10 = .ok (.i2l, 1) := dk_133 (dk_at dksX0_cellCount_0 10 rfl rfl)
theorem dX0_cellCount_11 : decode cX0_cellCount 11 = .ok (.lastore, 1) := dk_80 (dk_at dksX0_cellCount_0 11 rfl rfl)
theorem dX0_cellCount_12 : decode cX0_cellCount 12 = .ok (.goto 11, 3) := dk_167 0 11 (dk_at dksX0_cellCount_0 12 rfl rfl)
theorem dX0_cellCount_15 : decode cX0_cellCount 15 = .ok (.astore 5, 2) := dk_58 5 (dk_at dksX0_cellCount_0 15 rfl rfl)
theorem dX0_cellCount_17 : decode cX0_cellCount 17 = .ok (.iconst 1, 1) := dk_4 (dk_at dksX0_cellCount_0 17 rfl rfl)
theorem dX0_cellCount_18 : decode cX0_cellCount 18 = .ok (.ireturn, 1) := dk_172 (dk_at dksX0_cellCount_0 18 rfl rfl)
theorem dX0_cellCount_19 : decode cX0_cellCount 19 = .ok (.astore 5, 2) := dk_58 5 (dk_at dksX0_cellCount_0 19 rfl rfl)
theorem dX0_cellCount_21 : decode cX0_cellCount 21 = .ok (.iconst 2, 1) := dk_5 (dk_at dksX0_cellCount_0 21 rfl rfl)
theorem dX0_cellCount_22 : decode cX0_cellCount 22 = .ok (.ireturn, 1) := dk_172 (dk_at dksX0_cellCount_0 22 rfl rfl)
theorem dX0_cellCount_23 : decode cX0_cellCount 23 = .ok (.iconst 0, 1) := dk_3 (dk_at dksX0_cellCount_0 23 rfl rfl)
theorem dX0_cellCount_24 : decode cX0_cellCount 24 = .ok (.ireturn, 1) := dk_172 (dk_at dksX0_cellCount_1 0 rfl rfl)
abbrev cX0_cell : ByteArray := method_22_code
def yX0_cell : MethodName := ⟨RX0, "cell", "(LThreeBodies;IIIII[J)I"⟩
def dkwX0_cell_1 : List UInt8 := [58, 7, 5, 172, 3, 172]
abbrev dktX0_cell_1 : List UInt8 := dkwX0_cell_1 ++ []
def dkwX0_cell_0 : List UInt8 := [25, 6, 3, 42, 27, 28, 29, 21, 4, 21, 5, 182, 0, 78, 133, 80, 167, 0, 11, 58, 7, 4, 172]
abbrev dktX0_cell_0 : List UInt8 := dkwX0_cell_0 ++ dktX0_cell_1
theorem dksX0_cell_0 : cX0_cell.data.toList.drop 0 = dktX0_cell_0 := by decide +kernel
theorem dksX0_cell_1 : cX0_cell.data.toList.drop 23 = dktX0_cell_1 := dk_seg dksX0_cell_0 23 rfl rfl
theorem dX0_cell_0 : decode cX0_cell 0 = .ok (.aload 6, 2) := dk_25 6 (dk_at dksX0_cell_0 0 rfl rfl)
theorem dX0_cell_2 : decode cX0_cell 2 = .ok (.iconst 0, 1) := dk_3 (dk_at dksX0_cell_0 2 rfl rfl)
theorem dX0_cell_3 : decode cX0_cell 3 = .ok (.aload_n 0, 1) := dk_42 (dk_at dksX0_cell_0 3 rfl rfl)
theorem dX0_cell_4 : decode cX0_cell 4 = .ok (.iload_n 1, 1) := dk_27 (dk_at dksX0_cell_0 4 rfl rfl)
theorem dX0_cell_5 : decode cX0_cell 5 = .ok (.iload_n 2, 1) := dk_28 (dk_at dksX0_cell_0 5 rfl rfl)
theorem dX0_cell_6 : decode cX0_cell 6 = .ok (.iload_n 3, 1) := dk_29 (dk_at dksX0_cell_0 6 rfl rfl)
theorem dX0_cell_7 : decode cX0_cell 7 = .ok (.iload 4, 2) := dk_21 4 (dk_at dksX0_cell_0 7 rfl rfl)
theorem dX0_cell_9 : decode cX0_cell 9 = .ok (.iload 5, 2) := dk_21 5 (dk_at dksX0_cell_0 9 rfl rfl)
theorem dX0_cell_11 : decode cX0_cell 11 = .ok (.invokevirtual 78, 3) := dk_182 0 78 (dk_at dksX0_cell_0 11 rfl rfl)
theorem dX0_cell_14 : decode cX0_cell 14 = .ok (.i2l, 1) := dk_133 (dk_at dksX0_cell_0 14 rfl rfl)
theorem dX0_cell_15 : decode cX0_cell 15 = .ok (.lastore, 1) := dk_80 (dk_at dksX0_cell_0 15 rfl rfl)
theorem dX0_cell_16 : decode cX0_cell 16 = .ok (.goto 11, 3) := dk_167 0 11 (dk_at dksX0_cell_0 16 rfl rfl)
theorem dX0_cell_19 : decode cX0_cell 19 = .ok (.astore 7, 2) := dk_58 7 (dk_at dksX0_cell_0 19 rfl rfl)
theorem dX0_cell_21 : decode cX0_cell 21 = .ok (.iconst 1, 1) := dk_4 (dk_at dksX0_cell_0 21 rfl rfl)
theorem dX0_cell_22 : decode cX0_cell 22 = .ok (.ireturn, 1) := dk_172 (dk_at dksX0_cell_0 22 rfl rfl)
theorem dX0_cell_23 : decode cX0_cell 23 = .ok (.astore 7, 2) := dk_58 7 (dk_at dksX0_cell_1 0 rfl rfl)
theorem dX0_cell_25 : decode cX0_cell 25 = .ok (.iconst 2, 1) := dk_5 (dk_at dksX0_cell_1 2 rfl rfl)
theorem dX0_cell_26 : decode cX0_cell 26 = .ok (.ireturn, 1) := dk_172 (dk_at dksX0_cell_1 3 rfl rfl)
theorem dX0_cell_27 : decode cX0_cell 27 = .ok (.iconst 0, 1) := dk_3 (dk_at dksX0_cell_1 4 rfl rfl)
theorem dX0_cell_28 : decode cX0_cell 28 = .ok (.ireturn, 1) := dk_172 (dk_at dksX0_cell_1 5 rfl rfl)
abbrev cX0_format : ByteArray := method_23_code
def yX0_format : MethodName := ⟨RX0, "format", "(LThreeBodies;I[J)I"⟩
def dkwX0_format_0 : List UInt8 := [44, 3, 42, 27, 182, 0, 82, 133, 80, 167, 0, 6, 78, 4, 172, 3, 172]
abbrev dktX0_format_0 : List UInt8 := dkwX0_format_0 ++ []
theorem dksX0_format_0 : cX0_format.data.toList.drop 0 = dktX0_format_0 := by decide +kernel
theorem dX0_format_0 : decode cX0_format 0 = .ok (.aload_n 2, 1) := dk_44 (dk_at dksX0_format_0 0 rfl rfl)
theorem dX0_format_1 : decode cX0_format 1 = .ok (.iconst 0, 1) := dk_3 (dk_at dksX0_format_0 1 rfl rfl)
theorem dX0_format_2 : decode cX0_format 2 = .ok (.aload_n 0, 1) := dk_42 (dk_at dksX0_format_0 2 rfl rfl)
theorem dX0_format_3 : decode cX0_format 3 = .ok (.iload_n 1, 1) := dk_27 (dk_at dksX0_format_0 3 rfl rfl)
theorem dX0_format_4 : decode cX0_format 4 = .ok (.invokevirtual 82, 3) := dk_182 0 82 (dk_at dksX0_format_0 4 rfl rfl)
theorem dX0_format_7 : decode cX0_format 7 = .ok (.i2l, 1) := dk_133 (dk_at dksX0_format_0 7 rfl rfl)
theorem dX0_format_8 : decode cX0_format 8 = .ok (.lastore, 1) := dk_80 (dk_at dksX0_format_0 8 rfl rfl)
theorem dX0_format_9 : decode cX0_format 9 = .ok (.goto 6, 3) := dk_167 0 6 (dk_at dksX0_format_0 9 rfl rfl)
theorem dX0_format_12 : decode cX0_format 12 = .ok (.astore_n 3, 1) := dk_78 (dk_at dksX0_format_0 12 rfl rfl)
theorem dX0_format_13 : decode cX0_format 13 = .ok (.iconst 1, 1) := dk_4 (dk_at dksX0_format_0 13 rfl rfl)
theorem dX0_format_14 : decode cX0_format 14 = .ok (.ireturn, 1) := dk_172 (dk_at dksX0_format_0 14 rfl rfl)
theorem dX0_format_15 : decode cX0_format 15 = .ok (.iconst 0, 1) := dk_3 (dk_at dksX0_format_0 15 rfl rfl)
theorem dX0_format_16 : decode cX0_format 16 = .ok (.ireturn, 1) := dk_172 (dk_at dksX0_format_0 16 rfl rfl)
abbrev cX0_query : ByteArray := method_24_code
def yX0_query : MethodName := ⟨RX0, "query", "(LThreeBodies;I[J)I"⟩
def dkwX0_query_0 : List UInt8 := [44, 3, 42, 27, 182, 0, 85, 133, 80, 167, 0, 6, 78, 4, 172, 3, 172]
abbrev dktX0_query_0 : List UInt8 := dkwX0_query_0 ++ []
theorem dksX0_query_0 : cX0_query.data.toList.drop 0 = dktX0_query_0 := by decide +kernel
theorem dX0_query_0 : decode cX0_query 0 = .ok (.aload_n 2, 1) := dk_44 (dk_at dksX0_query_0 0 rfl rfl)
theorem dX0_query_1 : decode cX0_query 1 = .ok (.iconst 0, 1) := dk_3 (dk_at dksX0_query_0 1 rfl rfl)
theorem dX0_query_2 : decode cX0_query 2 = .ok (.aload_n 0, 1) := dk_42 (dk_at dksX0_query_0 2 rfl rfl)
theorem dX0_query_3 : decode cX0_query 3 = .ok (.iload_n 1, 1) := dk_27 (dk_at dksX0_query_0 3 rfl rfl)
theorem dX0_query_4 : decode cX0_query 4 = .ok (.invokevirtual 85, 3) := dk_182 0 85 (dk_at dksX0_query_0 4 rfl rfl)
theorem dX0_query_7 : decode cX0_query 7 = .ok (.i2l, 1) := dk_133 (dk_at dksX0_query_0 7 rfl rfl)
theorem dX0_query_8 : decode cX0_query 8 = .ok (.lastore, 1) := dk_80 (dk_at dksX0_query_0 8 rfl rfl)
theorem dX0_query_9 : decode cX0_query 9 = .ok (.goto 6, 3) := dk_167 0 6 (dk_at dksX0_query_0 9 rfl rfl)
theorem dX0_query_12 : decode cX0_query 12 = .ok (.astore_n 3, 1) := dk_78 (dk_at dksX0_query_0 12 rfl rfl)
theorem dX0_query_13 : decode cX0_query 13 = .ok (.iconst 1, 1) := dk_4 (dk_at dksX0_query_0 13 rfl rfl)
theorem dX0_query_14 : decode cX0_query 14 = .ok (.ireturn, 1) := dk_172 (dk_at dksX0_query_0 14 rfl rfl)
theorem dX0_query_15 : decode cX0_query 15 = .ok (.iconst 0, 1) := dk_3 (dk_at dksX0_query_0 15 rfl rfl)
theorem dX0_query_16 : decode cX0_query 16 = .ok (.ireturn, 1) := dk_172 (dk_at dksX0_query_0 16 rfl rfl)
theorem q98 : (Jvm.Cond.initialized "ThreeBodiesLaw") ∈ lw_all := lw_g (lw_at lw_m1 0 rfl) rfl
theorem q153 : (Jvm.Cond.classLink "ThreeBodiesLaw" (8 : Nat) "ThreeBodies") ∈ lw_all := lw_g (lw_at lw_m1 55 rfl) rfl
theorem q155 : (Jvm.Cond.methodLink "ThreeBodiesLaw" (88 : Nat) ({ cls := "ThreeBodies", name := "<init>", desc := "()V" } : Jvm.MethodName)) ∈ lw_all := lw_g (lw_at lw_m1 57 rfl) rfl
theorem q557 : (Jvm.Cond.methodLink "ThreeBodiesLaw" (92 : Nat) ({ cls := "ThreeBodies", name := "feed", desc := "(IIIII)I" } : Jvm.MethodName)) ∈ lw_all := lw_g (lw_at lw_m2 219 rfl) rfl
theorem q565 : (Jvm.Cond.methodLink "ThreeBodiesLaw" (106 : Nat) ({ cls := "ThreeBodies", name := "errorPosition", desc := "()I" } : Jvm.MethodName)) ∈ lw_all := lw_g (lw_at lw_m2 227 rfl) rfl
theorem q569 : (Jvm.Cond.methodLink "ThreeBodiesLaw" (110 : Nat) ({ cls := "ThreeBodies", name := "clock", desc := "()I" } : Jvm.MethodName)) ∈ lw_all := lw_g (lw_at lw_m2 231 rfl) rfl
theorem q573 : (Jvm.Cond.methodLink "ThreeBodiesLaw" (130 : Nat) ({ cls := "ThreeBodies", name := "angular", desc := "()J" } : Jvm.MethodName)) ∈ lw_all := lw_g (lw_at lw_m2 235 rfl) rfl
theorem q577 : (Jvm.Cond.methodLink "ThreeBodiesLaw" (135 : Nat) ({ cls := "ThreeBodies", name := "kinetic", desc := "()J" } : Jvm.MethodName)) ∈ lw_all := lw_g (lw_at lw_m2 239 rfl) rfl
theorem q582 : (Jvm.Cond.methodLink "ThreeBodiesLaw" (139 : Nat) ({ cls := "ThreeBodies", name := "potential", desc := "()J" } : Jvm.MethodName)) ∈ lw_all := lw_g (lw_at lw_m3 4 rfl) rfl
theorem q587 : (Jvm.Cond.methodLink "ThreeBodiesLaw" (143 : Nat) ({ cls := "ThreeBodies", name := "band", desc := "()J" } : Jvm.MethodName)) ∈ lw_all := lw_g (lw_at lw_m3 9 rfl) rfl
theorem q596 : (Jvm.Cond.methodLink "ThreeBodiesLaw" (147 : Nat) ({ cls := "ThreeBodies", name := "seen", desc := "(Z)J" } : Jvm.MethodName)) ∈ lw_all := lw_g (lw_at lw_m3 18 rfl) rfl
theorem q600 : (Jvm.Cond.methodLink "ThreeBodiesLaw" (152 : Nat) ({ cls := "ThreeBodies", name := "crossings", desc := "()I" } : Jvm.MethodName)) ∈ lw_all := lw_g (lw_at lw_m3 22 rfl) rfl
theorem q604 : (Jvm.Cond.methodLink "ThreeBodiesLaw" (156 : Nat) ({ cls := "ThreeBodies", name := "approachCount", desc := "()I" } : Jvm.MethodName)) ∈ lw_all := lw_g (lw_at lw_m3 26 rfl) rfl
theorem q615 : (Jvm.Cond.methodLink "ThreeBodiesLaw" (176 : Nat) ({ cls := "ThreeBodies", name := "reverse", desc := "()V" } : Jvm.MethodName)) ∈ lw_all := lw_g (lw_at lw_m3 37 rfl) rfl
theorem q847 : (Jvm.Cond.methodLink "ThreeBodiesLaw" (180 : Nat) ({ cls := "ThreeBodies", name := "turn", desc := "()V" } : Jvm.MethodName)) ∈ lw_all := lw_g (lw_at lw_m4 29 rfl) rfl
theorem q851 : (Jvm.Cond.methodLink "ThreeBodiesLaw" (215 : Nat) ({ cls := "ThreeBodies", name := "virial", desc := "()D" } : Jvm.MethodName)) ∈ lw_all := lw_g (lw_at lw_m4 33 rfl) rfl
theorem q855 : (Jvm.Cond.methodLink "ThreeBodiesLaw" (220 : Nat) ({ cls := "ThreeBodies", name := "meanDistance", desc := "()F" } : Jvm.MethodName)) ∈ lw_all := lw_g (lw_at lw_m4 37 rfl) rfl
theorem q861 : (Jvm.Cond.methodLink "ThreeBodiesLaw" (228 : Nat) ({ cls := "ThreeBodies", name := "formattedByte", desc := "(I)I" } : Jvm.MethodName)) ∈ lw_all := lw_g (lw_at lw_m4 43 rfl) rfl
theorem q901 : (Jvm.Cond.methodLink "ThreeBodiesLaw" (232 : Nat) ({ cls := "ThreeBodies", name := "undoCount", desc := "()I" } : Jvm.MethodName)) ∈ lw_all := lw_g (lw_at lw_m4 83 rfl) rfl
theorem q905 : (Jvm.Cond.methodLink "ThreeBodiesLaw" (236 : Nat) ({ cls := "ThreeBodies", name := "undo", desc := "()I" } : Jvm.MethodName)) ∈ lw_all := lw_g (lw_at lw_m4 87 rfl) rfl
theorem q924 : (Jvm.Cond.methodLink "ThreeBodiesLaw" (240 : Nat) ({ cls := "ThreeBodies", name := "saveSnapshot", desc := "()V" } : Jvm.MethodName)) ∈ lw_all := lw_g (lw_at lw_m4 106 rfl) rfl
theorem q928 : (Jvm.Cond.methodLink "ThreeBodiesLaw" (244 : Nat) ({ cls := "ThreeBodies", name := "restoreSnapshot", desc := "()Z" } : Jvm.MethodName)) ∈ lw_all := lw_g (lw_at lw_m4 110 rfl) rfl
theorem q939 : (Jvm.Cond.methodLink "ThreeBodiesLaw" (96 : Nat) ({ cls := "ThreeBodiesLaw", name := "load", desc := "(LThreeBodies;I[J)I" } : Jvm.MethodName)) ∈ lw_all := lw_g (lw_at lw_m4 121 rfl) rfl
theorem q940 : (Jvm.Cond.static ({ cls := "ThreeBodiesLaw", name := "load", desc := "(LThreeBodies;I[J)I" } : Jvm.MethodName)) ∈ lw_all := lw_g (lw_at lw_m4 122 rfl) rfl
theorem q941 : (Jvm.Cond.codeWith ({ cls := "ThreeBodiesLaw", name := "load", desc := "(LThreeBodies;I[J)I" } : Jvm.MethodName) method_3_code (4 : Nat) (Option.some Jvm.ClassFile.FieldType.int) [((0 : Nat), (9 : Nat), (12 : Nat), (13 : Nat))]) ∈ lw_all := lw_g (lw_at lw_m4 123 rfl) rfl
theorem q942 : (Jvm.Cond.classLink "ThreeBodiesLaw" (13 : Nat) "java/lang/IllegalArgumentException") ∈ lw_all := lw_g (lw_at lw_m4 124 rfl) rfl
theorem q943 : (Jvm.Cond.methodLink "ThreeBodiesLaw" (7 : Nat) ({ cls := "ThreeBodies", name := "load", desc := "(I)I" } : Jvm.MethodName)) ∈ lw_all := lw_g (lw_at lw_m4 125 rfl) rfl
theorem q1486 : (Jvm.Cond.methodLink "ThreeBodiesLaw" (114 : Nat) ({ cls := "ThreeBodiesLaw", name := "body", desc := "(LThreeBodies;II[J)I" } : Jvm.MethodName)) ∈ lw_all := lw_g (lw_at lw_m6 188 rfl) rfl
theorem q1487 : (Jvm.Cond.static ({ cls := "ThreeBodiesLaw", name := "body", desc := "(LThreeBodies;II[J)I" } : Jvm.MethodName)) ∈ lw_all := lw_g (lw_at lw_m6 189 rfl) rfl
theorem q1488 : (Jvm.Cond.codeWith ({ cls := "ThreeBodiesLaw", name := "body", desc := "(LThreeBodies;II[J)I" } : Jvm.MethodName) method_4_code (5 : Nat) (Option.some Jvm.ClassFile.FieldType.int) [((0 : Nat), (10 : Nat), (13 : Nat), (19 : Nat))]) ∈ lw_all := lw_g (lw_at lw_m6 190 rfl) rfl
theorem q1489 : (Jvm.Cond.classLink "ThreeBodiesLaw" (19 : Nat) "java/util/NoSuchElementException") ∈ lw_all := lw_g (lw_at lw_m6 191 rfl) rfl
theorem q1490 : (Jvm.Cond.methodLink "ThreeBodiesLaw" (15 : Nat) ({ cls := "ThreeBodies", name := "body", desc := "(II)I" } : Jvm.MethodName)) ∈ lw_all := lw_g (lw_at lw_m6 192 rfl) rfl
theorem q1502 : (Jvm.Cond.methodLink "ThreeBodiesLaw" (118 : Nat) ({ cls := "ThreeBodiesLaw", name := "setting", desc := "(LThreeBodies;I[J)I" } : Jvm.MethodName)) ∈ lw_all := lw_g (lw_at lw_m6 204 rfl) rfl
theorem q1503 : (Jvm.Cond.static ({ cls := "ThreeBodiesLaw", name := "setting", desc := "(LThreeBodies;I[J)I" } : Jvm.MethodName)) ∈ lw_all := lw_g (lw_at lw_m6 205 rfl) rfl
theorem q1504 : (Jvm.Cond.codeWith ({ cls := "ThreeBodiesLaw", name := "setting", desc := "(LThreeBodies;I[J)I" } : Jvm.MethodName) method_5_code (4 : Nat) (Option.some Jvm.ClassFile.FieldType.int) [((0 : Nat), (9 : Nat), (12 : Nat), (19 : Nat))]) ∈ lw_all := lw_g (lw_at lw_m6 206 rfl) rfl
theorem q1505 : (Jvm.Cond.methodLink "ThreeBodiesLaw" (21 : Nat) ({ cls := "ThreeBodies", name := "setting", desc := "(I)I" } : Jvm.MethodName)) ∈ lw_all := lw_g (lw_at lw_m6 207 rfl) rfl
theorem q1510 : (Jvm.Cond.methodLink "ThreeBodiesLaw" (121 : Nat) ({ cls := "ThreeBodiesLaw", name := "distance", desc := "(LThreeBodies;I[J)I" } : Jvm.MethodName)) ∈ lw_all := lw_g (lw_at lw_m6 212 rfl) rfl
theorem q1511 : (Jvm.Cond.static ({ cls := "ThreeBodiesLaw", name := "distance", desc := "(LThreeBodies;I[J)I" } : Jvm.MethodName)) ∈ lw_all := lw_g (lw_at lw_m6 213 rfl) rfl
theorem q1512 : (Jvm.Cond.codeWith ({ cls := "ThreeBodiesLaw", name := "distance", desc := "(LThreeBodies;I[J)I" } : Jvm.MethodName) method_6_code (4 : Nat) (Option.some Jvm.ClassFile.FieldType.int) [((0 : Nat), (9 : Nat), (12 : Nat), (19 : Nat))]) ∈ lw_all := lw_g (lw_at lw_m6 214 rfl) rfl
theorem q1513 : (Jvm.Cond.methodLink "ThreeBodiesLaw" (24 : Nat) ({ cls := "ThreeBodies", name := "distance", desc := "(I)I" } : Jvm.MethodName)) ∈ lw_all := lw_g (lw_at lw_m6 215 rfl) rfl
theorem q1517 : (Jvm.Cond.methodLink "ThreeBodiesLaw" (124 : Nat) ({ cls := "ThreeBodiesLaw", name := "impulse", desc := "(LThreeBodies;II[J)I" } : Jvm.MethodName)) ∈ lw_all := lw_g (lw_at lw_m6 219 rfl) rfl
theorem q1518 : (Jvm.Cond.static ({ cls := "ThreeBodiesLaw", name := "impulse", desc := "(LThreeBodies;II[J)I" } : Jvm.MethodName)) ∈ lw_all := lw_g (lw_at lw_m6 220 rfl) rfl
theorem q1519 : (Jvm.Cond.codeWith ({ cls := "ThreeBodiesLaw", name := "impulse", desc := "(LThreeBodies;II[J)I" } : Jvm.MethodName) method_7_code (5 : Nat) (Option.some Jvm.ClassFile.FieldType.int) [((0 : Nat), (9 : Nat), (12 : Nat), (19 : Nat))]) ∈ lw_all := lw_g (lw_at lw_m6 221 rfl) rfl
theorem q1520 : (Jvm.Cond.methodLink "ThreeBodiesLaw" (27 : Nat) ({ cls := "ThreeBodies", name := "impulse", desc := "(II)J" } : Jvm.MethodName)) ∈ lw_all := lw_g (lw_at lw_m6 222 rfl) rfl
theorem q1525 : (Jvm.Cond.methodLink "ThreeBodiesLaw" (127 : Nat) ({ cls := "ThreeBodiesLaw", name := "momentum", desc := "(LThreeBodies;I[J)I" } : Jvm.MethodName)) ∈ lw_all := lw_g (lw_at lw_m6 227 rfl) rfl
theorem q1526 : (Jvm.Cond.static ({ cls := "ThreeBodiesLaw", name := "momentum", desc := "(LThreeBodies;I[J)I" } : Jvm.MethodName)) ∈ lw_all := lw_g (lw_at lw_m6 228 rfl) rfl
theorem q1527 : (Jvm.Cond.codeWith ({ cls := "ThreeBodiesLaw", name := "momentum", desc := "(LThreeBodies;I[J)I" } : Jvm.MethodName) method_8_code (4 : Nat) (Option.some Jvm.ClassFile.FieldType.int) [((0 : Nat), (8 : Nat), (11 : Nat), (19 : Nat))]) ∈ lw_all := lw_g (lw_at lw_m6 229 rfl) rfl
theorem q1528 : (Jvm.Cond.methodLink "ThreeBodiesLaw" (31 : Nat) ({ cls := "ThreeBodies", name := "momentum", desc := "(I)J" } : Jvm.MethodName)) ∈ lw_all := lw_g (lw_at lw_m6 230 rfl) rfl
theorem q1532 : (Jvm.Cond.methodLink "ThreeBodiesLaw" (160 : Nat) ({ cls := "ThreeBodiesLaw", name := "approach", desc := "(LThreeBodies;II[J)I" } : Jvm.MethodName)) ∈ lw_all := lw_g (lw_at lw_m6 234 rfl) rfl
theorem q1533 : (Jvm.Cond.static ({ cls := "ThreeBodiesLaw", name := "approach", desc := "(LThreeBodies;II[J)I" } : Jvm.MethodName)) ∈ lw_all := lw_g (lw_at lw_m6 235 rfl) rfl
theorem q1534 : (Jvm.Cond.codeWith ({ cls := "ThreeBodiesLaw", name := "approach", desc := "(LThreeBodies;II[J)I" } : Jvm.MethodName) method_9_code (5 : Nat) (Option.some Jvm.ClassFile.FieldType.int) [((0 : Nat), (10 : Nat), (13 : Nat), (19 : Nat))]) ∈ lw_all := lw_g (lw_at lw_m6 236 rfl) rfl
theorem q1535 : (Jvm.Cond.methodLink "ThreeBodiesLaw" (35 : Nat) ({ cls := "ThreeBodies", name := "approach", desc := "(II)I" } : Jvm.MethodName)) ∈ lw_all := lw_g (lw_at lw_m6 237 rfl) rfl
theorem q1549 : (Jvm.Cond.methodLink "ThreeBodiesLaw" (163 : Nat) ({ cls := "ThreeBodiesLaw", name := "run", desc := "(LThreeBodies;I[J)I" } : Jvm.MethodName)) ∈ lw_all := lw_g (lw_at lw_m7 11 rfl) rfl
theorem q1550 : (Jvm.Cond.static ({ cls := "ThreeBodiesLaw", name := "run", desc := "(LThreeBodies;I[J)I" } : Jvm.MethodName)) ∈ lw_all := lw_g (lw_at lw_m7 12 rfl) rfl
theorem q1551 : (Jvm.Cond.codeWith ({ cls := "ThreeBodiesLaw", name := "run", desc := "(LThreeBodies;I[J)I" } : Jvm.MethodName) method_10_code (4 : Nat) (Option.some Jvm.ClassFile.FieldType.int) [((0 : Nat), (9 : Nat), (12 : Nat), (13 : Nat))]) ∈ lw_all := lw_g (lw_at lw_m7 13 rfl) rfl
theorem q1552 : (Jvm.Cond.methodLink "ThreeBodiesLaw" (38 : Nat) ({ cls := "ThreeBodies", name := "run", desc := "(I)I" } : Jvm.MethodName)) ∈ lw_all := lw_g (lw_at lw_m7 14 rfl) rfl
theorem q1598 : (Jvm.Cond.methodLink "ThreeBodiesLaw" (166 : Nat) ({ cls := "ThreeBodiesLaw", name := "back", desc := "(LThreeBodies;I[J)I" } : Jvm.MethodName)) ∈ lw_all := lw_g (lw_at lw_m7 60 rfl) rfl
theorem q1599 : (Jvm.Cond.static ({ cls := "ThreeBodiesLaw", name := "back", desc := "(LThreeBodies;I[J)I" } : Jvm.MethodName)) ∈ lw_all := lw_g (lw_at lw_m7 61 rfl) rfl
theorem q1600 : (Jvm.Cond.codeWith ({ cls := "ThreeBodiesLaw", name := "back", desc := "(LThreeBodies;I[J)I" } : Jvm.MethodName) method_11_code (4 : Nat) (Option.some Jvm.ClassFile.FieldType.int) [((0 : Nat), (9 : Nat), (12 : Nat), (13 : Nat))]) ∈ lw_all := lw_g (lw_at lw_m7 62 rfl) rfl
theorem q1601 : (Jvm.Cond.methodLink "ThreeBodiesLaw" (41 : Nat) ({ cls := "ThreeBodies", name := "back", desc := "(I)I" } : Jvm.MethodName)) ∈ lw_all := lw_g (lw_at lw_m7 63 rfl) rfl
theorem q1606 : (Jvm.Cond.methodLink "ThreeBodiesLaw" (169 : Nat) ({ cls := "ThreeBodiesLaw", name := "push", desc := "(LThreeBodies;III[J)I" } : Jvm.MethodName)) ∈ lw_all := lw_g (lw_at lw_m7 68 rfl) rfl
theorem q1607 : (Jvm.Cond.static ({ cls := "ThreeBodiesLaw", name := "push", desc := "(LThreeBodies;III[J)I" } : Jvm.MethodName)) ∈ lw_all := lw_g (lw_at lw_m7 69 rfl) rfl
theorem q1608 : (Jvm.Cond.codeWith ({ cls := "ThreeBodiesLaw", name := "push", desc := "(LThreeBodies;III[J)I" } : Jvm.MethodName) method_12_code (6 : Nat) (Option.some Jvm.ClassFile.FieldType.int) [((0 : Nat), (12 : Nat), (15 : Nat), (19 : Nat))]) ∈ lw_all := lw_g (lw_at lw_m7 70 rfl) rfl
theorem q1609 : (Jvm.Cond.methodLink "ThreeBodiesLaw" (44 : Nat) ({ cls := "ThreeBodies", name := "push", desc := "(III)I" } : Jvm.MethodName)) ∈ lw_all := lw_g (lw_at lw_m7 71 rfl) rfl
theorem q1615 : (Jvm.Cond.methodLink "ThreeBodiesLaw" (173 : Nat) ({ cls := "ThreeBodiesLaw", name := "place", desc := "(LThreeBodies;III[J)I" } : Jvm.MethodName)) ∈ lw_all := lw_g (lw_at lw_m7 77 rfl) rfl
theorem q1616 : (Jvm.Cond.static ({ cls := "ThreeBodiesLaw", name := "place", desc := "(LThreeBodies;III[J)I" } : Jvm.MethodName)) ∈ lw_all := lw_g (lw_at lw_m7 78 rfl) rfl
theorem q1617 : (Jvm.Cond.codeWith ({ cls := "ThreeBodiesLaw", name := "place", desc := "(LThreeBodies;III[J)I" } : Jvm.MethodName) method_13_code (6 : Nat) (Option.some Jvm.ClassFile.FieldType.int) [((0 : Nat), (12 : Nat), (15 : Nat), (19 : Nat)), ((0 : Nat), (12 : Nat), (19 : Nat), (13 : Nat))]) ∈ lw_all := lw_g (lw_at lw_m7 79 rfl) rfl
theorem q1618 : (Jvm.Cond.methodLink "ThreeBodiesLaw" (48 : Nat) ({ cls := "ThreeBodies", name := "place", desc := "(III)I" } : Jvm.MethodName)) ∈ lw_all := lw_g (lw_at lw_m7 80 rfl) rfl
theorem q1625 : (Jvm.Cond.methodLink "ThreeBodiesLaw" (184 : Nat) ({ cls := "ThreeBodiesLaw", name := "exchange", desc := "(LThreeBodies;II)I" } : Jvm.MethodName)) ∈ lw_all := lw_g (lw_at lw_m7 87 rfl) rfl
theorem q1626 : (Jvm.Cond.static ({ cls := "ThreeBodiesLaw", name := "exchange", desc := "(LThreeBodies;II)I" } : Jvm.MethodName)) ∈ lw_all := lw_g (lw_at lw_m7 88 rfl) rfl
theorem q1627 : (Jvm.Cond.codeWith ({ cls := "ThreeBodiesLaw", name := "exchange", desc := "(LThreeBodies;II)I" } : Jvm.MethodName) method_14_code (4 : Nat) (Option.some Jvm.ClassFile.FieldType.int) [((0 : Nat), (6 : Nat), (9 : Nat), (19 : Nat)), ((0 : Nat), (6 : Nat), (12 : Nat), (13 : Nat))]) ∈ lw_all := lw_g (lw_at lw_m7 89 rfl) rfl
theorem q1628 : (Jvm.Cond.methodLink "ThreeBodiesLaw" (51 : Nat) ({ cls := "ThreeBodies", name := "exchange", desc := "(II)V" } : Jvm.MethodName)) ∈ lw_all := lw_g (lw_at lw_m7 90 rfl) rfl
theorem q1638 : (Jvm.Cond.methodLink "ThreeBodiesLaw" (188 : Nat) ({ cls := "ThreeBodiesLaw", name := "setScheme", desc := "(LThreeBodies;I[J)I" } : Jvm.MethodName)) ∈ lw_all := lw_g (lw_at lw_m7 100 rfl) rfl
theorem q1639 : (Jvm.Cond.static ({ cls := "ThreeBodiesLaw", name := "setScheme", desc := "(LThreeBodies;I[J)I" } : Jvm.MethodName)) ∈ lw_all := lw_g (lw_at lw_m7 101 rfl) rfl
theorem q1640 : (Jvm.Cond.codeWith ({ cls := "ThreeBodiesLaw", name := "setScheme", desc := "(LThreeBodies;I[J)I" } : Jvm.MethodName) method_15_code (4 : Nat) (Option.some Jvm.ClassFile.FieldType.int) [((0 : Nat), (9 : Nat), (12 : Nat), (13 : Nat))]) ∈ lw_all := lw_g (lw_at lw_m7 102 rfl) rfl
theorem q1641 : (Jvm.Cond.methodLink "ThreeBodiesLaw" (55 : Nat) ({ cls := "ThreeBodies", name := "setScheme", desc := "(I)I" } : Jvm.MethodName)) ∈ lw_all := lw_g (lw_at lw_m7 103 rfl) rfl
theorem q1645 : (Jvm.Cond.methodLink "ThreeBodiesLaw" (191 : Nat) ({ cls := "ThreeBodiesLaw", name := "refine", desc := "(LThreeBodies;IIII[J)I" } : Jvm.MethodName)) ∈ lw_all := lw_g (lw_at lw_m7 107 rfl) rfl
theorem q1646 : (Jvm.Cond.static ({ cls := "ThreeBodiesLaw", name := "refine", desc := "(LThreeBodies;IIII[J)I" } : Jvm.MethodName)) ∈ lw_all := lw_g (lw_at lw_m7 108 rfl) rfl
theorem q1647 : (Jvm.Cond.codeWith ({ cls := "ThreeBodiesLaw", name := "refine", desc := "(LThreeBodies;IIII[J)I" } : Jvm.MethodName) method_16_code (7 : Nat) (Option.some Jvm.ClassFile.FieldType.int) [((0 : Nat), (14 : Nat), (17 : Nat), (13 : Nat))]) ∈ lw_all := lw_g (lw_at lw_m7 109 rfl) rfl
theorem q1648 : (Jvm.Cond.methodLink "ThreeBodiesLaw" (58 : Nat) ({ cls := "ThreeBodies", name := "refine", desc := "(IIII)I" } : Jvm.MethodName)) ∈ lw_all := lw_g (lw_at lw_m7 110 rfl) rfl
theorem q1699 : (Jvm.Cond.methodLink "ThreeBodiesLaw" (195 : Nat) ({ cls := "ThreeBodiesLaw", name := "possible", desc := "(LThreeBodies;I[J)I" } : Jvm.MethodName)) ∈ lw_all := lw_g (lw_at lw_m7 161 rfl) rfl
theorem q1700 : (Jvm.Cond.static ({ cls := "ThreeBodiesLaw", name := "possible", desc := "(LThreeBodies;I[J)I" } : Jvm.MethodName)) ∈ lw_all := lw_g (lw_at lw_m7 162 rfl) rfl
theorem q1701 : (Jvm.Cond.codeWith ({ cls := "ThreeBodiesLaw", name := "possible", desc := "(LThreeBodies;I[J)I" } : Jvm.MethodName) method_17_code (4 : Nat) (Option.some Jvm.ClassFile.FieldType.int) [((0 : Nat), (9 : Nat), (12 : Nat), (13 : Nat))]) ∈ lw_all := lw_g (lw_at lw_m7 163 rfl) rfl
theorem q1702 : (Jvm.Cond.methodLink "ThreeBodiesLaw" (62 : Nat) ({ cls := "ThreeBodies", name := "possible", desc := "(I)I" } : Jvm.MethodName)) ∈ lw_all := lw_g (lw_at lw_m7 164 rfl) rfl
theorem q1706 : (Jvm.Cond.methodLink "ThreeBodiesLaw" (198 : Nat) ({ cls := "ThreeBodiesLaw", name := "error", desc := "(LThreeBodies;II[J)I" } : Jvm.MethodName)) ∈ lw_all := lw_g (lw_at lw_m7 168 rfl) rfl
theorem q1707 : (Jvm.Cond.static ({ cls := "ThreeBodiesLaw", name := "error", desc := "(LThreeBodies;II[J)I" } : Jvm.MethodName)) ∈ lw_all := lw_g (lw_at lw_m7 169 rfl) rfl
theorem q1708 : (Jvm.Cond.codeWith ({ cls := "ThreeBodiesLaw", name := "error", desc := "(LThreeBodies;II[J)I" } : Jvm.MethodName) method_18_code (5 : Nat) (Option.some Jvm.ClassFile.FieldType.int) [((0 : Nat), (10 : Nat), (13 : Nat), (13 : Nat))]) ∈ lw_all := lw_g (lw_at lw_m7 170 rfl) rfl
theorem q1709 : (Jvm.Cond.methodLink "ThreeBodiesLaw" (65 : Nat) ({ cls := "ThreeBodies", name := "error", desc := "(II)I" } : Jvm.MethodName)) ∈ lw_all := lw_g (lw_at lw_m7 171 rfl) rfl
theorem q1713 : (Jvm.Cond.methodLink "ThreeBodiesLaw" (201 : Nat) ({ cls := "ThreeBodiesLaw", name := "bestPeriod", desc := "(LThreeBodies;II[J)I" } : Jvm.MethodName)) ∈ lw_all := lw_g (lw_at lw_m7 175 rfl) rfl
theorem q1714 : (Jvm.Cond.static ({ cls := "ThreeBodiesLaw", name := "bestPeriod", desc := "(LThreeBodies;II[J)I" } : Jvm.MethodName)) ∈ lw_all := lw_g (lw_at lw_m7 176 rfl) rfl
theorem q1715 : (Jvm.Cond.codeWith ({ cls := "ThreeBodiesLaw", name := "bestPeriod", desc := "(LThreeBodies;II[J)I" } : Jvm.MethodName) method_19_code (5 : Nat) (Option.some Jvm.ClassFile.FieldType.int) [((0 : Nat), (10 : Nat), (13 : Nat), (13 : Nat))]) ∈ lw_all := lw_g (lw_at lw_m7 177 rfl) rfl
theorem q1716 : (Jvm.Cond.methodLink "ThreeBodiesLaw" (68 : Nat) ({ cls := "ThreeBodies", name := "bestPeriod", desc := "(II)I" } : Jvm.MethodName)) ∈ lw_all := lw_g (lw_at lw_m7 178 rfl) rfl
theorem q1720 : (Jvm.Cond.methodLink "ThreeBodiesLaw" (204 : Nat) ({ cls := "ThreeBodiesLaw", name := "recurs", desc := "(LThreeBodies;ZI[J)I" } : Jvm.MethodName)) ∈ lw_all := lw_g (lw_at lw_m7 182 rfl) rfl
theorem q1721 : (Jvm.Cond.static ({ cls := "ThreeBodiesLaw", name := "recurs", desc := "(LThreeBodies;ZI[J)I" } : Jvm.MethodName)) ∈ lw_all := lw_g (lw_at lw_m7 183 rfl) rfl
theorem q1722 : (Jvm.Cond.codeWith ({ cls := "ThreeBodiesLaw", name := "recurs", desc := "(LThreeBodies;ZI[J)I" } : Jvm.MethodName) method_20_code (5 : Nat) (Option.some Jvm.ClassFile.FieldType.int) [((0 : Nat), (10 : Nat), (13 : Nat), (13 : Nat))]) ∈ lw_all := lw_g (lw_at lw_m7 184 rfl) rfl
theorem q1723 : (Jvm.Cond.methodLink "ThreeBodiesLaw" (71 : Nat) ({ cls := "ThreeBodies", name := "recurs", desc := "(ZI)I" } : Jvm.MethodName)) ∈ lw_all := lw_g (lw_at lw_m7 185 rfl) rfl
theorem q1739 : (Jvm.Cond.methodLink "ThreeBodiesLaw" (208 : Nat) ({ cls := "ThreeBodiesLaw", name := "cellCount", desc := "(LThreeBodies;III[J)I" } : Jvm.MethodName)) ∈ lw_all := lw_g (lw_at lw_m7 201 rfl) rfl
theorem q1740 : (Jvm.Cond.static ({ cls := "ThreeBodiesLaw", name := "cellCount", desc := "(LThreeBodies;III[J)I" } : Jvm.MethodName)) ∈ lw_all := lw_g (lw_at lw_m7 202 rfl) rfl
theorem q1741 : (Jvm.Cond.codeWith ({ cls := "ThreeBodiesLaw", name := "cellCount", desc := "(LThreeBodies;III[J)I" } : Jvm.MethodName) method_21_code (6 : Nat) (Option.some Jvm.ClassFile.FieldType.int) [((0 : Nat), (12 : Nat), (15 : Nat), (19 : Nat)), ((0 : Nat), (12 : Nat), (19 : Nat), (13 : Nat))]) ∈ lw_all := lw_g (lw_at lw_m7 203 rfl) rfl
theorem q1742 : (Jvm.Cond.methodLink "ThreeBodiesLaw" (75 : Nat) ({ cls := "ThreeBodies", name := "cellCount", desc := "(III)I" } : Jvm.MethodName)) ∈ lw_all := lw_g (lw_at lw_m7 204 rfl) rfl
theorem q2377 : (Jvm.Cond.methodLink "ThreeBodiesLaw" (211 : Nat) ({ cls := "ThreeBodiesLaw", name := "cell", desc := "(LThreeBodies;IIIII[J)I" } : Jvm.MethodName)) ∈ lw_all := lw_g (lw_at lw_m10 119 rfl) rfl
theorem q2378 : (Jvm.Cond.static ({ cls := "ThreeBodiesLaw", name := "cell", desc := "(LThreeBodies;IIIII[J)I" } : Jvm.MethodName)) ∈ lw_all := lw_g (lw_at lw_m10 120 rfl) rfl
theorem q2379 : (Jvm.Cond.codeWith ({ cls := "ThreeBodiesLaw", name := "cell", desc := "(LThreeBodies;IIIII[J)I" } : Jvm.MethodName) method_22_code (8 : Nat) (Option.some Jvm.ClassFile.FieldType.int) [((0 : Nat), (16 : Nat), (19 : Nat), (19 : Nat)), ((0 : Nat), (16 : Nat), (23 : Nat), (13 : Nat))]) ∈ lw_all := lw_g (lw_at lw_m10 121 rfl) rfl
theorem q2380 : (Jvm.Cond.methodLink "ThreeBodiesLaw" (78 : Nat) ({ cls := "ThreeBodies", name := "cell", desc := "(IIIII)I" } : Jvm.MethodName)) ∈ lw_all := lw_g (lw_at lw_m10 122 rfl) rfl
theorem q2480 : (Jvm.Cond.methodLink "ThreeBodiesLaw" (225 : Nat) ({ cls := "ThreeBodiesLaw", name := "format", desc := "(LThreeBodies;I[J)I" } : Jvm.MethodName)) ∈ lw_all := lw_g (lw_at lw_m10 222 rfl) rfl
theorem q2481 : (Jvm.Cond.static ({ cls := "ThreeBodiesLaw", name := "format", desc := "(LThreeBodies;I[J)I" } : Jvm.MethodName)) ∈ lw_all := lw_g (lw_at lw_m10 223 rfl) rfl
theorem q2482 : (Jvm.Cond.codeWith ({ cls := "ThreeBodiesLaw", name := "format", desc := "(LThreeBodies;I[J)I" } : Jvm.MethodName) method_23_code (4 : Nat) (Option.some Jvm.ClassFile.FieldType.int) [((0 : Nat), (9 : Nat), (12 : Nat), (19 : Nat))]) ∈ lw_all := lw_g (lw_at lw_m10 224 rfl) rfl
theorem q2483 : (Jvm.Cond.methodLink "ThreeBodiesLaw" (82 : Nat) ({ cls := "ThreeBodies", name := "format", desc := "(I)I" } : Jvm.MethodName)) ∈ lw_all := lw_g (lw_at lw_m10 225 rfl) rfl
theorem q2543 : (Jvm.Cond.methodLink "ThreeBodiesLaw" (249 : Nat) ({ cls := "ThreeBodiesLaw", name := "query", desc := "(LThreeBodies;I[J)I" } : Jvm.MethodName)) ∈ lw_all := lw_g (lw_at lw_m11 45 rfl) rfl
theorem q2544 : (Jvm.Cond.static ({ cls := "ThreeBodiesLaw", name := "query", desc := "(LThreeBodies;I[J)I" } : Jvm.MethodName)) ∈ lw_all := lw_g (lw_at lw_m11 46 rfl) rfl
theorem q2545 : (Jvm.Cond.codeWith ({ cls := "ThreeBodiesLaw", name := "query", desc := "(LThreeBodies;I[J)I" } : Jvm.MethodName) method_24_code (4 : Nat) (Option.some Jvm.ClassFile.FieldType.int) [((0 : Nat), (9 : Nat), (12 : Nat), (13 : Nat))]) ∈ lw_all := lw_g (lw_at lw_m11 47 rfl) rfl
theorem q2546 : (Jvm.Cond.methodLink "ThreeBodiesLaw" (85 : Nat) ({ cls := "ThreeBodies", name := "query", desc := "(I)I" } : Jvm.MethodName)) ∈ lw_all := lw_g (lw_at lw_m11 48 rfl) rfl
theorem q2698 : (Jvm.Cond.classLink "ThreeBodiesLaw" (89 : Nat) "ThreeBodiesModel") ∈ lw_all := lw_g (lw_at lw_m11 200 rfl) rfl
theorem q2700 : (Jvm.Cond.methodLink "ThreeBodiesLaw" (91 : Nat) ({ cls := "ThreeBodiesModel", name := "<init>", desc := "()V" } : Jvm.MethodName)) ∈ lw_all := lw_g (lw_at lw_m11 202 rfl) rfl
theorem q2871 : (Jvm.Cond.methodLink "ThreeBodiesLaw" (102 : Nat) ({ cls := "ThreeBodiesModel", name := "thrown", desc := "()I" } : Jvm.MethodName)) ∈ lw_all := lw_g (lw_at lw_m12 133 rfl) rfl
theorem q2875 : (Jvm.Cond.methodLink "ThreeBodiesLaw" (95 : Nat) ({ cls := "ThreeBodiesModel", name := "feed", desc := "(IIIII)I" } : Jvm.MethodName)) ∈ lw_all := lw_g (lw_at lw_m12 137 rfl) rfl
theorem q2883 : (Jvm.Cond.methodLink "ThreeBodiesLaw" (109 : Nat) ({ cls := "ThreeBodiesModel", name := "errorPosition", desc := "()I" } : Jvm.MethodName)) ∈ lw_all := lw_g (lw_at lw_m12 145 rfl) rfl
theorem q2887 : (Jvm.Cond.methodLink "ThreeBodiesLaw" (101 : Nat) ({ cls := "ThreeBodiesModel", name := "load", desc := "(I)I" } : Jvm.MethodName)) ∈ lw_all := lw_g (lw_at lw_m12 149 rfl) rfl
theorem q2988 : (Jvm.Cond.methodLink "ThreeBodiesLaw" (113 : Nat) ({ cls := "ThreeBodiesModel", name := "clock", desc := "()I" } : Jvm.MethodName)) ∈ lw_all := lw_g (lw_at lw_m13 10 rfl) rfl
theorem q2992 : (Jvm.Cond.methodLink "ThreeBodiesLaw" (117 : Nat) ({ cls := "ThreeBodiesModel", name := "body", desc := "(II)I" } : Jvm.MethodName)) ∈ lw_all := lw_g (lw_at lw_m13 14 rfl) rfl
theorem q3001 : (Jvm.Cond.methodLink "ThreeBodiesLaw" (120 : Nat) ({ cls := "ThreeBodiesModel", name := "setting", desc := "(I)I" } : Jvm.MethodName)) ∈ lw_all := lw_g (lw_at lw_m13 23 rfl) rfl
theorem q3006 : (Jvm.Cond.methodLink "ThreeBodiesLaw" (123 : Nat) ({ cls := "ThreeBodiesModel", name := "distance", desc := "(I)I" } : Jvm.MethodName)) ∈ lw_all := lw_g (lw_at lw_m13 28 rfl) rfl
theorem q3010 : (Jvm.Cond.methodLink "ThreeBodiesLaw" (126 : Nat) ({ cls := "ThreeBodiesModel", name := "impulse", desc := "(II)J" } : Jvm.MethodName)) ∈ lw_all := lw_g (lw_at lw_m13 32 rfl) rfl
theorem q3018 : (Jvm.Cond.methodLink "ThreeBodiesLaw" (129 : Nat) ({ cls := "ThreeBodiesModel", name := "momentum", desc := "(I)J" } : Jvm.MethodName)) ∈ lw_all := lw_g (lw_at lw_m13 40 rfl) rfl
theorem q3022 : (Jvm.Cond.methodLink "ThreeBodiesLaw" (134 : Nat) ({ cls := "ThreeBodiesModel", name := "angular", desc := "()J" } : Jvm.MethodName)) ∈ lw_all := lw_g (lw_at lw_m13 44 rfl) rfl
theorem q3026 : (Jvm.Cond.methodLink "ThreeBodiesLaw" (138 : Nat) ({ cls := "ThreeBodiesModel", name := "kinetic", desc := "()J" } : Jvm.MethodName)) ∈ lw_all := lw_g (lw_at lw_m13 48 rfl) rfl
theorem q3030 : (Jvm.Cond.methodLink "ThreeBodiesLaw" (142 : Nat) ({ cls := "ThreeBodiesModel", name := "potential", desc := "()J" } : Jvm.MethodName)) ∈ lw_all := lw_g (lw_at lw_m13 52 rfl) rfl
theorem q3034 : (Jvm.Cond.methodLink "ThreeBodiesLaw" (146 : Nat) ({ cls := "ThreeBodiesModel", name := "band", desc := "()J" } : Jvm.MethodName)) ∈ lw_all := lw_g (lw_at lw_m13 56 rfl) rfl
theorem q3045 : (Jvm.Cond.methodLink "ThreeBodiesLaw" (151 : Nat) ({ cls := "ThreeBodiesModel", name := "seen", desc := "(Z)J" } : Jvm.MethodName)) ∈ lw_all := lw_g (lw_at lw_m13 67 rfl) rfl
theorem q3049 : (Jvm.Cond.methodLink "ThreeBodiesLaw" (155 : Nat) ({ cls := "ThreeBodiesModel", name := "crossings", desc := "()I" } : Jvm.MethodName)) ∈ lw_all := lw_g (lw_at lw_m13 71 rfl) rfl
theorem q3053 : (Jvm.Cond.methodLink "ThreeBodiesLaw" (159 : Nat) ({ cls := "ThreeBodiesModel", name := "approachCount", desc := "()I" } : Jvm.MethodName)) ∈ lw_all := lw_g (lw_at lw_m13 75 rfl) rfl
theorem q3057 : (Jvm.Cond.methodLink "ThreeBodiesLaw" (162 : Nat) ({ cls := "ThreeBodiesModel", name := "approach", desc := "(II)I" } : Jvm.MethodName)) ∈ lw_all := lw_g (lw_at lw_m13 79 rfl) rfl
theorem q3061 : (Jvm.Cond.methodLink "ThreeBodiesLaw" (165 : Nat) ({ cls := "ThreeBodiesModel", name := "run", desc := "(I)I" } : Jvm.MethodName)) ∈ lw_all := lw_g (lw_at lw_m13 83 rfl) rfl
theorem q3110 : (Jvm.Cond.methodLink "ThreeBodiesLaw" (168 : Nat) ({ cls := "ThreeBodiesModel", name := "back", desc := "(I)I" } : Jvm.MethodName)) ∈ lw_all := lw_g (lw_at lw_m13 132 rfl) rfl
theorem q3118 : (Jvm.Cond.methodLink "ThreeBodiesLaw" (172 : Nat) ({ cls := "ThreeBodiesModel", name := "push", desc := "(III)I" } : Jvm.MethodName)) ∈ lw_all := lw_g (lw_at lw_m13 140 rfl) rfl
theorem q3122 : (Jvm.Cond.methodLink "ThreeBodiesLaw" (175 : Nat) ({ cls := "ThreeBodiesModel", name := "place", desc := "(III)I" } : Jvm.MethodName)) ∈ lw_all := lw_g (lw_at lw_m13 144 rfl) rfl
theorem q3130 : (Jvm.Cond.methodLink "ThreeBodiesLaw" (179 : Nat) ({ cls := "ThreeBodiesModel", name := "reverse", desc := "()V" } : Jvm.MethodName)) ∈ lw_all := lw_g (lw_at lw_m13 152 rfl) rfl
theorem q3134 : (Jvm.Cond.methodLink "ThreeBodiesLaw" (183 : Nat) ({ cls := "ThreeBodiesModel", name := "turn", desc := "()V" } : Jvm.MethodName)) ∈ lw_all := lw_g (lw_at lw_m13 156 rfl) rfl
theorem q3141 : (Jvm.Cond.methodLink "ThreeBodiesLaw" (187 : Nat) ({ cls := "ThreeBodiesModel", name := "exchange", desc := "(II)V" } : Jvm.MethodName)) ∈ lw_all := lw_g (lw_at lw_m13 163 rfl) rfl
theorem q3145 : (Jvm.Cond.methodLink "ThreeBodiesLaw" (190 : Nat) ({ cls := "ThreeBodiesModel", name := "setScheme", desc := "(I)I" } : Jvm.MethodName)) ∈ lw_all := lw_g (lw_at lw_m13 167 rfl) rfl
theorem q3149 : (Jvm.Cond.methodLink "ThreeBodiesLaw" (235 : Nat) ({ cls := "ThreeBodiesModel", name := "undoCount", desc := "()I" } : Jvm.MethodName)) ∈ lw_all := lw_g (lw_at lw_m13 171 rfl) rfl
theorem q3153 : (Jvm.Cond.methodLink "ThreeBodiesLaw" (239 : Nat) ({ cls := "ThreeBodiesModel", name := "undo", desc := "()I" } : Jvm.MethodName)) ∈ lw_all := lw_g (lw_at lw_m13 175 rfl) rfl
theorem q3157 : (Jvm.Cond.methodLink "ThreeBodiesLaw" (243 : Nat) ({ cls := "ThreeBodiesModel", name := "saveSnapshot", desc := "()V" } : Jvm.MethodName)) ∈ lw_all := lw_g (lw_at lw_m13 179 rfl) rfl
theorem q3161 : (Jvm.Cond.methodLink "ThreeBodiesLaw" (248 : Nat) ({ cls := "ThreeBodiesModel", name := "restoreSnapshot", desc := "()Z" } : Jvm.MethodName)) ∈ lw_all := lw_g (lw_at lw_m13 183 rfl) rfl
theorem q3165 : (Jvm.Cond.methodLink "ThreeBodiesLaw" (200 : Nat) ({ cls := "ThreeBodiesModel", name := "error", desc := "(II)I" } : Jvm.MethodName)) ∈ lw_all := lw_g (lw_at lw_m13 187 rfl) rfl
theorem q3228 : (Jvm.Cond.methodLink "ThreeBodiesLaw" (203 : Nat) ({ cls := "ThreeBodiesModel", name := "bestPeriod", desc := "(II)I" } : Jvm.MethodName)) ∈ lw_all := lw_g (lw_at lw_m14 10 rfl) rfl
theorem q3232 : (Jvm.Cond.methodLink "ThreeBodiesLaw" (194 : Nat) ({ cls := "ThreeBodiesModel", name := "refine", desc := "(IIII)I" } : Jvm.MethodName)) ∈ lw_all := lw_g (lw_at lw_m14 14 rfl) rfl
theorem q3245 : (Jvm.Cond.methodLink "ThreeBodiesLaw" (197 : Nat) ({ cls := "ThreeBodiesModel", name := "possible", desc := "(I)I" } : Jvm.MethodName)) ∈ lw_all := lw_g (lw_at lw_m14 27 rfl) rfl
theorem q3249 : (Jvm.Cond.methodLink "ThreeBodiesLaw" (207 : Nat) ({ cls := "ThreeBodiesModel", name := "recurs", desc := "(ZI)I" } : Jvm.MethodName)) ∈ lw_all := lw_g (lw_at lw_m14 31 rfl) rfl
theorem q3260 : (Jvm.Cond.methodLink "ThreeBodiesLaw" (210 : Nat) ({ cls := "ThreeBodiesModel", name := "cellCount", desc := "(III)I" } : Jvm.MethodName)) ∈ lw_all := lw_g (lw_at lw_m14 42 rfl) rfl
theorem q3268 : (Jvm.Cond.methodLink "ThreeBodiesLaw" (214 : Nat) ({ cls := "ThreeBodiesModel", name := "cell", desc := "(IIIII)I" } : Jvm.MethodName)) ∈ lw_all := lw_g (lw_at lw_m14 50 rfl) rfl
theorem q3273 : (Jvm.Cond.methodLink "ThreeBodiesLaw" (219 : Nat) ({ cls := "ThreeBodiesModel", name := "virial", desc := "()D" } : Jvm.MethodName)) ∈ lw_all := lw_g (lw_at lw_m14 55 rfl) rfl
theorem q3277 : (Jvm.Cond.methodLink "ThreeBodiesLaw" (224 : Nat) ({ cls := "ThreeBodiesModel", name := "meanDistance", desc := "()F" } : Jvm.MethodName)) ∈ lw_all := lw_g (lw_at lw_m14 59 rfl) rfl
theorem q3282 : (Jvm.Cond.methodLink "ThreeBodiesLaw" (227 : Nat) ({ cls := "ThreeBodiesModel", name := "format", desc := "(I)I" } : Jvm.MethodName)) ∈ lw_all := lw_g (lw_at lw_m14 64 rfl) rfl
theorem q3295 : (Jvm.Cond.methodLink "ThreeBodiesLaw" (231 : Nat) ({ cls := "ThreeBodiesModel", name := "formattedByte", desc := "(I)I" } : Jvm.MethodName)) ∈ lw_all := lw_g (lw_at lw_m14 77 rfl) rfl
theorem q3299 : (Jvm.Cond.methodLink "ThreeBodiesLaw" (251 : Nat) ({ cls := "ThreeBodiesModel", name := "query", desc := "(I)I" } : Jvm.MethodName)) ∈ lw_all := lw_g (lw_at lw_m14 81 rfl) rfl
/-! ThreeBodies$Reader -/
set_option maxRecDepth 100000
def RX7 : String := "ThreeBodies$Reader"
def TX7 : u_T := fun k => match k with
  | 0 => ("ThreeBodies$Reader", "scanner", "LThreeBodies$Scanner;", true)
  | 1 => ("ThreeBodies$Reader", "made", "LThreeBodies$State;", true)
  | _ => ("ThreeBodies$Reader", "bodies", "LThreeBodies$Bodies;", true)
def tyX7 : Nat → FieldType := fun k => match k with
  | 0 => .object "ThreeBodies$Scanner"
  | 1 => .object "ThreeBodies$State"
  | _ => .object "ThreeBodies$Bodies"
abbrev wsX70 : List Cond := u_ws RX7 TX7 3
theorem nmX7 : ∀ a, a < 3 → ∀ b, b < 3 → a ≠ b → (TX7 a).2.1 ≠ (TX7 b).2.1 := by decide +kernel
theorem tyX7_ok : ∀ k, k < 3 → parseFieldDescriptor (TX7 k).2.2.1 = some (tyX7 k) := by decide +kernel
abbrev cX7_init : ByteArray := prog_13_method_1_code
def yX7_init : MethodName := ⟨RX7, "<init>", "(LThreeBodies$Scanner;)V"⟩
def dkwX7_init_1 : List UInt8 := [181, 0, 22, 42, 43, 181, 0, 23, 177]
abbrev dktX7_init_1 : List UInt8 := dkwX7_init_1 ++ []
def dkwX7_init_0 : List UInt8 := [42, 183, 0, 3, 42, 187, 0, 9, 89, 183, 0, 11, 181, 0, 12, 42, 42, 180, 0, 12, 180, 0, 18]
abbrev dktX7_init_0 : List UInt8 := dkwX7_init_0 ++ dktX7_init_1
theorem dksX7_init_0 : cX7_init.data.toList.drop 0 = dktX7_init_0 := by decide +kernel
theorem dksX7_init_1 : cX7_init.data.toList.drop 23 = dktX7_init_1 := dk_seg dksX7_init_0 23 rfl rfl
theorem dX7_init_0 : decode cX7_init 0 = .ok (.aload_n 0, 1) := dk_42 (dk_at dksX7_init_0 0 rfl rfl)
theorem dX7_init_1 : decode cX7_init 1 = .ok (.invokespecial 3, 3) := dk_183 0 3 (dk_at dksX7_init_0 1 rfl rfl)
theorem dX7_init_4 : decode cX7_init 4 = .ok (.aload_n 0, 1) := dk_42 (dk_at dksX7_init_0 4 rfl rfl)
theorem dX7_init_5 : decode cX7_init 5 = .ok (.new 9, 3) := dk_187 0 9 (dk_at dksX7_init_0 5 rfl rfl)
theorem dX7_init_8 : decode cX7_init 8 = .ok (.dup, 1) := dk_89 (dk_at dksX7_init_0 8 rfl rfl)
theorem dX7_init_9 : decode cX7_init 9 = .ok (.invokespecial 11, 3) := dk_183 0 11 (dk_at dksX7_init_0 9 rfl rfl)
theorem dX7_init_12 : decode cX7_init 12 = .ok (.putfield 12, 3) := dk_181 0 12 (dk_at dksX7_init_0 12 rfl rfl)
theorem dX7_init_15 : decode cX7_init 15 = .ok (.aload_n 0, 1) := dk_42 (dk_at dksX7_init_0 15 rfl rfl)
theorem dX7_init_16 : decode cX7_init 16 = .ok (.aload_n 0, 1) := dk_42 (dk_at dksX7_init_0 16 rfl rfl)
theorem dX7_init_17 : decode cX7_init 17 = .ok (.getfield 12, 3) := dk_180 0 12 (dk_at dksX7_init_0 17 rfl rfl)
theorem dX7_init_20 : decode cX7_init 20 = .ok (.getfield 18, 3) := dk_180 0 18 (dk_at dksX7_init_0 20 rfl rfl)
theorem dX7_init_23 : decode cX7_init 23 = .ok (.putfield 22, 3) := dk_181 0 22 (dk_at dksX7_init_1 0 rfl rfl)
theorem dX7_init_26 : decode cX7_init 26 = .ok (.aload_n 0, 1) := dk_42 (dk_at dksX7_init_1 3 rfl rfl)
theorem dX7_init_27 : decode cX7_init 27 = .ok (.aload_n 1, 1) := dk_43 (dk_at dksX7_init_1 4 rfl rfl)
theorem dX7_init_28 : decode cX7_init 28 = .ok (.putfield 23, 3) := dk_181 0 23 (dk_at dksX7_init_1 5 rfl rfl)
theorem dX7_init_31 : decode cX7_init 31 = .ok (.return_, 1) := dk_177 (dk_at dksX7_init_1 8 rfl rfl)
abbrev cX7_read : ByteArray := prog_13_method_6_code
def yX7_read : MethodName := ⟨RX7, "read", "()LThreeBodies$State;"⟩
def dkwX7_read_3 : List UInt8 := [42, 180, 0, 12, 176]
abbrev dktX7_read_3 : List UInt8 := dkwX7_read_3 ++ []
def dkwX7_read_2 : List UInt8 := [182, 0, 122, 191, 167, 0, 13, 76, 187, 0, 130, 89, 43, 183, 0, 132, 191, 42, 180, 0, 12, 182, 0, 135]
abbrev dktX7_read_2 : List UInt8 := dkwX7_read_2 ++ dktX7_read_3
def dkwX7_read_1 : List UInt8 := [182, 0, 117, 132, 2, 1, 167, 255, 243, 42, 180, 0, 23, 180, 0, 119, 153, 0, 11, 42, 180, 0, 23]
abbrev dktX7_read_1 : List UInt8 := dkwX7_read_1 ++ dktX7_read_2
def dkwX7_read_0 : List UInt8 := [4, 60, 27, 153, 0, 11, 42, 182, 0, 113, 60, 167, 255, 247, 3, 61, 28, 6, 162, 0, 14, 42, 28]
abbrev dktX7_read_0 : List UInt8 := dkwX7_read_0 ++ dktX7_read_1
theorem dksX7_read_0 : cX7_read.data.toList.drop 0 = dktX7_read_0 := by decide +kernel
theorem dksX7_read_1 : cX7_read.data.toList.drop 23 = dktX7_read_1 := dk_seg dksX7_read_0 23 rfl rfl
theorem dksX7_read_2 : cX7_read.data.toList.drop 46 = dktX7_read_2 := dk_seg dksX7_read_1 23 rfl rfl
theorem dksX7_read_3 : cX7_read.data.toList.drop 70 = dktX7_read_3 := dk_seg dksX7_read_2 24 rfl rfl
theorem dX7_read_0 : decode cX7_read 0 = .ok (.iconst 1, 1) := dk_4 (dk_at dksX7_read_0 0 rfl rfl)
theorem dX7_read_1 : decode cX7_read 1 = .ok (.istore_n 1, 1) := dk_60 (dk_at dksX7_read_0 1 rfl rfl)
theorem dX7_read_2 : decode cX7_read 2 = .ok (.iload_n 1, 1) := dk_27 (dk_at dksX7_read_0 2 rfl rfl)
theorem dX7_read_3 : decode cX7_read 3 = .ok (.ifCond .eq 11, 3) := dk_153 0 11 (dk_at dksX7_read_0 3 rfl rfl)
theorem dX7_read_6 : decode cX7_read 6 = .ok (.aload_n 0, 1) := dk_42 (dk_at dksX7_read_0 6 rfl rfl)
theorem dX7_read_7 : decode cX7_read 7 = .ok (.invokevirtual 113, 3) := dk_182 0 113 (dk_at dksX7_read_0 7 rfl rfl)
theorem dX7_read_10 : decode cX7_read 10 = .ok (.istore_n 1, 1) := dk_60 (dk_at dksX7_read_0 10 rfl rfl)
theorem dX7_read_11 : decode cX7_read 11 = .ok (.goto (-9), 3) := dk_167 255 247 (dk_at dksX7_read_0 11 rfl rfl)
theorem dX7_read_14 : decode cX7_read 14 = .ok (.iconst 0, 1) := dk_3 (dk_at dksX7_read_0 14 rfl rfl)
theorem dX7_read_15 : decode cX7_read 15 = .ok (.istore_n 2, 1) := dk_61 (dk_at dksX7_read_0 15 rfl rfl)
theorem dX7_read_16 : decode cX7_read 16 = .ok (.iload_n 2, 1) := dk_28 (dk_at dksX7_read_0 16 rfl rfl)
theorem dX7_read_17 : decode cX7_read 17 = .ok (.iconst 3, 1) := dk_6 (dk_at dksX7_read_0 17 rfl rfl)
theorem dX7_read_18 : decode cX7_read 18 = .ok (.if_icmp .ge 14, 3) := dk_162 0 14 (dk_at dksX7_read_0 18 rfl rfl)
theorem dX7_read_21 : decode cX7_read 21 = .ok (.aload_n 0, 1) := dk_42 (dk_at dksX7_read_0 21 rfl rfl)
theorem dX7_read_22 : decode cX7_read 22 = .ok (.iload_n 2, 1) := dk_28 (dk_at dksX7_read_0 22 rfl rfl)
theorem dX7_read_23 : decode cX7_read 23 = .ok (.invokevirtual 117, 3) := dk_182 0 117 (dk_at dksX7_read_1 0 rfl rfl)
theorem dX7_read_26 : decode cX7_read 26 = .ok (.iinc 2 1, 3) := dk_132 2 1 (dk_at dksX7_read_1 3 rfl rfl)
theorem dX7_read_29 : decode cX7_read 29 = .ok (.goto (-13), 3) := dk_167 255 243 (dk_at dksX7_read_1 6 rfl rfl)
theorem dX7_read_32 : decode cX7_read 32 = .ok (.aload_n 0, 1) := dk_42 (dk_at dksX7_read_1 9 rfl rfl)
theorem dX7_read_33 : decode cX7_read 33 = .ok (.getfield 23, 3) := dk_180 0 23 (dk_at dksX7_read_1 10 rfl rfl)
theorem dX7_read_36 : decode cX7_read 36 = .ok (.getfield 119, 3) := dk_180 0 119 (dk_at dksX7_read_1 13 rfl rfl)
theorem dX7_read_39 : decode cX7_read 39 = .ok (.ifCond .eq 11, 3) := dk_153 0 11 (dk_at dksX7_read_1 16 rfl rfl)
theorem dX7_read_42 : decode cX7_read 42 = .ok (.aload_n 0, 1) := dk_42 (dk_at dksX7_read_1 19 rfl rfl)
theorem dX7_read_43 : decode cX7_read 43 = .ok (.getfield 23, 3) := dk_180 0 23 (dk_at dksX7_read_1 20 rfl rfl)
theorem dX7_read_46 : decode cX7_read 46 = .ok (.invokevirtual 122, 3) := dk_182 0 122 (dk_at dksX7_read_2 0 rfl rfl)
theorem dX7_read_49 : decode cX7_read 49 = .ok (.athrow, 1) := dk_191 (dk_at dksX7_read_2 3 rfl rfl)
theorem dX7_read_50 : decode cX7_read 50 = .ok (.goto 13, 3) := dk_167 0 13 (dk_at dksX7_read_2 4 rfl rfl)
theorem dX7_read_53 : decode cX7_read 53 = .ok (.astore_n 1, 1) := dk_76 (dk_at dksX7_read_2 7 rfl rfl)
theorem dX7_read_54 : decode cX7_read 54 = .ok (.new 130, 3) := dk_187 0 130 (dk_at dksX7_read_2 8 rfl rfl)
theorem dX7_read_57 : decode cX7_read 57 = .ok (.dup, 1) := dk_89 (dk_at dksX7_read_2 11 rfl rfl)
theorem dX7_read_58 : decode cX7_read 58 = .ok (.aload_n 1, 1) := dk_43 (dk_at dksX7_read_2 12 rfl rfl)
theorem dX7_read_59 : decode cX7_read 59 = .ok (.invokespecial 132, 3) := dk_183 0 132 (dk_at dksX7_read_2 13 rfl rfl)
theorem dX7_read_62 : decode cX7_read 62 = .ok (.athrow, 1) := dk_191 (dk_at dksX7_read_2 16 rfl rfl)
theorem dX7_read_63 : decode cX7_read 63 = .ok (.aload_n 0, 1) := dk_42 (dk_at dksX7_read_2 17 rfl rfl)
theorem dX7_read_64 : decode cX7_read 64 = .ok (.getfield 12, 3) := dk_180 0 12 (dk_at dksX7_read_2 18 rfl rfl)
theorem dX7_read_67 : decode cX7_read 67 = .ok (.invokevirtual 135, 3) := dk_182 0 135 (dk_at dksX7_read_2 21 rfl rfl)
theorem dX7_read_70 : decode cX7_read 70 = .ok (.aload_n 0, 1) := dk_42 (dk_at dksX7_read_3 0 rfl rfl)
theorem dX7_read_71 : decode cX7_read 71 = .ok (.getfield 12, 3) := dk_180 0 12 (dk_at dksX7_read_3 1 rfl rfl)
theorem dX7_read_74 : decode cX7_read 74 = .ok (.areturn, 1) := dk_176 (dk_at dksX7_read_3 4 rfl rfl)
abbrev cX7_setting : ByteArray := prog_13_method_4_code
def yX7_setting : MethodName := ⟨RX7, "setting", "()Z"⟩
def dkwX7_setting_9 : List UInt8 := [182, 0, 77, 4, 172]
abbrev dktX7_setting_9 : List UInt8 := dkwX7_setting_9 ++ []
def dkwX7_setting_8 : List UInt8 := [180, 0, 22, 180, 0, 56, 6, 42, 182, 0, 74, 79, 167, 0, 5, 3, 172, 42, 180, 0, 23, 16, 59]
abbrev dktX7_setting_8 : List UInt8 := dkwX7_setting_8 ++ dktX7_setting_9
def dkwX7_setting_7 : List UInt8 := [18, 62, 182, 0, 36, 79, 167, 0, 33, 42, 180, 0, 23, 18, 72, 182, 0, 42, 153, 0, 19, 42]
abbrev dktX7_setting_7 : List UInt8 := dkwX7_setting_7 ++ dktX7_setting_8
def dkwX7_setting_6 : List UInt8 := [180, 0, 23, 18, 70, 182, 0, 42, 153, 0, 25, 42, 180, 0, 22, 180, 0, 56, 8, 42, 180, 0, 23, 4]
abbrev dktX7_setting_6 : List UInt8 := dkwX7_setting_6 ++ dktX7_setting_7
def dkwX7_setting_5 : List UInt8 := [180, 0, 22, 180, 0, 56, 7, 42, 180, 0, 23, 3, 18, 69, 182, 0, 36, 79, 167, 0, 67, 42]
abbrev dktX7_setting_5 : List UInt8 := dkwX7_setting_5 ++ dktX7_setting_6
def dkwX7_setting_4 : List UInt8 := [16, 100, 182, 0, 36, 79, 167, 0, 101, 42, 180, 0, 23, 18, 67, 182, 0, 42, 153, 0, 25, 42]
abbrev dktX7_setting_4 : List UInt8 := dkwX7_setting_4 ++ dktX7_setting_5
def dkwX7_setting_3 : List UInt8 := [180, 0, 23, 18, 65, 182, 0, 42, 153, 0, 25, 42, 180, 0, 22, 180, 0, 56, 5, 42, 180, 0, 23, 4]
abbrev dktX7_setting_3 : List UInt8 := dkwX7_setting_3 ++ dktX7_setting_4
def dkwX7_setting_2 : List UInt8 := [180, 0, 22, 180, 0, 56, 4, 42, 180, 0, 23, 4, 17, 3, 232, 182, 0, 36, 79, 167, 0, 135, 42]
abbrev dktX7_setting_2 : List UInt8 := dkwX7_setting_2 ++ dktX7_setting_3
def dkwX7_setting_1 : List UInt8 := [3, 18, 62, 182, 0, 36, 79, 167, 0, 170, 42, 180, 0, 23, 18, 63, 182, 0, 42, 153, 0, 26, 42]
abbrev dktX7_setting_1 : List UInt8 := dkwX7_setting_1 ++ dktX7_setting_2
def dkwX7_setting_0 : List UInt8 := [42, 180, 0, 23, 18, 54, 182, 0, 42, 153, 0, 25, 42, 180, 0, 22, 180, 0, 56, 3, 42, 180, 0, 23]
abbrev dktX7_setting_0 : List UInt8 := dkwX7_setting_0 ++ dktX7_setting_1
theorem dksX7_setting_0 : cX7_setting.data.toList.drop 0 = dktX7_setting_0 := by decide +kernel
theorem dksX7_setting_1 : cX7_setting.data.toList.drop 24 = dktX7_setting_1 := dk_seg dksX7_setting_0 24 rfl rfl
theorem dksX7_setting_2 : cX7_setting.data.toList.drop 47 = dktX7_setting_2 := dk_seg dksX7_setting_1 23 rfl rfl
theorem dksX7_setting_3 : cX7_setting.data.toList.drop 70 = dktX7_setting_3 := dk_seg dksX7_setting_2 23 rfl rfl
theorem dksX7_setting_4 : cX7_setting.data.toList.drop 94 = dktX7_setting_4 := dk_seg dksX7_setting_3 24 rfl rfl
theorem dksX7_setting_5 : cX7_setting.data.toList.drop 116 = dktX7_setting_5 := dk_seg dksX7_setting_4 22 rfl rfl
theorem dksX7_setting_6 : cX7_setting.data.toList.drop 138 = dktX7_setting_6 := dk_seg dksX7_setting_5 22 rfl rfl
theorem dksX7_setting_7 : cX7_setting.data.toList.drop 162 = dktX7_setting_7 := dk_seg dksX7_setting_6 24 rfl rfl
theorem dksX7_setting_8 : cX7_setting.data.toList.drop 184 = dktX7_setting_8 := dk_seg dksX7_setting_7 22 rfl rfl
theorem dksX7_setting_9 : cX7_setting.data.toList.drop 207 = dktX7_setting_9 := dk_seg dksX7_setting_8 23 rfl rfl
theorem dX7_setting_0 : decode cX7_setting 0 = .ok (.aload_n 0, 1) := dk_42 (dk_at dksX7_setting_0 0 rfl rfl)
theorem dX7_setting_1 : decode cX7_setting 1 = .ok (.getfield 23, 3) := dk_180 0 23 (dk_at dksX7_setting_0 1 rfl rfl)
theorem dX7_setting_4 : decode cX7_setting 4 = .ok (.ldc 54, 2) := dk_18 54 (dk_at dksX7_setting_0 4 rfl rfl)
theorem dX7_setting_6 : decode cX7_setting 6 = .ok (.invokevirtual 42, 3) := dk_182 0 42 (dk_at dksX7_setting_0 6 rfl rfl)
theorem dX7_setting_9 : decode cX7_setting 9 = .ok (.ifCond .eq 25, 3) := dk_153 0 25 (dk_at dksX7_setting_0 9 rfl rfl)
theorem dX7_setting_12 : decode cX7_setting 12 = .ok (.aload_n 0, 1) := dk_42 (dk_at dksX7_setting_0 12 rfl rfl)
theorem dX7_setting_13 : decode cX7_setting 13 = .ok (.getfield 22, 3) := dk_180 0 22 (dk_at dksX7_setting_0 13 rfl rfl)
theorem dX7_setting_16 : decode cX7_setting 16 = .ok (.getfield 56, 3) := dk_180 0 56 (dk_at dksX7_setting_0 16 rfl rfl)
theorem dX7_setting_19 : decode cX7_setting 19 = .ok (.iconst 0, 1) := dk_3 (dk_at dksX7_setting_0 19 rfl rfl)
theorem dX7_setting_20 : decode cX7_setting 20 = .ok (.aload_n 0, 1) := dk_42 (dk_at dksX7_setting_0 20 rfl rfl)
theorem dX7_setting_21 : decode cX7_setting 21 = .ok (.getfield 23, 3) := dk_180 0 23 (dk_at dksX7_setting_0 21 rfl rfl)
theorem dX7_setting_24 : decode cX7_setting 24 = .ok (.iconst 0, 1) := dk_3 (dk_at dksX7_setting_1 0 rfl rfl)
theorem dX7_setting_25 : decode cX7_setting 25 = .ok (.ldc 62, 2) := dk_18 62 (dk_at dksX7_setting_1 1 rfl rfl)
theorem dX7_setting_27 : decode cX7_setting 27 = .ok (.invokevirtual 36, 3) := dk_182 0 36 (dk_at dksX7_setting_1 3 rfl rfl)
theorem dX7_setting_30 : decode cX7_setting 30 = .ok (.iastore, 1) := dk_79 (dk_at dksX7_setting_1 6 rfl rfl)
theorem dX7_setting_31 : decode cX7_setting 31 = .ok (.goto 170, 3) := dk_167 0 170 (dk_at dksX7_setting_1 7 rfl rfl)
theorem dX7_setting_34 : decode cX7_setting 34 = .ok (.aload_n 0, 1) := dk_42 (dk_at dksX7_setting_1 10 rfl rfl)
theorem dX7_setting_35 : decode cX7_setting 35 = .ok (.getfield 23, 3) := dk_180 0 23 (dk_at dksX7_setting_1 11 rfl rfl)
theorem dX7_setting_38 : decode cX7_setting 38 = .ok (.ldc 63, 2) := dk_18 63 (dk_at dksX7_setting_1 14 rfl rfl)
theorem dX7_setting_40 : decode cX7_setting 40 = .ok (.invokevirtual 42, 3) := dk_182 0 42 (dk_at dksX7_setting_1 16 rfl rfl)
theorem dX7_setting_43 : decode cX7_setting 43 = .ok (.ifCond .eq 26, 3) := dk_153 0 26 (dk_at dksX7_setting_1 19 rfl rfl)
theorem dX7_setting_46 : decode cX7_setting 46 = .ok (.aload_n 0, 1) := dk_42 (dk_at dksX7_setting_1 22 rfl rfl)
theorem dX7_setting_47 : decode cX7_setting 47 = .ok (.getfield 22, 3) := dk_180 0 22 (dk_at dksX7_setting_2 0 rfl rfl)
theorem dX7_setting_50 : decode cX7_setting 50 = .ok (.getfield 56, 3) := dk_180 0 56 (dk_at dksX7_setting_2 3 rfl rfl)
theorem dX7_setting_53 : decode cX7_setting 53 = .ok (.iconst 1, 1) := dk_4 (dk_at dksX7_setting_2 6 rfl rfl)
theorem dX7_setting_54 : decode cX7_setting 54 = .ok (.aload_n 0, 1) := dk_42 (dk_at dksX7_setting_2 7 rfl rfl)
theorem dX7_setting_55 : decode cX7_setting 55 = .ok (.getfield 23, 3) := dk_180 0 23 (dk_at dksX7_setting_2 8 rfl rfl)
theorem dX7_setting_58 : decode cX7_setting 58 = .ok (.iconst 1, 1) := dk_4 (dk_at dksX7_setting_2 11 rfl rfl)
theorem dX7_setting_59 : decode cX7_setting 59 = .ok (.sipush 1000, 3) := dk_17 3 232 (dk_at dksX7_setting_2 12 rfl rfl)
theorem dX7_setting_62 : decode cX7_setting 62 = .ok (.invokevirtual 36, 3) := dk_182 0 36 (dk_at dksX7_setting_2 15 rfl rfl)
theorem dX7_setting_65 : decode cX7_setting 65 = .ok (.iastore, 1) := dk_79 (dk_at dksX7_setting_2 18 rfl rfl)
theorem dX7_setting_66 : decode cX7_setting 66 = .ok (.goto 135, 3) := dk_167 0 135 (dk_at dksX7_setting_2 19 rfl rfl)
theorem dX7_setting_69 : decode cX7_setting 69 = .ok (.aload_n 0, 1) := dk_42 (dk_at dksX7_setting_2 22 rfl rfl)
theorem dX7_setting_70 : decode cX7_setting 70 = .ok (.getfield 23, 3) := dk_180 0 23 (dk_at dksX7_setting_3 0 rfl rfl)
theorem dX7_setting_73 : decode cX7_setting 73 = .ok (.ldc 65, 2) := dk_18 65 (dk_at dksX7_setting_3 3 rfl rfl)
theorem dX7_setting_75 : decode cX7_setting 75 = .ok (.invokevirtual 42, 3) := dk_182 0 42 (dk_at dksX7_setting_3 5 rfl rfl)
theorem dX7_setting_78 : decode cX7_setting 78 = .ok (.ifCond .eq 25, 3) := dk_153 0 25 (dk_at dksX7_setting_3 8 rfl rfl)
theorem dX7_setting_81 : decode cX7_setting 81 = .ok (.aload_n 0, 1) := dk_42 (dk_at dksX7_setting_3 11 rfl rfl)
theorem dX7_setting_82 : decode cX7_setting 82 = .ok (.getfield 22, 3) := dk_180 0 22 (dk_at dksX7_setting_3 12 rfl rfl)
theorem dX7_setting_85 : decode cX7_setting 85 = .ok (.getfield 56, 3) := dk_180 0 56 (dk_at dksX7_setting_3 15 rfl rfl)
theorem dX7_setting_88 : decode cX7_setting 88 = .ok (.iconst 2, 1) := dk_5 (dk_at dksX7_setting_3 18 rfl rfl)
theorem dX7_setting_89 : decode cX7_setting 89 = .ok (.aload_n 0, 1) := dk_42 (dk_at dksX7_setting_3 19 rfl rfl)
theorem dX7_setting_90 : decode cX7_setting 90 = .ok (.getfield 23, 3) := dk_180 0 23 (dk_at dksX7_setting_3 20 rfl rfl)
theorem dX7_setting_93 : decode cX7_setting 93 = .ok (.iconst 1, 1) := dk_4 (dk_at dksX7_setting_3 23 rfl rfl)
theorem dX7_setting_94 : decode cX7_setting 94 = .ok (.bipush 100, 2) := dk_16 100 (dk_at dksX7_setting_4 0 rfl rfl)
theorem dX7_setting_96 : decode cX7_setting 96 = .ok (.invokevirtual 36, 3) := dk_182 0 36 (dk_at dksX7_setting_4 2 rfl rfl)
theorem dX7_setting_99 : decode cX7_setting 99 = .ok (.iastore, 1) := dk_79 (dk_at dksX7_setting_4 5 rfl rfl)
theorem dX7_setting_100 : decode cX7_setting 100 = .ok (.goto 101, 3) := dk_167 0 101 (dk_at dksX7_setting_4 6 rfl rfl)
theorem dX7_setting_103 : decode cX7_setting 103 = .ok (.aload_n 0, 1) := dk_42 (dk_at dksX7_setting_4 9 rfl rfl)
theorem dX7_setting_104 : decode cX7_setting 104 = .ok (.getfield 23, 3) := dk_180 0 23 (dk_at dksX7_setting_4 10 rfl rfl)
theorem dX7_setting_107 : decode cX7_setting 107 = .ok (.ldc 67, 2) := dk_18 67 (dk_at dksX7_setting_4 13 rfl rfl)
theorem dX7_setting_109 : decode cX7_setting 109 = .ok (.invokevirtual 42, 3) := dk_182 0 42 (dk_at dksX7_setting_4 15 rfl rfl)
theorem dX7_setting_112 : decode cX7_setting 112 = .ok (.ifCond .eq 25, 3) := dk_153 0 25 (dk_at dksX7_setting_4 18 rfl rfl)
theorem dX7_setting_115 : decode cX7_setting 115 = .ok (.aload_n 0, 1) := dk_42 (dk_at dksX7_setting_4 21 rfl rfl)
theorem dX7_setting_116 : decode cX7_setting 116 = .ok (.getfield 22, 3) := dk_180 0 22 (dk_at dksX7_setting_5 0 rfl rfl)
theorem dX7_setting_119 : decode cX7_setting 119 = .ok (.getfield 56, 3) := dk_180 0 56 (dk_at dksX7_setting_5 3 rfl rfl)
theorem dX7_setting_122 : decode cX7_setting 122 = .ok (.iconst 4, 1) := dk_7 (dk_at dksX7_setting_5 6 rfl rfl)
theorem dX7_setting_123 : decode cX7_setting 123 = .ok (.aload_n 0, 1) := dk_42 (dk_at dksX7_setting_5 7 rfl rfl)
theorem dX7_setting_124 : decode cX7_setting 124 = .ok (.getfield 23, 3) := dk_180 0 23 (dk_at dksX7_setting_5 8 rfl rfl)
theorem dX7_setting_127 : decode cX7_setting 127 = .ok (.iconst 0, 1) := dk_3 (dk_at dksX7_setting_5 11 rfl rfl)
theorem dX7_setting_128 : decode cX7_setting 128 = .ok (.ldc 69, 2) := dk_18 69 (dk_at dksX7_setting_5 12 rfl rfl)
theorem dX7_setting_130 : decode cX7_setting 130 = .ok (.invokevirtual 36, 3) := dk_182 0 36 (dk_at dksX7_setting_5 14 rfl rfl)
theorem dX7_setting_133 : decode cX7_setting 133 = .ok (.iastore, 1) := dk_79 (dk_at dksX7_setting_5 17 rfl rfl)
theorem dX7_setting_134 : decode cX7_setting 134 = .ok (.goto 67, 3) := dk_167 0 67 (dk_at dksX7_setting_5 18 rfl rfl)
theorem dX7_setting_137 : decode cX7_setting 137 = .ok (.aload_n 0, 1) := dk_42 (dk_at dksX7_setting_5 21 rfl rfl)
theorem dX7_setting_138 : decode cX7_setting 138 = .ok (.getfield 23, 3) := dk_180 0 23 (dk_at dksX7_setting_6 0 rfl rfl)
theorem dX7_setting_141 : decode cX7_setting 141 = .ok (.ldc 70, 2) := dk_18 70 (dk_at dksX7_setting_6 3 rfl rfl)
theorem dX7_setting_143 : decode cX7_setting 143 = .ok (.invokevirtual 42, 3) := dk_182 0 42 (dk_at dksX7_setting_6 5 rfl rfl)
theorem dX7_setting_146 : decode cX7_setting 146 = .ok (.ifCond .eq 25, 3) := dk_153 0 25 (dk_at dksX7_setting_6 8 rfl rfl)
theorem dX7_setting_149 : decode cX7_setting 149 = .ok (.aload_n 0, 1) := dk_42 (dk_at dksX7_setting_6 11 rfl rfl)
theorem dX7_setting_150 : decode cX7_setting 150 = .ok (.getfield 22, 3) := dk_180 0 22 (dk_at dksX7_setting_6 12 rfl rfl)
theorem dX7_setting_153 : decode cX7_setting 153 = .ok (.getfield 56, 3) := dk_180 0 56 (dk_at dksX7_setting_6 15 rfl rfl)
theorem dX7_setting_156 : decode cX7_setting 156 = .ok (.iconst 5, 1) := dk_8 (dk_at dksX7_setting_6 18 rfl rfl)
theorem dX7_setting_157 : decode cX7_setting 157 = .ok (.aload_n 0, 1) := dk_42 (dk_at dksX7_setting_6 19 rfl rfl)
theorem dX7_setting_158 : decode cX7_setting 158 = .ok (.getfield 23, 3) := dk_180 0 23 (dk_at dksX7_setting_6 20 rfl rfl)
theorem dX7_setting_161 : decode cX7_setting 161 = .ok (.iconst 1, 1) := dk_4 (dk_at dksX7_setting_6 23 rfl rfl)
theorem dX7_setting_162 : decode cX7_setting 162 = .ok (.ldc 62, 2) := dk_18 62 (dk_at dksX7_setting_7 0 rfl rfl)
theorem dX7_setting_164 : decode cX7_setting 164 = .ok (.invokevirtual 36, 3) := dk_182 0 36 (dk_at dksX7_setting_7 2 rfl rfl)
theorem dX7_setting_167 : decode cX7_setting 167 = .ok (.iastore, 1) := dk_79 (dk_at dksX7_setting_7 5 rfl rfl)
theorem dX7_setting_168 : decode cX7_setting 168 = .ok (.goto 33, 3) := dk_167 0 33 (dk_at dksX7_setting_7 6 rfl rfl)
theorem dX7_setting_171 : decode cX7_setting 171 = .ok (.aload_n 0, 1) := dk_42 (dk_at dksX7_setting_7 9 rfl rfl)
theorem dX7_setting_172 : decode cX7_setting 172 = .ok (.getfield 23, 3) := dk_180 0 23 (dk_at dksX7_setting_7 10 rfl rfl)
theorem dX7_setting_175 : decode cX7_setting 175 = .ok (.ldc 72, 2) := dk_18 72 (dk_at dksX7_setting_7 13 rfl rfl)
theorem dX7_setting_177 : decode cX7_setting 177 = .ok (.invokevirtual 42, 3) := dk_182 0 42 (dk_at dksX7_setting_7 15 rfl rfl)
theorem dX7_setting_180 : decode cX7_setting 180 = .ok (.ifCond .eq 19, 3) := dk_153 0 19 (dk_at dksX7_setting_7 18 rfl rfl)
theorem dX7_setting_183 : decode cX7_setting 183 = .ok (.aload_n 0, 1) := dk_42 (dk_at dksX7_setting_7 21 rfl rfl)
theorem dX7_setting_184 : decode cX7_setting 184 = .ok (.getfield 22, 3) := dk_180 0 22 (dk_at dksX7_setting_8 0 rfl rfl)
theorem dX7_setting_187 : decode cX7_setting 187 = .ok (.getfield 56, 3) := dk_180 0 56 (dk_at dksX7_setting_8 3 rfl rfl)
theorem dX7_setting_190 : decode cX7_setting 190 = .ok (.iconst 3, 1) := dk_6 (dk_at dksX7_setting_8 6 rfl rfl)
theorem dX7_setting_191 : decode cX7_setting 191 = .ok (.aload_n 0, 1) := dk_42 (dk_at dksX7_setting_8 7 rfl rfl)
theorem dX7_setting_192 : decode cX7_setting 192 = .ok (.invokevirtual 74, 3) := dk_182 0 74 (dk_at dksX7_setting_8 8 rfl rfl)
theorem dX7_setting_195 : decode cX7_setting 195 = .ok (.iastore, 1) := dk_79 (dk_at dksX7_setting_8 11 rfl rfl)
theorem dX7_setting_196 : decode cX7_setting 196 = .ok (.goto 5, 3) := dk_167 0 5 (dk_at dksX7_setting_8 12 rfl rfl)
theorem dX7_setting_199 : decode cX7_setting 199 = .ok (.iconst 0, 1) := dk_3 (dk_at dksX7_setting_8 15 rfl rfl)
theorem dX7_setting_200 : decode cX7_setting 200 = .ok (.ireturn, 1) := dk_172 (dk_at dksX7_setting_8 16 rfl rfl)
theorem dX7_setting_201 : decode cX7_setting 201 = .ok (.aload_n 0, 1) := dk_42 (dk_at dksX7_setting_8 17 rfl rfl)
theorem dX7_setting_202 : decode cX7_setting 202 = .ok (.getfield 23, 3) := dk_180 0 23 (dk_at dksX7_setting_8 18 rfl rfl)
theorem dX7_setting_205 : decode cX7_setting 205 = .ok (.bipush 59, 2) := dk_16 59 (dk_at dksX7_setting_8 21 rfl rfl)
theorem dX7_setting_207 : decode cX7_setting 207 = .ok (.invokevirtual 77, 3) := dk_182 0 77 (dk_at dksX7_setting_9 0 rfl rfl)
theorem dX7_setting_210 : decode cX7_setting 210 = .ok (.iconst 1, 1) := dk_4 (dk_at dksX7_setting_9 3 rfl rfl)
theorem dX7_setting_211 : decode cX7_setting 211 = .ok (.ireturn, 1) := dk_172 (dk_at dksX7_setting_9 4 rfl rfl)
abbrev cX7_scheme : ByteArray := prog_13_method_3_code
def yX7_scheme : MethodName := ⟨RX7, "scheme", "()I"⟩
def dkwX7_scheme_1 : List UInt8 := [153, 0, 5, 4, 172, 42, 180, 0, 23, 18, 48, 182, 0, 50, 5, 172]
abbrev dktX7_scheme_1 : List UInt8 := dkwX7_scheme_1 ++ []
def dkwX7_scheme_0 : List UInt8 := [42, 180, 0, 23, 18, 40, 182, 0, 42, 153, 0, 5, 3, 172, 42, 180, 0, 23, 18, 46, 182, 0, 42]
abbrev dktX7_scheme_0 : List UInt8 := dkwX7_scheme_0 ++ dktX7_scheme_1
theorem dksX7_scheme_0 : cX7_scheme.data.toList.drop 0 = dktX7_scheme_0 := by decide +kernel
theorem dksX7_scheme_1 : cX7_scheme.data.toList.drop 23 = dktX7_scheme_1 := dk_seg dksX7_scheme_0 23 rfl rfl
theorem dX7_scheme_0 : decode cX7_scheme 0 = .ok (.aload_n 0, 1) := dk_42 (dk_at dksX7_scheme_0 0 rfl rfl)
theorem dX7_scheme_1 : decode cX7_scheme 1 = .ok (.getfield 23, 3) := dk_180 0 23 (dk_at dksX7_scheme_0 1 rfl rfl)
theorem dX7_scheme_4 : decode cX7_scheme 4 = .ok (.ldc 40, 2) := dk_18 40 (dk_at dksX7_scheme_0 4 rfl rfl)
theorem dX7_scheme_6 : decode cX7_scheme 6 = .ok (.invokevirtual 42, 3) := dk_182 0 42 (dk_at dksX7_scheme_0 6 rfl rfl)
theorem dX7_scheme_9 : decode cX7_scheme 9 = .ok (.ifCond .eq 5, 3) := dk_153 0 5 (dk_at dksX7_scheme_0 9 rfl rfl)
theorem dX7_scheme_12 : decode cX7_scheme 12 = .ok (.iconst 0, 1) := dk_3 (dk_at dksX7_scheme_0 12 rfl rfl)
theorem dX7_scheme_13 : decode cX7_scheme 13 = .ok (.ireturn, 1) := dk_172 (dk_at dksX7_scheme_0 13 rfl rfl)
theorem dX7_scheme_14 : decode cX7_scheme 14 = .ok (.aload_n 0, 1) := dk_42 (dk_at dksX7_scheme_0 14 rfl rfl)
theorem dX7_scheme_15 : decode cX7_scheme 15 = .ok (.getfield 23, 3) := dk_180 0 23 (dk_at dksX7_scheme_0 15 rfl rfl)
theorem dX7_scheme_18 : decode cX7_scheme 18 = .ok (.ldc 46, 2) := dk_18 46 (dk_at dksX7_scheme_0 18 rfl rfl)
theorem dX7_scheme_20 : decode cX7_scheme 20 = .ok (.invokevirtual 42, 3) := dk_182 0 42 (dk_at dksX7_scheme_0 20 rfl rfl)
theorem dX7_scheme_23 : decode cX7_scheme 23 = .ok (.ifCond .eq 5, 3) := dk_153 0 5 (dk_at dksX7_scheme_1 0 rfl rfl)
theorem dX7_scheme_26 : decode cX7_scheme 26 = .ok (.iconst 1, 1) := dk_4 (dk_at dksX7_scheme_1 3 rfl rfl)
theorem dX7_scheme_27 : decode cX7_scheme 27 = .ok (.ireturn, 1) := dk_172 (dk_at dksX7_scheme_1 4 rfl rfl)
theorem dX7_scheme_28 : decode cX7_scheme 28 = .ok (.aload_n 0, 1) := dk_42 (dk_at dksX7_scheme_1 5 rfl rfl)
theorem dX7_scheme_29 : decode cX7_scheme 29 = .ok (.getfield 23, 3) := dk_180 0 23 (dk_at dksX7_scheme_1 6 rfl rfl)
theorem dX7_scheme_32 : decode cX7_scheme 32 = .ok (.ldc 48, 2) := dk_18 48 (dk_at dksX7_scheme_1 9 rfl rfl)
theorem dX7_scheme_34 : decode cX7_scheme 34 = .ok (.invokevirtual 50, 3) := dk_182 0 50 (dk_at dksX7_scheme_1 11 rfl rfl)
theorem dX7_scheme_37 : decode cX7_scheme 37 = .ok (.iconst 2, 1) := dk_5 (dk_at dksX7_scheme_1 14 rfl rfl)
theorem dX7_scheme_38 : decode cX7_scheme 38 = .ok (.ireturn, 1) := dk_172 (dk_at dksX7_scheme_1 15 rfl rfl)
abbrev cX7_body : ByteArray := prog_13_method_5_code
def yX7_body : MethodName := ⟨RX7, "body", "(I)V"⟩
def dkwX7_body_7 : List UInt8 := [183, 0, 110, 191, 132, 2, 1, 167, 255, 179, 42, 180, 0, 23, 16, 59, 182, 0, 77, 177]
abbrev dktX7_body_7 : List UInt8 := dkwX7_body_7 ++ []
def dkwX7_body_6 : List UInt8 := [180, 0, 22, 180, 0, 94, 27, 46, 160, 0, 18, 187, 0, 104, 89, 42, 180, 0, 23, 180, 0, 106]
abbrev dktX7_body_6 : List UInt8 := dkwX7_body_6 ++ dktX7_body_7
def dkwX7_body_5 : List UInt8 := [46, 42, 180, 0, 22, 180, 0, 86, 27, 46, 160, 0, 39, 42, 180, 0, 22, 180, 0, 94, 28, 46, 42]
abbrev dktX7_body_5 : List UInt8 := dkwX7_body_5 ++ dktX7_body_6
def dkwX7_body_4 : List UInt8 := [27, 162, 0, 78, 42, 180, 0, 23, 16, 59, 182, 0, 27, 153, 0, 66, 42, 180, 0, 22, 180, 0, 86, 28]
abbrev dktX7_body_4 : List UInt8 := dkwX7_body_4 ++ dktX7_body_5
def dkwX7_body_3 : List UInt8 := [182, 0, 90, 133, 80, 42, 180, 0, 22, 180, 0, 101, 27, 42, 18, 62, 182, 0, 90, 133, 80, 3, 61, 28]
abbrev dktX7_body_3 : List UInt8 := dkwX7_body_3 ++ dktX7_body_4
def dkwX7_body_2 : List UInt8 := [180, 0, 94, 27, 42, 18, 89, 182, 0, 90, 79, 42, 180, 0, 22, 180, 0, 97, 27, 42, 18, 62]
abbrev dktX7_body_2 : List UInt8 := dkwX7_body_2 ++ dktX7_body_3
def dkwX7_body_1 : List UInt8 := [182, 0, 36, 79, 42, 180, 0, 22, 180, 0, 86, 27, 42, 18, 89, 182, 0, 90, 79, 42, 180, 0, 22]
abbrev dktX7_body_1 : List UInt8 := dkwX7_body_1 ++ dktX7_body_2
def dkwX7_body_0 : List UInt8 := [42, 180, 0, 23, 18, 81, 182, 0, 50, 42, 180, 0, 22, 180, 0, 83, 27, 42, 180, 0, 23, 4, 16, 99]
abbrev dktX7_body_0 : List UInt8 := dkwX7_body_0 ++ dktX7_body_1
theorem dksX7_body_0 : cX7_body.data.toList.drop 0 = dktX7_body_0 := by decide +kernel
theorem dksX7_body_1 : cX7_body.data.toList.drop 24 = dktX7_body_1 := dk_seg dksX7_body_0 24 rfl rfl
theorem dksX7_body_2 : cX7_body.data.toList.drop 47 = dktX7_body_2 := dk_seg dksX7_body_1 23 rfl rfl
theorem dksX7_body_3 : cX7_body.data.toList.drop 69 = dktX7_body_3 := dk_seg dksX7_body_2 22 rfl rfl
theorem dksX7_body_4 : cX7_body.data.toList.drop 93 = dktX7_body_4 := dk_seg dksX7_body_3 24 rfl rfl
theorem dksX7_body_5 : cX7_body.data.toList.drop 117 = dktX7_body_5 := dk_seg dksX7_body_4 24 rfl rfl
theorem dksX7_body_6 : cX7_body.data.toList.drop 140 = dktX7_body_6 := dk_seg dksX7_body_5 23 rfl rfl
theorem dksX7_body_7 : cX7_body.data.toList.drop 162 = dktX7_body_7 := dk_seg dksX7_body_6 22 rfl rfl
theorem dX7_body_0 : decode cX7_body 0 = .ok (.aload_n 0, 1) := dk_42 (dk_at dksX7_body_0 0 rfl rfl)
theorem dX7_body_1 : decode cX7_body 1 = .ok (.getfield 23, 3) := dk_180 0 23 (dk_at dksX7_body_0 1 rfl rfl)
theorem dX7_body_4 : decode cX7_body 4 = .ok (.ldc 81, 2) := dk_18 81 (dk_at dksX7_body_0 4 rfl rfl)
theorem dX7_body_6 : decode cX7_body 6 = .ok (.invokevirtual 50, 3) := dk_182 0 50 (dk_at dksX7_body_0 6 rfl rfl)
theorem dX7_body_9 : decode cX7_body 9 = .ok (.aload_n 0, 1) := dk_42 (dk_at dksX7_body_0 9 rfl rfl)
theorem dX7_body_10 : decode cX7_body 10 = .ok (.getfield 22, 3) := dk_180 0 22 (dk_at dksX7_body_0 10 rfl rfl)
theorem dX7_body_13 : decode cX7_body 13 = .ok (.getfield 83, 3) := dk_180 0 83 (dk_at dksX7_body_0 13 rfl rfl)
theorem dX7_body_16 : decode cX7_body 16 = .ok (.iload_n 1, 1) := dk_27 (dk_at dksX7_body_0 16 rfl rfl)
theorem dX7_body_17 : decode cX7_body 17 = .ok (.aload_n 0, 1) := dk_42 (dk_at dksX7_body_0 17 rfl rfl)
theorem dX7_body_18 : decode cX7_body 18 = .ok (.getfield 23, 3) := dk_180 0 23 (dk_at dksX7_body_0 18 rfl rfl)
theorem dX7_body_21 : decode cX7_body 21 = .ok (.iconst 1, 1) := dk_4 (dk_at dksX7_body_0 21 rfl rfl)
theorem dX7_body_22 : decode cX7_body 22 = .ok (.bipush 99, 2) := dk_16 99 (dk_at dksX7_body_0 22 rfl rfl)
theorem dX7_body_24 : decode cX7_body 24 = .ok (.invokevirtual 36, 3) := dk_182 0 36 (dk_at dksX7_body_1 0 rfl rfl)
theorem dX7_body_27 : decode cX7_body 27 = .ok (.iastore, 1) := dk_79 (dk_at dksX7_body_1 3 rfl rfl)
theorem dX7_body_28 : decode cX7_body 28 = .ok (.aload_n 0, 1) := dk_42 (dk_at dksX7_body_1 4 rfl rfl)
theorem dX7_body_29 : decode cX7_body 29 = .ok (.getfield 22, 3) := dk_180 0 22 (dk_at dksX7_body_1 5 rfl rfl)
theorem dX7_body_32 : decode cX7_body 32 = .ok (.getfield 86, 3) := dk_180 0 86 (dk_at dksX7_body_1 8 rfl rfl)
theorem dX7_body_35 : decode cX7_body 35 = .ok (.iload_n 1, 1) := dk_27 (dk_at dksX7_body_1 11 rfl rfl)
theorem dX7_body_36 : decode cX7_body 36 = .ok (.aload_n 0, 1) := dk_42 (dk_at dksX7_body_1 12 rfl rfl)
theorem dX7_body_37 : decode cX7_body 37 = .ok (.ldc 89, 2) := dk_18 89 (dk_at dksX7_body_1 13 rfl rfl)
theorem dX7_body_39 : decode cX7_body 39 = .ok (.invokevirtual 90, 3) := dk_182 0 90 (dk_at dksX7_body_1 15 rfl rfl)
theorem dX7_body_42 : decode cX7_body 42 = .ok (.iastore, 1) := dk_79 (dk_at dksX7_body_1 18 rfl rfl)
theorem dX7_body_43 : decode cX7_body 43 = .ok (.aload_n 0, 1) := dk_42 (dk_at dksX7_body_1 19 rfl rfl)
theorem dX7_body_44 : decode cX7_body 44 = .ok (.getfield 22, 3) := dk_180 0 22 (dk_at dksX7_body_1 20 rfl rfl)
theorem dX7_body_47 : decode cX7_body 47 = .ok (.getfield 94, 3) := dk_180 0 94 (dk_at dksX7_body_2 0 rfl rfl)
theorem dX7_body_50 : decode cX7_body 50 = .ok (.iload_n 1, 1) := dk_27 (dk_at dksX7_body_2 3 rfl rfl)
theorem dX7_body_51 : decode cX7_body 51 = .ok (.aload_n 0, 1) := dk_42 (dk_at dksX7_body_2 4 rfl rfl)
theorem dX7_body_52 : decode cX7_body 52 = .ok (.ldc 89, 2) := dk_18 89 (dk_at dksX7_body_2 5 rfl rfl)
theorem dX7_body_54 : decode cX7_body 54 = .ok (.invokevirtual 90, 3) := dk_182 0 90 (dk_at dksX7_body_2 7 rfl rfl)
theorem dX7_body_57 : decode cX7_body 57 = .ok (.iastore, 1) := dk_79 (dk_at dksX7_body_2 10 rfl rfl)
theorem dX7_body_58 : decode cX7_body 58 = .ok (.aload_n 0, 1) := dk_42 (dk_at dksX7_body_2 11 rfl rfl)
theorem dX7_body_59 : decode cX7_body 59 = .ok (.getfield 22, 3) := dk_180 0 22 (dk_at dksX7_body_2 12 rfl rfl)
theorem dX7_body_62 : decode cX7_body 62 = .ok (.getfield 97, 3) := dk_180 0 97 (dk_at dksX7_body_2 15 rfl rfl)
theorem dX7_body_65 : decode cX7_body 65 = .ok (.iload_n 1, 1) := dk_27 (dk_at dksX7_body_2 18 rfl rfl)
theorem dX7_body_66 : decode cX7_body 66 = .ok (.aload_n 0, 1) := dk_42 (dk_at dksX7_body_2 19 rfl rfl)
theorem dX7_body_67 : decode cX7_body 67 = .ok (.ldc 62, 2) := dk_18 62 (dk_at dksX7_body_2 20 rfl rfl)
theorem dX7_body_69 : decode cX7_body 69 = .ok (.invokevirtual 90, 3) := dk_182 0 90 (dk_at dksX7_body_3 0 rfl rfl)
theorem dX7_body_72 : decode cX7_body 72 = .ok (.i2l, 1) := dk_133 (dk_at dksX7_body_3 3 rfl rfl)
theorem dX7_body_73 : decode cX7_body 73 = .ok (.lastore, 1) := dk_80 (dk_at dksX7_body_3 4 rfl rfl)
theorem dX7_body_74 : decode cX7_body 74 = .ok (.aload_n 0, 1) := dk_42 (dk_at dksX7_body_3 5 rfl rfl)
theorem dX7_body_75 : decode cX7_body 75 = .ok (.getfield 22, 3) := dk_180 0 22 (dk_at dksX7_body_3 6 rfl rfl)
theorem dX7_body_78 : decode cX7_body 78 = .ok (.getfield 101, 3) := dk_180 0 101 (dk_at dksX7_body_3 9 rfl rfl)
theorem dX7_body_81 : decode cX7_body 81 = .ok (.iload_n 1, 1) := dk_27 (dk_at dksX7_body_3 12 rfl rfl)
theorem dX7_body_82 : decode cX7_body 82 = .ok (.aload_n 0, 1) := dk_42 (dk_at dksX7_body_3 13 rfl rfl)
theorem dX7_body_83 : decode cX7_body 83 = .ok (.ldc 62, 2) := dk_18 62 (dk_at dksX7_body_3 14 rfl rfl)
theorem dX7_body_85 : decode cX7_body 85 = .ok (.invokevirtual 90, 3) := dk_182 0 90 (dk_at dksX7_body_3 16 rfl rfl)
theorem dX7_body_88 : decode cX7_body 88 = .ok (.i2l, 1) := dk_133 (dk_at dksX7_body_3 19 rfl rfl)
theorem dX7_body_89 : decode cX7_body 89 = .ok (.lastore, 1) := dk_80 (dk_at dksX7_body_3 20 rfl rfl)
theorem dX7_body_90 : decode cX7_body 90 = .ok (.iconst 0, 1) := dk_3 (dk_at dksX7_body_3 21 rfl rfl)
theorem dX7_body_91 : decode cX7_body 91 = .ok (.istore_n 2, 1) := dk_61 (dk_at dksX7_body_3 22 rfl rfl)
theorem dX7_body_92 : decode cX7_body 92 = .ok (.iload_n 2, 1) := dk_28 (dk_at dksX7_body_3 23 rfl rfl)
theorem dX7_body_93 : decode cX7_body 93 = .ok (.iload_n 1, 1) := dk_27 (dk_at dksX7_body_4 0 rfl rfl)
theorem dX7_body_94 : decode cX7_body 94 = .ok (.if_icmp .ge 78, 3) := dk_162 0 78 (dk_at dksX7_body_4 1 rfl rfl)
theorem dX7_body_97 : decode cX7_body 97 = .ok (.aload_n 0, 1) := dk_42 (dk_at dksX7_body_4 4 rfl rfl)
theorem dX7_body_98 : decode cX7_body 98 = .ok (.getfield 23, 3) := dk_180 0 23 (dk_at dksX7_body_4 5 rfl rfl)
theorem dX7_body_101 : decode cX7_body 101 = .ok (.bipush 59, 2) := dk_16 59 (dk_at dksX7_body_4 8 rfl rfl)
theorem dX7_body_103 : decode cX7_body 103 = .ok (.invokevirtual 27, 3) := dk_182 0 27 (dk_at dksX7_body_4 10 rfl rfl)
theorem dX7_body_106 : decode cX7_body 106 = .ok (.ifCond .eq 66, 3) := dk_153 0 66 (dk_at dksX7_body_4 13 rfl rfl)
theorem dX7_body_109 : decode cX7_body 109 = .ok (.aload_n 0, 1) := dk_42 (dk_at dksX7_body_4 16 rfl rfl)
theorem dX7_body_110 : decode cX7_body 110 = .ok (.getfield 22, 3) := dk_180 0 22 (dk_at dksX7_body_4 17 rfl rfl)
theorem dX7_body_113 : decode cX7_body 113 = .ok (.getfield 86, 3) := dk_180 0 86 (dk_at dksX7_body_4 20 rfl rfl)
theorem dX7_body_116 : decode cX7_body 116 = .ok (.iload_n 2, 1) := dk_28 (dk_at dksX7_body_4 23 rfl rfl)
theorem dX7_body_117 : decode cX7_body 117 = .ok (.iaload, 1) := dk_46 (dk_at dksX7_body_5 0 rfl rfl)
theorem dX7_body_118 : decode cX7_body 118 = .ok (.aload_n 0, 1) := dk_42 (dk_at dksX7_body_5 1 rfl rfl)
theorem dX7_body_119 : decode cX7_body 119 = .ok (.getfield 22, 3) := dk_180 0 22 (dk_at dksX7_body_5 2 rfl rfl)
theorem dX7_body_122 : decode cX7_body 122 = .ok (.getfield 86, 3) := dk_180 0 86 (dk_at dksX7_body_5 5 rfl rfl)
theorem dX7_body_125 : decode cX7_body 125 = .ok (.iload_n 1, 1) := dk_27 (dk_at dksX7_body_5 8 rfl rfl)
theorem dX7_body_126 : decode cX7_body 126 = .ok (.iaload, 1) := dk_46 (dk_at dksX7_body_5 9 rfl rfl)
theorem dX7_body_127 : decode cX7_body 127 = .ok (.if_icmp .ne 39, 3) := dk_160 0 39 (dk_at dksX7_body_5 10 rfl rfl)
theorem dX7_body_130 : decode cX7_body 130 = .ok (.aload_n 0, 1) := dk_42 (dk_at dksX7_body_5 13 rfl rfl)
theorem dX7_body_131 : decode cX7_body 131 = .ok (.getfield 22, 3) := dk_180 0 22 (dk_at dksX7_body_5 14 rfl rfl)
theorem dX7_body_134 : decode cX7_body 134 = .ok (.getfield 94, 3) := dk_180 0 94 (dk_at dksX7_body_5 17 rfl rfl)
theorem dX7_body_137 : decode cX7_body 137 = .ok (.iload_n 2, 1) := dk_28 (dk_at dksX7_body_5 20 rfl rfl)
theorem dX7_body_138 : decode cX7_body 138 = .ok (.iaload, 1) := dk_46 (dk_at dksX7_body_5 21 rfl rfl)
theorem dX7_body_139 : decode cX7_body 139 = .ok (.aload_n 0, 1) := dk_42 (dk_at dksX7_body_5 22 rfl rfl)
theorem dX7_body_140 : decode cX7_body 140 = .ok (.getfield 22, 3) := dk_180 0 22 (dk_at dksX7_body_6 0 rfl rfl)
theorem dX7_body_143 : decode cX7_body 143 = .ok (.getfield 94, 3) := dk_180 0 94 (dk_at dksX7_body_6 3 rfl rfl)
theorem dX7_body_146 : decode cX7_body 146 = .ok (.iload_n 1, 1) := dk_27 (dk_at dksX7_body_6 6 rfl rfl)
theorem dX7_body_147 : decode cX7_body 147 = .ok (.iaload, 1) := dk_46 (dk_at dksX7_body_6 7 rfl rfl)
theorem dX7_body_148 : decode cX7_body 148 = .ok (.if_icmp .ne 18, 3) := dk_160 0 18 (dk_at dksX7_body_6 8 rfl rfl)
theorem dX7_body_151 : decode cX7_body 151 = .ok (.new 104, 3) := dk_187 0 104 (dk_at dksX7_body_6 11 rfl rfl)
theorem dX7_body_154 : decode cX7_body 154 = .ok (.dup, 1) := dk_89 (dk_at dksX7_body_6 14 rfl rfl)
theorem dX7_body_155 : decode cX7_body 155 = .ok (.aload_n 0, 1) := dk_42 (dk_at dksX7_body_6 15 rfl rfl)
theorem dX7_body_156 : decode cX7_body 156 = .ok (.getfield 23, 3) := dk_180 0 23 (dk_at dksX7_body_6 16 rfl rfl)
theorem dX7_body_159 : decode cX7_body 159 = .ok (.getfield 106, 3) := dk_180 0 106 (dk_at dksX7_body_6 19 rfl rfl)
theorem dX7_body_162 : decode cX7_body 162 = .ok (.invokespecial 110, 3) := dk_183 0 110 (dk_at dksX7_body_7 0 rfl rfl)
theorem dX7_body_165 : decode cX7_body 165 = .ok (.athrow, 1) := dk_191 (dk_at dksX7_body_7 3 rfl rfl)
theorem dX7_body_166 : decode cX7_body 166 = .ok (.iinc 2 1, 3) := dk_132 2 1 (dk_at dksX7_body_7 4 rfl rfl)
theorem dX7_body_169 : decode cX7_body 169 = .ok (.goto (-77), 3) := dk_167 255 179 (dk_at dksX7_body_7 7 rfl rfl)
theorem dX7_body_172 : decode cX7_body 172 = .ok (.aload_n 0, 1) := dk_42 (dk_at dksX7_body_7 10 rfl rfl)
theorem dX7_body_173 : decode cX7_body 173 = .ok (.getfield 23, 3) := dk_180 0 23 (dk_at dksX7_body_7 11 rfl rfl)
theorem dX7_body_176 : decode cX7_body 176 = .ok (.bipush 59, 2) := dk_16 59 (dk_at dksX7_body_7 14 rfl rfl)
theorem dX7_body_178 : decode cX7_body 178 = .ok (.invokevirtual 77, 3) := dk_182 0 77 (dk_at dksX7_body_7 16 rfl rfl)
theorem dX7_body_181 : decode cX7_body 181 = .ok (.return_, 1) := dk_177 (dk_at dksX7_body_7 19 rfl rfl)
abbrev cX7_signed : ByteArray := prog_13_method_2_code
def yX7_signed : MethodName := ⟨RX7, "signed", "(I)I"⟩
def dkwX7_signed_1 : List UInt8 := [180, 0, 23, 3, 27, 182, 0, 36, 62, 28, 153, 0, 8, 29, 116, 167, 0, 4, 29, 172]
abbrev dktX7_signed_1 : List UInt8 := dkwX7_signed_1 ++ []
def dkwX7_signed_0 : List UInt8 := [42, 180, 0, 23, 16, 45, 182, 0, 27, 61, 28, 153, 0, 10, 42, 180, 0, 23, 182, 0, 33, 42]
abbrev dktX7_signed_0 : List UInt8 := dkwX7_signed_0 ++ dktX7_signed_1
theorem dksX7_signed_0 : cX7_signed.data.toList.drop 0 = dktX7_signed_0 := by decide +kernel
theorem dksX7_signed_1 : cX7_signed.data.toList.drop 22 = dktX7_signed_1 := dk_seg dksX7_signed_0 22 rfl rfl
theorem dX7_signed_0 : decode cX7_signed 0 = .ok (.aload_n 0, 1) := dk_42 (dk_at dksX7_signed_0 0 rfl rfl)
theorem dX7_signed_1 : decode cX7_signed 1 = .ok (.getfield 23, 3) := dk_180 0 23 (dk_at dksX7_signed_0 1 rfl rfl)
theorem dX7_signed_4 : decode cX7_signed 4 = .ok (.bipush 45, 2) := dk_16 45 (dk_at dksX7_signed_0 4 rfl rfl)
theorem dX7_signed_6 : decode cX7_signed 6 = .ok (.invokevirtual 27, 3) := dk_182 0 27 (dk_at dksX7_signed_0 6 rfl rfl)
theorem dX7_signed_9 : decode cX7_signed 9 = .ok (.istore_n 2, 1) := dk_61 (dk_at dksX7_signed_0 9 rfl rfl)
theorem dX7_signed_10 : decode cX7_signed 10 = .ok (.iload_n 2, 1) := dk_28 (dk_at dksX7_signed_0 10 rfl rfl)
theorem dX7_signed_11 : decode cX7_signed 11 = .ok (.ifCond .eq 10, 3) := dk_153 0 10 (dk_at dksX7_signed_0 11 rfl rfl)
theorem dX7_signed_14 : decode cX7_signed 14 = .ok (.aload_n 0, 1) := dk_42 (dk_at dksX7_signed_0 14 rfl rfl)
theorem dX7_signed_15 : decode cX7_signed 15 = .ok (.getfield 23, 3) := dk_180 0 23 (dk_at dksX7_signed_0 15 rfl rfl)
theorem dX7_signed_18 : decode cX7_signed 18 = .ok (.invokevirtual 33, 3) := dk_182 0 33 (dk_at dksX7_signed_0 18 rfl rfl)
theorem dX7_signed_21 : decode cX7_signed 21 = .ok (.aload_n 0, 1) := dk_42 (dk_at dksX7_signed_0 21 rfl rfl)
theorem dX7_signed_22 : decode cX7_signed 22 = .ok (.getfield 23, 3) := dk_180 0 23 (dk_at dksX7_signed_1 0 rfl rfl)
theorem dX7_signed_25 : decode cX7_signed 25 = .ok (.iconst 0, 1) := dk_3 (dk_at dksX7_signed_1 3 rfl rfl)
theorem dX7_signed_26 : decode cX7_signed 26 = .ok (.iload_n 1, 1) := dk_27 (dk_at dksX7_signed_1 4 rfl rfl)
theorem dX7_signed_27 : decode cX7_signed 27 = .ok (.invokevirtual 36, 3) := dk_182 0 36 (dk_at dksX7_signed_1 5 rfl rfl)
theorem dX7_signed_30 : decode cX7_signed 30 = .ok (.istore_n 3, 1) := dk_62 (dk_at dksX7_signed_1 8 rfl rfl)
theorem dX7_signed_31 : decode cX7_signed 31 = .ok (.iload_n 2, 1) := dk_28 (dk_at dksX7_signed_1 9 rfl rfl)
theorem dX7_signed_32 : decode cX7_signed 32 = .ok (.ifCond .eq 8, 3) := dk_153 0 8 (dk_at dksX7_signed_1 10 rfl rfl)
theorem dX7_signed_35 : decode cX7_signed 35 = .ok (.iload_n 3, 1) := dk_29 (dk_at dksX7_signed_1 13 rfl rfl)
theorem dX7_signed_36 : decode cX7_signed 36 = .ok (.ineg, 1) := dk_116 (dk_at dksX7_signed_1 14 rfl rfl)
theorem dX7_signed_37 : decode cX7_signed 37 = .ok (.goto 4, 3) := dk_167 0 4 (dk_at dksX7_signed_1 15 rfl rfl)
theorem dX7_signed_40 : decode cX7_signed 40 = .ok (.iload_n 3, 1) := dk_29 (dk_at dksX7_signed_1 18 rfl rfl)
theorem dX7_signed_41 : decode cX7_signed 41 = .ok (.ireturn, 1) := dk_172 (dk_at dksX7_signed_1 19 rfl rfl)
theorem q116 : (Jvm.Cond.initialized "ThreeBodies$Reader") ∈ lw_all := lw_g (lw_at lw_m1 18 rfl) rfl
theorem q174 : (Jvm.Cond.fieldLinkNest "ThreeBodies$Reader" (56 : Nat) "ThreeBodies$Bodies" "settings" "[I" "ThreeBodies") ∈ lw_tbl := lw_at lw_m1 76 rfl
theorem q178 : (Jvm.Cond.fieldLinkNest "ThreeBodies$Reader" (83 : Nat) "ThreeBodies$Bodies" "mass" "[I" "ThreeBodies") ∈ lw_tbl := lw_at lw_m1 80 rfl
theorem q182 : (Jvm.Cond.fieldLinkNest "ThreeBodies$Reader" (86 : Nat) "ThreeBodies$Bodies" "x" "[I" "ThreeBodies") ∈ lw_tbl := lw_at lw_m1 84 rfl
theorem q186 : (Jvm.Cond.fieldLinkNest "ThreeBodies$Reader" (94 : Nat) "ThreeBodies$Bodies" "y" "[I" "ThreeBodies") ∈ lw_tbl := lw_at lw_m1 88 rfl
theorem q189 : (Jvm.Cond.fieldLinkNest "ThreeBodies$Reader" (97 : Nat) "ThreeBodies$Bodies" "px" "[J" "ThreeBodies") ∈ lw_tbl := lw_at lw_m1 91 rfl
theorem q192 : (Jvm.Cond.fieldLinkNest "ThreeBodies$Reader" (101 : Nat) "ThreeBodies$Bodies" "py" "[J" "ThreeBodies") ∈ lw_tbl := lw_at lw_m1 94 rfl
theorem q289 : (Jvm.Cond.fieldLinkNest "ThreeBodies$Reader" (18 : Nat) "ThreeBodies$State" "bodies" "LThreeBodies$Bodies;" "ThreeBodies") ∈ lw_tbl := lw_at lw_m1 191 rfl
theorem q812 : (Jvm.Cond.selects "ThreeBodies$Reader" ({ cls := "java/lang/Object", name := "getClass", desc := "()Ljava/lang/Class;" } : Jvm.MethodName) ({ cls := "java/lang/Object", name := "getClass", desc := "()Ljava/lang/Class;" } : Jvm.MethodName)) ∈ lw_all := lw_g (lw_at lw_m3 234 rfl) rfl
theorem q967 : (Jvm.Cond.instantiable "ThreeBodies$Reader" (3 : Nat)) ∈ lw_all := lw_g (lw_at lw_m4 149 rfl) rfl
theorem q1268 : (Jvm.Cond.fieldLinkNest "ThreeBodies$Reader" (119 : Nat) "ThreeBodies$Scanner" "kind" "I" "ThreeBodies") ∈ lw_tbl := lw_at lw_m5 210 rfl
theorem q1270 : (Jvm.Cond.fieldLinkNest "ThreeBodies$Reader" (106 : Nat) "ThreeBodies$Scanner" "begin" "I" "ThreeBodies") ∈ lw_tbl := lw_at lw_m5 212 rfl
theorem q1294 : (Jvm.Cond.instanceMethod ({ cls := "ThreeBodies$Reader", name := "<init>", desc := "(LThreeBodies$Scanner;)V" } : Jvm.MethodName)) ∈ lw_all := lw_g (lw_at lw_m5 236 rfl) rfl
theorem q1295 : (Jvm.Cond.code ({ cls := "ThreeBodies$Reader", name := "<init>", desc := "(LThreeBodies$Scanner;)V" } : Jvm.MethodName) prog_13_method_1_code (2 : Nat) (Option.none : Option Jvm.ClassFile.FieldType)) ∈ lw_all := lw_g (lw_at lw_m5 237 rfl) rfl
theorem q1296 : (Jvm.Cond.methodLink "ThreeBodies$Reader" (3 : Nat) ({ cls := "java/lang/Object", name := "<init>", desc := "()V" } : Jvm.MethodName)) ∈ lw_all := lw_g (lw_at lw_m5 238 rfl) rfl
theorem q1297 : (Jvm.Cond.classLink "ThreeBodies$Reader" (9 : Nat) "ThreeBodies$State") ∈ lw_all := lw_g (lw_at lw_m5 239 rfl) rfl
theorem q1298 : (Jvm.Cond.methodLinkNest "ThreeBodies$Reader" (11 : Nat) ({ cls := "ThreeBodies$State", name := "<init>", desc := "()V" } : Jvm.MethodName) "ThreeBodies") ∈ lw_tbl := lw_at lw_m6 0 rfl
theorem q1299 : (Jvm.Cond.fieldLink "ThreeBodies$Reader" (23 : Nat) "ThreeBodies$Reader" "scanner" "LThreeBodies$Scanner;") ∈ lw_all := lw_g (lw_at lw_m6 1 rfl) rfl
theorem q1300 : (Jvm.Cond.fieldLink "ThreeBodies$Reader" (12 : Nat) "ThreeBodies$Reader" "made" "LThreeBodies$State;") ∈ lw_all := lw_g (lw_at lw_m6 2 rfl) rfl
theorem q1301 : (Jvm.Cond.fieldLink "ThreeBodies$Reader" (22 : Nat) "ThreeBodies$Reader" "bodies" "LThreeBodies$Bodies;") ∈ lw_all := lw_g (lw_at lw_m6 3 rfl) rfl
theorem q1302 : (Jvm.Cond.laysFinal "ThreeBodies$Reader" "ThreeBodies$Reader" "scanner" "LThreeBodies$Scanner;") ∈ lw_all := lw_g (lw_at lw_m6 4 rfl) rfl
theorem q1303 : (Jvm.Cond.soleField "ThreeBodies$Reader" "scanner") ∈ lw_all := lw_g (lw_at lw_m6 5 rfl) rfl
theorem q1304 : (Jvm.Cond.laysFinal "ThreeBodies$Reader" "ThreeBodies$Reader" "made" "LThreeBodies$State;") ∈ lw_all := lw_g (lw_at lw_m6 6 rfl) rfl
theorem q1305 : (Jvm.Cond.soleField "ThreeBodies$Reader" "made") ∈ lw_all := lw_g (lw_at lw_m6 7 rfl) rfl
theorem q1306 : (Jvm.Cond.laysFinal "ThreeBodies$Reader" "ThreeBodies$Reader" "bodies" "LThreeBodies$Bodies;") ∈ lw_all := lw_g (lw_at lw_m6 8 rfl) rfl
theorem q1307 : (Jvm.Cond.soleField "ThreeBodies$Reader" "bodies") ∈ lw_all := lw_g (lw_at lw_m6 9 rfl) rfl
theorem q1308 : (Jvm.Cond.superclass "ThreeBodies$Reader" "java/lang/Object") ∈ lw_all := lw_g (lw_at lw_m6 10 rfl) rfl
theorem q1310 : (Jvm.Cond.instanceMethod ({ cls := "ThreeBodies$Reader", name := "read", desc := "()LThreeBodies$State;" } : Jvm.MethodName)) ∈ lw_all := lw_g (lw_at lw_m6 12 rfl) rfl
theorem q1311 : (Jvm.Cond.selects "ThreeBodies$Reader" ({ cls := "ThreeBodies$Reader", name := "read", desc := "()LThreeBodies$State;" } : Jvm.MethodName) ({ cls := "ThreeBodies$Reader", name := "read", desc := "()LThreeBodies$State;" } : Jvm.MethodName)) ∈ lw_all := lw_g (lw_at lw_m6 13 rfl) rfl
theorem q1312 : (Jvm.Cond.codeWith ({ cls := "ThreeBodies$Reader", name := "read", desc := "()LThreeBodies$State;" } : Jvm.MethodName) prog_13_method_6_code (3 : Nat) (Option.some (Jvm.ClassFile.FieldType.object "ThreeBodies$State")) [((0 : Nat), (50 : Nat), (53 : Nat), (126 : Nat)), ((0 : Nat), (50 : Nat), (53 : Nat), (128 : Nat)), ((0 : Nat), (50 : Nat), (53 : Nat), (104 : Nat))]) ∈ lw_all := lw_g (lw_at lw_m6 14 rfl) rfl
theorem q1313 : (Jvm.Cond.classLink "ThreeBodies$Reader" (126 : Nat) "ThreeBodies$SyntaxException") ∈ lw_all := lw_g (lw_at lw_m6 15 rfl) rfl
theorem q1314 : (Jvm.Cond.classLink "ThreeBodies$Reader" (128 : Nat) "ThreeBodies$RangeException") ∈ lw_all := lw_g (lw_at lw_m6 16 rfl) rfl
theorem q1315 : (Jvm.Cond.classLink "ThreeBodies$Reader" (104 : Nat) "ThreeBodies$ClashException") ∈ lw_all := lw_g (lw_at lw_m6 17 rfl) rfl
theorem q1316 : (Jvm.Cond.methodLink "ThreeBodies$Reader" (113 : Nat) ({ cls := "ThreeBodies$Reader", name := "setting", desc := "()Z" } : Jvm.MethodName)) ∈ lw_all := lw_g (lw_at lw_m6 18 rfl) rfl
theorem q1317 : (Jvm.Cond.privateMethod ({ cls := "ThreeBodies$Reader", name := "setting", desc := "()Z" } : Jvm.MethodName)) ∈ lw_tbl := lw_at lw_m6 19 rfl
theorem q1318 : (Jvm.Cond.instanceMethod ({ cls := "ThreeBodies$Reader", name := "setting", desc := "()Z" } : Jvm.MethodName)) ∈ lw_all := lw_g (lw_at lw_m6 20 rfl) rfl
theorem q1319 : (Jvm.Cond.code ({ cls := "ThreeBodies$Reader", name := "setting", desc := "()Z" } : Jvm.MethodName) prog_13_method_4_code (1 : Nat) (Option.some Jvm.ClassFile.FieldType.boolean)) ∈ lw_all := lw_g (lw_at lw_m6 21 rfl) rfl
theorem q1320 : (Jvm.Cond.stringRef "ThreeBodies$Reader" (54 : Nat) "force") ∈ lw_tbl := lw_at lw_m6 22 rfl
theorem q1321 : (Jvm.Cond.methodLink "ThreeBodies$Reader" (42 : Nat) ({ cls := "ThreeBodies$Scanner", name := "accept", desc := "(Ljava/lang/String;)Z" } : Jvm.MethodName)) ∈ lw_all := lw_g (lw_at lw_m6 23 rfl) rfl
theorem q1337 : (Jvm.Cond.constant "ThreeBodies$Reader" (62 : Nat) (1000000000 : Int32)) ∈ lw_all := lw_g (lw_at lw_m6 39 rfl) rfl
theorem q1338 : (Jvm.Cond.methodLink "ThreeBodies$Reader" (36 : Nat) ({ cls := "ThreeBodies$Scanner", name := "number", desc := "(II)I" } : Jvm.MethodName)) ∈ lw_all := lw_g (lw_at lw_m6 40 rfl) rfl
theorem q1388 : (Jvm.Cond.stringRef "ThreeBodies$Reader" (63 : Nat) "soft") ∈ lw_tbl := lw_at lw_m6 90 rfl
theorem q1389 : (Jvm.Cond.stringRef "ThreeBodies$Reader" (65 : Nat) "time") ∈ lw_tbl := lw_at lw_m6 91 rfl
theorem q1390 : (Jvm.Cond.stringRef "ThreeBodies$Reader" (67 : Nat) "near") ∈ lw_tbl := lw_at lw_m6 92 rfl
theorem q1391 : (Jvm.Cond.constant "ThreeBodies$Reader" (69 : Nat) (300000 : Int32)) ∈ lw_all := lw_g (lw_at lw_m6 93 rfl) rfl
theorem q1392 : (Jvm.Cond.stringRef "ThreeBodies$Reader" (70 : Nat) "band") ∈ lw_tbl := lw_at lw_m6 94 rfl
theorem q1393 : (Jvm.Cond.stringRef "ThreeBodies$Reader" (72 : Nat) "scheme") ∈ lw_tbl := lw_at lw_m6 95 rfl
theorem q1394 : (Jvm.Cond.methodLink "ThreeBodies$Reader" (74 : Nat) ({ cls := "ThreeBodies$Reader", name := "scheme", desc := "()I" } : Jvm.MethodName)) ∈ lw_all := lw_g (lw_at lw_m6 96 rfl) rfl
theorem q1395 : (Jvm.Cond.privateMethod ({ cls := "ThreeBodies$Reader", name := "scheme", desc := "()I" } : Jvm.MethodName)) ∈ lw_tbl := lw_at lw_m6 97 rfl
theorem q1396 : (Jvm.Cond.instanceMethod ({ cls := "ThreeBodies$Reader", name := "scheme", desc := "()I" } : Jvm.MethodName)) ∈ lw_all := lw_g (lw_at lw_m6 98 rfl) rfl
theorem q1397 : (Jvm.Cond.code ({ cls := "ThreeBodies$Reader", name := "scheme", desc := "()I" } : Jvm.MethodName) prog_13_method_3_code (1 : Nat) (Option.some Jvm.ClassFile.FieldType.int)) ∈ lw_all := lw_g (lw_at lw_m6 99 rfl) rfl
theorem q1398 : (Jvm.Cond.stringRef "ThreeBodies$Reader" (40 : Nat) "euler") ∈ lw_tbl := lw_at lw_m6 100 rfl
theorem q1399 : (Jvm.Cond.stringRef "ThreeBodies$Reader" (46 : Nat) "leap") ∈ lw_tbl := lw_at lw_m6 101 rfl
theorem q1400 : (Jvm.Cond.stringRef "ThreeBodies$Reader" (48 : Nat) "verlet") ∈ lw_tbl := lw_at lw_m6 102 rfl
theorem q1401 : (Jvm.Cond.methodLink "ThreeBodies$Reader" (50 : Nat) ({ cls := "ThreeBodies$Scanner", name := "expectWord", desc := "(Ljava/lang/String;)V" } : Jvm.MethodName)) ∈ lw_all := lw_g (lw_at lw_m6 103 rfl) rfl
theorem q1406 : (Jvm.Cond.methodLink "ThreeBodies$Reader" (77 : Nat) ({ cls := "ThreeBodies$Scanner", name := "expect", desc := "(C)V" } : Jvm.MethodName)) ∈ lw_all := lw_g (lw_at lw_m6 108 rfl) rfl
theorem q1414 : (Jvm.Cond.methodLink "ThreeBodies$Reader" (117 : Nat) ({ cls := "ThreeBodies$Reader", name := "body", desc := "(I)V" } : Jvm.MethodName)) ∈ lw_all := lw_g (lw_at lw_m6 116 rfl) rfl
theorem q1415 : (Jvm.Cond.privateMethod ({ cls := "ThreeBodies$Reader", name := "body", desc := "(I)V" } : Jvm.MethodName)) ∈ lw_tbl := lw_at lw_m6 117 rfl
theorem q1416 : (Jvm.Cond.instanceMethod ({ cls := "ThreeBodies$Reader", name := "body", desc := "(I)V" } : Jvm.MethodName)) ∈ lw_all := lw_g (lw_at lw_m6 118 rfl) rfl
theorem q1417 : (Jvm.Cond.code ({ cls := "ThreeBodies$Reader", name := "body", desc := "(I)V" } : Jvm.MethodName) prog_13_method_5_code (3 : Nat) (Option.none : Option Jvm.ClassFile.FieldType)) ∈ lw_all := lw_g (lw_at lw_m6 119 rfl) rfl
theorem q1418 : (Jvm.Cond.stringRef "ThreeBodies$Reader" (81 : Nat) "body") ∈ lw_tbl := lw_at lw_m6 120 rfl
theorem q1419 : (Jvm.Cond.constant "ThreeBodies$Reader" (89 : Nat) (100000 : Int32)) ∈ lw_all := lw_g (lw_at lw_m6 121 rfl) rfl
theorem q1420 : (Jvm.Cond.methodLink "ThreeBodies$Reader" (90 : Nat) ({ cls := "ThreeBodies$Reader", name := "signed", desc := "(I)I" } : Jvm.MethodName)) ∈ lw_all := lw_g (lw_at lw_m6 122 rfl) rfl
theorem q1421 : (Jvm.Cond.privateMethod ({ cls := "ThreeBodies$Reader", name := "signed", desc := "(I)I" } : Jvm.MethodName)) ∈ lw_tbl := lw_at lw_m6 123 rfl
theorem q1422 : (Jvm.Cond.instanceMethod ({ cls := "ThreeBodies$Reader", name := "signed", desc := "(I)I" } : Jvm.MethodName)) ∈ lw_all := lw_g (lw_at lw_m6 124 rfl) rfl
theorem q1423 : (Jvm.Cond.code ({ cls := "ThreeBodies$Reader", name := "signed", desc := "(I)I" } : Jvm.MethodName) prog_13_method_2_code (4 : Nat) (Option.some Jvm.ClassFile.FieldType.int)) ∈ lw_all := lw_g (lw_at lw_m6 125 rfl) rfl
theorem q1424 : (Jvm.Cond.methodLink "ThreeBodies$Reader" (27 : Nat) ({ cls := "ThreeBodies$Scanner", name := "isAt", desc := "(C)Z" } : Jvm.MethodName)) ∈ lw_all := lw_g (lw_at lw_m6 126 rfl) rfl
theorem q1425 : (Jvm.Cond.methodLink "ThreeBodies$Reader" (33 : Nat) ({ cls := "ThreeBodies$Scanner", name := "advance", desc := "()V" } : Jvm.MethodName)) ∈ lw_all := lw_g (lw_at lw_m6 127 rfl) rfl
theorem q1434 : (Jvm.Cond.methodLink "ThreeBodies$Reader" (110 : Nat) ({ cls := "ThreeBodies$ClashException", name := "<init>", desc := "(I)V" } : Jvm.MethodName)) ∈ lw_all := lw_g (lw_at lw_m6 136 rfl) rfl
theorem q1441 : (Jvm.Cond.methodLink "ThreeBodies$Reader" (122 : Nat) ({ cls := "ThreeBodies$Scanner", name := "wrong", desc := "()LThreeBodies$SyntaxException;" } : Jvm.MethodName)) ∈ lw_all := lw_g (lw_at lw_m6 143 rfl) rfl
theorem q1442 : (Jvm.Cond.classLink "ThreeBodies$Reader" (130 : Nat) "ThreeBodies$UnreadableException") ∈ lw_all := lw_g (lw_at lw_m6 144 rfl) rfl
theorem q1451 : (Jvm.Cond.methodLink "ThreeBodies$Reader" (132 : Nat) ({ cls := "ThreeBodies$UnreadableException", name := "<init>", desc := "(LThreeBodies$TextException;)V" } : Jvm.MethodName)) ∈ lw_all := lw_g (lw_at lw_m6 153 rfl) rfl
theorem q1457 : (Jvm.Cond.methodLink "ThreeBodies$Reader" (135 : Nat) ({ cls := "ThreeBodies$State", name := "see", desc := "()V" } : Jvm.MethodName)) ∈ lw_all := lw_g (lw_at lw_m6 159 rfl) rfl
theorem q1858 : (Jvm.Cond.selects "ThreeBodies$Reader" ({ cls := "java/lang/Object", name := "hashCode", desc := "()I" } : Jvm.MethodName) ({ cls := "java/lang/Object", name := "hashCode", desc := "()I" } : Jvm.MethodName)) ∈ lw_all := lw_g (lw_at lw_m8 80 rfl) rfl
theorem q1945 : (Jvm.Cond.selects "ThreeBodies$Reader" ({ cls := "java/lang/Object", name := "equals", desc := "(Ljava/lang/Object;)Z" } : Jvm.MethodName) ({ cls := "java/lang/Object", name := "equals", desc := "(Ljava/lang/Object;)Z" } : Jvm.MethodName)) ∈ lw_all := lw_g (lw_at lw_m8 167 rfl) rfl
theorem q3398 : (Jvm.Cond.castable "ThreeBodies$Reader" "java/lang/Object") ∈ lw_tbl := lw_at lw_m14 180 rfl
theorem in_X7 : ∀ w ∈ wsX70, w ∈ lw_all := lw_in wsX70 [1302, 1304, 1306] (by decide +kernel) (by decide +kernel)
/-! ThreeBodies$Scanner -/
set_option maxRecDepth 100000
def RX8 : String := "ThreeBodies$Scanner"
def TX8 : u_T := fun k => match k with
  | 0 => ("ThreeBodies$Scanner", "text", "[B", true)
  | 1 => ("ThreeBodies$Scanner", "end", "I", true)
  | 2 => ("ThreeBodies$Scanner", "symbols", "Ljava/lang/String;", true)
  | 3 => ("ThreeBodies$Scanner", "kind", "I", false)
  | 4 => ("ThreeBodies$Scanner", "begin", "I", false)
  | 5 => ("ThreeBodies$Scanner", "next", "I", false)
  | 6 => ("ThreeBodies$Scanner", "value", "I", false)
  | _ => ("ThreeBodies$Scanner", "word", "Ljava/lang/String;", false)
def tyX8 : Nat → FieldType := fun k => match k with
  | 0 => .array .byte
  | 1 => .int
  | 2 => .object "java/lang/String"
  | 3 => .int
  | 4 => .int
  | 5 => .int
  | 6 => .int
  | _ => .object "java/lang/String"
abbrev wsX80 : List Cond := u_ws RX8 TX8 8
theorem nmX8 : ∀ a, a < 8 → ∀ b, b < 8 → a ≠ b → (TX8 a).2.1 ≠ (TX8 b).2.1 := by decide +kernel
theorem tyX8_ok : ∀ k, k < 8 → parseFieldDescriptor (TX8 k).2.2.1 = some (tyX8 k) := by decide +kernel
abbrev cX8_init : ByteArray := prog_14_method_1_code
def yX8_init : MethodName := ⟨RX8, "<init>", "([BILjava/lang/String;)V"⟩
def dkwX8_init_1 : List UInt8 := [181, 0, 23, 42, 182, 0, 26, 177]
abbrev dktX8_init_1 : List UInt8 := dkwX8_init_1 ++ []
def dkwX8_init_0 : List UInt8 := [42, 183, 0, 1, 42, 18, 7, 181, 0, 9, 42, 43, 181, 0, 15, 42, 28, 181, 0, 19, 42, 45]
abbrev dktX8_init_0 : List UInt8 := dkwX8_init_0 ++ dktX8_init_1
theorem dksX8_init_0 : cX8_init.data.toList.drop 0 = dktX8_init_0 := by decide +kernel
theorem dksX8_init_1 : cX8_init.data.toList.drop 22 = dktX8_init_1 := dk_seg dksX8_init_0 22 rfl rfl
theorem dX8_init_0 : decode cX8_init 0 = .ok (.aload_n 0, 1) := dk_42 (dk_at dksX8_init_0 0 rfl rfl)
theorem dX8_init_1 : decode cX8_init 1 = .ok (.invokespecial 1, 3) := dk_183 0 1 (dk_at dksX8_init_0 1 rfl rfl)
theorem dX8_init_4 : decode cX8_init 4 = .ok (.aload_n 0, 1) := dk_42 (dk_at dksX8_init_0 4 rfl rfl)
theorem dX8_init_5 : decode cX8_init 5 = .ok (.ldc 7, 2) := dk_18 7 (dk_at dksX8_init_0 5 rfl rfl)
theorem dX8_init_7 : decode cX8_init 7 = .ok (.putfield 9, 3) := dk_181 0 9 (dk_at dksX8_init_0 7 rfl rfl)
theorem dX8_init_10 : decode cX8_init 10 = .ok (.aload_n 0, 1) := dk_42 (dk_at dksX8_init_0 10 rfl rfl)
theorem dX8_init_11 : decode cX8_init 11 = .ok (.aload_n 1, 1) := dk_43 (dk_at dksX8_init_0 11 rfl rfl)
theorem dX8_init_12 : decode cX8_init 12 = .ok (.putfield 15, 3) := dk_181 0 15 (dk_at dksX8_init_0 12 rfl rfl)
theorem dX8_init_15 : decode cX8_init 15 = .ok (.aload_n 0, 1) := dk_42 (dk_at dksX8_init_0 15 rfl rfl)
theorem dX8_init_16 : decode cX8_init 16 = .ok (.iload_n 2, 1) := dk_28 (dk_at dksX8_init_0 16 rfl rfl)
theorem dX8_init_17 : decode cX8_init 17 = .ok (.putfield 19, 3) := dk_181 0 19 (dk_at dksX8_init_0 17 rfl rfl)
theorem dX8_init_20 : decode cX8_init 20 = .ok (.aload_n 0, 1) := dk_42 (dk_at dksX8_init_0 20 rfl rfl)
theorem dX8_init_21 : decode cX8_init 21 = .ok (.aload_n 3, 1) := dk_45 (dk_at dksX8_init_0 21 rfl rfl)
theorem dX8_init_22 : decode cX8_init 22 = .ok (.putfield 23, 3) := dk_181 0 23 (dk_at dksX8_init_1 0 rfl rfl)
theorem dX8_init_25 : decode cX8_init 25 = .ok (.aload_n 0, 1) := dk_42 (dk_at dksX8_init_1 3 rfl rfl)
theorem dX8_init_26 : decode cX8_init 26 = .ok (.invokevirtual 26, 3) := dk_182 0 26 (dk_at dksX8_init_1 4 rfl rfl)
theorem dX8_init_29 : decode cX8_init 29 = .ok (.return_, 1) := dk_177 (dk_at dksX8_init_1 7 rfl rfl)
abbrev cX8_advance : ByteArray := prog_14_method_3_code
def yX8_advance : MethodName := ⟨RX8, "advance", "()V"⟩
def dkwX8_advance_7 : List UInt8 := [180, 0, 15, 42, 180, 0, 32, 51, 182, 0, 53, 155, 0, 7, 6, 167, 0, 4, 7, 181, 0, 35, 177]
abbrev dktX8_advance_7 : List UInt8 := dkwX8_advance_7 ++ []
def dkwX8_advance_6 : List UInt8 := [181, 0, 50, 167, 0, 41, 42, 89, 180, 0, 29, 4, 96, 181, 0, 29, 42, 42, 180, 0, 23, 42]
abbrev dktX8_advance_6 : List UInt8 := dkwX8_advance_6 ++ dktX8_advance_7
def dkwX8_advance_5 : List UInt8 := [180, 0, 32, 16, 48, 16, 57, 182, 0, 38, 153, 0, 19, 42, 5, 181, 0, 35, 42, 42, 182, 0, 46]
abbrev dktX8_advance_5 : List UInt8 := dkwX8_advance_5 ++ dktX8_advance_6
def dkwX8_advance_4 : List UInt8 := [182, 0, 38, 153, 0, 19, 42, 4, 181, 0, 35, 42, 42, 182, 0, 42, 181, 0, 9, 167, 0, 72, 42, 42]
abbrev dktX8_advance_4 : List UInt8 := dkwX8_advance_4 ++ dktX8_advance_5
def dkwX8_advance_3 : List UInt8 := [42, 180, 0, 19, 160, 0, 11, 42, 3, 181, 0, 35, 167, 0, 103, 42, 42, 180, 0, 32, 16, 97, 16, 122]
abbrev dktX8_advance_3 : List UInt8 := dkwX8_advance_3 ++ dktX8_advance_4
def dkwX8_advance_2 : List UInt8 := [89, 180, 0, 32, 4, 96, 181, 0, 32, 167, 255, 207, 42, 42, 180, 0, 32, 181, 0, 29, 42, 180, 0, 32]
abbrev dktX8_advance_2 : List UInt8 := dkwX8_advance_2 ++ dktX8_advance_3
def dkwX8_advance_1 : List UInt8 := [180, 0, 32, 51, 16, 32, 159, 0, 17, 42, 180, 0, 15, 42, 180, 0, 32, 51, 16, 10, 160, 0, 16, 42]
abbrev dktX8_advance_1 : List UInt8 := dkwX8_advance_1 ++ dktX8_advance_2
def dkwX8_advance_0 : List UInt8 := [42, 42, 180, 0, 29, 181, 0, 32, 42, 180, 0, 32, 42, 180, 0, 19, 162, 0, 44, 42, 180, 0, 15, 42]
abbrev dktX8_advance_0 : List UInt8 := dkwX8_advance_0 ++ dktX8_advance_1
theorem dksX8_advance_0 : cX8_advance.data.toList.drop 0 = dktX8_advance_0 := by decide +kernel
theorem dksX8_advance_1 : cX8_advance.data.toList.drop 24 = dktX8_advance_1 := dk_seg dksX8_advance_0 24 rfl rfl
theorem dksX8_advance_2 : cX8_advance.data.toList.drop 48 = dktX8_advance_2 := dk_seg dksX8_advance_1 24 rfl rfl
theorem dksX8_advance_3 : cX8_advance.data.toList.drop 72 = dktX8_advance_3 := dk_seg dksX8_advance_2 24 rfl rfl
theorem dksX8_advance_4 : cX8_advance.data.toList.drop 96 = dktX8_advance_4 := dk_seg dksX8_advance_3 24 rfl rfl
theorem dksX8_advance_5 : cX8_advance.data.toList.drop 120 = dktX8_advance_5 := dk_seg dksX8_advance_4 24 rfl rfl
theorem dksX8_advance_6 : cX8_advance.data.toList.drop 143 = dktX8_advance_6 := dk_seg dksX8_advance_5 23 rfl rfl
theorem dksX8_advance_7 : cX8_advance.data.toList.drop 165 = dktX8_advance_7 := dk_seg dksX8_advance_6 22 rfl rfl
theorem dX8_advance_0 : decode cX8_advance 0 = .ok (.aload_n 0, 1) := dk_42 (dk_at dksX8_advance_0 0 rfl rfl)
theorem dX8_advance_1 : decode cX8_advance 1 = .ok (.aload_n 0, 1) := dk_42 (dk_at dksX8_advance_0 1 rfl rfl)
theorem dX8_advance_2 : decode cX8_advance 2 = .ok (.getfield 29, 3) := dk_180 0 29 (dk_at dksX8_advance_0 2 rfl rfl)
theorem dX8_advance_5 : decode cX8_advance 5 = .ok (.putfield 32, 3) := dk_181 0 32 (dk_at dksX8_advance_0 5 rfl rfl)
theorem dX8_advance_8 : decode cX8_advance 8 = .ok (.aload_n 0, 1) := dk_42 (dk_at dksX8_advance_0 8 rfl rfl)
theorem dX8_advance_9 : decode cX8_advance 9 = .ok (.getfield 32, 3) := dk_180 0 32 (dk_at dksX8_advance_0 9 rfl rfl)
theorem dX8_advance_12 : decode cX8_advance 12 = .ok (.aload_n 0, 1) := dk_42 (dk_at dksX8_advance_0 12 rfl rfl)
theorem dX8_advance_13 : decode cX8_advance 13 = .ok (.getfield 19, 3) := dk_180 0 19 (dk_at dksX8_advance_0 13 rfl rfl)
theorem dX8_advance_16 : decode cX8_advance 16 = .ok (.if_icmp .ge 44, 3) := dk_162 0 44 (dk_at dksX8_advance_0 16 rfl rfl)
theorem dX8_advance_19 : decode cX8_advance 19 = .ok (.aload_n 0, 1) := dk_42 (dk_at dksX8_advance_0 19 rfl rfl)
theorem dX8_advance_20 : decode cX8_advance 20 = .ok (.getfield 15, 3) := dk_180 0 15 (dk_at dksX8_advance_0 20 rfl rfl)
theorem dX8_advance_23 : decode cX8_advance 23 = .ok (.aload_n 0, 1) := dk_42 (dk_at dksX8_advance_0 23 rfl rfl)
theorem dX8_advance_24 : decode cX8_advance 24 = .ok (.getfield 32, 3) := dk_180 0 32 (dk_at dksX8_advance_1 0 rfl rfl)
theorem dX8_advance_27 : decode cX8_advance 27 = .ok (.baload, 1) := dk_51 (dk_at dksX8_advance_1 3 rfl rfl)
theorem dX8_advance_28 : decode cX8_advance 28 = .ok (.bipush 32, 2) := dk_16 32 (dk_at dksX8_advance_1 4 rfl rfl)
theorem dX8_advance_30 : decode cX8_advance 30 = .ok (.if_icmp .eq 17, 3) := dk_159 0 17 (dk_at dksX8_advance_1 6 rfl rfl)
theorem dX8_advance_33 : decode cX8_advance 33 = .ok (.aload_n 0, 1) := dk_42 (dk_at dksX8_advance_1 9 rfl rfl)
theorem dX8_advance_34 : decode cX8_advance 34 = .ok (.getfield 15, 3) := dk_180 0 15 (dk_at dksX8_advance_1 10 rfl rfl)
theorem dX8_advance_37 : decode cX8_advance 37 = .ok (.aload_n 0, 1) := dk_42 (dk_at dksX8_advance_1 13 rfl rfl)
theorem dX8_advance_38 : decode cX8_advance 38 = .ok (.getfield 32, 3) := dk_180 0 32 (dk_at dksX8_advance_1 14 rfl rfl)
theorem dX8_advance_41 : decode cX8_advance 41 = .ok (.baload, 1) := dk_51 (dk_at dksX8_advance_1 17 rfl rfl)
theorem dX8_advance_42 : decode cX8_advance 42 = .ok (.bipush 10, 2) := dk_16 10 (dk_at dksX8_advance_1 18 rfl rfl)
theorem dX8_advance_44 : decode cX8_advance 44 = .ok (.if_icmp .ne 16, 3) := dk_160 0 16 (dk_at dksX8_advance_1 20 rfl rfl)
theorem dX8_advance_47 : decode cX8_advance 47 = .ok (.aload_n 0, 1) := dk_42 (dk_at dksX8_advance_1 23 rfl rfl)
theorem dX8_advance_48 : decode cX8_advance 48 = .ok (.dup, 1) := dk_89 (dk_at dksX8_advance_2 0 rfl rfl)
theorem dX8_advance_49 : decode cX8_advance 49 = .ok (.getfield 32, 3) := dk_180 0 32 (dk_at dksX8_advance_2 1 rfl rfl)
theorem dX8_advance_52 : decode cX8_advance 52 = .ok (.iconst 1, 1) := dk_4 (dk_at dksX8_advance_2 4 rfl rfl)
theorem dX8_advance_53 : decode cX8_advance 53 = .ok (.iadd, 1) := dk_96 (dk_at dksX8_advance_2 5 rfl rfl)
theorem dX8_advance_54 : decode cX8_advance 54 = .ok (.putfield 32, 3) := dk_181 0 32 (dk_at dksX8_advance_2 6 rfl rfl)
theorem dX8_advance_57 : decode cX8_advance 57 = .ok (.goto (-49), 3) := dk_167 255 207 (dk_at dksX8_advance_2 9 rfl rfl)
theorem dX8_advance_60 : decode cX8_advance 60 = .ok (.aload_n 0, 1) := dk_42 (dk_at dksX8_advance_2 12 rfl rfl)
theorem dX8_advance_61 : decode cX8_advance 61 = .ok (.aload_n 0, 1) := dk_42 (dk_at dksX8_advance_2 13 rfl rfl)
theorem dX8_advance_62 : decode cX8_advance 62 = .ok (.getfield 32, 3) := dk_180 0 32 (dk_at dksX8_advance_2 14 rfl rfl)
theorem dX8_advance_65 : decode cX8_advance 65 = .ok (.putfield 29, 3) := dk_181 0 29 (dk_at dksX8_advance_2 17 rfl rfl)
theorem dX8_advance_68 : decode cX8_advance 68 = .ok (.aload_n 0, 1) := dk_42 (dk_at dksX8_advance_2 20 rfl rfl)
theorem dX8_advance_69 : decode cX8_advance 69 = .ok (.getfield 32, 3) := dk_180 0 32 (dk_at dksX8_advance_2 21 rfl rfl)
theorem dX8_advance_72 : decode cX8_advance 72 = .ok (.aload_n 0, 1) := dk_42 (dk_at dksX8_advance_3 0 rfl rfl)
theorem dX8_advance_73 : decode cX8_advance 73 = .ok (.getfield 19, 3) := dk_180 0 19 (dk_at dksX8_advance_3 1 rfl rfl)
theorem dX8_advance_76 : decode cX8_advance 76 = .ok (.if_icmp .ne 11, 3) := dk_160 0 11 (dk_at dksX8_advance_3 4 rfl rfl)
theorem dX8_advance_79 : decode cX8_advance 79 = .ok (.aload_n 0, 1) := dk_42 (dk_at dksX8_advance_3 7 rfl rfl)
theorem dX8_advance_80 : decode cX8_advance 80 = .ok (.iconst 0, 1) := dk_3 (dk_at dksX8_advance_3 8 rfl rfl)
theorem dX8_advance_81 : decode cX8_advance 81 = .ok (.putfield 35, 3) := dk_181 0 35 (dk_at dksX8_advance_3 9 rfl rfl)
theorem dX8_advance_84 : decode cX8_advance 84 = .ok (.goto 103, 3) := dk_167 0 103 (dk_at dksX8_advance_3 12 rfl rfl)
theorem dX8_advance_87 : decode cX8_advance 87 = .ok (.aload_n 0, 1) := dk_42 (dk_at dksX8_advance_3 15 rfl rfl)
theorem dX8_advance_88 : decode cX8_advance 88 = .ok (.aload_n 0, 1) := dk_42 (dk_at dksX8_advance_3 16 rfl rfl)
theorem dX8_advance_89 : decode cX8_advance 89 = .ok (.getfield 32, 3) := dk_180 0 32 (dk_at dksX8_advance_3 17 rfl rfl)
theorem dX8_advance_92 : decode cX8_advance 92 = .ok (.bipush 97, 2) := dk_16 97 (dk_at dksX8_advance_3 20 rfl rfl)
theorem dX8_advance_94 : decode cX8_advance 94 = .ok (.bipush 122, 2) := dk_16 122 (dk_at dksX8_advance_3 22 rfl rfl)
theorem dX8_advance_96 : decode cX8_advance 96 = .ok (.invokevirtual 38, 3) := dk_182 0 38 (dk_at dksX8_advance_4 0 rfl rfl)
theorem dX8_advance_99 : decode cX8_advance 99 = .ok (.ifCond .eq 19, 3) := dk_153 0 19 (dk_at dksX8_advance_4 3 rfl rfl)
theorem dX8_advance_102 : decode cX8_advance 102 = .ok (.aload_n 0, 1) := dk_42 (dk_at dksX8_advance_4 6 rfl rfl)
theorem dX8_advance_103 : decode cX8_advance 103 = .ok (.iconst 1, 1) := dk_4 (dk_at dksX8_advance_4 7 rfl rfl)
theorem dX8_advance_104 : decode cX8_advance 104 = .ok (.putfield 35, 3) := dk_181 0 35 (dk_at dksX8_advance_4 8 rfl rfl)
theorem dX8_advance_107 : decode cX8_advance 107 = .ok (.aload_n 0, 1) := dk_42 (dk_at dksX8_advance_4 11 rfl rfl)
theorem dX8_advance_108 : decode cX8_advance 108 = .ok (.aload_n 0, 1) := dk_42 (dk_at dksX8_advance_4 12 rfl rfl)
theorem dX8_advance_109 : decode cX8_advance 109 = .ok (.invokevirtual 42, 3) := dk_182 0 42 (dk_at dksX8_advance_4 13 rfl rfl)
theorem dX8_advance_112 : decode cX8_advance 112 = .ok (.putfield 9, 3) := dk_181 0 9 (dk_at dksX8_advance_4 16 rfl rfl)
theorem dX8_advance_115 : decode cX8_advance 115 = .ok (.goto 72, 3) := dk_167 0 72 (dk_at dksX8_advance_4 19 rfl rfl)
theorem dX8_advance_118 : decode cX8_advance 118 = .ok (.aload_n 0, 1) := dk_42 (dk_at dksX8_advance_4 22 rfl rfl)
theorem dX8_advance_119 : decode cX8_advance 119 = .ok (.aload_n 0, 1) := dk_42 (dk_at dksX8_advance_4 23 rfl rfl)
theorem dX8_advance_120 : decode cX8_advance 120 = .ok (.getfield 32, 3) := dk_180 0 32 (dk_at dksX8_advance_5 0 rfl rfl)
theorem dX8_advance_123 : decode cX8_advance 123 = .ok (.bipush 48, 2) := dk_16 48 (dk_at dksX8_advance_5 3 rfl rfl)
theorem dX8_advance_125 : decode cX8_advance 125 = .ok (.bipush 57, 2) := dk_16 57 (dk_at dksX8_advance_5 5 rfl rfl)
theorem dX8_advance_127 : decode cX8_advance 127 = .ok (.invokevirtual 38, 3) := dk_182 0 38 (dk_at dksX8_advance_5 7 rfl rfl)
theorem dX8_advance_130 : decode cX8_advance 130 = .ok (.ifCond .eq 19, 3) := dk_153 0 19 (dk_at dksX8_advance_5 10 rfl rfl)
theorem dX8_advance_133 : decode cX8_advance 133 = .ok (.aload_n 0, 1) := dk_42 (dk_at dksX8_advance_5 13 rfl rfl)
theorem dX8_advance_134 : decode cX8_advance 134 = .ok (.iconst 2, 1) := dk_5 (dk_at dksX8_advance_5 14 rfl rfl)
theorem dX8_advance_135 : decode cX8_advance 135 = .ok (.putfield 35, 3) := dk_181 0 35 (dk_at dksX8_advance_5 15 rfl rfl)
theorem dX8_advance_138 : decode cX8_advance 138 = .ok (.aload_n 0, 1) := dk_42 (dk_at dksX8_advance_5 18 rfl rfl)
theorem dX8_advance_139 : decode cX8_advance 139 = .ok (.aload_n 0, 1) := dk_42 (dk_at dksX8_advance_5 19 rfl rfl)
theorem dX8_advance_140 : decode cX8_advance 140 = .ok (.invokevirtual 46, 3) := dk_182 0 46 (dk_at dksX8_advance_5 20 rfl rfl)
theorem dX8_advance_143 : decode cX8_advance 143 = .ok (.putfield 50, 3) := dk_181 0 50 (dk_at dksX8_advance_6 0 rfl rfl)
theorem dX8_advance_146 : decode cX8_advance 146 = .ok (.goto 41, 3) := dk_167 0 41 (dk_at dksX8_advance_6 3 rfl rfl)
theorem dX8_advance_149 : decode cX8_advance 149 = .ok (.aload_n 0, 1) := dk_42 (dk_at dksX8_advance_6 6 rfl rfl)
theorem dX8_advance_150 : decode cX8_advance 150 = .ok (.dup, 1) := dk_89 (dk_at dksX8_advance_6 7 rfl rfl)
theorem dX8_advance_151 : decode cX8_advance 151 = .ok (.getfield 29, 3) := dk_180 0 29 (dk_at dksX8_advance_6 8 rfl rfl)
theorem dX8_advance_154 : decode cX8_advance 154 = .ok (.iconst 1, 1) := dk_4 (dk_at dksX8_advance_6 11 rfl rfl)
theorem dX8_advance_155 : decode cX8_advance 155 = .ok (.iadd, 1) := dk_96 (dk_at dksX8_advance_6 12 rfl rfl)
theorem dX8_advance_156 : decode cX8_advance 156 = .ok (.putfield 29, 3) := dk_181 0 29 (dk_at dksX8_advance_6 13 rfl rfl)
theorem dX8_advance_159 : decode cX8_advance 159 = .ok (.aload_n 0, 1) := dk_42 (dk_at dksX8_advance_6 16 rfl rfl)
theorem dX8_advance_160 : decode cX8_advance 160 = .ok (.aload_n 0, 1) := dk_42 (dk_at dksX8_advance_6 17 rfl rfl)
theorem dX8_advance_161 : decode cX8_advance 161 = .ok (.getfield 23, 3) := dk_180 0 23 (dk_at dksX8_advance_6 18 rfl rfl)
theorem dX8_advance_164 : decode cX8_advance 164 = .ok (.aload_n 0, 1) := dk_42 (dk_at dksX8_advance_6 21 rfl rfl)
theorem dX8_advance_165 : decode cX8_advance 165 = .ok (.getfield 15, 3) := dk_180 0 15 (dk_at dksX8_advance_7 0 rfl rfl)
theorem dX8_advance_168 : decode cX8_advance 168 = .ok (.aload_n 0, 1) := dk_42 (dk_at dksX8_advance_7 3 rfl rfl)
theorem dX8_advance_169 : decode cX8_advance 169 = .ok (.getfield 32, 3) := dk_180 0 32 (dk_at dksX8_advance_7 4 rfl rfl)
theorem dX8_advance_172 : decode cX8_advance 172 = .ok (.baload, 1) := dk_51 (dk_at dksX8_advance_7 7 rfl rfl)
theorem dX8_advance_173 : decode cX8_advance 173 = .ok (.invokevirtual 53, 3) := dk_182 0 53 (dk_at dksX8_advance_7 8 rfl rfl)
theorem dX8_advance_176 : decode cX8_advance 176 = .ok (.ifCond .lt 7, 3) := dk_155 0 7 (dk_at dksX8_advance_7 11 rfl rfl)
theorem dX8_advance_179 : decode cX8_advance 179 = .ok (.iconst 3, 1) := dk_6 (dk_at dksX8_advance_7 14 rfl rfl)
theorem dX8_advance_180 : decode cX8_advance 180 = .ok (.goto 4, 3) := dk_167 0 4 (dk_at dksX8_advance_7 15 rfl rfl)
theorem dX8_advance_183 : decode cX8_advance 183 = .ok (.iconst 4, 1) := dk_7 (dk_at dksX8_advance_7 18 rfl rfl)
theorem dX8_advance_184 : decode cX8_advance 184 = .ok (.putfield 35, 3) := dk_181 0 35 (dk_at dksX8_advance_7 19 rfl rfl)
theorem dX8_advance_187 : decode cX8_advance 187 = .ok (.return_, 1) := dk_177 (dk_at dksX8_advance_7 22 rfl rfl)
abbrev cX8_isBetween : ByteArray := prog_14_method_2_code
def yX8_isBetween : MethodName := ⟨RX8, "isBetween", "(III)Z"⟩
def dkwX8_isBetween_1 : List UInt8 := [29, 163, 0, 7, 4, 167, 0, 4, 3, 172]
abbrev dktX8_isBetween_1 : List UInt8 := dkwX8_isBetween_1 ++ []
def dkwX8_isBetween_0 : List UInt8 := [27, 42, 180, 0, 19, 162, 0, 27, 42, 180, 0, 15, 27, 51, 28, 161, 0, 17, 42, 180, 0, 15, 27, 51]
abbrev dktX8_isBetween_0 : List UInt8 := dkwX8_isBetween_0 ++ dktX8_isBetween_1
theorem dksX8_isBetween_0 : cX8_isBetween.data.toList.drop 0 = dktX8_isBetween_0 := by decide +kernel
theorem dksX8_isBetween_1 : cX8_isBetween.data.toList.drop 24 = dktX8_isBetween_1 := dk_seg dksX8_isBetween_0 24 rfl rfl
theorem dX8_isBetween_0 : decode cX8_isBetween 0 = .ok (.iload_n 1, 1) := dk_27 (dk_at dksX8_isBetween_0 0 rfl rfl)
theorem dX8_isBetween_1 : decode cX8_isBetween 1 = .ok (.aload_n 0, 1) := dk_42 (dk_at dksX8_isBetween_0 1 rfl rfl)
theorem dX8_isBetween_2 : decode cX8_isBetween 2 = .ok (.getfield 19, 3) := dk_180 0 19 (dk_at dksX8_isBetween_0 2 rfl rfl)
theorem dX8_isBetween_5 : decode cX8_isBetween 5 = .ok (.if_icmp .ge 27, 3) := dk_162 0 27 (dk_at dksX8_isBetween_0 5 rfl rfl)
theorem dX8_isBetween_8 : decode cX8_isBetween 8 = .ok (.aload_n 0, 1) := dk_42 (dk_at dksX8_isBetween_0 8 rfl rfl)
theorem dX8_isBetween_9 : decode cX8_isBetween 9 = .ok (.getfield 15, 3) := dk_180 0 15 (dk_at dksX8_isBetween_0 9 rfl rfl)
theorem dX8_isBetween_12 : decode cX8_isBetween 12 = .ok (.iload_n 1, 1) := dk_27 (dk_at dksX8_isBetween_0 12 rfl rfl)
theorem dX8_isBetween_13 : decode cX8_isBetween 13 = .ok (.baload, 1) := dk_51 (dk_at dksX8_isBetween_0 13 rfl rfl)
theorem dX8_isBetween_14 : decode cX8_isBetween 14 = .ok (.iload_n 2, 1) := dk_28 (dk_at dksX8_isBetween_0 14 rfl rfl)
theorem dX8_isBetween_15 : decode cX8_isBetween 15 = .ok (.if_icmp .lt 17, 3) := dk_161 0 17 (dk_at dksX8_isBetween_0 15 rfl rfl)
theorem dX8_isBetween_18 : decode cX8_isBetween 18 = .ok (.aload_n 0, 1) := dk_42 (dk_at dksX8_isBetween_0 18 rfl rfl)
theorem dX8_isBetween_19 : decode cX8_isBetween 19 = .ok (.getfield 15, 3) := dk_180 0 15 (dk_at dksX8_isBetween_0 19 rfl rfl)
theorem dX8_isBetween_22 : decode cX8_isBetween 22 = .ok (.iload_n 1, 1) := dk_27 (dk_at dksX8_isBetween_0 22 rfl rfl)
theorem dX8_isBetween_23 : decode cX8_isBetween 23 = .ok (.baload, 1) := dk_51 (dk_at dksX8_isBetween_0 23 rfl rfl)
theorem dX8_isBetween_24 : decode cX8_isBetween 24 = .ok (.iload_n 3, 1) := dk_29 (dk_at dksX8_isBetween_1 0 rfl rfl)
theorem dX8_isBetween_25 : decode cX8_isBetween 25 = .ok (.if_icmp .gt 7, 3) := dk_163 0 7 (dk_at dksX8_isBetween_1 1 rfl rfl)
theorem dX8_isBetween_28 : decode cX8_isBetween 28 = .ok (.iconst 1, 1) := dk_4 (dk_at dksX8_isBetween_1 4 rfl rfl)
theorem dX8_isBetween_29 : decode cX8_isBetween 29 = .ok (.goto 4, 3) := dk_167 0 4 (dk_at dksX8_isBetween_1 5 rfl rfl)
theorem dX8_isBetween_32 : decode cX8_isBetween 32 = .ok (.iconst 0, 1) := dk_3 (dk_at dksX8_isBetween_1 8 rfl rfl)
theorem dX8_isBetween_33 : decode cX8_isBetween 33 = .ok (.ireturn, 1) := dk_172 (dk_at dksX8_isBetween_1 9 rfl rfl)
abbrev cX8_letters : ByteArray := prog_14_method_4_code
def yX8_letters : MethodName := ⟨RX8, "letters", "()Ljava/lang/String;"⟩
def dkwX8_letters_2 : List UInt8 := [167, 255, 216, 43, 182, 0, 66, 176]
abbrev dktX8_letters_2 : List UInt8 := dkwX8_letters_2 ++ []
def dkwX8_letters_1 : List UInt8 := [42, 180, 0, 15, 42, 180, 0, 29, 51, 146, 182, 0, 62, 87, 42, 89, 180, 0, 29, 4, 96, 181, 0, 29]
abbrev dktX8_letters_1 : List UInt8 := dkwX8_letters_1 ++ dktX8_letters_2
def dkwX8_letters_0 : List UInt8 := [187, 0, 59, 89, 183, 0, 61, 76, 42, 42, 180, 0, 29, 16, 97, 16, 122, 182, 0, 38, 153, 0, 31, 43]
abbrev dktX8_letters_0 : List UInt8 := dkwX8_letters_0 ++ dktX8_letters_1
theorem dksX8_letters_0 : cX8_letters.data.toList.drop 0 = dktX8_letters_0 := by decide +kernel
theorem dksX8_letters_1 : cX8_letters.data.toList.drop 24 = dktX8_letters_1 := dk_seg dksX8_letters_0 24 rfl rfl
theorem dksX8_letters_2 : cX8_letters.data.toList.drop 48 = dktX8_letters_2 := dk_seg dksX8_letters_1 24 rfl rfl
theorem dX8_letters_0 : decode cX8_letters 0 = .ok (.new 59, 3) := dk_187 0 59 (dk_at dksX8_letters_0 0 rfl rfl)
theorem dX8_letters_3 : decode cX8_letters 3 = .ok (.dup, 1) := dk_89 (dk_at dksX8_letters_0 3 rfl rfl)
theorem dX8_letters_4 : decode cX8_letters 4 = .ok (.invokespecial 61, 3) := dk_183 0 61 (dk_at dksX8_letters_0 4 rfl rfl)
theorem dX8_letters_7 : decode cX8_letters 7 = .ok (.astore_n 1, 1) := dk_76 (dk_at dksX8_letters_0 7 rfl rfl)
theorem dX8_letters_8 : decode cX8_letters 8 = .ok (.aload_n 0, 1) := dk_42 (dk_at dksX8_letters_0 8 rfl rfl)
theorem dX8_letters_9 : decode cX8_letters 9 = .ok (.aload_n 0, 1) := dk_42 (dk_at dksX8_letters_0 9 rfl rfl)
theorem dX8_letters_10 : decode cX8_letters 10 = .ok (.getfield 29, 3) := dk_180 0 29 (dk_at dksX8_letters_0 10 rfl rfl)
theorem dX8_letters_13 : decode cX8_letters 13 = .ok (.bipush 97, 2) := dk_16 97 (dk_at dksX8_letters_0 13 rfl rfl)
theorem dX8_letters_15 : decode cX8_letters 15 = .ok (.bipush 122, 2) := dk_16 122 (dk_at dksX8_letters_0 15 rfl rfl)
theorem dX8_letters_17 : decode cX8_letters 17 = .ok (.invokevirtual 38, 3) := dk_182 0 38 (dk_at dksX8_letters_0 17 rfl rfl)
theorem dX8_letters_20 : decode cX8_letters 20 = .ok (.ifCond .eq 31, 3) := dk_153 0 31 (dk_at dksX8_letters_0 20 rfl rfl)
theorem dX8_letters_23 : decode cX8_letters 23 = .ok (.aload_n 1, 1) := dk_43 (dk_at dksX8_letters_0 23 rfl rfl)
theorem dX8_letters_24 : decode cX8_letters 24 = .ok (.aload_n 0, 1) := dk_42 (dk_at dksX8_letters_1 0 rfl rfl)
theorem dX8_letters_25 : decode cX8_letters 25 = .ok (.getfield 15, 3) := dk_180 0 15 (dk_at dksX8_letters_1 1 rfl rfl)
theorem dX8_letters_28 : decode cX8_letters 28 = .ok (.aload_n 0, 1) := dk_42 (dk_at dksX8_letters_1 4 rfl rfl)
theorem dX8_letters_29 : decode cX8_letters 29 = .ok (.getfield 29, 3) := dk_180 0 29 (dk_at dksX8_letters_1 5 rfl rfl)
theorem dX8_letters_32 : decode cX8_letters 32 = .ok (.baload, 1) := dk_51 (dk_at dksX8_letters_1 8 rfl rfl)
theorem dX8_letters_33 : decode cX8_letters 33 = .ok (.i2c, 1) := dk_146 (dk_at dksX8_letters_1 9 rfl rfl)
theorem dX8_letters_34 : decode cX8_letters 34 = .ok (.invokevirtual 62, 3) := dk_182 0 62 (dk_at dksX8_letters_1 10 rfl rfl)
theorem dX8_letters_37 : decode cX8_letters 37 = .ok (.pop, 1) := dk_87 (dk_at dksX8_letters_1 13 rfl rfl)
theorem dX8_letters_38 : decode cX8_letters 38 = .ok (.aload_n 0, 1) := dk_42 (dk_at dksX8_letters_1 14 rfl rfl)
theorem dX8_letters_39 : decode cX8_letters 39 = .ok (.dup, 1) := dk_89 (dk_at dksX8_letters_1 15 rfl rfl)
theorem dX8_letters_40 : decode cX8_letters 40 = .ok (.getfield 29, 3) := dk_180 0 29 (dk_at dksX8_letters_1 16 rfl rfl)
theorem dX8_letters_43 : decode cX8_letters 43 = .ok (.iconst 1, 1) := dk_4 (dk_at dksX8_letters_1 19 rfl rfl)
theorem dX8_letters_44 : decode cX8_letters 44 = .ok (.iadd, 1) := dk_96 (dk_at dksX8_letters_1 20 rfl rfl)
theorem dX8_letters_45 : decode cX8_letters 45 = .ok (.putfield 29, 3) := dk_181 0 29 (dk_at dksX8_letters_1 21 rfl rfl)
theorem dX8_letters_48 : decode cX8_letters 48 = .ok (.goto (-40), 3) := dk_167 255 216 (dk_at dksX8_letters_2 0 rfl rfl)
theorem dX8_letters_51 : decode cX8_letters 51 = .ok (.aload_n 1, 1) := dk_43 (dk_at dksX8_letters_2 3 rfl rfl)
theorem dX8_letters_52 : decode cX8_letters 52 = .ok (.invokevirtual 66, 3) := dk_182 0 66 (dk_at dksX8_letters_2 4 rfl rfl)
theorem dX8_letters_55 : decode cX8_letters 55 = .ok (.areturn, 1) := dk_176 (dk_at dksX8_letters_2 7 rfl rfl)
abbrev cX8_digits : ByteArray := prog_14_method_5_code
def yX8_digits : MethodName := ⟨RX8, "digits", "()I"⟩
def dkwX8_digits_2 : List UInt8 := [180, 0, 29, 4, 96, 181, 0, 29, 167, 255, 202, 27, 172]
abbrev dktX8_digits_2 : List UInt8 := dkwX8_digits_2 ++ []
def dkwX8_digits_1 : List UInt8 := [133, 105, 42, 180, 0, 15, 42, 180, 0, 29, 51, 133, 97, 20, 0, 73, 101, 184, 0, 75, 136, 60, 42, 89]
abbrev dktX8_digits_1 : List UInt8 := dkwX8_digits_1 ++ dktX8_digits_2
def dkwX8_digits_0 : List UInt8 := [3, 60, 42, 42, 180, 0, 29, 16, 48, 16, 57, 182, 0, 38, 153, 0, 45, 20, 0, 69, 20, 0, 71, 27]
abbrev dktX8_digits_0 : List UInt8 := dkwX8_digits_0 ++ dktX8_digits_1
theorem dksX8_digits_0 : cX8_digits.data.toList.drop 0 = dktX8_digits_0 := by decide +kernel
theorem dksX8_digits_1 : cX8_digits.data.toList.drop 24 = dktX8_digits_1 := dk_seg dksX8_digits_0 24 rfl rfl
theorem dksX8_digits_2 : cX8_digits.data.toList.drop 48 = dktX8_digits_2 := dk_seg dksX8_digits_1 24 rfl rfl
theorem dX8_digits_0 : decode cX8_digits 0 = .ok (.iconst 0, 1) := dk_3 (dk_at dksX8_digits_0 0 rfl rfl)
theorem dX8_digits_1 : decode cX8_digits 1 = .ok (.istore_n 1, 1) := dk_60 (dk_at dksX8_digits_0 1 rfl rfl)
theorem dX8_digits_2 : decode cX8_digits 2 = .ok (.aload_n 0, 1) := dk_42 (dk_at dksX8_digits_0 2 rfl rfl)
theorem dX8_digits_3 : decode cX8_digits 3 = .ok (.aload_n 0, 1) := dk_42 (dk_at dksX8_digits_0 3 rfl rfl)
theorem dX8_digits_4 : decode cX8_digits 4 = .ok (.getfield 29, 3) := dk_180 0 29 (dk_at dksX8_digits_0 4 rfl rfl)
theorem dX8_digits_7 : decode cX8_digits 7 = .ok (.bipush 48, 2) := dk_16 48 (dk_at dksX8_digits_0 7 rfl rfl)
theorem dX8_digits_9 : decode cX8_digits 9 = .ok (.bipush 57, 2) := dk_16 57 (dk_at dksX8_digits_0 9 rfl rfl)
theorem dX8_digits_11 : decode cX8_digits 11 = .ok (.invokevirtual 38, 3) := dk_182 0 38 (dk_at dksX8_digits_0 11 rfl rfl)
theorem dX8_digits_14 : decode cX8_digits 14 = .ok (.ifCond .eq 45, 3) := dk_153 0 45 (dk_at dksX8_digits_0 14 rfl rfl)
theorem dX8_digits_17 : decode cX8_digits 17 = .ok (.ldc2_w 69, 3) := dk_20 0 69 (dk_at dksX8_digits_0 17 rfl rfl)
theorem dX8_digits_20 : decode cX8_digits 20 = .ok (.ldc2_w 71, 3) := dk_20 0 71 (dk_at dksX8_digits_0 20 rfl rfl)
theorem dX8_digits_23 : decode cX8_digits 23 = .ok (.iload_n 1, 1) := dk_27 (dk_at dksX8_digits_0 23 rfl rfl)
theorem dX8_digits_24 : decode cX8_digits 24 = .ok (.i2l, 1) := dk_133 (dk_at dksX8_digits_1 0 rfl rfl)
theorem dX8_digits_25 : decode cX8_digits 25 = .ok (.lmul, 1) := dk_105 (dk_at dksX8_digits_1 1 rfl rfl)
theorem dX8_digits_26 : decode cX8_digits 26 = .ok (.aload_n 0, 1) := dk_42 (dk_at dksX8_digits_1 2 rfl rfl)
theorem dX8_digits_27 : decode cX8_digits 27 = .ok (.getfield 15, 3) := dk_180 0 15 (dk_at dksX8_digits_1 3 rfl rfl)
theorem dX8_digits_30 : decode cX8_digits 30 = .ok (.aload_n 0, 1) := dk_42 (dk_at dksX8_digits_1 6 rfl rfl)
theorem dX8_digits_31 : decode cX8_digits 31 = .ok (.getfield 29, 3) := dk_180 0 29 (dk_at dksX8_digits_1 7 rfl rfl)
theorem dX8_digits_34 : decode cX8_digits 34 = .ok (.baload, 1) := dk_51 (dk_at dksX8_digits_1 10 rfl rfl)
theorem dX8_digits_35 : decode cX8_digits 35 = .ok (.i2l, 1) := dk_133 (dk_at dksX8_digits_1 11 rfl rfl)
theorem dX8_digits_36 : decode cX8_digits 36 = .ok (.ladd, 1) := dk_97 (dk_at dksX8_digits_1 12 rfl rfl)
theorem dX8_digits_37 : decode cX8_digits 37 = .ok (.ldc2_w 73, 3) := dk_20 0 73 (dk_at dksX8_digits_1 13 rfl rfl)
theorem dX8_digits_40 : decode cX8_digits 40 = .ok (.lsub, 1) := dk_101 (dk_at dksX8_digits_1 16 rfl rfl)
theorem dX8_digits_41 : decode cX8_digits 41 = .ok (.invokestatic 75, 3) := dk_184 0 75 (dk_at dksX8_digits_1 17 rfl rfl)
theorem dX8_digits_44 : decode cX8_digits 44 = .ok (.l2i, 1) := dk_136 (dk_at dksX8_digits_1 20 rfl rfl)
theorem dX8_digits_45 : decode cX8_digits 45 = .ok (.istore_n 1, 1) := dk_60 (dk_at dksX8_digits_1 21 rfl rfl)
theorem dX8_digits_46 : decode cX8_digits 46 = .ok (.aload_n 0, 1) := dk_42 (dk_at dksX8_digits_1 22 rfl rfl)
theorem dX8_digits_47 : decode cX8_digits 47 = .ok (.dup, 1) := dk_89 (dk_at dksX8_digits_1 23 rfl rfl)
theorem dX8_digits_48 : decode cX8_digits 48 = .ok (.getfield 29, 3) := dk_180 0 29 (dk_at dksX8_digits_2 0 rfl rfl)
theorem dX8_digits_51 : decode cX8_digits 51 = .ok (.iconst 1, 1) := dk_4 (dk_at dksX8_digits_2 3 rfl rfl)
theorem dX8_digits_52 : decode cX8_digits 52 = .ok (.iadd, 1) := dk_96 (dk_at dksX8_digits_2 4 rfl rfl)
theorem dX8_digits_53 : decode cX8_digits 53 = .ok (.putfield 29, 3) := dk_181 0 29 (dk_at dksX8_digits_2 5 rfl rfl)
theorem dX8_digits_56 : decode cX8_digits 56 = .ok (.goto (-54), 3) := dk_167 255 202 (dk_at dksX8_digits_2 8 rfl rfl)
theorem dX8_digits_59 : decode cX8_digits 59 = .ok (.iload_n 1, 1) := dk_27 (dk_at dksX8_digits_2 11 rfl rfl)
theorem dX8_digits_60 : decode cX8_digits 60 = .ok (.ireturn, 1) := dk_172 (dk_at dksX8_digits_2 12 rfl rfl)
abbrev cX8_accept : ByteArray := prog_14_method_9_code
def yX8_accept : MethodName := ⟨RX8, "accept", "(Ljava/lang/String;)Z"⟩
def dkwX8_accept_0 : List UInt8 := [42, 43, 182, 0, 90, 61, 28, 153, 0, 7, 42, 182, 0, 26, 28, 172]
abbrev dktX8_accept_0 : List UInt8 := dkwX8_accept_0 ++ []
theorem dksX8_accept_0 : cX8_accept.data.toList.drop 0 = dktX8_accept_0 := by decide +kernel
theorem dX8_accept_0 : decode cX8_accept 0 = .ok (.aload_n 0, 1) := dk_42 (dk_at dksX8_accept_0 0 rfl rfl)
theorem dX8_accept_1 : decode cX8_accept 1 = .ok (.aload_n 1, 1) := dk_43 (dk_at dksX8_accept_0 1 rfl rfl)
theorem dX8_accept_2 : decode cX8_accept 2 = .ok (.invokevirtual 90, 3) := dk_182 0 90 (dk_at dksX8_accept_0 2 rfl rfl)
theorem dX8_accept_5 : decode cX8_accept 5 = .ok (.istore_n 2, 1) := dk_61 (dk_at dksX8_accept_0 5 rfl rfl)
theorem dX8_accept_6 : decode cX8_accept 6 = .ok (.iload_n 2, 1) := dk_28 (dk_at dksX8_accept_0 6 rfl rfl)
theorem dX8_accept_7 : decode cX8_accept 7 = .ok (.ifCond .eq 7, 3) := dk_153 0 7 (dk_at dksX8_accept_0 7 rfl rfl)
theorem dX8_accept_10 : decode cX8_accept 10 = .ok (.aload_n 0, 1) := dk_42 (dk_at dksX8_accept_0 10 rfl rfl)
theorem dX8_accept_11 : decode cX8_accept 11 = .ok (.invokevirtual 26, 3) := dk_182 0 26 (dk_at dksX8_accept_0 11 rfl rfl)
theorem dX8_accept_14 : decode cX8_accept 14 = .ok (.iload_n 2, 1) := dk_28 (dk_at dksX8_accept_0 14 rfl rfl)
theorem dX8_accept_15 : decode cX8_accept 15 = .ok (.ireturn, 1) := dk_172 (dk_at dksX8_accept_0 15 rfl rfl)
abbrev cX8_isWord : ByteArray := prog_14_method_8_code
def yX8_isWord : MethodName := ⟨RX8, "isWord", "(Ljava/lang/String;)Z"⟩
def dkwX8_isWord_1 : List UInt8 := [172]
abbrev dktX8_isWord_1 : List UInt8 := dkwX8_isWord_1 ++ []
def dkwX8_isWord_0 : List UInt8 := [42, 180, 0, 35, 4, 160, 0, 18, 42, 180, 0, 9, 43, 182, 0, 86, 153, 0, 7, 4, 167, 0, 4, 3]
abbrev dktX8_isWord_0 : List UInt8 := dkwX8_isWord_0 ++ dktX8_isWord_1
theorem dksX8_isWord_0 : cX8_isWord.data.toList.drop 0 = dktX8_isWord_0 := by decide +kernel
theorem dksX8_isWord_1 : cX8_isWord.data.toList.drop 24 = dktX8_isWord_1 := dk_seg dksX8_isWord_0 24 rfl rfl
theorem dX8_isWord_0 : decode cX8_isWord 0 = .ok (.aload_n 0, 1) := dk_42 (dk_at dksX8_isWord_0 0 rfl rfl)
theorem dX8_isWord_1 : decode cX8_isWord 1 = .ok (.getfield 35, 3) := dk_180 0 35 (dk_at dksX8_isWord_0 1 rfl rfl)
theorem dX8_isWord_4 : decode cX8_isWord 4 = .ok (.iconst 1, 1) := dk_4 (dk_at dksX8_isWord_0 4 rfl rfl)
theorem dX8_isWord_5 : decode cX8_isWord 5 = .ok (.if_icmp .ne 18, 3) := dk_160 0 18 (dk_at dksX8_isWord_0 5 rfl rfl)
theorem dX8_isWord_8 : decode cX8_isWord 8 = .ok (.aload_n 0, 1) := dk_42 (dk_at dksX8_isWord_0 8 rfl rfl)
theorem dX8_isWord_9 : decode cX8_isWord 9 = .ok (.getfield 9, 3) := dk_180 0 9 (dk_at dksX8_isWord_0 9 rfl rfl)
theorem dX8_isWord_12 : decode cX8_isWord 12 = .ok (.aload_n 1, 1) := dk_43 (dk_at dksX8_isWord_0 12 rfl rfl)
theorem dX8_isWord_13 : decode cX8_isWord 13 = .ok (.invokevirtual 86, 3) := dk_182 0 86 (dk_at dksX8_isWord_0 13 rfl rfl)
theorem dX8_isWord_16 : decode cX8_isWord 16 = .ok (.ifCond .eq 7, 3) := dk_153 0 7 (dk_at dksX8_isWord_0 16 rfl rfl)
theorem dX8_isWord_19 : decode cX8_isWord 19 = .ok (.iconst 1, 1) := dk_4 (dk_at dksX8_isWord_0 19 rfl rfl)
theorem dX8_isWord_20 : decode cX8_isWord 20 = .ok (.goto 4, 3) := dk_167 0 4 (dk_at dksX8_isWord_0 20 rfl rfl)
theorem dX8_isWord_23 : decode cX8_isWord 23 = .ok (.iconst 0, 1) := dk_3 (dk_at dksX8_isWord_0 23 rfl rfl)
theorem dX8_isWord_24 : decode cX8_isWord 24 = .ok (.ireturn, 1) := dk_172 (dk_at dksX8_isWord_1 0 rfl rfl)
abbrev cX8_number : ByteArray := prog_14_method_13_code
def yX8_number : MethodName := ⟨RX8, "number", "(II)I"⟩
def dkwX8_number_0 : List UInt8 := [42, 27, 28, 182, 0, 108, 62, 42, 182, 0, 26, 29, 172]
abbrev dktX8_number_0 : List UInt8 := dkwX8_number_0 ++ []
theorem dksX8_number_0 : cX8_number.data.toList.drop 0 = dktX8_number_0 := by decide +kernel
theorem dX8_number_0 : decode cX8_number 0 = .ok (.aload_n 0, 1) := dk_42 (dk_at dksX8_number_0 0 rfl rfl)
theorem dX8_number_1 : decode cX8_number 1 = .ok (.iload_n 1, 1) := dk_27 (dk_at dksX8_number_0 1 rfl rfl)
theorem dX8_number_2 : decode cX8_number 2 = .ok (.iload_n 2, 1) := dk_28 (dk_at dksX8_number_0 2 rfl rfl)
theorem dX8_number_3 : decode cX8_number 3 = .ok (.invokevirtual 108, 3) := dk_182 0 108 (dk_at dksX8_number_0 3 rfl rfl)
theorem dX8_number_6 : decode cX8_number 6 = .ok (.istore_n 3, 1) := dk_62 (dk_at dksX8_number_0 6 rfl rfl)
theorem dX8_number_7 : decode cX8_number 7 = .ok (.aload_n 0, 1) := dk_42 (dk_at dksX8_number_0 7 rfl rfl)
theorem dX8_number_8 : decode cX8_number 8 = .ok (.invokevirtual 26, 3) := dk_182 0 26 (dk_at dksX8_number_0 8 rfl rfl)
theorem dX8_number_11 : decode cX8_number 11 = .ok (.iload_n 3, 1) := dk_29 (dk_at dksX8_number_0 11 rfl rfl)
theorem dX8_number_12 : decode cX8_number 12 = .ok (.ireturn, 1) := dk_172 (dk_at dksX8_number_0 12 rfl rfl)
abbrev cX8_look : ByteArray := prog_14_method_12_code
def yX8_look : MethodName := ⟨RX8, "look", "(II)I"⟩
def dkwX8_look_1 : List UInt8 := [180, 0, 50, 28, 164, 0, 15, 187, 0, 105, 89, 42, 180, 0, 32, 183, 0, 107, 191, 42, 180, 0, 50, 172]
abbrev dktX8_look_1 : List UInt8 := dkwX8_look_1 ++ []
def dkwX8_look_0 : List UInt8 := [42, 180, 0, 35, 5, 159, 0, 8, 42, 182, 0, 98, 191, 42, 180, 0, 50, 27, 161, 0, 11, 42]
abbrev dktX8_look_0 : List UInt8 := dkwX8_look_0 ++ dktX8_look_1
theorem dksX8_look_0 : cX8_look.data.toList.drop 0 = dktX8_look_0 := by decide +kernel
theorem dksX8_look_1 : cX8_look.data.toList.drop 22 = dktX8_look_1 := dk_seg dksX8_look_0 22 rfl rfl
theorem dX8_look_0 : decode cX8_look 0 = .ok (.aload_n 0, 1) := dk_42 (dk_at dksX8_look_0 0 rfl rfl)
theorem dX8_look_1 : decode cX8_look 1 = .ok (.getfield 35, 3) := dk_180 0 35 (dk_at dksX8_look_0 1 rfl rfl)
theorem dX8_look_4 : decode cX8_look 4 = .ok (.iconst 2, 1) := dk_5 (dk_at dksX8_look_0 4 rfl rfl)
theorem dX8_look_5 : decode cX8_look 5 = .ok (.if_icmp .eq 8, 3) := dk_159 0 8 (dk_at dksX8_look_0 5 rfl rfl)
theorem dX8_look_8 : decode cX8_look 8 = .ok (.aload_n 0, 1) := dk_42 (dk_at dksX8_look_0 8 rfl rfl)
theorem dX8_look_9 : decode cX8_look 9 = .ok (.invokevirtual 98, 3) := dk_182 0 98 (dk_at dksX8_look_0 9 rfl rfl)
theorem dX8_look_12 : decode cX8_look 12 = .ok (.athrow, 1) := dk_191 (dk_at dksX8_look_0 12 rfl rfl)
theorem dX8_look_13 : decode cX8_look 13 = .ok (.aload_n 0, 1) := dk_42 (dk_at dksX8_look_0 13 rfl rfl)
theorem dX8_look_14 : decode cX8_look 14 = .ok (.getfield 50, 3) := dk_180 0 50 (dk_at dksX8_look_0 14 rfl rfl)
theorem dX8_look_17 : decode cX8_look 17 = .ok (.iload_n 1, 1) := dk_27 (dk_at dksX8_look_0 17 rfl rfl)
theorem dX8_look_18 : decode cX8_look 18 = .ok (.if_icmp .lt 11, 3) := dk_161 0 11 (dk_at dksX8_look_0 18 rfl rfl)
theorem dX8_look_21 : decode cX8_look 21 = .ok (.aload_n 0, 1) := dk_42 (dk_at dksX8_look_0 21 rfl rfl)
theorem dX8_look_22 : decode cX8_look 22 = .ok (.getfield 50, 3) := dk_180 0 50 (dk_at dksX8_look_1 0 rfl rfl)
theorem dX8_look_25 : decode cX8_look 25 = .ok (.iload_n 2, 1) := dk_28 (dk_at dksX8_look_1 3 rfl rfl)
theorem dX8_look_26 : decode cX8_look 26 = .ok (.if_icmp .le 15, 3) := dk_164 0 15 (dk_at dksX8_look_1 4 rfl rfl)
theorem dX8_look_29 : decode cX8_look 29 = .ok (.new 105, 3) := dk_187 0 105 (dk_at dksX8_look_1 7 rfl rfl)
theorem dX8_look_32 : decode cX8_look 32 = .ok (.dup, 1) := dk_89 (dk_at dksX8_look_1 10 rfl rfl)
theorem dX8_look_33 : decode cX8_look 33 = .ok (.aload_n 0, 1) := dk_42 (dk_at dksX8_look_1 11 rfl rfl)
theorem dX8_look_34 : decode cX8_look 34 = .ok (.getfield 32, 3) := dk_180 0 32 (dk_at dksX8_look_1 12 rfl rfl)
theorem dX8_look_37 : decode cX8_look 37 = .ok (.invokespecial 107, 3) := dk_183 0 107 (dk_at dksX8_look_1 15 rfl rfl)
theorem dX8_look_40 : decode cX8_look 40 = .ok (.athrow, 1) := dk_191 (dk_at dksX8_look_1 18 rfl rfl)
theorem dX8_look_41 : decode cX8_look 41 = .ok (.aload_n 0, 1) := dk_42 (dk_at dksX8_look_1 19 rfl rfl)
theorem dX8_look_42 : decode cX8_look 42 = .ok (.getfield 50, 3) := dk_180 0 50 (dk_at dksX8_look_1 20 rfl rfl)
theorem dX8_look_45 : decode cX8_look 45 = .ok (.ireturn, 1) := dk_172 (dk_at dksX8_look_1 23 rfl rfl)
abbrev cX8_wrong : ByteArray := prog_14_method_6_code
def yX8_wrong : MethodName := ⟨RX8, "wrong", "()LThreeBodies$SyntaxException;"⟩
def dkwX8_wrong_0 : List UInt8 := [187, 0, 81, 89, 42, 180, 0, 32, 183, 0, 83, 176]
abbrev dktX8_wrong_0 : List UInt8 := dkwX8_wrong_0 ++ []
theorem dksX8_wrong_0 : cX8_wrong.data.toList.drop 0 = dktX8_wrong_0 := by decide +kernel
theorem dX8_wrong_0 : decode cX8_wrong 0 = .ok (.new 81, 3) := dk_187 0 81 (dk_at dksX8_wrong_0 0 rfl rfl)
theorem dX8_wrong_3 : decode cX8_wrong 3 = .ok (.dup, 1) := dk_89 (dk_at dksX8_wrong_0 3 rfl rfl)
theorem dX8_wrong_4 : decode cX8_wrong 4 = .ok (.aload_n 0, 1) := dk_42 (dk_at dksX8_wrong_0 4 rfl rfl)
theorem dX8_wrong_5 : decode cX8_wrong 5 = .ok (.getfield 32, 3) := dk_180 0 32 (dk_at dksX8_wrong_0 5 rfl rfl)
theorem dX8_wrong_8 : decode cX8_wrong 8 = .ok (.invokespecial 83, 3) := dk_183 0 83 (dk_at dksX8_wrong_0 8 rfl rfl)
theorem dX8_wrong_11 : decode cX8_wrong 11 = .ok (.areturn, 1) := dk_176 (dk_at dksX8_wrong_0 11 rfl rfl)
abbrev cX8_expectWord : ByteArray := prog_14_method_11_code
def yX8_expectWord : MethodName := ⟨RX8, "expectWord", "(Ljava/lang/String;)V"⟩
def dkwX8_expectWord_0 : List UInt8 := [42, 43, 182, 0, 102, 154, 0, 8, 42, 182, 0, 98, 191, 177]
abbrev dktX8_expectWord_0 : List UInt8 := dkwX8_expectWord_0 ++ []
theorem dksX8_expectWord_0 : cX8_expectWord.data.toList.drop 0 = dktX8_expectWord_0 := by decide +kernel
theorem dX8_expectWord_0 : decode cX8_expectWord 0 = .ok (.aload_n 0, 1) := dk_42 (dk_at dksX8_expectWord_0 0 rfl rfl)
theorem dX8_expectWord_1 : decode cX8_expectWord 1 = .ok (.aload_n 1, 1) := dk_43 (dk_at dksX8_expectWord_0 1 rfl rfl)
theorem dX8_expectWord_2 : decode cX8_expectWord 2 = .ok (.invokevirtual 102, 3) := dk_182 0 102 (dk_at dksX8_expectWord_0 2 rfl rfl)
theorem dX8_expectWord_5 : decode cX8_expectWord 5 = .ok (.ifCond .ne 8, 3) := dk_154 0 8 (dk_at dksX8_expectWord_0 5 rfl rfl)
theorem dX8_expectWord_8 : decode cX8_expectWord 8 = .ok (.aload_n 0, 1) := dk_42 (dk_at dksX8_expectWord_0 8 rfl rfl)
theorem dX8_expectWord_9 : decode cX8_expectWord 9 = .ok (.invokevirtual 98, 3) := dk_182 0 98 (dk_at dksX8_expectWord_0 9 rfl rfl)
theorem dX8_expectWord_12 : decode cX8_expectWord 12 = .ok (.athrow, 1) := dk_191 (dk_at dksX8_expectWord_0 12 rfl rfl)
theorem dX8_expectWord_13 : decode cX8_expectWord 13 = .ok (.return_, 1) := dk_177 (dk_at dksX8_expectWord_0 13 rfl rfl)
abbrev cX8_expect : ByteArray := prog_14_method_10_code
def yX8_expect : MethodName := ⟨RX8, "expect", "(C)V"⟩
def dkwX8_expect_0 : List UInt8 := [42, 27, 182, 0, 94, 154, 0, 8, 42, 182, 0, 98, 191, 42, 182, 0, 26, 177]
abbrev dktX8_expect_0 : List UInt8 := dkwX8_expect_0 ++ []
theorem dksX8_expect_0 : cX8_expect.data.toList.drop 0 = dktX8_expect_0 := by decide +kernel
theorem dX8_expect_0 : decode cX8_expect 0 = .ok (.aload_n 0, 1) := dk_42 (dk_at dksX8_expect_0 0 rfl rfl)
theorem dX8_expect_1 : decode cX8_expect 1 = .ok (.iload_n 1, 1) := dk_27 (dk_at dksX8_expect_0 1 rfl rfl)
theorem dX8_expect_2 : decode cX8_expect 2 = .ok (.invokevirtual 94, 3) := dk_182 0 94 (dk_at dksX8_expect_0 2 rfl rfl)
theorem dX8_expect_5 : decode cX8_expect 5 = .ok (.ifCond .ne 8, 3) := dk_154 0 8 (dk_at dksX8_expect_0 5 rfl rfl)
theorem dX8_expect_8 : decode cX8_expect 8 = .ok (.aload_n 0, 1) := dk_42 (dk_at dksX8_expect_0 8 rfl rfl)
theorem dX8_expect_9 : decode cX8_expect 9 = .ok (.invokevirtual 98, 3) := dk_182 0 98 (dk_at dksX8_expect_0 9 rfl rfl)
theorem dX8_expect_12 : decode cX8_expect 12 = .ok (.athrow, 1) := dk_191 (dk_at dksX8_expect_0 12 rfl rfl)
theorem dX8_expect_13 : decode cX8_expect 13 = .ok (.aload_n 0, 1) := dk_42 (dk_at dksX8_expect_0 13 rfl rfl)
theorem dX8_expect_14 : decode cX8_expect 14 = .ok (.invokevirtual 26, 3) := dk_182 0 26 (dk_at dksX8_expect_0 14 rfl rfl)
theorem dX8_expect_17 : decode cX8_expect 17 = .ok (.return_, 1) := dk_177 (dk_at dksX8_expect_0 17 rfl rfl)
abbrev cX8_isAt : ByteArray := prog_14_method_7_code
def yX8_isAt : MethodName := ⟨RX8, "isAt", "(C)Z"⟩
def dkwX8_isAt_1 : List UInt8 := [167, 0, 4, 3, 172]
abbrev dktX8_isAt_1 : List UInt8 := dkwX8_isAt_1 ++ []
def dkwX8_isAt_0 : List UInt8 := [42, 180, 0, 35, 6, 160, 0, 20, 42, 180, 0, 15, 42, 180, 0, 32, 51, 27, 160, 0, 7, 4]
abbrev dktX8_isAt_0 : List UInt8 := dkwX8_isAt_0 ++ dktX8_isAt_1
theorem dksX8_isAt_0 : cX8_isAt.data.toList.drop 0 = dktX8_isAt_0 := by decide +kernel
theorem dksX8_isAt_1 : cX8_isAt.data.toList.drop 22 = dktX8_isAt_1 := dk_seg dksX8_isAt_0 22 rfl rfl
theorem dX8_isAt_0 : decode cX8_isAt 0 = .ok (.aload_n 0, 1) := dk_42 (dk_at dksX8_isAt_0 0 rfl rfl)
theorem dX8_isAt_1 : decode cX8_isAt 1 = .ok (.getfield 35, 3) := dk_180 0 35 (dk_at dksX8_isAt_0 1 rfl rfl)
theorem dX8_isAt_4 : decode cX8_isAt 4 = .ok (.iconst 3, 1) := dk_6 (dk_at dksX8_isAt_0 4 rfl rfl)
theorem dX8_isAt_5 : decode cX8_isAt 5 = .ok (.if_icmp .ne 20, 3) := dk_160 0 20 (dk_at dksX8_isAt_0 5 rfl rfl)
theorem dX8_isAt_8 : decode cX8_isAt 8 = .ok (.aload_n 0, 1) := dk_42 (dk_at dksX8_isAt_0 8 rfl rfl)
theorem dX8_isAt_9 : decode cX8_isAt 9 = .ok (.getfield 15, 3) := dk_180 0 15 (dk_at dksX8_isAt_0 9 rfl rfl)
theorem dX8_isAt_12 : decode cX8_isAt 12 = .ok (.aload_n 0, 1) := dk_42 (dk_at dksX8_isAt_0 12 rfl rfl)
theorem dX8_isAt_13 : decode cX8_isAt 13 = .ok (.getfield 32, 3) := dk_180 0 32 (dk_at dksX8_isAt_0 13 rfl rfl)
theorem dX8_isAt_16 : decode cX8_isAt 16 = .ok (.baload, 1) := dk_51 (dk_at dksX8_isAt_0 16 rfl rfl)
theorem dX8_isAt_17 : decode cX8_isAt 17 = .ok (.iload_n 1, 1) := dk_27 (dk_at dksX8_isAt_0 17 rfl rfl)
theorem dX8_isAt_18 : decode cX8_isAt 18 = .ok (.if_icmp .ne 7, 3) := dk_160 0 7 (dk_at dksX8_isAt_0 18 rfl rfl)
theorem dX8_isAt_21 : decode cX8_isAt 21 = .ok (.iconst 1, 1) := dk_4 (dk_at dksX8_isAt_0 21 rfl rfl)
theorem dX8_isAt_22 : decode cX8_isAt 22 = .ok (.goto 4, 3) := dk_167 0 4 (dk_at dksX8_isAt_1 0 rfl rfl)
theorem dX8_isAt_25 : decode cX8_isAt 25 = .ok (.iconst 0, 1) := dk_3 (dk_at dksX8_isAt_1 3 rfl rfl)
theorem dX8_isAt_26 : decode cX8_isAt 26 = .ok (.ireturn, 1) := dk_172 (dk_at dksX8_isAt_1 4 rfl rfl)
theorem q117 : (Jvm.Cond.initialized "ThreeBodies$Scanner") ∈ lw_all := lw_g (lw_at lw_m1 19 rfl) rfl
theorem q813 : (Jvm.Cond.selects "ThreeBodies$Scanner" ({ cls := "java/lang/Object", name := "getClass", desc := "()Ljava/lang/Class;" } : Jvm.MethodName) ({ cls := "java/lang/Object", name := "getClass", desc := "()Ljava/lang/Class;" } : Jvm.MethodName)) ∈ lw_all := lw_g (lw_at lw_m3 235 rfl) rfl
theorem q969 : (Jvm.Cond.instantiable "ThreeBodies$Scanner" (8 : Nat)) ∈ lw_all := lw_g (lw_at lw_m4 151 rfl) rfl
theorem q972 : (Jvm.Cond.instanceMethod ({ cls := "ThreeBodies$Scanner", name := "<init>", desc := "([BILjava/lang/String;)V" } : Jvm.MethodName)) ∈ lw_all := lw_g (lw_at lw_m4 154 rfl) rfl
theorem q973 : (Jvm.Cond.code ({ cls := "ThreeBodies$Scanner", name := "<init>", desc := "([BILjava/lang/String;)V" } : Jvm.MethodName) prog_14_method_1_code (4 : Nat) (Option.none : Option Jvm.ClassFile.FieldType)) ∈ lw_all := lw_g (lw_at lw_m4 155 rfl) rfl
theorem q974 : (Jvm.Cond.methodLink "ThreeBodies$Scanner" (1 : Nat) ({ cls := "java/lang/Object", name := "<init>", desc := "()V" } : Jvm.MethodName)) ∈ lw_all := lw_g (lw_at lw_m4 156 rfl) rfl
theorem q975 : (Jvm.Cond.stringRef "ThreeBodies$Scanner" (7 : Nat) "") ∈ lw_tbl := lw_at lw_m4 157 rfl
theorem q976 : (Jvm.Cond.methodLink "ThreeBodies$Scanner" (26 : Nat) ({ cls := "ThreeBodies$Scanner", name := "advance", desc := "()V" } : Jvm.MethodName)) ∈ lw_all := lw_g (lw_at lw_m4 158 rfl) rfl
theorem q977 : (Jvm.Cond.instanceMethod ({ cls := "ThreeBodies$Scanner", name := "advance", desc := "()V" } : Jvm.MethodName)) ∈ lw_all := lw_g (lw_at lw_m4 159 rfl) rfl
theorem q978 : (Jvm.Cond.selects "ThreeBodies$Scanner" ({ cls := "ThreeBodies$Scanner", name := "advance", desc := "()V" } : Jvm.MethodName) ({ cls := "ThreeBodies$Scanner", name := "advance", desc := "()V" } : Jvm.MethodName)) ∈ lw_all := lw_g (lw_at lw_m4 160 rfl) rfl
theorem q979 : (Jvm.Cond.code ({ cls := "ThreeBodies$Scanner", name := "advance", desc := "()V" } : Jvm.MethodName) prog_14_method_3_code (1 : Nat) (Option.none : Option Jvm.ClassFile.FieldType)) ∈ lw_all := lw_g (lw_at lw_m4 161 rfl) rfl
theorem q980 : (Jvm.Cond.methodLink "ThreeBodies$Scanner" (38 : Nat) ({ cls := "ThreeBodies$Scanner", name := "isBetween", desc := "(III)Z" } : Jvm.MethodName)) ∈ lw_all := lw_g (lw_at lw_m4 162 rfl) rfl
theorem q981 : (Jvm.Cond.privateMethod ({ cls := "ThreeBodies$Scanner", name := "isBetween", desc := "(III)Z" } : Jvm.MethodName)) ∈ lw_tbl := lw_at lw_m4 163 rfl
theorem q982 : (Jvm.Cond.instanceMethod ({ cls := "ThreeBodies$Scanner", name := "isBetween", desc := "(III)Z" } : Jvm.MethodName)) ∈ lw_all := lw_g (lw_at lw_m4 164 rfl) rfl
theorem q983 : (Jvm.Cond.code ({ cls := "ThreeBodies$Scanner", name := "isBetween", desc := "(III)Z" } : Jvm.MethodName) prog_14_method_2_code (4 : Nat) (Option.some Jvm.ClassFile.FieldType.boolean)) ∈ lw_all := lw_g (lw_at lw_m4 165 rfl) rfl
theorem q984 : (Jvm.Cond.methodLink "ThreeBodies$Scanner" (42 : Nat) ({ cls := "ThreeBodies$Scanner", name := "letters", desc := "()Ljava/lang/String;" } : Jvm.MethodName)) ∈ lw_all := lw_g (lw_at lw_m4 166 rfl) rfl
theorem q985 : (Jvm.Cond.privateMethod ({ cls := "ThreeBodies$Scanner", name := "letters", desc := "()Ljava/lang/String;" } : Jvm.MethodName)) ∈ lw_tbl := lw_at lw_m4 167 rfl
theorem q986 : (Jvm.Cond.instanceMethod ({ cls := "ThreeBodies$Scanner", name := "letters", desc := "()Ljava/lang/String;" } : Jvm.MethodName)) ∈ lw_all := lw_g (lw_at lw_m4 168 rfl) rfl
theorem q987 : (Jvm.Cond.code ({ cls := "ThreeBodies$Scanner", name := "letters", desc := "()Ljava/lang/String;" } : Jvm.MethodName) prog_14_method_4_code (2 : Nat) (Option.some (Jvm.ClassFile.FieldType.object "java/lang/String"))) ∈ lw_all := lw_g (lw_at lw_m4 169 rfl) rfl
theorem q988 : (Jvm.Cond.classLink "ThreeBodies$Scanner" (59 : Nat) "java/lang/StringBuilder") ∈ lw_all := lw_g (lw_at lw_m4 170 rfl) rfl
theorem q989 : (Jvm.Cond.methodLink "ThreeBodies$Scanner" (61 : Nat) ({ cls := "java/lang/StringBuilder", name := "<init>", desc := "()V" } : Jvm.MethodName)) ∈ lw_all := lw_g (lw_at lw_m4 171 rfl) rfl
theorem q990 : (Jvm.Cond.methodLink "ThreeBodies$Scanner" (62 : Nat) ({ cls := "java/lang/StringBuilder", name := "append", desc := "(C)Ljava/lang/StringBuilder;" } : Jvm.MethodName)) ∈ lw_all := lw_g (lw_at lw_m4 172 rfl) rfl
theorem q1061 : (Jvm.Cond.methodLink "ThreeBodies$Scanner" (66 : Nat) ({ cls := "java/lang/StringBuilder", name := "toString", desc := "()Ljava/lang/String;" } : Jvm.MethodName)) ∈ lw_all := lw_g (lw_at lw_m5 3 rfl) rfl
theorem q1203 : (Jvm.Cond.methodLink "ThreeBodies$Scanner" (46 : Nat) ({ cls := "ThreeBodies$Scanner", name := "digits", desc := "()I" } : Jvm.MethodName)) ∈ lw_all := lw_g (lw_at lw_m5 145 rfl) rfl
theorem q1204 : (Jvm.Cond.privateMethod ({ cls := "ThreeBodies$Scanner", name := "digits", desc := "()I" } : Jvm.MethodName)) ∈ lw_tbl := lw_at lw_m5 146 rfl
theorem q1205 : (Jvm.Cond.instanceMethod ({ cls := "ThreeBodies$Scanner", name := "digits", desc := "()I" } : Jvm.MethodName)) ∈ lw_all := lw_g (lw_at lw_m5 147 rfl) rfl
theorem q1206 : (Jvm.Cond.code ({ cls := "ThreeBodies$Scanner", name := "digits", desc := "()I" } : Jvm.MethodName) prog_14_method_5_code (2 : Nat) (Option.some Jvm.ClassFile.FieldType.int)) ∈ lw_all := lw_g (lw_at lw_m5 148 rfl) rfl
theorem q1207 : (Jvm.Cond.constantLong "ThreeBodies$Scanner" (69 : Nat) (2000000000 : Int64)) ∈ lw_all := lw_g (lw_at lw_m5 149 rfl) rfl
theorem q1208 : (Jvm.Cond.constantLong "ThreeBodies$Scanner" (71 : Nat) (10 : Int64)) ∈ lw_all := lw_g (lw_at lw_m5 150 rfl) rfl
theorem q1209 : (Jvm.Cond.constantLong "ThreeBodies$Scanner" (73 : Nat) (48 : Int64)) ∈ lw_all := lw_g (lw_at lw_m5 151 rfl) rfl
theorem q1210 : (Jvm.Cond.methodLink "ThreeBodies$Scanner" (75 : Nat) ({ cls := "java/lang/Math", name := "min", desc := "(JJ)J" } : Jvm.MethodName)) ∈ lw_all := lw_g (lw_at lw_m5 152 rfl) rfl
theorem q1213 : (Jvm.Cond.methodLink "ThreeBodies$Scanner" (53 : Nat) ({ cls := "java/lang/String", name := "indexOf", desc := "(I)I" } : Jvm.MethodName)) ∈ lw_all := lw_g (lw_at lw_m5 155 rfl) rfl
theorem q1263 : (Jvm.Cond.fieldLink "ThreeBodies$Scanner" (15 : Nat) "ThreeBodies$Scanner" "text" "[B") ∈ lw_all := lw_g (lw_at lw_m5 205 rfl) rfl
theorem q1264 : (Jvm.Cond.fieldLink "ThreeBodies$Scanner" (19 : Nat) "ThreeBodies$Scanner" "end" "I") ∈ lw_all := lw_g (lw_at lw_m5 206 rfl) rfl
theorem q1265 : (Jvm.Cond.fieldLink "ThreeBodies$Scanner" (23 : Nat) "ThreeBodies$Scanner" "symbols" "Ljava/lang/String;") ∈ lw_all := lw_g (lw_at lw_m5 207 rfl) rfl
theorem q1267 : (Jvm.Cond.fieldLink "ThreeBodies$Scanner" (35 : Nat) "ThreeBodies$Scanner" "kind" "I") ∈ lw_all := lw_g (lw_at lw_m5 209 rfl) rfl
theorem q1269 : (Jvm.Cond.fieldLink "ThreeBodies$Scanner" (32 : Nat) "ThreeBodies$Scanner" "begin" "I") ∈ lw_all := lw_g (lw_at lw_m5 211 rfl) rfl
theorem q1272 : (Jvm.Cond.fieldLink "ThreeBodies$Scanner" (29 : Nat) "ThreeBodies$Scanner" "next" "I") ∈ lw_all := lw_g (lw_at lw_m5 214 rfl) rfl
theorem q1273 : (Jvm.Cond.fieldLink "ThreeBodies$Scanner" (50 : Nat) "ThreeBodies$Scanner" "value" "I") ∈ lw_all := lw_g (lw_at lw_m5 215 rfl) rfl
theorem q1274 : (Jvm.Cond.fieldLink "ThreeBodies$Scanner" (9 : Nat) "ThreeBodies$Scanner" "word" "Ljava/lang/String;") ∈ lw_all := lw_g (lw_at lw_m5 216 rfl) rfl
theorem q1276 : (Jvm.Cond.laysFinal "ThreeBodies$Scanner" "ThreeBodies$Scanner" "text" "[B") ∈ lw_all := lw_g (lw_at lw_m5 218 rfl) rfl
theorem q1277 : (Jvm.Cond.soleField "ThreeBodies$Scanner" "text") ∈ lw_all := lw_g (lw_at lw_m5 219 rfl) rfl
theorem q1278 : (Jvm.Cond.laysFinal "ThreeBodies$Scanner" "ThreeBodies$Scanner" "end" "I") ∈ lw_all := lw_g (lw_at lw_m5 220 rfl) rfl
theorem q1279 : (Jvm.Cond.soleField "ThreeBodies$Scanner" "end") ∈ lw_all := lw_g (lw_at lw_m5 221 rfl) rfl
theorem q1280 : (Jvm.Cond.laysFinal "ThreeBodies$Scanner" "ThreeBodies$Scanner" "symbols" "Ljava/lang/String;") ∈ lw_all := lw_g (lw_at lw_m5 222 rfl) rfl
theorem q1281 : (Jvm.Cond.soleField "ThreeBodies$Scanner" "symbols") ∈ lw_all := lw_g (lw_at lw_m5 223 rfl) rfl
theorem q1282 : (Jvm.Cond.lays "ThreeBodies$Scanner" "ThreeBodies$Scanner" "kind" "I") ∈ lw_all := lw_g (lw_at lw_m5 224 rfl) rfl
theorem q1283 : (Jvm.Cond.soleField "ThreeBodies$Scanner" "kind") ∈ lw_all := lw_g (lw_at lw_m5 225 rfl) rfl
theorem q1284 : (Jvm.Cond.lays "ThreeBodies$Scanner" "ThreeBodies$Scanner" "begin" "I") ∈ lw_all := lw_g (lw_at lw_m5 226 rfl) rfl
theorem q1285 : (Jvm.Cond.soleField "ThreeBodies$Scanner" "begin") ∈ lw_all := lw_g (lw_at lw_m5 227 rfl) rfl
theorem q1286 : (Jvm.Cond.lays "ThreeBodies$Scanner" "ThreeBodies$Scanner" "next" "I") ∈ lw_all := lw_g (lw_at lw_m5 228 rfl) rfl
theorem q1287 : (Jvm.Cond.soleField "ThreeBodies$Scanner" "next") ∈ lw_all := lw_g (lw_at lw_m5 229 rfl) rfl
theorem q1288 : (Jvm.Cond.lays "ThreeBodies$Scanner" "ThreeBodies$Scanner" "value" "I") ∈ lw_all := lw_g (lw_at lw_m5 230 rfl) rfl
theorem q1289 : (Jvm.Cond.soleField "ThreeBodies$Scanner" "value") ∈ lw_all := lw_g (lw_at lw_m5 231 rfl) rfl
theorem q1290 : (Jvm.Cond.lays "ThreeBodies$Scanner" "ThreeBodies$Scanner" "word" "Ljava/lang/String;") ∈ lw_all := lw_g (lw_at lw_m5 232 rfl) rfl
theorem q1291 : (Jvm.Cond.soleField "ThreeBodies$Scanner" "word") ∈ lw_all := lw_g (lw_at lw_m5 233 rfl) rfl
theorem q1292 : (Jvm.Cond.superclass "ThreeBodies$Scanner" "java/lang/Object") ∈ lw_all := lw_g (lw_at lw_m5 234 rfl) rfl
theorem q1322 : (Jvm.Cond.instanceMethod ({ cls := "ThreeBodies$Scanner", name := "accept", desc := "(Ljava/lang/String;)Z" } : Jvm.MethodName)) ∈ lw_all := lw_g (lw_at lw_m6 24 rfl) rfl
theorem q1323 : (Jvm.Cond.selects "ThreeBodies$Scanner" ({ cls := "ThreeBodies$Scanner", name := "accept", desc := "(Ljava/lang/String;)Z" } : Jvm.MethodName) ({ cls := "ThreeBodies$Scanner", name := "accept", desc := "(Ljava/lang/String;)Z" } : Jvm.MethodName)) ∈ lw_all := lw_g (lw_at lw_m6 25 rfl) rfl
theorem q1324 : (Jvm.Cond.code ({ cls := "ThreeBodies$Scanner", name := "accept", desc := "(Ljava/lang/String;)Z" } : Jvm.MethodName) prog_14_method_9_code (3 : Nat) (Option.some Jvm.ClassFile.FieldType.boolean)) ∈ lw_all := lw_g (lw_at lw_m6 26 rfl) rfl
theorem q1325 : (Jvm.Cond.methodLink "ThreeBodies$Scanner" (90 : Nat) ({ cls := "ThreeBodies$Scanner", name := "isWord", desc := "(Ljava/lang/String;)Z" } : Jvm.MethodName)) ∈ lw_all := lw_g (lw_at lw_m6 27 rfl) rfl
theorem q1326 : (Jvm.Cond.instanceMethod ({ cls := "ThreeBodies$Scanner", name := "isWord", desc := "(Ljava/lang/String;)Z" } : Jvm.MethodName)) ∈ lw_all := lw_g (lw_at lw_m6 28 rfl) rfl
theorem q1327 : (Jvm.Cond.selects "ThreeBodies$Scanner" ({ cls := "ThreeBodies$Scanner", name := "isWord", desc := "(Ljava/lang/String;)Z" } : Jvm.MethodName) ({ cls := "ThreeBodies$Scanner", name := "isWord", desc := "(Ljava/lang/String;)Z" } : Jvm.MethodName)) ∈ lw_all := lw_g (lw_at lw_m6 29 rfl) rfl
theorem q1328 : (Jvm.Cond.code ({ cls := "ThreeBodies$Scanner", name := "isWord", desc := "(Ljava/lang/String;)Z" } : Jvm.MethodName) prog_14_method_8_code (2 : Nat) (Option.some Jvm.ClassFile.FieldType.boolean)) ∈ lw_all := lw_g (lw_at lw_m6 30 rfl) rfl
theorem q1329 : (Jvm.Cond.methodLink "ThreeBodies$Scanner" (86 : Nat) ({ cls := "java/lang/String", name := "equals", desc := "(Ljava/lang/Object;)Z" } : Jvm.MethodName)) ∈ lw_all := lw_g (lw_at lw_m6 31 rfl) rfl
theorem q1339 : (Jvm.Cond.instanceMethod ({ cls := "ThreeBodies$Scanner", name := "number", desc := "(II)I" } : Jvm.MethodName)) ∈ lw_all := lw_g (lw_at lw_m6 41 rfl) rfl
theorem q1340 : (Jvm.Cond.selects "ThreeBodies$Scanner" ({ cls := "ThreeBodies$Scanner", name := "number", desc := "(II)I" } : Jvm.MethodName) ({ cls := "ThreeBodies$Scanner", name := "number", desc := "(II)I" } : Jvm.MethodName)) ∈ lw_all := lw_g (lw_at lw_m6 42 rfl) rfl
theorem q1341 : (Jvm.Cond.code ({ cls := "ThreeBodies$Scanner", name := "number", desc := "(II)I" } : Jvm.MethodName) prog_14_method_13_code (4 : Nat) (Option.some Jvm.ClassFile.FieldType.int)) ∈ lw_all := lw_g (lw_at lw_m6 43 rfl) rfl
theorem q1342 : (Jvm.Cond.methodLink "ThreeBodies$Scanner" (108 : Nat) ({ cls := "ThreeBodies$Scanner", name := "look", desc := "(II)I" } : Jvm.MethodName)) ∈ lw_all := lw_g (lw_at lw_m6 44 rfl) rfl
theorem q1343 : (Jvm.Cond.instanceMethod ({ cls := "ThreeBodies$Scanner", name := "look", desc := "(II)I" } : Jvm.MethodName)) ∈ lw_all := lw_g (lw_at lw_m6 45 rfl) rfl
theorem q1344 : (Jvm.Cond.selects "ThreeBodies$Scanner" ({ cls := "ThreeBodies$Scanner", name := "look", desc := "(II)I" } : Jvm.MethodName) ({ cls := "ThreeBodies$Scanner", name := "look", desc := "(II)I" } : Jvm.MethodName)) ∈ lw_all := lw_g (lw_at lw_m6 46 rfl) rfl
theorem q1345 : (Jvm.Cond.code ({ cls := "ThreeBodies$Scanner", name := "look", desc := "(II)I" } : Jvm.MethodName) prog_14_method_12_code (3 : Nat) (Option.some Jvm.ClassFile.FieldType.int)) ∈ lw_all := lw_g (lw_at lw_m6 47 rfl) rfl
theorem q1346 : (Jvm.Cond.methodLink "ThreeBodies$Scanner" (98 : Nat) ({ cls := "ThreeBodies$Scanner", name := "wrong", desc := "()LThreeBodies$SyntaxException;" } : Jvm.MethodName)) ∈ lw_all := lw_g (lw_at lw_m6 48 rfl) rfl
theorem q1347 : (Jvm.Cond.instanceMethod ({ cls := "ThreeBodies$Scanner", name := "wrong", desc := "()LThreeBodies$SyntaxException;" } : Jvm.MethodName)) ∈ lw_all := lw_g (lw_at lw_m6 49 rfl) rfl
theorem q1348 : (Jvm.Cond.selects "ThreeBodies$Scanner" ({ cls := "ThreeBodies$Scanner", name := "wrong", desc := "()LThreeBodies$SyntaxException;" } : Jvm.MethodName) ({ cls := "ThreeBodies$Scanner", name := "wrong", desc := "()LThreeBodies$SyntaxException;" } : Jvm.MethodName)) ∈ lw_all := lw_g (lw_at lw_m6 50 rfl) rfl
theorem q1349 : (Jvm.Cond.code ({ cls := "ThreeBodies$Scanner", name := "wrong", desc := "()LThreeBodies$SyntaxException;" } : Jvm.MethodName) prog_14_method_6_code (1 : Nat) (Option.some (Jvm.ClassFile.FieldType.object "ThreeBodies$SyntaxException"))) ∈ lw_all := lw_g (lw_at lw_m6 51 rfl) rfl
theorem q1350 : (Jvm.Cond.classLink "ThreeBodies$Scanner" (81 : Nat) "ThreeBodies$SyntaxException") ∈ lw_all := lw_g (lw_at lw_m6 52 rfl) rfl
theorem q1359 : (Jvm.Cond.methodLink "ThreeBodies$Scanner" (83 : Nat) ({ cls := "ThreeBodies$SyntaxException", name := "<init>", desc := "(I)V" } : Jvm.MethodName)) ∈ lw_all := lw_g (lw_at lw_m6 61 rfl) rfl
theorem q1372 : (Jvm.Cond.classLink "ThreeBodies$Scanner" (105 : Nat) "ThreeBodies$RangeException") ∈ lw_all := lw_g (lw_at lw_m6 74 rfl) rfl
theorem q1381 : (Jvm.Cond.methodLink "ThreeBodies$Scanner" (107 : Nat) ({ cls := "ThreeBodies$RangeException", name := "<init>", desc := "(I)V" } : Jvm.MethodName)) ∈ lw_all := lw_g (lw_at lw_m6 83 rfl) rfl
theorem q1402 : (Jvm.Cond.instanceMethod ({ cls := "ThreeBodies$Scanner", name := "expectWord", desc := "(Ljava/lang/String;)V" } : Jvm.MethodName)) ∈ lw_all := lw_g (lw_at lw_m6 104 rfl) rfl
theorem q1403 : (Jvm.Cond.selects "ThreeBodies$Scanner" ({ cls := "ThreeBodies$Scanner", name := "expectWord", desc := "(Ljava/lang/String;)V" } : Jvm.MethodName) ({ cls := "ThreeBodies$Scanner", name := "expectWord", desc := "(Ljava/lang/String;)V" } : Jvm.MethodName)) ∈ lw_all := lw_g (lw_at lw_m6 105 rfl) rfl
theorem q1404 : (Jvm.Cond.code ({ cls := "ThreeBodies$Scanner", name := "expectWord", desc := "(Ljava/lang/String;)V" } : Jvm.MethodName) prog_14_method_11_code (2 : Nat) (Option.none : Option Jvm.ClassFile.FieldType)) ∈ lw_all := lw_g (lw_at lw_m6 106 rfl) rfl
theorem q1405 : (Jvm.Cond.methodLink "ThreeBodies$Scanner" (102 : Nat) ({ cls := "ThreeBodies$Scanner", name := "accept", desc := "(Ljava/lang/String;)Z" } : Jvm.MethodName)) ∈ lw_all := lw_g (lw_at lw_m6 107 rfl) rfl
theorem q1407 : (Jvm.Cond.instanceMethod ({ cls := "ThreeBodies$Scanner", name := "expect", desc := "(C)V" } : Jvm.MethodName)) ∈ lw_all := lw_g (lw_at lw_m6 109 rfl) rfl
theorem q1408 : (Jvm.Cond.selects "ThreeBodies$Scanner" ({ cls := "ThreeBodies$Scanner", name := "expect", desc := "(C)V" } : Jvm.MethodName) ({ cls := "ThreeBodies$Scanner", name := "expect", desc := "(C)V" } : Jvm.MethodName)) ∈ lw_all := lw_g (lw_at lw_m6 110 rfl) rfl
theorem q1409 : (Jvm.Cond.code ({ cls := "ThreeBodies$Scanner", name := "expect", desc := "(C)V" } : Jvm.MethodName) prog_14_method_10_code (2 : Nat) (Option.none : Option Jvm.ClassFile.FieldType)) ∈ lw_all := lw_g (lw_at lw_m6 111 rfl) rfl
theorem q1410 : (Jvm.Cond.methodLink "ThreeBodies$Scanner" (94 : Nat) ({ cls := "ThreeBodies$Scanner", name := "isAt", desc := "(C)Z" } : Jvm.MethodName)) ∈ lw_all := lw_g (lw_at lw_m6 112 rfl) rfl
theorem q1411 : (Jvm.Cond.instanceMethod ({ cls := "ThreeBodies$Scanner", name := "isAt", desc := "(C)Z" } : Jvm.MethodName)) ∈ lw_all := lw_g (lw_at lw_m6 113 rfl) rfl
theorem q1412 : (Jvm.Cond.selects "ThreeBodies$Scanner" ({ cls := "ThreeBodies$Scanner", name := "isAt", desc := "(C)Z" } : Jvm.MethodName) ({ cls := "ThreeBodies$Scanner", name := "isAt", desc := "(C)Z" } : Jvm.MethodName)) ∈ lw_all := lw_g (lw_at lw_m6 114 rfl) rfl
theorem q1413 : (Jvm.Cond.code ({ cls := "ThreeBodies$Scanner", name := "isAt", desc := "(C)Z" } : Jvm.MethodName) prog_14_method_7_code (2 : Nat) (Option.some Jvm.ClassFile.FieldType.boolean)) ∈ lw_all := lw_g (lw_at lw_m6 115 rfl) rfl
theorem q1859 : (Jvm.Cond.selects "ThreeBodies$Scanner" ({ cls := "java/lang/Object", name := "hashCode", desc := "()I" } : Jvm.MethodName) ({ cls := "java/lang/Object", name := "hashCode", desc := "()I" } : Jvm.MethodName)) ∈ lw_all := lw_g (lw_at lw_m8 81 rfl) rfl
theorem q1946 : (Jvm.Cond.selects "ThreeBodies$Scanner" ({ cls := "java/lang/Object", name := "equals", desc := "(Ljava/lang/Object;)Z" } : Jvm.MethodName) ({ cls := "java/lang/Object", name := "equals", desc := "(Ljava/lang/Object;)Z" } : Jvm.MethodName)) ∈ lw_all := lw_g (lw_at lw_m8 168 rfl) rfl
theorem q3399 : (Jvm.Cond.castable "ThreeBodies$Scanner" "java/lang/Object") ∈ lw_tbl := lw_at lw_m14 181 rfl
theorem in_X8 : ∀ w ∈ wsX80, w ∈ lw_all := lw_in wsX80 [1276, 1278, 1280, 1282, 1284, 1286, 1288, 1290] (by decide +kernel) (by decide +kernel)
/-! ThreeBodies$TextException -/
set_option maxRecDepth 100000
def RX9 : String := "ThreeBodies$TextException"
abbrev cX9_init : ByteArray := prog_19_method_1_code
def yX9_init : MethodName := ⟨RX9, "<init>", "(I)V"⟩
def dkwX9_init_0 : List UInt8 := [42, 1, 1, 3, 3, 183, 0, 1, 42, 27, 181, 0, 7, 177]
abbrev dktX9_init_0 : List UInt8 := dkwX9_init_0 ++ []
theorem dksX9_init_0 : cX9_init.data.toList.drop 0 = dktX9_init_0 := by decide +kernel
theorem dX9_init_0 : decode cX9_init 0 = .ok (.aload_n 0, 1) := dk_42 (dk_at dksX9_init_0 0 rfl rfl)
theorem dX9_init_1 : decode cX9_init 1 = .ok (.aconst_null, 1) := dk_1 (dk_at dksX9_init_0 1 rfl rfl)
theorem dX9_init_2 : decode cX9_init 2 = .ok (.aconst_null, 1) := dk_1 (dk_at dksX9_init_0 2 rfl rfl)
theorem dX9_init_3 : decode cX9_init 3 = .ok (.iconst 0, 1) := dk_3 (dk_at dksX9_init_0 3 rfl rfl)
theorem dX9_init_4 : decode cX9_init 4 = .ok (.iconst 0, 1) := dk_3 (dk_at dksX9_init_0 4 rfl rfl)
theorem dX9_init_5 : decode cX9_init 5 = .ok (.invokespecial 1, 3) := dk_183 0 1 (dk_at dksX9_init_0 5 rfl rfl)
theorem dX9_init_8 : decode cX9_init 8 = .ok (.aload_n 0, 1) := dk_42 (dk_at dksX9_init_0 8 rfl rfl)
theorem dX9_init_9 : decode cX9_init 9 = .ok (.iload_n 1, 1) := dk_27 (dk_at dksX9_init_0 9 rfl rfl)
theorem dX9_init_10 : decode cX9_init 10 = .ok (.putfield 7, 3) := dk_181 0 7 (dk_at dksX9_init_0 10 rfl rfl)
theorem dX9_init_13 : decode cX9_init 13 = .ok (.return_, 1) := dk_177 (dk_at dksX9_init_0 13 rfl rfl)
theorem q126 : (Jvm.Cond.initialized "ThreeBodies$TextException") ∈ lw_all := lw_g (lw_at lw_m1 28 rfl) rfl
theorem q1363 : (Jvm.Cond.instanceMethod ({ cls := "ThreeBodies$TextException", name := "<init>", desc := "(I)V" } : Jvm.MethodName)) ∈ lw_all := lw_g (lw_at lw_m6 65 rfl) rfl
theorem q1364 : (Jvm.Cond.code ({ cls := "ThreeBodies$TextException", name := "<init>", desc := "(I)V" } : Jvm.MethodName) prog_19_method_1_code (2 : Nat) (Option.none : Option Jvm.ClassFile.FieldType)) ∈ lw_all := lw_g (lw_at lw_m6 66 rfl) rfl
theorem q1365 : (Jvm.Cond.methodLink "ThreeBodies$TextException" (1 : Nat) ({ cls := "java/lang/Exception", name := "<init>", desc := "(Ljava/lang/String;Ljava/lang/Throwable;ZZ)V" } : Jvm.MethodName)) ∈ lw_all := lw_g (lw_at lw_m6 67 rfl) rfl
theorem q1366 : (Jvm.Cond.fieldLink "ThreeBodies$TextException" (7 : Nat) "ThreeBodies$TextException" "place" "I") ∈ lw_all := lw_g (lw_at lw_m6 68 rfl) rfl
theorem q1369 : (Jvm.Cond.soleField "ThreeBodies$TextException" "place") ∈ lw_all := lw_g (lw_at lw_m6 71 rfl) rfl
theorem q1472 : (Jvm.Cond.declares ({ cls := "ThreeBodies$TextException", name := "code", desc := "()I" } : Jvm.MethodName)) ∈ lw_tbl := lw_at lw_m6 174 rfl
theorem q1473 : (Jvm.Cond.sameMethod "ThreeBodies$TextException" "ThreeBodies$TextException" "code" "()I") ∈ lw_all := lw_g (lw_at lw_m6 175 rfl) rfl
/-! ThreeBodies$SyntaxException -/
set_option maxRecDepth 100000
def RX10 : String := "ThreeBodies$SyntaxException"
def TX10 : u_T := fun k => match k with
  | 0 => ("ThreeBodies$TextException", "place", "I", true)
  | 1 => ("java/lang/Throwable", "cause", "Ljava/lang/Throwable;", false)
  | 2 => ("java/lang/Throwable", "stackTrace", "[Ljava/lang/StackTraceElement;", false)
  | 3 => ("java/lang/Throwable", "suppressedExceptions", "Ljava/util/List;", false)
  | 4 => ("java/lang/Throwable", "detailMessage", "Ljava/lang/String;", false)
  | 5 => ("java/lang/Throwable", "backtrace", "Ljava/lang/Object;", false)
  | _ => ("java/lang/Throwable", "depth", "I", false)
def tyX10 : Nat → FieldType := fun k => match k with
  | 0 => .int
  | 1 => .object "java/lang/Throwable"
  | 2 => .array (.object "java/lang/StackTraceElement")
  | 3 => .object "java/util/List"
  | 4 => .object "java/lang/String"
  | 5 => .object "java/lang/Object"
  | _ => .int
abbrev wsX100 : List Cond := u_ws RX10 TX10 7
theorem nmX10 : ∀ a, a < 7 → ∀ b, b < 7 → a ≠ b → (TX10 a).2.1 ≠ (TX10 b).2.1 := by decide +kernel
theorem tyX10_ok : ∀ k, k < 7 → parseFieldDescriptor (TX10 k).2.2.1 = some (tyX10 k) := by decide +kernel
abbrev cX10_init : ByteArray := prog_16_method_1_code
def yX10_init : MethodName := ⟨RX10, "<init>", "(I)V"⟩
def dkwX10_init_0 : List UInt8 := [42, 27, 183, 0, 1, 177]
abbrev dktX10_init_0 : List UInt8 := dkwX10_init_0 ++ []
theorem dksX10_init_0 : cX10_init.data.toList.drop 0 = dktX10_init_0 := by decide +kernel
theorem dX10_init_0 : decode cX10_init 0 = .ok (.aload_n 0, 1) := dk_42 (dk_at dksX10_init_0 0 rfl rfl)
theorem dX10_init_1 : decode cX10_init 1 = .ok (.iload_n 1, 1) := dk_27 (dk_at dksX10_init_0 1 rfl rfl)
theorem dX10_init_2 : decode cX10_init 2 = .ok (.invokespecial 1, 3) := dk_183 0 1 (dk_at dksX10_init_0 2 rfl rfl)
theorem dX10_init_5 : decode cX10_init 5 = .ok (.return_, 1) := dk_177 (dk_at dksX10_init_0 5 rfl rfl)
abbrev cX10_code : ByteArray := prog_16_method_2_code
def yX10_code : MethodName := ⟨RX10, "code", "()I"⟩
theorem dX10_code_0 : decode cX10_code 0 = .ok (.iconst 1, 1) := by decide +kernel
theorem dX10_code_1 : decode cX10_code 1 = .ok (.ireturn, 1) := by decide +kernel
theorem q127 : (Jvm.Cond.initialized "ThreeBodies$SyntaxException") ∈ lw_all := lw_g (lw_at lw_m1 29 rfl) rfl
theorem q376 : (Jvm.Cond.selects "ThreeBodies$SyntaxException" ({ cls := "java/lang/Throwable", name := "fillInStackTrace", desc := "()Ljava/lang/Throwable;" } : Jvm.MethodName) ({ cls := "java/lang/Throwable", name := "fillInStackTrace", desc := "()Ljava/lang/Throwable;" } : Jvm.MethodName)) ∈ lw_all := lw_g (lw_at lw_m2 38 rfl) rfl
theorem q815 : (Jvm.Cond.selects "ThreeBodies$SyntaxException" ({ cls := "java/lang/Object", name := "getClass", desc := "()Ljava/lang/Class;" } : Jvm.MethodName) ({ cls := "java/lang/Object", name := "getClass", desc := "()Ljava/lang/Class;" } : Jvm.MethodName)) ∈ lw_all := lw_g (lw_at lw_m3 237 rfl) rfl
theorem q1351 : (Jvm.Cond.instantiable "ThreeBodies$SyntaxException" (7 : Nat)) ∈ lw_all := lw_g (lw_at lw_m6 53 rfl) rfl
theorem q1352 : (Jvm.Cond.castable "ThreeBodies$SyntaxException" "ThreeBodies$SyntaxException") ∈ lw_tbl := lw_at lw_m6 54 rfl
theorem q1353 : (Jvm.Cond.selects "ThreeBodies$SyntaxException" ({ cls := "java/lang/Throwable", name := "fillInStackTrace", desc := "(I)Ljava/lang/Throwable;" } : Jvm.MethodName) ({ cls := "java/lang/Throwable", name := "fillInStackTrace", desc := "(I)Ljava/lang/Throwable;" } : Jvm.MethodName)) ∈ lw_all := lw_g (lw_at lw_m6 55 rfl) rfl
theorem q1354 : (Jvm.Cond.lays "ThreeBodies$SyntaxException" "java/lang/Throwable" "cause" "Ljava/lang/Throwable;") ∈ lw_all := lw_g (lw_at lw_m6 56 rfl) rfl
theorem q1355 : (Jvm.Cond.lays "ThreeBodies$SyntaxException" "java/lang/Throwable" "stackTrace" "[Ljava/lang/StackTraceElement;") ∈ lw_all := lw_g (lw_at lw_m6 57 rfl) rfl
theorem q1356 : (Jvm.Cond.lays "ThreeBodies$SyntaxException" "java/lang/Throwable" "suppressedExceptions" "Ljava/util/List;") ∈ lw_all := lw_g (lw_at lw_m6 58 rfl) rfl
theorem q1357 : (Jvm.Cond.lays "ThreeBodies$SyntaxException" "java/lang/Throwable" "detailMessage" "Ljava/lang/String;") ∈ lw_all := lw_g (lw_at lw_m6 59 rfl) rfl
theorem q1358 : (Jvm.Cond.lays "ThreeBodies$SyntaxException" "java/lang/Throwable" "backtrace" "Ljava/lang/Object;") ∈ lw_all := lw_g (lw_at lw_m6 60 rfl) rfl
theorem q1360 : (Jvm.Cond.instanceMethod ({ cls := "ThreeBodies$SyntaxException", name := "<init>", desc := "(I)V" } : Jvm.MethodName)) ∈ lw_all := lw_g (lw_at lw_m6 62 rfl) rfl
theorem q1361 : (Jvm.Cond.code ({ cls := "ThreeBodies$SyntaxException", name := "<init>", desc := "(I)V" } : Jvm.MethodName) prog_16_method_1_code (2 : Nat) (Option.none : Option Jvm.ClassFile.FieldType)) ∈ lw_all := lw_g (lw_at lw_m6 63 rfl) rfl
theorem q1362 : (Jvm.Cond.methodLink "ThreeBodies$SyntaxException" (1 : Nat) ({ cls := "ThreeBodies$TextException", name := "<init>", desc := "(I)V" } : Jvm.MethodName)) ∈ lw_all := lw_g (lw_at lw_m6 64 rfl) rfl
theorem q1368 : (Jvm.Cond.laysFinal "ThreeBodies$SyntaxException" "ThreeBodies$TextException" "place" "I") ∈ lw_all := lw_g (lw_at lw_m6 70 rfl) rfl
theorem q1370 : (Jvm.Cond.lays "ThreeBodies$SyntaxException" "java/lang/Throwable" "depth" "I") ∈ lw_all := lw_g (lw_at lw_m6 72 rfl) rfl
theorem q1371 : (Jvm.Cond.superclass "ThreeBodies$SyntaxException" "ThreeBodies$TextException") ∈ lw_all := lw_g (lw_at lw_m6 73 rfl) rfl
theorem q1483 : (Jvm.Cond.selects "ThreeBodies$SyntaxException" ({ cls := "ThreeBodies$TextException", name := "code", desc := "()I" } : Jvm.MethodName) ({ cls := "ThreeBodies$SyntaxException", name := "code", desc := "()I" } : Jvm.MethodName)) ∈ lw_all := lw_g (lw_at lw_m6 185 rfl) rfl
theorem q1484 : (Jvm.Cond.instanceMethod ({ cls := "ThreeBodies$SyntaxException", name := "code", desc := "()I" } : Jvm.MethodName)) ∈ lw_all := lw_g (lw_at lw_m6 186 rfl) rfl
theorem q1485 : (Jvm.Cond.code ({ cls := "ThreeBodies$SyntaxException", name := "code", desc := "()I" } : Jvm.MethodName) prog_16_method_2_code (1 : Nat) (Option.some Jvm.ClassFile.FieldType.int)) ∈ lw_all := lw_g (lw_at lw_m6 187 rfl) rfl
theorem q1861 : (Jvm.Cond.selects "ThreeBodies$SyntaxException" ({ cls := "java/lang/Object", name := "hashCode", desc := "()I" } : Jvm.MethodName) ({ cls := "java/lang/Object", name := "hashCode", desc := "()I" } : Jvm.MethodName)) ∈ lw_all := lw_g (lw_at lw_m8 83 rfl) rfl
theorem q1948 : (Jvm.Cond.selects "ThreeBodies$SyntaxException" ({ cls := "java/lang/Object", name := "equals", desc := "(Ljava/lang/Object;)Z" } : Jvm.MethodName) ({ cls := "java/lang/Object", name := "equals", desc := "(Ljava/lang/Object;)Z" } : Jvm.MethodName)) ∈ lw_all := lw_g (lw_at lw_m8 170 rfl) rfl
theorem q3383 : (Jvm.Cond.castable "ThreeBodies$SyntaxException" "ThreeBodies$TextException") ∈ lw_tbl := lw_at lw_m14 165 rfl
theorem q3401 : (Jvm.Cond.castable "ThreeBodies$SyntaxException" "java/lang/Object") ∈ lw_tbl := lw_at lw_m14 183 rfl
theorem in_X10 : ∀ w ∈ wsX100, w ∈ lw_all := lw_in wsX100 [1368, 1354, 1355, 1356, 1357, 1358, 1370] (by decide +kernel) (by decide +kernel)
/-! ThreeBodies$RangeException -/
set_option maxRecDepth 100000
def RX11 : String := "ThreeBodies$RangeException"
def TX11 : u_T := fun k => match k with
  | 0 => ("ThreeBodies$TextException", "place", "I", true)
  | 1 => ("java/lang/Throwable", "cause", "Ljava/lang/Throwable;", false)
  | 2 => ("java/lang/Throwable", "stackTrace", "[Ljava/lang/StackTraceElement;", false)
  | 3 => ("java/lang/Throwable", "suppressedExceptions", "Ljava/util/List;", false)
  | 4 => ("java/lang/Throwable", "detailMessage", "Ljava/lang/String;", false)
  | 5 => ("java/lang/Throwable", "backtrace", "Ljava/lang/Object;", false)
  | _ => ("java/lang/Throwable", "depth", "I", false)
def tyX11 : Nat → FieldType := fun k => match k with
  | 0 => .int
  | 1 => .object "java/lang/Throwable"
  | 2 => .array (.object "java/lang/StackTraceElement")
  | 3 => .object "java/util/List"
  | 4 => .object "java/lang/String"
  | 5 => .object "java/lang/Object"
  | _ => .int
abbrev wsX110 : List Cond := u_ws RX11 TX11 7
theorem nmX11 : ∀ a, a < 7 → ∀ b, b < 7 → a ≠ b → (TX11 a).2.1 ≠ (TX11 b).2.1 := by decide +kernel
theorem tyX11_ok : ∀ k, k < 7 → parseFieldDescriptor (TX11 k).2.2.1 = some (tyX11 k) := by decide +kernel
abbrev cX11_init : ByteArray := prog_12_method_1_code
def yX11_init : MethodName := ⟨RX11, "<init>", "(I)V"⟩
def dkwX11_init_0 : List UInt8 := [42, 27, 183, 0, 1, 177]
abbrev dktX11_init_0 : List UInt8 := dkwX11_init_0 ++ []
theorem dksX11_init_0 : cX11_init.data.toList.drop 0 = dktX11_init_0 := by decide +kernel
theorem dX11_init_0 : decode cX11_init 0 = .ok (.aload_n 0, 1) := dk_42 (dk_at dksX11_init_0 0 rfl rfl)
theorem dX11_init_1 : decode cX11_init 1 = .ok (.iload_n 1, 1) := dk_27 (dk_at dksX11_init_0 1 rfl rfl)
theorem dX11_init_2 : decode cX11_init 2 = .ok (.invokespecial 1, 3) := dk_183 0 1 (dk_at dksX11_init_0 2 rfl rfl)
theorem dX11_init_5 : decode cX11_init 5 = .ok (.return_, 1) := dk_177 (dk_at dksX11_init_0 5 rfl rfl)
abbrev cX11_code : ByteArray := prog_12_method_2_code
def yX11_code : MethodName := ⟨RX11, "code", "()I"⟩
theorem dX11_code_0 : decode cX11_code 0 = .ok (.iconst 2, 1) := by decide +kernel
theorem dX11_code_1 : decode cX11_code 1 = .ok (.ireturn, 1) := by decide +kernel
theorem q128 : (Jvm.Cond.initialized "ThreeBodies$RangeException") ∈ lw_all := lw_g (lw_at lw_m1 30 rfl) rfl
theorem q375 : (Jvm.Cond.selects "ThreeBodies$RangeException" ({ cls := "java/lang/Throwable", name := "fillInStackTrace", desc := "()Ljava/lang/Throwable;" } : Jvm.MethodName) ({ cls := "java/lang/Throwable", name := "fillInStackTrace", desc := "()Ljava/lang/Throwable;" } : Jvm.MethodName)) ∈ lw_all := lw_g (lw_at lw_m2 37 rfl) rfl
theorem q811 : (Jvm.Cond.selects "ThreeBodies$RangeException" ({ cls := "java/lang/Object", name := "getClass", desc := "()Ljava/lang/Class;" } : Jvm.MethodName) ({ cls := "java/lang/Object", name := "getClass", desc := "()Ljava/lang/Class;" } : Jvm.MethodName)) ∈ lw_all := lw_g (lw_at lw_m3 233 rfl) rfl
theorem q1373 : (Jvm.Cond.instantiable "ThreeBodies$RangeException" (7 : Nat)) ∈ lw_all := lw_g (lw_at lw_m6 75 rfl) rfl
theorem q1374 : (Jvm.Cond.castable "ThreeBodies$RangeException" "ThreeBodies$RangeException") ∈ lw_tbl := lw_at lw_m6 76 rfl
theorem q1375 : (Jvm.Cond.selects "ThreeBodies$RangeException" ({ cls := "java/lang/Throwable", name := "fillInStackTrace", desc := "(I)Ljava/lang/Throwable;" } : Jvm.MethodName) ({ cls := "java/lang/Throwable", name := "fillInStackTrace", desc := "(I)Ljava/lang/Throwable;" } : Jvm.MethodName)) ∈ lw_all := lw_g (lw_at lw_m6 77 rfl) rfl
theorem q1376 : (Jvm.Cond.lays "ThreeBodies$RangeException" "java/lang/Throwable" "cause" "Ljava/lang/Throwable;") ∈ lw_all := lw_g (lw_at lw_m6 78 rfl) rfl
theorem q1377 : (Jvm.Cond.lays "ThreeBodies$RangeException" "java/lang/Throwable" "stackTrace" "[Ljava/lang/StackTraceElement;") ∈ lw_all := lw_g (lw_at lw_m6 79 rfl) rfl
theorem q1378 : (Jvm.Cond.lays "ThreeBodies$RangeException" "java/lang/Throwable" "suppressedExceptions" "Ljava/util/List;") ∈ lw_all := lw_g (lw_at lw_m6 80 rfl) rfl
theorem q1379 : (Jvm.Cond.lays "ThreeBodies$RangeException" "java/lang/Throwable" "detailMessage" "Ljava/lang/String;") ∈ lw_all := lw_g (lw_at lw_m6 81 rfl) rfl
theorem q1380 : (Jvm.Cond.lays "ThreeBodies$RangeException" "java/lang/Throwable" "backtrace" "Ljava/lang/Object;") ∈ lw_all := lw_g (lw_at lw_m6 82 rfl) rfl
theorem q1382 : (Jvm.Cond.instanceMethod ({ cls := "ThreeBodies$RangeException", name := "<init>", desc := "(I)V" } : Jvm.MethodName)) ∈ lw_all := lw_g (lw_at lw_m6 84 rfl) rfl
theorem q1383 : (Jvm.Cond.code ({ cls := "ThreeBodies$RangeException", name := "<init>", desc := "(I)V" } : Jvm.MethodName) prog_12_method_1_code (2 : Nat) (Option.none : Option Jvm.ClassFile.FieldType)) ∈ lw_all := lw_g (lw_at lw_m6 85 rfl) rfl
theorem q1384 : (Jvm.Cond.methodLink "ThreeBodies$RangeException" (1 : Nat) ({ cls := "ThreeBodies$TextException", name := "<init>", desc := "(I)V" } : Jvm.MethodName)) ∈ lw_all := lw_g (lw_at lw_m6 86 rfl) rfl
theorem q1385 : (Jvm.Cond.laysFinal "ThreeBodies$RangeException" "ThreeBodies$TextException" "place" "I") ∈ lw_all := lw_g (lw_at lw_m6 87 rfl) rfl
theorem q1386 : (Jvm.Cond.lays "ThreeBodies$RangeException" "java/lang/Throwable" "depth" "I") ∈ lw_all := lw_g (lw_at lw_m6 88 rfl) rfl
theorem q1387 : (Jvm.Cond.superclass "ThreeBodies$RangeException" "ThreeBodies$TextException") ∈ lw_all := lw_g (lw_at lw_m6 89 rfl) rfl
theorem q1480 : (Jvm.Cond.selects "ThreeBodies$RangeException" ({ cls := "ThreeBodies$TextException", name := "code", desc := "()I" } : Jvm.MethodName) ({ cls := "ThreeBodies$RangeException", name := "code", desc := "()I" } : Jvm.MethodName)) ∈ lw_all := lw_g (lw_at lw_m6 182 rfl) rfl
theorem q1481 : (Jvm.Cond.instanceMethod ({ cls := "ThreeBodies$RangeException", name := "code", desc := "()I" } : Jvm.MethodName)) ∈ lw_all := lw_g (lw_at lw_m6 183 rfl) rfl
theorem q1482 : (Jvm.Cond.code ({ cls := "ThreeBodies$RangeException", name := "code", desc := "()I" } : Jvm.MethodName) prog_12_method_2_code (1 : Nat) (Option.some Jvm.ClassFile.FieldType.int)) ∈ lw_all := lw_g (lw_at lw_m6 184 rfl) rfl
theorem q1857 : (Jvm.Cond.selects "ThreeBodies$RangeException" ({ cls := "java/lang/Object", name := "hashCode", desc := "()I" } : Jvm.MethodName) ({ cls := "java/lang/Object", name := "hashCode", desc := "()I" } : Jvm.MethodName)) ∈ lw_all := lw_g (lw_at lw_m8 79 rfl) rfl
theorem q1944 : (Jvm.Cond.selects "ThreeBodies$RangeException" ({ cls := "java/lang/Object", name := "equals", desc := "(Ljava/lang/Object;)Z" } : Jvm.MethodName) ({ cls := "java/lang/Object", name := "equals", desc := "(Ljava/lang/Object;)Z" } : Jvm.MethodName)) ∈ lw_all := lw_g (lw_at lw_m8 166 rfl) rfl
theorem q3382 : (Jvm.Cond.castable "ThreeBodies$RangeException" "ThreeBodies$TextException") ∈ lw_tbl := lw_at lw_m14 164 rfl
theorem q3402 : (Jvm.Cond.castable "ThreeBodies$RangeException" "java/lang/Object") ∈ lw_tbl := lw_at lw_m14 184 rfl
theorem in_X11 : ∀ w ∈ wsX110, w ∈ lw_all := lw_in wsX110 [1385, 1376, 1377, 1378, 1379, 1380, 1386] (by decide +kernel) (by decide +kernel)
/-! ThreeBodies$ClashException -/
set_option maxRecDepth 100000
def RX12 : String := "ThreeBodies$ClashException"
def TX12 : u_T := fun k => match k with
  | 0 => ("ThreeBodies$TextException", "place", "I", true)
  | 1 => ("java/lang/Throwable", "cause", "Ljava/lang/Throwable;", false)
  | 2 => ("java/lang/Throwable", "stackTrace", "[Ljava/lang/StackTraceElement;", false)
  | 3 => ("java/lang/Throwable", "suppressedExceptions", "Ljava/util/List;", false)
  | 4 => ("java/lang/Throwable", "detailMessage", "Ljava/lang/String;", false)
  | 5 => ("java/lang/Throwable", "backtrace", "Ljava/lang/Object;", false)
  | _ => ("java/lang/Throwable", "depth", "I", false)
def tyX12 : Nat → FieldType := fun k => match k with
  | 0 => .int
  | 1 => .object "java/lang/Throwable"
  | 2 => .array (.object "java/lang/StackTraceElement")
  | 3 => .object "java/util/List"
  | 4 => .object "java/lang/String"
  | 5 => .object "java/lang/Object"
  | _ => .int
abbrev wsX120 : List Cond := u_ws RX12 TX12 7
theorem nmX12 : ∀ a, a < 7 → ∀ b, b < 7 → a ≠ b → (TX12 a).2.1 ≠ (TX12 b).2.1 := by decide +kernel
theorem tyX12_ok : ∀ k, k < 7 → parseFieldDescriptor (TX12 k).2.2.1 = some (tyX12 k) := by decide +kernel
abbrev cX12_init : ByteArray := prog_5_method_1_code
def yX12_init : MethodName := ⟨RX12, "<init>", "(I)V"⟩
def dkwX12_init_0 : List UInt8 := [42, 27, 183, 0, 1, 177]
abbrev dktX12_init_0 : List UInt8 := dkwX12_init_0 ++ []
theorem dksX12_init_0 : cX12_init.data.toList.drop 0 = dktX12_init_0 := by decide +kernel
theorem dX12_init_0 : decode cX12_init 0 = .ok (.aload_n 0, 1) := dk_42 (dk_at dksX12_init_0 0 rfl rfl)
theorem dX12_init_1 : decode cX12_init 1 = .ok (.iload_n 1, 1) := dk_27 (dk_at dksX12_init_0 1 rfl rfl)
theorem dX12_init_2 : decode cX12_init 2 = .ok (.invokespecial 1, 3) := dk_183 0 1 (dk_at dksX12_init_0 2 rfl rfl)
theorem dX12_init_5 : decode cX12_init 5 = .ok (.return_, 1) := dk_177 (dk_at dksX12_init_0 5 rfl rfl)
abbrev cX12_code : ByteArray := prog_5_method_2_code
def yX12_code : MethodName := ⟨RX12, "code", "()I"⟩
theorem dX12_code_0 : decode cX12_code 0 = .ok (.iconst 3, 1) := by decide +kernel
theorem dX12_code_1 : decode cX12_code 1 = .ok (.ireturn, 1) := by decide +kernel
theorem q129 : (Jvm.Cond.initialized "ThreeBodies$ClashException") ∈ lw_all := lw_g (lw_at lw_m1 31 rfl) rfl
theorem q373 : (Jvm.Cond.selects "ThreeBodies$ClashException" ({ cls := "java/lang/Throwable", name := "fillInStackTrace", desc := "()Ljava/lang/Throwable;" } : Jvm.MethodName) ({ cls := "java/lang/Throwable", name := "fillInStackTrace", desc := "()Ljava/lang/Throwable;" } : Jvm.MethodName)) ∈ lw_all := lw_g (lw_at lw_m2 35 rfl) rfl
theorem q806 : (Jvm.Cond.selects "ThreeBodies$ClashException" ({ cls := "java/lang/Object", name := "getClass", desc := "()Ljava/lang/Class;" } : Jvm.MethodName) ({ cls := "java/lang/Object", name := "getClass", desc := "()Ljava/lang/Class;" } : Jvm.MethodName)) ∈ lw_all := lw_g (lw_at lw_m3 228 rfl) rfl
theorem q1426 : (Jvm.Cond.instantiable "ThreeBodies$ClashException" (7 : Nat)) ∈ lw_all := lw_g (lw_at lw_m6 128 rfl) rfl
theorem q1427 : (Jvm.Cond.castable "ThreeBodies$ClashException" "ThreeBodies$ClashException") ∈ lw_tbl := lw_at lw_m6 129 rfl
theorem q1428 : (Jvm.Cond.selects "ThreeBodies$ClashException" ({ cls := "java/lang/Throwable", name := "fillInStackTrace", desc := "(I)Ljava/lang/Throwable;" } : Jvm.MethodName) ({ cls := "java/lang/Throwable", name := "fillInStackTrace", desc := "(I)Ljava/lang/Throwable;" } : Jvm.MethodName)) ∈ lw_all := lw_g (lw_at lw_m6 130 rfl) rfl
theorem q1429 : (Jvm.Cond.lays "ThreeBodies$ClashException" "java/lang/Throwable" "cause" "Ljava/lang/Throwable;") ∈ lw_all := lw_g (lw_at lw_m6 131 rfl) rfl
theorem q1430 : (Jvm.Cond.lays "ThreeBodies$ClashException" "java/lang/Throwable" "stackTrace" "[Ljava/lang/StackTraceElement;") ∈ lw_all := lw_g (lw_at lw_m6 132 rfl) rfl
theorem q1431 : (Jvm.Cond.lays "ThreeBodies$ClashException" "java/lang/Throwable" "suppressedExceptions" "Ljava/util/List;") ∈ lw_all := lw_g (lw_at lw_m6 133 rfl) rfl
theorem q1432 : (Jvm.Cond.lays "ThreeBodies$ClashException" "java/lang/Throwable" "detailMessage" "Ljava/lang/String;") ∈ lw_all := lw_g (lw_at lw_m6 134 rfl) rfl
theorem q1433 : (Jvm.Cond.lays "ThreeBodies$ClashException" "java/lang/Throwable" "backtrace" "Ljava/lang/Object;") ∈ lw_all := lw_g (lw_at lw_m6 135 rfl) rfl
theorem q1435 : (Jvm.Cond.instanceMethod ({ cls := "ThreeBodies$ClashException", name := "<init>", desc := "(I)V" } : Jvm.MethodName)) ∈ lw_all := lw_g (lw_at lw_m6 137 rfl) rfl
theorem q1436 : (Jvm.Cond.code ({ cls := "ThreeBodies$ClashException", name := "<init>", desc := "(I)V" } : Jvm.MethodName) prog_5_method_1_code (2 : Nat) (Option.none : Option Jvm.ClassFile.FieldType)) ∈ lw_all := lw_g (lw_at lw_m6 138 rfl) rfl
theorem q1437 : (Jvm.Cond.methodLink "ThreeBodies$ClashException" (1 : Nat) ({ cls := "ThreeBodies$TextException", name := "<init>", desc := "(I)V" } : Jvm.MethodName)) ∈ lw_all := lw_g (lw_at lw_m6 139 rfl) rfl
theorem q1438 : (Jvm.Cond.laysFinal "ThreeBodies$ClashException" "ThreeBodies$TextException" "place" "I") ∈ lw_all := lw_g (lw_at lw_m6 140 rfl) rfl
theorem q1439 : (Jvm.Cond.lays "ThreeBodies$ClashException" "java/lang/Throwable" "depth" "I") ∈ lw_all := lw_g (lw_at lw_m6 141 rfl) rfl
theorem q1440 : (Jvm.Cond.superclass "ThreeBodies$ClashException" "ThreeBodies$TextException") ∈ lw_all := lw_g (lw_at lw_m6 142 rfl) rfl
theorem q1474 : (Jvm.Cond.selects "ThreeBodies$ClashException" ({ cls := "ThreeBodies$TextException", name := "code", desc := "()I" } : Jvm.MethodName) ({ cls := "ThreeBodies$ClashException", name := "code", desc := "()I" } : Jvm.MethodName)) ∈ lw_all := lw_g (lw_at lw_m6 176 rfl) rfl
theorem q1475 : (Jvm.Cond.instanceMethod ({ cls := "ThreeBodies$ClashException", name := "code", desc := "()I" } : Jvm.MethodName)) ∈ lw_all := lw_g (lw_at lw_m6 177 rfl) rfl
theorem q1476 : (Jvm.Cond.code ({ cls := "ThreeBodies$ClashException", name := "code", desc := "()I" } : Jvm.MethodName) prog_5_method_2_code (1 : Nat) (Option.some Jvm.ClassFile.FieldType.int)) ∈ lw_all := lw_g (lw_at lw_m6 178 rfl) rfl
theorem q1852 : (Jvm.Cond.selects "ThreeBodies$ClashException" ({ cls := "java/lang/Object", name := "hashCode", desc := "()I" } : Jvm.MethodName) ({ cls := "java/lang/Object", name := "hashCode", desc := "()I" } : Jvm.MethodName)) ∈ lw_all := lw_g (lw_at lw_m8 74 rfl) rfl
theorem q1939 : (Jvm.Cond.selects "ThreeBodies$ClashException" ({ cls := "java/lang/Object", name := "equals", desc := "(Ljava/lang/Object;)Z" } : Jvm.MethodName) ({ cls := "java/lang/Object", name := "equals", desc := "(Ljava/lang/Object;)Z" } : Jvm.MethodName)) ∈ lw_all := lw_g (lw_at lw_m8 161 rfl) rfl
theorem q3380 : (Jvm.Cond.castable "ThreeBodies$ClashException" "ThreeBodies$TextException") ∈ lw_tbl := lw_at lw_m14 162 rfl
theorem q3403 : (Jvm.Cond.castable "ThreeBodies$ClashException" "java/lang/Object") ∈ lw_tbl := lw_at lw_m14 185 rfl
theorem in_X12 : ∀ w ∈ wsX120, w ∈ lw_all := lw_in wsX120 [1438, 1429, 1430, 1431, 1432, 1433, 1439] (by decide +kernel) (by decide +kernel)
/-! ThreeBodies$UnreadableException -/
set_option maxRecDepth 100000
def RX13 : String := "ThreeBodies$UnreadableException"
def TX13 : u_T := fun k => match k with
  | 0 => ("java/lang/Throwable", "cause", "Ljava/lang/Throwable;", false)
  | 1 => ("java/lang/Throwable", "stackTrace", "[Ljava/lang/StackTraceElement;", false)
  | 2 => ("java/lang/Throwable", "suppressedExceptions", "Ljava/util/List;", false)
  | 3 => ("java/lang/Throwable", "detailMessage", "Ljava/lang/String;", false)
  | 4 => ("java/lang/Throwable", "backtrace", "Ljava/lang/Object;", false)
  | _ => ("java/lang/Throwable", "depth", "I", false)
def tyX13 : Nat → FieldType := fun k => match k with
  | 0 => .object "java/lang/Throwable"
  | 1 => .array (.object "java/lang/StackTraceElement")
  | 2 => .object "java/util/List"
  | 3 => .object "java/lang/String"
  | 4 => .object "java/lang/Object"
  | _ => .int
abbrev wsX130 : List Cond := u_ws RX13 TX13 6
theorem nmX13 : ∀ a, a < 6 → ∀ b, b < 6 → a ≠ b → (TX13 a).2.1 ≠ (TX13 b).2.1 := by decide +kernel
theorem tyX13_ok : ∀ k, k < 6 → parseFieldDescriptor (TX13 k).2.2.1 = some (tyX13 k) := by decide +kernel
abbrev cX13_init : ByteArray := prog_20_method_1_code
def yX13_init : MethodName := ⟨RX13, "<init>", "(LThreeBodies$TextException;)V"⟩
def dkwX13_init_0 : List UInt8 := [42, 1, 43, 3, 3, 183, 0, 1, 177]
abbrev dktX13_init_0 : List UInt8 := dkwX13_init_0 ++ []
theorem dksX13_init_0 : cX13_init.data.toList.drop 0 = dktX13_init_0 := by decide +kernel
theorem dX13_init_0 : decode cX13_init 0 = .ok (.aload_n 0, 1) := dk_42 (dk_at dksX13_init_0 0 rfl rfl)
theorem dX13_init_1 : decode cX13_init 1 = .ok (.aconst_null, 1) := dk_1 (dk_at dksX13_init_0 1 rfl rfl)
theorem dX13_init_2 : decode cX13_init 2 = .ok (.aload_n 1, 1) := dk_43 (dk_at dksX13_init_0 2 rfl rfl)
theorem dX13_init_3 : decode cX13_init 3 = .ok (.iconst 0, 1) := dk_3 (dk_at dksX13_init_0 3 rfl rfl)
theorem dX13_init_4 : decode cX13_init 4 = .ok (.iconst 0, 1) := dk_3 (dk_at dksX13_init_0 4 rfl rfl)
theorem dX13_init_5 : decode cX13_init 5 = .ok (.invokespecial 1, 3) := dk_183 0 1 (dk_at dksX13_init_0 5 rfl rfl)
theorem dX13_init_8 : decode cX13_init 8 = .ok (.return_, 1) := dk_177 (dk_at dksX13_init_0 8 rfl rfl)
abbrev cX13_reason : ByteArray := prog_20_method_2_code
def yX13_reason : MethodName := ⟨RX13, "reason", "()LThreeBodies$TextException;"⟩
def dkwX13_reason_1 : List UInt8 := [89, 3, 183, 0, 17, 176]
abbrev dktX13_reason_1 : List UInt8 := dkwX13_reason_1 ++ []
def dkwX13_reason_0 : List UInt8 := [42, 182, 0, 7, 77, 44, 193, 0, 13, 153, 0, 12, 44, 192, 0, 13, 76, 43, 167, 0, 11, 187, 0, 15]
abbrev dktX13_reason_0 : List UInt8 := dkwX13_reason_0 ++ dktX13_reason_1
theorem dksX13_reason_0 : cX13_reason.data.toList.drop 0 = dktX13_reason_0 := by decide +kernel
theorem dksX13_reason_1 : cX13_reason.data.toList.drop 24 = dktX13_reason_1 := dk_seg dksX13_reason_0 24 rfl rfl
theorem dX13_reason_0 : decode cX13_reason 0 = .ok (.aload_n 0, 1) := dk_42 (dk_at dksX13_reason_0 0 rfl rfl)
theorem dX13_reason_1 : decode cX13_reason 1 = .ok (.invokevirtual 7, 3) := dk_182 0 7 (dk_at dksX13_reason_0 1 rfl rfl)
theorem dX13_reason_4 : decode cX13_reason 4 = .ok (.astore_n 2, 1) := dk_77 (dk_at dksX13_reason_0 4 rfl rfl)
theorem dX13_reason_5 : decode cX13_reason 5 = .ok (.aload_n 2, 1) := dk_44 (dk_at dksX13_reason_0 5 rfl rfl)
theorem dX13_reason_6 : decode cX13_reason 6 = .ok (.instanceof 13, 3) := dk_193 0 13 (dk_at dksX13_reason_0 6 rfl rfl)
theorem dX13_reason_9 : decode cX13_reason 9 = .ok (.ifCond .eq 12, 3) := dk_153 0 12 (dk_at dksX13_reason_0 9 rfl rfl)
theorem dX13_reason_12 : decode cX13_reason 12 = .ok (.aload_n 2, 1) := dk_44 (dk_at dksX13_reason_0 12 rfl rfl)
theorem dX13_reason_13 : decode cX13_reason 13 = .ok (.checkcast 13, 3) := dk_192 0 13 (dk_at dksX13_reason_0 13 rfl rfl)
theorem dX13_reason_16 : decode cX13_reason 16 = .ok (.astore_n 1, 1) := dk_76 (dk_at dksX13_reason_0 16 rfl rfl)
theorem dX13_reason_17 : decode cX13_reason 17 = .ok (.aload_n 1, 1) := dk_43 (dk_at dksX13_reason_0 17 rfl rfl)
theorem dX13_reason_18 : decode cX13_reason 18 = .ok (.goto 11, 3) := dk_167 0 11 (dk_at dksX13_reason_0 18 rfl rfl)
theorem dX13_reason_21 : decode cX13_reason 21 = .ok (.new 15, 3) := dk_187 0 15 (dk_at dksX13_reason_0 21 rfl rfl)
theorem dX13_reason_24 : decode cX13_reason 24 = .ok (.dup, 1) := dk_89 (dk_at dksX13_reason_1 0 rfl rfl)
theorem dX13_reason_25 : decode cX13_reason 25 = .ok (.iconst 0, 1) := dk_3 (dk_at dksX13_reason_1 1 rfl rfl)
theorem dX13_reason_26 : decode cX13_reason 26 = .ok (.invokespecial 17, 3) := dk_183 0 17 (dk_at dksX13_reason_1 2 rfl rfl)
theorem dX13_reason_29 : decode cX13_reason 29 = .ok (.areturn, 1) := dk_176 (dk_at dksX13_reason_1 5 rfl rfl)
theorem q130 : (Jvm.Cond.initialized "ThreeBodies$UnreadableException") ∈ lw_all := lw_g (lw_at lw_m1 32 rfl) rfl
theorem q377 : (Jvm.Cond.selects "ThreeBodies$UnreadableException" ({ cls := "java/lang/Throwable", name := "fillInStackTrace", desc := "()Ljava/lang/Throwable;" } : Jvm.MethodName) ({ cls := "java/lang/Throwable", name := "fillInStackTrace", desc := "()Ljava/lang/Throwable;" } : Jvm.MethodName)) ∈ lw_all := lw_g (lw_at lw_m2 39 rfl) rfl
theorem q817 : (Jvm.Cond.selects "ThreeBodies$UnreadableException" ({ cls := "java/lang/Object", name := "getClass", desc := "()Ljava/lang/Class;" } : Jvm.MethodName) ({ cls := "java/lang/Object", name := "getClass", desc := "()Ljava/lang/Class;" } : Jvm.MethodName)) ∈ lw_all := lw_g (lw_at lw_m3 239 rfl) rfl
theorem q1443 : (Jvm.Cond.instantiable "ThreeBodies$UnreadableException" (6 : Nat)) ∈ lw_all := lw_g (lw_at lw_m6 145 rfl) rfl
theorem q1444 : (Jvm.Cond.castable "ThreeBodies$UnreadableException" "ThreeBodies$UnreadableException") ∈ lw_tbl := lw_at lw_m6 146 rfl
theorem q1445 : (Jvm.Cond.selects "ThreeBodies$UnreadableException" ({ cls := "java/lang/Throwable", name := "fillInStackTrace", desc := "(I)Ljava/lang/Throwable;" } : Jvm.MethodName) ({ cls := "java/lang/Throwable", name := "fillInStackTrace", desc := "(I)Ljava/lang/Throwable;" } : Jvm.MethodName)) ∈ lw_all := lw_g (lw_at lw_m6 147 rfl) rfl
theorem q1446 : (Jvm.Cond.lays "ThreeBodies$UnreadableException" "java/lang/Throwable" "cause" "Ljava/lang/Throwable;") ∈ lw_all := lw_g (lw_at lw_m6 148 rfl) rfl
theorem q1447 : (Jvm.Cond.lays "ThreeBodies$UnreadableException" "java/lang/Throwable" "stackTrace" "[Ljava/lang/StackTraceElement;") ∈ lw_all := lw_g (lw_at lw_m6 149 rfl) rfl
theorem q1448 : (Jvm.Cond.lays "ThreeBodies$UnreadableException" "java/lang/Throwable" "suppressedExceptions" "Ljava/util/List;") ∈ lw_all := lw_g (lw_at lw_m6 150 rfl) rfl
theorem q1449 : (Jvm.Cond.lays "ThreeBodies$UnreadableException" "java/lang/Throwable" "detailMessage" "Ljava/lang/String;") ∈ lw_all := lw_g (lw_at lw_m6 151 rfl) rfl
theorem q1450 : (Jvm.Cond.lays "ThreeBodies$UnreadableException" "java/lang/Throwable" "backtrace" "Ljava/lang/Object;") ∈ lw_all := lw_g (lw_at lw_m6 152 rfl) rfl
theorem q1452 : (Jvm.Cond.instanceMethod ({ cls := "ThreeBodies$UnreadableException", name := "<init>", desc := "(LThreeBodies$TextException;)V" } : Jvm.MethodName)) ∈ lw_all := lw_g (lw_at lw_m6 154 rfl) rfl
theorem q1453 : (Jvm.Cond.code ({ cls := "ThreeBodies$UnreadableException", name := "<init>", desc := "(LThreeBodies$TextException;)V" } : Jvm.MethodName) prog_20_method_1_code (2 : Nat) (Option.none : Option Jvm.ClassFile.FieldType)) ∈ lw_all := lw_g (lw_at lw_m6 155 rfl) rfl
theorem q1454 : (Jvm.Cond.methodLink "ThreeBodies$UnreadableException" (1 : Nat) ({ cls := "java/lang/Exception", name := "<init>", desc := "(Ljava/lang/String;Ljava/lang/Throwable;ZZ)V" } : Jvm.MethodName)) ∈ lw_all := lw_g (lw_at lw_m6 156 rfl) rfl
theorem q1455 : (Jvm.Cond.lays "ThreeBodies$UnreadableException" "java/lang/Throwable" "depth" "I") ∈ lw_all := lw_g (lw_at lw_m6 157 rfl) rfl
theorem q1456 : (Jvm.Cond.superclass "ThreeBodies$UnreadableException" "java/lang/Exception") ∈ lw_all := lw_g (lw_at lw_m6 158 rfl) rfl
theorem q1459 : (Jvm.Cond.instanceMethod ({ cls := "ThreeBodies$UnreadableException", name := "reason", desc := "()LThreeBodies$TextException;" } : Jvm.MethodName)) ∈ lw_all := lw_g (lw_at lw_m6 161 rfl) rfl
theorem q1460 : (Jvm.Cond.selects "ThreeBodies$UnreadableException" ({ cls := "ThreeBodies$UnreadableException", name := "reason", desc := "()LThreeBodies$TextException;" } : Jvm.MethodName) ({ cls := "ThreeBodies$UnreadableException", name := "reason", desc := "()LThreeBodies$TextException;" } : Jvm.MethodName)) ∈ lw_all := lw_g (lw_at lw_m6 162 rfl) rfl
theorem q1461 : (Jvm.Cond.code ({ cls := "ThreeBodies$UnreadableException", name := "reason", desc := "()LThreeBodies$TextException;" } : Jvm.MethodName) prog_20_method_2_code (3 : Nat) (Option.some (Jvm.ClassFile.FieldType.object "ThreeBodies$TextException"))) ∈ lw_all := lw_g (lw_at lw_m6 163 rfl) rfl
theorem q1462 : (Jvm.Cond.methodLink "ThreeBodies$UnreadableException" (7 : Nat) ({ cls := "ThreeBodies$UnreadableException", name := "getCause", desc := "()Ljava/lang/Throwable;" } : Jvm.MethodName)) ∈ lw_all := lw_g (lw_at lw_m6 164 rfl) rfl
theorem q1463 : (Jvm.Cond.sameMethod "ThreeBodies$UnreadableException" "java/lang/Throwable" "getCause" "()Ljava/lang/Throwable;") ∈ lw_all := lw_g (lw_at lw_m6 165 rfl) rfl
theorem q1465 : (Jvm.Cond.selects "ThreeBodies$UnreadableException" ({ cls := "ThreeBodies$UnreadableException", name := "getCause", desc := "()Ljava/lang/Throwable;" } : Jvm.MethodName) ({ cls := "java/lang/Throwable", name := "getCause", desc := "()Ljava/lang/Throwable;" } : Jvm.MethodName)) ∈ lw_all := lw_g (lw_at lw_m6 167 rfl) rfl
theorem q1468 : (Jvm.Cond.classLink "ThreeBodies$UnreadableException" (13 : Nat) "ThreeBodies$TextException") ∈ lw_all := lw_g (lw_at lw_m6 170 rfl) rfl
theorem q1469 : (Jvm.Cond.classLink "ThreeBodies$UnreadableException" (15 : Nat) "ThreeBodies$SyntaxException") ∈ lw_all := lw_g (lw_at lw_m6 171 rfl) rfl
theorem q1470 : (Jvm.Cond.methodLink "ThreeBodies$UnreadableException" (17 : Nat) ({ cls := "ThreeBodies$SyntaxException", name := "<init>", desc := "(I)V" } : Jvm.MethodName)) ∈ lw_all := lw_g (lw_at lw_m6 172 rfl) rfl
theorem q1863 : (Jvm.Cond.selects "ThreeBodies$UnreadableException" ({ cls := "java/lang/Object", name := "hashCode", desc := "()I" } : Jvm.MethodName) ({ cls := "java/lang/Object", name := "hashCode", desc := "()I" } : Jvm.MethodName)) ∈ lw_all := lw_g (lw_at lw_m8 85 rfl) rfl
theorem q1950 : (Jvm.Cond.selects "ThreeBodies$UnreadableException" ({ cls := "java/lang/Object", name := "equals", desc := "(Ljava/lang/Object;)Z" } : Jvm.MethodName) ({ cls := "java/lang/Object", name := "equals", desc := "(Ljava/lang/Object;)Z" } : Jvm.MethodName)) ∈ lw_all := lw_g (lw_at lw_m8 172 rfl) rfl
theorem q3404 : (Jvm.Cond.castable "ThreeBodies$UnreadableException" "java/lang/Object") ∈ lw_tbl := lw_at lw_m14 186 rfl
theorem in_X13 : ∀ w ∈ wsX130, w ∈ lw_all := lw_in wsX130 [1446, 1447, 1448, 1449, 1450, 1455] (by decide +kernel) (by decide +kernel)
/-! ThreeBodies$Approach -/
set_option maxRecDepth 100000
def RX14 : String := "ThreeBodies$Approach"
def TX14 : u_T := fun k => match k with
  | 0 => ("ThreeBodies$Approach", "clock", "I", true)
  | 1 => ("ThreeBodies$Approach", "pair", "I", true)
  | _ => ("ThreeBodies$Approach", "distance", "I", true)
def tyX14 : Nat → FieldType := fun k => match k with
  | 0 => .int
  | 1 => .int
  | _ => .int
abbrev wsX140 : List Cond := u_ws RX14 TX14 3
theorem nmX14 : ∀ a, a < 3 → ∀ b, b < 3 → a ≠ b → (TX14 a).2.1 ≠ (TX14 b).2.1 := by decide +kernel
theorem tyX14_ok : ∀ k, k < 3 → parseFieldDescriptor (TX14 k).2.2.1 = some (tyX14 k) := by decide +kernel
abbrev cX14_init : ByteArray := prog_2_method_1_code
def yX14_init : MethodName := ⟨RX14, "<init>", "(III)V"⟩
def dkwX14_init_0 : List UInt8 := [42, 183, 0, 1, 42, 27, 181, 0, 7, 42, 28, 181, 0, 13, 42, 29, 181, 0, 16, 177]
abbrev dktX14_init_0 : List UInt8 := dkwX14_init_0 ++ []
theorem dksX14_init_0 : cX14_init.data.toList.drop 0 = dktX14_init_0 := by decide +kernel
theorem dX14_init_0 : decode cX14_init 0 = .ok (.aload_n 0, 1) := dk_42 (dk_at dksX14_init_0 0 rfl rfl)
theorem dX14_init_1 : decode cX14_init 1 = .ok (.invokespecial 1, 3) := dk_183 0 1 (dk_at dksX14_init_0 1 rfl rfl)
theorem dX14_init_4 : decode cX14_init 4 = .ok (.aload_n 0, 1) := dk_42 (dk_at dksX14_init_0 4 rfl rfl)
theorem dX14_init_5 : decode cX14_init 5 = .ok (.iload_n 1, 1) := dk_27 (dk_at dksX14_init_0 5 rfl rfl)
theorem dX14_init_6 : decode cX14_init 6 = .ok (.putfield 7, 3) := dk_181 0 7 (dk_at dksX14_init_0 6 rfl rfl)
theorem dX14_init_9 : decode cX14_init 9 = .ok (.aload_n 0, 1) := dk_42 (dk_at dksX14_init_0 9 rfl rfl)
theorem dX14_init_10 : decode cX14_init 10 = .ok (.iload_n 2, 1) := dk_28 (dk_at dksX14_init_0 10 rfl rfl)
theorem dX14_init_11 : decode cX14_init 11 = .ok (.putfield 13, 3) := dk_181 0 13 (dk_at dksX14_init_0 11 rfl rfl)
theorem dX14_init_14 : decode cX14_init 14 = .ok (.aload_n 0, 1) := dk_42 (dk_at dksX14_init_0 14 rfl rfl)
theorem dX14_init_15 : decode cX14_init 15 = .ok (.iload_n 3, 1) := dk_29 (dk_at dksX14_init_0 15 rfl rfl)
theorem dX14_init_16 : decode cX14_init 16 = .ok (.putfield 16, 3) := dk_181 0 16 (dk_at dksX14_init_0 16 rfl rfl)
theorem dX14_init_19 : decode cX14_init 19 = .ok (.return_, 1) := dk_177 (dk_at dksX14_init_0 19 rfl rfl)
theorem q133 : (Jvm.Cond.initialized "ThreeBodies$Approach") ∈ lw_all := lw_g (lw_at lw_m1 35 rfl) rfl
theorem q803 : (Jvm.Cond.selects "ThreeBodies$Approach" ({ cls := "java/lang/Object", name := "getClass", desc := "()Ljava/lang/Class;" } : Jvm.MethodName) ({ cls := "java/lang/Object", name := "getClass", desc := "()Ljava/lang/Class;" } : Jvm.MethodName)) ∈ lw_all := lw_g (lw_at lw_m3 225 rfl) rfl
theorem q1576 : (Jvm.Cond.instantiable "ThreeBodies$Approach" (3 : Nat)) ∈ lw_all := lw_g (lw_at lw_m7 38 rfl) rfl
theorem q1578 : (Jvm.Cond.instanceMethod ({ cls := "ThreeBodies$Approach", name := "<init>", desc := "(III)V" } : Jvm.MethodName)) ∈ lw_all := lw_g (lw_at lw_m7 40 rfl) rfl
theorem q1579 : (Jvm.Cond.code ({ cls := "ThreeBodies$Approach", name := "<init>", desc := "(III)V" } : Jvm.MethodName) prog_2_method_1_code (4 : Nat) (Option.none : Option Jvm.ClassFile.FieldType)) ∈ lw_all := lw_g (lw_at lw_m7 41 rfl) rfl
theorem q1580 : (Jvm.Cond.methodLink "ThreeBodies$Approach" (1 : Nat) ({ cls := "java/lang/Object", name := "<init>", desc := "()V" } : Jvm.MethodName)) ∈ lw_all := lw_g (lw_at lw_m7 42 rfl) rfl
theorem q1581 : (Jvm.Cond.fieldLink "ThreeBodies$Approach" (7 : Nat) "ThreeBodies$Approach" "clock" "I") ∈ lw_all := lw_g (lw_at lw_m7 43 rfl) rfl
theorem q1583 : (Jvm.Cond.fieldLink "ThreeBodies$Approach" (13 : Nat) "ThreeBodies$Approach" "pair" "I") ∈ lw_all := lw_g (lw_at lw_m7 45 rfl) rfl
theorem q1585 : (Jvm.Cond.fieldLink "ThreeBodies$Approach" (16 : Nat) "ThreeBodies$Approach" "distance" "I") ∈ lw_all := lw_g (lw_at lw_m7 47 rfl) rfl
theorem q1587 : (Jvm.Cond.laysFinal "ThreeBodies$Approach" "ThreeBodies$Approach" "clock" "I") ∈ lw_all := lw_g (lw_at lw_m7 49 rfl) rfl
theorem q1588 : (Jvm.Cond.soleField "ThreeBodies$Approach" "clock") ∈ lw_all := lw_g (lw_at lw_m7 50 rfl) rfl
theorem q1589 : (Jvm.Cond.laysFinal "ThreeBodies$Approach" "ThreeBodies$Approach" "pair" "I") ∈ lw_all := lw_g (lw_at lw_m7 51 rfl) rfl
theorem q1590 : (Jvm.Cond.soleField "ThreeBodies$Approach" "pair") ∈ lw_all := lw_g (lw_at lw_m7 52 rfl) rfl
theorem q1591 : (Jvm.Cond.laysFinal "ThreeBodies$Approach" "ThreeBodies$Approach" "distance" "I") ∈ lw_all := lw_g (lw_at lw_m7 53 rfl) rfl
theorem q1592 : (Jvm.Cond.soleField "ThreeBodies$Approach" "distance") ∈ lw_all := lw_g (lw_at lw_m7 54 rfl) rfl
theorem q1593 : (Jvm.Cond.superclass "ThreeBodies$Approach" "java/lang/Object") ∈ lw_all := lw_g (lw_at lw_m7 55 rfl) rfl
theorem q1847 : (Jvm.Cond.selects "ThreeBodies$Approach" ({ cls := "java/lang/Object", name := "hashCode", desc := "()I" } : Jvm.MethodName) ({ cls := "java/lang/Object", name := "hashCode", desc := "()I" } : Jvm.MethodName)) ∈ lw_all := lw_g (lw_at lw_m8 69 rfl) rfl
theorem q1933 : (Jvm.Cond.selects "ThreeBodies$Approach" ({ cls := "java/lang/Object", name := "equals", desc := "(Ljava/lang/Object;)Z" } : Jvm.MethodName) ({ cls := "java/lang/Object", name := "equals", desc := "(Ljava/lang/Object;)Z" } : Jvm.MethodName)) ∈ lw_all := lw_g (lw_at lw_m8 155 rfl) rfl
theorem q3407 : (Jvm.Cond.castable "ThreeBodies$Approach" "java/lang/Object") ∈ lw_tbl := lw_at lw_m14 189 rfl
theorem in_X14 : ∀ w ∈ wsX140, w ∈ lw_all := lw_in wsX140 [1587, 1589, 1591] (by decide +kernel) (by decide +kernel)
/-! ThreeBodies$Walk -/
set_option maxRecDepth 100000
def RX15 : String := "ThreeBodies$Walk"
def TX15 : u_T := fun k => match k with
  | 0 => ("ThreeBodies$Walk", "left", "I", false)
  | 1 => ("ThreeBodies$Walk", "isAhead", "Z", false)
  | _ => ("ThreeBodies$Walk", "this$0", "LThreeBodies;", true)
def tyX15 : Nat → FieldType := fun k => match k with
  | 0 => .int
  | 1 => .boolean
  | _ => .object "ThreeBodies"
abbrev wsX150 : List Cond := u_ws RX15 TX15 3
theorem nmX15 : ∀ a, a < 3 → ∀ b, b < 3 → a ≠ b → (TX15 a).2.1 ≠ (TX15 b).2.1 := by decide +kernel
theorem tyX15_ok : ∀ k, k < 3 → parseFieldDescriptor (TX15 k).2.2.1 = some (tyX15 k) := by decide +kernel
abbrev cX15_hasNext : ByteArray := prog_23_method_2_code
def yX15_hasNext : MethodName := ⟨RX15, "hasNext", "()Z"⟩
def dkwX15_hasNext_2 : List UInt8 := [180, 0, 25, 4, 100, 167, 0, 4, 3, 181, 0, 25, 42, 180, 0, 29, 172]
abbrev dktX15_hasNext_2 : List UInt8 := dkwX15_hasNext_2 ++ []
def dkwX15_hasNext_1 : List UInt8 := [180, 0, 1, 180, 0, 33, 4, 182, 0, 37, 181, 0, 29, 42, 42, 180, 0, 29, 153, 0, 12, 42]
abbrev dktX15_hasNext_1 : List UInt8 := dkwX15_hasNext_1 ++ dktX15_hasNext_2
def dkwX15_hasNext_0 : List UInt8 := [42, 180, 0, 29, 154, 0, 53, 42, 180, 0, 25, 158, 0, 46, 42, 42, 180, 0, 1, 180, 0, 13, 42]
abbrev dktX15_hasNext_0 : List UInt8 := dkwX15_hasNext_0 ++ dktX15_hasNext_1
theorem dksX15_hasNext_0 : cX15_hasNext.data.toList.drop 0 = dktX15_hasNext_0 := by decide +kernel
theorem dksX15_hasNext_1 : cX15_hasNext.data.toList.drop 23 = dktX15_hasNext_1 := dk_seg dksX15_hasNext_0 23 rfl rfl
theorem dksX15_hasNext_2 : cX15_hasNext.data.toList.drop 45 = dktX15_hasNext_2 := dk_seg dksX15_hasNext_1 22 rfl rfl
theorem dX15_hasNext_0 : decode cX15_hasNext 0 = .ok (.aload_n 0, 1) := dk_42 (dk_at dksX15_hasNext_0 0 rfl rfl)
theorem dX15_hasNext_1 : decode cX15_hasNext 1 = .ok (.getfield 29, 3) := dk_180 0 29 (dk_at dksX15_hasNext_0 1 rfl rfl)
theorem dX15_hasNext_4 : decode cX15_hasNext 4 = .ok (.ifCond .ne 53, 3) := dk_154 0 53 (dk_at dksX15_hasNext_0 4 rfl rfl)
theorem dX15_hasNext_7 : decode cX15_hasNext 7 = .ok (.aload_n 0, 1) := dk_42 (dk_at dksX15_hasNext_0 7 rfl rfl)
theorem dX15_hasNext_8 : decode cX15_hasNext 8 = .ok (.getfield 25, 3) := dk_180 0 25 (dk_at dksX15_hasNext_0 8 rfl rfl)
theorem dX15_hasNext_11 : decode cX15_hasNext 11 = .ok (.ifCond .le 46, 3) := dk_158 0 46 (dk_at dksX15_hasNext_0 11 rfl rfl)
theorem dX15_hasNext_14 : decode cX15_hasNext 14 = .ok (.aload_n 0, 1) := dk_42 (dk_at dksX15_hasNext_0 14 rfl rfl)
theorem dX15_hasNext_15 : decode cX15_hasNext 15 = .ok (.aload_n 0, 1) := dk_42 (dk_at dksX15_hasNext_0 15 rfl rfl)
theorem dX15_hasNext_16 : decode cX15_hasNext 16 = .ok (.getfield 1, 3) := dk_180 0 1 (dk_at dksX15_hasNext_0 16 rfl rfl)
theorem dX15_hasNext_19 : decode cX15_hasNext 19 = .ok (.getfield 13, 3) := dk_180 0 13 (dk_at dksX15_hasNext_0 19 rfl rfl)
theorem dX15_hasNext_22 : decode cX15_hasNext 22 = .ok (.aload_n 0, 1) := dk_42 (dk_at dksX15_hasNext_0 22 rfl rfl)
theorem dX15_hasNext_23 : decode cX15_hasNext 23 = .ok (.getfield 1, 3) := dk_180 0 1 (dk_at dksX15_hasNext_1 0 rfl rfl)
theorem dX15_hasNext_26 : decode cX15_hasNext 26 = .ok (.getfield 33, 3) := dk_180 0 33 (dk_at dksX15_hasNext_1 3 rfl rfl)
theorem dX15_hasNext_29 : decode cX15_hasNext 29 = .ok (.iconst 1, 1) := dk_4 (dk_at dksX15_hasNext_1 6 rfl rfl)
theorem dX15_hasNext_30 : decode cX15_hasNext 30 = .ok (.invokevirtual 37, 3) := dk_182 0 37 (dk_at dksX15_hasNext_1 7 rfl rfl)
theorem dX15_hasNext_33 : decode cX15_hasNext 33 = .ok (.putfield 29, 3) := dk_181 0 29 (dk_at dksX15_hasNext_1 10 rfl rfl)
theorem dX15_hasNext_36 : decode cX15_hasNext 36 = .ok (.aload_n 0, 1) := dk_42 (dk_at dksX15_hasNext_1 13 rfl rfl)
theorem dX15_hasNext_37 : decode cX15_hasNext 37 = .ok (.aload_n 0, 1) := dk_42 (dk_at dksX15_hasNext_1 14 rfl rfl)
theorem dX15_hasNext_38 : decode cX15_hasNext 38 = .ok (.getfield 29, 3) := dk_180 0 29 (dk_at dksX15_hasNext_1 15 rfl rfl)
theorem dX15_hasNext_41 : decode cX15_hasNext 41 = .ok (.ifCond .eq 12, 3) := dk_153 0 12 (dk_at dksX15_hasNext_1 18 rfl rfl)
theorem dX15_hasNext_44 : decode cX15_hasNext 44 = .ok (.aload_n 0, 1) := dk_42 (dk_at dksX15_hasNext_1 21 rfl rfl)
theorem dX15_hasNext_45 : decode cX15_hasNext 45 = .ok (.getfield 25, 3) := dk_180 0 25 (dk_at dksX15_hasNext_2 0 rfl rfl)
theorem dX15_hasNext_48 : decode cX15_hasNext 48 = .ok (.iconst 1, 1) := dk_4 (dk_at dksX15_hasNext_2 3 rfl rfl)
theorem dX15_hasNext_49 : decode cX15_hasNext 49 = .ok (.isub, 1) := dk_100 (dk_at dksX15_hasNext_2 4 rfl rfl)
theorem dX15_hasNext_50 : decode cX15_hasNext 50 = .ok (.goto 4, 3) := dk_167 0 4 (dk_at dksX15_hasNext_2 5 rfl rfl)
theorem dX15_hasNext_53 : decode cX15_hasNext 53 = .ok (.iconst 0, 1) := dk_3 (dk_at dksX15_hasNext_2 8 rfl rfl)
theorem dX15_hasNext_54 : decode cX15_hasNext 54 = .ok (.putfield 25, 3) := dk_181 0 25 (dk_at dksX15_hasNext_2 9 rfl rfl)
theorem dX15_hasNext_57 : decode cX15_hasNext 57 = .ok (.aload_n 0, 1) := dk_42 (dk_at dksX15_hasNext_2 12 rfl rfl)
theorem dX15_hasNext_58 : decode cX15_hasNext 58 = .ok (.getfield 29, 3) := dk_180 0 29 (dk_at dksX15_hasNext_2 13 rfl rfl)
theorem dX15_hasNext_61 : decode cX15_hasNext 61 = .ok (.ireturn, 1) := dk_172 (dk_at dksX15_hasNext_2 16 rfl rfl)
abbrev cX15_next : ByteArray := prog_23_method_4_code
def yX15_next : MethodName := ⟨RX15, "next", "()Ljava/lang/Object;"⟩
theorem dX15_next_0 : decode cX15_next 0 = .ok (.aload_n 0, 1) := by decide +kernel
theorem dX15_next_1 : decode cX15_next 1 = .ok (.invokevirtual 48, 3) := by decide +kernel
theorem dX15_next_4 : decode cX15_next 4 = .ok (.areturn, 1) := by decide +kernel
abbrev cX15_next_2 : ByteArray := prog_23_method_3_code
def yX15_next_2 : MethodName := ⟨RX15, "next", "()LThreeBodies$Bodies;"⟩
def dkwX15_next_2_1 : List UInt8 := [180, 0, 13, 176]
abbrev dktX15_next_2_1 : List UInt8 := dkwX15_next_2_1 ++ []
def dkwX15_next_2_0 : List UInt8 := [42, 182, 0, 41, 154, 0, 11, 187, 0, 45, 89, 183, 0, 47, 191, 42, 3, 181, 0, 29, 42, 180, 0, 1]
abbrev dktX15_next_2_0 : List UInt8 := dkwX15_next_2_0 ++ dktX15_next_2_1
theorem dksX15_next_2_0 : cX15_next_2.data.toList.drop 0 = dktX15_next_2_0 := by decide +kernel
theorem dksX15_next_2_1 : cX15_next_2.data.toList.drop 24 = dktX15_next_2_1 := dk_seg dksX15_next_2_0 24 rfl rfl
theorem dX15_next_2_0 : decode cX15_next_2 0 = .ok (.aload_n 0, 1) := dk_42 (dk_at dksX15_next_2_0 0 rfl rfl)
theorem dX15_next_2_1 : decode cX15_next_2 1 = .ok (.invokevirtual 41, 3) := dk_182 0 41 (dk_at dksX15_next_2_0 1 rfl rfl)
theorem dX15_next_2_4 : decode cX15_next_2 4 = .ok (.ifCond .ne 11, 3) := dk_154 0 11 (dk_at dksX15_next_2_0 4 rfl rfl)
theorem dX15_next_2_7 : decode cX15_next_2 7 = .ok (.new 45, 3) := dk_187 0 45 (dk_at dksX15_next_2_0 7 rfl rfl)
theorem dX15_next_2_10 : decode cX15_next_2 10 = .ok (.dup, 1) := dk_89 (dk_at dksX15_next_2_0 10 rfl rfl)
theorem dX15_next_2_11 : decode cX15_next_2 11 = .ok (.invokespecial 47, 3) := dk_183 0 47 (dk_at dksX15_next_2_0 11 rfl rfl)
theorem dX15_next_2_14 : decode cX15_next_2 14 = .ok (.athrow, 1) := dk_191 (dk_at dksX15_next_2_0 14 rfl rfl)
theorem dX15_next_2_15 : decode cX15_next_2 15 = .ok (.aload_n 0, 1) := dk_42 (dk_at dksX15_next_2_0 15 rfl rfl)
theorem dX15_next_2_16 : decode cX15_next_2 16 = .ok (.iconst 0, 1) := dk_3 (dk_at dksX15_next_2_0 16 rfl rfl)
theorem dX15_next_2_17 : decode cX15_next_2 17 = .ok (.putfield 29, 3) := dk_181 0 29 (dk_at dksX15_next_2_0 17 rfl rfl)
theorem dX15_next_2_20 : decode cX15_next_2 20 = .ok (.aload_n 0, 1) := dk_42 (dk_at dksX15_next_2_0 20 rfl rfl)
theorem dX15_next_2_21 : decode cX15_next_2 21 = .ok (.getfield 1, 3) := dk_180 0 1 (dk_at dksX15_next_2_0 21 rfl rfl)
theorem dX15_next_2_24 : decode cX15_next_2 24 = .ok (.getfield 13, 3) := dk_180 0 13 (dk_at dksX15_next_2_1 0 rfl rfl)
theorem dX15_next_2_27 : decode cX15_next_2 27 = .ok (.areturn, 1) := dk_176 (dk_at dksX15_next_2_1 3 rfl rfl)
abbrev cX15_init : ByteArray := prog_23_method_1_code
def yX15_init : MethodName := ⟨RX15, "<init>", "(LThreeBodies;LThreeBodies$Bodies;I)V"⟩
def dkwX15_init_0 : List UInt8 := [42, 43, 181, 0, 1, 42, 183, 0, 7, 43, 180, 0, 13, 44, 182, 0, 19, 42, 29, 181, 0, 25, 177]
abbrev dktX15_init_0 : List UInt8 := dkwX15_init_0 ++ []
theorem dksX15_init_0 : cX15_init.data.toList.drop 0 = dktX15_init_0 := by decide +kernel
theorem dX15_init_0 : decode cX15_init 0 = .ok (.aload_n 0, 1) := dk_42 (dk_at dksX15_init_0 0 rfl rfl)
theorem dX15_init_1 : decode cX15_init 1 = .ok (.aload_n 1, 1) := dk_43 (dk_at dksX15_init_0 1 rfl rfl)
theorem dX15_init_2 : decode cX15_init 2 = .ok (.putfield 1, 3) := dk_181 0 1 (dk_at dksX15_init_0 2 rfl rfl)
theorem dX15_init_5 : decode cX15_init 5 = .ok (.aload_n 0, 1) := dk_42 (dk_at dksX15_init_0 5 rfl rfl)
theorem dX15_init_6 : decode cX15_init 6 = .ok (.invokespecial 7, 3) := dk_183 0 7 (dk_at dksX15_init_0 6 rfl rfl)
theorem dX15_init_9 : decode cX15_init 9 = .ok (.aload_n 1, 1) := dk_43 (dk_at dksX15_init_0 9 rfl rfl)
theorem dX15_init_10 : decode cX15_init 10 = .ok (.getfield 13, 3) := dk_180 0 13 (dk_at dksX15_init_0 10 rfl rfl)
theorem dX15_init_13 : decode cX15_init 13 = .ok (.aload_n 2, 1) := dk_44 (dk_at dksX15_init_0 13 rfl rfl)
theorem dX15_init_14 : decode cX15_init 14 = .ok (.invokevirtual 19, 3) := dk_182 0 19 (dk_at dksX15_init_0 14 rfl rfl)
theorem dX15_init_17 : decode cX15_init 17 = .ok (.aload_n 0, 1) := dk_42 (dk_at dksX15_init_0 17 rfl rfl)
theorem dX15_init_18 : decode cX15_init 18 = .ok (.iload_n 3, 1) := dk_29 (dk_at dksX15_init_0 18 rfl rfl)
theorem dX15_init_19 : decode cX15_init 19 = .ok (.putfield 25, 3) := dk_181 0 25 (dk_at dksX15_init_0 19 rfl rfl)
theorem dX15_init_22 : decode cX15_init 22 = .ok (.return_, 1) := dk_177 (dk_at dksX15_init_0 22 rfl rfl)
theorem q134 : (Jvm.Cond.initialized "ThreeBodies$Walk") ∈ lw_all := lw_g (lw_at lw_m1 36 rfl) rfl
theorem q524 : (Jvm.Cond.fieldLinkNest "ThreeBodies$Walk" (33 : Nat) "ThreeBodies" "schemes" "[[LThreeBodies$Part;" "ThreeBodies") ∈ lw_tbl := lw_at lw_m2 186 rfl
theorem q528 : (Jvm.Cond.fieldLinkNest "ThreeBodies$Walk" (13 : Nat) "ThreeBodies" "walker" "LThreeBodies$Bodies;" "ThreeBodies") ∈ lw_tbl := lw_at lw_m2 190 rfl
theorem q701 : (Jvm.Cond.castable "ThreeBodies$Walk" "java/util/Iterator") ∈ lw_tbl := lw_at lw_m3 123 rfl
theorem q702 : (Jvm.Cond.selects "ThreeBodies$Walk" ({ cls := "java/util/Iterator", name := "hasNext", desc := "()Z" } : Jvm.MethodName) ({ cls := "ThreeBodies$Walk", name := "hasNext", desc := "()Z" } : Jvm.MethodName)) ∈ lw_all := lw_g (lw_at lw_m3 124 rfl) rfl
theorem q703 : (Jvm.Cond.unhidden "ThreeBodies$Walk" "hasNext" "()Z") ∈ lw_tbl := lw_at lw_m3 125 rfl
theorem q704 : (Jvm.Cond.instanceMethod ({ cls := "ThreeBodies$Walk", name := "hasNext", desc := "()Z" } : Jvm.MethodName)) ∈ lw_all := lw_g (lw_at lw_m3 126 rfl) rfl
theorem q705 : (Jvm.Cond.publicMethod ({ cls := "ThreeBodies$Walk", name := "hasNext", desc := "()Z" } : Jvm.MethodName)) ∈ lw_tbl := lw_at lw_m3 127 rfl
theorem q706 : (Jvm.Cond.code ({ cls := "ThreeBodies$Walk", name := "hasNext", desc := "()Z" } : Jvm.MethodName) prog_23_method_2_code (1 : Nat) (Option.some Jvm.ClassFile.FieldType.boolean)) ∈ lw_all := lw_g (lw_at lw_m3 128 rfl) rfl
theorem q707 : (Jvm.Cond.methodLink "ThreeBodies$Walk" (37 : Nat) ({ cls := "ThreeBodies$Bodies", name := "step", desc := "([[LThreeBodies$Part;I)Z" } : Jvm.MethodName)) ∈ lw_all := lw_g (lw_at lw_m3 129 rfl) rfl
theorem q741 : (Jvm.Cond.selects "ThreeBodies$Walk" ({ cls := "java/util/Iterator", name := "next", desc := "()Ljava/lang/Object;" } : Jvm.MethodName) ({ cls := "ThreeBodies$Walk", name := "next", desc := "()Ljava/lang/Object;" } : Jvm.MethodName)) ∈ lw_all := lw_g (lw_at lw_m3 163 rfl) rfl
theorem q742 : (Jvm.Cond.unhidden "ThreeBodies$Walk" "next" "()Ljava/lang/Object;") ∈ lw_tbl := lw_at lw_m3 164 rfl
theorem q743 : (Jvm.Cond.instanceMethod ({ cls := "ThreeBodies$Walk", name := "next", desc := "()Ljava/lang/Object;" } : Jvm.MethodName)) ∈ lw_all := lw_g (lw_at lw_m3 165 rfl) rfl
theorem q744 : (Jvm.Cond.publicMethod ({ cls := "ThreeBodies$Walk", name := "next", desc := "()Ljava/lang/Object;" } : Jvm.MethodName)) ∈ lw_tbl := lw_at lw_m3 166 rfl
theorem q745 : (Jvm.Cond.code ({ cls := "ThreeBodies$Walk", name := "next", desc := "()Ljava/lang/Object;" } : Jvm.MethodName) prog_23_method_4_code (1 : Nat) (Option.some (Jvm.ClassFile.FieldType.object "java/lang/Object"))) ∈ lw_all := lw_g (lw_at lw_m3 167 rfl) rfl
theorem q746 : (Jvm.Cond.methodLink "ThreeBodies$Walk" (48 : Nat) ({ cls := "ThreeBodies$Walk", name := "next", desc := "()LThreeBodies$Bodies;" } : Jvm.MethodName)) ∈ lw_all := lw_g (lw_at lw_m3 168 rfl) rfl
theorem q747 : (Jvm.Cond.instanceMethod ({ cls := "ThreeBodies$Walk", name := "next", desc := "()LThreeBodies$Bodies;" } : Jvm.MethodName)) ∈ lw_all := lw_g (lw_at lw_m3 169 rfl) rfl
theorem q748 : (Jvm.Cond.selects "ThreeBodies$Walk" ({ cls := "ThreeBodies$Walk", name := "next", desc := "()LThreeBodies$Bodies;" } : Jvm.MethodName) ({ cls := "ThreeBodies$Walk", name := "next", desc := "()LThreeBodies$Bodies;" } : Jvm.MethodName)) ∈ lw_all := lw_g (lw_at lw_m3 170 rfl) rfl
theorem q749 : (Jvm.Cond.code ({ cls := "ThreeBodies$Walk", name := "next", desc := "()LThreeBodies$Bodies;" } : Jvm.MethodName) prog_23_method_3_code (1 : Nat) (Option.some (Jvm.ClassFile.FieldType.object "ThreeBodies$Bodies"))) ∈ lw_all := lw_g (lw_at lw_m3 171 rfl) rfl
theorem q750 : (Jvm.Cond.methodLink "ThreeBodies$Walk" (41 : Nat) ({ cls := "ThreeBodies$Walk", name := "hasNext", desc := "()Z" } : Jvm.MethodName)) ∈ lw_all := lw_g (lw_at lw_m3 172 rfl) rfl
theorem q751 : (Jvm.Cond.classLink "ThreeBodies$Walk" (45 : Nat) "java/util/NoSuchElementException") ∈ lw_all := lw_g (lw_at lw_m3 173 rfl) rfl
theorem q752 : (Jvm.Cond.methodLink "ThreeBodies$Walk" (47 : Nat) ({ cls := "java/util/NoSuchElementException", name := "<init>", desc := "()V" } : Jvm.MethodName)) ∈ lw_all := lw_g (lw_at lw_m3 174 rfl) rfl
theorem q819 : (Jvm.Cond.selects "ThreeBodies$Walk" ({ cls := "java/lang/Object", name := "getClass", desc := "()Ljava/lang/Class;" } : Jvm.MethodName) ({ cls := "java/lang/Object", name := "getClass", desc := "()Ljava/lang/Class;" } : Jvm.MethodName)) ∈ lw_all := lw_g (lw_at lw_m4 1 rfl) rfl
theorem q1672 : (Jvm.Cond.instantiable "ThreeBodies$Walk" (3 : Nat)) ∈ lw_all := lw_g (lw_at lw_m7 134 rfl) rfl
theorem q1674 : (Jvm.Cond.instanceMethod ({ cls := "ThreeBodies$Walk", name := "<init>", desc := "(LThreeBodies;LThreeBodies$Bodies;I)V" } : Jvm.MethodName)) ∈ lw_all := lw_g (lw_at lw_m7 136 rfl) rfl
theorem q1675 : (Jvm.Cond.code ({ cls := "ThreeBodies$Walk", name := "<init>", desc := "(LThreeBodies;LThreeBodies$Bodies;I)V" } : Jvm.MethodName) prog_23_method_1_code (4 : Nat) (Option.none : Option Jvm.ClassFile.FieldType)) ∈ lw_all := lw_g (lw_at lw_m7 137 rfl) rfl
theorem q1676 : (Jvm.Cond.methodLink "ThreeBodies$Walk" (7 : Nat) ({ cls := "java/lang/Object", name := "<init>", desc := "()V" } : Jvm.MethodName)) ∈ lw_all := lw_g (lw_at lw_m7 138 rfl) rfl
theorem q1677 : (Jvm.Cond.methodLink "ThreeBodies$Walk" (19 : Nat) ({ cls := "ThreeBodies$Bodies", name := "become", desc := "(LThreeBodies$Bodies;)V" } : Jvm.MethodName)) ∈ lw_all := lw_g (lw_at lw_m7 139 rfl) rfl
theorem q1678 : (Jvm.Cond.fieldLink "ThreeBodies$Walk" (25 : Nat) "ThreeBodies$Walk" "left" "I") ∈ lw_all := lw_g (lw_at lw_m7 140 rfl) rfl
theorem q1679 : (Jvm.Cond.fieldLink "ThreeBodies$Walk" (29 : Nat) "ThreeBodies$Walk" "isAhead" "Z") ∈ lw_all := lw_g (lw_at lw_m7 141 rfl) rfl
theorem q1680 : (Jvm.Cond.fieldLink "ThreeBodies$Walk" (1 : Nat) "ThreeBodies$Walk" "this$0" "LThreeBodies;") ∈ lw_all := lw_g (lw_at lw_m7 142 rfl) rfl
theorem q1681 : (Jvm.Cond.lays "ThreeBodies$Walk" "ThreeBodies$Walk" "left" "I") ∈ lw_all := lw_g (lw_at lw_m7 143 rfl) rfl
theorem q1682 : (Jvm.Cond.soleField "ThreeBodies$Walk" "left") ∈ lw_all := lw_g (lw_at lw_m7 144 rfl) rfl
theorem q1683 : (Jvm.Cond.lays "ThreeBodies$Walk" "ThreeBodies$Walk" "isAhead" "Z") ∈ lw_all := lw_g (lw_at lw_m7 145 rfl) rfl
theorem q1684 : (Jvm.Cond.soleField "ThreeBodies$Walk" "isAhead") ∈ lw_all := lw_g (lw_at lw_m7 146 rfl) rfl
theorem q1685 : (Jvm.Cond.laysFinal "ThreeBodies$Walk" "ThreeBodies$Walk" "this$0" "LThreeBodies;") ∈ lw_all := lw_g (lw_at lw_m7 147 rfl) rfl
theorem q1686 : (Jvm.Cond.soleField "ThreeBodies$Walk" "this$0") ∈ lw_all := lw_g (lw_at lw_m7 148 rfl) rfl
theorem q1687 : (Jvm.Cond.superclass "ThreeBodies$Walk" "java/lang/Object") ∈ lw_all := lw_g (lw_at lw_m7 149 rfl) rfl
theorem q1865 : (Jvm.Cond.selects "ThreeBodies$Walk" ({ cls := "java/lang/Object", name := "hashCode", desc := "()I" } : Jvm.MethodName) ({ cls := "java/lang/Object", name := "hashCode", desc := "()I" } : Jvm.MethodName)) ∈ lw_all := lw_g (lw_at lw_m8 87 rfl) rfl
theorem q1952 : (Jvm.Cond.selects "ThreeBodies$Walk" ({ cls := "java/lang/Object", name := "equals", desc := "(Ljava/lang/Object;)Z" } : Jvm.MethodName) ({ cls := "java/lang/Object", name := "equals", desc := "(Ljava/lang/Object;)Z" } : Jvm.MethodName)) ∈ lw_all := lw_g (lw_at lw_m8 174 rfl) rfl
theorem q3362 : (Jvm.Cond.selects "ThreeBodies$Walk" ({ cls := "ThreeBodies$Walk", name := "hasNext", desc := "()Z" } : Jvm.MethodName) ({ cls := "ThreeBodies$Walk", name := "hasNext", desc := "()Z" } : Jvm.MethodName)) ∈ lw_all := lw_g (lw_at lw_m14 144 rfl) rfl
theorem q3408 : (Jvm.Cond.castable "ThreeBodies$Walk" "java/lang/Object") ∈ lw_tbl := lw_at lw_m14 190 rfl
theorem in_X15 : ∀ w ∈ wsX150, w ∈ lw_all := lw_in wsX150 [1681, 1683, 1685] (by decide +kernel) (by decide +kernel)
/-! ThreeBodies$Cell -/
set_option maxRecDepth 100000
def RX16 : String := "ThreeBodies$Cell"
def TX16 : u_T := fun k => match k with
  | 0 => ("ThreeBodies$Cell", "first", "I", true)
  | _ => ("ThreeBodies$Cell", "second", "I", true)
def tyX16 : Nat → FieldType := fun k => match k with
  | 0 => .int
  | _ => .int
abbrev wsX160 : List Cond := u_ws RX16 TX16 2
theorem nmX16 : ∀ a, a < 2 → ∀ b, b < 2 → a ≠ b → (TX16 a).2.1 ≠ (TX16 b).2.1 := by decide +kernel
theorem tyX16_ok : ∀ k, k < 2 → parseFieldDescriptor (TX16 k).2.2.1 = some (tyX16 k) := by decide +kernel
abbrev cX16_init : ByteArray := prog_4_method_1_code
def yX16_init : MethodName := ⟨RX16, "<init>", "(II)V"⟩
def dkwX16_init_0 : List UInt8 := [42, 183, 0, 1, 42, 27, 181, 0, 7, 42, 28, 181, 0, 13, 177]
abbrev dktX16_init_0 : List UInt8 := dkwX16_init_0 ++ []
theorem dksX16_init_0 : cX16_init.data.toList.drop 0 = dktX16_init_0 := by decide +kernel
theorem dX16_init_0 : decode cX16_init 0 = .ok (.aload_n 0, 1) := dk_42 (dk_at dksX16_init_0 0 rfl rfl)
theorem dX16_init_1 : decode cX16_init 1 = .ok (.invokespecial 1, 3) := dk_183 0 1 (dk_at dksX16_init_0 1 rfl rfl)
theorem dX16_init_4 : decode cX16_init 4 = .ok (.aload_n 0, 1) := dk_42 (dk_at dksX16_init_0 4 rfl rfl)
theorem dX16_init_5 : decode cX16_init 5 = .ok (.iload_n 1, 1) := dk_27 (dk_at dksX16_init_0 5 rfl rfl)
theorem dX16_init_6 : decode cX16_init 6 = .ok (.putfield 7, 3) := dk_181 0 7 (dk_at dksX16_init_0 6 rfl rfl)
theorem dX16_init_9 : decode cX16_init 9 = .ok (.aload_n 0, 1) := dk_42 (dk_at dksX16_init_0 9 rfl rfl)
theorem dX16_init_10 : decode cX16_init 10 = .ok (.iload_n 2, 1) := dk_28 (dk_at dksX16_init_0 10 rfl rfl)
theorem dX16_init_11 : decode cX16_init 11 = .ok (.putfield 13, 3) := dk_181 0 13 (dk_at dksX16_init_0 11 rfl rfl)
theorem dX16_init_14 : decode cX16_init 14 = .ok (.return_, 1) := dk_177 (dk_at dksX16_init_0 14 rfl rfl)
abbrev cX16_hashCode : ByteArray := prog_4_method_3_code
def yX16_hashCode : MethodName := ⟨RX16, "hashCode", "()I"⟩
def dkwX16_hashCode_0 : List UInt8 := [17, 3, 232, 42, 180, 0, 7, 104, 42, 180, 0, 13, 96, 172]
abbrev dktX16_hashCode_0 : List UInt8 := dkwX16_hashCode_0 ++ []
theorem dksX16_hashCode_0 : cX16_hashCode.data.toList.drop 0 = dktX16_hashCode_0 := by decide +kernel
theorem dX16_hashCode_0 : decode cX16_hashCode 0 = .ok (.sipush 1000, 3) := dk_17 3 232 (dk_at dksX16_hashCode_0 0 rfl rfl)
theorem dX16_hashCode_3 : decode cX16_hashCode 3 = .ok (.aload_n 0, 1) := dk_42 (dk_at dksX16_hashCode_0 3 rfl rfl)
theorem dX16_hashCode_4 : decode cX16_hashCode 4 = .ok (.getfield 7, 3) := dk_180 0 7 (dk_at dksX16_hashCode_0 4 rfl rfl)
theorem dX16_hashCode_7 : decode cX16_hashCode 7 = .ok (.imul, 1) := dk_104 (dk_at dksX16_hashCode_0 7 rfl rfl)
theorem dX16_hashCode_8 : decode cX16_hashCode 8 = .ok (.aload_n 0, 1) := dk_42 (dk_at dksX16_hashCode_0 8 rfl rfl)
theorem dX16_hashCode_9 : decode cX16_hashCode 9 = .ok (.getfield 13, 3) := dk_180 0 13 (dk_at dksX16_hashCode_0 9 rfl rfl)
theorem dX16_hashCode_12 : decode cX16_hashCode 12 = .ok (.iadd, 1) := dk_96 (dk_at dksX16_hashCode_0 12 rfl rfl)
theorem dX16_hashCode_13 : decode cX16_hashCode 13 = .ok (.ireturn, 1) := dk_172 (dk_at dksX16_hashCode_0 13 rfl rfl)
abbrev cX16_equals : ByteArray := prog_4_method_2_code
def yX16_equals : MethodName := ⟨RX16, "equals", "(Ljava/lang/Object;)Z"⟩
def dkwX16_equals_1 : List UInt8 := [180, 0, 13, 42, 180, 0, 13, 160, 0, 7, 4, 167, 0, 4, 3, 172]
abbrev dktX16_equals_1 : List UInt8 := dkwX16_equals_1 ++ []
def dkwX16_equals_0 : List UInt8 := [43, 193, 0, 8, 153, 0, 34, 43, 192, 0, 8, 77, 44, 180, 0, 7, 42, 180, 0, 7, 160, 0, 18, 44]
abbrev dktX16_equals_0 : List UInt8 := dkwX16_equals_0 ++ dktX16_equals_1
theorem dksX16_equals_0 : cX16_equals.data.toList.drop 0 = dktX16_equals_0 := by decide +kernel
theorem dksX16_equals_1 : cX16_equals.data.toList.drop 24 = dktX16_equals_1 := dk_seg dksX16_equals_0 24 rfl rfl
theorem dX16_equals_0 : decode cX16_equals 0 = .ok (.aload_n 1, 1) := dk_43 (dk_at dksX16_equals_0 0 rfl rfl)
theorem dX16_equals_1 : decode cX16_equals 1 = .ok (.instanceof 8, 3) := dk_193 0 8 (dk_at dksX16_equals_0 1 rfl rfl)
theorem dX16_equals_4 : decode cX16_equals 4 = .ok (.ifCond .eq 34, 3) := dk_153 0 34 (dk_at dksX16_equals_0 4 rfl rfl)
theorem dX16_equals_7 : decode cX16_equals 7 = .ok (.aload_n 1, 1) := dk_43 (dk_at dksX16_equals_0 7 rfl rfl)
theorem dX16_equals_8 : decode cX16_equals 8 = .ok (.checkcast 8, 3) := dk_192 0 8 (dk_at dksX16_equals_0 8 rfl rfl)
theorem dX16_equals_11 : decode cX16_equals 11 = .ok (.astore_n 2, 1) := dk_77 (dk_at dksX16_equals_0 11 rfl rfl)
theorem dX16_equals_12 : decode cX16_equals 12 = .ok (.aload_n 2, 1) := dk_44 (dk_at dksX16_equals_0 12 rfl rfl)
theorem dX16_equals_13 : decode cX16_equals 13 = .ok (.getfield 7, 3) := dk_180 0 7 (dk_at dksX16_equals_0 13 rfl rfl)
theorem dX16_equals_16 : decode cX16_equals 16 = .ok (.aload_n 0, 1) := dk_42 (dk_at dksX16_equals_0 16 rfl rfl)
theorem dX16_equals_17 : decode cX16_equals 17 = .ok (.getfield 7, 3) := dk_180 0 7 (dk_at dksX16_equals_0 17 rfl rfl)
theorem dX16_equals_20 : decode cX16_equals 20 = .ok (.if_icmp .ne 18, 3) := dk_160 0 18 (dk_at dksX16_equals_0 20 rfl rfl)
theorem dX16_equals_23 : decode cX16_equals 23 = .ok (.aload_n 2, 1) := dk_44 (dk_at dksX16_equals_0 23 rfl rfl)
theorem dX16_equals_24 : decode cX16_equals 24 = .ok (.getfield 13, 3) := dk_180 0 13 (dk_at dksX16_equals_1 0 rfl rfl)
theorem dX16_equals_27 : decode cX16_equals 27 = .ok (.aload_n 0, 1) := dk_42 (dk_at dksX16_equals_1 3 rfl rfl)
theorem dX16_equals_28 : decode cX16_equals 28 = .ok (.getfield 13, 3) := dk_180 0 13 (dk_at dksX16_equals_1 4 rfl rfl)
theorem dX16_equals_31 : decode cX16_equals 31 = .ok (.if_icmp .ne 7, 3) := dk_160 0 7 (dk_at dksX16_equals_1 7 rfl rfl)
theorem dX16_equals_34 : decode cX16_equals 34 = .ok (.iconst 1, 1) := dk_4 (dk_at dksX16_equals_1 10 rfl rfl)
theorem dX16_equals_35 : decode cX16_equals 35 = .ok (.goto 4, 3) := dk_167 0 4 (dk_at dksX16_equals_1 11 rfl rfl)
theorem dX16_equals_38 : decode cX16_equals 38 = .ok (.iconst 0, 1) := dk_3 (dk_at dksX16_equals_1 14 rfl rfl)
theorem dX16_equals_39 : decode cX16_equals 39 = .ok (.ireturn, 1) := dk_172 (dk_at dksX16_equals_1 15 rfl rfl)
theorem q138 : (Jvm.Cond.initialized "ThreeBodies$Cell") ∈ lw_all := lw_g (lw_at lw_m1 40 rfl) rfl
theorem q805 : (Jvm.Cond.selects "ThreeBodies$Cell" ({ cls := "java/lang/Object", name := "getClass", desc := "()Ljava/lang/Class;" } : Jvm.MethodName) ({ cls := "java/lang/Object", name := "getClass", desc := "()Ljava/lang/Class;" } : Jvm.MethodName)) ∈ lw_all := lw_g (lw_at lw_m3 227 rfl) rfl
theorem q1806 : (Jvm.Cond.instantiable "ThreeBodies$Cell" (2 : Nat)) ∈ lw_all := lw_g (lw_at lw_m8 28 rfl) rfl
theorem q1811 : (Jvm.Cond.instanceMethod ({ cls := "ThreeBodies$Cell", name := "<init>", desc := "(II)V" } : Jvm.MethodName)) ∈ lw_all := lw_g (lw_at lw_m8 33 rfl) rfl
theorem q1812 : (Jvm.Cond.code ({ cls := "ThreeBodies$Cell", name := "<init>", desc := "(II)V" } : Jvm.MethodName) prog_4_method_1_code (3 : Nat) (Option.none : Option Jvm.ClassFile.FieldType)) ∈ lw_all := lw_g (lw_at lw_m8 34 rfl) rfl
theorem q1813 : (Jvm.Cond.methodLink "ThreeBodies$Cell" (1 : Nat) ({ cls := "java/lang/Object", name := "<init>", desc := "()V" } : Jvm.MethodName)) ∈ lw_all := lw_g (lw_at lw_m8 35 rfl) rfl
theorem q1814 : (Jvm.Cond.fieldLink "ThreeBodies$Cell" (7 : Nat) "ThreeBodies$Cell" "first" "I") ∈ lw_all := lw_g (lw_at lw_m8 36 rfl) rfl
theorem q1816 : (Jvm.Cond.fieldLink "ThreeBodies$Cell" (13 : Nat) "ThreeBodies$Cell" "second" "I") ∈ lw_all := lw_g (lw_at lw_m8 38 rfl) rfl
theorem q1818 : (Jvm.Cond.laysFinal "ThreeBodies$Cell" "ThreeBodies$Cell" "first" "I") ∈ lw_all := lw_g (lw_at lw_m8 40 rfl) rfl
theorem q1819 : (Jvm.Cond.soleField "ThreeBodies$Cell" "first") ∈ lw_all := lw_g (lw_at lw_m8 41 rfl) rfl
theorem q1820 : (Jvm.Cond.laysFinal "ThreeBodies$Cell" "ThreeBodies$Cell" "second" "I") ∈ lw_all := lw_g (lw_at lw_m8 42 rfl) rfl
theorem q1821 : (Jvm.Cond.soleField "ThreeBodies$Cell" "second") ∈ lw_all := lw_g (lw_at lw_m8 43 rfl) rfl
theorem q1822 : (Jvm.Cond.superclass "ThreeBodies$Cell" "java/lang/Object") ∈ lw_all := lw_g (lw_at lw_m8 44 rfl) rfl
theorem q1849 : (Jvm.Cond.selects "ThreeBodies$Cell" ({ cls := "java/lang/Object", name := "hashCode", desc := "()I" } : Jvm.MethodName) ({ cls := "ThreeBodies$Cell", name := "hashCode", desc := "()I" } : Jvm.MethodName)) ∈ lw_all := lw_g (lw_at lw_m8 71 rfl) rfl
theorem q1850 : (Jvm.Cond.instanceMethod ({ cls := "ThreeBodies$Cell", name := "hashCode", desc := "()I" } : Jvm.MethodName)) ∈ lw_all := lw_g (lw_at lw_m8 72 rfl) rfl
theorem q1851 : (Jvm.Cond.code ({ cls := "ThreeBodies$Cell", name := "hashCode", desc := "()I" } : Jvm.MethodName) prog_4_method_3_code (1 : Nat) (Option.some Jvm.ClassFile.FieldType.int)) ∈ lw_all := lw_g (lw_at lw_m8 73 rfl) rfl
theorem q1935 : (Jvm.Cond.selects "ThreeBodies$Cell" ({ cls := "java/lang/Object", name := "equals", desc := "(Ljava/lang/Object;)Z" } : Jvm.MethodName) ({ cls := "ThreeBodies$Cell", name := "equals", desc := "(Ljava/lang/Object;)Z" } : Jvm.MethodName)) ∈ lw_all := lw_g (lw_at lw_m8 157 rfl) rfl
theorem q1936 : (Jvm.Cond.instanceMethod ({ cls := "ThreeBodies$Cell", name := "equals", desc := "(Ljava/lang/Object;)Z" } : Jvm.MethodName)) ∈ lw_all := lw_g (lw_at lw_m8 158 rfl) rfl
theorem q1937 : (Jvm.Cond.code ({ cls := "ThreeBodies$Cell", name := "equals", desc := "(Ljava/lang/Object;)Z" } : Jvm.MethodName) prog_4_method_2_code (3 : Nat) (Option.some Jvm.ClassFile.FieldType.boolean)) ∈ lw_all := lw_g (lw_at lw_m8 159 rfl) rfl
theorem q1938 : (Jvm.Cond.classLink "ThreeBodies$Cell" (8 : Nat) "ThreeBodies$Cell") ∈ lw_all := lw_g (lw_at lw_m8 160 rfl) rfl
theorem q3410 : (Jvm.Cond.castable "ThreeBodies$Cell" "java/lang/Object") ∈ lw_tbl := lw_at lw_m14 192 rfl
theorem in_X16 : ∀ w ∈ wsX160, w ∈ lw_all := lw_in wsX160 [1818, 1820] (by decide +kernel) (by decide +kernel)
/-! ThreeBodies$Visits -/
set_option maxRecDepth 100000
def RX17 : String := "ThreeBodies$Visits"
def TX17 : u_T := fun k => match k with
  | _ => ("ThreeBodies$Visits", "count", "I", false)
def tyX17 : Nat → FieldType := fun k => match k with
  | _ => .int
abbrev wsX170 : List Cond := u_ws RX17 TX17 1
theorem nmX17 : ∀ a, a < 1 → ∀ b, b < 1 → a ≠ b → (TX17 a).2.1 ≠ (TX17 b).2.1 := by decide +kernel
theorem tyX17_ok : ∀ k, k < 1 → parseFieldDescriptor (TX17 k).2.2.1 = some (tyX17 k) := by decide +kernel
abbrev cX17_init : ByteArray := prog_22_method_1_code
def yX17_init : MethodName := ⟨RX17, "<init>", "()V"⟩
theorem dX17_init_0 : decode cX17_init 0 = .ok (.aload_n 0, 1) := by decide +kernel
theorem dX17_init_1 : decode cX17_init 1 = .ok (.invokespecial 1, 3) := by decide +kernel
theorem dX17_init_4 : decode cX17_init 4 = .ok (.return_, 1) := by decide +kernel
theorem q142 : (Jvm.Cond.initialized "ThreeBodies$Visits") ∈ lw_all := lw_g (lw_at lw_m1 44 rfl) rfl
theorem q818 : (Jvm.Cond.selects "ThreeBodies$Visits" ({ cls := "java/lang/Object", name := "getClass", desc := "()Ljava/lang/Class;" } : Jvm.MethodName) ({ cls := "java/lang/Object", name := "getClass", desc := "()Ljava/lang/Class;" } : Jvm.MethodName)) ∈ lw_all := lw_g (lw_at lw_m4 0 rfl) rfl
theorem q1864 : (Jvm.Cond.selects "ThreeBodies$Visits" ({ cls := "java/lang/Object", name := "hashCode", desc := "()I" } : Jvm.MethodName) ({ cls := "java/lang/Object", name := "hashCode", desc := "()I" } : Jvm.MethodName)) ∈ lw_all := lw_g (lw_at lw_m8 86 rfl) rfl
theorem q1951 : (Jvm.Cond.selects "ThreeBodies$Visits" ({ cls := "java/lang/Object", name := "equals", desc := "(Ljava/lang/Object;)Z" } : Jvm.MethodName) ({ cls := "java/lang/Object", name := "equals", desc := "(Ljava/lang/Object;)Z" } : Jvm.MethodName)) ∈ lw_all := lw_g (lw_at lw_m8 173 rfl) rfl
theorem q2169 : (Jvm.Cond.instantiable "ThreeBodies$Visits" (1 : Nat)) ∈ lw_all := lw_g (lw_at lw_m9 151 rfl) rfl
theorem q2171 : (Jvm.Cond.instanceMethod ({ cls := "ThreeBodies$Visits", name := "<init>", desc := "()V" } : Jvm.MethodName)) ∈ lw_all := lw_g (lw_at lw_m9 153 rfl) rfl
theorem q2172 : (Jvm.Cond.code ({ cls := "ThreeBodies$Visits", name := "<init>", desc := "()V" } : Jvm.MethodName) prog_22_method_1_code (1 : Nat) (Option.none : Option Jvm.ClassFile.FieldType)) ∈ lw_all := lw_g (lw_at lw_m9 154 rfl) rfl
theorem q2173 : (Jvm.Cond.methodLink "ThreeBodies$Visits" (1 : Nat) ({ cls := "java/lang/Object", name := "<init>", desc := "()V" } : Jvm.MethodName)) ∈ lw_all := lw_g (lw_at lw_m9 155 rfl) rfl
theorem q2175 : (Jvm.Cond.lays "ThreeBodies$Visits" "ThreeBodies$Visits" "count" "I") ∈ lw_all := lw_g (lw_at lw_m9 157 rfl) rfl
theorem q2176 : (Jvm.Cond.soleField "ThreeBodies$Visits" "count") ∈ lw_all := lw_g (lw_at lw_m9 158 rfl) rfl
theorem q2177 : (Jvm.Cond.superclass "ThreeBodies$Visits" "java/lang/Object") ∈ lw_all := lw_g (lw_at lw_m9 159 rfl) rfl
theorem q3413 : (Jvm.Cond.castable "ThreeBodies$Visits" "java/lang/Object") ∈ lw_tbl := lw_at lw_m14 195 rfl
theorem in_X17 : ∀ w ∈ wsX170, w ∈ lw_all := lw_in wsX170 [2175] (by decide +kernel) (by decide +kernel)
/-! ThreeBodies$QueryParser -/
set_option maxRecDepth 100000
def RX18 : String := "ThreeBodies$QueryParser"
def TX18 : u_T := fun k => match k with
  | 0 => ("ThreeBodies$QueryParser", "scanner", "LThreeBodies$Scanner;", true)
  | 1 => ("ThreeBodies$QueryParser", "first", "Z", false)
  | _ => ("ThreeBodies$QueryParser", "open", "I", false)
def tyX18 : Nat → FieldType := fun k => match k with
  | 0 => .object "ThreeBodies$Scanner"
  | 1 => .boolean
  | _ => .int
abbrev wsX180 : List Cond := u_ws RX18 TX18 3
theorem nmX18 : ∀ a, a < 3 → ∀ b, b < 3 → a ≠ b → (TX18 a).2.1 ≠ (TX18 b).2.1 := by decide +kernel
theorem tyX18_ok : ∀ k, k < 3 → parseFieldDescriptor (TX18 k).2.2.1 = some (tyX18 k) := by decide +kernel
abbrev cX18_init : ByteArray := prog_11_method_1_code
def yX18_init : MethodName := ⟨RX18, "<init>", "(LThreeBodies$Scanner;)V"⟩
def dkwX18_init_0 : List UInt8 := [42, 183, 0, 3, 42, 43, 181, 0, 9, 177]
abbrev dktX18_init_0 : List UInt8 := dkwX18_init_0 ++ []
theorem dksX18_init_0 : cX18_init.data.toList.drop 0 = dktX18_init_0 := by decide +kernel
theorem dX18_init_0 : decode cX18_init 0 = .ok (.aload_n 0, 1) := dk_42 (dk_at dksX18_init_0 0 rfl rfl)
theorem dX18_init_1 : decode cX18_init 1 = .ok (.invokespecial 3, 3) := dk_183 0 3 (dk_at dksX18_init_0 1 rfl rfl)
theorem dX18_init_4 : decode cX18_init 4 = .ok (.aload_n 0, 1) := dk_42 (dk_at dksX18_init_0 4 rfl rfl)
theorem dX18_init_5 : decode cX18_init 5 = .ok (.aload_n 1, 1) := dk_43 (dk_at dksX18_init_0 5 rfl rfl)
theorem dX18_init_6 : decode cX18_init 6 = .ok (.putfield 9, 3) := dk_181 0 9 (dk_at dksX18_init_0 6 rfl rfl)
theorem dX18_init_9 : decode cX18_init 9 = .ok (.return_, 1) := dk_177 (dk_at dksX18_init_0 9 rfl rfl)
abbrev cX18_read : ByteArray := prog_11_method_2_code
def yX18_read : MethodName := ⟨RX18, "read", "()LThreeBodies$Test;"⟩
def dkwX18_read_0 : List UInt8 := [42, 182, 0, 15, 176, 76, 187, 0, 25, 89, 43, 183, 0, 27, 191]
abbrev dktX18_read_0 : List UInt8 := dkwX18_read_0 ++ []
theorem dksX18_read_0 : cX18_read.data.toList.drop 0 = dktX18_read_0 := by decide +kernel
theorem dX18_read_0 : decode cX18_read 0 = .ok (.aload_n 0, 1) := dk_42 (dk_at dksX18_read_0 0 rfl rfl)
theorem dX18_read_1 : decode cX18_read 1 = .ok (.invokevirtual 15, 3) := dk_182 0 15 (dk_at dksX18_read_0 1 rfl rfl)
theorem dX18_read_4 : decode cX18_read 4 = .ok (.areturn, 1) := dk_176 (dk_at dksX18_read_0 4 rfl rfl)
theorem dX18_read_5 : decode cX18_read 5 = .ok (.astore_n 1, 1) := dk_76 (dk_at dksX18_read_0 5 rfl rfl)
theorem dX18_read_6 : decode cX18_read 6 = .ok (.new 25, 3) := dk_187 0 25 (dk_at dksX18_read_0 6 rfl rfl)
theorem dX18_read_9 : decode cX18_read 9 = .ok (.dup, 1) := dk_89 (dk_at dksX18_read_0 9 rfl rfl)
theorem dX18_read_10 : decode cX18_read 10 = .ok (.aload_n 1, 1) := dk_43 (dk_at dksX18_read_0 10 rfl rfl)
theorem dX18_read_11 : decode cX18_read 11 = .ok (.invokespecial 27, 3) := dk_183 0 27 (dk_at dksX18_read_0 11 rfl rfl)
theorem dX18_read_14 : decode cX18_read 14 = .ok (.athrow, 1) := dk_191 (dk_at dksX18_read_0 14 rfl rfl)
abbrev cX18_whole : ByteArray := prog_11_method_3_code
def yX18_whole : MethodName := ⟨RX18, "whole", "()LThreeBodies$Test;"⟩
def dkwX18_whole_2 : List UInt8 := [182, 0, 50, 76, 42, 180, 0, 9, 180, 0, 53, 153, 0, 11, 42, 180, 0, 9, 182, 0, 43, 191, 43, 176]
abbrev dktX18_whole_2 : List UInt8 := dkwX18_whole_2 ++ []
def dkwX18_whole_1 : List UInt8 := [18, 41, 182, 0, 32, 154, 0, 11, 42, 180, 0, 9, 182, 0, 43, 191, 42, 180, 0, 9, 182, 0, 47, 42]
abbrev dktX18_whole_1 : List UInt8 := dkwX18_whole_1 ++ dktX18_whole_2
def dkwX18_whole_0 : List UInt8 := [42, 42, 180, 0, 9, 18, 30, 182, 0, 32, 181, 0, 38, 42, 180, 0, 38, 154, 0, 23, 42, 180, 0, 9]
abbrev dktX18_whole_0 : List UInt8 := dkwX18_whole_0 ++ dktX18_whole_1
theorem dksX18_whole_0 : cX18_whole.data.toList.drop 0 = dktX18_whole_0 := by decide +kernel
theorem dksX18_whole_1 : cX18_whole.data.toList.drop 24 = dktX18_whole_1 := dk_seg dksX18_whole_0 24 rfl rfl
theorem dksX18_whole_2 : cX18_whole.data.toList.drop 48 = dktX18_whole_2 := dk_seg dksX18_whole_1 24 rfl rfl
theorem dX18_whole_0 : decode cX18_whole 0 = .ok (.aload_n 0, 1) := dk_42 (dk_at dksX18_whole_0 0 rfl rfl)
theorem dX18_whole_1 : decode cX18_whole 1 = .ok (.aload_n 0, 1) := dk_42 (dk_at dksX18_whole_0 1 rfl rfl)
theorem dX18_whole_2 : decode cX18_whole 2 = .ok (.getfield 9, 3) := dk_180 0 9 (dk_at dksX18_whole_0 2 rfl rfl)
theorem dX18_whole_5 : decode cX18_whole 5 = .ok (.ldc 30, 2) := dk_18 30 (dk_at dksX18_whole_0 5 rfl rfl)
theorem dX18_whole_7 : decode cX18_whole 7 = .ok (.invokevirtual 32, 3) := dk_182 0 32 (dk_at dksX18_whole_0 7 rfl rfl)
theorem dX18_whole_10 : decode cX18_whole 10 = .ok (.putfield 38, 3) := dk_181 0 38 (dk_at dksX18_whole_0 10 rfl rfl)
theorem dX18_whole_13 : decode cX18_whole 13 = .ok (.aload_n 0, 1) := dk_42 (dk_at dksX18_whole_0 13 rfl rfl)
theorem dX18_whole_14 : decode cX18_whole 14 = .ok (.getfield 38, 3) := dk_180 0 38 (dk_at dksX18_whole_0 14 rfl rfl)
theorem dX18_whole_17 : decode cX18_whole 17 = .ok (.ifCond .ne 23, 3) := dk_154 0 23 (dk_at dksX18_whole_0 17 rfl rfl)
theorem dX18_whole_20 : decode cX18_whole 20 = .ok (.aload_n 0, 1) := dk_42 (dk_at dksX18_whole_0 20 rfl rfl)
theorem dX18_whole_21 : decode cX18_whole 21 = .ok (.getfield 9, 3) := dk_180 0 9 (dk_at dksX18_whole_0 21 rfl rfl)
theorem dX18_whole_24 : decode cX18_whole 24 = .ok (.ldc 41, 2) := dk_18 41 (dk_at dksX18_whole_1 0 rfl rfl)
theorem dX18_whole_26 : decode cX18_whole 26 = .ok (.invokevirtual 32, 3) := dk_182 0 32 (dk_at dksX18_whole_1 2 rfl rfl)
theorem dX18_whole_29 : decode cX18_whole 29 = .ok (.ifCond .ne 11, 3) := dk_154 0 11 (dk_at dksX18_whole_1 5 rfl rfl)
theorem dX18_whole_32 : decode cX18_whole 32 = .ok (.aload_n 0, 1) := dk_42 (dk_at dksX18_whole_1 8 rfl rfl)
theorem dX18_whole_33 : decode cX18_whole 33 = .ok (.getfield 9, 3) := dk_180 0 9 (dk_at dksX18_whole_1 9 rfl rfl)
theorem dX18_whole_36 : decode cX18_whole 36 = .ok (.invokevirtual 43, 3) := dk_182 0 43 (dk_at dksX18_whole_1 12 rfl rfl)
theorem dX18_whole_39 : decode cX18_whole 39 = .ok (.athrow, 1) := dk_191 (dk_at dksX18_whole_1 15 rfl rfl)
theorem dX18_whole_40 : decode cX18_whole 40 = .ok (.aload_n 0, 1) := dk_42 (dk_at dksX18_whole_1 16 rfl rfl)
theorem dX18_whole_41 : decode cX18_whole 41 = .ok (.getfield 9, 3) := dk_180 0 9 (dk_at dksX18_whole_1 17 rfl rfl)
theorem dX18_whole_44 : decode cX18_whole 44 = .ok (.invokevirtual 47, 3) := dk_182 0 47 (dk_at dksX18_whole_1 20 rfl rfl)
theorem dX18_whole_47 : decode cX18_whole 47 = .ok (.aload_n 0, 1) := dk_42 (dk_at dksX18_whole_1 23 rfl rfl)
theorem dX18_whole_48 : decode cX18_whole 48 = .ok (.invokevirtual 50, 3) := dk_182 0 50 (dk_at dksX18_whole_2 0 rfl rfl)
theorem dX18_whole_51 : decode cX18_whole 51 = .ok (.astore_n 1, 1) := dk_76 (dk_at dksX18_whole_2 3 rfl rfl)
theorem dX18_whole_52 : decode cX18_whole 52 = .ok (.aload_n 0, 1) := dk_42 (dk_at dksX18_whole_2 4 rfl rfl)
theorem dX18_whole_53 : decode cX18_whole 53 = .ok (.getfield 9, 3) := dk_180 0 9 (dk_at dksX18_whole_2 5 rfl rfl)
theorem dX18_whole_56 : decode cX18_whole 56 = .ok (.getfield 53, 3) := dk_180 0 53 (dk_at dksX18_whole_2 8 rfl rfl)
theorem dX18_whole_59 : decode cX18_whole 59 = .ok (.ifCond .eq 11, 3) := dk_153 0 11 (dk_at dksX18_whole_2 11 rfl rfl)
theorem dX18_whole_62 : decode cX18_whole 62 = .ok (.aload_n 0, 1) := dk_42 (dk_at dksX18_whole_2 14 rfl rfl)
theorem dX18_whole_63 : decode cX18_whole 63 = .ok (.getfield 9, 3) := dk_180 0 9 (dk_at dksX18_whole_2 15 rfl rfl)
theorem dX18_whole_66 : decode cX18_whole 66 = .ok (.invokevirtual 43, 3) := dk_182 0 43 (dk_at dksX18_whole_2 18 rfl rfl)
theorem dX18_whole_69 : decode cX18_whole 69 = .ok (.athrow, 1) := dk_191 (dk_at dksX18_whole_2 21 rfl rfl)
theorem dX18_whole_70 : decode cX18_whole 70 = .ok (.aload_n 1, 1) := dk_43 (dk_at dksX18_whole_2 22 rfl rfl)
theorem dX18_whole_71 : decode cX18_whole 71 = .ok (.areturn, 1) := dk_176 (dk_at dksX18_whole_2 23 rfl rfl)
abbrev cX18_test : ByteArray := prog_11_method_4_code
def yX18_test : MethodName := ⟨RX18, "test", "()LThreeBodies$Test;"⟩
def dkwX18_test_1 : List UInt8 := [182, 0, 71, 154, 255, 239, 43, 176]
abbrev dktX18_test_1 : List UInt8 := dkwX18_test_1 ++ []
def dkwX18_test_0 : List UInt8 := [187, 0, 57, 89, 3, 183, 0, 59, 76, 43, 42, 182, 0, 62, 182, 0, 65, 42, 180, 0, 9, 18, 69]
abbrev dktX18_test_0 : List UInt8 := dkwX18_test_0 ++ dktX18_test_1
theorem dksX18_test_0 : cX18_test.data.toList.drop 0 = dktX18_test_0 := by decide +kernel
theorem dksX18_test_1 : cX18_test.data.toList.drop 23 = dktX18_test_1 := dk_seg dksX18_test_0 23 rfl rfl
theorem dX18_test_0 : decode cX18_test 0 = .ok (.new 57, 3) := dk_187 0 57 (dk_at dksX18_test_0 0 rfl rfl)
theorem dX18_test_3 : decode cX18_test 3 = .ok (.dup, 1) := dk_89 (dk_at dksX18_test_0 3 rfl rfl)
theorem dX18_test_4 : decode cX18_test 4 = .ok (.iconst 0, 1) := dk_3 (dk_at dksX18_test_0 4 rfl rfl)
theorem dX18_test_5 : decode cX18_test 5 = .ok (.invokespecial 59, 3) := dk_183 0 59 (dk_at dksX18_test_0 5 rfl rfl)
theorem dX18_test_8 : decode cX18_test 8 = .ok (.astore_n 1, 1) := dk_76 (dk_at dksX18_test_0 8 rfl rfl)
theorem dX18_test_9 : decode cX18_test 9 = .ok (.aload_n 1, 1) := dk_43 (dk_at dksX18_test_0 9 rfl rfl)
theorem dX18_test_10 : decode cX18_test 10 = .ok (.aload_n 0, 1) := dk_42 (dk_at dksX18_test_0 10 rfl rfl)
theorem dX18_test_11 : decode cX18_test 11 = .ok (.invokevirtual 62, 3) := dk_182 0 62 (dk_at dksX18_test_0 11 rfl rfl)
theorem dX18_test_14 : decode cX18_test 14 = .ok (.invokevirtual 65, 3) := dk_182 0 65 (dk_at dksX18_test_0 14 rfl rfl)
theorem dX18_test_17 : decode cX18_test 17 = .ok (.aload_n 0, 1) := dk_42 (dk_at dksX18_test_0 17 rfl rfl)
theorem dX18_test_18 : decode cX18_test 18 = .ok (.getfield 9, 3) := dk_180 0 9 (dk_at dksX18_test_0 18 rfl rfl)
theorem dX18_test_21 : decode cX18_test 21 = .ok (.ldc 69, 2) := dk_18 69 (dk_at dksX18_test_0 21 rfl rfl)
theorem dX18_test_23 : decode cX18_test 23 = .ok (.invokevirtual 71, 3) := dk_182 0 71 (dk_at dksX18_test_1 0 rfl rfl)
theorem dX18_test_26 : decode cX18_test 26 = .ok (.ifCond .ne (-17), 3) := dk_154 255 239 (dk_at dksX18_test_1 3 rfl rfl)
theorem dX18_test_29 : decode cX18_test 29 = .ok (.aload_n 1, 1) := dk_43 (dk_at dksX18_test_1 6 rfl rfl)
theorem dX18_test_30 : decode cX18_test 30 = .ok (.areturn, 1) := dk_176 (dk_at dksX18_test_1 7 rfl rfl)
abbrev cX18_conjunction : ByteArray := prog_11_method_5_code
def yX18_conjunction : MethodName := ⟨RX18, "conjunction", "()LThreeBodies$Test;"⟩
def dkwX18_conjunction_1 : List UInt8 := [182, 0, 71, 154, 255, 239, 43, 176]
abbrev dktX18_conjunction_1 : List UInt8 := dkwX18_conjunction_1 ++ []
def dkwX18_conjunction_0 : List UInt8 := [187, 0, 57, 89, 4, 183, 0, 59, 76, 43, 42, 182, 0, 74, 182, 0, 65, 42, 180, 0, 9, 18, 77]
abbrev dktX18_conjunction_0 : List UInt8 := dkwX18_conjunction_0 ++ dktX18_conjunction_1
theorem dksX18_conjunction_0 : cX18_conjunction.data.toList.drop 0 = dktX18_conjunction_0 := by decide +kernel
theorem dksX18_conjunction_1 : cX18_conjunction.data.toList.drop 23 = dktX18_conjunction_1 := dk_seg dksX18_conjunction_0 23 rfl rfl
theorem dX18_conjunction_0 : decode cX18_conjunction 0 = .ok (.new 57, 3) := dk_187 0 57 (dk_at dksX18_conjunction_0 0 rfl rfl)
theorem dX18_conjunction_3 : decode cX18_conjunction 3 = .ok (.dup, 1) := dk_89 (dk_at dksX18_conjunction_0 3 rfl rfl)
theorem dX18_conjunction_4 : decode cX18_conjunction 4 = .ok (.iconst 1, 1) := dk_4 (dk_at dksX18_conjunction_0 4 rfl rfl)
theorem dX18_conjunction_5 : decode cX18_conjunction 5 = .ok (.invokespecial 59, 3) := dk_183 0 59 (dk_at dksX18_conjunction_0 5 rfl rfl)
theorem dX18_conjunction_8 : decode cX18_conjunction 8 = .ok (.astore_n 1, 1) := dk_76 (dk_at dksX18_conjunction_0 8 rfl rfl)
theorem dX18_conjunction_9 : decode cX18_conjunction 9 = .ok (.aload_n 1, 1) := dk_43 (dk_at dksX18_conjunction_0 9 rfl rfl)
theorem dX18_conjunction_10 : decode cX18_conjunction 10 = .ok (.aload_n 0, 1) := dk_42 (dk_at dksX18_conjunction_0 10 rfl rfl)
theorem dX18_conjunction_11 : decode cX18_conjunction 11 = .ok (.invokevirtual 74, 3) := dk_182 0 74 (dk_at dksX18_conjunction_0 11 rfl rfl)
theorem dX18_conjunction_14 : decode cX18_conjunction 14 = .ok (.invokevirtual 65, 3) := dk_182 0 65 (dk_at dksX18_conjunction_0 14 rfl rfl)
theorem dX18_conjunction_17 : decode cX18_conjunction 17 = .ok (.aload_n 0, 1) := dk_42 (dk_at dksX18_conjunction_0 17 rfl rfl)
theorem dX18_conjunction_18 : decode cX18_conjunction 18 = .ok (.getfield 9, 3) := dk_180 0 9 (dk_at dksX18_conjunction_0 18 rfl rfl)
theorem dX18_conjunction_21 : decode cX18_conjunction 21 = .ok (.ldc 77, 2) := dk_18 77 (dk_at dksX18_conjunction_0 21 rfl rfl)
theorem dX18_conjunction_23 : decode cX18_conjunction 23 = .ok (.invokevirtual 71, 3) := dk_182 0 71 (dk_at dksX18_conjunction_1 0 rfl rfl)
theorem dX18_conjunction_26 : decode cX18_conjunction 26 = .ok (.ifCond .ne (-17), 3) := dk_154 255 239 (dk_at dksX18_conjunction_1 3 rfl rfl)
theorem dX18_conjunction_29 : decode cX18_conjunction 29 = .ok (.aload_n 1, 1) := dk_43 (dk_at dksX18_conjunction_1 6 rfl rfl)
theorem dX18_conjunction_30 : decode cX18_conjunction 30 = .ok (.areturn, 1) := dk_176 (dk_at dksX18_conjunction_1 7 rfl rfl)
abbrev cX18_factor : ByteArray := prog_11_method_7_code
def yX18_factor : MethodName := ⟨RX18, "factor", "()LThreeBodies$Test;"⟩
def dkwX18_factor_3 : List UInt8 := [180, 0, 79, 4, 100, 181, 0, 79, 43, 176, 42, 182, 0, 105, 176]
abbrev dktX18_factor_3 : List UInt8 := dkwX18_factor_3 ++ []
def dkwX18_factor_2 : List UInt8 := [153, 0, 33, 42, 182, 0, 90, 42, 182, 0, 50, 76, 42, 180, 0, 9, 16, 41, 182, 0, 101, 42, 89]
abbrev dktX18_factor_2 : List UInt8 := dkwX18_factor_2 ++ dktX18_factor_3
def dkwX18_factor_1 : List UInt8 := [180, 0, 79, 4, 100, 181, 0, 79, 43, 186, 0, 93, 0, 0, 176, 42, 180, 0, 9, 16, 40, 182, 0, 97]
abbrev dktX18_factor_1 : List UInt8 := dkwX18_factor_1 ++ dktX18_factor_2
def dkwX18_factor_0 : List UInt8 := [42, 180, 0, 9, 18, 88, 182, 0, 32, 153, 0, 29, 42, 182, 0, 90, 42, 182, 0, 74, 76, 42, 89]
abbrev dktX18_factor_0 : List UInt8 := dkwX18_factor_0 ++ dktX18_factor_1
theorem dksX18_factor_0 : cX18_factor.data.toList.drop 0 = dktX18_factor_0 := by decide +kernel
theorem dksX18_factor_1 : cX18_factor.data.toList.drop 23 = dktX18_factor_1 := dk_seg dksX18_factor_0 23 rfl rfl
theorem dksX18_factor_2 : cX18_factor.data.toList.drop 47 = dktX18_factor_2 := dk_seg dksX18_factor_1 24 rfl rfl
theorem dksX18_factor_3 : cX18_factor.data.toList.drop 70 = dktX18_factor_3 := dk_seg dksX18_factor_2 23 rfl rfl
theorem dX18_factor_0 : decode cX18_factor 0 = .ok (.aload_n 0, 1) := dk_42 (dk_at dksX18_factor_0 0 rfl rfl)
theorem dX18_factor_1 : decode cX18_factor 1 = .ok (.getfield 9, 3) := dk_180 0 9 (dk_at dksX18_factor_0 1 rfl rfl)
theorem dX18_factor_4 : decode cX18_factor 4 = .ok (.ldc 88, 2) := dk_18 88 (dk_at dksX18_factor_0 4 rfl rfl)
theorem dX18_factor_6 : decode cX18_factor 6 = .ok (.invokevirtual 32, 3) := dk_182 0 32 (dk_at dksX18_factor_0 6 rfl rfl)
theorem dX18_factor_9 : decode cX18_factor 9 = .ok (.ifCond .eq 29, 3) := dk_153 0 29 (dk_at dksX18_factor_0 9 rfl rfl)
theorem dX18_factor_12 : decode cX18_factor 12 = .ok (.aload_n 0, 1) := dk_42 (dk_at dksX18_factor_0 12 rfl rfl)
theorem dX18_factor_13 : decode cX18_factor 13 = .ok (.invokevirtual 90, 3) := dk_182 0 90 (dk_at dksX18_factor_0 13 rfl rfl)
theorem dX18_factor_16 : decode cX18_factor 16 = .ok (.aload_n 0, 1) := dk_42 (dk_at dksX18_factor_0 16 rfl rfl)
theorem dX18_factor_17 : decode cX18_factor 17 = .ok (.invokevirtual 74, 3) := dk_182 0 74 (dk_at dksX18_factor_0 17 rfl rfl)
theorem dX18_factor_20 : decode cX18_factor 20 = .ok (.astore_n 1, 1) := dk_76 (dk_at dksX18_factor_0 20 rfl rfl)
theorem dX18_factor_21 : decode cX18_factor 21 = .ok (.aload_n 0, 1) := dk_42 (dk_at dksX18_factor_0 21 rfl rfl)
theorem dX18_factor_22 : decode cX18_factor 22 = .ok (.dup, 1) := dk_89 (dk_at dksX18_factor_0 22 rfl rfl)
theorem dX18_factor_23 : decode cX18_factor 23 = .ok (.getfield 79, 3) := dk_180 0 79 (dk_at dksX18_factor_1 0 rfl rfl)
theorem dX18_factor_26 : decode cX18_factor 26 = .ok (.iconst 1, 1) := dk_4 (dk_at dksX18_factor_1 3 rfl rfl)
theorem dX18_factor_27 : decode cX18_factor 27 = .ok (.isub, 1) := dk_100 (dk_at dksX18_factor_1 4 rfl rfl)
theorem dX18_factor_28 : decode cX18_factor 28 = .ok (.putfield 79, 3) := dk_181 0 79 (dk_at dksX18_factor_1 5 rfl rfl)
theorem dX18_factor_31 : decode cX18_factor 31 = .ok (.aload_n 1, 1) := dk_43 (dk_at dksX18_factor_1 8 rfl rfl)
theorem dX18_factor_32 : decode cX18_factor 32 = .ok (.invokedynamic 93, 5) := by decide +kernel
theorem dX18_factor_37 : decode cX18_factor 37 = .ok (.areturn, 1) := dk_176 (dk_at dksX18_factor_1 14 rfl rfl)
theorem dX18_factor_38 : decode cX18_factor 38 = .ok (.aload_n 0, 1) := dk_42 (dk_at dksX18_factor_1 15 rfl rfl)
theorem dX18_factor_39 : decode cX18_factor 39 = .ok (.getfield 9, 3) := dk_180 0 9 (dk_at dksX18_factor_1 16 rfl rfl)
theorem dX18_factor_42 : decode cX18_factor 42 = .ok (.bipush 40, 2) := dk_16 40 (dk_at dksX18_factor_1 19 rfl rfl)
theorem dX18_factor_44 : decode cX18_factor 44 = .ok (.invokevirtual 97, 3) := dk_182 0 97 (dk_at dksX18_factor_1 21 rfl rfl)
theorem dX18_factor_47 : decode cX18_factor 47 = .ok (.ifCond .eq 33, 3) := dk_153 0 33 (dk_at dksX18_factor_2 0 rfl rfl)
theorem dX18_factor_50 : decode cX18_factor 50 = .ok (.aload_n 0, 1) := dk_42 (dk_at dksX18_factor_2 3 rfl rfl)
theorem dX18_factor_51 : decode cX18_factor 51 = .ok (.invokevirtual 90, 3) := dk_182 0 90 (dk_at dksX18_factor_2 4 rfl rfl)
theorem dX18_factor_54 : decode cX18_factor 54 = .ok (.aload_n 0, 1) := dk_42 (dk_at dksX18_factor_2 7 rfl rfl)
theorem dX18_factor_55 : decode cX18_factor 55 = .ok (.invokevirtual 50, 3) := dk_182 0 50 (dk_at dksX18_factor_2 8 rfl rfl)
theorem dX18_factor_58 : decode cX18_factor 58 = .ok (.astore_n 1, 1) := dk_76 (dk_at dksX18_factor_2 11 rfl rfl)
theorem dX18_factor_59 : decode cX18_factor 59 = .ok (.aload_n 0, 1) := dk_42 (dk_at dksX18_factor_2 12 rfl rfl)
theorem dX18_factor_60 : decode cX18_factor 60 = .ok (.getfield 9, 3) := dk_180 0 9 (dk_at dksX18_factor_2 13 rfl rfl)
theorem dX18_factor_63 : decode cX18_factor 63 = .ok (.bipush 41, 2) := dk_16 41 (dk_at dksX18_factor_2 16 rfl rfl)
theorem dX18_factor_65 : decode cX18_factor 65 = .ok (.invokevirtual 101, 3) := dk_182 0 101 (dk_at dksX18_factor_2 18 rfl rfl)
theorem dX18_factor_68 : decode cX18_factor 68 = .ok (.aload_n 0, 1) := dk_42 (dk_at dksX18_factor_2 21 rfl rfl)
theorem dX18_factor_69 : decode cX18_factor 69 = .ok (.dup, 1) := dk_89 (dk_at dksX18_factor_2 22 rfl rfl)
theorem dX18_factor_70 : decode cX18_factor 70 = .ok (.getfield 79, 3) := dk_180 0 79 (dk_at dksX18_factor_3 0 rfl rfl)
theorem dX18_factor_73 : decode cX18_factor 73 = .ok (.iconst 1, 1) := dk_4 (dk_at dksX18_factor_3 3 rfl rfl)
theorem dX18_factor_74 : decode cX18_factor 74 = .ok (.isub, 1) := dk_100 (dk_at dksX18_factor_3 4 rfl rfl)
theorem dX18_factor_75 : decode cX18_factor 75 = .ok (.putfield 79, 3) := dk_181 0 79 (dk_at dksX18_factor_3 5 rfl rfl)
theorem dX18_factor_78 : decode cX18_factor 78 = .ok (.aload_n 1, 1) := dk_43 (dk_at dksX18_factor_3 8 rfl rfl)
theorem dX18_factor_79 : decode cX18_factor 79 = .ok (.areturn, 1) := dk_176 (dk_at dksX18_factor_3 9 rfl rfl)
theorem dX18_factor_80 : decode cX18_factor 80 = .ok (.aload_n 0, 1) := dk_42 (dk_at dksX18_factor_3 10 rfl rfl)
theorem dX18_factor_81 : decode cX18_factor 81 = .ok (.invokevirtual 105, 3) := dk_182 0 105 (dk_at dksX18_factor_3 11 rfl rfl)
theorem dX18_factor_84 : decode cX18_factor 84 = .ok (.areturn, 1) := dk_176 (dk_at dksX18_factor_3 14 rfl rfl)
abbrev cX18_enter : ByteArray := prog_11_method_6_code
def yX18_enter : MethodName := ⟨RX18, "enter", "()V"⟩
def dkwX18_enter_1 : List UInt8 := [42, 89, 180, 0, 79, 4, 96, 181, 0, 79, 42, 180, 0, 9, 182, 0, 47, 177]
abbrev dktX18_enter_1 : List UInt8 := dkwX18_enter_1 ++ []
def dkwX18_enter_0 : List UInt8 := [42, 180, 0, 79, 16, 6, 160, 0, 18, 187, 0, 23, 89, 42, 180, 0, 9, 180, 0, 82, 183, 0, 85, 191]
abbrev dktX18_enter_0 : List UInt8 := dkwX18_enter_0 ++ dktX18_enter_1
theorem dksX18_enter_0 : cX18_enter.data.toList.drop 0 = dktX18_enter_0 := by decide +kernel
theorem dksX18_enter_1 : cX18_enter.data.toList.drop 24 = dktX18_enter_1 := dk_seg dksX18_enter_0 24 rfl rfl
theorem dX18_enter_0 : decode cX18_enter 0 = .ok (.aload_n 0, 1) := dk_42 (dk_at dksX18_enter_0 0 rfl rfl)
theorem dX18_enter_1 : decode cX18_enter 1 = .ok (.getfield 79, 3) := dk_180 0 79 (dk_at dksX18_enter_0 1 rfl rfl)
theorem dX18_enter_4 : decode cX18_enter 4 = .ok (.bipush 6, 2) := dk_16 6 (dk_at dksX18_enter_0 4 rfl rfl)
theorem dX18_enter_6 : decode cX18_enter 6 = .ok (.if_icmp .ne 18, 3) := dk_160 0 18 (dk_at dksX18_enter_0 6 rfl rfl)
theorem dX18_enter_9 : decode cX18_enter 9 = .ok (.new 23, 3) := dk_187 0 23 (dk_at dksX18_enter_0 9 rfl rfl)
theorem dX18_enter_12 : decode cX18_enter 12 = .ok (.dup, 1) := dk_89 (dk_at dksX18_enter_0 12 rfl rfl)
theorem dX18_enter_13 : decode cX18_enter 13 = .ok (.aload_n 0, 1) := dk_42 (dk_at dksX18_enter_0 13 rfl rfl)
theorem dX18_enter_14 : decode cX18_enter 14 = .ok (.getfield 9, 3) := dk_180 0 9 (dk_at dksX18_enter_0 14 rfl rfl)
theorem dX18_enter_17 : decode cX18_enter 17 = .ok (.getfield 82, 3) := dk_180 0 82 (dk_at dksX18_enter_0 17 rfl rfl)
theorem dX18_enter_20 : decode cX18_enter 20 = .ok (.invokespecial 85, 3) := dk_183 0 85 (dk_at dksX18_enter_0 20 rfl rfl)
theorem dX18_enter_23 : decode cX18_enter 23 = .ok (.athrow, 1) := dk_191 (dk_at dksX18_enter_0 23 rfl rfl)
theorem dX18_enter_24 : decode cX18_enter 24 = .ok (.aload_n 0, 1) := dk_42 (dk_at dksX18_enter_1 0 rfl rfl)
theorem dX18_enter_25 : decode cX18_enter 25 = .ok (.dup, 1) := dk_89 (dk_at dksX18_enter_1 1 rfl rfl)
theorem dX18_enter_26 : decode cX18_enter 26 = .ok (.getfield 79, 3) := dk_180 0 79 (dk_at dksX18_enter_1 2 rfl rfl)
theorem dX18_enter_29 : decode cX18_enter 29 = .ok (.iconst 1, 1) := dk_4 (dk_at dksX18_enter_1 5 rfl rfl)
theorem dX18_enter_30 : decode cX18_enter 30 = .ok (.iadd, 1) := dk_96 (dk_at dksX18_enter_1 6 rfl rfl)
theorem dX18_enter_31 : decode cX18_enter 31 = .ok (.putfield 79, 3) := dk_181 0 79 (dk_at dksX18_enter_1 7 rfl rfl)
theorem dX18_enter_34 : decode cX18_enter 34 = .ok (.aload_n 0, 1) := dk_42 (dk_at dksX18_enter_1 10 rfl rfl)
theorem dX18_enter_35 : decode cX18_enter 35 = .ok (.getfield 9, 3) := dk_180 0 9 (dk_at dksX18_enter_1 11 rfl rfl)
theorem dX18_enter_38 : decode cX18_enter 38 = .ok (.invokevirtual 47, 3) := dk_182 0 47 (dk_at dksX18_enter_1 14 rfl rfl)
theorem dX18_enter_41 : decode cX18_enter 41 = .ok (.return_, 1) := dk_177 (dk_at dksX18_enter_1 17 rfl rfl)
abbrev cX18_lambda_factor_0 : ByteArray := prog_11_method_12_code
def yX18_lambda_factor_0 : MethodName := ⟨RX18, "lambda$factor$0", "(LThreeBodies$Test;LThreeBodies$Approach;I)Z"⟩
def dkwX18_lambda_factor_0_0 : List UInt8 := [42, 43, 28, 185, 0, 137, 3, 0, 154, 0, 7, 4, 167, 0, 4, 3, 172]
abbrev dktX18_lambda_factor_0_0 : List UInt8 := dkwX18_lambda_factor_0_0 ++ []
theorem dksX18_lambda_factor_0_0 : cX18_lambda_factor_0.data.toList.drop 0 = dktX18_lambda_factor_0_0 := by decide +kernel
theorem dX18_lambda_factor_0_0 : decode cX18_lambda_factor_0 0 = .ok (.aload_n 0, 1) := dk_42 (dk_at dksX18_lambda_factor_0_0 0 rfl rfl)
theorem dX18_lambda_factor_0_1 : decode cX18_lambda_factor_0 1 = .ok (.aload_n 1, 1) := dk_43 (dk_at dksX18_lambda_factor_0_0 1 rfl rfl)
theorem dX18_lambda_factor_0_2 : decode cX18_lambda_factor_0 2 = .ok (.iload_n 2, 1) := dk_28 (dk_at dksX18_lambda_factor_0_0 2 rfl rfl)
theorem dX18_lambda_factor_0_3 : decode cX18_lambda_factor_0 3 = .ok (.invokeinterface 137 3, 5) := by decide +kernel
theorem dX18_lambda_factor_0_8 : decode cX18_lambda_factor_0 8 = .ok (.ifCond .ne 7, 3) := dk_154 0 7 (dk_at dksX18_lambda_factor_0_0 8 rfl rfl)
theorem dX18_lambda_factor_0_11 : decode cX18_lambda_factor_0 11 = .ok (.iconst 1, 1) := dk_4 (dk_at dksX18_lambda_factor_0_0 11 rfl rfl)
theorem dX18_lambda_factor_0_12 : decode cX18_lambda_factor_0 12 = .ok (.goto 4, 3) := dk_167 0 4 (dk_at dksX18_lambda_factor_0_0 12 rfl rfl)
theorem dX18_lambda_factor_0_15 : decode cX18_lambda_factor_0 15 = .ok (.iconst 0, 1) := dk_3 (dk_at dksX18_lambda_factor_0_0 15 rfl rfl)
theorem dX18_lambda_factor_0_16 : decode cX18_lambda_factor_0 16 = .ok (.ireturn, 1) := dk_172 (dk_at dksX18_lambda_factor_0_0 16 rfl rfl)
abbrev cX18_comparison : ByteArray := prog_11_method_8_code
def yX18_comparison : MethodName := ⟨RX18, "comparison", "()LThreeBodies$Test;"⟩
def dkwX18_comparison_3 : List UInt8 := [29, 186, 0, 112, 0, 0, 176]
abbrev dktX18_comparison_3 : List UInt8 := dkwX18_comparison_3 ++ []
def dkwX18_comparison_2 : List UInt8 := [180, 0, 9, 182, 0, 43, 191, 42, 180, 0, 9, 182, 0, 47, 42, 182, 0, 108, 58, 4, 43, 25, 4, 28]
abbrev dktX18_comparison_2 : List UInt8 := dkwX18_comparison_2 ++ dktX18_comparison_3
def dkwX18_comparison_1 : List UInt8 := [62, 28, 154, 0, 27, 29, 154, 0, 23, 42, 180, 0, 9, 16, 62, 182, 0, 97, 154, 0, 11, 42]
abbrev dktX18_comparison_1 : List UInt8 := dkwX18_comparison_1 ++ dktX18_comparison_2
def dkwX18_comparison_0 : List UInt8 := [42, 182, 0, 108, 76, 42, 180, 0, 9, 16, 60, 182, 0, 97, 61, 42, 180, 0, 9, 16, 61, 182, 0, 97]
abbrev dktX18_comparison_0 : List UInt8 := dkwX18_comparison_0 ++ dktX18_comparison_1
theorem dksX18_comparison_0 : cX18_comparison.data.toList.drop 0 = dktX18_comparison_0 := by decide +kernel
theorem dksX18_comparison_1 : cX18_comparison.data.toList.drop 24 = dktX18_comparison_1 := dk_seg dksX18_comparison_0 24 rfl rfl
theorem dksX18_comparison_2 : cX18_comparison.data.toList.drop 46 = dktX18_comparison_2 := dk_seg dksX18_comparison_1 22 rfl rfl
theorem dksX18_comparison_3 : cX18_comparison.data.toList.drop 70 = dktX18_comparison_3 := dk_seg dksX18_comparison_2 24 rfl rfl
theorem dX18_comparison_0 : decode cX18_comparison 0 = .ok (.aload_n 0, 1) := dk_42 (dk_at dksX18_comparison_0 0 rfl rfl)
theorem dX18_comparison_1 : decode cX18_comparison 1 = .ok (.invokevirtual 108, 3) := dk_182 0 108 (dk_at dksX18_comparison_0 1 rfl rfl)
theorem dX18_comparison_4 : decode cX18_comparison 4 = .ok (.astore_n 1, 1) := dk_76 (dk_at dksX18_comparison_0 4 rfl rfl)
theorem dX18_comparison_5 : decode cX18_comparison 5 = .ok (.aload_n 0, 1) := dk_42 (dk_at dksX18_comparison_0 5 rfl rfl)
theorem dX18_comparison_6 : decode cX18_comparison 6 = .ok (.getfield 9, 3) := dk_180 0 9 (dk_at dksX18_comparison_0 6 rfl rfl)
theorem dX18_comparison_9 : decode cX18_comparison 9 = .ok (.bipush 60, 2) := dk_16 60 (dk_at dksX18_comparison_0 9 rfl rfl)
theorem dX18_comparison_11 : decode cX18_comparison 11 = .ok (.invokevirtual 97, 3) := dk_182 0 97 (dk_at dksX18_comparison_0 11 rfl rfl)
theorem dX18_comparison_14 : decode cX18_comparison 14 = .ok (.istore_n 2, 1) := dk_61 (dk_at dksX18_comparison_0 14 rfl rfl)
theorem dX18_comparison_15 : decode cX18_comparison 15 = .ok (.aload_n 0, 1) := dk_42 (dk_at dksX18_comparison_0 15 rfl rfl)
theorem dX18_comparison_16 : decode cX18_comparison 16 = .ok (.getfield 9, 3) := dk_180 0 9 (dk_at dksX18_comparison_0 16 rfl rfl)
theorem dX18_comparison_19 : decode cX18_comparison 19 = .ok (.bipush 61, 2) := dk_16 61 (dk_at dksX18_comparison_0 19 rfl rfl)
theorem dX18_comparison_21 : decode cX18_comparison 21 = .ok (.invokevirtual 97, 3) := dk_182 0 97 (dk_at dksX18_comparison_0 21 rfl rfl)
theorem dX18_comparison_24 : decode cX18_comparison 24 = .ok (.istore_n 3, 1) := dk_62 (dk_at dksX18_comparison_1 0 rfl rfl)
theorem dX18_comparison_25 : decode cX18_comparison 25 = .ok (.iload_n 2, 1) := dk_28 (dk_at dksX18_comparison_1 1 rfl rfl)
theorem dX18_comparison_26 : decode cX18_comparison 26 = .ok (.ifCond .ne 27, 3) := dk_154 0 27 (dk_at dksX18_comparison_1 2 rfl rfl)
theorem dX18_comparison_29 : decode cX18_comparison 29 = .ok (.iload_n 3, 1) := dk_29 (dk_at dksX18_comparison_1 5 rfl rfl)
theorem dX18_comparison_30 : decode cX18_comparison 30 = .ok (.ifCond .ne 23, 3) := dk_154 0 23 (dk_at dksX18_comparison_1 6 rfl rfl)
theorem dX18_comparison_33 : decode cX18_comparison 33 = .ok (.aload_n 0, 1) := dk_42 (dk_at dksX18_comparison_1 9 rfl rfl)
theorem dX18_comparison_34 : decode cX18_comparison 34 = .ok (.getfield 9, 3) := dk_180 0 9 (dk_at dksX18_comparison_1 10 rfl rfl)
theorem dX18_comparison_37 : decode cX18_comparison 37 = .ok (.bipush 62, 2) := dk_16 62 (dk_at dksX18_comparison_1 13 rfl rfl)
theorem dX18_comparison_39 : decode cX18_comparison 39 = .ok (.invokevirtual 97, 3) := dk_182 0 97 (dk_at dksX18_comparison_1 15 rfl rfl)
theorem dX18_comparison_42 : decode cX18_comparison 42 = .ok (.ifCond .ne 11, 3) := dk_154 0 11 (dk_at dksX18_comparison_1 18 rfl rfl)
theorem dX18_comparison_45 : decode cX18_comparison 45 = .ok (.aload_n 0, 1) := dk_42 (dk_at dksX18_comparison_1 21 rfl rfl)
theorem dX18_comparison_46 : decode cX18_comparison 46 = .ok (.getfield 9, 3) := dk_180 0 9 (dk_at dksX18_comparison_2 0 rfl rfl)
theorem dX18_comparison_49 : decode cX18_comparison 49 = .ok (.invokevirtual 43, 3) := dk_182 0 43 (dk_at dksX18_comparison_2 3 rfl rfl)
theorem dX18_comparison_52 : decode cX18_comparison 52 = .ok (.athrow, 1) := dk_191 (dk_at dksX18_comparison_2 6 rfl rfl)
theorem dX18_comparison_53 : decode cX18_comparison 53 = .ok (.aload_n 0, 1) := dk_42 (dk_at dksX18_comparison_2 7 rfl rfl)
theorem dX18_comparison_54 : decode cX18_comparison 54 = .ok (.getfield 9, 3) := dk_180 0 9 (dk_at dksX18_comparison_2 8 rfl rfl)
theorem dX18_comparison_57 : decode cX18_comparison 57 = .ok (.invokevirtual 47, 3) := dk_182 0 47 (dk_at dksX18_comparison_2 11 rfl rfl)
theorem dX18_comparison_60 : decode cX18_comparison 60 = .ok (.aload_n 0, 1) := dk_42 (dk_at dksX18_comparison_2 14 rfl rfl)
theorem dX18_comparison_61 : decode cX18_comparison 61 = .ok (.invokevirtual 108, 3) := dk_182 0 108 (dk_at dksX18_comparison_2 15 rfl rfl)
theorem dX18_comparison_64 : decode cX18_comparison 64 = .ok (.astore 4, 2) := dk_58 4 (dk_at dksX18_comparison_2 18 rfl rfl)
theorem dX18_comparison_66 : decode cX18_comparison 66 = .ok (.aload_n 1, 1) := dk_43 (dk_at dksX18_comparison_2 20 rfl rfl)
theorem dX18_comparison_67 : decode cX18_comparison 67 = .ok (.aload 4, 2) := dk_25 4 (dk_at dksX18_comparison_2 21 rfl rfl)
theorem dX18_comparison_69 : decode cX18_comparison 69 = .ok (.iload_n 2, 1) := dk_28 (dk_at dksX18_comparison_2 23 rfl rfl)
theorem dX18_comparison_70 : decode cX18_comparison 70 = .ok (.iload_n 3, 1) := dk_29 (dk_at dksX18_comparison_3 0 rfl rfl)
theorem dX18_comparison_71 : decode cX18_comparison 71 = .ok (.invokedynamic 112, 5) := by decide +kernel
theorem dX18_comparison_76 : decode cX18_comparison 76 = .ok (.areturn, 1) := dk_176 (dk_at dksX18_comparison_3 6 rfl rfl)
abbrev cX18_value : ByteArray := prog_11_method_9_code
def yX18_value : MethodName := ⟨RX18, "value", "()LThreeBodies$Value;"⟩
def dkwX18_value_3 : List UInt8 := [182, 0, 47, 43, 176]
abbrev dktX18_value_3 : List UInt8 := dkwX18_value_3 ++ []
def dkwX18_value_2 : List UInt8 := [184, 0, 128, 167, 0, 4, 1, 76, 43, 199, 0, 11, 42, 180, 0, 9, 182, 0, 43, 191, 42, 180, 0, 9]
abbrev dktX18_value_2 : List UInt8 := dkwX18_value_2 ++ dktX18_value_3
def dkwX18_value_1 : List UInt8 := [186, 0, 120, 0, 0, 176, 42, 180, 0, 9, 180, 0, 53, 4, 160, 0, 16, 42, 180, 0, 9, 180, 0, 124]
abbrev dktX18_value_1 : List UInt8 := dkwX18_value_1 ++ dktX18_value_2
def dkwX18_value_0 : List UInt8 := [42, 180, 0, 9, 180, 0, 53, 5, 160, 0, 21, 42, 180, 0, 9, 3, 18, 115, 182, 0, 116, 60, 27]
abbrev dktX18_value_0 : List UInt8 := dkwX18_value_0 ++ dktX18_value_1
theorem dksX18_value_0 : cX18_value.data.toList.drop 0 = dktX18_value_0 := by decide +kernel
theorem dksX18_value_1 : cX18_value.data.toList.drop 23 = dktX18_value_1 := dk_seg dksX18_value_0 23 rfl rfl
theorem dksX18_value_2 : cX18_value.data.toList.drop 47 = dktX18_value_2 := dk_seg dksX18_value_1 24 rfl rfl
theorem dksX18_value_3 : cX18_value.data.toList.drop 71 = dktX18_value_3 := dk_seg dksX18_value_2 24 rfl rfl
theorem dX18_value_0 : decode cX18_value 0 = .ok (.aload_n 0, 1) := dk_42 (dk_at dksX18_value_0 0 rfl rfl)
theorem dX18_value_1 : decode cX18_value 1 = .ok (.getfield 9, 3) := dk_180 0 9 (dk_at dksX18_value_0 1 rfl rfl)
theorem dX18_value_4 : decode cX18_value 4 = .ok (.getfield 53, 3) := dk_180 0 53 (dk_at dksX18_value_0 4 rfl rfl)
theorem dX18_value_7 : decode cX18_value 7 = .ok (.iconst 2, 1) := dk_5 (dk_at dksX18_value_0 7 rfl rfl)
theorem dX18_value_8 : decode cX18_value 8 = .ok (.if_icmp .ne 21, 3) := dk_160 0 21 (dk_at dksX18_value_0 8 rfl rfl)
theorem dX18_value_11 : decode cX18_value 11 = .ok (.aload_n 0, 1) := dk_42 (dk_at dksX18_value_0 11 rfl rfl)
theorem dX18_value_12 : decode cX18_value 12 = .ok (.getfield 9, 3) := dk_180 0 9 (dk_at dksX18_value_0 12 rfl rfl)
theorem dX18_value_15 : decode cX18_value 15 = .ok (.iconst 0, 1) := dk_3 (dk_at dksX18_value_0 15 rfl rfl)
theorem dX18_value_16 : decode cX18_value 16 = .ok (.ldc 115, 2) := dk_18 115 (dk_at dksX18_value_0 16 rfl rfl)
theorem dX18_value_18 : decode cX18_value 18 = .ok (.invokevirtual 116, 3) := dk_182 0 116 (dk_at dksX18_value_0 18 rfl rfl)
theorem dX18_value_21 : decode cX18_value 21 = .ok (.istore_n 1, 1) := dk_60 (dk_at dksX18_value_0 21 rfl rfl)
theorem dX18_value_22 : decode cX18_value 22 = .ok (.iload_n 1, 1) := dk_27 (dk_at dksX18_value_0 22 rfl rfl)
theorem dX18_value_23 : decode cX18_value 23 = .ok (.invokedynamic 120, 5) := by decide +kernel
theorem dX18_value_28 : decode cX18_value 28 = .ok (.areturn, 1) := dk_176 (dk_at dksX18_value_1 5 rfl rfl)
theorem dX18_value_29 : decode cX18_value 29 = .ok (.aload_n 0, 1) := dk_42 (dk_at dksX18_value_1 6 rfl rfl)
theorem dX18_value_30 : decode cX18_value 30 = .ok (.getfield 9, 3) := dk_180 0 9 (dk_at dksX18_value_1 7 rfl rfl)
theorem dX18_value_33 : decode cX18_value 33 = .ok (.getfield 53, 3) := dk_180 0 53 (dk_at dksX18_value_1 10 rfl rfl)
theorem dX18_value_36 : decode cX18_value 36 = .ok (.iconst 1, 1) := dk_4 (dk_at dksX18_value_1 13 rfl rfl)
theorem dX18_value_37 : decode cX18_value 37 = .ok (.if_icmp .ne 16, 3) := dk_160 0 16 (dk_at dksX18_value_1 14 rfl rfl)
theorem dX18_value_40 : decode cX18_value 40 = .ok (.aload_n 0, 1) := dk_42 (dk_at dksX18_value_1 17 rfl rfl)
theorem dX18_value_41 : decode cX18_value 41 = .ok (.getfield 9, 3) := dk_180 0 9 (dk_at dksX18_value_1 18 rfl rfl)
theorem dX18_value_44 : decode cX18_value 44 = .ok (.getfield 124, 3) := dk_180 0 124 (dk_at dksX18_value_1 21 rfl rfl)
theorem dX18_value_47 : decode cX18_value 47 = .ok (.invokestatic 128, 3) := dk_184 0 128 (dk_at dksX18_value_2 0 rfl rfl)
theorem dX18_value_50 : decode cX18_value 50 = .ok (.goto 4, 3) := dk_167 0 4 (dk_at dksX18_value_2 3 rfl rfl)
theorem dX18_value_53 : decode cX18_value 53 = .ok (.aconst_null, 1) := dk_1 (dk_at dksX18_value_2 6 rfl rfl)
theorem dX18_value_54 : decode cX18_value 54 = .ok (.astore_n 1, 1) := dk_76 (dk_at dksX18_value_2 7 rfl rfl)
theorem dX18_value_55 : decode cX18_value 55 = .ok (.aload_n 1, 1) := dk_43 (dk_at dksX18_value_2 8 rfl rfl)
theorem dX18_value_56 : decode cX18_value 56 = .ok (.ifnonnull 11, 3) := dk_199 0 11 (dk_at dksX18_value_2 9 rfl rfl)
theorem dX18_value_59 : decode cX18_value 59 = .ok (.aload_n 0, 1) := dk_42 (dk_at dksX18_value_2 12 rfl rfl)
theorem dX18_value_60 : decode cX18_value 60 = .ok (.getfield 9, 3) := dk_180 0 9 (dk_at dksX18_value_2 13 rfl rfl)
theorem dX18_value_63 : decode cX18_value 63 = .ok (.invokevirtual 43, 3) := dk_182 0 43 (dk_at dksX18_value_2 16 rfl rfl)
theorem dX18_value_66 : decode cX18_value 66 = .ok (.athrow, 1) := dk_191 (dk_at dksX18_value_2 19 rfl rfl)
theorem dX18_value_67 : decode cX18_value 67 = .ok (.aload_n 0, 1) := dk_42 (dk_at dksX18_value_2 20 rfl rfl)
theorem dX18_value_68 : decode cX18_value 68 = .ok (.getfield 9, 3) := dk_180 0 9 (dk_at dksX18_value_2 21 rfl rfl)
theorem dX18_value_71 : decode cX18_value 71 = .ok (.invokevirtual 47, 3) := dk_182 0 47 (dk_at dksX18_value_3 0 rfl rfl)
theorem dX18_value_74 : decode cX18_value 74 = .ok (.aload_n 1, 1) := dk_43 (dk_at dksX18_value_3 3 rfl rfl)
theorem dX18_value_75 : decode cX18_value 75 = .ok (.areturn, 1) := dk_176 (dk_at dksX18_value_3 4 rfl rfl)
abbrev cX18_lambda_value_2 : ByteArray := prog_11_method_10_code
def yX18_lambda_value_2 : MethodName := ⟨RX18, "lambda$value$2", "(ILThreeBodies$Approach;I)I"⟩
theorem dX18_lambda_value_2_0 : decode cX18_lambda_value_2 0 = .ok (.iload_n 0, 1) := by decide +kernel
theorem dX18_lambda_value_2_1 : decode cX18_lambda_value_2 1 = .ok (.ireturn, 1) := by decide +kernel
abbrev cX18_lambda_comparison_1 : ByteArray := prog_11_method_11_code
def yX18_lambda_comparison_1 : MethodName := ⟨RX18, "lambda$comparison$1", "(LThreeBodies$Value;LThreeBodies$Value;ZZLThreeBodies$Approach;I)Z"⟩
def dkwX18_lambda_comparison_1_2 : List UInt8 := [154, 0, 7, 4, 167, 0, 17, 3, 167, 0, 13, 21, 6, 158, 0, 7, 4, 167, 0, 4, 3, 172]
abbrev dktX18_lambda_comparison_1_2 : List UInt8 := dkwX18_lambda_comparison_1_2 ++ []
def dkwX18_lambda_comparison_1_1 : List UInt8 := [153, 0, 16, 21, 6, 156, 0, 7, 4, 167, 0, 34, 3, 167, 0, 30, 29, 153, 0, 16, 21, 6]
abbrev dktX18_lambda_comparison_1_1 : List UInt8 := dkwX18_lambda_comparison_1_1 ++ dktX18_lambda_comparison_1_2
def dkwX18_lambda_comparison_1_0 : List UInt8 := [42, 25, 4, 21, 5, 185, 0, 132, 3, 0, 43, 25, 4, 21, 5, 185, 0, 132, 3, 0, 100, 54, 6, 28]
abbrev dktX18_lambda_comparison_1_0 : List UInt8 := dkwX18_lambda_comparison_1_0 ++ dktX18_lambda_comparison_1_1
theorem dksX18_lambda_comparison_1_0 : cX18_lambda_comparison_1.data.toList.drop 0 = dktX18_lambda_comparison_1_0 := by decide +kernel
theorem dksX18_lambda_comparison_1_1 : cX18_lambda_comparison_1.data.toList.drop 24 = dktX18_lambda_comparison_1_1 := dk_seg dksX18_lambda_comparison_1_0 24 rfl rfl
theorem dksX18_lambda_comparison_1_2 : cX18_lambda_comparison_1.data.toList.drop 46 = dktX18_lambda_comparison_1_2 := dk_seg dksX18_lambda_comparison_1_1 22 rfl rfl
theorem dX18_lambda_comparison_1_0 : decode cX18_lambda_comparison_1 0 = .ok (.aload_n 0, 1) := dk_42 (dk_at dksX18_lambda_comparison_1_0 0 rfl rfl)
theorem dX18_lambda_comparison_1_1 : decode cX18_lambda_comparison_1 1 = .ok (.aload 4, 2) := dk_25 4 (dk_at dksX18_lambda_comparison_1_0 1 rfl rfl)
theorem dX18_lambda_comparison_1_3 : decode cX18_lambda_comparison_1 3 = .ok (.iload 5, 2) := dk_21 5 (dk_at dksX18_lambda_comparison_1_0 3 rfl rfl)
theorem dX18_lambda_comparison_1_5 : decode cX18_lambda_comparison_1 5 = .ok (.invokeinterface 132 3, 5) := by decide +kernel
theorem dX18_lambda_comparison_1_10 : decode cX18_lambda_comparison_1 10 = .ok (.aload_n 1, 1) := dk_43 (dk_at dksX18_lambda_comparison_1_0 10 rfl rfl)
theorem dX18_lambda_comparison_1_11 : decode cX18_lambda_comparison_1 11 = .ok (.aload 4, 2) := dk_25 4 (dk_at dksX18_lambda_comparison_1_0 11 rfl rfl)
theorem dX18_lambda_comparison_1_13 : decode cX18_lambda_comparison_1 13 = .ok (.iload 5, 2) := dk_21 5 (dk_at dksX18_lambda_comparison_1_0 13 rfl rfl)
theorem dX18_lambda_comparison_1_15 : decode cX18_lambda_comparison_1 15 = .ok (.invokeinterface 132 3, 5) := by decide +kernel
theorem dX18_lambda_comparison_1_20 : decode cX18_lambda_comparison_1 20 = .ok (.isub, 1) := dk_100 (dk_at dksX18_lambda_comparison_1_0 20 rfl rfl)
theorem dX18_lambda_comparison_1_21 : decode cX18_lambda_comparison_1 21 = .ok (.istore 6, 2) := dk_54 6 (dk_at dksX18_lambda_comparison_1_0 21 rfl rfl)
theorem dX18_lambda_comparison_1_23 : decode cX18_lambda_comparison_1 23 = .ok (.iload_n 2, 1) := dk_28 (dk_at dksX18_lambda_comparison_1_0 23 rfl rfl)
theorem dX18_lambda_comparison_1_24 : decode cX18_lambda_comparison_1 24 = .ok (.ifCond .eq 16, 3) := dk_153 0 16 (dk_at dksX18_lambda_comparison_1_1 0 rfl rfl)
theorem dX18_lambda_comparison_1_27 : decode cX18_lambda_comparison_1 27 = .ok (.iload 6, 2) := dk_21 6 (dk_at dksX18_lambda_comparison_1_1 3 rfl rfl)
theorem dX18_lambda_comparison_1_29 : decode cX18_lambda_comparison_1 29 = .ok (.ifCond .ge 7, 3) := dk_156 0 7 (dk_at dksX18_lambda_comparison_1_1 5 rfl rfl)
theorem dX18_lambda_comparison_1_32 : decode cX18_lambda_comparison_1 32 = .ok (.iconst 1, 1) := dk_4 (dk_at dksX18_lambda_comparison_1_1 8 rfl rfl)
theorem dX18_lambda_comparison_1_33 : decode cX18_lambda_comparison_1 33 = .ok (.goto 34, 3) := dk_167 0 34 (dk_at dksX18_lambda_comparison_1_1 9 rfl rfl)
theorem dX18_lambda_comparison_1_36 : decode cX18_lambda_comparison_1 36 = .ok (.iconst 0, 1) := dk_3 (dk_at dksX18_lambda_comparison_1_1 12 rfl rfl)
theorem dX18_lambda_comparison_1_37 : decode cX18_lambda_comparison_1 37 = .ok (.goto 30, 3) := dk_167 0 30 (dk_at dksX18_lambda_comparison_1_1 13 rfl rfl)
theorem dX18_lambda_comparison_1_40 : decode cX18_lambda_comparison_1 40 = .ok (.iload_n 3, 1) := dk_29 (dk_at dksX18_lambda_comparison_1_1 16 rfl rfl)
theorem dX18_lambda_comparison_1_41 : decode cX18_lambda_comparison_1 41 = .ok (.ifCond .eq 16, 3) := dk_153 0 16 (dk_at dksX18_lambda_comparison_1_1 17 rfl rfl)
theorem dX18_lambda_comparison_1_44 : decode cX18_lambda_comparison_1 44 = .ok (.iload 6, 2) := dk_21 6 (dk_at dksX18_lambda_comparison_1_1 20 rfl rfl)
theorem dX18_lambda_comparison_1_46 : decode cX18_lambda_comparison_1 46 = .ok (.ifCond .ne 7, 3) := dk_154 0 7 (dk_at dksX18_lambda_comparison_1_2 0 rfl rfl)
theorem dX18_lambda_comparison_1_49 : decode cX18_lambda_comparison_1 49 = .ok (.iconst 1, 1) := dk_4 (dk_at dksX18_lambda_comparison_1_2 3 rfl rfl)
theorem dX18_lambda_comparison_1_50 : decode cX18_lambda_comparison_1 50 = .ok (.goto 17, 3) := dk_167 0 17 (dk_at dksX18_lambda_comparison_1_2 4 rfl rfl)
theorem dX18_lambda_comparison_1_53 : decode cX18_lambda_comparison_1 53 = .ok (.iconst 0, 1) := dk_3 (dk_at dksX18_lambda_comparison_1_2 7 rfl rfl)
theorem dX18_lambda_comparison_1_54 : decode cX18_lambda_comparison_1 54 = .ok (.goto 13, 3) := dk_167 0 13 (dk_at dksX18_lambda_comparison_1_2 8 rfl rfl)
theorem dX18_lambda_comparison_1_57 : decode cX18_lambda_comparison_1 57 = .ok (.iload 6, 2) := dk_21 6 (dk_at dksX18_lambda_comparison_1_2 11 rfl rfl)
theorem dX18_lambda_comparison_1_59 : decode cX18_lambda_comparison_1 59 = .ok (.ifCond .le 7, 3) := dk_158 0 7 (dk_at dksX18_lambda_comparison_1_2 13 rfl rfl)
theorem dX18_lambda_comparison_1_62 : decode cX18_lambda_comparison_1 62 = .ok (.iconst 1, 1) := dk_4 (dk_at dksX18_lambda_comparison_1_2 16 rfl rfl)
theorem dX18_lambda_comparison_1_63 : decode cX18_lambda_comparison_1 63 = .ok (.goto 4, 3) := dk_167 0 4 (dk_at dksX18_lambda_comparison_1_2 17 rfl rfl)
theorem dX18_lambda_comparison_1_66 : decode cX18_lambda_comparison_1 66 = .ok (.iconst 0, 1) := dk_3 (dk_at dksX18_lambda_comparison_1_2 20 rfl rfl)
theorem dX18_lambda_comparison_1_67 : decode cX18_lambda_comparison_1 67 = .ok (.ireturn, 1) := dk_172 (dk_at dksX18_lambda_comparison_1_2 21 rfl rfl)
theorem q150 : (Jvm.Cond.initialized "ThreeBodies$QueryParser") ∈ lw_all := lw_g (lw_at lw_m1 52 rfl) rfl
theorem q810 : (Jvm.Cond.selects "ThreeBodies$QueryParser" ({ cls := "java/lang/Object", name := "getClass", desc := "()Ljava/lang/Class;" } : Jvm.MethodName) ({ cls := "java/lang/Object", name := "getClass", desc := "()Ljava/lang/Class;" } : Jvm.MethodName)) ∈ lw_all := lw_g (lw_at lw_m3 232 rfl) rfl
theorem q1266 : (Jvm.Cond.fieldLinkNest "ThreeBodies$QueryParser" (53 : Nat) "ThreeBodies$Scanner" "kind" "I" "ThreeBodies") ∈ lw_tbl := lw_at lw_m5 208 rfl
theorem q1271 : (Jvm.Cond.fieldLinkNest "ThreeBodies$QueryParser" (82 : Nat) "ThreeBodies$Scanner" "begin" "I" "ThreeBodies") ∈ lw_tbl := lw_at lw_m5 213 rfl
theorem q1275 : (Jvm.Cond.fieldLinkNest "ThreeBodies$QueryParser" (124 : Nat) "ThreeBodies$Scanner" "word" "Ljava/lang/String;" "ThreeBodies") ∈ lw_tbl := lw_at lw_m5 217 rfl
theorem q1856 : (Jvm.Cond.selects "ThreeBodies$QueryParser" ({ cls := "java/lang/Object", name := "hashCode", desc := "()I" } : Jvm.MethodName) ({ cls := "java/lang/Object", name := "hashCode", desc := "()I" } : Jvm.MethodName)) ∈ lw_all := lw_g (lw_at lw_m8 78 rfl) rfl
theorem q1943 : (Jvm.Cond.selects "ThreeBodies$QueryParser" ({ cls := "java/lang/Object", name := "equals", desc := "(Ljava/lang/Object;)Z" } : Jvm.MethodName) ({ cls := "java/lang/Object", name := "equals", desc := "(Ljava/lang/Object;)Z" } : Jvm.MethodName)) ∈ lw_all := lw_g (lw_at lw_m8 165 rfl) rfl
theorem q2552 : (Jvm.Cond.instantiable "ThreeBodies$QueryParser" (3 : Nat)) ∈ lw_all := lw_g (lw_at lw_m11 54 rfl) rfl
theorem q2555 : (Jvm.Cond.instanceMethod ({ cls := "ThreeBodies$QueryParser", name := "<init>", desc := "(LThreeBodies$Scanner;)V" } : Jvm.MethodName)) ∈ lw_all := lw_g (lw_at lw_m11 57 rfl) rfl
theorem q2556 : (Jvm.Cond.code ({ cls := "ThreeBodies$QueryParser", name := "<init>", desc := "(LThreeBodies$Scanner;)V" } : Jvm.MethodName) prog_11_method_1_code (2 : Nat) (Option.none : Option Jvm.ClassFile.FieldType)) ∈ lw_all := lw_g (lw_at lw_m11 58 rfl) rfl
theorem q2557 : (Jvm.Cond.methodLink "ThreeBodies$QueryParser" (3 : Nat) ({ cls := "java/lang/Object", name := "<init>", desc := "()V" } : Jvm.MethodName)) ∈ lw_all := lw_g (lw_at lw_m11 59 rfl) rfl
theorem q2558 : (Jvm.Cond.fieldLink "ThreeBodies$QueryParser" (9 : Nat) "ThreeBodies$QueryParser" "scanner" "LThreeBodies$Scanner;") ∈ lw_all := lw_g (lw_at lw_m11 60 rfl) rfl
theorem q2559 : (Jvm.Cond.fieldLink "ThreeBodies$QueryParser" (38 : Nat) "ThreeBodies$QueryParser" "first" "Z") ∈ lw_all := lw_g (lw_at lw_m11 61 rfl) rfl
theorem q2561 : (Jvm.Cond.fieldLink "ThreeBodies$QueryParser" (79 : Nat) "ThreeBodies$QueryParser" "open" "I") ∈ lw_all := lw_g (lw_at lw_m11 63 rfl) rfl
theorem q2562 : (Jvm.Cond.laysFinal "ThreeBodies$QueryParser" "ThreeBodies$QueryParser" "scanner" "LThreeBodies$Scanner;") ∈ lw_all := lw_g (lw_at lw_m11 64 rfl) rfl
theorem q2563 : (Jvm.Cond.soleField "ThreeBodies$QueryParser" "scanner") ∈ lw_all := lw_g (lw_at lw_m11 65 rfl) rfl
theorem q2564 : (Jvm.Cond.lays "ThreeBodies$QueryParser" "ThreeBodies$QueryParser" "first" "Z") ∈ lw_all := lw_g (lw_at lw_m11 66 rfl) rfl
theorem q2565 : (Jvm.Cond.soleField "ThreeBodies$QueryParser" "first") ∈ lw_all := lw_g (lw_at lw_m11 67 rfl) rfl
theorem q2566 : (Jvm.Cond.lays "ThreeBodies$QueryParser" "ThreeBodies$QueryParser" "open" "I") ∈ lw_all := lw_g (lw_at lw_m11 68 rfl) rfl
theorem q2567 : (Jvm.Cond.soleField "ThreeBodies$QueryParser" "open") ∈ lw_all := lw_g (lw_at lw_m11 69 rfl) rfl
theorem q2568 : (Jvm.Cond.superclass "ThreeBodies$QueryParser" "java/lang/Object") ∈ lw_all := lw_g (lw_at lw_m11 70 rfl) rfl
theorem q2570 : (Jvm.Cond.instanceMethod ({ cls := "ThreeBodies$QueryParser", name := "read", desc := "()LThreeBodies$Test;" } : Jvm.MethodName)) ∈ lw_all := lw_g (lw_at lw_m11 72 rfl) rfl
theorem q2571 : (Jvm.Cond.selects "ThreeBodies$QueryParser" ({ cls := "ThreeBodies$QueryParser", name := "read", desc := "()LThreeBodies$Test;" } : Jvm.MethodName) ({ cls := "ThreeBodies$QueryParser", name := "read", desc := "()LThreeBodies$Test;" } : Jvm.MethodName)) ∈ lw_all := lw_g (lw_at lw_m11 73 rfl) rfl
theorem q2572 : (Jvm.Cond.codeWith ({ cls := "ThreeBodies$QueryParser", name := "read", desc := "()LThreeBodies$Test;" } : Jvm.MethodName) prog_11_method_2_code (2 : Nat) (Option.some (Jvm.ClassFile.FieldType.object "ThreeBodies$Test")) [((0 : Nat), (4 : Nat), (5 : Nat), (19 : Nat)), ((0 : Nat), (4 : Nat), (5 : Nat), (21 : Nat)), ((0 : Nat), (4 : Nat), (5 : Nat), (23 : Nat))]) ∈ lw_all := lw_g (lw_at lw_m11 74 rfl) rfl
theorem q2573 : (Jvm.Cond.classLink "ThreeBodies$QueryParser" (19 : Nat) "ThreeBodies$SyntaxException") ∈ lw_all := lw_g (lw_at lw_m11 75 rfl) rfl
theorem q2574 : (Jvm.Cond.classLink "ThreeBodies$QueryParser" (21 : Nat) "ThreeBodies$RangeException") ∈ lw_all := lw_g (lw_at lw_m11 76 rfl) rfl
theorem q2575 : (Jvm.Cond.classLink "ThreeBodies$QueryParser" (23 : Nat) "ThreeBodies$LimitException") ∈ lw_all := lw_g (lw_at lw_m11 77 rfl) rfl
theorem q2576 : (Jvm.Cond.methodLink "ThreeBodies$QueryParser" (15 : Nat) ({ cls := "ThreeBodies$QueryParser", name := "whole", desc := "()LThreeBodies$Test;" } : Jvm.MethodName)) ∈ lw_all := lw_g (lw_at lw_m11 78 rfl) rfl
theorem q2577 : (Jvm.Cond.privateMethod ({ cls := "ThreeBodies$QueryParser", name := "whole", desc := "()LThreeBodies$Test;" } : Jvm.MethodName)) ∈ lw_tbl := lw_at lw_m11 79 rfl
theorem q2578 : (Jvm.Cond.instanceMethod ({ cls := "ThreeBodies$QueryParser", name := "whole", desc := "()LThreeBodies$Test;" } : Jvm.MethodName)) ∈ lw_all := lw_g (lw_at lw_m11 80 rfl) rfl
theorem q2579 : (Jvm.Cond.code ({ cls := "ThreeBodies$QueryParser", name := "whole", desc := "()LThreeBodies$Test;" } : Jvm.MethodName) prog_11_method_3_code (2 : Nat) (Option.some (Jvm.ClassFile.FieldType.object "ThreeBodies$Test"))) ∈ lw_all := lw_g (lw_at lw_m11 81 rfl) rfl
theorem q2580 : (Jvm.Cond.stringRef "ThreeBodies$QueryParser" (30 : Nat) "first") ∈ lw_tbl := lw_at lw_m11 82 rfl
theorem q2581 : (Jvm.Cond.methodLink "ThreeBodies$QueryParser" (32 : Nat) ({ cls := "ThreeBodies$Scanner", name := "isWord", desc := "(Ljava/lang/String;)Z" } : Jvm.MethodName)) ∈ lw_all := lw_g (lw_at lw_m11 83 rfl) rfl
theorem q2582 : (Jvm.Cond.stringRef "ThreeBodies$QueryParser" (41 : Nat) "many") ∈ lw_tbl := lw_at lw_m11 84 rfl
theorem q2583 : (Jvm.Cond.methodLink "ThreeBodies$QueryParser" (43 : Nat) ({ cls := "ThreeBodies$Scanner", name := "wrong", desc := "()LThreeBodies$SyntaxException;" } : Jvm.MethodName)) ∈ lw_all := lw_g (lw_at lw_m11 85 rfl) rfl
theorem q2584 : (Jvm.Cond.methodLink "ThreeBodies$QueryParser" (47 : Nat) ({ cls := "ThreeBodies$Scanner", name := "advance", desc := "()V" } : Jvm.MethodName)) ∈ lw_all := lw_g (lw_at lw_m11 86 rfl) rfl
theorem q2585 : (Jvm.Cond.methodLink "ThreeBodies$QueryParser" (50 : Nat) ({ cls := "ThreeBodies$QueryParser", name := "test", desc := "()LThreeBodies$Test;" } : Jvm.MethodName)) ∈ lw_all := lw_g (lw_at lw_m11 87 rfl) rfl
theorem q2586 : (Jvm.Cond.privateMethod ({ cls := "ThreeBodies$QueryParser", name := "test", desc := "()LThreeBodies$Test;" } : Jvm.MethodName)) ∈ lw_tbl := lw_at lw_m11 88 rfl
theorem q2587 : (Jvm.Cond.instanceMethod ({ cls := "ThreeBodies$QueryParser", name := "test", desc := "()LThreeBodies$Test;" } : Jvm.MethodName)) ∈ lw_all := lw_g (lw_at lw_m11 89 rfl) rfl
theorem q2588 : (Jvm.Cond.code ({ cls := "ThreeBodies$QueryParser", name := "test", desc := "()LThreeBodies$Test;" } : Jvm.MethodName) prog_11_method_4_code (2 : Nat) (Option.some (Jvm.ClassFile.FieldType.object "ThreeBodies$Test"))) ∈ lw_all := lw_g (lw_at lw_m11 90 rfl) rfl
theorem q2589 : (Jvm.Cond.classLink "ThreeBodies$QueryParser" (57 : Nat) "ThreeBodies$Tests") ∈ lw_all := lw_g (lw_at lw_m11 91 rfl) rfl
theorem q2591 : (Jvm.Cond.methodLink "ThreeBodies$QueryParser" (59 : Nat) ({ cls := "ThreeBodies$Tests", name := "<init>", desc := "(Z)V" } : Jvm.MethodName)) ∈ lw_all := lw_g (lw_at lw_m11 93 rfl) rfl
theorem q2607 : (Jvm.Cond.methodLink "ThreeBodies$QueryParser" (62 : Nat) ({ cls := "ThreeBodies$QueryParser", name := "conjunction", desc := "()LThreeBodies$Test;" } : Jvm.MethodName)) ∈ lw_all := lw_g (lw_at lw_m11 109 rfl) rfl
theorem q2608 : (Jvm.Cond.privateMethod ({ cls := "ThreeBodies$QueryParser", name := "conjunction", desc := "()LThreeBodies$Test;" } : Jvm.MethodName)) ∈ lw_tbl := lw_at lw_m11 110 rfl
theorem q2609 : (Jvm.Cond.instanceMethod ({ cls := "ThreeBodies$QueryParser", name := "conjunction", desc := "()LThreeBodies$Test;" } : Jvm.MethodName)) ∈ lw_all := lw_g (lw_at lw_m11 111 rfl) rfl
theorem q2610 : (Jvm.Cond.code ({ cls := "ThreeBodies$QueryParser", name := "conjunction", desc := "()LThreeBodies$Test;" } : Jvm.MethodName) prog_11_method_5_code (2 : Nat) (Option.some (Jvm.ClassFile.FieldType.object "ThreeBodies$Test"))) ∈ lw_all := lw_g (lw_at lw_m11 112 rfl) rfl
theorem q2611 : (Jvm.Cond.methodLink "ThreeBodies$QueryParser" (74 : Nat) ({ cls := "ThreeBodies$QueryParser", name := "factor", desc := "()LThreeBodies$Test;" } : Jvm.MethodName)) ∈ lw_all := lw_g (lw_at lw_m11 113 rfl) rfl
theorem q2612 : (Jvm.Cond.privateMethod ({ cls := "ThreeBodies$QueryParser", name := "factor", desc := "()LThreeBodies$Test;" } : Jvm.MethodName)) ∈ lw_tbl := lw_at lw_m11 114 rfl
theorem q2613 : (Jvm.Cond.instanceMethod ({ cls := "ThreeBodies$QueryParser", name := "factor", desc := "()LThreeBodies$Test;" } : Jvm.MethodName)) ∈ lw_all := lw_g (lw_at lw_m11 115 rfl) rfl
theorem q2614 : (Jvm.Cond.code ({ cls := "ThreeBodies$QueryParser", name := "factor", desc := "()LThreeBodies$Test;" } : Jvm.MethodName) prog_11_method_7_code (2 : Nat) (Option.some (Jvm.ClassFile.FieldType.object "ThreeBodies$Test"))) ∈ lw_all := lw_g (lw_at lw_m11 116 rfl) rfl
theorem q2615 : (Jvm.Cond.stringRef "ThreeBodies$QueryParser" (88 : Nat) "not") ∈ lw_tbl := lw_at lw_m11 117 rfl
theorem q2616 : (Jvm.Cond.methodLink "ThreeBodies$QueryParser" (90 : Nat) ({ cls := "ThreeBodies$QueryParser", name := "enter", desc := "()V" } : Jvm.MethodName)) ∈ lw_all := lw_g (lw_at lw_m11 118 rfl) rfl
theorem q2617 : (Jvm.Cond.privateMethod ({ cls := "ThreeBodies$QueryParser", name := "enter", desc := "()V" } : Jvm.MethodName)) ∈ lw_tbl := lw_at lw_m11 119 rfl
theorem q2618 : (Jvm.Cond.instanceMethod ({ cls := "ThreeBodies$QueryParser", name := "enter", desc := "()V" } : Jvm.MethodName)) ∈ lw_all := lw_g (lw_at lw_m11 120 rfl) rfl
theorem q2619 : (Jvm.Cond.code ({ cls := "ThreeBodies$QueryParser", name := "enter", desc := "()V" } : Jvm.MethodName) prog_11_method_6_code (1 : Nat) (Option.none : Option Jvm.ClassFile.FieldType)) ∈ lw_all := lw_g (lw_at lw_m11 121 rfl) rfl
theorem q2628 : (Jvm.Cond.methodLink "ThreeBodies$QueryParser" (85 : Nat) ({ cls := "ThreeBodies$LimitException", name := "<init>", desc := "(I)V" } : Jvm.MethodName)) ∈ lw_all := lw_g (lw_at lw_m11 130 rfl) rfl
theorem q2635 : (Jvm.Cond.static ({ cls := "ThreeBodies$QueryParser", name := "lambda$factor$0", desc := "(LThreeBodies$Test;LThreeBodies$Approach;I)Z" } : Jvm.MethodName)) ∈ lw_all := lw_g (lw_at lw_m11 137 rfl) rfl
theorem q2636 : (Jvm.Cond.code ({ cls := "ThreeBodies$QueryParser", name := "lambda$factor$0", desc := "(LThreeBodies$Test;LThreeBodies$Approach;I)Z" } : Jvm.MethodName) prog_11_method_12_code (3 : Nat) (Option.some Jvm.ClassFile.FieldType.boolean)) ∈ lw_all := lw_g (lw_at lw_m11 138 rfl) rfl
theorem q2637 : (Jvm.Cond.interfaceEntry "ThreeBodies$QueryParser" (137 : Nat)) ∈ lw_tbl := lw_at lw_m11 139 rfl
theorem q2638 : (Jvm.Cond.methodLink "ThreeBodies$QueryParser" (137 : Nat) ({ cls := "ThreeBodies$Test", name := "holds", desc := "(LThreeBodies$Approach;I)Z" } : Jvm.MethodName)) ∈ lw_all := lw_g (lw_at lw_m11 140 rfl) rfl
theorem q2649 : (Jvm.Cond.methodLink "ThreeBodies$QueryParser" (97 : Nat) ({ cls := "ThreeBodies$Scanner", name := "isAt", desc := "(C)Z" } : Jvm.MethodName)) ∈ lw_all := lw_g (lw_at lw_m11 151 rfl) rfl
theorem q2650 : (Jvm.Cond.methodLink "ThreeBodies$QueryParser" (101 : Nat) ({ cls := "ThreeBodies$Scanner", name := "expect", desc := "(C)V" } : Jvm.MethodName)) ∈ lw_all := lw_g (lw_at lw_m11 152 rfl) rfl
theorem q2651 : (Jvm.Cond.methodLink "ThreeBodies$QueryParser" (105 : Nat) ({ cls := "ThreeBodies$QueryParser", name := "comparison", desc := "()LThreeBodies$Test;" } : Jvm.MethodName)) ∈ lw_all := lw_g (lw_at lw_m11 153 rfl) rfl
theorem q2652 : (Jvm.Cond.privateMethod ({ cls := "ThreeBodies$QueryParser", name := "comparison", desc := "()LThreeBodies$Test;" } : Jvm.MethodName)) ∈ lw_tbl := lw_at lw_m11 154 rfl
theorem q2653 : (Jvm.Cond.instanceMethod ({ cls := "ThreeBodies$QueryParser", name := "comparison", desc := "()LThreeBodies$Test;" } : Jvm.MethodName)) ∈ lw_all := lw_g (lw_at lw_m11 155 rfl) rfl
theorem q2654 : (Jvm.Cond.code ({ cls := "ThreeBodies$QueryParser", name := "comparison", desc := "()LThreeBodies$Test;" } : Jvm.MethodName) prog_11_method_8_code (5 : Nat) (Option.some (Jvm.ClassFile.FieldType.object "ThreeBodies$Test"))) ∈ lw_all := lw_g (lw_at lw_m11 156 rfl) rfl
theorem q2655 : (Jvm.Cond.methodLink "ThreeBodies$QueryParser" (108 : Nat) ({ cls := "ThreeBodies$QueryParser", name := "value", desc := "()LThreeBodies$Value;" } : Jvm.MethodName)) ∈ lw_all := lw_g (lw_at lw_m11 157 rfl) rfl
theorem q2656 : (Jvm.Cond.privateMethod ({ cls := "ThreeBodies$QueryParser", name := "value", desc := "()LThreeBodies$Value;" } : Jvm.MethodName)) ∈ lw_tbl := lw_at lw_m11 158 rfl
theorem q2657 : (Jvm.Cond.instanceMethod ({ cls := "ThreeBodies$QueryParser", name := "value", desc := "()LThreeBodies$Value;" } : Jvm.MethodName)) ∈ lw_all := lw_g (lw_at lw_m11 159 rfl) rfl
theorem q2658 : (Jvm.Cond.code ({ cls := "ThreeBodies$QueryParser", name := "value", desc := "()LThreeBodies$Value;" } : Jvm.MethodName) prog_11_method_9_code (2 : Nat) (Option.some (Jvm.ClassFile.FieldType.object "ThreeBodies$Value"))) ∈ lw_all := lw_g (lw_at lw_m11 160 rfl) rfl
theorem q2659 : (Jvm.Cond.constant "ThreeBodies$QueryParser" (115 : Nat) (9999999 : Int32)) ∈ lw_all := lw_g (lw_at lw_m11 161 rfl) rfl
theorem q2660 : (Jvm.Cond.methodLink "ThreeBodies$QueryParser" (116 : Nat) ({ cls := "ThreeBodies$Scanner", name := "number", desc := "(II)I" } : Jvm.MethodName)) ∈ lw_all := lw_g (lw_at lw_m11 162 rfl) rfl
theorem q2661 : (Jvm.Cond.static ({ cls := "ThreeBodies$QueryParser", name := "lambda$value$2", desc := "(ILThreeBodies$Approach;I)I" } : Jvm.MethodName)) ∈ lw_all := lw_g (lw_at lw_m11 163 rfl) rfl
theorem q2662 : (Jvm.Cond.code ({ cls := "ThreeBodies$QueryParser", name := "lambda$value$2", desc := "(ILThreeBodies$Approach;I)I" } : Jvm.MethodName) prog_11_method_10_code (3 : Nat) (Option.some Jvm.ClassFile.FieldType.int)) ∈ lw_all := lw_g (lw_at lw_m11 164 rfl) rfl
theorem q2663 : (Jvm.Cond.methodLinkNest "ThreeBodies$QueryParser" (128 : Nat) ({ cls := "ThreeBodies", name := "property", desc := "(Ljava/lang/String;)LThreeBodies$Value;" } : Jvm.MethodName) "ThreeBodies") ∈ lw_tbl := lw_at lw_m11 165 rfl
theorem q2680 : (Jvm.Cond.static ({ cls := "ThreeBodies$QueryParser", name := "lambda$comparison$1", desc := "(LThreeBodies$Value;LThreeBodies$Value;ZZLThreeBodies$Approach;I)Z" } : Jvm.MethodName)) ∈ lw_all := lw_g (lw_at lw_m11 182 rfl) rfl
theorem q2681 : (Jvm.Cond.code ({ cls := "ThreeBodies$QueryParser", name := "lambda$comparison$1", desc := "(LThreeBodies$Value;LThreeBodies$Value;ZZLThreeBodies$Approach;I)Z" } : Jvm.MethodName) prog_11_method_11_code (7 : Nat) (Option.some Jvm.ClassFile.FieldType.boolean)) ∈ lw_all := lw_g (lw_at lw_m11 183 rfl) rfl
theorem q2682 : (Jvm.Cond.interfaceEntry "ThreeBodies$QueryParser" (132 : Nat)) ∈ lw_tbl := lw_at lw_m11 184 rfl
theorem q2683 : (Jvm.Cond.methodLink "ThreeBodies$QueryParser" (132 : Nat) ({ cls := "ThreeBodies$Value", name := "of", desc := "(LThreeBodies$Approach;I)I" } : Jvm.MethodName)) ∈ lw_all := lw_g (lw_at lw_m11 185 rfl) rfl
theorem q2686 : (Jvm.Cond.methodLink "ThreeBodies$QueryParser" (65 : Nat) ({ cls := "ThreeBodies$Tests", name := "add", desc := "(LThreeBodies$Test;)V" } : Jvm.MethodName)) ∈ lw_all := lw_g (lw_at lw_m11 188 rfl) rfl
theorem q2691 : (Jvm.Cond.stringRef "ThreeBodies$QueryParser" (77 : Nat) "and") ∈ lw_tbl := lw_at lw_m11 193 rfl
theorem q2692 : (Jvm.Cond.methodLink "ThreeBodies$QueryParser" (71 : Nat) ({ cls := "ThreeBodies$Scanner", name := "accept", desc := "(Ljava/lang/String;)Z" } : Jvm.MethodName)) ∈ lw_all := lw_g (lw_at lw_m11 194 rfl) rfl
theorem q2693 : (Jvm.Cond.stringRef "ThreeBodies$QueryParser" (69 : Nat) "or") ∈ lw_tbl := lw_at lw_m11 195 rfl
theorem q2694 : (Jvm.Cond.classLink "ThreeBodies$QueryParser" (25 : Nat) "ThreeBodies$UnreadableException") ∈ lw_all := lw_g (lw_at lw_m11 196 rfl) rfl
theorem q2695 : (Jvm.Cond.methodLink "ThreeBodies$QueryParser" (27 : Nat) ({ cls := "ThreeBodies$UnreadableException", name := "<init>", desc := "(LThreeBodies$TextException;)V" } : Jvm.MethodName)) ∈ lw_all := lw_g (lw_at lw_m11 197 rfl) rfl
theorem q3418 : (Jvm.Cond.castable "ThreeBodies$QueryParser" "java/lang/Object") ∈ lw_tbl := lw_at lw_m14 200 rfl
theorem in_X18 : ∀ w ∈ wsX180, w ∈ lw_all := lw_in wsX180 [2562, 2564, 2566] (by decide +kernel) (by decide +kernel)
/-! ThreeBodies$Tests -/
set_option maxRecDepth 100000
def RX19 : String := "ThreeBodies$Tests"
def TX19 : u_T := fun k => match k with
  | 0 => ("ThreeBodies$Tests", "all", "Z", true)
  | 1 => ("ThreeBodies$Tests", "parts", "[LThreeBodies$Test;", false)
  | _ => ("ThreeBodies$Tests", "count", "I", false)
def tyX19 : Nat → FieldType := fun k => match k with
  | 0 => .boolean
  | 1 => .array (.object "ThreeBodies$Test")
  | _ => .int
abbrev wsX190 : List Cond := u_ws RX19 TX19 3
theorem nmX19 : ∀ a, a < 3 → ∀ b, b < 3 → a ≠ b → (TX19 a).2.1 ≠ (TX19 b).2.1 := by decide +kernel
theorem tyX19_ok : ∀ k, k < 3 → parseFieldDescriptor (TX19 k).2.2.1 = some (tyX19 k) := by decide +kernel
abbrev cX19_init : ByteArray := prog_18_method_1_code
def yX19_init : MethodName := ⟨RX19, "<init>", "(Z)V"⟩
def dkwX19_init_0 : List UInt8 := [42, 183, 0, 1, 42, 5, 189, 0, 7, 181, 0, 9, 42, 27, 181, 0, 15, 177]
abbrev dktX19_init_0 : List UInt8 := dkwX19_init_0 ++ []
theorem dksX19_init_0 : cX19_init.data.toList.drop 0 = dktX19_init_0 := by decide +kernel
theorem dX19_init_0 : decode cX19_init 0 = .ok (.aload_n 0, 1) := dk_42 (dk_at dksX19_init_0 0 rfl rfl)
theorem dX19_init_1 : decode cX19_init 1 = .ok (.invokespecial 1, 3) := dk_183 0 1 (dk_at dksX19_init_0 1 rfl rfl)
theorem dX19_init_4 : decode cX19_init 4 = .ok (.aload_n 0, 1) := dk_42 (dk_at dksX19_init_0 4 rfl rfl)
theorem dX19_init_5 : decode cX19_init 5 = .ok (.iconst 2, 1) := dk_5 (dk_at dksX19_init_0 5 rfl rfl)
theorem dX19_init_6 : decode cX19_init 6 = .ok (.anewarray 7, 3) := dk_189 0 7 (dk_at dksX19_init_0 6 rfl rfl)
theorem dX19_init_9 : decode cX19_init 9 = .ok (.putfield 9, 3) := dk_181 0 9 (dk_at dksX19_init_0 9 rfl rfl)
theorem dX19_init_12 : decode cX19_init 12 = .ok (.aload_n 0, 1) := dk_42 (dk_at dksX19_init_0 12 rfl rfl)
theorem dX19_init_13 : decode cX19_init 13 = .ok (.iload_n 1, 1) := dk_27 (dk_at dksX19_init_0 13 rfl rfl)
theorem dX19_init_14 : decode cX19_init 14 = .ok (.putfield 15, 3) := dk_181 0 15 (dk_at dksX19_init_0 14 rfl rfl)
theorem dX19_init_17 : decode cX19_init 17 = .ok (.return_, 1) := dk_177 (dk_at dksX19_init_0 17 rfl rfl)
abbrev cX19_holds : ByteArray := prog_18_method_3_code
def yX19_holds : MethodName := ⟨RX19, "holds", "(LThreeBodies$Approach;I)Z"⟩
def dkwX19_holds_2 : List UInt8 := [167, 255, 212, 42, 180, 0, 15, 172]
abbrev dktX19_holds_2 : List UInt8 := dkwX19_holds_2 ++ []
def dkwX19_holds_1 : List UInt8 := [180, 0, 15, 159, 0, 16, 42, 180, 0, 15, 154, 0, 7, 4, 167, 0, 4, 3, 172, 132, 3, 1]
abbrev dktX19_holds_1 : List UInt8 := dkwX19_holds_1 ++ dktX19_holds_2
def dkwX19_holds_0 : List UInt8 := [3, 62, 29, 42, 180, 0, 19, 162, 0, 42, 42, 180, 0, 9, 29, 50, 43, 28, 185, 0, 29, 3, 0, 42]
abbrev dktX19_holds_0 : List UInt8 := dkwX19_holds_0 ++ dktX19_holds_1
theorem dksX19_holds_0 : cX19_holds.data.toList.drop 0 = dktX19_holds_0 := by decide +kernel
theorem dksX19_holds_1 : cX19_holds.data.toList.drop 24 = dktX19_holds_1 := dk_seg dksX19_holds_0 24 rfl rfl
theorem dksX19_holds_2 : cX19_holds.data.toList.drop 46 = dktX19_holds_2 := dk_seg dksX19_holds_1 22 rfl rfl
theorem dX19_holds_0 : decode cX19_holds 0 = .ok (.iconst 0, 1) := dk_3 (dk_at dksX19_holds_0 0 rfl rfl)
theorem dX19_holds_1 : decode cX19_holds 1 = .ok (.istore_n 3, 1) := dk_62 (dk_at dksX19_holds_0 1 rfl rfl)
theorem dX19_holds_2 : decode cX19_holds 2 = .ok (.iload_n 3, 1) := dk_29 (dk_at dksX19_holds_0 2 rfl rfl)
theorem dX19_holds_3 : decode cX19_holds 3 = .ok (.aload_n 0, 1) := dk_42 (dk_at dksX19_holds_0 3 rfl rfl)
theorem dX19_holds_4 : decode cX19_holds 4 = .ok (.getfield 19, 3) := dk_180 0 19 (dk_at dksX19_holds_0 4 rfl rfl)
theorem dX19_holds_7 : decode cX19_holds 7 = .ok (.if_icmp .ge 42, 3) := dk_162 0 42 (dk_at dksX19_holds_0 7 rfl rfl)
theorem dX19_holds_10 : decode cX19_holds 10 = .ok (.aload_n 0, 1) := dk_42 (dk_at dksX19_holds_0 10 rfl rfl)
theorem dX19_holds_11 : decode cX19_holds 11 = .ok (.getfield 9, 3) := dk_180 0 9 (dk_at dksX19_holds_0 11 rfl rfl)
theorem dX19_holds_14 : decode cX19_holds 14 = .ok (.iload_n 3, 1) := dk_29 (dk_at dksX19_holds_0 14 rfl rfl)
theorem dX19_holds_15 : decode cX19_holds 15 = .ok (.aaload, 1) := dk_50 (dk_at dksX19_holds_0 15 rfl rfl)
theorem dX19_holds_16 : decode cX19_holds 16 = .ok (.aload_n 1, 1) := dk_43 (dk_at dksX19_holds_0 16 rfl rfl)
theorem dX19_holds_17 : decode cX19_holds 17 = .ok (.iload_n 2, 1) := dk_28 (dk_at dksX19_holds_0 17 rfl rfl)
theorem dX19_holds_18 : decode cX19_holds 18 = .ok (.invokeinterface 29 3, 5) := by decide +kernel
theorem dX19_holds_23 : decode cX19_holds 23 = .ok (.aload_n 0, 1) := dk_42 (dk_at dksX19_holds_0 23 rfl rfl)
theorem dX19_holds_24 : decode cX19_holds 24 = .ok (.getfield 15, 3) := dk_180 0 15 (dk_at dksX19_holds_1 0 rfl rfl)
theorem dX19_holds_27 : decode cX19_holds 27 = .ok (.if_icmp .eq 16, 3) := dk_159 0 16 (dk_at dksX19_holds_1 3 rfl rfl)
theorem dX19_holds_30 : decode cX19_holds 30 = .ok (.aload_n 0, 1) := dk_42 (dk_at dksX19_holds_1 6 rfl rfl)
theorem dX19_holds_31 : decode cX19_holds 31 = .ok (.getfield 15, 3) := dk_180 0 15 (dk_at dksX19_holds_1 7 rfl rfl)
theorem dX19_holds_34 : decode cX19_holds 34 = .ok (.ifCond .ne 7, 3) := dk_154 0 7 (dk_at dksX19_holds_1 10 rfl rfl)
theorem dX19_holds_37 : decode cX19_holds 37 = .ok (.iconst 1, 1) := dk_4 (dk_at dksX19_holds_1 13 rfl rfl)
theorem dX19_holds_38 : decode cX19_holds 38 = .ok (.goto 4, 3) := dk_167 0 4 (dk_at dksX19_holds_1 14 rfl rfl)
theorem dX19_holds_41 : decode cX19_holds 41 = .ok (.iconst 0, 1) := dk_3 (dk_at dksX19_holds_1 17 rfl rfl)
theorem dX19_holds_42 : decode cX19_holds 42 = .ok (.ireturn, 1) := dk_172 (dk_at dksX19_holds_1 18 rfl rfl)
theorem dX19_holds_43 : decode cX19_holds 43 = .ok (.iinc 3 1, 3) := dk_132 3 1 (dk_at dksX19_holds_1 19 rfl rfl)
theorem dX19_holds_46 : decode cX19_holds 46 = .ok (.goto (-44), 3) := dk_167 255 212 (dk_at dksX19_holds_2 0 rfl rfl)
theorem dX19_holds_49 : decode cX19_holds 49 = .ok (.aload_n 0, 1) := dk_42 (dk_at dksX19_holds_2 3 rfl rfl)
theorem dX19_holds_50 : decode cX19_holds 50 = .ok (.getfield 15, 3) := dk_180 0 15 (dk_at dksX19_holds_2 4 rfl rfl)
theorem dX19_holds_53 : decode cX19_holds 53 = .ok (.ireturn, 1) := dk_172 (dk_at dksX19_holds_2 7 rfl rfl)
abbrev cX19_add : ByteArray := prog_18_method_2_code
def yX19_add : MethodName := ⟨RX19, "add", "(LThreeBodies$Test;)V"⟩
def dkwX19_add_2 : List UInt8 := [180, 0, 19, 43, 83, 42, 89, 180, 0, 19, 4, 96, 181, 0, 19, 177]
abbrev dktX19_add_2 : List UInt8 := dkwX19_add_2 ++ []
def dkwX19_add_1 : List UInt8 := [180, 0, 9, 3, 44, 3, 42, 180, 0, 19, 184, 0, 23, 42, 44, 181, 0, 9, 42, 180, 0, 9, 42]
abbrev dktX19_add_1 : List UInt8 := dkwX19_add_1 ++ dktX19_add_2
def dkwX19_add_0 : List UInt8 := [42, 180, 0, 19, 42, 180, 0, 9, 190, 160, 0, 32, 5, 42, 180, 0, 19, 104, 189, 0, 7, 77, 42]
abbrev dktX19_add_0 : List UInt8 := dkwX19_add_0 ++ dktX19_add_1
theorem dksX19_add_0 : cX19_add.data.toList.drop 0 = dktX19_add_0 := by decide +kernel
theorem dksX19_add_1 : cX19_add.data.toList.drop 23 = dktX19_add_1 := dk_seg dksX19_add_0 23 rfl rfl
theorem dksX19_add_2 : cX19_add.data.toList.drop 46 = dktX19_add_2 := dk_seg dksX19_add_1 23 rfl rfl
theorem dX19_add_0 : decode cX19_add 0 = .ok (.aload_n 0, 1) := dk_42 (dk_at dksX19_add_0 0 rfl rfl)
theorem dX19_add_1 : decode cX19_add 1 = .ok (.getfield 19, 3) := dk_180 0 19 (dk_at dksX19_add_0 1 rfl rfl)
theorem dX19_add_4 : decode cX19_add 4 = .ok (.aload_n 0, 1) := dk_42 (dk_at dksX19_add_0 4 rfl rfl)
theorem dX19_add_5 : decode cX19_add 5 = .ok (.getfield 9, 3) := dk_180 0 9 (dk_at dksX19_add_0 5 rfl rfl)
theorem dX19_add_8 : decode cX19_add 8 = .ok (.arraylength, 1) := dk_190 (dk_at dksX19_add_0 8 rfl rfl)
theorem dX19_add_9 : decode cX19_add 9 = .ok (.if_icmp .ne 32, 3) := dk_160 0 32 (dk_at dksX19_add_0 9 rfl rfl)
theorem dX19_add_12 : decode cX19_add 12 = .ok (.iconst 2, 1) := dk_5 (dk_at dksX19_add_0 12 rfl rfl)
theorem dX19_add_13 : decode cX19_add 13 = .ok (.aload_n 0, 1) := dk_42 (dk_at dksX19_add_0 13 rfl rfl)
theorem dX19_add_14 : decode cX19_add 14 = .ok (.getfield 19, 3) := dk_180 0 19 (dk_at dksX19_add_0 14 rfl rfl)
theorem dX19_add_17 : decode cX19_add 17 = .ok (.imul, 1) := dk_104 (dk_at dksX19_add_0 17 rfl rfl)
theorem dX19_add_18 : decode cX19_add 18 = .ok (.anewarray 7, 3) := dk_189 0 7 (dk_at dksX19_add_0 18 rfl rfl)
theorem dX19_add_21 : decode cX19_add 21 = .ok (.astore_n 2, 1) := dk_77 (dk_at dksX19_add_0 21 rfl rfl)
theorem dX19_add_22 : decode cX19_add 22 = .ok (.aload_n 0, 1) := dk_42 (dk_at dksX19_add_0 22 rfl rfl)
theorem dX19_add_23 : decode cX19_add 23 = .ok (.getfield 9, 3) := dk_180 0 9 (dk_at dksX19_add_1 0 rfl rfl)
theorem dX19_add_26 : decode cX19_add 26 = .ok (.iconst 0, 1) := dk_3 (dk_at dksX19_add_1 3 rfl rfl)
theorem dX19_add_27 : decode cX19_add 27 = .ok (.aload_n 2, 1) := dk_44 (dk_at dksX19_add_1 4 rfl rfl)
theorem dX19_add_28 : decode cX19_add 28 = .ok (.iconst 0, 1) := dk_3 (dk_at dksX19_add_1 5 rfl rfl)
theorem dX19_add_29 : decode cX19_add 29 = .ok (.aload_n 0, 1) := dk_42 (dk_at dksX19_add_1 6 rfl rfl)
theorem dX19_add_30 : decode cX19_add 30 = .ok (.getfield 19, 3) := dk_180 0 19 (dk_at dksX19_add_1 7 rfl rfl)
theorem dX19_add_33 : decode cX19_add 33 = .ok (.invokestatic 23, 3) := dk_184 0 23 (dk_at dksX19_add_1 10 rfl rfl)
theorem dX19_add_36 : decode cX19_add 36 = .ok (.aload_n 0, 1) := dk_42 (dk_at dksX19_add_1 13 rfl rfl)
theorem dX19_add_37 : decode cX19_add 37 = .ok (.aload_n 2, 1) := dk_44 (dk_at dksX19_add_1 14 rfl rfl)
theorem dX19_add_38 : decode cX19_add 38 = .ok (.putfield 9, 3) := dk_181 0 9 (dk_at dksX19_add_1 15 rfl rfl)
theorem dX19_add_41 : decode cX19_add 41 = .ok (.aload_n 0, 1) := dk_42 (dk_at dksX19_add_1 18 rfl rfl)
theorem dX19_add_42 : decode cX19_add 42 = .ok (.getfield 9, 3) := dk_180 0 9 (dk_at dksX19_add_1 19 rfl rfl)
theorem dX19_add_45 : decode cX19_add 45 = .ok (.aload_n 0, 1) := dk_42 (dk_at dksX19_add_1 22 rfl rfl)
theorem dX19_add_46 : decode cX19_add 46 = .ok (.getfield 19, 3) := dk_180 0 19 (dk_at dksX19_add_2 0 rfl rfl)
theorem dX19_add_49 : decode cX19_add 49 = .ok (.aload_n 1, 1) := dk_43 (dk_at dksX19_add_2 3 rfl rfl)
theorem dX19_add_50 : decode cX19_add 50 = .ok (.aastore, 1) := dk_83 (dk_at dksX19_add_2 4 rfl rfl)
theorem dX19_add_51 : decode cX19_add 51 = .ok (.aload_n 0, 1) := dk_42 (dk_at dksX19_add_2 5 rfl rfl)
theorem dX19_add_52 : decode cX19_add 52 = .ok (.dup, 1) := dk_89 (dk_at dksX19_add_2 6 rfl rfl)
theorem dX19_add_53 : decode cX19_add 53 = .ok (.getfield 19, 3) := dk_180 0 19 (dk_at dksX19_add_2 7 rfl rfl)
theorem dX19_add_56 : decode cX19_add 56 = .ok (.iconst 1, 1) := dk_4 (dk_at dksX19_add_2 10 rfl rfl)
theorem dX19_add_57 : decode cX19_add 57 = .ok (.iadd, 1) := dk_96 (dk_at dksX19_add_2 11 rfl rfl)
theorem dX19_add_58 : decode cX19_add 58 = .ok (.putfield 19, 3) := dk_181 0 19 (dk_at dksX19_add_2 12 rfl rfl)
theorem dX19_add_61 : decode cX19_add 61 = .ok (.return_, 1) := dk_177 (dk_at dksX19_add_2 15 rfl rfl)
theorem q151 : (Jvm.Cond.initialized "ThreeBodies$Tests") ∈ lw_all := lw_g (lw_at lw_m1 53 rfl) rfl
theorem q816 : (Jvm.Cond.selects "ThreeBodies$Tests" ({ cls := "java/lang/Object", name := "getClass", desc := "()Ljava/lang/Class;" } : Jvm.MethodName) ({ cls := "java/lang/Object", name := "getClass", desc := "()Ljava/lang/Class;" } : Jvm.MethodName)) ∈ lw_all := lw_g (lw_at lw_m3 238 rfl) rfl
theorem q1862 : (Jvm.Cond.selects "ThreeBodies$Tests" ({ cls := "java/lang/Object", name := "hashCode", desc := "()I" } : Jvm.MethodName) ({ cls := "java/lang/Object", name := "hashCode", desc := "()I" } : Jvm.MethodName)) ∈ lw_all := lw_g (lw_at lw_m8 84 rfl) rfl
theorem q1949 : (Jvm.Cond.selects "ThreeBodies$Tests" ({ cls := "java/lang/Object", name := "equals", desc := "(Ljava/lang/Object;)Z" } : Jvm.MethodName) ({ cls := "java/lang/Object", name := "equals", desc := "(Ljava/lang/Object;)Z" } : Jvm.MethodName)) ∈ lw_all := lw_g (lw_at lw_m8 171 rfl) rfl
theorem q2590 : (Jvm.Cond.instantiable "ThreeBodies$Tests" (3 : Nat)) ∈ lw_all := lw_g (lw_at lw_m11 92 rfl) rfl
theorem q2592 : (Jvm.Cond.instanceMethod ({ cls := "ThreeBodies$Tests", name := "<init>", desc := "(Z)V" } : Jvm.MethodName)) ∈ lw_all := lw_g (lw_at lw_m11 94 rfl) rfl
theorem q2593 : (Jvm.Cond.code ({ cls := "ThreeBodies$Tests", name := "<init>", desc := "(Z)V" } : Jvm.MethodName) prog_18_method_1_code (2 : Nat) (Option.none : Option Jvm.ClassFile.FieldType)) ∈ lw_all := lw_g (lw_at lw_m11 95 rfl) rfl
theorem q2594 : (Jvm.Cond.methodLink "ThreeBodies$Tests" (1 : Nat) ({ cls := "java/lang/Object", name := "<init>", desc := "()V" } : Jvm.MethodName)) ∈ lw_all := lw_g (lw_at lw_m11 96 rfl) rfl
theorem q2595 : (Jvm.Cond.classLink "ThreeBodies$Tests" (7 : Nat) "ThreeBodies$Test") ∈ lw_all := lw_g (lw_at lw_m11 97 rfl) rfl
theorem q2597 : (Jvm.Cond.fieldLink "ThreeBodies$Tests" (15 : Nat) "ThreeBodies$Tests" "all" "Z") ∈ lw_all := lw_g (lw_at lw_m11 99 rfl) rfl
theorem q2598 : (Jvm.Cond.fieldLink "ThreeBodies$Tests" (9 : Nat) "ThreeBodies$Tests" "parts" "[LThreeBodies$Test;") ∈ lw_all := lw_g (lw_at lw_m11 100 rfl) rfl
theorem q2599 : (Jvm.Cond.fieldLink "ThreeBodies$Tests" (19 : Nat) "ThreeBodies$Tests" "count" "I") ∈ lw_all := lw_g (lw_at lw_m11 101 rfl) rfl
theorem q2600 : (Jvm.Cond.laysFinal "ThreeBodies$Tests" "ThreeBodies$Tests" "all" "Z") ∈ lw_all := lw_g (lw_at lw_m11 102 rfl) rfl
theorem q2601 : (Jvm.Cond.soleField "ThreeBodies$Tests" "all") ∈ lw_all := lw_g (lw_at lw_m11 103 rfl) rfl
theorem q2602 : (Jvm.Cond.lays "ThreeBodies$Tests" "ThreeBodies$Tests" "parts" "[LThreeBodies$Test;") ∈ lw_all := lw_g (lw_at lw_m11 104 rfl) rfl
theorem q2603 : (Jvm.Cond.soleField "ThreeBodies$Tests" "parts") ∈ lw_all := lw_g (lw_at lw_m11 105 rfl) rfl
theorem q2604 : (Jvm.Cond.lays "ThreeBodies$Tests" "ThreeBodies$Tests" "count" "I") ∈ lw_all := lw_g (lw_at lw_m11 106 rfl) rfl
theorem q2605 : (Jvm.Cond.soleField "ThreeBodies$Tests" "count") ∈ lw_all := lw_g (lw_at lw_m11 107 rfl) rfl
theorem q2606 : (Jvm.Cond.superclass "ThreeBodies$Tests" "java/lang/Object") ∈ lw_all := lw_g (lw_at lw_m11 108 rfl) rfl
theorem q2641 : (Jvm.Cond.castable "ThreeBodies$Tests" "ThreeBodies$Test") ∈ lw_tbl := lw_at lw_m11 143 rfl
theorem q2642 : (Jvm.Cond.selects "ThreeBodies$Tests" ({ cls := "ThreeBodies$Test", name := "holds", desc := "(LThreeBodies$Approach;I)Z" } : Jvm.MethodName) ({ cls := "ThreeBodies$Tests", name := "holds", desc := "(LThreeBodies$Approach;I)Z" } : Jvm.MethodName)) ∈ lw_all := lw_g (lw_at lw_m11 144 rfl) rfl
theorem q2643 : (Jvm.Cond.unhidden "ThreeBodies$Tests" "holds" "(LThreeBodies$Approach;I)Z") ∈ lw_tbl := lw_at lw_m11 145 rfl
theorem q2644 : (Jvm.Cond.instanceMethod ({ cls := "ThreeBodies$Tests", name := "holds", desc := "(LThreeBodies$Approach;I)Z" } : Jvm.MethodName)) ∈ lw_all := lw_g (lw_at lw_m11 146 rfl) rfl
theorem q2645 : (Jvm.Cond.publicMethod ({ cls := "ThreeBodies$Tests", name := "holds", desc := "(LThreeBodies$Approach;I)Z" } : Jvm.MethodName)) ∈ lw_tbl := lw_at lw_m11 147 rfl
theorem q2646 : (Jvm.Cond.code ({ cls := "ThreeBodies$Tests", name := "holds", desc := "(LThreeBodies$Approach;I)Z" } : Jvm.MethodName) prog_18_method_3_code (4 : Nat) (Option.some Jvm.ClassFile.FieldType.boolean)) ∈ lw_all := lw_g (lw_at lw_m11 148 rfl) rfl
theorem q2647 : (Jvm.Cond.interfaceEntry "ThreeBodies$Tests" (29 : Nat)) ∈ lw_tbl := lw_at lw_m11 149 rfl
theorem q2648 : (Jvm.Cond.methodLink "ThreeBodies$Tests" (29 : Nat) ({ cls := "ThreeBodies$Test", name := "holds", desc := "(LThreeBodies$Approach;I)Z" } : Jvm.MethodName)) ∈ lw_all := lw_g (lw_at lw_m11 150 rfl) rfl
theorem q2687 : (Jvm.Cond.instanceMethod ({ cls := "ThreeBodies$Tests", name := "add", desc := "(LThreeBodies$Test;)V" } : Jvm.MethodName)) ∈ lw_all := lw_g (lw_at lw_m11 189 rfl) rfl
theorem q2688 : (Jvm.Cond.selects "ThreeBodies$Tests" ({ cls := "ThreeBodies$Tests", name := "add", desc := "(LThreeBodies$Test;)V" } : Jvm.MethodName) ({ cls := "ThreeBodies$Tests", name := "add", desc := "(LThreeBodies$Test;)V" } : Jvm.MethodName)) ∈ lw_all := lw_g (lw_at lw_m11 190 rfl) rfl
theorem q2689 : (Jvm.Cond.code ({ cls := "ThreeBodies$Tests", name := "add", desc := "(LThreeBodies$Test;)V" } : Jvm.MethodName) prog_18_method_2_code (3 : Nat) (Option.none : Option Jvm.ClassFile.FieldType)) ∈ lw_all := lw_g (lw_at lw_m11 191 rfl) rfl
theorem q2690 : (Jvm.Cond.methodLink "ThreeBodies$Tests" (23 : Nat) ({ cls := "java/lang/System", name := "arraycopy", desc := "(Ljava/lang/Object;ILjava/lang/Object;II)V" } : Jvm.MethodName)) ∈ lw_all := lw_g (lw_at lw_m11 192 rfl) rfl
theorem q3419 : (Jvm.Cond.castable "ThreeBodies$Tests" "java/lang/Object") ∈ lw_tbl := lw_at lw_m14 201 rfl
theorem in_X19 : ∀ w ∈ wsX190, w ∈ lw_all := lw_in wsX190 [2600, 2602, 2604] (by decide +kernel) (by decide +kernel)
/-! ThreeBodies$LimitException -/
set_option maxRecDepth 100000
def RX20 : String := "ThreeBodies$LimitException"
def TX20 : u_T := fun k => match k with
  | 0 => ("ThreeBodies$TextException", "place", "I", true)
  | 1 => ("java/lang/Throwable", "cause", "Ljava/lang/Throwable;", false)
  | 2 => ("java/lang/Throwable", "stackTrace", "[Ljava/lang/StackTraceElement;", false)
  | 3 => ("java/lang/Throwable", "suppressedExceptions", "Ljava/util/List;", false)
  | 4 => ("java/lang/Throwable", "detailMessage", "Ljava/lang/String;", false)
  | 5 => ("java/lang/Throwable", "backtrace", "Ljava/lang/Object;", false)
  | _ => ("java/lang/Throwable", "depth", "I", false)
def tyX20 : Nat → FieldType := fun k => match k with
  | 0 => .int
  | 1 => .object "java/lang/Throwable"
  | 2 => .array (.object "java/lang/StackTraceElement")
  | 3 => .object "java/util/List"
  | 4 => .object "java/lang/String"
  | 5 => .object "java/lang/Object"
  | _ => .int
abbrev wsX200 : List Cond := u_ws RX20 TX20 7
theorem nmX20 : ∀ a, a < 7 → ∀ b, b < 7 → a ≠ b → (TX20 a).2.1 ≠ (TX20 b).2.1 := by decide +kernel
theorem tyX20_ok : ∀ k, k < 7 → parseFieldDescriptor (TX20 k).2.2.1 = some (tyX20 k) := by decide +kernel
abbrev cX20_code : ByteArray := prog_7_method_2_code
def yX20_code : MethodName := ⟨RX20, "code", "()I"⟩
theorem dX20_code_0 : decode cX20_code 0 = .ok (.iconst 3, 1) := by decide +kernel
theorem dX20_code_1 : decode cX20_code 1 = .ok (.ireturn, 1) := by decide +kernel
abbrev cX20_init : ByteArray := prog_7_method_1_code
def yX20_init : MethodName := ⟨RX20, "<init>", "(I)V"⟩
def dkwX20_init_0 : List UInt8 := [42, 27, 183, 0, 1, 177]
abbrev dktX20_init_0 : List UInt8 := dkwX20_init_0 ++ []
theorem dksX20_init_0 : cX20_init.data.toList.drop 0 = dktX20_init_0 := by decide +kernel
theorem dX20_init_0 : decode cX20_init 0 = .ok (.aload_n 0, 1) := dk_42 (dk_at dksX20_init_0 0 rfl rfl)
theorem dX20_init_1 : decode cX20_init 1 = .ok (.iload_n 1, 1) := dk_27 (dk_at dksX20_init_0 1 rfl rfl)
theorem dX20_init_2 : decode cX20_init 2 = .ok (.invokespecial 1, 3) := dk_183 0 1 (dk_at dksX20_init_0 2 rfl rfl)
theorem dX20_init_5 : decode cX20_init 5 = .ok (.return_, 1) := dk_177 (dk_at dksX20_init_0 5 rfl rfl)
theorem q152 : (Jvm.Cond.initialized "ThreeBodies$LimitException") ∈ lw_all := lw_g (lw_at lw_m1 54 rfl) rfl
theorem q374 : (Jvm.Cond.selects "ThreeBodies$LimitException" ({ cls := "java/lang/Throwable", name := "fillInStackTrace", desc := "()Ljava/lang/Throwable;" } : Jvm.MethodName) ({ cls := "java/lang/Throwable", name := "fillInStackTrace", desc := "()Ljava/lang/Throwable;" } : Jvm.MethodName)) ∈ lw_all := lw_g (lw_at lw_m2 36 rfl) rfl
theorem q808 : (Jvm.Cond.selects "ThreeBodies$LimitException" ({ cls := "java/lang/Object", name := "getClass", desc := "()Ljava/lang/Class;" } : Jvm.MethodName) ({ cls := "java/lang/Object", name := "getClass", desc := "()Ljava/lang/Class;" } : Jvm.MethodName)) ∈ lw_all := lw_g (lw_at lw_m3 230 rfl) rfl
theorem q1477 : (Jvm.Cond.selects "ThreeBodies$LimitException" ({ cls := "ThreeBodies$TextException", name := "code", desc := "()I" } : Jvm.MethodName) ({ cls := "ThreeBodies$LimitException", name := "code", desc := "()I" } : Jvm.MethodName)) ∈ lw_all := lw_g (lw_at lw_m6 179 rfl) rfl
theorem q1478 : (Jvm.Cond.instanceMethod ({ cls := "ThreeBodies$LimitException", name := "code", desc := "()I" } : Jvm.MethodName)) ∈ lw_all := lw_g (lw_at lw_m6 180 rfl) rfl
theorem q1479 : (Jvm.Cond.code ({ cls := "ThreeBodies$LimitException", name := "code", desc := "()I" } : Jvm.MethodName) prog_7_method_2_code (1 : Nat) (Option.some Jvm.ClassFile.FieldType.int)) ∈ lw_all := lw_g (lw_at lw_m6 181 rfl) rfl
theorem q1854 : (Jvm.Cond.selects "ThreeBodies$LimitException" ({ cls := "java/lang/Object", name := "hashCode", desc := "()I" } : Jvm.MethodName) ({ cls := "java/lang/Object", name := "hashCode", desc := "()I" } : Jvm.MethodName)) ∈ lw_all := lw_g (lw_at lw_m8 76 rfl) rfl
theorem q1941 : (Jvm.Cond.selects "ThreeBodies$LimitException" ({ cls := "java/lang/Object", name := "equals", desc := "(Ljava/lang/Object;)Z" } : Jvm.MethodName) ({ cls := "java/lang/Object", name := "equals", desc := "(Ljava/lang/Object;)Z" } : Jvm.MethodName)) ∈ lw_all := lw_g (lw_at lw_m8 163 rfl) rfl
theorem q2620 : (Jvm.Cond.instantiable "ThreeBodies$LimitException" (7 : Nat)) ∈ lw_all := lw_g (lw_at lw_m11 122 rfl) rfl
theorem q2621 : (Jvm.Cond.castable "ThreeBodies$LimitException" "ThreeBodies$LimitException") ∈ lw_tbl := lw_at lw_m11 123 rfl
theorem q2622 : (Jvm.Cond.selects "ThreeBodies$LimitException" ({ cls := "java/lang/Throwable", name := "fillInStackTrace", desc := "(I)Ljava/lang/Throwable;" } : Jvm.MethodName) ({ cls := "java/lang/Throwable", name := "fillInStackTrace", desc := "(I)Ljava/lang/Throwable;" } : Jvm.MethodName)) ∈ lw_all := lw_g (lw_at lw_m11 124 rfl) rfl
theorem q2623 : (Jvm.Cond.lays "ThreeBodies$LimitException" "java/lang/Throwable" "cause" "Ljava/lang/Throwable;") ∈ lw_all := lw_g (lw_at lw_m11 125 rfl) rfl
theorem q2624 : (Jvm.Cond.lays "ThreeBodies$LimitException" "java/lang/Throwable" "stackTrace" "[Ljava/lang/StackTraceElement;") ∈ lw_all := lw_g (lw_at lw_m11 126 rfl) rfl
theorem q2625 : (Jvm.Cond.lays "ThreeBodies$LimitException" "java/lang/Throwable" "suppressedExceptions" "Ljava/util/List;") ∈ lw_all := lw_g (lw_at lw_m11 127 rfl) rfl
theorem q2626 : (Jvm.Cond.lays "ThreeBodies$LimitException" "java/lang/Throwable" "detailMessage" "Ljava/lang/String;") ∈ lw_all := lw_g (lw_at lw_m11 128 rfl) rfl
theorem q2627 : (Jvm.Cond.lays "ThreeBodies$LimitException" "java/lang/Throwable" "backtrace" "Ljava/lang/Object;") ∈ lw_all := lw_g (lw_at lw_m11 129 rfl) rfl
theorem q2629 : (Jvm.Cond.instanceMethod ({ cls := "ThreeBodies$LimitException", name := "<init>", desc := "(I)V" } : Jvm.MethodName)) ∈ lw_all := lw_g (lw_at lw_m11 131 rfl) rfl
theorem q2630 : (Jvm.Cond.code ({ cls := "ThreeBodies$LimitException", name := "<init>", desc := "(I)V" } : Jvm.MethodName) prog_7_method_1_code (2 : Nat) (Option.none : Option Jvm.ClassFile.FieldType)) ∈ lw_all := lw_g (lw_at lw_m11 132 rfl) rfl
theorem q2631 : (Jvm.Cond.methodLink "ThreeBodies$LimitException" (1 : Nat) ({ cls := "ThreeBodies$TextException", name := "<init>", desc := "(I)V" } : Jvm.MethodName)) ∈ lw_all := lw_g (lw_at lw_m11 133 rfl) rfl
theorem q2632 : (Jvm.Cond.laysFinal "ThreeBodies$LimitException" "ThreeBodies$TextException" "place" "I") ∈ lw_all := lw_g (lw_at lw_m11 134 rfl) rfl
theorem q2633 : (Jvm.Cond.lays "ThreeBodies$LimitException" "java/lang/Throwable" "depth" "I") ∈ lw_all := lw_g (lw_at lw_m11 135 rfl) rfl
theorem q2634 : (Jvm.Cond.superclass "ThreeBodies$LimitException" "ThreeBodies$TextException") ∈ lw_all := lw_g (lw_at lw_m11 136 rfl) rfl
theorem q3381 : (Jvm.Cond.castable "ThreeBodies$LimitException" "ThreeBodies$TextException") ∈ lw_tbl := lw_at lw_m14 163 rfl
theorem q3420 : (Jvm.Cond.castable "ThreeBodies$LimitException" "java/lang/Object") ∈ lw_tbl := lw_at lw_m14 202 rfl
theorem in_X20 : ∀ w ∈ wsX200, w ∈ lw_all := lw_in wsX200 [2632, 2623, 2624, 2625, 2626, 2627, 2633] (by decide +kernel) (by decide +kernel)
/-! the law's own entry -/
set_option maxRecDepth 100000
abbrev cL_law : ByteArray := code
def dkwL_law_82 : List UInt8 := [148, 153, 0, 5, 3, 172, 167, 0, 3, 132, 4, 6, 167, 247, 234, 4, 172]
abbrev dktL_law_82 : List UInt8 := dkwL_law_82 ++ []
def dkwL_law_81 : List UInt8 := [54, 6, 44, 182, 0, 102, 21, 5, 159, 0, 5, 3, 172, 21, 5, 154, 0, 15, 45, 3, 47, 21, 6, 133]
abbrev dktL_law_81 : List UInt8 := dkwL_law_81 ++ dktL_law_82
def dkwL_law_80 : List UInt8 := [172, 43, 42, 21, 4, 4, 96, 46, 45, 184, 0, 249, 54, 5, 44, 42, 21, 4, 4, 96, 46, 182, 0, 251]
abbrev dktL_law_80 : List UInt8 := dkwL_law_80 ++ dktL_law_81
def dkwL_law_79 : List UInt8 := [172, 43, 182, 0, 240, 44, 182, 0, 243, 167, 0, 72, 43, 182, 0, 244, 44, 182, 0, 248, 159, 0, 61, 3]
abbrev dktL_law_79 : List UInt8 := dkwL_law_79 ++ dktL_law_80
def dkwL_law_78 : List UInt8 := [182, 0, 232, 44, 182, 0, 235, 159, 0, 98, 3, 172, 43, 182, 0, 236, 44, 182, 0, 239, 159, 0, 85, 3]
abbrev dktL_law_78 : List UInt8 := dkwL_law_78 ++ dktL_law_79
def dkwL_law_77 : List UInt8 := [4, 96, 46, 182, 0, 228, 44, 42, 21, 4, 4, 96, 46, 182, 0, 231, 159, 0, 111, 3, 172, 43]
abbrev dktL_law_77 : List UInt8 := dkwL_law_77 ++ dktL_law_78
def dkwL_law_76 : List UInt8 := [21, 5, 154, 0, 15, 45, 3, 47, 21, 6, 133, 148, 153, 0, 5, 3, 172, 167, 0, 134, 43, 42, 21, 4]
abbrev dktL_law_76 : List UInt8 := dkwL_law_76 ++ dktL_law_77
def dkwL_law_75 : List UInt8 := [44, 42, 21, 4, 4, 96, 46, 182, 0, 227, 54, 6, 44, 182, 0, 102, 21, 5, 159, 0, 5, 3, 172]
abbrev dktL_law_75 : List UInt8 := dkwL_law_75 ++ dktL_law_76
def dkwL_law_74 : List UInt8 := [24, 7, 151, 154, 0, 5, 3, 172, 167, 0, 190, 43, 42, 21, 4, 4, 96, 46, 45, 184, 0, 225, 54, 5]
abbrev dktL_law_74 : List UInt8 := dkwL_law_74 ++ dktL_law_75
def dkwL_law_73 : List UInt8 := [182, 0, 224, 141, 57, 7, 24, 5, 24, 7, 151, 153, 0, 21, 24, 5, 24, 5, 151, 153, 0, 11, 24, 7]
abbrev dktL_law_73 : List UInt8 := dkwL_law_73 ++ dktL_law_74
def dkwL_law_72 : List UInt8 := [153, 0, 11, 24, 7, 24, 7, 151, 154, 0, 5, 3, 172, 167, 0, 233, 43, 182, 0, 220, 141, 57, 5, 44]
abbrev dktL_law_72 : List UInt8 := dkwL_law_72 ++ dktL_law_73
def dkwL_law_71 : List UInt8 := [182, 0, 215, 57, 5, 44, 182, 0, 219, 57, 7, 24, 5, 24, 7, 151, 153, 0, 21, 24, 5, 24, 5, 151]
abbrev dktL_law_71 : List UInt8 := dkwL_law_71 ++ dktL_law_72
def dkwL_law_70 : List UInt8 := [172, 21, 5, 154, 0, 15, 45, 3, 47, 21, 6, 133, 148, 153, 0, 5, 3, 172, 167, 1, 18, 43]
abbrev dktL_law_70 : List UInt8 := dkwL_law_70 ++ dktL_law_71
def dkwL_law_69 : List UInt8 := [7, 96, 46, 42, 21, 4, 8, 96, 46, 182, 0, 214, 54, 6, 44, 182, 0, 102, 21, 5, 159, 0, 5, 3]
abbrev dktL_law_69 : List UInt8 := dkwL_law_69 ++ dktL_law_70
def dkwL_law_68 : List UInt8 := [54, 5, 44, 42, 21, 4, 4, 96, 46, 42, 21, 4, 5, 96, 46, 42, 21, 4, 6, 96, 46, 42, 21, 4]
abbrev dktL_law_68 : List UInt8 := dkwL_law_68 ++ dktL_law_69
def dkwL_law_67 : List UInt8 := [46, 42, 21, 4, 6, 96, 46, 42, 21, 4, 7, 96, 46, 42, 21, 4, 8, 96, 46, 45, 184, 0, 211]
abbrev dktL_law_67 : List UInt8 := dkwL_law_67 ++ dktL_law_68
def dkwL_law_66 : List UInt8 := [21, 6, 133, 148, 153, 0, 5, 3, 172, 167, 1, 122, 43, 42, 21, 4, 4, 96, 46, 42, 21, 4, 5, 96]
abbrev dktL_law_66 : List UInt8 := dkwL_law_66 ++ dktL_law_67
def dkwL_law_65 : List UInt8 := [182, 0, 210, 54, 6, 44, 182, 0, 102, 21, 5, 159, 0, 5, 3, 172, 21, 5, 154, 0, 15, 45, 3, 47]
abbrev dktL_law_65 : List UInt8 := dkwL_law_65 ++ dktL_law_66
def dkwL_law_64 : List UInt8 := [184, 0, 208, 54, 5, 44, 42, 21, 4, 4, 96, 46, 42, 21, 4, 5, 96, 46, 42, 21, 4, 6, 96, 46]
abbrev dktL_law_64 : List UInt8 := dkwL_law_64 ++ dktL_law_65
def dkwL_law_63 : List UInt8 := [167, 1, 202, 43, 42, 21, 4, 4, 96, 46, 42, 21, 4, 5, 96, 46, 42, 21, 4, 6, 96, 46, 45]
abbrev dktL_law_63 : List UInt8 := dkwL_law_63 ++ dktL_law_64
def dkwL_law_62 : List UInt8 := [21, 5, 159, 0, 5, 3, 172, 21, 5, 154, 0, 15, 45, 3, 47, 21, 6, 133, 148, 153, 0, 5, 3, 172]
abbrev dktL_law_62 : List UInt8 := dkwL_law_62 ++ dktL_law_63
def dkwL_law_61 : List UInt8 := [153, 0, 7, 4, 167, 0, 4, 3, 42, 21, 4, 5, 96, 46, 182, 0, 207, 54, 6, 44, 182, 0, 102]
abbrev dktL_law_61 : List UInt8 := dkwL_law_61 ++ dktL_law_62
def dkwL_law_60 : List UInt8 := [167, 0, 4, 3, 42, 21, 4, 5, 96, 46, 45, 184, 0, 204, 54, 5, 44, 42, 21, 4, 4, 96, 46]
abbrev dktL_law_60 : List UInt8 := dkwL_law_60 ++ dktL_law_61
def dkwL_law_59 : List UInt8 := [21, 6, 133, 148, 153, 0, 5, 3, 172, 167, 2, 30, 43, 42, 21, 4, 4, 96, 46, 153, 0, 7, 4]
abbrev dktL_law_59 : List UInt8 := dkwL_law_59 ++ dktL_law_60
def dkwL_law_58 : List UInt8 := [182, 0, 203, 54, 6, 44, 182, 0, 102, 21, 5, 159, 0, 5, 3, 172, 21, 5, 154, 0, 15, 45, 3, 47]
abbrev dktL_law_58 : List UInt8 := dkwL_law_58 ++ dktL_law_59
def dkwL_law_57 : List UInt8 := [5, 96, 46, 45, 184, 0, 201, 54, 5, 44, 42, 21, 4, 4, 96, 46, 42, 21, 4, 5, 96, 46]
abbrev dktL_law_57 : List UInt8 := dkwL_law_57 ++ dktL_law_58
def dkwL_law_56 : List UInt8 := [3, 47, 21, 6, 133, 148, 153, 0, 5, 3, 172, 167, 2, 98, 43, 42, 21, 4, 4, 96, 46, 42, 21, 4]
abbrev dktL_law_56 : List UInt8 := dkwL_law_56 ++ dktL_law_57
def dkwL_law_55 : List UInt8 := [96, 46, 182, 0, 200, 54, 6, 44, 182, 0, 102, 21, 5, 159, 0, 5, 3, 172, 21, 5, 154, 0, 15, 45]
abbrev dktL_law_55 : List UInt8 := dkwL_law_55 ++ dktL_law_56
def dkwL_law_54 : List UInt8 := [46, 42, 21, 4, 5, 96, 46, 45, 184, 0, 198, 54, 5, 44, 42, 21, 4, 4, 96, 46, 42, 21, 4, 5]
abbrev dktL_law_54 : List UInt8 := dkwL_law_54 ++ dktL_law_55
def dkwL_law_53 : List UInt8 := [154, 0, 15, 45, 3, 47, 21, 6, 133, 148, 153, 0, 5, 3, 172, 167, 2, 166, 43, 42, 21, 4, 4, 96]
abbrev dktL_law_53 : List UInt8 := dkwL_law_53 ++ dktL_law_54
def dkwL_law_52 : List UInt8 := [21, 4, 4, 96, 46, 182, 0, 197, 54, 6, 44, 182, 0, 102, 21, 5, 159, 0, 5, 3, 172, 21, 5]
abbrev dktL_law_52 : List UInt8 := dkwL_law_52 ++ dktL_law_53
def dkwL_law_51 : List UInt8 := [148, 153, 0, 5, 3, 172, 167, 2, 222, 43, 42, 21, 4, 4, 96, 46, 45, 184, 0, 195, 54, 5, 44, 42]
abbrev dktL_law_51 : List UInt8 := dkwL_law_51 ++ dktL_law_52
def dkwL_law_50 : List UInt8 := [54, 6, 44, 182, 0, 102, 21, 5, 159, 0, 5, 3, 172, 21, 5, 154, 0, 15, 45, 3, 47, 21, 6, 133]
abbrev dktL_law_50 : List UInt8 := dkwL_law_50 ++ dktL_law_51
def dkwL_law_49 : List UInt8 := [96, 46, 42, 21, 4, 5, 96, 46, 42, 21, 4, 6, 96, 46, 42, 21, 4, 7, 96, 46, 182, 0, 194]
abbrev dktL_law_49 : List UInt8 := dkwL_law_49 ++ dktL_law_50
def dkwL_law_48 : List UInt8 := [46, 42, 21, 4, 6, 96, 46, 42, 21, 4, 7, 96, 46, 45, 184, 0, 191, 54, 5, 44, 42, 21, 4, 4]
abbrev dktL_law_48 : List UInt8 := dkwL_law_48 ++ dktL_law_49
def dkwL_law_47 : List UInt8 := [21, 6, 133, 148, 153, 0, 5, 3, 172, 167, 3, 58, 43, 42, 21, 4, 4, 96, 46, 42, 21, 4, 5, 96]
abbrev dktL_law_47 : List UInt8 := dkwL_law_47 ++ dktL_law_48
def dkwL_law_46 : List UInt8 := [182, 0, 190, 54, 6, 44, 182, 0, 102, 21, 5, 159, 0, 5, 3, 172, 21, 5, 154, 0, 15, 45, 3, 47]
abbrev dktL_law_46 : List UInt8 := dkwL_law_46 ++ dktL_law_47
def dkwL_law_45 : List UInt8 := [172, 167, 3, 114, 43, 42, 21, 4, 4, 96, 46, 45, 184, 0, 188, 54, 5, 44, 42, 21, 4, 4, 96, 46]
abbrev dktL_law_45 : List UInt8 := dkwL_law_45 ++ dktL_law_46
def dkwL_law_44 : List UInt8 := [21, 4, 4, 96, 46, 42, 21, 4, 5, 96, 46, 182, 0, 187, 44, 182, 0, 102, 21, 5, 159, 0, 5, 3]
abbrev dktL_law_44 : List UInt8 := dkwL_law_44 ++ dktL_law_45
def dkwL_law_43 : List UInt8 := [167, 3, 162, 43, 42, 21, 4, 4, 96, 46, 42, 21, 4, 5, 96, 46, 184, 0, 184, 54, 5, 44, 42]
abbrev dktL_law_43 : List UInt8 := dkwL_law_43 ++ dktL_law_44
def dkwL_law_42 : List UInt8 := [167, 3, 184, 43, 182, 0, 176, 44, 182, 0, 179, 167, 3, 173, 43, 182, 0, 180, 44, 182, 0, 183]
abbrev dktL_law_42 : List UInt8 := dkwL_law_42 ++ dktL_law_43
def dkwL_law_41 : List UInt8 := [21, 5, 159, 0, 5, 3, 172, 21, 5, 154, 0, 15, 45, 3, 47, 21, 6, 133, 148, 153, 0, 5, 3, 172]
abbrev dktL_law_41 : List UInt8 := dkwL_law_41 ++ dktL_law_42
def dkwL_law_40 : List UInt8 := [96, 46, 42, 21, 4, 5, 96, 46, 42, 21, 4, 6, 96, 46, 182, 0, 175, 54, 6, 44, 182, 0, 102]
abbrev dktL_law_40 : List UInt8 := dkwL_law_40 ++ dktL_law_41
def dkwL_law_39 : List UInt8 := [46, 42, 21, 4, 5, 96, 46, 42, 21, 4, 6, 96, 46, 45, 184, 0, 173, 54, 5, 44, 42, 21, 4, 4]
abbrev dktL_law_39 : List UInt8 := dkwL_law_39 ++ dktL_law_40
def dkwL_law_38 : List UInt8 := [154, 0, 15, 45, 3, 47, 21, 6, 133, 148, 153, 0, 5, 3, 172, 167, 4, 8, 43, 42, 21, 4, 4, 96]
abbrev dktL_law_38 : List UInt8 := dkwL_law_38 ++ dktL_law_39
def dkwL_law_37 : List UInt8 := [21, 4, 6, 96, 46, 182, 0, 172, 54, 6, 44, 182, 0, 102, 21, 5, 159, 0, 5, 3, 172, 21, 5]
abbrev dktL_law_37 : List UInt8 := dkwL_law_37 ++ dktL_law_38
def dkwL_law_36 : List UInt8 := [6, 96, 46, 45, 184, 0, 169, 54, 5, 44, 42, 21, 4, 4, 96, 46, 42, 21, 4, 5, 96, 46, 42]
abbrev dktL_law_36 : List UInt8 := dkwL_law_36 ++ dktL_law_37
def dkwL_law_35 : List UInt8 := [153, 0, 5, 3, 172, 167, 4, 88, 43, 42, 21, 4, 4, 96, 46, 42, 21, 4, 5, 96, 46, 42, 21, 4]
abbrev dktL_law_35 : List UInt8 := dkwL_law_35 ++ dktL_law_36
def dkwL_law_34 : List UInt8 := [182, 0, 102, 21, 5, 159, 0, 5, 3, 172, 21, 5, 154, 0, 15, 45, 3, 47, 21, 6, 133, 148]
abbrev dktL_law_34 : List UInt8 := dkwL_law_34 ++ dktL_law_35
def dkwL_law_33 : List UInt8 := [21, 4, 4, 96, 46, 45, 184, 0, 166, 54, 5, 44, 42, 21, 4, 4, 96, 46, 182, 0, 168, 54, 6, 44]
abbrev dktL_law_33 : List UInt8 := dkwL_law_33 ++ dktL_law_34
def dkwL_law_32 : List UInt8 := [172, 21, 5, 154, 0, 15, 45, 3, 47, 21, 6, 133, 148, 153, 0, 5, 3, 172, 167, 4, 144, 43, 42]
abbrev dktL_law_32 : List UInt8 := dkwL_law_32 ++ dktL_law_33
def dkwL_law_31 : List UInt8 := [54, 5, 44, 42, 21, 4, 4, 96, 46, 182, 0, 165, 54, 6, 44, 182, 0, 102, 21, 5, 159, 0, 5, 3]
abbrev dktL_law_31 : List UInt8 := dkwL_law_31 ++ dktL_law_32
def dkwL_law_30 : List UInt8 := [21, 6, 133, 148, 153, 0, 5, 3, 172, 167, 4, 200, 43, 42, 21, 4, 4, 96, 46, 45, 184, 0, 163]
abbrev dktL_law_30 : List UInt8 := dkwL_law_30 ++ dktL_law_31
def dkwL_law_29 : List UInt8 := [182, 0, 162, 54, 6, 44, 182, 0, 102, 21, 5, 159, 0, 5, 3, 172, 21, 5, 154, 0, 15, 45, 3, 47]
abbrev dktL_law_29 : List UInt8 := dkwL_law_29 ++ dktL_law_30
def dkwL_law_28 : List UInt8 := [21, 4, 5, 96, 46, 45, 184, 0, 160, 54, 5, 44, 42, 21, 4, 4, 96, 46, 42, 21, 4, 5, 96, 46]
abbrev dktL_law_28 : List UInt8 := dkwL_law_28 ++ dktL_law_29
def dkwL_law_27 : List UInt8 := [3, 172, 43, 182, 0, 156, 44, 182, 0, 159, 159, 5, 14, 3, 172, 43, 42, 21, 4, 4, 96, 46, 42]
abbrev dktL_law_27 : List UInt8 := dkwL_law_27 ++ dktL_law_28
def dkwL_law_26 : List UInt8 := [167, 0, 4, 3, 182, 0, 151, 148, 153, 5, 40, 3, 172, 43, 182, 0, 152, 44, 182, 0, 155, 159, 5, 27]
abbrev dktL_law_26 : List UInt8 := dkwL_law_26 ++ dktL_law_27
def dkwL_law_25 : List UInt8 := [96, 46, 153, 0, 7, 4, 167, 0, 4, 3, 182, 0, 147, 44, 42, 21, 4, 4, 96, 46, 153, 0, 7, 4]
abbrev dktL_law_25 : List UInt8 := dkwL_law_25 ++ dktL_law_26
def dkwL_law_24 : List UInt8 := [153, 5, 96, 3, 172, 43, 182, 0, 143, 44, 182, 0, 146, 148, 153, 5, 82, 3, 172, 43, 42, 21, 4, 4]
abbrev dktL_law_24 : List UInt8 := dkwL_law_24 ++ dktL_law_25
def dkwL_law_23 : List UInt8 := [182, 0, 135, 44, 182, 0, 138, 148, 153, 5, 110, 3, 172, 43, 182, 0, 139, 44, 182, 0, 142, 148]
abbrev dktL_law_23 : List UInt8 := dkwL_law_23 ++ dktL_law_24
def dkwL_law_22 : List UInt8 := [153, 0, 5, 3, 172, 167, 5, 136, 43, 182, 0, 130, 44, 182, 0, 134, 148, 153, 5, 124, 3, 172, 43]
abbrev dktL_law_22 : List UInt8 := dkwL_law_22 ++ dktL_law_23
def dkwL_law_21 : List UInt8 := [55, 6, 44, 182, 0, 102, 21, 5, 159, 0, 5, 3, 172, 21, 5, 154, 0, 14, 45, 3, 47, 22, 6, 148]
abbrev dktL_law_21 : List UInt8 := dkwL_law_21 ++ dktL_law_22
def dkwL_law_20 : List UInt8 := [43, 42, 21, 4, 4, 96, 46, 45, 184, 0, 127, 54, 5, 44, 42, 21, 4, 4, 96, 46, 182, 0, 129]
abbrev dktL_law_20 : List UInt8 := dkwL_law_20 ++ dktL_law_21
def dkwL_law_19 : List UInt8 := [159, 0, 5, 3, 172, 21, 5, 154, 0, 14, 45, 3, 47, 22, 6, 148, 153, 0, 5, 3, 172, 167, 5, 191]
abbrev dktL_law_19 : List UInt8 := dkwL_law_19 ++ dktL_law_20
def dkwL_law_18 : List UInt8 := [21, 4, 4, 96, 46, 42, 21, 4, 5, 96, 46, 182, 0, 126, 55, 6, 44, 182, 0, 102, 21, 5]
abbrev dktL_law_18 : List UInt8 := dkwL_law_18 ++ dktL_law_19
def dkwL_law_17 : List UInt8 := [167, 6, 2, 43, 42, 21, 4, 4, 96, 46, 42, 21, 4, 5, 96, 46, 45, 184, 0, 124, 54, 5, 44, 42]
abbrev dktL_law_17 : List UInt8 := dkwL_law_17 ++ dktL_law_18
def dkwL_law_16 : List UInt8 := [21, 5, 159, 0, 5, 3, 172, 21, 5, 154, 0, 15, 45, 3, 47, 21, 6, 133, 148, 153, 0, 5, 3, 172]
abbrev dktL_law_16 : List UInt8 := dkwL_law_16 ++ dktL_law_17
def dkwL_law_15 : List UInt8 := [46, 45, 184, 0, 121, 54, 5, 44, 42, 21, 4, 4, 96, 46, 182, 0, 123, 54, 6, 44, 182, 0, 102]
abbrev dktL_law_15 : List UInt8 := dkwL_law_15 ++ dktL_law_16
def dkwL_law_14 : List UInt8 := [154, 0, 15, 45, 3, 47, 21, 6, 133, 148, 153, 0, 5, 3, 172, 167, 6, 58, 43, 42, 21, 4, 4, 96]
abbrev dktL_law_14 : List UInt8 := dkwL_law_14 ++ dktL_law_15
def dkwL_law_13 : List UInt8 := [21, 4, 4, 96, 46, 182, 0, 120, 54, 6, 44, 182, 0, 102, 21, 5, 159, 0, 5, 3, 172, 21, 5]
abbrev dktL_law_13 : List UInt8 := dkwL_law_13 ++ dktL_law_14
def dkwL_law_12 : List UInt8 := [148, 153, 0, 5, 3, 172, 167, 6, 114, 43, 42, 21, 4, 4, 96, 46, 45, 184, 0, 118, 54, 5, 44, 42]
abbrev dktL_law_12 : List UInt8 := dkwL_law_12 ++ dktL_law_13
def dkwL_law_11 : List UInt8 := [54, 6, 44, 182, 0, 102, 21, 5, 159, 0, 5, 3, 172, 21, 5, 154, 0, 15, 45, 3, 47, 21, 6, 133]
abbrev dktL_law_11 : List UInt8 := dkwL_law_11 ++ dktL_law_12
def dkwL_law_10 : List UInt8 := [46, 45, 184, 0, 114, 54, 5, 44, 42, 21, 4, 4, 96, 46, 42, 21, 4, 5, 96, 46, 182, 0, 117]
abbrev dktL_law_10 : List UInt8 := dkwL_law_10 ++ dktL_law_11
def dkwL_law_9 : List UInt8 := [182, 0, 110, 44, 182, 0, 113, 159, 6, 184, 3, 172, 43, 42, 21, 4, 4, 96, 46, 42, 21, 4, 5, 96]
abbrev dktL_law_9 : List UInt8 := dkwL_law_9 ++ dktL_law_10
def dkwL_law_8 : List UInt8 := [148, 153, 0, 5, 3, 172, 167, 6, 208, 43, 182, 0, 106, 44, 182, 0, 109, 159, 6, 197, 3, 172, 43]
abbrev dktL_law_8 : List UInt8 := dkwL_law_8 ++ dktL_law_9
def dkwL_law_7 : List UInt8 := [54, 6, 44, 182, 0, 102, 21, 5, 159, 0, 5, 3, 172, 21, 5, 154, 0, 15, 45, 3, 47, 21, 6, 133]
abbrev dktL_law_7 : List UInt8 := dkwL_law_7 ++ dktL_law_8
def dkwL_law_6 : List UInt8 := [172, 43, 42, 21, 4, 4, 96, 46, 45, 184, 0, 96, 54, 5, 44, 42, 21, 4, 4, 96, 46, 182, 0, 101]
abbrev dktL_law_6 : List UInt8 := dkwL_law_6 ++ dktL_law_7
def dkwL_law_5 : List UInt8 := [21, 4, 6, 96, 46, 42, 21, 4, 7, 96, 46, 42, 21, 4, 8, 96, 46, 182, 0, 95, 159, 7, 10, 3]
abbrev dktL_law_5 : List UInt8 := dkwL_law_5 ++ dktL_law_6
def dkwL_law_4 : List UInt8 := [46, 42, 21, 4, 8, 96, 46, 182, 0, 92, 44, 42, 21, 4, 4, 96, 46, 42, 21, 4, 5, 96, 46, 42]
abbrev dktL_law_4 : List UInt8 := dkwL_law_4 ++ dktL_law_5
def dkwL_law_3 : List UInt8 := [43, 42, 21, 4, 4, 96, 46, 42, 21, 4, 5, 96, 46, 42, 21, 4, 6, 96, 46, 42, 21, 4, 7, 96]
abbrev dktL_law_3 : List UInt8 := dkwL_law_3 ++ dktL_law_4
def dkwL_law_2 : List UInt8 := [170, 0, 0, 0, 0, 0, 8, 2, 0, 0, 0, 0, 0, 0, 0, 40, 0, 0, 0, 180, 0, 0, 0, 253, 0, 0, 1, 53, 0, 0, 1, 66, 0, 0, 1, 79, 0, 0, 1, 147, 0, 0, 1, 203, 0, 0, 2, 3, 0, 0, 2, 70, 0, 0, 2, 125, 0, 0, 2, 139, 0, 0, 2, 153, 0, 0, 2, 167, 0, 0, 2, 181, 0, 0, 2, 223, 0, 0, 2, 236, 0, 0, 2, 249, 0, 0, 3, 61, 0, 0, 3, 117, 0, 0, 3, 173, 0, 0, 3, 253, 0, 0, 4, 77, 0, 0, 4, 88, 0, 0, 4, 99, 0, 0, 4, 147, 0, 0, 4, 203, 0, 0, 5, 39, 0, 0, 5, 95, 0, 0, 5, 163, 0, 0, 5, 231, 0, 0, 6, 59, 0, 0, 6, 139, 0, 0, 6, 243, 0, 0, 7, 28, 0, 0, 7, 71, 0, 0, 7, 127, 0, 0, 7, 152, 0, 0, 7, 165, 0, 0, 7, 178, 0, 0, 7, 189, 0, 0, 7, 202]
abbrev dktL_law_2 : List UInt8 := dkwL_law_2 ++ dktL_law_3
def dkwL_law_1 : List UInt8 := [21, 4, 42, 190, 16, 6, 100, 163, 8, 18, 42, 21, 4, 46, 16, 63, 126]
abbrev dktL_law_1 : List UInt8 := dkwL_law_1 ++ dktL_law_2
def dkwL_law_0 : List UInt8 := [187, 0, 8, 89, 183, 0, 88, 76, 187, 0, 89, 89, 183, 0, 91, 77, 4, 188, 11, 78, 3, 54, 4]
abbrev dktL_law_0 : List UInt8 := dkwL_law_0 ++ dktL_law_1
theorem dksL_law_0 : cL_law.data.toList.drop 0 = dktL_law_0 := by decide +kernel
theorem dksL_law_1 : cL_law.data.toList.drop 23 = dktL_law_1 := dk_seg dksL_law_0 23 rfl rfl
theorem dksL_law_2 : cL_law.data.toList.drop 40 = dktL_law_2 := dk_seg dksL_law_1 17 rfl rfl
theorem dksL_law_3 : cL_law.data.toList.drop 220 = dktL_law_3 := dk_seg dksL_law_2 180 rfl rfl
theorem dksL_law_4 : cL_law.data.toList.drop 244 = dktL_law_4 := dk_seg dksL_law_3 24 rfl rfl
theorem dksL_law_5 : cL_law.data.toList.drop 268 = dktL_law_5 := dk_seg dksL_law_4 24 rfl rfl
theorem dksL_law_6 : cL_law.data.toList.drop 292 = dktL_law_6 := dk_seg dksL_law_5 24 rfl rfl
theorem dksL_law_7 : cL_law.data.toList.drop 316 = dktL_law_7 := dk_seg dksL_law_6 24 rfl rfl
theorem dksL_law_8 : cL_law.data.toList.drop 340 = dktL_law_8 := dk_seg dksL_law_7 24 rfl rfl
theorem dksL_law_9 : cL_law.data.toList.drop 363 = dktL_law_9 := dk_seg dksL_law_8 23 rfl rfl
theorem dksL_law_10 : cL_law.data.toList.drop 387 = dktL_law_10 := dk_seg dksL_law_9 24 rfl rfl
theorem dksL_law_11 : cL_law.data.toList.drop 410 = dktL_law_11 := dk_seg dksL_law_10 23 rfl rfl
theorem dksL_law_12 : cL_law.data.toList.drop 434 = dktL_law_12 := dk_seg dksL_law_11 24 rfl rfl
theorem dksL_law_13 : cL_law.data.toList.drop 458 = dktL_law_13 := dk_seg dksL_law_12 24 rfl rfl
theorem dksL_law_14 : cL_law.data.toList.drop 481 = dktL_law_14 := dk_seg dksL_law_13 23 rfl rfl
theorem dksL_law_15 : cL_law.data.toList.drop 505 = dktL_law_15 := dk_seg dksL_law_14 24 rfl rfl
theorem dksL_law_16 : cL_law.data.toList.drop 528 = dktL_law_16 := dk_seg dksL_law_15 23 rfl rfl
theorem dksL_law_17 : cL_law.data.toList.drop 552 = dktL_law_17 := dk_seg dksL_law_16 24 rfl rfl
theorem dksL_law_18 : cL_law.data.toList.drop 576 = dktL_law_18 := dk_seg dksL_law_17 24 rfl rfl
theorem dksL_law_19 : cL_law.data.toList.drop 598 = dktL_law_19 := dk_seg dksL_law_18 22 rfl rfl
theorem dksL_law_20 : cL_law.data.toList.drop 622 = dktL_law_20 := dk_seg dksL_law_19 24 rfl rfl
theorem dksL_law_21 : cL_law.data.toList.drop 645 = dktL_law_21 := dk_seg dksL_law_20 23 rfl rfl
theorem dksL_law_22 : cL_law.data.toList.drop 669 = dktL_law_22 := dk_seg dksL_law_21 24 rfl rfl
theorem dksL_law_23 : cL_law.data.toList.drop 692 = dktL_law_23 := dk_seg dksL_law_22 23 rfl rfl
theorem dksL_law_24 : cL_law.data.toList.drop 714 = dktL_law_24 := dk_seg dksL_law_23 22 rfl rfl
theorem dksL_law_25 : cL_law.data.toList.drop 738 = dktL_law_25 := dk_seg dksL_law_24 24 rfl rfl
theorem dksL_law_26 : cL_law.data.toList.drop 762 = dktL_law_26 := dk_seg dksL_law_25 24 rfl rfl
theorem dksL_law_27 : cL_law.data.toList.drop 786 = dktL_law_27 := dk_seg dksL_law_26 24 rfl rfl
theorem dksL_law_28 : cL_law.data.toList.drop 809 = dktL_law_28 := dk_seg dksL_law_27 23 rfl rfl
theorem dksL_law_29 : cL_law.data.toList.drop 833 = dktL_law_29 := dk_seg dksL_law_28 24 rfl rfl
theorem dksL_law_30 : cL_law.data.toList.drop 857 = dktL_law_30 := dk_seg dksL_law_29 24 rfl rfl
theorem dksL_law_31 : cL_law.data.toList.drop 880 = dktL_law_31 := dk_seg dksL_law_30 23 rfl rfl
theorem dksL_law_32 : cL_law.data.toList.drop 904 = dktL_law_32 := dk_seg dksL_law_31 24 rfl rfl
theorem dksL_law_33 : cL_law.data.toList.drop 927 = dktL_law_33 := dk_seg dksL_law_32 23 rfl rfl
theorem dksL_law_34 : cL_law.data.toList.drop 951 = dktL_law_34 := dk_seg dksL_law_33 24 rfl rfl
theorem dksL_law_35 : cL_law.data.toList.drop 973 = dktL_law_35 := dk_seg dksL_law_34 22 rfl rfl
theorem dksL_law_36 : cL_law.data.toList.drop 997 = dktL_law_36 := dk_seg dksL_law_35 24 rfl rfl
theorem dksL_law_37 : cL_law.data.toList.drop 1020 = dktL_law_37 := dk_seg dksL_law_36 23 rfl rfl
theorem dksL_law_38 : cL_law.data.toList.drop 1043 = dktL_law_38 := dk_seg dksL_law_37 23 rfl rfl
theorem dksL_law_39 : cL_law.data.toList.drop 1067 = dktL_law_39 := dk_seg dksL_law_38 24 rfl rfl
theorem dksL_law_40 : cL_law.data.toList.drop 1091 = dktL_law_40 := dk_seg dksL_law_39 24 rfl rfl
theorem dksL_law_41 : cL_law.data.toList.drop 1114 = dktL_law_41 := dk_seg dksL_law_40 23 rfl rfl
theorem dksL_law_42 : cL_law.data.toList.drop 1138 = dktL_law_42 := dk_seg dksL_law_41 24 rfl rfl
theorem dksL_law_43 : cL_law.data.toList.drop 1160 = dktL_law_43 := dk_seg dksL_law_42 22 rfl rfl
theorem dksL_law_44 : cL_law.data.toList.drop 1183 = dktL_law_44 := dk_seg dksL_law_43 23 rfl rfl
theorem dksL_law_45 : cL_law.data.toList.drop 1207 = dktL_law_45 := dk_seg dksL_law_44 24 rfl rfl
theorem dksL_law_46 : cL_law.data.toList.drop 1231 = dktL_law_46 := dk_seg dksL_law_45 24 rfl rfl
theorem dksL_law_47 : cL_law.data.toList.drop 1255 = dktL_law_47 := dk_seg dksL_law_46 24 rfl rfl
theorem dksL_law_48 : cL_law.data.toList.drop 1279 = dktL_law_48 := dk_seg dksL_law_47 24 rfl rfl
theorem dksL_law_49 : cL_law.data.toList.drop 1303 = dktL_law_49 := dk_seg dksL_law_48 24 rfl rfl
theorem dksL_law_50 : cL_law.data.toList.drop 1326 = dktL_law_50 := dk_seg dksL_law_49 23 rfl rfl
theorem dksL_law_51 : cL_law.data.toList.drop 1350 = dktL_law_51 := dk_seg dksL_law_50 24 rfl rfl
theorem dksL_law_52 : cL_law.data.toList.drop 1374 = dktL_law_52 := dk_seg dksL_law_51 24 rfl rfl
theorem dksL_law_53 : cL_law.data.toList.drop 1397 = dktL_law_53 := dk_seg dksL_law_52 23 rfl rfl
theorem dksL_law_54 : cL_law.data.toList.drop 1421 = dktL_law_54 := dk_seg dksL_law_53 24 rfl rfl
theorem dksL_law_55 : cL_law.data.toList.drop 1445 = dktL_law_55 := dk_seg dksL_law_54 24 rfl rfl
theorem dksL_law_56 : cL_law.data.toList.drop 1469 = dktL_law_56 := dk_seg dksL_law_55 24 rfl rfl
theorem dksL_law_57 : cL_law.data.toList.drop 1493 = dktL_law_57 := dk_seg dksL_law_56 24 rfl rfl
theorem dksL_law_58 : cL_law.data.toList.drop 1515 = dktL_law_58 := dk_seg dksL_law_57 22 rfl rfl
theorem dksL_law_59 : cL_law.data.toList.drop 1539 = dktL_law_59 := dk_seg dksL_law_58 24 rfl rfl
theorem dksL_law_60 : cL_law.data.toList.drop 1562 = dktL_law_60 := dk_seg dksL_law_59 23 rfl rfl
theorem dksL_law_61 : cL_law.data.toList.drop 1585 = dktL_law_61 := dk_seg dksL_law_60 23 rfl rfl
theorem dksL_law_62 : cL_law.data.toList.drop 1608 = dktL_law_62 := dk_seg dksL_law_61 23 rfl rfl
theorem dksL_law_63 : cL_law.data.toList.drop 1632 = dktL_law_63 := dk_seg dksL_law_62 24 rfl rfl
theorem dksL_law_64 : cL_law.data.toList.drop 1655 = dktL_law_64 := dk_seg dksL_law_63 23 rfl rfl
theorem dksL_law_65 : cL_law.data.toList.drop 1679 = dktL_law_65 := dk_seg dksL_law_64 24 rfl rfl
theorem dksL_law_66 : cL_law.data.toList.drop 1703 = dktL_law_66 := dk_seg dksL_law_65 24 rfl rfl
theorem dksL_law_67 : cL_law.data.toList.drop 1727 = dktL_law_67 := dk_seg dksL_law_66 24 rfl rfl
theorem dksL_law_68 : cL_law.data.toList.drop 1750 = dktL_law_68 := dk_seg dksL_law_67 23 rfl rfl
theorem dksL_law_69 : cL_law.data.toList.drop 1774 = dktL_law_69 := dk_seg dksL_law_68 24 rfl rfl
theorem dksL_law_70 : cL_law.data.toList.drop 1798 = dktL_law_70 := dk_seg dksL_law_69 24 rfl rfl
theorem dksL_law_71 : cL_law.data.toList.drop 1820 = dktL_law_71 := dk_seg dksL_law_70 22 rfl rfl
theorem dksL_law_72 : cL_law.data.toList.drop 1844 = dktL_law_72 := dk_seg dksL_law_71 24 rfl rfl
theorem dksL_law_73 : cL_law.data.toList.drop 1868 = dktL_law_73 := dk_seg dksL_law_72 24 rfl rfl
theorem dksL_law_74 : cL_law.data.toList.drop 1892 = dktL_law_74 := dk_seg dksL_law_73 24 rfl rfl
theorem dksL_law_75 : cL_law.data.toList.drop 1916 = dktL_law_75 := dk_seg dksL_law_74 24 rfl rfl
theorem dksL_law_76 : cL_law.data.toList.drop 1939 = dktL_law_76 := dk_seg dksL_law_75 23 rfl rfl
theorem dksL_law_77 : cL_law.data.toList.drop 1963 = dktL_law_77 := dk_seg dksL_law_76 24 rfl rfl
theorem dksL_law_78 : cL_law.data.toList.drop 1985 = dktL_law_78 := dk_seg dksL_law_77 22 rfl rfl
theorem dksL_law_79 : cL_law.data.toList.drop 2009 = dktL_law_79 := dk_seg dksL_law_78 24 rfl rfl
theorem dksL_law_80 : cL_law.data.toList.drop 2033 = dktL_law_80 := dk_seg dksL_law_79 24 rfl rfl
theorem dksL_law_81 : cL_law.data.toList.drop 2057 = dktL_law_81 := dk_seg dksL_law_80 24 rfl rfl
theorem dksL_law_82 : cL_law.data.toList.drop 2081 = dktL_law_82 := dk_seg dksL_law_81 24 rfl rfl
theorem dL_law_0 : decode cL_law 0 = .ok (.new 8, 3) := dk_187 0 8 (dk_at dksL_law_0 0 rfl rfl)
theorem dL_law_3 : decode cL_law 3 = .ok (.dup, 1) := dk_89 (dk_at dksL_law_0 3 rfl rfl)
theorem dL_law_4 : decode cL_law 4 = .ok (.invokespecial 88, 3) := dk_183 0 88 (dk_at dksL_law_0 4 rfl rfl)
theorem dL_law_7 : decode cL_law 7 = .ok (.astore_n 1, 1) := dk_76 (dk_at dksL_law_0 7 rfl rfl)
theorem dL_law_8 : decode cL_law 8 = .ok (.new 89, 3) := dk_187 0 89 (dk_at dksL_law_0 8 rfl rfl)
theorem dL_law_11 : decode cL_law 11 = .ok (.dup, 1) := dk_89 (dk_at dksL_law_0 11 rfl rfl)
theorem dL_law_12 : decode cL_law 12 = .ok (.invokespecial 91, 3) := dk_183 0 91 (dk_at dksL_law_0 12 rfl rfl)
theorem dL_law_15 : decode cL_law 15 = .ok (.astore_n 2, 1) := dk_77 (dk_at dksL_law_0 15 rfl rfl)
theorem dL_law_16 : decode cL_law 16 = .ok (.iconst 1, 1) := dk_4 (dk_at dksL_law_0 16 rfl rfl)
theorem dL_law_17 : decode cL_law 17 = .ok (.newarray .long, 2) := dk_188_11 (dk_at dksL_law_0 17 rfl rfl)
theorem dL_law_19 : decode cL_law 19 = .ok (.astore_n 3, 1) := dk_78 (dk_at dksL_law_0 19 rfl rfl)
theorem dL_law_20 : decode cL_law 20 = .ok (.iconst 0, 1) := dk_3 (dk_at dksL_law_0 20 rfl rfl)
theorem dL_law_21 : decode cL_law 21 = .ok (.istore 4, 2) := dk_54 4 (dk_at dksL_law_0 21 rfl rfl)
theorem dL_law_23 : decode cL_law 23 = .ok (.iload 4, 2) := dk_21 4 (dk_at dksL_law_1 0 rfl rfl)
theorem dL_law_25 : decode cL_law 25 = .ok (.aload_n 0, 1) := dk_42 (dk_at dksL_law_1 2 rfl rfl)
theorem dL_law_26 : decode cL_law 26 = .ok (.arraylength, 1) := dk_190 (dk_at dksL_law_1 3 rfl rfl)
theorem dL_law_27 : decode cL_law 27 = .ok (.bipush 6, 2) := dk_16 6 (dk_at dksL_law_1 4 rfl rfl)
theorem dL_law_29 : decode cL_law 29 = .ok (.isub, 1) := dk_100 (dk_at dksL_law_1 6 rfl rfl)
theorem dL_law_30 : decode cL_law 30 = .ok (.if_icmp .gt 2066, 3) := dk_163 8 18 (dk_at dksL_law_1 7 rfl rfl)
theorem dL_law_33 : decode cL_law 33 = .ok (.aload_n 0, 1) := dk_42 (dk_at dksL_law_1 10 rfl rfl)
theorem dL_law_34 : decode cL_law 34 = .ok (.iload 4, 2) := dk_21 4 (dk_at dksL_law_1 11 rfl rfl)
theorem dL_law_36 : decode cL_law 36 = .ok (.iaload, 1) := dk_46 (dk_at dksL_law_1 13 rfl rfl)
theorem dL_law_37 : decode cL_law 37 = .ok (.bipush 63, 2) := dk_16 63 (dk_at dksL_law_1 14 rfl rfl)
theorem dL_law_39 : decode cL_law 39 = .ok (.iand, 1) := dk_126 (dk_at dksL_law_1 16 rfl rfl)
theorem dL_law_40 : decode cL_law 40 = .ok (.tableswitch 2050 0 40 #[180, 253, 309, 322, 335, 403, 459, 515, 582, 637, 651, 665, 679, 693, 735, 748, 761, 829, 885, 941, 1021, 1101, 1112, 1123, 1171, 1227, 1319, 1375, 1443, 1511, 1595, 1675, 1779, 1820, 1863, 1919, 1944, 1957, 1970, 1981, 1994], 180) := by decide +kernel
theorem dL_law_220 : decode cL_law 220 = .ok (.aload_n 1, 1) := dk_43 (dk_at dksL_law_3 0 rfl rfl)
theorem dL_law_221 : decode cL_law 221 = .ok (.aload_n 0, 1) := dk_42 (dk_at dksL_law_3 1 rfl rfl)
theorem dL_law_222 : decode cL_law 222 = .ok (.iload 4, 2) := dk_21 4 (dk_at dksL_law_3 2 rfl rfl)
theorem dL_law_224 : decode cL_law 224 = .ok (.iconst 1, 1) := dk_4 (dk_at dksL_law_3 4 rfl rfl)
theorem dL_law_225 : decode cL_law 225 = .ok (.iadd, 1) := dk_96 (dk_at dksL_law_3 5 rfl rfl)
theorem dL_law_226 : decode cL_law 226 = .ok (.iaload, 1) := dk_46 (dk_at dksL_law_3 6 rfl rfl)
theorem dL_law_227 : decode cL_law 227 = .ok (.aload_n 0, 1) := dk_42 (dk_at dksL_law_3 7 rfl rfl)
theorem dL_law_228 : decode cL_law 228 = .ok (.iload 4, 2) := dk_21 4 (dk_at dksL_law_3 8 rfl rfl)
theorem dL_law_230 : decode cL_law 230 = .ok (.iconst 2, 1) := dk_5 (dk_at dksL_law_3 10 rfl rfl)
theorem dL_law_231 : decode cL_law 231 = .ok (.iadd, 1) := dk_96 (dk_at dksL_law_3 11 rfl rfl)
theorem dL_law_232 : decode cL_law 232 = .ok (.iaload, 1) := dk_46 (dk_at dksL_law_3 12 rfl rfl)
theorem dL_law_233 : decode cL_law 233 = .ok (.aload_n 0, 1) := dk_42 (dk_at dksL_law_3 13 rfl rfl)
theorem dL_law_234 : decode cL_law 234 = .ok (.iload 4, 2) := dk_21 4 (dk_at dksL_law_3 14 rfl rfl)
theorem dL_law_236 : decode cL_law 236 = .ok (.iconst 3, 1) := dk_6 (dk_at dksL_law_3 16 rfl rfl)
theorem dL_law_237 : decode cL_law 237 = .ok (.iadd, 1) := dk_96 (dk_at dksL_law_3 17 rfl rfl)
theorem dL_law_238 : decode cL_law 238 = .ok (.iaload, 1) := dk_46 (dk_at dksL_law_3 18 rfl rfl)
theorem dL_law_239 : decode cL_law 239 = .ok (.aload_n 0, 1) := dk_42 (dk_at dksL_law_3 19 rfl rfl)
theorem dL_law_240 : decode cL_law 240 = .ok (.iload 4, 2) := dk_21 4 (dk_at dksL_law_3 20 rfl rfl)
theorem dL_law_242 : decode cL_law 242 = .ok (.iconst 4, 1) := dk_7 (dk_at dksL_law_3 22 rfl rfl)
theorem dL_law_243 : decode cL_law 243 = .ok (.iadd, 1) := dk_96 (dk_at dksL_law_3 23 rfl rfl)
theorem dL_law_244 : decode cL_law 244 = .ok (.iaload, 1) := dk_46 (dk_at dksL_law_4 0 rfl rfl)
theorem dL_law_245 : decode cL_law 245 = .ok (.aload_n 0, 1) := dk_42 (dk_at dksL_law_4 1 rfl rfl)
theorem dL_law_246 : decode cL_law 246 = .ok (.iload 4, 2) := dk_21 4 (dk_at dksL_law_4 2 rfl rfl)
theorem dL_law_248 : decode cL_law 248 = .ok (.iconst 5, 1) := dk_8 (dk_at dksL_law_4 4 rfl rfl)
theorem dL_law_249 : decode cL_law 249 = .ok (.iadd, 1) := dk_96 (dk_at dksL_law_4 5 rfl rfl)
theorem dL_law_250 : decode cL_law 250 = .ok (.iaload, 1) := dk_46 (dk_at dksL_law_4 6 rfl rfl)
theorem dL_law_251 : decode cL_law 251 = .ok (.invokevirtual 92, 3) := dk_182 0 92 (dk_at dksL_law_4 7 rfl rfl)
theorem dL_law_254 : decode cL_law 254 = .ok (.aload_n 2, 1) := dk_44 (dk_at dksL_law_4 10 rfl rfl)
theorem dL_law_255 : decode cL_law 255 = .ok (.aload_n 0, 1) := dk_42 (dk_at dksL_law_4 11 rfl rfl)
theorem dL_law_256 : decode cL_law 256 = .ok (.iload 4, 2) := dk_21 4 (dk_at dksL_law_4 12 rfl rfl)
theorem dL_law_258 : decode cL_law 258 = .ok (.iconst 1, 1) := dk_4 (dk_at dksL_law_4 14 rfl rfl)
theorem dL_law_259 : decode cL_law 259 = .ok (.iadd, 1) := dk_96 (dk_at dksL_law_4 15 rfl rfl)
theorem dL_law_260 : decode cL_law 260 = .ok (.iaload, 1) := dk_46 (dk_at dksL_law_4 16 rfl rfl)
theorem dL_law_261 : decode cL_law 261 = .ok (.aload_n 0, 1) := dk_42 (dk_at dksL_law_4 17 rfl rfl)
theorem dL_law_262 : decode cL_law 262 = .ok (.iload 4, 2) := dk_21 4 (dk_at dksL_law_4 18 rfl rfl)
theorem dL_law_264 : decode cL_law 264 = .ok (.iconst 2, 1) := dk_5 (dk_at dksL_law_4 20 rfl rfl)
theorem dL_law_265 : decode cL_law 265 = .ok (.iadd, 1) := dk_96 (dk_at dksL_law_4 21 rfl rfl)
theorem dL_law_266 : decode cL_law 266 = .ok (.iaload, 1) := dk_46 (dk_at dksL_law_4 22 rfl rfl)
theorem dL_law_267 : decode cL_law 267 = .ok (.aload_n 0, 1) := dk_42 (dk_at dksL_law_4 23 rfl rfl)
theorem dL_law_268 : decode cL_law 268 = .ok (.iload 4, 2) := dk_21 4 (dk_at dksL_law_5 0 rfl rfl)
theorem dL_law_270 : decode cL_law 270 = .ok (.iconst 3, 1) := dk_6 (dk_at dksL_law_5 2 rfl rfl)
theorem dL_law_271 : decode cL_law 271 = .ok (.iadd, 1) := dk_96 (dk_at dksL_law_5 3 rfl rfl)
theorem dL_law_272 : decode cL_law 272 = .ok (.iaload, 1) := dk_46 (dk_at dksL_law_5 4 rfl rfl)
theorem dL_law_273 : decode cL_law 273 = .ok (.aload_n 0, 1) := dk_42 (dk_at dksL_law_5 5 rfl rfl)
theorem dL_law_274 : decode cL_law 274 = .ok (.iload 4, 2) := dk_21 4 (dk_at dksL_law_5 6 rfl rfl)
theorem dL_law_276 : decode cL_law 276 = .ok (.iconst 4, 1) := dk_7 (dk_at dksL_law_5 8 rfl rfl)
theorem dL_law_277 : decode cL_law 277 = .ok (.iadd, 1) := dk_96 (dk_at dksL_law_5 9 rfl rfl)
theorem dL_law_278 : decode cL_law 278 = .ok (.iaload, 1) := dk_46 (dk_at dksL_law_5 10 rfl rfl)
theorem dL_law_279 : decode cL_law 279 = .ok (.aload_n 0, 1) := dk_42 (dk_at dksL_law_5 11 rfl rfl)
theorem dL_law_280 : decode cL_law 280 = .ok (.iload 4, 2) := dk_21 4 (dk_at dksL_law_5 12 rfl rfl)
theorem dL_law_282 : decode cL_law 282 = .ok (.iconst 5, 1) := dk_8 (dk_at dksL_law_5 14 rfl rfl)
theorem dL_law_283 : decode cL_law 283 = .ok (.iadd, 1) := dk_96 (dk_at dksL_law_5 15 rfl rfl)
theorem dL_law_284 : decode cL_law 284 = .ok (.iaload, 1) := dk_46 (dk_at dksL_law_5 16 rfl rfl)
theorem dL_law_285 : decode cL_law 285 = .ok (.invokevirtual 95, 3) := dk_182 0 95 (dk_at dksL_law_5 17 rfl rfl)
theorem dL_law_288 : decode cL_law 288 = .ok (.if_icmp .eq 1802, 3) := dk_159 7 10 (dk_at dksL_law_5 20 rfl rfl)
theorem dL_law_291 : decode cL_law 291 = .ok (.iconst 0, 1) := dk_3 (dk_at dksL_law_5 23 rfl rfl)
theorem dL_law_292 : decode cL_law 292 = .ok (.ireturn, 1) := dk_172 (dk_at dksL_law_6 0 rfl rfl)
theorem dL_law_293 : decode cL_law 293 = .ok (.aload_n 1, 1) := dk_43 (dk_at dksL_law_6 1 rfl rfl)
theorem dL_law_294 : decode cL_law 294 = .ok (.aload_n 0, 1) := dk_42 (dk_at dksL_law_6 2 rfl rfl)
theorem dL_law_295 : decode cL_law 295 = .ok (.iload 4, 2) := dk_21 4 (dk_at dksL_law_6 3 rfl rfl)
theorem dL_law_297 : decode cL_law 297 = .ok (.iconst 1, 1) := dk_4 (dk_at dksL_law_6 5 rfl rfl)
theorem dL_law_298 : decode cL_law 298 = .ok (.iadd, 1) := dk_96 (dk_at dksL_law_6 6 rfl rfl)
theorem dL_law_299 : decode cL_law 299 = .ok (.iaload, 1) := dk_46 (dk_at dksL_law_6 7 rfl rfl)
theorem dL_law_300 : decode cL_law 300 = .ok (.aload_n 3, 1) := dk_45 (dk_at dksL_law_6 8 rfl rfl)
theorem dL_law_301 : decode cL_law 301 = .ok (.invokestatic 96, 3) := dk_184 0 96 (dk_at dksL_law_6 9 rfl rfl)
theorem dL_law_304 : decode cL_law 304 = .ok (.istore 5, 2) := dk_54 5 (dk_at dksL_law_6 12 rfl rfl)
theorem dL_law_306 : decode cL_law 306 = .ok (.aload_n 2, 1) := dk_44 (dk_at dksL_law_6 14 rfl rfl)
theorem dL_law_307 : decode cL_law 307 = .ok (.aload_n 0, 1) := dk_42 (dk_at dksL_law_6 15 rfl rfl)
theorem dL_law_308 : decode cL_law 308 = .ok (.iload 4, 2) := dk_21 4 (dk_at dksL_law_6 16 rfl rfl)
theorem dL_law_310 : decode cL_law 310 = .ok (.iconst 1, 1) := dk_4 (dk_at dksL_law_6 18 rfl rfl)
theorem dL_law_311 : decode cL_law 311 = .ok (.iadd, 1) := dk_96 (dk_at dksL_law_6 19 rfl rfl)
theorem dL_law_312 : decode cL_law 312 = .ok (.iaload, 1) := dk_46 (dk_at dksL_law_6 20 rfl rfl)
theorem dL_law_313 : decode cL_law 313 = .ok (.invokevirtual 101, 3) := dk_182 0 101 (dk_at dksL_law_6 21 rfl rfl)
theorem dL_law_316 : decode cL_law 316 = .ok (.istore 6, 2) := dk_54 6 (dk_at dksL_law_7 0 rfl rfl)
theorem dL_law_318 : decode cL_law 318 = .ok (.aload_n 2, 1) := dk_44 (dk_at dksL_law_7 2 rfl rfl)
theorem dL_law_319 : decode cL_law 319 = .ok (.invokevirtual 102, 3) := dk_182 0 102 (dk_at dksL_law_7 3 rfl rfl)
theorem dL_law_322 : decode cL_law 322 = .ok (.iload 5, 2) := dk_21 5 (dk_at dksL_law_7 6 rfl rfl)
theorem dL_law_324 : decode cL_law 324 = .ok (.if_icmp .eq 5, 3) := dk_159 0 5 (dk_at dksL_law_7 8 rfl rfl)
theorem dL_law_327 : decode cL_law 327 = .ok (.iconst 0, 1) := dk_3 (dk_at dksL_law_7 11 rfl rfl)
theorem dL_law_328 : decode cL_law 328 = .ok (.ireturn, 1) := dk_172 (dk_at dksL_law_7 12 rfl rfl)
theorem dL_law_329 : decode cL_law 329 = .ok (.iload 5, 2) := dk_21 5 (dk_at dksL_law_7 13 rfl rfl)
theorem dL_law_331 : decode cL_law 331 = .ok (.ifCond .ne 15, 3) := dk_154 0 15 (dk_at dksL_law_7 15 rfl rfl)
theorem dL_law_334 : decode cL_law 334 = .ok (.aload_n 3, 1) := dk_45 (dk_at dksL_law_7 18 rfl rfl)
theorem dL_law_335 : decode cL_law 335 = .ok (.iconst 0, 1) := dk_3 (dk_at dksL_law_7 19 rfl rfl)
theorem dL_law_336 : decode cL_law 336 = .ok (.laload, 1) := dk_47 (dk_at dksL_law_7 20 rfl rfl)
theorem dL_law_337 : decode cL_law 337 = .ok (.iload 6, 2) := dk_21 6 (dk_at dksL_law_7 21 rfl rfl)
theorem dL_law_339 : decode cL_law 339 = .ok (.i2l, 1) := dk_133 (dk_at dksL_law_7 23 rfl rfl)
theorem dL_law_340 : decode cL_law 340 = .ok (.lcmp, 1) := dk_148 (dk_at dksL_law_8 0 rfl rfl)
theorem dL_law_341 : decode cL_law 341 = .ok (.ifCond .eq 5, 3) := dk_153 0 5 (dk_at dksL_law_8 1 rfl rfl)
theorem dL_law_344 : decode cL_law 344 = .ok (.iconst 0, 1) := dk_3 (dk_at dksL_law_8 4 rfl rfl)
theorem dL_law_345 : decode cL_law 345 = .ok (.ireturn, 1) := dk_172 (dk_at dksL_law_8 5 rfl rfl)
theorem dL_law_346 : decode cL_law 346 = .ok (.goto 1744, 3) := dk_167 6 208 (dk_at dksL_law_8 6 rfl rfl)
theorem dL_law_349 : decode cL_law 349 = .ok (.aload_n 1, 1) := dk_43 (dk_at dksL_law_8 9 rfl rfl)
theorem dL_law_350 : decode cL_law 350 = .ok (.invokevirtual 106, 3) := dk_182 0 106 (dk_at dksL_law_8 10 rfl rfl)
theorem dL_law_353 : decode cL_law 353 = .ok (.aload_n 2, 1) := dk_44 (dk_at dksL_law_8 13 rfl rfl)
theorem dL_law_354 : decode cL_law 354 = .ok (.invokevirtual 109, 3) := dk_182 0 109 (dk_at dksL_law_8 14 rfl rfl)
theorem dL_law_357 : decode cL_law 357 = .ok (.if_icmp .eq 1733, 3) := dk_159 6 197 (dk_at dksL_law_8 17 rfl rfl)
theorem dL_law_360 : decode cL_law 360 = .ok (.iconst 0, 1) := dk_3 (dk_at dksL_law_8 20 rfl rfl)
theorem dL_law_361 : decode cL_law 361 = .ok (.ireturn, 1) := dk_172 (dk_at dksL_law_8 21 rfl rfl)
theorem dL_law_362 : decode cL_law 362 = .ok (.aload_n 1, 1) := dk_43 (dk_at dksL_law_8 22 rfl rfl)
theorem dL_law_363 : decode cL_law 363 = .ok (.invokevirtual 110, 3) := dk_182 0 110 (dk_at dksL_law_9 0 rfl rfl)
theorem dL_law_366 : decode cL_law 366 = .ok (.aload_n 2, 1) := dk_44 (dk_at dksL_law_9 3 rfl rfl)
theorem dL_law_367 : decode cL_law 367 = .ok (.invokevirtual 113, 3) := dk_182 0 113 (dk_at dksL_law_9 4 rfl rfl)
theorem dL_law_370 : decode cL_law 370 = .ok (.if_icmp .eq 1720, 3) := dk_159 6 184 (dk_at dksL_law_9 7 rfl rfl)
theorem dL_law_373 : decode cL_law 373 = .ok (.iconst 0, 1) := dk_3 (dk_at dksL_law_9 10 rfl rfl)
theorem dL_law_374 : decode cL_law 374 = .ok (.ireturn, 1) := dk_172 (dk_at dksL_law_9 11 rfl rfl)
theorem dL_law_375 : decode cL_law 375 = .ok (.aload_n 1, 1) := dk_43 (dk_at dksL_law_9 12 rfl rfl)
theorem dL_law_376 : decode cL_law 376 = .ok (.aload_n 0, 1) := dk_42 (dk_at dksL_law_9 13 rfl rfl)
theorem dL_law_377 : decode cL_law 377 = .ok (.iload 4, 2) := dk_21 4 (dk_at dksL_law_9 14 rfl rfl)
theorem dL_law_379 : decode cL_law 379 = .ok (.iconst 1, 1) := dk_4 (dk_at dksL_law_9 16 rfl rfl)
theorem dL_law_380 : decode cL_law 380 = .ok (.iadd, 1) := dk_96 (dk_at dksL_law_9 17 rfl rfl)
theorem dL_law_381 : decode cL_law 381 = .ok (.iaload, 1) := dk_46 (dk_at dksL_law_9 18 rfl rfl)
theorem dL_law_382 : decode cL_law 382 = .ok (.aload_n 0, 1) := dk_42 (dk_at dksL_law_9 19 rfl rfl)
theorem dL_law_383 : decode cL_law 383 = .ok (.iload 4, 2) := dk_21 4 (dk_at dksL_law_9 20 rfl rfl)
theorem dL_law_385 : decode cL_law 385 = .ok (.iconst 2, 1) := dk_5 (dk_at dksL_law_9 22 rfl rfl)
theorem dL_law_386 : decode cL_law 386 = .ok (.iadd, 1) := dk_96 (dk_at dksL_law_9 23 rfl rfl)
theorem dL_law_387 : decode cL_law 387 = .ok (.iaload, 1) := dk_46 (dk_at dksL_law_10 0 rfl rfl)
theorem dL_law_388 : decode cL_law 388 = .ok (.aload_n 3, 1) := dk_45 (dk_at dksL_law_10 1 rfl rfl)
theorem dL_law_389 : decode cL_law 389 = .ok (.invokestatic 114, 3) := dk_184 0 114 (dk_at dksL_law_10 2 rfl rfl)
theorem dL_law_392 : decode cL_law 392 = .ok (.istore 5, 2) := dk_54 5 (dk_at dksL_law_10 5 rfl rfl)
theorem dL_law_394 : decode cL_law 394 = .ok (.aload_n 2, 1) := dk_44 (dk_at dksL_law_10 7 rfl rfl)
theorem dL_law_395 : decode cL_law 395 = .ok (.aload_n 0, 1) := dk_42 (dk_at dksL_law_10 8 rfl rfl)
theorem dL_law_396 : decode cL_law 396 = .ok (.iload 4, 2) := dk_21 4 (dk_at dksL_law_10 9 rfl rfl)
theorem dL_law_398 : decode cL_law 398 = .ok (.iconst 1, 1) := dk_4 (dk_at dksL_law_10 11 rfl rfl)
theorem dL_law_399 : decode cL_law 399 = .ok (.iadd, 1) := dk_96 (dk_at dksL_law_10 12 rfl rfl)
theorem dL_law_400 : decode cL_law 400 = .ok (.iaload, 1) := dk_46 (dk_at dksL_law_10 13 rfl rfl)
theorem dL_law_401 : decode cL_law 401 = .ok (.aload_n 0, 1) := dk_42 (dk_at dksL_law_10 14 rfl rfl)
theorem dL_law_402 : decode cL_law 402 = .ok (.iload 4, 2) := dk_21 4 (dk_at dksL_law_10 15 rfl rfl)
theorem dL_law_404 : decode cL_law 404 = .ok (.iconst 2, 1) := dk_5 (dk_at dksL_law_10 17 rfl rfl)
theorem dL_law_405 : decode cL_law 405 = .ok (.iadd, 1) := dk_96 (dk_at dksL_law_10 18 rfl rfl)
theorem dL_law_406 : decode cL_law 406 = .ok (.iaload, 1) := dk_46 (dk_at dksL_law_10 19 rfl rfl)
theorem dL_law_407 : decode cL_law 407 = .ok (.invokevirtual 117, 3) := dk_182 0 117 (dk_at dksL_law_10 20 rfl rfl)
theorem dL_law_410 : decode cL_law 410 = .ok (.istore 6, 2) := dk_54 6 (dk_at dksL_law_11 0 rfl rfl)
theorem dL_law_412 : decode cL_law 412 = .ok (.aload_n 2, 1) := dk_44 (dk_at dksL_law_11 2 rfl rfl)
theorem dL_law_413 : decode cL_law 413 = .ok (.invokevirtual 102, 3) := dk_182 0 102 (dk_at dksL_law_11 3 rfl rfl)
theorem dL_law_416 : decode cL_law 416 = .ok (.iload 5, 2) := dk_21 5 (dk_at dksL_law_11 6 rfl rfl)
theorem dL_law_418 : decode cL_law 418 = .ok (.if_icmp .eq 5, 3) := dk_159 0 5 (dk_at dksL_law_11 8 rfl rfl)
theorem dL_law_421 : decode cL_law 421 = .ok (.iconst 0, 1) := dk_3 (dk_at dksL_law_11 11 rfl rfl)
theorem dL_law_422 : decode cL_law 422 = .ok (.ireturn, 1) := dk_172 (dk_at dksL_law_11 12 rfl rfl)
theorem dL_law_423 : decode cL_law 423 = .ok (.iload 5, 2) := dk_21 5 (dk_at dksL_law_11 13 rfl rfl)
theorem dL_law_425 : decode cL_law 425 = .ok (.ifCond .ne 15, 3) := dk_154 0 15 (dk_at dksL_law_11 15 rfl rfl)
theorem dL_law_428 : decode cL_law 428 = .ok (.aload_n 3, 1) := dk_45 (dk_at dksL_law_11 18 rfl rfl)
theorem dL_law_429 : decode cL_law 429 = .ok (.iconst 0, 1) := dk_3 (dk_at dksL_law_11 19 rfl rfl)
theorem dL_law_430 : decode cL_law 430 = .ok (.laload, 1) := dk_47 (dk_at dksL_law_11 20 rfl rfl)
theorem dL_law_431 : decode cL_law 431 = .ok (.iload 6, 2) := dk_21 6 (dk_at dksL_law_11 21 rfl rfl)
theorem dL_law_433 : decode cL_law 433 = .ok (.i2l, 1) := dk_133 (dk_at dksL_law_11 23 rfl rfl)
theorem dL_law_434 : decode cL_law 434 = .ok (.lcmp, 1) := dk_148 (dk_at dksL_law_12 0 rfl rfl)
theorem dL_law_435 : decode cL_law 435 = .ok (.ifCond .eq 5, 3) := dk_153 0 5 (dk_at dksL_law_12 1 rfl rfl)
theorem dL_law_438 : decode cL_law 438 = .ok (.iconst 0, 1) := dk_3 (dk_at dksL_law_12 4 rfl rfl)
theorem dL_law_439 : decode cL_law 439 = .ok (.ireturn, 1) := dk_172 (dk_at dksL_law_12 5 rfl rfl)
theorem dL_law_440 : decode cL_law 440 = .ok (.goto 1650, 3) := dk_167 6 114 (dk_at dksL_law_12 6 rfl rfl)
theorem dL_law_443 : decode cL_law 443 = .ok (.aload_n 1, 1) := dk_43 (dk_at dksL_law_12 9 rfl rfl)
theorem dL_law_444 : decode cL_law 444 = .ok (.aload_n 0, 1) := dk_42 (dk_at dksL_law_12 10 rfl rfl)
theorem dL_law_445 : decode cL_law 445 = .ok (.iload 4, 2) := dk_21 4 (dk_at dksL_law_12 11 rfl rfl)
theorem dL_law_447 : decode cL_law 447 = .ok (.iconst 1, 1) := dk_4 (dk_at dksL_law_12 13 rfl rfl)
theorem dL_law_448 : decode cL_law 448 = .ok (.iadd, 1) := dk_96 (dk_at dksL_law_12 14 rfl rfl)
theorem dL_law_449 : decode cL_law 449 = .ok (.iaload, 1) := dk_46 (dk_at dksL_law_12 15 rfl rfl)
theorem dL_law_450 : decode cL_law 450 = .ok (.aload_n 3, 1) := dk_45 (dk_at dksL_law_12 16 rfl rfl)
theorem dL_law_451 : decode cL_law 451 = .ok (.invokestatic 118, 3) := dk_184 0 118 (dk_at dksL_law_12 17 rfl rfl)
theorem dL_law_454 : decode cL_law 454 = .ok (.istore 5, 2) := dk_54 5 (dk_at dksL_law_12 20 rfl rfl)
theorem dL_law_456 : decode cL_law 456 = .ok (.aload_n 2, 1) := dk_44 (dk_at dksL_law_12 22 rfl rfl)
theorem dL_law_457 : decode cL_law 457 = .ok (.aload_n 0, 1) := dk_42 (dk_at dksL_law_12 23 rfl rfl)
theorem dL_law_458 : decode cL_law 458 = .ok (.iload 4, 2) := dk_21 4 (dk_at dksL_law_13 0 rfl rfl)
theorem dL_law_460 : decode cL_law 460 = .ok (.iconst 1, 1) := dk_4 (dk_at dksL_law_13 2 rfl rfl)
theorem dL_law_461 : decode cL_law 461 = .ok (.iadd, 1) := dk_96 (dk_at dksL_law_13 3 rfl rfl)
theorem dL_law_462 : decode cL_law 462 = .ok (.iaload, 1) := dk_46 (dk_at dksL_law_13 4 rfl rfl)
theorem dL_law_463 : decode cL_law 463 = .ok (.invokevirtual 120, 3) := dk_182 0 120 (dk_at dksL_law_13 5 rfl rfl)
theorem dL_law_466 : decode cL_law 466 = .ok (.istore 6, 2) := dk_54 6 (dk_at dksL_law_13 8 rfl rfl)
theorem dL_law_468 : decode cL_law 468 = .ok (.aload_n 2, 1) := dk_44 (dk_at dksL_law_13 10 rfl rfl)
theorem dL_law_469 : decode cL_law 469 = .ok (.invokevirtual 102, 3) := dk_182 0 102 (dk_at dksL_law_13 11 rfl rfl)
theorem dL_law_472 : decode cL_law 472 = .ok (.iload 5, 2) := dk_21 5 (dk_at dksL_law_13 14 rfl rfl)
theorem dL_law_474 : decode cL_law 474 = .ok (.if_icmp .eq 5, 3) := dk_159 0 5 (dk_at dksL_law_13 16 rfl rfl)
theorem dL_law_477 : decode cL_law 477 = .ok (.iconst 0, 1) := dk_3 (dk_at dksL_law_13 19 rfl rfl)
theorem dL_law_478 : decode cL_law 478 = .ok (.ireturn, 1) := dk_172 (dk_at dksL_law_13 20 rfl rfl)
theorem dL_law_479 : decode cL_law 479 = .ok (.iload 5, 2) := dk_21 5 (dk_at dksL_law_13 21 rfl rfl)
theorem dL_law_481 : decode cL_law 481 = .ok (.ifCond .ne 15, 3) := dk_154 0 15 (dk_at dksL_law_14 0 rfl rfl)
theorem dL_law_484 : decode cL_law 484 = .ok (.aload_n 3, 1) := dk_45 (dk_at dksL_law_14 3 rfl rfl)
theorem dL_law_485 : decode cL_law 485 = .ok (.iconst 0, 1) := dk_3 (dk_at dksL_law_14 4 rfl rfl)
theorem dL_law_486 : decode cL_law 486 = .ok (.laload, 1) := dk_47 (dk_at dksL_law_14 5 rfl rfl)
theorem dL_law_487 : decode cL_law 487 = .ok (.iload 6, 2) := dk_21 6 (dk_at dksL_law_14 6 rfl rfl)
theorem dL_law_489 : decode cL_law 489 = .ok (.i2l, 1) := dk_133 (dk_at dksL_law_14 8 rfl rfl)
theorem dL_law_490 : decode cL_law 490 = .ok (.lcmp, 1) := dk_148 (dk_at dksL_law_14 9 rfl rfl)
theorem dL_law_491 : decode cL_law 491 = .ok (.ifCond .eq 5, 3) := dk_153 0 5 (dk_at dksL_law_14 10 rfl rfl)
theorem dL_law_494 : decode cL_law 494 = .ok (.iconst 0, 1) := dk_3 (dk_at dksL_law_14 13 rfl rfl)
theorem dL_law_495 : decode cL_law 495 = .ok (.ireturn, 1) := dk_172 (dk_at dksL_law_14 14 rfl rfl)
theorem dL_law_496 : decode cL_law 496 = .ok (.goto 1594, 3) := dk_167 6 58 (dk_at dksL_law_14 15 rfl rfl)
theorem dL_law_499 : decode cL_law 499 = .ok (.aload_n 1, 1) := dk_43 (dk_at dksL_law_14 18 rfl rfl)
theorem dL_law_500 : decode cL_law 500 = .ok (.aload_n 0, 1) := dk_42 (dk_at dksL_law_14 19 rfl rfl)
theorem dL_law_501 : decode cL_law 501 = .ok (.iload 4, 2) := dk_21 4 (dk_at dksL_law_14 20 rfl rfl)
theorem dL_law_503 : decode cL_law 503 = .ok (.iconst 1, 1) := dk_4 (dk_at dksL_law_14 22 rfl rfl)
theorem dL_law_504 : decode cL_law 504 = .ok (.iadd, 1) := dk_96 (dk_at dksL_law_14 23 rfl rfl)
theorem dL_law_505 : decode cL_law 505 = .ok (.iaload, 1) := dk_46 (dk_at dksL_law_15 0 rfl rfl)
theorem dL_law_506 : decode cL_law 506 = .ok (.aload_n 3, 1) := dk_45 (dk_at dksL_law_15 1 rfl rfl)
theorem dL_law_507 : decode cL_law 507 = .ok (.invokestatic 121, 3) := dk_184 0 121 (dk_at dksL_law_15 2 rfl rfl)
theorem dL_law_510 : decode cL_law 510 = .ok (.istore 5, 2) := dk_54 5 (dk_at dksL_law_15 5 rfl rfl)
theorem dL_law_512 : decode cL_law 512 = .ok (.aload_n 2, 1) := dk_44 (dk_at dksL_law_15 7 rfl rfl)
theorem dL_law_513 : decode cL_law 513 = .ok (.aload_n 0, 1) := dk_42 (dk_at dksL_law_15 8 rfl rfl)
theorem dL_law_514 : decode cL_law 514 = .ok (.iload 4, 2) := dk_21 4 (dk_at dksL_law_15 9 rfl rfl)
theorem dL_law_516 : decode cL_law 516 = .ok (.iconst 1, 1) := dk_4 (dk_at dksL_law_15 11 rfl rfl)
theorem dL_law_517 : decode cL_law 517 = .ok (.iadd, 1) := dk_96 (dk_at dksL_law_15 12 rfl rfl)
theorem dL_law_518 : decode cL_law 518 = .ok (.iaload, 1) := dk_46 (dk_at dksL_law_15 13 rfl rfl)
theorem dL_law_519 : decode cL_law 519 = .ok (.invokevirtual 123, 3) := dk_182 0 123 (dk_at dksL_law_15 14 rfl rfl)
theorem dL_law_522 : decode cL_law 522 = .ok (.istore 6, 2) := dk_54 6 (dk_at dksL_law_15 17 rfl rfl)
theorem dL_law_524 : decode cL_law 524 = .ok (.aload_n 2, 1) := dk_44 (dk_at dksL_law_15 19 rfl rfl)
theorem dL_law_525 : decode cL_law 525 = .ok (.invokevirtual 102, 3) := dk_182 0 102 (dk_at dksL_law_15 20 rfl rfl)
theorem dL_law_528 : decode cL_law 528 = .ok (.iload 5, 2) := dk_21 5 (dk_at dksL_law_16 0 rfl rfl)
theorem dL_law_530 : decode cL_law 530 = .ok (.if_icmp .eq 5, 3) := dk_159 0 5 (dk_at dksL_law_16 2 rfl rfl)
theorem dL_law_533 : decode cL_law 533 = .ok (.iconst 0, 1) := dk_3 (dk_at dksL_law_16 5 rfl rfl)
theorem dL_law_534 : decode cL_law 534 = .ok (.ireturn, 1) := dk_172 (dk_at dksL_law_16 6 rfl rfl)
theorem dL_law_535 : decode cL_law 535 = .ok (.iload 5, 2) := dk_21 5 (dk_at dksL_law_16 7 rfl rfl)
theorem dL_law_537 : decode cL_law 537 = .ok (.ifCond .ne 15, 3) := dk_154 0 15 (dk_at dksL_law_16 9 rfl rfl)
theorem dL_law_540 : decode cL_law 540 = .ok (.aload_n 3, 1) := dk_45 (dk_at dksL_law_16 12 rfl rfl)
theorem dL_law_541 : decode cL_law 541 = .ok (.iconst 0, 1) := dk_3 (dk_at dksL_law_16 13 rfl rfl)
theorem dL_law_542 : decode cL_law 542 = .ok (.laload, 1) := dk_47 (dk_at dksL_law_16 14 rfl rfl)
theorem dL_law_543 : decode cL_law 543 = .ok (.iload 6, 2) := dk_21 6 (dk_at dksL_law_16 15 rfl rfl)
theorem dL_law_545 : decode cL_law 545 = .ok (.i2l, 1) := dk_133 (dk_at dksL_law_16 17 rfl rfl)
theorem dL_law_546 : decode cL_law 546 = .ok (.lcmp, 1) := dk_148 (dk_at dksL_law_16 18 rfl rfl)
theorem dL_law_547 : decode cL_law 547 = .ok (.ifCond .eq 5, 3) := dk_153 0 5 (dk_at dksL_law_16 19 rfl rfl)
theorem dL_law_550 : decode cL_law 550 = .ok (.iconst 0, 1) := dk_3 (dk_at dksL_law_16 22 rfl rfl)
theorem dL_law_551 : decode cL_law 551 = .ok (.ireturn, 1) := dk_172 (dk_at dksL_law_16 23 rfl rfl)
theorem dL_law_552 : decode cL_law 552 = .ok (.goto 1538, 3) := dk_167 6 2 (dk_at dksL_law_17 0 rfl rfl)
theorem dL_law_555 : decode cL_law 555 = .ok (.aload_n 1, 1) := dk_43 (dk_at dksL_law_17 3 rfl rfl)
theorem dL_law_556 : decode cL_law 556 = .ok (.aload_n 0, 1) := dk_42 (dk_at dksL_law_17 4 rfl rfl)
theorem dL_law_557 : decode cL_law 557 = .ok (.iload 4, 2) := dk_21 4 (dk_at dksL_law_17 5 rfl rfl)
theorem dL_law_559 : decode cL_law 559 = .ok (.iconst 1, 1) := dk_4 (dk_at dksL_law_17 7 rfl rfl)
theorem dL_law_560 : decode cL_law 560 = .ok (.iadd, 1) := dk_96 (dk_at dksL_law_17 8 rfl rfl)
theorem dL_law_561 : decode cL_law 561 = .ok (.iaload, 1) := dk_46 (dk_at dksL_law_17 9 rfl rfl)
theorem dL_law_562 : decode cL_law 562 = .ok (.aload_n 0, 1) := dk_42 (dk_at dksL_law_17 10 rfl rfl)
theorem dL_law_563 : decode cL_law 563 = .ok (.iload 4, 2) := dk_21 4 (dk_at dksL_law_17 11 rfl rfl)
theorem dL_law_565 : decode cL_law 565 = .ok (.iconst 2, 1) := dk_5 (dk_at dksL_law_17 13 rfl rfl)
theorem dL_law_566 : decode cL_law 566 = .ok (.iadd, 1) := dk_96 (dk_at dksL_law_17 14 rfl rfl)
theorem dL_law_567 : decode cL_law 567 = .ok (.iaload, 1) := dk_46 (dk_at dksL_law_17 15 rfl rfl)
theorem dL_law_568 : decode cL_law 568 = .ok (.aload_n 3, 1) := dk_45 (dk_at dksL_law_17 16 rfl rfl)
theorem dL_law_569 : decode cL_law 569 = .ok (.invokestatic 124, 3) := dk_184 0 124 (dk_at dksL_law_17 17 rfl rfl)
theorem dL_law_572 : decode cL_law 572 = .ok (.istore 5, 2) := dk_54 5 (dk_at dksL_law_17 20 rfl rfl)
theorem dL_law_574 : decode cL_law 574 = .ok (.aload_n 2, 1) := dk_44 (dk_at dksL_law_17 22 rfl rfl)
theorem dL_law_575 : decode cL_law 575 = .ok (.aload_n 0, 1) := dk_42 (dk_at dksL_law_17 23 rfl rfl)
theorem dL_law_576 : decode cL_law 576 = .ok (.iload 4, 2) := dk_21 4 (dk_at dksL_law_18 0 rfl rfl)
theorem dL_law_578 : decode cL_law 578 = .ok (.iconst 1, 1) := dk_4 (dk_at dksL_law_18 2 rfl rfl)
theorem dL_law_579 : decode cL_law 579 = .ok (.iadd, 1) := dk_96 (dk_at dksL_law_18 3 rfl rfl)
theorem dL_law_580 : decode cL_law 580 = .ok (.iaload, 1) := dk_46 (dk_at dksL_law_18 4 rfl rfl)
theorem dL_law_581 : decode cL_law 581 = .ok (.aload_n 0, 1) := dk_42 (dk_at dksL_law_18 5 rfl rfl)
theorem dL_law_582 : decode cL_law 582 = .ok (.iload 4, 2) := dk_21 4 (dk_at dksL_law_18 6 rfl rfl)
theorem dL_law_584 : decode cL_law 584 = .ok (.iconst 2, 1) := dk_5 (dk_at dksL_law_18 8 rfl rfl)
theorem dL_law_585 : decode cL_law 585 = .ok (.iadd, 1) := dk_96 (dk_at dksL_law_18 9 rfl rfl)
theorem dL_law_586 : decode cL_law 586 = .ok (.iaload, 1) := dk_46 (dk_at dksL_law_18 10 rfl rfl)
theorem dL_law_587 : decode cL_law 587 = .ok (.invokevirtual 126, 3) := dk_182 0 126 (dk_at dksL_law_18 11 rfl rfl)
theorem dL_law_590 : decode cL_law 590 = .ok (.lstore 6, 2) := dk_55 6 (dk_at dksL_law_18 14 rfl rfl)
theorem dL_law_592 : decode cL_law 592 = .ok (.aload_n 2, 1) := dk_44 (dk_at dksL_law_18 16 rfl rfl)
theorem dL_law_593 : decode cL_law 593 = .ok (.invokevirtual 102, 3) := dk_182 0 102 (dk_at dksL_law_18 17 rfl rfl)
theorem dL_law_596 : decode cL_law 596 = .ok (.iload 5, 2) := dk_21 5 (dk_at dksL_law_18 20 rfl rfl)
theorem dL_law_598 : decode cL_law 598 = .ok (.if_icmp .eq 5, 3) := dk_159 0 5 (dk_at dksL_law_19 0 rfl rfl)
theorem dL_law_601 : decode cL_law 601 = .ok (.iconst 0, 1) := dk_3 (dk_at dksL_law_19 3 rfl rfl)
theorem dL_law_602 : decode cL_law 602 = .ok (.ireturn, 1) := dk_172 (dk_at dksL_law_19 4 rfl rfl)
theorem dL_law_603 : decode cL_law 603 = .ok (.iload 5, 2) := dk_21 5 (dk_at dksL_law_19 5 rfl rfl)
theorem dL_law_605 : decode cL_law 605 = .ok (.ifCond .ne 14, 3) := dk_154 0 14 (dk_at dksL_law_19 7 rfl rfl)
theorem dL_law_608 : decode cL_law 608 = .ok (.aload_n 3, 1) := dk_45 (dk_at dksL_law_19 10 rfl rfl)
theorem dL_law_609 : decode cL_law 609 = .ok (.iconst 0, 1) := dk_3 (dk_at dksL_law_19 11 rfl rfl)
theorem dL_law_610 : decode cL_law 610 = .ok (.laload, 1) := dk_47 (dk_at dksL_law_19 12 rfl rfl)
theorem dL_law_611 : decode cL_law 611 = .ok (.lload 6, 2) := dk_22 6 (dk_at dksL_law_19 13 rfl rfl)
theorem dL_law_613 : decode cL_law 613 = .ok (.lcmp, 1) := dk_148 (dk_at dksL_law_19 15 rfl rfl)
theorem dL_law_614 : decode cL_law 614 = .ok (.ifCond .eq 5, 3) := dk_153 0 5 (dk_at dksL_law_19 16 rfl rfl)
theorem dL_law_617 : decode cL_law 617 = .ok (.iconst 0, 1) := dk_3 (dk_at dksL_law_19 19 rfl rfl)
theorem dL_law_618 : decode cL_law 618 = .ok (.ireturn, 1) := dk_172 (dk_at dksL_law_19 20 rfl rfl)
theorem dL_law_619 : decode cL_law 619 = .ok (.goto 1471, 3) := dk_167 5 191 (dk_at dksL_law_19 21 rfl rfl)
theorem dL_law_622 : decode cL_law 622 = .ok (.aload_n 1, 1) := dk_43 (dk_at dksL_law_20 0 rfl rfl)
theorem dL_law_623 : decode cL_law 623 = .ok (.aload_n 0, 1) := dk_42 (dk_at dksL_law_20 1 rfl rfl)
theorem dL_law_624 : decode cL_law 624 = .ok (.iload 4, 2) := dk_21 4 (dk_at dksL_law_20 2 rfl rfl)
theorem dL_law_626 : decode cL_law 626 = .ok (.iconst 1, 1) := dk_4 (dk_at dksL_law_20 4 rfl rfl)
theorem dL_law_627 : decode cL_law 627 = .ok (.iadd, 1) := dk_96 (dk_at dksL_law_20 5 rfl rfl)
theorem dL_law_628 : decode cL_law 628 = .ok (.iaload, 1) := dk_46 (dk_at dksL_law_20 6 rfl rfl)
theorem dL_law_629 : decode cL_law 629 = .ok (.aload_n 3, 1) := dk_45 (dk_at dksL_law_20 7 rfl rfl)
theorem dL_law_630 : decode cL_law 630 = .ok (.invokestatic 127, 3) := dk_184 0 127 (dk_at dksL_law_20 8 rfl rfl)
theorem dL_law_633 : decode cL_law 633 = .ok (.istore 5, 2) := dk_54 5 (dk_at dksL_law_20 11 rfl rfl)
theorem dL_law_635 : decode cL_law 635 = .ok (.aload_n 2, 1) := dk_44 (dk_at dksL_law_20 13 rfl rfl)
theorem dL_law_636 : decode cL_law 636 = .ok (.aload_n 0, 1) := dk_42 (dk_at dksL_law_20 14 rfl rfl)
theorem dL_law_637 : decode cL_law 637 = .ok (.iload 4, 2) := dk_21 4 (dk_at dksL_law_20 15 rfl rfl)
theorem dL_law_639 : decode cL_law 639 = .ok (.iconst 1, 1) := dk_4 (dk_at dksL_law_20 17 rfl rfl)
theorem dL_law_640 : decode cL_law 640 = .ok (.iadd, 1) := dk_96 (dk_at dksL_law_20 18 rfl rfl)
theorem dL_law_641 : decode cL_law 641 = .ok (.iaload, 1) := dk_46 (dk_at dksL_law_20 19 rfl rfl)
theorem dL_law_642 : decode cL_law 642 = .ok (.invokevirtual 129, 3) := dk_182 0 129 (dk_at dksL_law_20 20 rfl rfl)
theorem dL_law_645 : decode cL_law 645 = .ok (.lstore 6, 2) := dk_55 6 (dk_at dksL_law_21 0 rfl rfl)
theorem dL_law_647 : decode cL_law 647 = .ok (.aload_n 2, 1) := dk_44 (dk_at dksL_law_21 2 rfl rfl)
theorem dL_law_648 : decode cL_law 648 = .ok (.invokevirtual 102, 3) := dk_182 0 102 (dk_at dksL_law_21 3 rfl rfl)
theorem dL_law_651 : decode cL_law 651 = .ok (.iload 5, 2) := dk_21 5 (dk_at dksL_law_21 6 rfl rfl)
theorem dL_law_653 : decode cL_law 653 = .ok (.if_icmp .eq 5, 3) := dk_159 0 5 (dk_at dksL_law_21 8 rfl rfl)
theorem dL_law_656 : decode cL_law 656 = .ok (.iconst 0, 1) := dk_3 (dk_at dksL_law_21 11 rfl rfl)
theorem dL_law_657 : decode cL_law 657 = .ok (.ireturn, 1) := dk_172 (dk_at dksL_law_21 12 rfl rfl)
theorem dL_law_658 : decode cL_law 658 = .ok (.iload 5, 2) := dk_21 5 (dk_at dksL_law_21 13 rfl rfl)
theorem dL_law_660 : decode cL_law 660 = .ok (.ifCond .ne 14, 3) := dk_154 0 14 (dk_at dksL_law_21 15 rfl rfl)
theorem dL_law_663 : decode cL_law 663 = .ok (.aload_n 3, 1) := dk_45 (dk_at dksL_law_21 18 rfl rfl)
theorem dL_law_664 : decode cL_law 664 = .ok (.iconst 0, 1) := dk_3 (dk_at dksL_law_21 19 rfl rfl)
theorem dL_law_665 : decode cL_law 665 = .ok (.laload, 1) := dk_47 (dk_at dksL_law_21 20 rfl rfl)
theorem dL_law_666 : decode cL_law 666 = .ok (.lload 6, 2) := dk_22 6 (dk_at dksL_law_21 21 rfl rfl)
theorem dL_law_668 : decode cL_law 668 = .ok (.lcmp, 1) := dk_148 (dk_at dksL_law_21 23 rfl rfl)
theorem dL_law_669 : decode cL_law 669 = .ok (.ifCond .eq 5, 3) := dk_153 0 5 (dk_at dksL_law_22 0 rfl rfl)
theorem dL_law_672 : decode cL_law 672 = .ok (.iconst 0, 1) := dk_3 (dk_at dksL_law_22 3 rfl rfl)
theorem dL_law_673 : decode cL_law 673 = .ok (.ireturn, 1) := dk_172 (dk_at dksL_law_22 4 rfl rfl)
theorem dL_law_674 : decode cL_law 674 = .ok (.goto 1416, 3) := dk_167 5 136 (dk_at dksL_law_22 5 rfl rfl)
theorem dL_law_677 : decode cL_law 677 = .ok (.aload_n 1, 1) := dk_43 (dk_at dksL_law_22 8 rfl rfl)
theorem dL_law_678 : decode cL_law 678 = .ok (.invokevirtual 130, 3) := dk_182 0 130 (dk_at dksL_law_22 9 rfl rfl)
theorem dL_law_681 : decode cL_law 681 = .ok (.aload_n 2, 1) := dk_44 (dk_at dksL_law_22 12 rfl rfl)
theorem dL_law_682 : decode cL_law 682 = .ok (.invokevirtual 134, 3) := dk_182 0 134 (dk_at dksL_law_22 13 rfl rfl)
theorem dL_law_685 : decode cL_law 685 = .ok (.lcmp, 1) := dk_148 (dk_at dksL_law_22 16 rfl rfl)
theorem dL_law_686 : decode cL_law 686 = .ok (.ifCond .eq 1404, 3) := dk_153 5 124 (dk_at dksL_law_22 17 rfl rfl)
theorem dL_law_689 : decode cL_law 689 = .ok (.iconst 0, 1) := dk_3 (dk_at dksL_law_22 20 rfl rfl)
theorem dL_law_690 : decode cL_law 690 = .ok (.ireturn, 1) := dk_172 (dk_at dksL_law_22 21 rfl rfl)
theorem dL_law_691 : decode cL_law 691 = .ok (.aload_n 1, 1) := dk_43 (dk_at dksL_law_22 22 rfl rfl)
theorem dL_law_692 : decode cL_law 692 = .ok (.invokevirtual 135, 3) := dk_182 0 135 (dk_at dksL_law_23 0 rfl rfl)
theorem dL_law_695 : decode cL_law 695 = .ok (.aload_n 2, 1) := dk_44 (dk_at dksL_law_23 3 rfl rfl)
theorem dL_law_696 : decode cL_law 696 = .ok (.invokevirtual 138, 3) := dk_182 0 138 (dk_at dksL_law_23 4 rfl rfl)
theorem dL_law_699 : decode cL_law 699 = .ok (.lcmp, 1) := dk_148 (dk_at dksL_law_23 7 rfl rfl)
theorem dL_law_700 : decode cL_law 700 = .ok (.ifCond .eq 1390, 3) := dk_153 5 110 (dk_at dksL_law_23 8 rfl rfl)
theorem dL_law_703 : decode cL_law 703 = .ok (.iconst 0, 1) := dk_3 (dk_at dksL_law_23 11 rfl rfl)
theorem dL_law_704 : decode cL_law 704 = .ok (.ireturn, 1) := dk_172 (dk_at dksL_law_23 12 rfl rfl)
theorem dL_law_705 : decode cL_law 705 = .ok (.aload_n 1, 1) := dk_43 (dk_at dksL_law_23 13 rfl rfl)
theorem dL_law_706 : decode cL_law 706 = .ok (.invokevirtual 139, 3) := dk_182 0 139 (dk_at dksL_law_23 14 rfl rfl)
theorem dL_law_709 : decode cL_law 709 = .ok (.aload_n 2, 1) := dk_44 (dk_at dksL_law_23 17 rfl rfl)
theorem dL_law_710 : decode cL_law 710 = .ok (.invokevirtual 142, 3) := dk_182 0 142 (dk_at dksL_law_23 18 rfl rfl)
theorem dL_law_713 : decode cL_law 713 = .ok (.lcmp, 1) := dk_148 (dk_at dksL_law_23 21 rfl rfl)
theorem dL_law_714 : decode cL_law 714 = .ok (.ifCond .eq 1376, 3) := dk_153 5 96 (dk_at dksL_law_24 0 rfl rfl)
theorem dL_law_717 : decode cL_law 717 = .ok (.iconst 0, 1) := dk_3 (dk_at dksL_law_24 3 rfl rfl)
theorem dL_law_718 : decode cL_law 718 = .ok (.ireturn, 1) := dk_172 (dk_at dksL_law_24 4 rfl rfl)
theorem dL_law_719 : decode cL_law 719 = .ok (.aload_n 1, 1) := dk_43 (dk_at dksL_law_24 5 rfl rfl)
theorem dL_law_720 : decode cL_law 720 = .ok (.invokevirtual 143, 3) := dk_182 0 143 (dk_at dksL_law_24 6 rfl rfl)
theorem dL_law_723 : decode cL_law 723 = .ok (.aload_n 2, 1) := dk_44 (dk_at dksL_law_24 9 rfl rfl)
theorem dL_law_724 : decode cL_law 724 = .ok (.invokevirtual 146, 3) := dk_182 0 146 (dk_at dksL_law_24 10 rfl rfl)
theorem dL_law_727 : decode cL_law 727 = .ok (.lcmp, 1) := dk_148 (dk_at dksL_law_24 13 rfl rfl)
theorem dL_law_728 : decode cL_law 728 = .ok (.ifCond .eq 1362, 3) := dk_153 5 82 (dk_at dksL_law_24 14 rfl rfl)
theorem dL_law_731 : decode cL_law 731 = .ok (.iconst 0, 1) := dk_3 (dk_at dksL_law_24 17 rfl rfl)
theorem dL_law_732 : decode cL_law 732 = .ok (.ireturn, 1) := dk_172 (dk_at dksL_law_24 18 rfl rfl)
theorem dL_law_733 : decode cL_law 733 = .ok (.aload_n 1, 1) := dk_43 (dk_at dksL_law_24 19 rfl rfl)
theorem dL_law_734 : decode cL_law 734 = .ok (.aload_n 0, 1) := dk_42 (dk_at dksL_law_24 20 rfl rfl)
theorem dL_law_735 : decode cL_law 735 = .ok (.iload 4, 2) := dk_21 4 (dk_at dksL_law_24 21 rfl rfl)
theorem dL_law_737 : decode cL_law 737 = .ok (.iconst 1, 1) := dk_4 (dk_at dksL_law_24 23 rfl rfl)
theorem dL_law_738 : decode cL_law 738 = .ok (.iadd, 1) := dk_96 (dk_at dksL_law_25 0 rfl rfl)
theorem dL_law_739 : decode cL_law 739 = .ok (.iaload, 1) := dk_46 (dk_at dksL_law_25 1 rfl rfl)
theorem dL_law_740 : decode cL_law 740 = .ok (.ifCond .eq 7, 3) := dk_153 0 7 (dk_at dksL_law_25 2 rfl rfl)
theorem dL_law_743 : decode cL_law 743 = .ok (.iconst 1, 1) := dk_4 (dk_at dksL_law_25 5 rfl rfl)
theorem dL_law_744 : decode cL_law 744 = .ok (.goto 4, 3) := dk_167 0 4 (dk_at dksL_law_25 6 rfl rfl)
theorem dL_law_747 : decode cL_law 747 = .ok (.iconst 0, 1) := dk_3 (dk_at dksL_law_25 9 rfl rfl)
theorem dL_law_748 : decode cL_law 748 = .ok (.invokevirtual 147, 3) := dk_182 0 147 (dk_at dksL_law_25 10 rfl rfl)
theorem dL_law_751 : decode cL_law 751 = .ok (.aload_n 2, 1) := dk_44 (dk_at dksL_law_25 13 rfl rfl)
theorem dL_law_752 : decode cL_law 752 = .ok (.aload_n 0, 1) := dk_42 (dk_at dksL_law_25 14 rfl rfl)
theorem dL_law_753 : decode cL_law 753 = .ok (.iload 4, 2) := dk_21 4 (dk_at dksL_law_25 15 rfl rfl)
theorem dL_law_755 : decode cL_law 755 = .ok (.iconst 1, 1) := dk_4 (dk_at dksL_law_25 17 rfl rfl)
theorem dL_law_756 : decode cL_law 756 = .ok (.iadd, 1) := dk_96 (dk_at dksL_law_25 18 rfl rfl)
theorem dL_law_757 : decode cL_law 757 = .ok (.iaload, 1) := dk_46 (dk_at dksL_law_25 19 rfl rfl)
theorem dL_law_758 : decode cL_law 758 = .ok (.ifCond .eq 7, 3) := dk_153 0 7 (dk_at dksL_law_25 20 rfl rfl)
theorem dL_law_761 : decode cL_law 761 = .ok (.iconst 1, 1) := dk_4 (dk_at dksL_law_25 23 rfl rfl)
theorem dL_law_762 : decode cL_law 762 = .ok (.goto 4, 3) := dk_167 0 4 (dk_at dksL_law_26 0 rfl rfl)
theorem dL_law_765 : decode cL_law 765 = .ok (.iconst 0, 1) := dk_3 (dk_at dksL_law_26 3 rfl rfl)
theorem dL_law_766 : decode cL_law 766 = .ok (.invokevirtual 151, 3) := dk_182 0 151 (dk_at dksL_law_26 4 rfl rfl)
theorem dL_law_769 : decode cL_law 769 = .ok (.lcmp, 1) := dk_148 (dk_at dksL_law_26 7 rfl rfl)
theorem dL_law_770 : decode cL_law 770 = .ok (.ifCond .eq 1320, 3) := dk_153 5 40 (dk_at dksL_law_26 8 rfl rfl)
theorem dL_law_773 : decode cL_law 773 = .ok (.iconst 0, 1) := dk_3 (dk_at dksL_law_26 11 rfl rfl)
theorem dL_law_774 : decode cL_law 774 = .ok (.ireturn, 1) := dk_172 (dk_at dksL_law_26 12 rfl rfl)
theorem dL_law_775 : decode cL_law 775 = .ok (.aload_n 1, 1) := dk_43 (dk_at dksL_law_26 13 rfl rfl)
theorem dL_law_776 : decode cL_law 776 = .ok (.invokevirtual 152, 3) := dk_182 0 152 (dk_at dksL_law_26 14 rfl rfl)
theorem dL_law_779 : decode cL_law 779 = .ok (.aload_n 2, 1) := dk_44 (dk_at dksL_law_26 17 rfl rfl)
theorem dL_law_780 : decode cL_law 780 = .ok (.invokevirtual 155, 3) := dk_182 0 155 (dk_at dksL_law_26 18 rfl rfl)
theorem dL_law_783 : decode cL_law 783 = .ok (.if_icmp .eq 1307, 3) := dk_159 5 27 (dk_at dksL_law_26 21 rfl rfl)
theorem dL_law_786 : decode cL_law 786 = .ok (.iconst 0, 1) := dk_3 (dk_at dksL_law_27 0 rfl rfl)
theorem dL_law_787 : decode cL_law 787 = .ok (.ireturn, 1) := dk_172 (dk_at dksL_law_27 1 rfl rfl)
theorem dL_law_788 : decode cL_law 788 = .ok (.aload_n 1, 1) := dk_43 (dk_at dksL_law_27 2 rfl rfl)
theorem dL_law_789 : decode cL_law 789 = .ok (.invokevirtual 156, 3) := dk_182 0 156 (dk_at dksL_law_27 3 rfl rfl)
theorem dL_law_792 : decode cL_law 792 = .ok (.aload_n 2, 1) := dk_44 (dk_at dksL_law_27 6 rfl rfl)
theorem dL_law_793 : decode cL_law 793 = .ok (.invokevirtual 159, 3) := dk_182 0 159 (dk_at dksL_law_27 7 rfl rfl)
theorem dL_law_796 : decode cL_law 796 = .ok (.if_icmp .eq 1294, 3) := dk_159 5 14 (dk_at dksL_law_27 10 rfl rfl)
theorem dL_law_799 : decode cL_law 799 = .ok (.iconst 0, 1) := dk_3 (dk_at dksL_law_27 13 rfl rfl)
theorem dL_law_800 : decode cL_law 800 = .ok (.ireturn, 1) := dk_172 (dk_at dksL_law_27 14 rfl rfl)
theorem dL_law_801 : decode cL_law 801 = .ok (.aload_n 1, 1) := dk_43 (dk_at dksL_law_27 15 rfl rfl)
theorem dL_law_802 : decode cL_law 802 = .ok (.aload_n 0, 1) := dk_42 (dk_at dksL_law_27 16 rfl rfl)
theorem dL_law_803 : decode cL_law 803 = .ok (.iload 4, 2) := dk_21 4 (dk_at dksL_law_27 17 rfl rfl)
theorem dL_law_805 : decode cL_law 805 = .ok (.iconst 1, 1) := dk_4 (dk_at dksL_law_27 19 rfl rfl)
theorem dL_law_806 : decode cL_law 806 = .ok (.iadd, 1) := dk_96 (dk_at dksL_law_27 20 rfl rfl)
theorem dL_law_807 : decode cL_law 807 = .ok (.iaload, 1) := dk_46 (dk_at dksL_law_27 21 rfl rfl)
theorem dL_law_808 : decode cL_law 808 = .ok (.aload_n 0, 1) := dk_42 (dk_at dksL_law_27 22 rfl rfl)
theorem dL_law_809 : decode cL_law 809 = .ok (.iload 4, 2) := dk_21 4 (dk_at dksL_law_28 0 rfl rfl)
theorem dL_law_811 : decode cL_law 811 = .ok (.iconst 2, 1) := dk_5 (dk_at dksL_law_28 2 rfl rfl)
theorem dL_law_812 : decode cL_law 812 = .ok (.iadd, 1) := dk_96 (dk_at dksL_law_28 3 rfl rfl)
theorem dL_law_813 : decode cL_law 813 = .ok (.iaload, 1) := dk_46 (dk_at dksL_law_28 4 rfl rfl)
theorem dL_law_814 : decode cL_law 814 = .ok (.aload_n 3, 1) := dk_45 (dk_at dksL_law_28 5 rfl rfl)
theorem dL_law_815 : decode cL_law 815 = .ok (.invokestatic 160, 3) := dk_184 0 160 (dk_at dksL_law_28 6 rfl rfl)
theorem dL_law_818 : decode cL_law 818 = .ok (.istore 5, 2) := dk_54 5 (dk_at dksL_law_28 9 rfl rfl)
theorem dL_law_820 : decode cL_law 820 = .ok (.aload_n 2, 1) := dk_44 (dk_at dksL_law_28 11 rfl rfl)
theorem dL_law_821 : decode cL_law 821 = .ok (.aload_n 0, 1) := dk_42 (dk_at dksL_law_28 12 rfl rfl)
theorem dL_law_822 : decode cL_law 822 = .ok (.iload 4, 2) := dk_21 4 (dk_at dksL_law_28 13 rfl rfl)
theorem dL_law_824 : decode cL_law 824 = .ok (.iconst 1, 1) := dk_4 (dk_at dksL_law_28 15 rfl rfl)
theorem dL_law_825 : decode cL_law 825 = .ok (.iadd, 1) := dk_96 (dk_at dksL_law_28 16 rfl rfl)
theorem dL_law_826 : decode cL_law 826 = .ok (.iaload, 1) := dk_46 (dk_at dksL_law_28 17 rfl rfl)
theorem dL_law_827 : decode cL_law 827 = .ok (.aload_n 0, 1) := dk_42 (dk_at dksL_law_28 18 rfl rfl)
theorem dL_law_828 : decode cL_law 828 = .ok (.iload 4, 2) := dk_21 4 (dk_at dksL_law_28 19 rfl rfl)
theorem dL_law_830 : decode cL_law 830 = .ok (.iconst 2, 1) := dk_5 (dk_at dksL_law_28 21 rfl rfl)
theorem dL_law_831 : decode cL_law 831 = .ok (.iadd, 1) := dk_96 (dk_at dksL_law_28 22 rfl rfl)
theorem dL_law_832 : decode cL_law 832 = .ok (.iaload, 1) := dk_46 (dk_at dksL_law_28 23 rfl rfl)
theorem dL_law_833 : decode cL_law 833 = .ok (.invokevirtual 162, 3) := dk_182 0 162 (dk_at dksL_law_29 0 rfl rfl)
theorem dL_law_836 : decode cL_law 836 = .ok (.istore 6, 2) := dk_54 6 (dk_at dksL_law_29 3 rfl rfl)
theorem dL_law_838 : decode cL_law 838 = .ok (.aload_n 2, 1) := dk_44 (dk_at dksL_law_29 5 rfl rfl)
theorem dL_law_839 : decode cL_law 839 = .ok (.invokevirtual 102, 3) := dk_182 0 102 (dk_at dksL_law_29 6 rfl rfl)
theorem dL_law_842 : decode cL_law 842 = .ok (.iload 5, 2) := dk_21 5 (dk_at dksL_law_29 9 rfl rfl)
theorem dL_law_844 : decode cL_law 844 = .ok (.if_icmp .eq 5, 3) := dk_159 0 5 (dk_at dksL_law_29 11 rfl rfl)
theorem dL_law_847 : decode cL_law 847 = .ok (.iconst 0, 1) := dk_3 (dk_at dksL_law_29 14 rfl rfl)
theorem dL_law_848 : decode cL_law 848 = .ok (.ireturn, 1) := dk_172 (dk_at dksL_law_29 15 rfl rfl)
theorem dL_law_849 : decode cL_law 849 = .ok (.iload 5, 2) := dk_21 5 (dk_at dksL_law_29 16 rfl rfl)
theorem dL_law_851 : decode cL_law 851 = .ok (.ifCond .ne 15, 3) := dk_154 0 15 (dk_at dksL_law_29 18 rfl rfl)
theorem dL_law_854 : decode cL_law 854 = .ok (.aload_n 3, 1) := dk_45 (dk_at dksL_law_29 21 rfl rfl)
theorem dL_law_855 : decode cL_law 855 = .ok (.iconst 0, 1) := dk_3 (dk_at dksL_law_29 22 rfl rfl)
theorem dL_law_856 : decode cL_law 856 = .ok (.laload, 1) := dk_47 (dk_at dksL_law_29 23 rfl rfl)
theorem dL_law_857 : decode cL_law 857 = .ok (.iload 6, 2) := dk_21 6 (dk_at dksL_law_30 0 rfl rfl)
theorem dL_law_859 : decode cL_law 859 = .ok (.i2l, 1) := dk_133 (dk_at dksL_law_30 2 rfl rfl)
theorem dL_law_860 : decode cL_law 860 = .ok (.lcmp, 1) := dk_148 (dk_at dksL_law_30 3 rfl rfl)
theorem dL_law_861 : decode cL_law 861 = .ok (.ifCond .eq 5, 3) := dk_153 0 5 (dk_at dksL_law_30 4 rfl rfl)
theorem dL_law_864 : decode cL_law 864 = .ok (.iconst 0, 1) := dk_3 (dk_at dksL_law_30 7 rfl rfl)
theorem dL_law_865 : decode cL_law 865 = .ok (.ireturn, 1) := dk_172 (dk_at dksL_law_30 8 rfl rfl)
theorem dL_law_866 : decode cL_law 866 = .ok (.goto 1224, 3) := dk_167 4 200 (dk_at dksL_law_30 9 rfl rfl)
theorem dL_law_869 : decode cL_law 869 = .ok (.aload_n 1, 1) := dk_43 (dk_at dksL_law_30 12 rfl rfl)
theorem dL_law_870 : decode cL_law 870 = .ok (.aload_n 0, 1) := dk_42 (dk_at dksL_law_30 13 rfl rfl)
theorem dL_law_871 : decode cL_law 871 = .ok (.iload 4, 2) := dk_21 4 (dk_at dksL_law_30 14 rfl rfl)
theorem dL_law_873 : decode cL_law 873 = .ok (.iconst 1, 1) := dk_4 (dk_at dksL_law_30 16 rfl rfl)
theorem dL_law_874 : decode cL_law 874 = .ok (.iadd, 1) := dk_96 (dk_at dksL_law_30 17 rfl rfl)
theorem dL_law_875 : decode cL_law 875 = .ok (.iaload, 1) := dk_46 (dk_at dksL_law_30 18 rfl rfl)
theorem dL_law_876 : decode cL_law 876 = .ok (.aload_n 3, 1) := dk_45 (dk_at dksL_law_30 19 rfl rfl)
theorem dL_law_877 : decode cL_law 877 = .ok (.invokestatic 163, 3) := dk_184 0 163 (dk_at dksL_law_30 20 rfl rfl)
theorem dL_law_880 : decode cL_law 880 = .ok (.istore 5, 2) := dk_54 5 (dk_at dksL_law_31 0 rfl rfl)
theorem dL_law_882 : decode cL_law 882 = .ok (.aload_n 2, 1) := dk_44 (dk_at dksL_law_31 2 rfl rfl)
theorem dL_law_883 : decode cL_law 883 = .ok (.aload_n 0, 1) := dk_42 (dk_at dksL_law_31 3 rfl rfl)
theorem dL_law_884 : decode cL_law 884 = .ok (.iload 4, 2) := dk_21 4 (dk_at dksL_law_31 4 rfl rfl)
theorem dL_law_886 : decode cL_law 886 = .ok (.iconst 1, 1) := dk_4 (dk_at dksL_law_31 6 rfl rfl)
theorem dL_law_887 : decode cL_law 887 = .ok (.iadd, 1) := dk_96 (dk_at dksL_law_31 7 rfl rfl)
theorem dL_law_888 : decode cL_law 888 = .ok (.iaload, 1) := dk_46 (dk_at dksL_law_31 8 rfl rfl)
theorem dL_law_889 : decode cL_law 889 = .ok (.invokevirtual 165, 3) := dk_182 0 165 (dk_at dksL_law_31 9 rfl rfl)
theorem dL_law_892 : decode cL_law 892 = .ok (.istore 6, 2) := dk_54 6 (dk_at dksL_law_31 12 rfl rfl)
theorem dL_law_894 : decode cL_law 894 = .ok (.aload_n 2, 1) := dk_44 (dk_at dksL_law_31 14 rfl rfl)
theorem dL_law_895 : decode cL_law 895 = .ok (.invokevirtual 102, 3) := dk_182 0 102 (dk_at dksL_law_31 15 rfl rfl)
theorem dL_law_898 : decode cL_law 898 = .ok (.iload 5, 2) := dk_21 5 (dk_at dksL_law_31 18 rfl rfl)
theorem dL_law_900 : decode cL_law 900 = .ok (.if_icmp .eq 5, 3) := dk_159 0 5 (dk_at dksL_law_31 20 rfl rfl)
theorem dL_law_903 : decode cL_law 903 = .ok (.iconst 0, 1) := dk_3 (dk_at dksL_law_31 23 rfl rfl)
theorem dL_law_904 : decode cL_law 904 = .ok (.ireturn, 1) := dk_172 (dk_at dksL_law_32 0 rfl rfl)
theorem dL_law_905 : decode cL_law 905 = .ok (.iload 5, 2) := dk_21 5 (dk_at dksL_law_32 1 rfl rfl)
theorem dL_law_907 : decode cL_law 907 = .ok (.ifCond .ne 15, 3) := dk_154 0 15 (dk_at dksL_law_32 3 rfl rfl)
theorem dL_law_910 : decode cL_law 910 = .ok (.aload_n 3, 1) := dk_45 (dk_at dksL_law_32 6 rfl rfl)
theorem dL_law_911 : decode cL_law 911 = .ok (.iconst 0, 1) := dk_3 (dk_at dksL_law_32 7 rfl rfl)
theorem dL_law_912 : decode cL_law 912 = .ok (.laload, 1) := dk_47 (dk_at dksL_law_32 8 rfl rfl)
theorem dL_law_913 : decode cL_law 913 = .ok (.iload 6, 2) := dk_21 6 (dk_at dksL_law_32 9 rfl rfl)
theorem dL_law_915 : decode cL_law 915 = .ok (.i2l, 1) := dk_133 (dk_at dksL_law_32 11 rfl rfl)
theorem dL_law_916 : decode cL_law 916 = .ok (.lcmp, 1) := dk_148 (dk_at dksL_law_32 12 rfl rfl)
theorem dL_law_917 : decode cL_law 917 = .ok (.ifCond .eq 5, 3) := dk_153 0 5 (dk_at dksL_law_32 13 rfl rfl)
theorem dL_law_920 : decode cL_law 920 = .ok (.iconst 0, 1) := dk_3 (dk_at dksL_law_32 16 rfl rfl)
theorem dL_law_921 : decode cL_law 921 = .ok (.ireturn, 1) := dk_172 (dk_at dksL_law_32 17 rfl rfl)
theorem dL_law_922 : decode cL_law 922 = .ok (.goto 1168, 3) := dk_167 4 144 (dk_at dksL_law_32 18 rfl rfl)
theorem dL_law_925 : decode cL_law 925 = .ok (.aload_n 1, 1) := dk_43 (dk_at dksL_law_32 21 rfl rfl)
theorem dL_law_926 : decode cL_law 926 = .ok (.aload_n 0, 1) := dk_42 (dk_at dksL_law_32 22 rfl rfl)
theorem dL_law_927 : decode cL_law 927 = .ok (.iload 4, 2) := dk_21 4 (dk_at dksL_law_33 0 rfl rfl)
theorem dL_law_929 : decode cL_law 929 = .ok (.iconst 1, 1) := dk_4 (dk_at dksL_law_33 2 rfl rfl)
theorem dL_law_930 : decode cL_law 930 = .ok (.iadd, 1) := dk_96 (dk_at dksL_law_33 3 rfl rfl)
theorem dL_law_931 : decode cL_law 931 = .ok (.iaload, 1) := dk_46 (dk_at dksL_law_33 4 rfl rfl)
theorem dL_law_932 : decode cL_law 932 = .ok (.aload_n 3, 1) := dk_45 (dk_at dksL_law_33 5 rfl rfl)
theorem dL_law_933 : decode cL_law 933 = .ok (.invokestatic 166, 3) := dk_184 0 166 (dk_at dksL_law_33 6 rfl rfl)
theorem dL_law_936 : decode cL_law 936 = .ok (.istore 5, 2) := dk_54 5 (dk_at dksL_law_33 9 rfl rfl)
theorem dL_law_938 : decode cL_law 938 = .ok (.aload_n 2, 1) := dk_44 (dk_at dksL_law_33 11 rfl rfl)
theorem dL_law_939 : decode cL_law 939 = .ok (.aload_n 0, 1) := dk_42 (dk_at dksL_law_33 12 rfl rfl)
theorem dL_law_940 : decode cL_law 940 = .ok (.iload 4, 2) := dk_21 4 (dk_at dksL_law_33 13 rfl rfl)
theorem dL_law_942 : decode cL_law 942 = .ok (.iconst 1, 1) := dk_4 (dk_at dksL_law_33 15 rfl rfl)
theorem dL_law_943 : decode cL_law 943 = .ok (.iadd, 1) := dk_96 (dk_at dksL_law_33 16 rfl rfl)
theorem dL_law_944 : decode cL_law 944 = .ok (.iaload, 1) := dk_46 (dk_at dksL_law_33 17 rfl rfl)
theorem dL_law_945 : decode cL_law 945 = .ok (.invokevirtual 168, 3) := dk_182 0 168 (dk_at dksL_law_33 18 rfl rfl)
theorem dL_law_948 : decode cL_law 948 = .ok (.istore 6, 2) := dk_54 6 (dk_at dksL_law_33 21 rfl rfl)
theorem dL_law_950 : decode cL_law 950 = .ok (.aload_n 2, 1) := dk_44 (dk_at dksL_law_33 23 rfl rfl)
theorem dL_law_951 : decode cL_law 951 = .ok (.invokevirtual 102, 3) := dk_182 0 102 (dk_at dksL_law_34 0 rfl rfl)
theorem dL_law_954 : decode cL_law 954 = .ok (.iload 5, 2) := dk_21 5 (dk_at dksL_law_34 3 rfl rfl)
theorem dL_law_956 : decode cL_law 956 = .ok (.if_icmp .eq 5, 3) := dk_159 0 5 (dk_at dksL_law_34 5 rfl rfl)
theorem dL_law_959 : decode cL_law 959 = .ok (.iconst 0, 1) := dk_3 (dk_at dksL_law_34 8 rfl rfl)
theorem dL_law_960 : decode cL_law 960 = .ok (.ireturn, 1) := dk_172 (dk_at dksL_law_34 9 rfl rfl)
theorem dL_law_961 : decode cL_law 961 = .ok (.iload 5, 2) := dk_21 5 (dk_at dksL_law_34 10 rfl rfl)
theorem dL_law_963 : decode cL_law 963 = .ok (.ifCond .ne 15, 3) := dk_154 0 15 (dk_at dksL_law_34 12 rfl rfl)
theorem dL_law_966 : decode cL_law 966 = .ok (.aload_n 3, 1) := dk_45 (dk_at dksL_law_34 15 rfl rfl)
theorem dL_law_967 : decode cL_law 967 = .ok (.iconst 0, 1) := dk_3 (dk_at dksL_law_34 16 rfl rfl)
theorem dL_law_968 : decode cL_law 968 = .ok (.laload, 1) := dk_47 (dk_at dksL_law_34 17 rfl rfl)
theorem dL_law_969 : decode cL_law 969 = .ok (.iload 6, 2) := dk_21 6 (dk_at dksL_law_34 18 rfl rfl)
theorem dL_law_971 : decode cL_law 971 = .ok (.i2l, 1) := dk_133 (dk_at dksL_law_34 20 rfl rfl)
theorem dL_law_972 : decode cL_law 972 = .ok (.lcmp, 1) := dk_148 (dk_at dksL_law_34 21 rfl rfl)
theorem dL_law_973 : decode cL_law 973 = .ok (.ifCond .eq 5, 3) := dk_153 0 5 (dk_at dksL_law_35 0 rfl rfl)
theorem dL_law_976 : decode cL_law 976 = .ok (.iconst 0, 1) := dk_3 (dk_at dksL_law_35 3 rfl rfl)
theorem dL_law_977 : decode cL_law 977 = .ok (.ireturn, 1) := dk_172 (dk_at dksL_law_35 4 rfl rfl)
theorem dL_law_978 : decode cL_law 978 = .ok (.goto 1112, 3) := dk_167 4 88 (dk_at dksL_law_35 5 rfl rfl)
theorem dL_law_981 : decode cL_law 981 = .ok (.aload_n 1, 1) := dk_43 (dk_at dksL_law_35 8 rfl rfl)
theorem dL_law_982 : decode cL_law 982 = .ok (.aload_n 0, 1) := dk_42 (dk_at dksL_law_35 9 rfl rfl)
theorem dL_law_983 : decode cL_law 983 = .ok (.iload 4, 2) := dk_21 4 (dk_at dksL_law_35 10 rfl rfl)
theorem dL_law_985 : decode cL_law 985 = .ok (.iconst 1, 1) := dk_4 (dk_at dksL_law_35 12 rfl rfl)
theorem dL_law_986 : decode cL_law 986 = .ok (.iadd, 1) := dk_96 (dk_at dksL_law_35 13 rfl rfl)
theorem dL_law_987 : decode cL_law 987 = .ok (.iaload, 1) := dk_46 (dk_at dksL_law_35 14 rfl rfl)
theorem dL_law_988 : decode cL_law 988 = .ok (.aload_n 0, 1) := dk_42 (dk_at dksL_law_35 15 rfl rfl)
theorem dL_law_989 : decode cL_law 989 = .ok (.iload 4, 2) := dk_21 4 (dk_at dksL_law_35 16 rfl rfl)
theorem dL_law_991 : decode cL_law 991 = .ok (.iconst 2, 1) := dk_5 (dk_at dksL_law_35 18 rfl rfl)
theorem dL_law_992 : decode cL_law 992 = .ok (.iadd, 1) := dk_96 (dk_at dksL_law_35 19 rfl rfl)
theorem dL_law_993 : decode cL_law 993 = .ok (.iaload, 1) := dk_46 (dk_at dksL_law_35 20 rfl rfl)
theorem dL_law_994 : decode cL_law 994 = .ok (.aload_n 0, 1) := dk_42 (dk_at dksL_law_35 21 rfl rfl)
theorem dL_law_995 : decode cL_law 995 = .ok (.iload 4, 2) := dk_21 4 (dk_at dksL_law_35 22 rfl rfl)
theorem dL_law_997 : decode cL_law 997 = .ok (.iconst 3, 1) := dk_6 (dk_at dksL_law_36 0 rfl rfl)
theorem dL_law_998 : decode cL_law 998 = .ok (.iadd, 1) := dk_96 (dk_at dksL_law_36 1 rfl rfl)
theorem dL_law_999 : decode cL_law 999 = .ok (.iaload, 1) := dk_46 (dk_at dksL_law_36 2 rfl rfl)
theorem dL_law_1000 : decode cL_law 1000 = .ok (.aload_n 3, 1) := dk_45 (dk_at dksL_law_36 3 rfl rfl)
theorem dL_law_1001 : decode cL_law 1001 = .ok (.invokestatic 169, 3) := dk_184 0 169 (dk_at dksL_law_36 4 rfl rfl)
theorem dL_law_1004 : decode cL_law 1004 = .ok (.istore 5, 2) := dk_54 5 (dk_at dksL_law_36 7 rfl rfl)
theorem dL_law_1006 : decode cL_law 1006 = .ok (.aload_n 2, 1) := dk_44 (dk_at dksL_law_36 9 rfl rfl)
theorem dL_law_1007 : decode cL_law 1007 = .ok (.aload_n 0, 1) := dk_42 (dk_at dksL_law_36 10 rfl rfl)
theorem dL_law_1008 : decode cL_law 1008 = .ok (.iload 4, 2) := dk_21 4 (dk_at dksL_law_36 11 rfl rfl)
theorem dL_law_1010 : decode cL_law 1010 = .ok (.iconst 1, 1) := dk_4 (dk_at dksL_law_36 13 rfl rfl)
theorem dL_law_1011 : decode cL_law 1011 = .ok (.iadd, 1) := dk_96 (dk_at dksL_law_36 14 rfl rfl)
theorem dL_law_1012 : decode cL_law 1012 = .ok (.iaload, 1) := dk_46 (dk_at dksL_law_36 15 rfl rfl)
theorem dL_law_1013 : decode cL_law 1013 = .ok (.aload_n 0, 1) := dk_42 (dk_at dksL_law_36 16 rfl rfl)
theorem dL_law_1014 : decode cL_law 1014 = .ok (.iload 4, 2) := dk_21 4 (dk_at dksL_law_36 17 rfl rfl)
theorem dL_law_1016 : decode cL_law 1016 = .ok (.iconst 2, 1) := dk_5 (dk_at dksL_law_36 19 rfl rfl)
theorem dL_law_1017 : decode cL_law 1017 = .ok (.iadd, 1) := dk_96 (dk_at dksL_law_36 20 rfl rfl)
theorem dL_law_1018 : decode cL_law 1018 = .ok (.iaload, 1) := dk_46 (dk_at dksL_law_36 21 rfl rfl)
theorem dL_law_1019 : decode cL_law 1019 = .ok (.aload_n 0, 1) := dk_42 (dk_at dksL_law_36 22 rfl rfl)
theorem dL_law_1020 : decode cL_law 1020 = .ok (.iload 4, 2) := dk_21 4 (dk_at dksL_law_37 0 rfl rfl)
theorem dL_law_1022 : decode cL_law 1022 = .ok (.iconst 3, 1) := dk_6 (dk_at dksL_law_37 2 rfl rfl)
theorem dL_law_1023 : decode cL_law 1023 = .ok (.iadd, 1) := dk_96 (dk_at dksL_law_37 3 rfl rfl)
theorem dL_law_1024 : decode cL_law 1024 = .ok (.iaload, 1) := dk_46 (dk_at dksL_law_37 4 rfl rfl)
theorem dL_law_1025 : decode cL_law 1025 = .ok (.invokevirtual 172, 3) := dk_182 0 172 (dk_at dksL_law_37 5 rfl rfl)
theorem dL_law_1028 : decode cL_law 1028 = .ok (.istore 6, 2) := dk_54 6 (dk_at dksL_law_37 8 rfl rfl)
theorem dL_law_1030 : decode cL_law 1030 = .ok (.aload_n 2, 1) := dk_44 (dk_at dksL_law_37 10 rfl rfl)
theorem dL_law_1031 : decode cL_law 1031 = .ok (.invokevirtual 102, 3) := dk_182 0 102 (dk_at dksL_law_37 11 rfl rfl)
theorem dL_law_1034 : decode cL_law 1034 = .ok (.iload 5, 2) := dk_21 5 (dk_at dksL_law_37 14 rfl rfl)
theorem dL_law_1036 : decode cL_law 1036 = .ok (.if_icmp .eq 5, 3) := dk_159 0 5 (dk_at dksL_law_37 16 rfl rfl)
theorem dL_law_1039 : decode cL_law 1039 = .ok (.iconst 0, 1) := dk_3 (dk_at dksL_law_37 19 rfl rfl)
theorem dL_law_1040 : decode cL_law 1040 = .ok (.ireturn, 1) := dk_172 (dk_at dksL_law_37 20 rfl rfl)
theorem dL_law_1041 : decode cL_law 1041 = .ok (.iload 5, 2) := dk_21 5 (dk_at dksL_law_37 21 rfl rfl)
theorem dL_law_1043 : decode cL_law 1043 = .ok (.ifCond .ne 15, 3) := dk_154 0 15 (dk_at dksL_law_38 0 rfl rfl)
theorem dL_law_1046 : decode cL_law 1046 = .ok (.aload_n 3, 1) := dk_45 (dk_at dksL_law_38 3 rfl rfl)
theorem dL_law_1047 : decode cL_law 1047 = .ok (.iconst 0, 1) := dk_3 (dk_at dksL_law_38 4 rfl rfl)
theorem dL_law_1048 : decode cL_law 1048 = .ok (.laload, 1) := dk_47 (dk_at dksL_law_38 5 rfl rfl)
theorem dL_law_1049 : decode cL_law 1049 = .ok (.iload 6, 2) := dk_21 6 (dk_at dksL_law_38 6 rfl rfl)
theorem dL_law_1051 : decode cL_law 1051 = .ok (.i2l, 1) := dk_133 (dk_at dksL_law_38 8 rfl rfl)
theorem dL_law_1052 : decode cL_law 1052 = .ok (.lcmp, 1) := dk_148 (dk_at dksL_law_38 9 rfl rfl)
theorem dL_law_1053 : decode cL_law 1053 = .ok (.ifCond .eq 5, 3) := dk_153 0 5 (dk_at dksL_law_38 10 rfl rfl)
theorem dL_law_1056 : decode cL_law 1056 = .ok (.iconst 0, 1) := dk_3 (dk_at dksL_law_38 13 rfl rfl)
theorem dL_law_1057 : decode cL_law 1057 = .ok (.ireturn, 1) := dk_172 (dk_at dksL_law_38 14 rfl rfl)
theorem dL_law_1058 : decode cL_law 1058 = .ok (.goto 1032, 3) := dk_167 4 8 (dk_at dksL_law_38 15 rfl rfl)
theorem dL_law_1061 : decode cL_law 1061 = .ok (.aload_n 1, 1) := dk_43 (dk_at dksL_law_38 18 rfl rfl)
theorem dL_law_1062 : decode cL_law 1062 = .ok (.aload_n 0, 1) := dk_42 (dk_at dksL_law_38 19 rfl rfl)
theorem dL_law_1063 : decode cL_law 1063 = .ok (.iload 4, 2) := dk_21 4 (dk_at dksL_law_38 20 rfl rfl)
theorem dL_law_1065 : decode cL_law 1065 = .ok (.iconst 1, 1) := dk_4 (dk_at dksL_law_38 22 rfl rfl)
theorem dL_law_1066 : decode cL_law 1066 = .ok (.iadd, 1) := dk_96 (dk_at dksL_law_38 23 rfl rfl)
theorem dL_law_1067 : decode cL_law 1067 = .ok (.iaload, 1) := dk_46 (dk_at dksL_law_39 0 rfl rfl)
theorem dL_law_1068 : decode cL_law 1068 = .ok (.aload_n 0, 1) := dk_42 (dk_at dksL_law_39 1 rfl rfl)
theorem dL_law_1069 : decode cL_law 1069 = .ok (.iload 4, 2) := dk_21 4 (dk_at dksL_law_39 2 rfl rfl)
theorem dL_law_1071 : decode cL_law 1071 = .ok (.iconst 2, 1) := dk_5 (dk_at dksL_law_39 4 rfl rfl)
theorem dL_law_1072 : decode cL_law 1072 = .ok (.iadd, 1) := dk_96 (dk_at dksL_law_39 5 rfl rfl)
theorem dL_law_1073 : decode cL_law 1073 = .ok (.iaload, 1) := dk_46 (dk_at dksL_law_39 6 rfl rfl)
theorem dL_law_1074 : decode cL_law 1074 = .ok (.aload_n 0, 1) := dk_42 (dk_at dksL_law_39 7 rfl rfl)
theorem dL_law_1075 : decode cL_law 1075 = .ok (.iload 4, 2) := dk_21 4 (dk_at dksL_law_39 8 rfl rfl)
theorem dL_law_1077 : decode cL_law 1077 = .ok (.iconst 3, 1) := dk_6 (dk_at dksL_law_39 10 rfl rfl)
theorem dL_law_1078 : decode cL_law 1078 = .ok (.iadd, 1) := dk_96 (dk_at dksL_law_39 11 rfl rfl)
theorem dL_law_1079 : decode cL_law 1079 = .ok (.iaload, 1) := dk_46 (dk_at dksL_law_39 12 rfl rfl)
theorem dL_law_1080 : decode cL_law 1080 = .ok (.aload_n 3, 1) := dk_45 (dk_at dksL_law_39 13 rfl rfl)
theorem dL_law_1081 : decode cL_law 1081 = .ok (.invokestatic 173, 3) := dk_184 0 173 (dk_at dksL_law_39 14 rfl rfl)
theorem dL_law_1084 : decode cL_law 1084 = .ok (.istore 5, 2) := dk_54 5 (dk_at dksL_law_39 17 rfl rfl)
theorem dL_law_1086 : decode cL_law 1086 = .ok (.aload_n 2, 1) := dk_44 (dk_at dksL_law_39 19 rfl rfl)
theorem dL_law_1087 : decode cL_law 1087 = .ok (.aload_n 0, 1) := dk_42 (dk_at dksL_law_39 20 rfl rfl)
theorem dL_law_1088 : decode cL_law 1088 = .ok (.iload 4, 2) := dk_21 4 (dk_at dksL_law_39 21 rfl rfl)
theorem dL_law_1090 : decode cL_law 1090 = .ok (.iconst 1, 1) := dk_4 (dk_at dksL_law_39 23 rfl rfl)
theorem dL_law_1091 : decode cL_law 1091 = .ok (.iadd, 1) := dk_96 (dk_at dksL_law_40 0 rfl rfl)
theorem dL_law_1092 : decode cL_law 1092 = .ok (.iaload, 1) := dk_46 (dk_at dksL_law_40 1 rfl rfl)
theorem dL_law_1093 : decode cL_law 1093 = .ok (.aload_n 0, 1) := dk_42 (dk_at dksL_law_40 2 rfl rfl)
theorem dL_law_1094 : decode cL_law 1094 = .ok (.iload 4, 2) := dk_21 4 (dk_at dksL_law_40 3 rfl rfl)
theorem dL_law_1096 : decode cL_law 1096 = .ok (.iconst 2, 1) := dk_5 (dk_at dksL_law_40 5 rfl rfl)
theorem dL_law_1097 : decode cL_law 1097 = .ok (.iadd, 1) := dk_96 (dk_at dksL_law_40 6 rfl rfl)
theorem dL_law_1098 : decode cL_law 1098 = .ok (.iaload, 1) := dk_46 (dk_at dksL_law_40 7 rfl rfl)
theorem dL_law_1099 : decode cL_law 1099 = .ok (.aload_n 0, 1) := dk_42 (dk_at dksL_law_40 8 rfl rfl)
theorem dL_law_1100 : decode cL_law 1100 = .ok (.iload 4, 2) := dk_21 4 (dk_at dksL_law_40 9 rfl rfl)
theorem dL_law_1102 : decode cL_law 1102 = .ok (.iconst 3, 1) := dk_6 (dk_at dksL_law_40 11 rfl rfl)
theorem dL_law_1103 : decode cL_law 1103 = .ok (.iadd, 1) := dk_96 (dk_at dksL_law_40 12 rfl rfl)
theorem dL_law_1104 : decode cL_law 1104 = .ok (.iaload, 1) := dk_46 (dk_at dksL_law_40 13 rfl rfl)
theorem dL_law_1105 : decode cL_law 1105 = .ok (.invokevirtual 175, 3) := dk_182 0 175 (dk_at dksL_law_40 14 rfl rfl)
theorem dL_law_1108 : decode cL_law 1108 = .ok (.istore 6, 2) := dk_54 6 (dk_at dksL_law_40 17 rfl rfl)
theorem dL_law_1110 : decode cL_law 1110 = .ok (.aload_n 2, 1) := dk_44 (dk_at dksL_law_40 19 rfl rfl)
theorem dL_law_1111 : decode cL_law 1111 = .ok (.invokevirtual 102, 3) := dk_182 0 102 (dk_at dksL_law_40 20 rfl rfl)
theorem dL_law_1114 : decode cL_law 1114 = .ok (.iload 5, 2) := dk_21 5 (dk_at dksL_law_41 0 rfl rfl)
theorem dL_law_1116 : decode cL_law 1116 = .ok (.if_icmp .eq 5, 3) := dk_159 0 5 (dk_at dksL_law_41 2 rfl rfl)
theorem dL_law_1119 : decode cL_law 1119 = .ok (.iconst 0, 1) := dk_3 (dk_at dksL_law_41 5 rfl rfl)
theorem dL_law_1120 : decode cL_law 1120 = .ok (.ireturn, 1) := dk_172 (dk_at dksL_law_41 6 rfl rfl)
theorem dL_law_1121 : decode cL_law 1121 = .ok (.iload 5, 2) := dk_21 5 (dk_at dksL_law_41 7 rfl rfl)
theorem dL_law_1123 : decode cL_law 1123 = .ok (.ifCond .ne 15, 3) := dk_154 0 15 (dk_at dksL_law_41 9 rfl rfl)
theorem dL_law_1126 : decode cL_law 1126 = .ok (.aload_n 3, 1) := dk_45 (dk_at dksL_law_41 12 rfl rfl)
theorem dL_law_1127 : decode cL_law 1127 = .ok (.iconst 0, 1) := dk_3 (dk_at dksL_law_41 13 rfl rfl)
theorem dL_law_1128 : decode cL_law 1128 = .ok (.laload, 1) := dk_47 (dk_at dksL_law_41 14 rfl rfl)
theorem dL_law_1129 : decode cL_law 1129 = .ok (.iload 6, 2) := dk_21 6 (dk_at dksL_law_41 15 rfl rfl)
theorem dL_law_1131 : decode cL_law 1131 = .ok (.i2l, 1) := dk_133 (dk_at dksL_law_41 17 rfl rfl)
theorem dL_law_1132 : decode cL_law 1132 = .ok (.lcmp, 1) := dk_148 (dk_at dksL_law_41 18 rfl rfl)
theorem dL_law_1133 : decode cL_law 1133 = .ok (.ifCond .eq 5, 3) := dk_153 0 5 (dk_at dksL_law_41 19 rfl rfl)
theorem dL_law_1136 : decode cL_law 1136 = .ok (.iconst 0, 1) := dk_3 (dk_at dksL_law_41 22 rfl rfl)
theorem dL_law_1137 : decode cL_law 1137 = .ok (.ireturn, 1) := dk_172 (dk_at dksL_law_41 23 rfl rfl)
theorem dL_law_1138 : decode cL_law 1138 = .ok (.goto 952, 3) := dk_167 3 184 (dk_at dksL_law_42 0 rfl rfl)
theorem dL_law_1141 : decode cL_law 1141 = .ok (.aload_n 1, 1) := dk_43 (dk_at dksL_law_42 3 rfl rfl)
theorem dL_law_1142 : decode cL_law 1142 = .ok (.invokevirtual 176, 3) := dk_182 0 176 (dk_at dksL_law_42 4 rfl rfl)
theorem dL_law_1145 : decode cL_law 1145 = .ok (.aload_n 2, 1) := dk_44 (dk_at dksL_law_42 7 rfl rfl)
theorem dL_law_1146 : decode cL_law 1146 = .ok (.invokevirtual 179, 3) := dk_182 0 179 (dk_at dksL_law_42 8 rfl rfl)
theorem dL_law_1149 : decode cL_law 1149 = .ok (.goto 941, 3) := dk_167 3 173 (dk_at dksL_law_42 11 rfl rfl)
theorem dL_law_1152 : decode cL_law 1152 = .ok (.aload_n 1, 1) := dk_43 (dk_at dksL_law_42 14 rfl rfl)
theorem dL_law_1153 : decode cL_law 1153 = .ok (.invokevirtual 180, 3) := dk_182 0 180 (dk_at dksL_law_42 15 rfl rfl)
theorem dL_law_1156 : decode cL_law 1156 = .ok (.aload_n 2, 1) := dk_44 (dk_at dksL_law_42 18 rfl rfl)
theorem dL_law_1157 : decode cL_law 1157 = .ok (.invokevirtual 183, 3) := dk_182 0 183 (dk_at dksL_law_42 19 rfl rfl)
theorem dL_law_1160 : decode cL_law 1160 = .ok (.goto 930, 3) := dk_167 3 162 (dk_at dksL_law_43 0 rfl rfl)
theorem dL_law_1163 : decode cL_law 1163 = .ok (.aload_n 1, 1) := dk_43 (dk_at dksL_law_43 3 rfl rfl)
theorem dL_law_1164 : decode cL_law 1164 = .ok (.aload_n 0, 1) := dk_42 (dk_at dksL_law_43 4 rfl rfl)
theorem dL_law_1165 : decode cL_law 1165 = .ok (.iload 4, 2) := dk_21 4 (dk_at dksL_law_43 5 rfl rfl)
theorem dL_law_1167 : decode cL_law 1167 = .ok (.iconst 1, 1) := dk_4 (dk_at dksL_law_43 7 rfl rfl)
theorem dL_law_1168 : decode cL_law 1168 = .ok (.iadd, 1) := dk_96 (dk_at dksL_law_43 8 rfl rfl)
theorem dL_law_1169 : decode cL_law 1169 = .ok (.iaload, 1) := dk_46 (dk_at dksL_law_43 9 rfl rfl)
theorem dL_law_1170 : decode cL_law 1170 = .ok (.aload_n 0, 1) := dk_42 (dk_at dksL_law_43 10 rfl rfl)
theorem dL_law_1171 : decode cL_law 1171 = .ok (.iload 4, 2) := dk_21 4 (dk_at dksL_law_43 11 rfl rfl)
theorem dL_law_1173 : decode cL_law 1173 = .ok (.iconst 2, 1) := dk_5 (dk_at dksL_law_43 13 rfl rfl)
theorem dL_law_1174 : decode cL_law 1174 = .ok (.iadd, 1) := dk_96 (dk_at dksL_law_43 14 rfl rfl)
theorem dL_law_1175 : decode cL_law 1175 = .ok (.iaload, 1) := dk_46 (dk_at dksL_law_43 15 rfl rfl)
theorem dL_law_1176 : decode cL_law 1176 = .ok (.invokestatic 184, 3) := dk_184 0 184 (dk_at dksL_law_43 16 rfl rfl)
theorem dL_law_1179 : decode cL_law 1179 = .ok (.istore 5, 2) := dk_54 5 (dk_at dksL_law_43 19 rfl rfl)
theorem dL_law_1181 : decode cL_law 1181 = .ok (.aload_n 2, 1) := dk_44 (dk_at dksL_law_43 21 rfl rfl)
theorem dL_law_1182 : decode cL_law 1182 = .ok (.aload_n 0, 1) := dk_42 (dk_at dksL_law_43 22 rfl rfl)
theorem dL_law_1183 : decode cL_law 1183 = .ok (.iload 4, 2) := dk_21 4 (dk_at dksL_law_44 0 rfl rfl)
theorem dL_law_1185 : decode cL_law 1185 = .ok (.iconst 1, 1) := dk_4 (dk_at dksL_law_44 2 rfl rfl)
theorem dL_law_1186 : decode cL_law 1186 = .ok (.iadd, 1) := dk_96 (dk_at dksL_law_44 3 rfl rfl)
theorem dL_law_1187 : decode cL_law 1187 = .ok (.iaload, 1) := dk_46 (dk_at dksL_law_44 4 rfl rfl)
theorem dL_law_1188 : decode cL_law 1188 = .ok (.aload_n 0, 1) := dk_42 (dk_at dksL_law_44 5 rfl rfl)
theorem dL_law_1189 : decode cL_law 1189 = .ok (.iload 4, 2) := dk_21 4 (dk_at dksL_law_44 6 rfl rfl)
theorem dL_law_1191 : decode cL_law 1191 = .ok (.iconst 2, 1) := dk_5 (dk_at dksL_law_44 8 rfl rfl)
theorem dL_law_1192 : decode cL_law 1192 = .ok (.iadd, 1) := dk_96 (dk_at dksL_law_44 9 rfl rfl)
theorem dL_law_1193 : decode cL_law 1193 = .ok (.iaload, 1) := dk_46 (dk_at dksL_law_44 10 rfl rfl)
theorem dL_law_1194 : decode cL_law 1194 = .ok (.invokevirtual 187, 3) := dk_182 0 187 (dk_at dksL_law_44 11 rfl rfl)
theorem dL_law_1197 : decode cL_law 1197 = .ok (.aload_n 2, 1) := dk_44 (dk_at dksL_law_44 14 rfl rfl)
theorem dL_law_1198 : decode cL_law 1198 = .ok (.invokevirtual 102, 3) := dk_182 0 102 (dk_at dksL_law_44 15 rfl rfl)
theorem dL_law_1201 : decode cL_law 1201 = .ok (.iload 5, 2) := dk_21 5 (dk_at dksL_law_44 18 rfl rfl)
theorem dL_law_1203 : decode cL_law 1203 = .ok (.if_icmp .eq 5, 3) := dk_159 0 5 (dk_at dksL_law_44 20 rfl rfl)
theorem dL_law_1206 : decode cL_law 1206 = .ok (.iconst 0, 1) := dk_3 (dk_at dksL_law_44 23 rfl rfl)
theorem dL_law_1207 : decode cL_law 1207 = .ok (.ireturn, 1) := dk_172 (dk_at dksL_law_45 0 rfl rfl)
theorem dL_law_1208 : decode cL_law 1208 = .ok (.goto 882, 3) := dk_167 3 114 (dk_at dksL_law_45 1 rfl rfl)
theorem dL_law_1211 : decode cL_law 1211 = .ok (.aload_n 1, 1) := dk_43 (dk_at dksL_law_45 4 rfl rfl)
theorem dL_law_1212 : decode cL_law 1212 = .ok (.aload_n 0, 1) := dk_42 (dk_at dksL_law_45 5 rfl rfl)
theorem dL_law_1213 : decode cL_law 1213 = .ok (.iload 4, 2) := dk_21 4 (dk_at dksL_law_45 6 rfl rfl)
theorem dL_law_1215 : decode cL_law 1215 = .ok (.iconst 1, 1) := dk_4 (dk_at dksL_law_45 8 rfl rfl)
theorem dL_law_1216 : decode cL_law 1216 = .ok (.iadd, 1) := dk_96 (dk_at dksL_law_45 9 rfl rfl)
theorem dL_law_1217 : decode cL_law 1217 = .ok (.iaload, 1) := dk_46 (dk_at dksL_law_45 10 rfl rfl)
theorem dL_law_1218 : decode cL_law 1218 = .ok (.aload_n 3, 1) := dk_45 (dk_at dksL_law_45 11 rfl rfl)
theorem dL_law_1219 : decode cL_law 1219 = .ok (.invokestatic 188, 3) := dk_184 0 188 (dk_at dksL_law_45 12 rfl rfl)
theorem dL_law_1222 : decode cL_law 1222 = .ok (.istore 5, 2) := dk_54 5 (dk_at dksL_law_45 15 rfl rfl)
theorem dL_law_1224 : decode cL_law 1224 = .ok (.aload_n 2, 1) := dk_44 (dk_at dksL_law_45 17 rfl rfl)
theorem dL_law_1225 : decode cL_law 1225 = .ok (.aload_n 0, 1) := dk_42 (dk_at dksL_law_45 18 rfl rfl)
theorem dL_law_1226 : decode cL_law 1226 = .ok (.iload 4, 2) := dk_21 4 (dk_at dksL_law_45 19 rfl rfl)
theorem dL_law_1228 : decode cL_law 1228 = .ok (.iconst 1, 1) := dk_4 (dk_at dksL_law_45 21 rfl rfl)
theorem dL_law_1229 : decode cL_law 1229 = .ok (.iadd, 1) := dk_96 (dk_at dksL_law_45 22 rfl rfl)
theorem dL_law_1230 : decode cL_law 1230 = .ok (.iaload, 1) := dk_46 (dk_at dksL_law_45 23 rfl rfl)
theorem dL_law_1231 : decode cL_law 1231 = .ok (.invokevirtual 190, 3) := dk_182 0 190 (dk_at dksL_law_46 0 rfl rfl)
theorem dL_law_1234 : decode cL_law 1234 = .ok (.istore 6, 2) := dk_54 6 (dk_at dksL_law_46 3 rfl rfl)
theorem dL_law_1236 : decode cL_law 1236 = .ok (.aload_n 2, 1) := dk_44 (dk_at dksL_law_46 5 rfl rfl)
theorem dL_law_1237 : decode cL_law 1237 = .ok (.invokevirtual 102, 3) := dk_182 0 102 (dk_at dksL_law_46 6 rfl rfl)
theorem dL_law_1240 : decode cL_law 1240 = .ok (.iload 5, 2) := dk_21 5 (dk_at dksL_law_46 9 rfl rfl)
theorem dL_law_1242 : decode cL_law 1242 = .ok (.if_icmp .eq 5, 3) := dk_159 0 5 (dk_at dksL_law_46 11 rfl rfl)
theorem dL_law_1245 : decode cL_law 1245 = .ok (.iconst 0, 1) := dk_3 (dk_at dksL_law_46 14 rfl rfl)
theorem dL_law_1246 : decode cL_law 1246 = .ok (.ireturn, 1) := dk_172 (dk_at dksL_law_46 15 rfl rfl)
theorem dL_law_1247 : decode cL_law 1247 = .ok (.iload 5, 2) := dk_21 5 (dk_at dksL_law_46 16 rfl rfl)
theorem dL_law_1249 : decode cL_law 1249 = .ok (.ifCond .ne 15, 3) := dk_154 0 15 (dk_at dksL_law_46 18 rfl rfl)
theorem dL_law_1252 : decode cL_law 1252 = .ok (.aload_n 3, 1) := dk_45 (dk_at dksL_law_46 21 rfl rfl)
theorem dL_law_1253 : decode cL_law 1253 = .ok (.iconst 0, 1) := dk_3 (dk_at dksL_law_46 22 rfl rfl)
theorem dL_law_1254 : decode cL_law 1254 = .ok (.laload, 1) := dk_47 (dk_at dksL_law_46 23 rfl rfl)
theorem dL_law_1255 : decode cL_law 1255 = .ok (.iload 6, 2) := dk_21 6 (dk_at dksL_law_47 0 rfl rfl)
theorem dL_law_1257 : decode cL_law 1257 = .ok (.i2l, 1) := dk_133 (dk_at dksL_law_47 2 rfl rfl)
theorem dL_law_1258 : decode cL_law 1258 = .ok (.lcmp, 1) := dk_148 (dk_at dksL_law_47 3 rfl rfl)
theorem dL_law_1259 : decode cL_law 1259 = .ok (.ifCond .eq 5, 3) := dk_153 0 5 (dk_at dksL_law_47 4 rfl rfl)
theorem dL_law_1262 : decode cL_law 1262 = .ok (.iconst 0, 1) := dk_3 (dk_at dksL_law_47 7 rfl rfl)
theorem dL_law_1263 : decode cL_law 1263 = .ok (.ireturn, 1) := dk_172 (dk_at dksL_law_47 8 rfl rfl)
theorem dL_law_1264 : decode cL_law 1264 = .ok (.goto 826, 3) := dk_167 3 58 (dk_at dksL_law_47 9 rfl rfl)
theorem dL_law_1267 : decode cL_law 1267 = .ok (.aload_n 1, 1) := dk_43 (dk_at dksL_law_47 12 rfl rfl)
theorem dL_law_1268 : decode cL_law 1268 = .ok (.aload_n 0, 1) := dk_42 (dk_at dksL_law_47 13 rfl rfl)
theorem dL_law_1269 : decode cL_law 1269 = .ok (.iload 4, 2) := dk_21 4 (dk_at dksL_law_47 14 rfl rfl)
theorem dL_law_1271 : decode cL_law 1271 = .ok (.iconst 1, 1) := dk_4 (dk_at dksL_law_47 16 rfl rfl)
theorem dL_law_1272 : decode cL_law 1272 = .ok (.iadd, 1) := dk_96 (dk_at dksL_law_47 17 rfl rfl)
theorem dL_law_1273 : decode cL_law 1273 = .ok (.iaload, 1) := dk_46 (dk_at dksL_law_47 18 rfl rfl)
theorem dL_law_1274 : decode cL_law 1274 = .ok (.aload_n 0, 1) := dk_42 (dk_at dksL_law_47 19 rfl rfl)
theorem dL_law_1275 : decode cL_law 1275 = .ok (.iload 4, 2) := dk_21 4 (dk_at dksL_law_47 20 rfl rfl)
theorem dL_law_1277 : decode cL_law 1277 = .ok (.iconst 2, 1) := dk_5 (dk_at dksL_law_47 22 rfl rfl)
theorem dL_law_1278 : decode cL_law 1278 = .ok (.iadd, 1) := dk_96 (dk_at dksL_law_47 23 rfl rfl)
theorem dL_law_1279 : decode cL_law 1279 = .ok (.iaload, 1) := dk_46 (dk_at dksL_law_48 0 rfl rfl)
theorem dL_law_1280 : decode cL_law 1280 = .ok (.aload_n 0, 1) := dk_42 (dk_at dksL_law_48 1 rfl rfl)
theorem dL_law_1281 : decode cL_law 1281 = .ok (.iload 4, 2) := dk_21 4 (dk_at dksL_law_48 2 rfl rfl)
theorem dL_law_1283 : decode cL_law 1283 = .ok (.iconst 3, 1) := dk_6 (dk_at dksL_law_48 4 rfl rfl)
theorem dL_law_1284 : decode cL_law 1284 = .ok (.iadd, 1) := dk_96 (dk_at dksL_law_48 5 rfl rfl)
theorem dL_law_1285 : decode cL_law 1285 = .ok (.iaload, 1) := dk_46 (dk_at dksL_law_48 6 rfl rfl)
theorem dL_law_1286 : decode cL_law 1286 = .ok (.aload_n 0, 1) := dk_42 (dk_at dksL_law_48 7 rfl rfl)
theorem dL_law_1287 : decode cL_law 1287 = .ok (.iload 4, 2) := dk_21 4 (dk_at dksL_law_48 8 rfl rfl)
theorem dL_law_1289 : decode cL_law 1289 = .ok (.iconst 4, 1) := dk_7 (dk_at dksL_law_48 10 rfl rfl)
theorem dL_law_1290 : decode cL_law 1290 = .ok (.iadd, 1) := dk_96 (dk_at dksL_law_48 11 rfl rfl)
theorem dL_law_1291 : decode cL_law 1291 = .ok (.iaload, 1) := dk_46 (dk_at dksL_law_48 12 rfl rfl)
theorem dL_law_1292 : decode cL_law 1292 = .ok (.aload_n 3, 1) := dk_45 (dk_at dksL_law_48 13 rfl rfl)
theorem dL_law_1293 : decode cL_law 1293 = .ok (.invokestatic 191, 3) := dk_184 0 191 (dk_at dksL_law_48 14 rfl rfl)
theorem dL_law_1296 : decode cL_law 1296 = .ok (.istore 5, 2) := dk_54 5 (dk_at dksL_law_48 17 rfl rfl)
theorem dL_law_1298 : decode cL_law 1298 = .ok (.aload_n 2, 1) := dk_44 (dk_at dksL_law_48 19 rfl rfl)
theorem dL_law_1299 : decode cL_law 1299 = .ok (.aload_n 0, 1) := dk_42 (dk_at dksL_law_48 20 rfl rfl)
theorem dL_law_1300 : decode cL_law 1300 = .ok (.iload 4, 2) := dk_21 4 (dk_at dksL_law_48 21 rfl rfl)
theorem dL_law_1302 : decode cL_law 1302 = .ok (.iconst 1, 1) := dk_4 (dk_at dksL_law_48 23 rfl rfl)
theorem dL_law_1303 : decode cL_law 1303 = .ok (.iadd, 1) := dk_96 (dk_at dksL_law_49 0 rfl rfl)
theorem dL_law_1304 : decode cL_law 1304 = .ok (.iaload, 1) := dk_46 (dk_at dksL_law_49 1 rfl rfl)
theorem dL_law_1305 : decode cL_law 1305 = .ok (.aload_n 0, 1) := dk_42 (dk_at dksL_law_49 2 rfl rfl)
theorem dL_law_1306 : decode cL_law 1306 = .ok (.iload 4, 2) := dk_21 4 (dk_at dksL_law_49 3 rfl rfl)
theorem dL_law_1308 : decode cL_law 1308 = .ok (.iconst 2, 1) := dk_5 (dk_at dksL_law_49 5 rfl rfl)
theorem dL_law_1309 : decode cL_law 1309 = .ok (.iadd, 1) := dk_96 (dk_at dksL_law_49 6 rfl rfl)
theorem dL_law_1310 : decode cL_law 1310 = .ok (.iaload, 1) := dk_46 (dk_at dksL_law_49 7 rfl rfl)
theorem dL_law_1311 : decode cL_law 1311 = .ok (.aload_n 0, 1) := dk_42 (dk_at dksL_law_49 8 rfl rfl)
theorem dL_law_1312 : decode cL_law 1312 = .ok (.iload 4, 2) := dk_21 4 (dk_at dksL_law_49 9 rfl rfl)
theorem dL_law_1314 : decode cL_law 1314 = .ok (.iconst 3, 1) := dk_6 (dk_at dksL_law_49 11 rfl rfl)
theorem dL_law_1315 : decode cL_law 1315 = .ok (.iadd, 1) := dk_96 (dk_at dksL_law_49 12 rfl rfl)
theorem dL_law_1316 : decode cL_law 1316 = .ok (.iaload, 1) := dk_46 (dk_at dksL_law_49 13 rfl rfl)
theorem dL_law_1317 : decode cL_law 1317 = .ok (.aload_n 0, 1) := dk_42 (dk_at dksL_law_49 14 rfl rfl)
theorem dL_law_1318 : decode cL_law 1318 = .ok (.iload 4, 2) := dk_21 4 (dk_at dksL_law_49 15 rfl rfl)
theorem dL_law_1320 : decode cL_law 1320 = .ok (.iconst 4, 1) := dk_7 (dk_at dksL_law_49 17 rfl rfl)
theorem dL_law_1321 : decode cL_law 1321 = .ok (.iadd, 1) := dk_96 (dk_at dksL_law_49 18 rfl rfl)
theorem dL_law_1322 : decode cL_law 1322 = .ok (.iaload, 1) := dk_46 (dk_at dksL_law_49 19 rfl rfl)
theorem dL_law_1323 : decode cL_law 1323 = .ok (.invokevirtual 194, 3) := dk_182 0 194 (dk_at dksL_law_49 20 rfl rfl)
theorem dL_law_1326 : decode cL_law 1326 = .ok (.istore 6, 2) := dk_54 6 (dk_at dksL_law_50 0 rfl rfl)
theorem dL_law_1328 : decode cL_law 1328 = .ok (.aload_n 2, 1) := dk_44 (dk_at dksL_law_50 2 rfl rfl)
theorem dL_law_1329 : decode cL_law 1329 = .ok (.invokevirtual 102, 3) := dk_182 0 102 (dk_at dksL_law_50 3 rfl rfl)
theorem dL_law_1332 : decode cL_law 1332 = .ok (.iload 5, 2) := dk_21 5 (dk_at dksL_law_50 6 rfl rfl)
theorem dL_law_1334 : decode cL_law 1334 = .ok (.if_icmp .eq 5, 3) := dk_159 0 5 (dk_at dksL_law_50 8 rfl rfl)
theorem dL_law_1337 : decode cL_law 1337 = .ok (.iconst 0, 1) := dk_3 (dk_at dksL_law_50 11 rfl rfl)
theorem dL_law_1338 : decode cL_law 1338 = .ok (.ireturn, 1) := dk_172 (dk_at dksL_law_50 12 rfl rfl)
theorem dL_law_1339 : decode cL_law 1339 = .ok (.iload 5, 2) := dk_21 5 (dk_at dksL_law_50 13 rfl rfl)
theorem dL_law_1341 : decode cL_law 1341 = .ok (.ifCond .ne 15, 3) := dk_154 0 15 (dk_at dksL_law_50 15 rfl rfl)
theorem dL_law_1344 : decode cL_law 1344 = .ok (.aload_n 3, 1) := dk_45 (dk_at dksL_law_50 18 rfl rfl)
theorem dL_law_1345 : decode cL_law 1345 = .ok (.iconst 0, 1) := dk_3 (dk_at dksL_law_50 19 rfl rfl)
theorem dL_law_1346 : decode cL_law 1346 = .ok (.laload, 1) := dk_47 (dk_at dksL_law_50 20 rfl rfl)
theorem dL_law_1347 : decode cL_law 1347 = .ok (.iload 6, 2) := dk_21 6 (dk_at dksL_law_50 21 rfl rfl)
theorem dL_law_1349 : decode cL_law 1349 = .ok (.i2l, 1) := dk_133 (dk_at dksL_law_50 23 rfl rfl)
theorem dL_law_1350 : decode cL_law 1350 = .ok (.lcmp, 1) := dk_148 (dk_at dksL_law_51 0 rfl rfl)
theorem dL_law_1351 : decode cL_law 1351 = .ok (.ifCond .eq 5, 3) := dk_153 0 5 (dk_at dksL_law_51 1 rfl rfl)
theorem dL_law_1354 : decode cL_law 1354 = .ok (.iconst 0, 1) := dk_3 (dk_at dksL_law_51 4 rfl rfl)
theorem dL_law_1355 : decode cL_law 1355 = .ok (.ireturn, 1) := dk_172 (dk_at dksL_law_51 5 rfl rfl)
theorem dL_law_1356 : decode cL_law 1356 = .ok (.goto 734, 3) := dk_167 2 222 (dk_at dksL_law_51 6 rfl rfl)
theorem dL_law_1359 : decode cL_law 1359 = .ok (.aload_n 1, 1) := dk_43 (dk_at dksL_law_51 9 rfl rfl)
theorem dL_law_1360 : decode cL_law 1360 = .ok (.aload_n 0, 1) := dk_42 (dk_at dksL_law_51 10 rfl rfl)
theorem dL_law_1361 : decode cL_law 1361 = .ok (.iload 4, 2) := dk_21 4 (dk_at dksL_law_51 11 rfl rfl)
theorem dL_law_1363 : decode cL_law 1363 = .ok (.iconst 1, 1) := dk_4 (dk_at dksL_law_51 13 rfl rfl)
theorem dL_law_1364 : decode cL_law 1364 = .ok (.iadd, 1) := dk_96 (dk_at dksL_law_51 14 rfl rfl)
theorem dL_law_1365 : decode cL_law 1365 = .ok (.iaload, 1) := dk_46 (dk_at dksL_law_51 15 rfl rfl)
theorem dL_law_1366 : decode cL_law 1366 = .ok (.aload_n 3, 1) := dk_45 (dk_at dksL_law_51 16 rfl rfl)
theorem dL_law_1367 : decode cL_law 1367 = .ok (.invokestatic 195, 3) := dk_184 0 195 (dk_at dksL_law_51 17 rfl rfl)
theorem dL_law_1370 : decode cL_law 1370 = .ok (.istore 5, 2) := dk_54 5 (dk_at dksL_law_51 20 rfl rfl)
theorem dL_law_1372 : decode cL_law 1372 = .ok (.aload_n 2, 1) := dk_44 (dk_at dksL_law_51 22 rfl rfl)
theorem dL_law_1373 : decode cL_law 1373 = .ok (.aload_n 0, 1) := dk_42 (dk_at dksL_law_51 23 rfl rfl)
theorem dL_law_1374 : decode cL_law 1374 = .ok (.iload 4, 2) := dk_21 4 (dk_at dksL_law_52 0 rfl rfl)
theorem dL_law_1376 : decode cL_law 1376 = .ok (.iconst 1, 1) := dk_4 (dk_at dksL_law_52 2 rfl rfl)
theorem dL_law_1377 : decode cL_law 1377 = .ok (.iadd, 1) := dk_96 (dk_at dksL_law_52 3 rfl rfl)
theorem dL_law_1378 : decode cL_law 1378 = .ok (.iaload, 1) := dk_46 (dk_at dksL_law_52 4 rfl rfl)
theorem dL_law_1379 : decode cL_law 1379 = .ok (.invokevirtual 197, 3) := dk_182 0 197 (dk_at dksL_law_52 5 rfl rfl)
theorem dL_law_1382 : decode cL_law 1382 = .ok (.istore 6, 2) := dk_54 6 (dk_at dksL_law_52 8 rfl rfl)
theorem dL_law_1384 : decode cL_law 1384 = .ok (.aload_n 2, 1) := dk_44 (dk_at dksL_law_52 10 rfl rfl)
theorem dL_law_1385 : decode cL_law 1385 = .ok (.invokevirtual 102, 3) := dk_182 0 102 (dk_at dksL_law_52 11 rfl rfl)
theorem dL_law_1388 : decode cL_law 1388 = .ok (.iload 5, 2) := dk_21 5 (dk_at dksL_law_52 14 rfl rfl)
theorem dL_law_1390 : decode cL_law 1390 = .ok (.if_icmp .eq 5, 3) := dk_159 0 5 (dk_at dksL_law_52 16 rfl rfl)
theorem dL_law_1393 : decode cL_law 1393 = .ok (.iconst 0, 1) := dk_3 (dk_at dksL_law_52 19 rfl rfl)
theorem dL_law_1394 : decode cL_law 1394 = .ok (.ireturn, 1) := dk_172 (dk_at dksL_law_52 20 rfl rfl)
theorem dL_law_1395 : decode cL_law 1395 = .ok (.iload 5, 2) := dk_21 5 (dk_at dksL_law_52 21 rfl rfl)
theorem dL_law_1397 : decode cL_law 1397 = .ok (.ifCond .ne 15, 3) := dk_154 0 15 (dk_at dksL_law_53 0 rfl rfl)
theorem dL_law_1400 : decode cL_law 1400 = .ok (.aload_n 3, 1) := dk_45 (dk_at dksL_law_53 3 rfl rfl)
theorem dL_law_1401 : decode cL_law 1401 = .ok (.iconst 0, 1) := dk_3 (dk_at dksL_law_53 4 rfl rfl)
theorem dL_law_1402 : decode cL_law 1402 = .ok (.laload, 1) := dk_47 (dk_at dksL_law_53 5 rfl rfl)
theorem dL_law_1403 : decode cL_law 1403 = .ok (.iload 6, 2) := dk_21 6 (dk_at dksL_law_53 6 rfl rfl)
theorem dL_law_1405 : decode cL_law 1405 = .ok (.i2l, 1) := dk_133 (dk_at dksL_law_53 8 rfl rfl)
theorem dL_law_1406 : decode cL_law 1406 = .ok (.lcmp, 1) := dk_148 (dk_at dksL_law_53 9 rfl rfl)
theorem dL_law_1407 : decode cL_law 1407 = .ok (.ifCond .eq 5, 3) := dk_153 0 5 (dk_at dksL_law_53 10 rfl rfl)
theorem dL_law_1410 : decode cL_law 1410 = .ok (.iconst 0, 1) := dk_3 (dk_at dksL_law_53 13 rfl rfl)
theorem dL_law_1411 : decode cL_law 1411 = .ok (.ireturn, 1) := dk_172 (dk_at dksL_law_53 14 rfl rfl)
theorem dL_law_1412 : decode cL_law 1412 = .ok (.goto 678, 3) := dk_167 2 166 (dk_at dksL_law_53 15 rfl rfl)
theorem dL_law_1415 : decode cL_law 1415 = .ok (.aload_n 1, 1) := dk_43 (dk_at dksL_law_53 18 rfl rfl)
theorem dL_law_1416 : decode cL_law 1416 = .ok (.aload_n 0, 1) := dk_42 (dk_at dksL_law_53 19 rfl rfl)
theorem dL_law_1417 : decode cL_law 1417 = .ok (.iload 4, 2) := dk_21 4 (dk_at dksL_law_53 20 rfl rfl)
theorem dL_law_1419 : decode cL_law 1419 = .ok (.iconst 1, 1) := dk_4 (dk_at dksL_law_53 22 rfl rfl)
theorem dL_law_1420 : decode cL_law 1420 = .ok (.iadd, 1) := dk_96 (dk_at dksL_law_53 23 rfl rfl)
theorem dL_law_1421 : decode cL_law 1421 = .ok (.iaload, 1) := dk_46 (dk_at dksL_law_54 0 rfl rfl)
theorem dL_law_1422 : decode cL_law 1422 = .ok (.aload_n 0, 1) := dk_42 (dk_at dksL_law_54 1 rfl rfl)
theorem dL_law_1423 : decode cL_law 1423 = .ok (.iload 4, 2) := dk_21 4 (dk_at dksL_law_54 2 rfl rfl)
theorem dL_law_1425 : decode cL_law 1425 = .ok (.iconst 2, 1) := dk_5 (dk_at dksL_law_54 4 rfl rfl)
theorem dL_law_1426 : decode cL_law 1426 = .ok (.iadd, 1) := dk_96 (dk_at dksL_law_54 5 rfl rfl)
theorem dL_law_1427 : decode cL_law 1427 = .ok (.iaload, 1) := dk_46 (dk_at dksL_law_54 6 rfl rfl)
theorem dL_law_1428 : decode cL_law 1428 = .ok (.aload_n 3, 1) := dk_45 (dk_at dksL_law_54 7 rfl rfl)
theorem dL_law_1429 : decode cL_law 1429 = .ok (.invokestatic 198, 3) := dk_184 0 198 (dk_at dksL_law_54 8 rfl rfl)
theorem dL_law_1432 : decode cL_law 1432 = .ok (.istore 5, 2) := dk_54 5 (dk_at dksL_law_54 11 rfl rfl)
theorem dL_law_1434 : decode cL_law 1434 = .ok (.aload_n 2, 1) := dk_44 (dk_at dksL_law_54 13 rfl rfl)
theorem dL_law_1435 : decode cL_law 1435 = .ok (.aload_n 0, 1) := dk_42 (dk_at dksL_law_54 14 rfl rfl)
theorem dL_law_1436 : decode cL_law 1436 = .ok (.iload 4, 2) := dk_21 4 (dk_at dksL_law_54 15 rfl rfl)
theorem dL_law_1438 : decode cL_law 1438 = .ok (.iconst 1, 1) := dk_4 (dk_at dksL_law_54 17 rfl rfl)
theorem dL_law_1439 : decode cL_law 1439 = .ok (.iadd, 1) := dk_96 (dk_at dksL_law_54 18 rfl rfl)
theorem dL_law_1440 : decode cL_law 1440 = .ok (.iaload, 1) := dk_46 (dk_at dksL_law_54 19 rfl rfl)
theorem dL_law_1441 : decode cL_law 1441 = .ok (.aload_n 0, 1) := dk_42 (dk_at dksL_law_54 20 rfl rfl)
theorem dL_law_1442 : decode cL_law 1442 = .ok (.iload 4, 2) := dk_21 4 (dk_at dksL_law_54 21 rfl rfl)
theorem dL_law_1444 : decode cL_law 1444 = .ok (.iconst 2, 1) := dk_5 (dk_at dksL_law_54 23 rfl rfl)
theorem dL_law_1445 : decode cL_law 1445 = .ok (.iadd, 1) := dk_96 (dk_at dksL_law_55 0 rfl rfl)
theorem dL_law_1446 : decode cL_law 1446 = .ok (.iaload, 1) := dk_46 (dk_at dksL_law_55 1 rfl rfl)
theorem dL_law_1447 : decode cL_law 1447 = .ok (.invokevirtual 200, 3) := dk_182 0 200 (dk_at dksL_law_55 2 rfl rfl)
theorem dL_law_1450 : decode cL_law 1450 = .ok (.istore 6, 2) := dk_54 6 (dk_at dksL_law_55 5 rfl rfl)
theorem dL_law_1452 : decode cL_law 1452 = .ok (.aload_n 2, 1) := dk_44 (dk_at dksL_law_55 7 rfl rfl)
theorem dL_law_1453 : decode cL_law 1453 = .ok (.invokevirtual 102, 3) := dk_182 0 102 (dk_at dksL_law_55 8 rfl rfl)
theorem dL_law_1456 : decode cL_law 1456 = .ok (.iload 5, 2) := dk_21 5 (dk_at dksL_law_55 11 rfl rfl)
theorem dL_law_1458 : decode cL_law 1458 = .ok (.if_icmp .eq 5, 3) := dk_159 0 5 (dk_at dksL_law_55 13 rfl rfl)
theorem dL_law_1461 : decode cL_law 1461 = .ok (.iconst 0, 1) := dk_3 (dk_at dksL_law_55 16 rfl rfl)
theorem dL_law_1462 : decode cL_law 1462 = .ok (.ireturn, 1) := dk_172 (dk_at dksL_law_55 17 rfl rfl)
theorem dL_law_1463 : decode cL_law 1463 = .ok (.iload 5, 2) := dk_21 5 (dk_at dksL_law_55 18 rfl rfl)
theorem dL_law_1465 : decode cL_law 1465 = .ok (.ifCond .ne 15, 3) := dk_154 0 15 (dk_at dksL_law_55 20 rfl rfl)
theorem dL_law_1468 : decode cL_law 1468 = .ok (.aload_n 3, 1) := dk_45 (dk_at dksL_law_55 23 rfl rfl)
theorem dL_law_1469 : decode cL_law 1469 = .ok (.iconst 0, 1) := dk_3 (dk_at dksL_law_56 0 rfl rfl)
theorem dL_law_1470 : decode cL_law 1470 = .ok (.laload, 1) := dk_47 (dk_at dksL_law_56 1 rfl rfl)
theorem dL_law_1471 : decode cL_law 1471 = .ok (.iload 6, 2) := dk_21 6 (dk_at dksL_law_56 2 rfl rfl)
theorem dL_law_1473 : decode cL_law 1473 = .ok (.i2l, 1) := dk_133 (dk_at dksL_law_56 4 rfl rfl)
theorem dL_law_1474 : decode cL_law 1474 = .ok (.lcmp, 1) := dk_148 (dk_at dksL_law_56 5 rfl rfl)
theorem dL_law_1475 : decode cL_law 1475 = .ok (.ifCond .eq 5, 3) := dk_153 0 5 (dk_at dksL_law_56 6 rfl rfl)
theorem dL_law_1478 : decode cL_law 1478 = .ok (.iconst 0, 1) := dk_3 (dk_at dksL_law_56 9 rfl rfl)
theorem dL_law_1479 : decode cL_law 1479 = .ok (.ireturn, 1) := dk_172 (dk_at dksL_law_56 10 rfl rfl)
theorem dL_law_1480 : decode cL_law 1480 = .ok (.goto 610, 3) := dk_167 2 98 (dk_at dksL_law_56 11 rfl rfl)
theorem dL_law_1483 : decode cL_law 1483 = .ok (.aload_n 1, 1) := dk_43 (dk_at dksL_law_56 14 rfl rfl)
theorem dL_law_1484 : decode cL_law 1484 = .ok (.aload_n 0, 1) := dk_42 (dk_at dksL_law_56 15 rfl rfl)
theorem dL_law_1485 : decode cL_law 1485 = .ok (.iload 4, 2) := dk_21 4 (dk_at dksL_law_56 16 rfl rfl)
theorem dL_law_1487 : decode cL_law 1487 = .ok (.iconst 1, 1) := dk_4 (dk_at dksL_law_56 18 rfl rfl)
theorem dL_law_1488 : decode cL_law 1488 = .ok (.iadd, 1) := dk_96 (dk_at dksL_law_56 19 rfl rfl)
theorem dL_law_1489 : decode cL_law 1489 = .ok (.iaload, 1) := dk_46 (dk_at dksL_law_56 20 rfl rfl)
theorem dL_law_1490 : decode cL_law 1490 = .ok (.aload_n 0, 1) := dk_42 (dk_at dksL_law_56 21 rfl rfl)
theorem dL_law_1491 : decode cL_law 1491 = .ok (.iload 4, 2) := dk_21 4 (dk_at dksL_law_56 22 rfl rfl)
theorem dL_law_1493 : decode cL_law 1493 = .ok (.iconst 2, 1) := dk_5 (dk_at dksL_law_57 0 rfl rfl)
theorem dL_law_1494 : decode cL_law 1494 = .ok (.iadd, 1) := dk_96 (dk_at dksL_law_57 1 rfl rfl)
theorem dL_law_1495 : decode cL_law 1495 = .ok (.iaload, 1) := dk_46 (dk_at dksL_law_57 2 rfl rfl)
theorem dL_law_1496 : decode cL_law 1496 = .ok (.aload_n 3, 1) := dk_45 (dk_at dksL_law_57 3 rfl rfl)
theorem dL_law_1497 : decode cL_law 1497 = .ok (.invokestatic 201, 3) := dk_184 0 201 (dk_at dksL_law_57 4 rfl rfl)
theorem dL_law_1500 : decode cL_law 1500 = .ok (.istore 5, 2) := dk_54 5 (dk_at dksL_law_57 7 rfl rfl)
theorem dL_law_1502 : decode cL_law 1502 = .ok (.aload_n 2, 1) := dk_44 (dk_at dksL_law_57 9 rfl rfl)
theorem dL_law_1503 : decode cL_law 1503 = .ok (.aload_n 0, 1) := dk_42 (dk_at dksL_law_57 10 rfl rfl)
theorem dL_law_1504 : decode cL_law 1504 = .ok (.iload 4, 2) := dk_21 4 (dk_at dksL_law_57 11 rfl rfl)
theorem dL_law_1506 : decode cL_law 1506 = .ok (.iconst 1, 1) := dk_4 (dk_at dksL_law_57 13 rfl rfl)
theorem dL_law_1507 : decode cL_law 1507 = .ok (.iadd, 1) := dk_96 (dk_at dksL_law_57 14 rfl rfl)
theorem dL_law_1508 : decode cL_law 1508 = .ok (.iaload, 1) := dk_46 (dk_at dksL_law_57 15 rfl rfl)
theorem dL_law_1509 : decode cL_law 1509 = .ok (.aload_n 0, 1) := dk_42 (dk_at dksL_law_57 16 rfl rfl)
theorem dL_law_1510 : decode cL_law 1510 = .ok (.iload 4, 2) := dk_21 4 (dk_at dksL_law_57 17 rfl rfl)
theorem dL_law_1512 : decode cL_law 1512 = .ok (.iconst 2, 1) := dk_5 (dk_at dksL_law_57 19 rfl rfl)
theorem dL_law_1513 : decode cL_law 1513 = .ok (.iadd, 1) := dk_96 (dk_at dksL_law_57 20 rfl rfl)
theorem dL_law_1514 : decode cL_law 1514 = .ok (.iaload, 1) := dk_46 (dk_at dksL_law_57 21 rfl rfl)
theorem dL_law_1515 : decode cL_law 1515 = .ok (.invokevirtual 203, 3) := dk_182 0 203 (dk_at dksL_law_58 0 rfl rfl)
theorem dL_law_1518 : decode cL_law 1518 = .ok (.istore 6, 2) := dk_54 6 (dk_at dksL_law_58 3 rfl rfl)
theorem dL_law_1520 : decode cL_law 1520 = .ok (.aload_n 2, 1) := dk_44 (dk_at dksL_law_58 5 rfl rfl)
theorem dL_law_1521 : decode cL_law 1521 = .ok (.invokevirtual 102, 3) := dk_182 0 102 (dk_at dksL_law_58 6 rfl rfl)
theorem dL_law_1524 : decode cL_law 1524 = .ok (.iload 5, 2) := dk_21 5 (dk_at dksL_law_58 9 rfl rfl)
theorem dL_law_1526 : decode cL_law 1526 = .ok (.if_icmp .eq 5, 3) := dk_159 0 5 (dk_at dksL_law_58 11 rfl rfl)
theorem dL_law_1529 : decode cL_law 1529 = .ok (.iconst 0, 1) := dk_3 (dk_at dksL_law_58 14 rfl rfl)
theorem dL_law_1530 : decode cL_law 1530 = .ok (.ireturn, 1) := dk_172 (dk_at dksL_law_58 15 rfl rfl)
theorem dL_law_1531 : decode cL_law 1531 = .ok (.iload 5, 2) := dk_21 5 (dk_at dksL_law_58 16 rfl rfl)
theorem dL_law_1533 : decode cL_law 1533 = .ok (.ifCond .ne 15, 3) := dk_154 0 15 (dk_at dksL_law_58 18 rfl rfl)
theorem dL_law_1536 : decode cL_law 1536 = .ok (.aload_n 3, 1) := dk_45 (dk_at dksL_law_58 21 rfl rfl)
theorem dL_law_1537 : decode cL_law 1537 = .ok (.iconst 0, 1) := dk_3 (dk_at dksL_law_58 22 rfl rfl)
theorem dL_law_1538 : decode cL_law 1538 = .ok (.laload, 1) := dk_47 (dk_at dksL_law_58 23 rfl rfl)
theorem dL_law_1539 : decode cL_law 1539 = .ok (.iload 6, 2) := dk_21 6 (dk_at dksL_law_59 0 rfl rfl)
theorem dL_law_1541 : decode cL_law 1541 = .ok (.i2l, 1) := dk_133 (dk_at dksL_law_59 2 rfl rfl)
theorem dL_law_1542 : decode cL_law 1542 = .ok (.lcmp, 1) := dk_148 (dk_at dksL_law_59 3 rfl rfl)
theorem dL_law_1543 : decode cL_law 1543 = .ok (.ifCond .eq 5, 3) := dk_153 0 5 (dk_at dksL_law_59 4 rfl rfl)
theorem dL_law_1546 : decode cL_law 1546 = .ok (.iconst 0, 1) := dk_3 (dk_at dksL_law_59 7 rfl rfl)
theorem dL_law_1547 : decode cL_law 1547 = .ok (.ireturn, 1) := dk_172 (dk_at dksL_law_59 8 rfl rfl)
theorem dL_law_1548 : decode cL_law 1548 = .ok (.goto 542, 3) := dk_167 2 30 (dk_at dksL_law_59 9 rfl rfl)
theorem dL_law_1551 : decode cL_law 1551 = .ok (.aload_n 1, 1) := dk_43 (dk_at dksL_law_59 12 rfl rfl)
theorem dL_law_1552 : decode cL_law 1552 = .ok (.aload_n 0, 1) := dk_42 (dk_at dksL_law_59 13 rfl rfl)
theorem dL_law_1553 : decode cL_law 1553 = .ok (.iload 4, 2) := dk_21 4 (dk_at dksL_law_59 14 rfl rfl)
theorem dL_law_1555 : decode cL_law 1555 = .ok (.iconst 1, 1) := dk_4 (dk_at dksL_law_59 16 rfl rfl)
theorem dL_law_1556 : decode cL_law 1556 = .ok (.iadd, 1) := dk_96 (dk_at dksL_law_59 17 rfl rfl)
theorem dL_law_1557 : decode cL_law 1557 = .ok (.iaload, 1) := dk_46 (dk_at dksL_law_59 18 rfl rfl)
theorem dL_law_1558 : decode cL_law 1558 = .ok (.ifCond .eq 7, 3) := dk_153 0 7 (dk_at dksL_law_59 19 rfl rfl)
theorem dL_law_1561 : decode cL_law 1561 = .ok (.iconst 1, 1) := dk_4 (dk_at dksL_law_59 22 rfl rfl)
theorem dL_law_1562 : decode cL_law 1562 = .ok (.goto 4, 3) := dk_167 0 4 (dk_at dksL_law_60 0 rfl rfl)
theorem dL_law_1565 : decode cL_law 1565 = .ok (.iconst 0, 1) := dk_3 (dk_at dksL_law_60 3 rfl rfl)
theorem dL_law_1566 : decode cL_law 1566 = .ok (.aload_n 0, 1) := dk_42 (dk_at dksL_law_60 4 rfl rfl)
theorem dL_law_1567 : decode cL_law 1567 = .ok (.iload 4, 2) := dk_21 4 (dk_at dksL_law_60 5 rfl rfl)
theorem dL_law_1569 : decode cL_law 1569 = .ok (.iconst 2, 1) := dk_5 (dk_at dksL_law_60 7 rfl rfl)
theorem dL_law_1570 : decode cL_law 1570 = .ok (.iadd, 1) := dk_96 (dk_at dksL_law_60 8 rfl rfl)
theorem dL_law_1571 : decode cL_law 1571 = .ok (.iaload, 1) := dk_46 (dk_at dksL_law_60 9 rfl rfl)
theorem dL_law_1572 : decode cL_law 1572 = .ok (.aload_n 3, 1) := dk_45 (dk_at dksL_law_60 10 rfl rfl)
theorem dL_law_1573 : decode cL_law 1573 = .ok (.invokestatic 204, 3) := dk_184 0 204 (dk_at dksL_law_60 11 rfl rfl)
theorem dL_law_1576 : decode cL_law 1576 = .ok (.istore 5, 2) := dk_54 5 (dk_at dksL_law_60 14 rfl rfl)
theorem dL_law_1578 : decode cL_law 1578 = .ok (.aload_n 2, 1) := dk_44 (dk_at dksL_law_60 16 rfl rfl)
theorem dL_law_1579 : decode cL_law 1579 = .ok (.aload_n 0, 1) := dk_42 (dk_at dksL_law_60 17 rfl rfl)
theorem dL_law_1580 : decode cL_law 1580 = .ok (.iload 4, 2) := dk_21 4 (dk_at dksL_law_60 18 rfl rfl)
theorem dL_law_1582 : decode cL_law 1582 = .ok (.iconst 1, 1) := dk_4 (dk_at dksL_law_60 20 rfl rfl)
theorem dL_law_1583 : decode cL_law 1583 = .ok (.iadd, 1) := dk_96 (dk_at dksL_law_60 21 rfl rfl)
theorem dL_law_1584 : decode cL_law 1584 = .ok (.iaload, 1) := dk_46 (dk_at dksL_law_60 22 rfl rfl)
theorem dL_law_1585 : decode cL_law 1585 = .ok (.ifCond .eq 7, 3) := dk_153 0 7 (dk_at dksL_law_61 0 rfl rfl)
theorem dL_law_1588 : decode cL_law 1588 = .ok (.iconst 1, 1) := dk_4 (dk_at dksL_law_61 3 rfl rfl)
theorem dL_law_1589 : decode cL_law 1589 = .ok (.goto 4, 3) := dk_167 0 4 (dk_at dksL_law_61 4 rfl rfl)
theorem dL_law_1592 : decode cL_law 1592 = .ok (.iconst 0, 1) := dk_3 (dk_at dksL_law_61 7 rfl rfl)
theorem dL_law_1593 : decode cL_law 1593 = .ok (.aload_n 0, 1) := dk_42 (dk_at dksL_law_61 8 rfl rfl)
theorem dL_law_1594 : decode cL_law 1594 = .ok (.iload 4, 2) := dk_21 4 (dk_at dksL_law_61 9 rfl rfl)
theorem dL_law_1596 : decode cL_law 1596 = .ok (.iconst 2, 1) := dk_5 (dk_at dksL_law_61 11 rfl rfl)
theorem dL_law_1597 : decode cL_law 1597 = .ok (.iadd, 1) := dk_96 (dk_at dksL_law_61 12 rfl rfl)
theorem dL_law_1598 : decode cL_law 1598 = .ok (.iaload, 1) := dk_46 (dk_at dksL_law_61 13 rfl rfl)
theorem dL_law_1599 : decode cL_law 1599 = .ok (.invokevirtual 207, 3) := dk_182 0 207 (dk_at dksL_law_61 14 rfl rfl)
theorem dL_law_1602 : decode cL_law 1602 = .ok (.istore 6, 2) := dk_54 6 (dk_at dksL_law_61 17 rfl rfl)
theorem dL_law_1604 : decode cL_law 1604 = .ok (.aload_n 2, 1) := dk_44 (dk_at dksL_law_61 19 rfl rfl)
theorem dL_law_1605 : decode cL_law 1605 = .ok (.invokevirtual 102, 3) := dk_182 0 102 (dk_at dksL_law_61 20 rfl rfl)
theorem dL_law_1608 : decode cL_law 1608 = .ok (.iload 5, 2) := dk_21 5 (dk_at dksL_law_62 0 rfl rfl)
theorem dL_law_1610 : decode cL_law 1610 = .ok (.if_icmp .eq 5, 3) := dk_159 0 5 (dk_at dksL_law_62 2 rfl rfl)
theorem dL_law_1613 : decode cL_law 1613 = .ok (.iconst 0, 1) := dk_3 (dk_at dksL_law_62 5 rfl rfl)
theorem dL_law_1614 : decode cL_law 1614 = .ok (.ireturn, 1) := dk_172 (dk_at dksL_law_62 6 rfl rfl)
theorem dL_law_1615 : decode cL_law 1615 = .ok (.iload 5, 2) := dk_21 5 (dk_at dksL_law_62 7 rfl rfl)
theorem dL_law_1617 : decode cL_law 1617 = .ok (.ifCond .ne 15, 3) := dk_154 0 15 (dk_at dksL_law_62 9 rfl rfl)
theorem dL_law_1620 : decode cL_law 1620 = .ok (.aload_n 3, 1) := dk_45 (dk_at dksL_law_62 12 rfl rfl)
theorem dL_law_1621 : decode cL_law 1621 = .ok (.iconst 0, 1) := dk_3 (dk_at dksL_law_62 13 rfl rfl)
theorem dL_law_1622 : decode cL_law 1622 = .ok (.laload, 1) := dk_47 (dk_at dksL_law_62 14 rfl rfl)
theorem dL_law_1623 : decode cL_law 1623 = .ok (.iload 6, 2) := dk_21 6 (dk_at dksL_law_62 15 rfl rfl)
theorem dL_law_1625 : decode cL_law 1625 = .ok (.i2l, 1) := dk_133 (dk_at dksL_law_62 17 rfl rfl)
theorem dL_law_1626 : decode cL_law 1626 = .ok (.lcmp, 1) := dk_148 (dk_at dksL_law_62 18 rfl rfl)
theorem dL_law_1627 : decode cL_law 1627 = .ok (.ifCond .eq 5, 3) := dk_153 0 5 (dk_at dksL_law_62 19 rfl rfl)
theorem dL_law_1630 : decode cL_law 1630 = .ok (.iconst 0, 1) := dk_3 (dk_at dksL_law_62 22 rfl rfl)
theorem dL_law_1631 : decode cL_law 1631 = .ok (.ireturn, 1) := dk_172 (dk_at dksL_law_62 23 rfl rfl)
theorem dL_law_1632 : decode cL_law 1632 = .ok (.goto 458, 3) := dk_167 1 202 (dk_at dksL_law_63 0 rfl rfl)
theorem dL_law_1635 : decode cL_law 1635 = .ok (.aload_n 1, 1) := dk_43 (dk_at dksL_law_63 3 rfl rfl)
theorem dL_law_1636 : decode cL_law 1636 = .ok (.aload_n 0, 1) := dk_42 (dk_at dksL_law_63 4 rfl rfl)
theorem dL_law_1637 : decode cL_law 1637 = .ok (.iload 4, 2) := dk_21 4 (dk_at dksL_law_63 5 rfl rfl)
theorem dL_law_1639 : decode cL_law 1639 = .ok (.iconst 1, 1) := dk_4 (dk_at dksL_law_63 7 rfl rfl)
theorem dL_law_1640 : decode cL_law 1640 = .ok (.iadd, 1) := dk_96 (dk_at dksL_law_63 8 rfl rfl)
theorem dL_law_1641 : decode cL_law 1641 = .ok (.iaload, 1) := dk_46 (dk_at dksL_law_63 9 rfl rfl)
theorem dL_law_1642 : decode cL_law 1642 = .ok (.aload_n 0, 1) := dk_42 (dk_at dksL_law_63 10 rfl rfl)
theorem dL_law_1643 : decode cL_law 1643 = .ok (.iload 4, 2) := dk_21 4 (dk_at dksL_law_63 11 rfl rfl)
theorem dL_law_1645 : decode cL_law 1645 = .ok (.iconst 2, 1) := dk_5 (dk_at dksL_law_63 13 rfl rfl)
theorem dL_law_1646 : decode cL_law 1646 = .ok (.iadd, 1) := dk_96 (dk_at dksL_law_63 14 rfl rfl)
theorem dL_law_1647 : decode cL_law 1647 = .ok (.iaload, 1) := dk_46 (dk_at dksL_law_63 15 rfl rfl)
theorem dL_law_1648 : decode cL_law 1648 = .ok (.aload_n 0, 1) := dk_42 (dk_at dksL_law_63 16 rfl rfl)
theorem dL_law_1649 : decode cL_law 1649 = .ok (.iload 4, 2) := dk_21 4 (dk_at dksL_law_63 17 rfl rfl)
theorem dL_law_1651 : decode cL_law 1651 = .ok (.iconst 3, 1) := dk_6 (dk_at dksL_law_63 19 rfl rfl)
theorem dL_law_1652 : decode cL_law 1652 = .ok (.iadd, 1) := dk_96 (dk_at dksL_law_63 20 rfl rfl)
theorem dL_law_1653 : decode cL_law 1653 = .ok (.iaload, 1) := dk_46 (dk_at dksL_law_63 21 rfl rfl)
theorem dL_law_1654 : decode cL_law 1654 = .ok (.aload_n 3, 1) := dk_45 (dk_at dksL_law_63 22 rfl rfl)
theorem dL_law_1655 : decode cL_law 1655 = .ok (.invokestatic 208, 3) := dk_184 0 208 (dk_at dksL_law_64 0 rfl rfl)
theorem dL_law_1658 : decode cL_law 1658 = .ok (.istore 5, 2) := dk_54 5 (dk_at dksL_law_64 3 rfl rfl)
theorem dL_law_1660 : decode cL_law 1660 = .ok (.aload_n 2, 1) := dk_44 (dk_at dksL_law_64 5 rfl rfl)
theorem dL_law_1661 : decode cL_law 1661 = .ok (.aload_n 0, 1) := dk_42 (dk_at dksL_law_64 6 rfl rfl)
theorem dL_law_1662 : decode cL_law 1662 = .ok (.iload 4, 2) := dk_21 4 (dk_at dksL_law_64 7 rfl rfl)
theorem dL_law_1664 : decode cL_law 1664 = .ok (.iconst 1, 1) := dk_4 (dk_at dksL_law_64 9 rfl rfl)
theorem dL_law_1665 : decode cL_law 1665 = .ok (.iadd, 1) := dk_96 (dk_at dksL_law_64 10 rfl rfl)
theorem dL_law_1666 : decode cL_law 1666 = .ok (.iaload, 1) := dk_46 (dk_at dksL_law_64 11 rfl rfl)
theorem dL_law_1667 : decode cL_law 1667 = .ok (.aload_n 0, 1) := dk_42 (dk_at dksL_law_64 12 rfl rfl)
theorem dL_law_1668 : decode cL_law 1668 = .ok (.iload 4, 2) := dk_21 4 (dk_at dksL_law_64 13 rfl rfl)
theorem dL_law_1670 : decode cL_law 1670 = .ok (.iconst 2, 1) := dk_5 (dk_at dksL_law_64 15 rfl rfl)
theorem dL_law_1671 : decode cL_law 1671 = .ok (.iadd, 1) := dk_96 (dk_at dksL_law_64 16 rfl rfl)
theorem dL_law_1672 : decode cL_law 1672 = .ok (.iaload, 1) := dk_46 (dk_at dksL_law_64 17 rfl rfl)
theorem dL_law_1673 : decode cL_law 1673 = .ok (.aload_n 0, 1) := dk_42 (dk_at dksL_law_64 18 rfl rfl)
theorem dL_law_1674 : decode cL_law 1674 = .ok (.iload 4, 2) := dk_21 4 (dk_at dksL_law_64 19 rfl rfl)
theorem dL_law_1676 : decode cL_law 1676 = .ok (.iconst 3, 1) := dk_6 (dk_at dksL_law_64 21 rfl rfl)
theorem dL_law_1677 : decode cL_law 1677 = .ok (.iadd, 1) := dk_96 (dk_at dksL_law_64 22 rfl rfl)
theorem dL_law_1678 : decode cL_law 1678 = .ok (.iaload, 1) := dk_46 (dk_at dksL_law_64 23 rfl rfl)
theorem dL_law_1679 : decode cL_law 1679 = .ok (.invokevirtual 210, 3) := dk_182 0 210 (dk_at dksL_law_65 0 rfl rfl)
theorem dL_law_1682 : decode cL_law 1682 = .ok (.istore 6, 2) := dk_54 6 (dk_at dksL_law_65 3 rfl rfl)
theorem dL_law_1684 : decode cL_law 1684 = .ok (.aload_n 2, 1) := dk_44 (dk_at dksL_law_65 5 rfl rfl)
theorem dL_law_1685 : decode cL_law 1685 = .ok (.invokevirtual 102, 3) := dk_182 0 102 (dk_at dksL_law_65 6 rfl rfl)
theorem dL_law_1688 : decode cL_law 1688 = .ok (.iload 5, 2) := dk_21 5 (dk_at dksL_law_65 9 rfl rfl)
theorem dL_law_1690 : decode cL_law 1690 = .ok (.if_icmp .eq 5, 3) := dk_159 0 5 (dk_at dksL_law_65 11 rfl rfl)
theorem dL_law_1693 : decode cL_law 1693 = .ok (.iconst 0, 1) := dk_3 (dk_at dksL_law_65 14 rfl rfl)
theorem dL_law_1694 : decode cL_law 1694 = .ok (.ireturn, 1) := dk_172 (dk_at dksL_law_65 15 rfl rfl)
theorem dL_law_1695 : decode cL_law 1695 = .ok (.iload 5, 2) := dk_21 5 (dk_at dksL_law_65 16 rfl rfl)
theorem dL_law_1697 : decode cL_law 1697 = .ok (.ifCond .ne 15, 3) := dk_154 0 15 (dk_at dksL_law_65 18 rfl rfl)
theorem dL_law_1700 : decode cL_law 1700 = .ok (.aload_n 3, 1) := dk_45 (dk_at dksL_law_65 21 rfl rfl)
theorem dL_law_1701 : decode cL_law 1701 = .ok (.iconst 0, 1) := dk_3 (dk_at dksL_law_65 22 rfl rfl)
theorem dL_law_1702 : decode cL_law 1702 = .ok (.laload, 1) := dk_47 (dk_at dksL_law_65 23 rfl rfl)
theorem dL_law_1703 : decode cL_law 1703 = .ok (.iload 6, 2) := dk_21 6 (dk_at dksL_law_66 0 rfl rfl)
theorem dL_law_1705 : decode cL_law 1705 = .ok (.i2l, 1) := dk_133 (dk_at dksL_law_66 2 rfl rfl)
theorem dL_law_1706 : decode cL_law 1706 = .ok (.lcmp, 1) := dk_148 (dk_at dksL_law_66 3 rfl rfl)
theorem dL_law_1707 : decode cL_law 1707 = .ok (.ifCond .eq 5, 3) := dk_153 0 5 (dk_at dksL_law_66 4 rfl rfl)
theorem dL_law_1710 : decode cL_law 1710 = .ok (.iconst 0, 1) := dk_3 (dk_at dksL_law_66 7 rfl rfl)
theorem dL_law_1711 : decode cL_law 1711 = .ok (.ireturn, 1) := dk_172 (dk_at dksL_law_66 8 rfl rfl)
theorem dL_law_1712 : decode cL_law 1712 = .ok (.goto 378, 3) := dk_167 1 122 (dk_at dksL_law_66 9 rfl rfl)
theorem dL_law_1715 : decode cL_law 1715 = .ok (.aload_n 1, 1) := dk_43 (dk_at dksL_law_66 12 rfl rfl)
theorem dL_law_1716 : decode cL_law 1716 = .ok (.aload_n 0, 1) := dk_42 (dk_at dksL_law_66 13 rfl rfl)
theorem dL_law_1717 : decode cL_law 1717 = .ok (.iload 4, 2) := dk_21 4 (dk_at dksL_law_66 14 rfl rfl)
theorem dL_law_1719 : decode cL_law 1719 = .ok (.iconst 1, 1) := dk_4 (dk_at dksL_law_66 16 rfl rfl)
theorem dL_law_1720 : decode cL_law 1720 = .ok (.iadd, 1) := dk_96 (dk_at dksL_law_66 17 rfl rfl)
theorem dL_law_1721 : decode cL_law 1721 = .ok (.iaload, 1) := dk_46 (dk_at dksL_law_66 18 rfl rfl)
theorem dL_law_1722 : decode cL_law 1722 = .ok (.aload_n 0, 1) := dk_42 (dk_at dksL_law_66 19 rfl rfl)
theorem dL_law_1723 : decode cL_law 1723 = .ok (.iload 4, 2) := dk_21 4 (dk_at dksL_law_66 20 rfl rfl)
theorem dL_law_1725 : decode cL_law 1725 = .ok (.iconst 2, 1) := dk_5 (dk_at dksL_law_66 22 rfl rfl)
theorem dL_law_1726 : decode cL_law 1726 = .ok (.iadd, 1) := dk_96 (dk_at dksL_law_66 23 rfl rfl)
theorem dL_law_1727 : decode cL_law 1727 = .ok (.iaload, 1) := dk_46 (dk_at dksL_law_67 0 rfl rfl)
theorem dL_law_1728 : decode cL_law 1728 = .ok (.aload_n 0, 1) := dk_42 (dk_at dksL_law_67 1 rfl rfl)
theorem dL_law_1729 : decode cL_law 1729 = .ok (.iload 4, 2) := dk_21 4 (dk_at dksL_law_67 2 rfl rfl)
theorem dL_law_1731 : decode cL_law 1731 = .ok (.iconst 3, 1) := dk_6 (dk_at dksL_law_67 4 rfl rfl)
theorem dL_law_1732 : decode cL_law 1732 = .ok (.iadd, 1) := dk_96 (dk_at dksL_law_67 5 rfl rfl)
theorem dL_law_1733 : decode cL_law 1733 = .ok (.iaload, 1) := dk_46 (dk_at dksL_law_67 6 rfl rfl)
theorem dL_law_1734 : decode cL_law 1734 = .ok (.aload_n 0, 1) := dk_42 (dk_at dksL_law_67 7 rfl rfl)
theorem dL_law_1735 : decode cL_law 1735 = .ok (.iload 4, 2) := dk_21 4 (dk_at dksL_law_67 8 rfl rfl)
theorem dL_law_1737 : decode cL_law 1737 = .ok (.iconst 4, 1) := dk_7 (dk_at dksL_law_67 10 rfl rfl)
theorem dL_law_1738 : decode cL_law 1738 = .ok (.iadd, 1) := dk_96 (dk_at dksL_law_67 11 rfl rfl)
theorem dL_law_1739 : decode cL_law 1739 = .ok (.iaload, 1) := dk_46 (dk_at dksL_law_67 12 rfl rfl)
theorem dL_law_1740 : decode cL_law 1740 = .ok (.aload_n 0, 1) := dk_42 (dk_at dksL_law_67 13 rfl rfl)
theorem dL_law_1741 : decode cL_law 1741 = .ok (.iload 4, 2) := dk_21 4 (dk_at dksL_law_67 14 rfl rfl)
theorem dL_law_1743 : decode cL_law 1743 = .ok (.iconst 5, 1) := dk_8 (dk_at dksL_law_67 16 rfl rfl)
theorem dL_law_1744 : decode cL_law 1744 = .ok (.iadd, 1) := dk_96 (dk_at dksL_law_67 17 rfl rfl)
theorem dL_law_1745 : decode cL_law 1745 = .ok (.iaload, 1) := dk_46 (dk_at dksL_law_67 18 rfl rfl)
theorem dL_law_1746 : decode cL_law 1746 = .ok (.aload_n 3, 1) := dk_45 (dk_at dksL_law_67 19 rfl rfl)
theorem dL_law_1747 : decode cL_law 1747 = .ok (.invokestatic 211, 3) := dk_184 0 211 (dk_at dksL_law_67 20 rfl rfl)
theorem dL_law_1750 : decode cL_law 1750 = .ok (.istore 5, 2) := dk_54 5 (dk_at dksL_law_68 0 rfl rfl)
theorem dL_law_1752 : decode cL_law 1752 = .ok (.aload_n 2, 1) := dk_44 (dk_at dksL_law_68 2 rfl rfl)
theorem dL_law_1753 : decode cL_law 1753 = .ok (.aload_n 0, 1) := dk_42 (dk_at dksL_law_68 3 rfl rfl)
theorem dL_law_1754 : decode cL_law 1754 = .ok (.iload 4, 2) := dk_21 4 (dk_at dksL_law_68 4 rfl rfl)
theorem dL_law_1756 : decode cL_law 1756 = .ok (.iconst 1, 1) := dk_4 (dk_at dksL_law_68 6 rfl rfl)
theorem dL_law_1757 : decode cL_law 1757 = .ok (.iadd, 1) := dk_96 (dk_at dksL_law_68 7 rfl rfl)
theorem dL_law_1758 : decode cL_law 1758 = .ok (.iaload, 1) := dk_46 (dk_at dksL_law_68 8 rfl rfl)
theorem dL_law_1759 : decode cL_law 1759 = .ok (.aload_n 0, 1) := dk_42 (dk_at dksL_law_68 9 rfl rfl)
theorem dL_law_1760 : decode cL_law 1760 = .ok (.iload 4, 2) := dk_21 4 (dk_at dksL_law_68 10 rfl rfl)
theorem dL_law_1762 : decode cL_law 1762 = .ok (.iconst 2, 1) := dk_5 (dk_at dksL_law_68 12 rfl rfl)
theorem dL_law_1763 : decode cL_law 1763 = .ok (.iadd, 1) := dk_96 (dk_at dksL_law_68 13 rfl rfl)
theorem dL_law_1764 : decode cL_law 1764 = .ok (.iaload, 1) := dk_46 (dk_at dksL_law_68 14 rfl rfl)
theorem dL_law_1765 : decode cL_law 1765 = .ok (.aload_n 0, 1) := dk_42 (dk_at dksL_law_68 15 rfl rfl)
theorem dL_law_1766 : decode cL_law 1766 = .ok (.iload 4, 2) := dk_21 4 (dk_at dksL_law_68 16 rfl rfl)
theorem dL_law_1768 : decode cL_law 1768 = .ok (.iconst 3, 1) := dk_6 (dk_at dksL_law_68 18 rfl rfl)
theorem dL_law_1769 : decode cL_law 1769 = .ok (.iadd, 1) := dk_96 (dk_at dksL_law_68 19 rfl rfl)
theorem dL_law_1770 : decode cL_law 1770 = .ok (.iaload, 1) := dk_46 (dk_at dksL_law_68 20 rfl rfl)
theorem dL_law_1771 : decode cL_law 1771 = .ok (.aload_n 0, 1) := dk_42 (dk_at dksL_law_68 21 rfl rfl)
theorem dL_law_1772 : decode cL_law 1772 = .ok (.iload 4, 2) := dk_21 4 (dk_at dksL_law_68 22 rfl rfl)
theorem dL_law_1774 : decode cL_law 1774 = .ok (.iconst 4, 1) := dk_7 (dk_at dksL_law_69 0 rfl rfl)
theorem dL_law_1775 : decode cL_law 1775 = .ok (.iadd, 1) := dk_96 (dk_at dksL_law_69 1 rfl rfl)
theorem dL_law_1776 : decode cL_law 1776 = .ok (.iaload, 1) := dk_46 (dk_at dksL_law_69 2 rfl rfl)
theorem dL_law_1777 : decode cL_law 1777 = .ok (.aload_n 0, 1) := dk_42 (dk_at dksL_law_69 3 rfl rfl)
theorem dL_law_1778 : decode cL_law 1778 = .ok (.iload 4, 2) := dk_21 4 (dk_at dksL_law_69 4 rfl rfl)
theorem dL_law_1780 : decode cL_law 1780 = .ok (.iconst 5, 1) := dk_8 (dk_at dksL_law_69 6 rfl rfl)
theorem dL_law_1781 : decode cL_law 1781 = .ok (.iadd, 1) := dk_96 (dk_at dksL_law_69 7 rfl rfl)
theorem dL_law_1782 : decode cL_law 1782 = .ok (.iaload, 1) := dk_46 (dk_at dksL_law_69 8 rfl rfl)
theorem dL_law_1783 : decode cL_law 1783 = .ok (.invokevirtual 214, 3) := dk_182 0 214 (dk_at dksL_law_69 9 rfl rfl)
theorem dL_law_1786 : decode cL_law 1786 = .ok (.istore 6, 2) := dk_54 6 (dk_at dksL_law_69 12 rfl rfl)
theorem dL_law_1788 : decode cL_law 1788 = .ok (.aload_n 2, 1) := dk_44 (dk_at dksL_law_69 14 rfl rfl)
theorem dL_law_1789 : decode cL_law 1789 = .ok (.invokevirtual 102, 3) := dk_182 0 102 (dk_at dksL_law_69 15 rfl rfl)
theorem dL_law_1792 : decode cL_law 1792 = .ok (.iload 5, 2) := dk_21 5 (dk_at dksL_law_69 18 rfl rfl)
theorem dL_law_1794 : decode cL_law 1794 = .ok (.if_icmp .eq 5, 3) := dk_159 0 5 (dk_at dksL_law_69 20 rfl rfl)
theorem dL_law_1797 : decode cL_law 1797 = .ok (.iconst 0, 1) := dk_3 (dk_at dksL_law_69 23 rfl rfl)
theorem dL_law_1798 : decode cL_law 1798 = .ok (.ireturn, 1) := dk_172 (dk_at dksL_law_70 0 rfl rfl)
theorem dL_law_1799 : decode cL_law 1799 = .ok (.iload 5, 2) := dk_21 5 (dk_at dksL_law_70 1 rfl rfl)
theorem dL_law_1801 : decode cL_law 1801 = .ok (.ifCond .ne 15, 3) := dk_154 0 15 (dk_at dksL_law_70 3 rfl rfl)
theorem dL_law_1804 : decode cL_law 1804 = .ok (.aload_n 3, 1) := dk_45 (dk_at dksL_law_70 6 rfl rfl)
theorem dL_law_1805 : decode cL_law 1805 = .ok (.iconst 0, 1) := dk_3 (dk_at dksL_law_70 7 rfl rfl)
theorem dL_law_1806 : decode cL_law 1806 = .ok (.laload, 1) := dk_47 (dk_at dksL_law_70 8 rfl rfl)
theorem dL_law_1807 : decode cL_law 1807 = .ok (.iload 6, 2) := dk_21 6 (dk_at dksL_law_70 9 rfl rfl)
theorem dL_law_1809 : decode cL_law 1809 = .ok (.i2l, 1) := dk_133 (dk_at dksL_law_70 11 rfl rfl)
theorem dL_law_1810 : decode cL_law 1810 = .ok (.lcmp, 1) := dk_148 (dk_at dksL_law_70 12 rfl rfl)
theorem dL_law_1811 : decode cL_law 1811 = .ok (.ifCond .eq 5, 3) := dk_153 0 5 (dk_at dksL_law_70 13 rfl rfl)
theorem dL_law_1814 : decode cL_law 1814 = .ok (.iconst 0, 1) := dk_3 (dk_at dksL_law_70 16 rfl rfl)
theorem dL_law_1815 : decode cL_law 1815 = .ok (.ireturn, 1) := dk_172 (dk_at dksL_law_70 17 rfl rfl)
theorem dL_law_1816 : decode cL_law 1816 = .ok (.goto 274, 3) := dk_167 1 18 (dk_at dksL_law_70 18 rfl rfl)
theorem dL_law_1819 : decode cL_law 1819 = .ok (.aload_n 1, 1) := dk_43 (dk_at dksL_law_70 21 rfl rfl)
theorem dL_law_1820 : decode cL_law 1820 = .ok (.invokevirtual 215, 3) := dk_182 0 215 (dk_at dksL_law_71 0 rfl rfl)
theorem dL_law_1823 : decode cL_law 1823 = .ok (.dstore 5, 2) := dk_57 5 (dk_at dksL_law_71 3 rfl rfl)
theorem dL_law_1825 : decode cL_law 1825 = .ok (.aload_n 2, 1) := dk_44 (dk_at dksL_law_71 5 rfl rfl)
theorem dL_law_1826 : decode cL_law 1826 = .ok (.invokevirtual 219, 3) := dk_182 0 219 (dk_at dksL_law_71 6 rfl rfl)
theorem dL_law_1829 : decode cL_law 1829 = .ok (.dstore 7, 2) := dk_57 7 (dk_at dksL_law_71 9 rfl rfl)
theorem dL_law_1831 : decode cL_law 1831 = .ok (.dload 5, 2) := dk_24 5 (dk_at dksL_law_71 11 rfl rfl)
theorem dL_law_1833 : decode cL_law 1833 = .ok (.dload 7, 2) := dk_24 7 (dk_at dksL_law_71 13 rfl rfl)
theorem dL_law_1835 : decode cL_law 1835 = .ok (.dcmp .l, 1) := dk_151 (dk_at dksL_law_71 15 rfl rfl)
theorem dL_law_1836 : decode cL_law 1836 = .ok (.ifCond .eq 21, 3) := dk_153 0 21 (dk_at dksL_law_71 16 rfl rfl)
theorem dL_law_1839 : decode cL_law 1839 = .ok (.dload 5, 2) := dk_24 5 (dk_at dksL_law_71 19 rfl rfl)
theorem dL_law_1841 : decode cL_law 1841 = .ok (.dload 5, 2) := dk_24 5 (dk_at dksL_law_71 21 rfl rfl)
theorem dL_law_1843 : decode cL_law 1843 = .ok (.dcmp .l, 1) := dk_151 (dk_at dksL_law_71 23 rfl rfl)
theorem dL_law_1844 : decode cL_law 1844 = .ok (.ifCond .eq 11, 3) := dk_153 0 11 (dk_at dksL_law_72 0 rfl rfl)
theorem dL_law_1847 : decode cL_law 1847 = .ok (.dload 7, 2) := dk_24 7 (dk_at dksL_law_72 3 rfl rfl)
theorem dL_law_1849 : decode cL_law 1849 = .ok (.dload 7, 2) := dk_24 7 (dk_at dksL_law_72 5 rfl rfl)
theorem dL_law_1851 : decode cL_law 1851 = .ok (.dcmp .l, 1) := dk_151 (dk_at dksL_law_72 7 rfl rfl)
theorem dL_law_1852 : decode cL_law 1852 = .ok (.ifCond .ne 5, 3) := dk_154 0 5 (dk_at dksL_law_72 8 rfl rfl)
theorem dL_law_1855 : decode cL_law 1855 = .ok (.iconst 0, 1) := dk_3 (dk_at dksL_law_72 11 rfl rfl)
theorem dL_law_1856 : decode cL_law 1856 = .ok (.ireturn, 1) := dk_172 (dk_at dksL_law_72 12 rfl rfl)
theorem dL_law_1857 : decode cL_law 1857 = .ok (.goto 233, 3) := dk_167 0 233 (dk_at dksL_law_72 13 rfl rfl)
theorem dL_law_1860 : decode cL_law 1860 = .ok (.aload_n 1, 1) := dk_43 (dk_at dksL_law_72 16 rfl rfl)
theorem dL_law_1861 : decode cL_law 1861 = .ok (.invokevirtual 220, 3) := dk_182 0 220 (dk_at dksL_law_72 17 rfl rfl)
theorem dL_law_1864 : decode cL_law 1864 = .ok (.f2d, 1) := dk_141 (dk_at dksL_law_72 20 rfl rfl)
theorem dL_law_1865 : decode cL_law 1865 = .ok (.dstore 5, 2) := dk_57 5 (dk_at dksL_law_72 21 rfl rfl)
theorem dL_law_1867 : decode cL_law 1867 = .ok (.aload_n 2, 1) := dk_44 (dk_at dksL_law_72 23 rfl rfl)
theorem dL_law_1868 : decode cL_law 1868 = .ok (.invokevirtual 224, 3) := dk_182 0 224 (dk_at dksL_law_73 0 rfl rfl)
theorem dL_law_1871 : decode cL_law 1871 = .ok (.f2d, 1) := dk_141 (dk_at dksL_law_73 3 rfl rfl)
theorem dL_law_1872 : decode cL_law 1872 = .ok (.dstore 7, 2) := dk_57 7 (dk_at dksL_law_73 4 rfl rfl)
theorem dL_law_1874 : decode cL_law 1874 = .ok (.dload 5, 2) := dk_24 5 (dk_at dksL_law_73 6 rfl rfl)
theorem dL_law_1876 : decode cL_law 1876 = .ok (.dload 7, 2) := dk_24 7 (dk_at dksL_law_73 8 rfl rfl)
theorem dL_law_1878 : decode cL_law 1878 = .ok (.dcmp .l, 1) := dk_151 (dk_at dksL_law_73 10 rfl rfl)
theorem dL_law_1879 : decode cL_law 1879 = .ok (.ifCond .eq 21, 3) := dk_153 0 21 (dk_at dksL_law_73 11 rfl rfl)
theorem dL_law_1882 : decode cL_law 1882 = .ok (.dload 5, 2) := dk_24 5 (dk_at dksL_law_73 14 rfl rfl)
theorem dL_law_1884 : decode cL_law 1884 = .ok (.dload 5, 2) := dk_24 5 (dk_at dksL_law_73 16 rfl rfl)
theorem dL_law_1886 : decode cL_law 1886 = .ok (.dcmp .l, 1) := dk_151 (dk_at dksL_law_73 18 rfl rfl)
theorem dL_law_1887 : decode cL_law 1887 = .ok (.ifCond .eq 11, 3) := dk_153 0 11 (dk_at dksL_law_73 19 rfl rfl)
theorem dL_law_1890 : decode cL_law 1890 = .ok (.dload 7, 2) := dk_24 7 (dk_at dksL_law_73 22 rfl rfl)
theorem dL_law_1892 : decode cL_law 1892 = .ok (.dload 7, 2) := dk_24 7 (dk_at dksL_law_74 0 rfl rfl)
theorem dL_law_1894 : decode cL_law 1894 = .ok (.dcmp .l, 1) := dk_151 (dk_at dksL_law_74 2 rfl rfl)
theorem dL_law_1895 : decode cL_law 1895 = .ok (.ifCond .ne 5, 3) := dk_154 0 5 (dk_at dksL_law_74 3 rfl rfl)
theorem dL_law_1898 : decode cL_law 1898 = .ok (.iconst 0, 1) := dk_3 (dk_at dksL_law_74 6 rfl rfl)
theorem dL_law_1899 : decode cL_law 1899 = .ok (.ireturn, 1) := dk_172 (dk_at dksL_law_74 7 rfl rfl)
theorem dL_law_1900 : decode cL_law 1900 = .ok (.goto 190, 3) := dk_167 0 190 (dk_at dksL_law_74 8 rfl rfl)
theorem dL_law_1903 : decode cL_law 1903 = .ok (.aload_n 1, 1) := dk_43 (dk_at dksL_law_74 11 rfl rfl)
theorem dL_law_1904 : decode cL_law 1904 = .ok (.aload_n 0, 1) := dk_42 (dk_at dksL_law_74 12 rfl rfl)
theorem dL_law_1905 : decode cL_law 1905 = .ok (.iload 4, 2) := dk_21 4 (dk_at dksL_law_74 13 rfl rfl)
theorem dL_law_1907 : decode cL_law 1907 = .ok (.iconst 1, 1) := dk_4 (dk_at dksL_law_74 15 rfl rfl)
theorem dL_law_1908 : decode cL_law 1908 = .ok (.iadd, 1) := dk_96 (dk_at dksL_law_74 16 rfl rfl)
theorem dL_law_1909 : decode cL_law 1909 = .ok (.iaload, 1) := dk_46 (dk_at dksL_law_74 17 rfl rfl)
theorem dL_law_1910 : decode cL_law 1910 = .ok (.aload_n 3, 1) := dk_45 (dk_at dksL_law_74 18 rfl rfl)
theorem dL_law_1911 : decode cL_law 1911 = .ok (.invokestatic 225, 3) := dk_184 0 225 (dk_at dksL_law_74 19 rfl rfl)
theorem dL_law_1914 : decode cL_law 1914 = .ok (.istore 5, 2) := dk_54 5 (dk_at dksL_law_74 22 rfl rfl)
theorem dL_law_1916 : decode cL_law 1916 = .ok (.aload_n 2, 1) := dk_44 (dk_at dksL_law_75 0 rfl rfl)
theorem dL_law_1917 : decode cL_law 1917 = .ok (.aload_n 0, 1) := dk_42 (dk_at dksL_law_75 1 rfl rfl)
theorem dL_law_1918 : decode cL_law 1918 = .ok (.iload 4, 2) := dk_21 4 (dk_at dksL_law_75 2 rfl rfl)
theorem dL_law_1920 : decode cL_law 1920 = .ok (.iconst 1, 1) := dk_4 (dk_at dksL_law_75 4 rfl rfl)
theorem dL_law_1921 : decode cL_law 1921 = .ok (.iadd, 1) := dk_96 (dk_at dksL_law_75 5 rfl rfl)
theorem dL_law_1922 : decode cL_law 1922 = .ok (.iaload, 1) := dk_46 (dk_at dksL_law_75 6 rfl rfl)
theorem dL_law_1923 : decode cL_law 1923 = .ok (.invokevirtual 227, 3) := dk_182 0 227 (dk_at dksL_law_75 7 rfl rfl)
theorem dL_law_1926 : decode cL_law 1926 = .ok (.istore 6, 2) := dk_54 6 (dk_at dksL_law_75 10 rfl rfl)
theorem dL_law_1928 : decode cL_law 1928 = .ok (.aload_n 2, 1) := dk_44 (dk_at dksL_law_75 12 rfl rfl)
theorem dL_law_1929 : decode cL_law 1929 = .ok (.invokevirtual 102, 3) := dk_182 0 102 (dk_at dksL_law_75 13 rfl rfl)
theorem dL_law_1932 : decode cL_law 1932 = .ok (.iload 5, 2) := dk_21 5 (dk_at dksL_law_75 16 rfl rfl)
theorem dL_law_1934 : decode cL_law 1934 = .ok (.if_icmp .eq 5, 3) := dk_159 0 5 (dk_at dksL_law_75 18 rfl rfl)
theorem dL_law_1937 : decode cL_law 1937 = .ok (.iconst 0, 1) := dk_3 (dk_at dksL_law_75 21 rfl rfl)
theorem dL_law_1938 : decode cL_law 1938 = .ok (.ireturn, 1) := dk_172 (dk_at dksL_law_75 22 rfl rfl)
theorem dL_law_1939 : decode cL_law 1939 = .ok (.iload 5, 2) := dk_21 5 (dk_at dksL_law_76 0 rfl rfl)
theorem dL_law_1941 : decode cL_law 1941 = .ok (.ifCond .ne 15, 3) := dk_154 0 15 (dk_at dksL_law_76 2 rfl rfl)
theorem dL_law_1944 : decode cL_law 1944 = .ok (.aload_n 3, 1) := dk_45 (dk_at dksL_law_76 5 rfl rfl)
theorem dL_law_1945 : decode cL_law 1945 = .ok (.iconst 0, 1) := dk_3 (dk_at dksL_law_76 6 rfl rfl)
theorem dL_law_1946 : decode cL_law 1946 = .ok (.laload, 1) := dk_47 (dk_at dksL_law_76 7 rfl rfl)
theorem dL_law_1947 : decode cL_law 1947 = .ok (.iload 6, 2) := dk_21 6 (dk_at dksL_law_76 8 rfl rfl)
theorem dL_law_1949 : decode cL_law 1949 = .ok (.i2l, 1) := dk_133 (dk_at dksL_law_76 10 rfl rfl)
theorem dL_law_1950 : decode cL_law 1950 = .ok (.lcmp, 1) := dk_148 (dk_at dksL_law_76 11 rfl rfl)
theorem dL_law_1951 : decode cL_law 1951 = .ok (.ifCond .eq 5, 3) := dk_153 0 5 (dk_at dksL_law_76 12 rfl rfl)
theorem dL_law_1954 : decode cL_law 1954 = .ok (.iconst 0, 1) := dk_3 (dk_at dksL_law_76 15 rfl rfl)
theorem dL_law_1955 : decode cL_law 1955 = .ok (.ireturn, 1) := dk_172 (dk_at dksL_law_76 16 rfl rfl)
theorem dL_law_1956 : decode cL_law 1956 = .ok (.goto 134, 3) := dk_167 0 134 (dk_at dksL_law_76 17 rfl rfl)
theorem dL_law_1959 : decode cL_law 1959 = .ok (.aload_n 1, 1) := dk_43 (dk_at dksL_law_76 20 rfl rfl)
theorem dL_law_1960 : decode cL_law 1960 = .ok (.aload_n 0, 1) := dk_42 (dk_at dksL_law_76 21 rfl rfl)
theorem dL_law_1961 : decode cL_law 1961 = .ok (.iload 4, 2) := dk_21 4 (dk_at dksL_law_76 22 rfl rfl)
theorem dL_law_1963 : decode cL_law 1963 = .ok (.iconst 1, 1) := dk_4 (dk_at dksL_law_77 0 rfl rfl)
theorem dL_law_1964 : decode cL_law 1964 = .ok (.iadd, 1) := dk_96 (dk_at dksL_law_77 1 rfl rfl)
theorem dL_law_1965 : decode cL_law 1965 = .ok (.iaload, 1) := dk_46 (dk_at dksL_law_77 2 rfl rfl)
theorem dL_law_1966 : decode cL_law 1966 = .ok (.invokevirtual 228, 3) := dk_182 0 228 (dk_at dksL_law_77 3 rfl rfl)
theorem dL_law_1969 : decode cL_law 1969 = .ok (.aload_n 2, 1) := dk_44 (dk_at dksL_law_77 6 rfl rfl)
theorem dL_law_1970 : decode cL_law 1970 = .ok (.aload_n 0, 1) := dk_42 (dk_at dksL_law_77 7 rfl rfl)
theorem dL_law_1971 : decode cL_law 1971 = .ok (.iload 4, 2) := dk_21 4 (dk_at dksL_law_77 8 rfl rfl)
theorem dL_law_1973 : decode cL_law 1973 = .ok (.iconst 1, 1) := dk_4 (dk_at dksL_law_77 10 rfl rfl)
theorem dL_law_1974 : decode cL_law 1974 = .ok (.iadd, 1) := dk_96 (dk_at dksL_law_77 11 rfl rfl)
theorem dL_law_1975 : decode cL_law 1975 = .ok (.iaload, 1) := dk_46 (dk_at dksL_law_77 12 rfl rfl)
theorem dL_law_1976 : decode cL_law 1976 = .ok (.invokevirtual 231, 3) := dk_182 0 231 (dk_at dksL_law_77 13 rfl rfl)
theorem dL_law_1979 : decode cL_law 1979 = .ok (.if_icmp .eq 111, 3) := dk_159 0 111 (dk_at dksL_law_77 16 rfl rfl)
theorem dL_law_1982 : decode cL_law 1982 = .ok (.iconst 0, 1) := dk_3 (dk_at dksL_law_77 19 rfl rfl)
theorem dL_law_1983 : decode cL_law 1983 = .ok (.ireturn, 1) := dk_172 (dk_at dksL_law_77 20 rfl rfl)
theorem dL_law_1984 : decode cL_law 1984 = .ok (.aload_n 1, 1) := dk_43 (dk_at dksL_law_77 21 rfl rfl)
theorem dL_law_1985 : decode cL_law 1985 = .ok (.invokevirtual 232, 3) := dk_182 0 232 (dk_at dksL_law_78 0 rfl rfl)
theorem dL_law_1988 : decode cL_law 1988 = .ok (.aload_n 2, 1) := dk_44 (dk_at dksL_law_78 3 rfl rfl)
theorem dL_law_1989 : decode cL_law 1989 = .ok (.invokevirtual 235, 3) := dk_182 0 235 (dk_at dksL_law_78 4 rfl rfl)
theorem dL_law_1992 : decode cL_law 1992 = .ok (.if_icmp .eq 98, 3) := dk_159 0 98 (dk_at dksL_law_78 7 rfl rfl)
theorem dL_law_1995 : decode cL_law 1995 = .ok (.iconst 0, 1) := dk_3 (dk_at dksL_law_78 10 rfl rfl)
theorem dL_law_1996 : decode cL_law 1996 = .ok (.ireturn, 1) := dk_172 (dk_at dksL_law_78 11 rfl rfl)
theorem dL_law_1997 : decode cL_law 1997 = .ok (.aload_n 1, 1) := dk_43 (dk_at dksL_law_78 12 rfl rfl)
theorem dL_law_1998 : decode cL_law 1998 = .ok (.invokevirtual 236, 3) := dk_182 0 236 (dk_at dksL_law_78 13 rfl rfl)
theorem dL_law_2001 : decode cL_law 2001 = .ok (.aload_n 2, 1) := dk_44 (dk_at dksL_law_78 16 rfl rfl)
theorem dL_law_2002 : decode cL_law 2002 = .ok (.invokevirtual 239, 3) := dk_182 0 239 (dk_at dksL_law_78 17 rfl rfl)
theorem dL_law_2005 : decode cL_law 2005 = .ok (.if_icmp .eq 85, 3) := dk_159 0 85 (dk_at dksL_law_78 20 rfl rfl)
theorem dL_law_2008 : decode cL_law 2008 = .ok (.iconst 0, 1) := dk_3 (dk_at dksL_law_78 23 rfl rfl)
theorem dL_law_2009 : decode cL_law 2009 = .ok (.ireturn, 1) := dk_172 (dk_at dksL_law_79 0 rfl rfl)
theorem dL_law_2010 : decode cL_law 2010 = .ok (.aload_n 1, 1) := dk_43 (dk_at dksL_law_79 1 rfl rfl)
theorem dL_law_2011 : decode cL_law 2011 = .ok (.invokevirtual 240, 3) := dk_182 0 240 (dk_at dksL_law_79 2 rfl rfl)
theorem dL_law_2014 : decode cL_law 2014 = .ok (.aload_n 2, 1) := dk_44 (dk_at dksL_law_79 5 rfl rfl)
theorem dL_law_2015 : decode cL_law 2015 = .ok (.invokevirtual 243, 3) := dk_182 0 243 (dk_at dksL_law_79 6 rfl rfl)
theorem dL_law_2018 : decode cL_law 2018 = .ok (.goto 72, 3) := dk_167 0 72 (dk_at dksL_law_79 9 rfl rfl)
theorem dL_law_2021 : decode cL_law 2021 = .ok (.aload_n 1, 1) := dk_43 (dk_at dksL_law_79 12 rfl rfl)
theorem dL_law_2022 : decode cL_law 2022 = .ok (.invokevirtual 244, 3) := dk_182 0 244 (dk_at dksL_law_79 13 rfl rfl)
theorem dL_law_2025 : decode cL_law 2025 = .ok (.aload_n 2, 1) := dk_44 (dk_at dksL_law_79 16 rfl rfl)
theorem dL_law_2026 : decode cL_law 2026 = .ok (.invokevirtual 248, 3) := dk_182 0 248 (dk_at dksL_law_79 17 rfl rfl)
theorem dL_law_2029 : decode cL_law 2029 = .ok (.if_icmp .eq 61, 3) := dk_159 0 61 (dk_at dksL_law_79 20 rfl rfl)
theorem dL_law_2032 : decode cL_law 2032 = .ok (.iconst 0, 1) := dk_3 (dk_at dksL_law_79 23 rfl rfl)
theorem dL_law_2033 : decode cL_law 2033 = .ok (.ireturn, 1) := dk_172 (dk_at dksL_law_80 0 rfl rfl)
theorem dL_law_2034 : decode cL_law 2034 = .ok (.aload_n 1, 1) := dk_43 (dk_at dksL_law_80 1 rfl rfl)
theorem dL_law_2035 : decode cL_law 2035 = .ok (.aload_n 0, 1) := dk_42 (dk_at dksL_law_80 2 rfl rfl)
theorem dL_law_2036 : decode cL_law 2036 = .ok (.iload 4, 2) := dk_21 4 (dk_at dksL_law_80 3 rfl rfl)
theorem dL_law_2038 : decode cL_law 2038 = .ok (.iconst 1, 1) := dk_4 (dk_at dksL_law_80 5 rfl rfl)
theorem dL_law_2039 : decode cL_law 2039 = .ok (.iadd, 1) := dk_96 (dk_at dksL_law_80 6 rfl rfl)
theorem dL_law_2040 : decode cL_law 2040 = .ok (.iaload, 1) := dk_46 (dk_at dksL_law_80 7 rfl rfl)
theorem dL_law_2041 : decode cL_law 2041 = .ok (.aload_n 3, 1) := dk_45 (dk_at dksL_law_80 8 rfl rfl)
theorem dL_law_2042 : decode cL_law 2042 = .ok (.invokestatic 249, 3) := dk_184 0 249 (dk_at dksL_law_80 9 rfl rfl)
theorem dL_law_2045 : decode cL_law 2045 = .ok (.istore 5, 2) := dk_54 5 (dk_at dksL_law_80 12 rfl rfl)
theorem dL_law_2047 : decode cL_law 2047 = .ok (.aload_n 2, 1) := dk_44 (dk_at dksL_law_80 14 rfl rfl)
theorem dL_law_2048 : decode cL_law 2048 = .ok (.aload_n 0, 1) := dk_42 (dk_at dksL_law_80 15 rfl rfl)
theorem dL_law_2049 : decode cL_law 2049 = .ok (.iload 4, 2) := dk_21 4 (dk_at dksL_law_80 16 rfl rfl)
theorem dL_law_2051 : decode cL_law 2051 = .ok (.iconst 1, 1) := dk_4 (dk_at dksL_law_80 18 rfl rfl)
theorem dL_law_2052 : decode cL_law 2052 = .ok (.iadd, 1) := dk_96 (dk_at dksL_law_80 19 rfl rfl)
theorem dL_law_2053 : decode cL_law 2053 = .ok (.iaload, 1) := dk_46 (dk_at dksL_law_80 20 rfl rfl)
theorem dL_law_2054 : decode cL_law 2054 = .ok (.invokevirtual 251, 3) := dk_182 0 251 (dk_at dksL_law_80 21 rfl rfl)
theorem dL_law_2057 : decode cL_law 2057 = .ok (.istore 6, 2) := dk_54 6 (dk_at dksL_law_81 0 rfl rfl)
theorem dL_law_2059 : decode cL_law 2059 = .ok (.aload_n 2, 1) := dk_44 (dk_at dksL_law_81 2 rfl rfl)
theorem dL_law_2060 : decode cL_law 2060 = .ok (.invokevirtual 102, 3) := dk_182 0 102 (dk_at dksL_law_81 3 rfl rfl)
theorem dL_law_2063 : decode cL_law 2063 = .ok (.iload 5, 2) := dk_21 5 (dk_at dksL_law_81 6 rfl rfl)
theorem dL_law_2065 : decode cL_law 2065 = .ok (.if_icmp .eq 5, 3) := dk_159 0 5 (dk_at dksL_law_81 8 rfl rfl)
theorem dL_law_2068 : decode cL_law 2068 = .ok (.iconst 0, 1) := dk_3 (dk_at dksL_law_81 11 rfl rfl)
theorem dL_law_2069 : decode cL_law 2069 = .ok (.ireturn, 1) := dk_172 (dk_at dksL_law_81 12 rfl rfl)
theorem dL_law_2070 : decode cL_law 2070 = .ok (.iload 5, 2) := dk_21 5 (dk_at dksL_law_81 13 rfl rfl)
theorem dL_law_2072 : decode cL_law 2072 = .ok (.ifCond .ne 15, 3) := dk_154 0 15 (dk_at dksL_law_81 15 rfl rfl)
theorem dL_law_2075 : decode cL_law 2075 = .ok (.aload_n 3, 1) := dk_45 (dk_at dksL_law_81 18 rfl rfl)
theorem dL_law_2076 : decode cL_law 2076 = .ok (.iconst 0, 1) := dk_3 (dk_at dksL_law_81 19 rfl rfl)
theorem dL_law_2077 : decode cL_law 2077 = .ok (.laload, 1) := dk_47 (dk_at dksL_law_81 20 rfl rfl)
theorem dL_law_2078 : decode cL_law 2078 = .ok (.iload 6, 2) := dk_21 6 (dk_at dksL_law_81 21 rfl rfl)
theorem dL_law_2080 : decode cL_law 2080 = .ok (.i2l, 1) := dk_133 (dk_at dksL_law_81 23 rfl rfl)
theorem dL_law_2081 : decode cL_law 2081 = .ok (.lcmp, 1) := dk_148 (dk_at dksL_law_82 0 rfl rfl)
theorem dL_law_2082 : decode cL_law 2082 = .ok (.ifCond .eq 5, 3) := dk_153 0 5 (dk_at dksL_law_82 1 rfl rfl)
theorem dL_law_2085 : decode cL_law 2085 = .ok (.iconst 0, 1) := dk_3 (dk_at dksL_law_82 4 rfl rfl)
theorem dL_law_2086 : decode cL_law 2086 = .ok (.ireturn, 1) := dk_172 (dk_at dksL_law_82 5 rfl rfl)
theorem dL_law_2087 : decode cL_law 2087 = .ok (.goto 3, 3) := dk_167 0 3 (dk_at dksL_law_82 6 rfl rfl)
theorem dL_law_2090 : decode cL_law 2090 = .ok (.iinc 4 6, 3) := dk_132 4 6 (dk_at dksL_law_82 9 rfl rfl)
theorem dL_law_2093 : decode cL_law 2093 = .ok (.goto (-2070), 3) := dk_167 247 234 (dk_at dksL_law_82 12 rfl rfl)
theorem dL_law_2096 : decode cL_law 2096 = .ok (.iconst 1, 1) := dk_4 (dk_at dksL_law_82 15 rfl rfl)
theorem dL_law_2097 : decode cL_law 2097 = .ok (.ireturn, 1) := dk_172 (dk_at dksL_law_82 16 rfl rfl)
