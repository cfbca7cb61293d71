/-! PostChaiseYardLaw -/
set_option maxRecDepth 100000
def RX0 : String := "PostChaiseYardLaw"
abbrev cX0_arrive : ByteArray := method_3_code
def yX0_arrive : MethodName := ⟨RX0, "arrive", "(LPostChaiseYard;II[J)I"⟩
def dkwX0_arrive_1 : List UInt8 := [172, 3, 172]
abbrev dktX0_arrive_1 : List UInt8 := dkwX0_arrive_1 ++ []
def dkwX0_arrive_0 : List UInt8 := [45, 3, 42, 27, 28, 182, 0, 7, 133, 80, 167, 0, 15, 58, 4, 4, 172, 58, 4, 5, 172, 58, 4, 6]
abbrev dktX0_arrive_0 : List UInt8 := dkwX0_arrive_0 ++ dktX0_arrive_1
theorem dksX0_arrive_0 : cX0_arrive.data.toList.drop 0 = dktX0_arrive_0 := by decide +kernel
theorem dksX0_arrive_1 : cX0_arrive.data.toList.drop 24 = dktX0_arrive_1 := dk_seg dksX0_arrive_0 24 rfl rfl
theorem dX0_arrive_0 : decode cX0_arrive 0 = .ok (.aload_n 3, 1) := dk_45 (dk_at dksX0_arrive_0 0 rfl rfl)
theorem dX0_arrive_1 : decode cX0_arrive 1 = .ok (.iconst 0, 1) := dk_3 (dk_at dksX0_arrive_0 1 rfl rfl)
theorem dX0_arrive_2 : decode cX0_arrive 2 = .ok (.aload_n 0, 1) := dk_42 (dk_at dksX0_arrive_0 2 rfl rfl)
theorem dX0_arrive_3 : decode cX0_arrive 3 = .ok (.iload_n 1, 1) := dk_27 (dk_at dksX0_arrive_0 3 rfl rfl)
theorem dX0_arrive_4 : decode cX0_arrive 4 = .ok (.iload_n 2, 1) := dk_28 (dk_at dksX0_arrive_0 4 rfl rfl)
theorem dX0_arrive_5 : decode cX0_arrive 5 = .ok (.invokevirtual 7, 3) := dk_182 0 7 (dk_at dksX0_arrive_0 5 rfl rfl)
theorem dX0_arrive_8 : decode cX0_arrive 8 = .ok (.i2l, 1) := dk_133 (dk_at dksX0_arrive_0 8 rfl rfl)
theorem dX0_arrive_9 : decode cX0_arrive 9 = .ok (.lastore, 1) := dk_80 (dk_at dksX0_arrive_0 9 rfl rfl)
theorem dX0_arrive_10 : decode cX0_arrive 10 = .ok (.goto 15, 3) := dk_167 0 15 (dk_at dksX0_arrive_0 10 rfl rfl)
theorem dX0_arrive_13 : decode cX0_arrive 13 = .ok (.astore 4, 2) := dk_58 4 (dk_at dksX0_arrive_0 13 rfl rfl)
theorem dX0_arrive_15 : decode cX0_arrive 15 = .ok (.iconst 1, 1) := dk_4 (dk_at dksX0_arrive_0 15 rfl rfl)
theorem dX0_arrive_16 : decode cX0_arrive 16 = .ok (.ireturn, 1) := dk_172 (dk_at dksX0_arrive_0 16 rfl rfl)
theorem dX0_arrive_17 : decode cX0_arrive 17 = .ok (.astore 4, 2) := dk_58 4 (dk_at dksX0_arrive_0 17 rfl rfl)
theorem dX0_arrive_19 : decode cX0_arrive 19 = .ok (.iconst 2, 1) := dk_5 (dk_at dksX0_arrive_0 19 rfl rfl)
theorem dX0_arrive_20 : decode cX0_arrive 20 = .ok (.ireturn, 1) := dk_172 (dk_at dksX0_arrive_0 20 rfl rfl)
theorem dX0_arrive_21 : decode cX0_arrive 21 = .ok (.astore 4, 2) := dk_58 4 (dk_at dksX0_arrive_0 21 rfl rfl)
theorem dX0_arrive_23 : decode cX0_arrive 23 = .ok (.iconst 3, 1) := dk_6 (dk_at dksX0_arrive_0 23 rfl rfl)
theorem dX0_arrive_24 : decode cX0_arrive 24 = .ok (.ireturn, 1) := dk_172 (dk_at dksX0_arrive_1 0 rfl rfl)
theorem dX0_arrive_25 : decode cX0_arrive 25 = .ok (.iconst 0, 1) := dk_3 (dk_at dksX0_arrive_1 1 rfl rfl)
theorem dX0_arrive_26 : decode cX0_arrive 26 = .ok (.ireturn, 1) := dk_172 (dk_at dksX0_arrive_1 2 rfl rfl)
abbrev cX0_giveUp : ByteArray := method_4_code
def yX0_giveUp : MethodName := ⟨RX0, "giveUp", "(LPostChaiseYard;I[J)I"⟩
def dkwX0_giveUp_0 : List UInt8 := [44, 3, 42, 27, 182, 0, 19, 133, 80, 167, 0, 9, 78, 4, 172, 78, 5, 172, 3, 172]
abbrev dktX0_giveUp_0 : List UInt8 := dkwX0_giveUp_0 ++ []
theorem dksX0_giveUp_0 : cX0_giveUp.data.toList.drop 0 = dktX0_giveUp_0 := by decide +kernel
theorem dX0_giveUp_0 : decode cX0_giveUp 0 = .ok (.aload_n 2, 1) := dk_44 (dk_at dksX0_giveUp_0 0 rfl rfl)
theorem dX0_giveUp_1 : decode cX0_giveUp 1 = .ok (.iconst 0, 1) := dk_3 (dk_at dksX0_giveUp_0 1 rfl rfl)
theorem dX0_giveUp_2 : decode cX0_giveUp 2 = .ok (.aload_n 0, 1) := dk_42 (dk_at dksX0_giveUp_0 2 rfl rfl)
theorem dX0_giveUp_3 : decode cX0_giveUp 3 = .ok (.iload_n 1, 1) := dk_27 (dk_at dksX0_giveUp_0 3 rfl rfl)
theorem dX0_giveUp_4 : decode cX0_giveUp 4 = .ok (.invokevirtual 19, 3) := dk_182 0 19 (dk_at dksX0_giveUp_0 4 rfl rfl)
theorem dX0_giveUp_7 : decode cX0_giveUp 7 = .ok (.i2l, 1) := dk_133 (dk_at dksX0_giveUp_0 7 rfl rfl)
theorem dX0_giveUp_8 : decode cX0_giveUp 8 = .ok (.lastore, 1) := dk_80 (dk_at dksX0_giveUp_0 8 rfl rfl)
theorem dX0_giveUp_9 : decode cX0_giveUp 9 = .ok (.goto 9, 3) := dk_167 0 9 (dk_at dksX0_giveUp_0 9 rfl rfl)
theorem dX0_giveUp_12 : decode cX0_giveUp 12 = .ok (.astore_n 3, 1) := dk_78 (dk_at dksX0_giveUp_0 12 rfl rfl)
theorem dX0_giveUp_13 : decode cX0_giveUp 13 = .ok (.iconst 1, 1) := dk_4 (dk_at dksX0_giveUp_0 13 rfl rfl)
theorem dX0_giveUp_14 : decode cX0_giveUp 14 = .ok (.ireturn, 1) := dk_172 (dk_at dksX0_giveUp_0 14 rfl rfl)
theorem dX0_giveUp_15 : decode cX0_giveUp 15 = .ok (.astore_n 3, 1) := dk_78 (dk_at dksX0_giveUp_0 15 rfl rfl)
theorem dX0_giveUp_16 : decode cX0_giveUp 16 = .ok (.iconst 2, 1) := dk_5 (dk_at dksX0_giveUp_0 16 rfl rfl)
theorem dX0_giveUp_17 : decode cX0_giveUp 17 = .ok (.ireturn, 1) := dk_172 (dk_at dksX0_giveUp_0 17 rfl rfl)
theorem dX0_giveUp_18 : decode cX0_giveUp 18 = .ok (.iconst 0, 1) := dk_3 (dk_at dksX0_giveUp_0 18 rfl rfl)
theorem dX0_giveUp_19 : decode cX0_giveUp 19 = .ok (.ireturn, 1) := dk_172 (dk_at dksX0_giveUp_0 19 rfl rfl)
abbrev cX0_pass : ByteArray := method_5_code
def yX0_pass : MethodName := ⟨RX0, "pass", "(LPostChaiseYard;I[J)I"⟩
def dkwX0_pass_0 : List UInt8 := [44, 3, 42, 27, 182, 0, 23, 133, 80, 167, 0, 9, 78, 4, 172, 78, 5, 172, 3, 172]
abbrev dktX0_pass_0 : List UInt8 := dkwX0_pass_0 ++ []
theorem dksX0_pass_0 : cX0_pass.data.toList.drop 0 = dktX0_pass_0 := by decide +kernel
theorem dX0_pass_0 : decode cX0_pass 0 = .ok (.aload_n 2, 1) := dk_44 (dk_at dksX0_pass_0 0 rfl rfl)
theorem dX0_pass_1 : decode cX0_pass 1 = .ok (.iconst 0, 1) := dk_3 (dk_at dksX0_pass_0 1 rfl rfl)
theorem dX0_pass_2 : decode cX0_pass 2 = .ok (.aload_n 0, 1) := dk_42 (dk_at dksX0_pass_0 2 rfl rfl)
theorem dX0_pass_3 : decode cX0_pass 3 = .ok (.iload_n 1, 1) := dk_27 (dk_at dksX0_pass_0 3 rfl rfl)
theorem dX0_pass_4 : decode cX0_pass 4 = .ok (.invokevirtual 23, 3) := dk_182 0 23 (dk_at dksX0_pass_0 4 rfl rfl)
theorem dX0_pass_7 : decode cX0_pass 7 = .ok (.i2l, 1) := dk_133 (dk_at dksX0_pass_0 7 rfl rfl)
theorem dX0_pass_8 : decode cX0_pass 8 = .ok (.lastore, 1) := dk_80 (dk_at dksX0_pass_0 8 rfl rfl)
theorem dX0_pass_9 : decode cX0_pass 9 = .ok (.goto 9, 3) := dk_167 0 9 (dk_at dksX0_pass_0 9 rfl rfl)
theorem dX0_pass_12 : decode cX0_pass 12 = .ok (.astore_n 3, 1) := dk_78 (dk_at dksX0_pass_0 12 rfl rfl)
theorem dX0_pass_13 : decode cX0_pass 13 = .ok (.iconst 1, 1) := dk_4 (dk_at dksX0_pass_0 13 rfl rfl)
theorem dX0_pass_14 : decode cX0_pass 14 = .ok (.ireturn, 1) := dk_172 (dk_at dksX0_pass_0 14 rfl rfl)
theorem dX0_pass_15 : decode cX0_pass 15 = .ok (.astore_n 3, 1) := dk_78 (dk_at dksX0_pass_0 15 rfl rfl)
theorem dX0_pass_16 : decode cX0_pass 16 = .ok (.iconst 2, 1) := dk_5 (dk_at dksX0_pass_0 16 rfl rfl)
theorem dX0_pass_17 : decode cX0_pass 17 = .ok (.ireturn, 1) := dk_172 (dk_at dksX0_pass_0 17 rfl rfl)
theorem dX0_pass_18 : decode cX0_pass 18 = .ok (.iconst 0, 1) := dk_3 (dk_at dksX0_pass_0 18 rfl rfl)
theorem dX0_pass_19 : decode cX0_pass 19 = .ok (.ireturn, 1) := dk_172 (dk_at dksX0_pass_0 19 rfl rfl)
abbrev cX0_addRest : ByteArray := method_6_code
def yX0_addRest : MethodName := ⟨RX0, "addRest", "(LPostChaiseYard;II[J)I"⟩
def dkwX0_addRest_1 : List UInt8 := [172, 3, 172]
abbrev dktX0_addRest_1 : List UInt8 := dkwX0_addRest_1 ++ []
def dkwX0_addRest_0 : List UInt8 := [45, 3, 42, 27, 28, 182, 0, 26, 133, 80, 167, 0, 15, 58, 4, 4, 172, 58, 4, 5, 172, 58, 4, 6]
abbrev dktX0_addRest_0 : List UInt8 := dkwX0_addRest_0 ++ dktX0_addRest_1
theorem dksX0_addRest_0 : cX0_addRest.data.toList.drop 0 = dktX0_addRest_0 := by decide +kernel
theorem dksX0_addRest_1 : cX0_addRest.data.toList.drop 24 = dktX0_addRest_1 := dk_seg dksX0_addRest_0 24 rfl rfl
theorem dX0_addRest_0 : decode cX0_addRest 0 = .ok (.aload_n 3, 1) := dk_45 (dk_at dksX0_addRest_0 0 rfl rfl)
theorem dX0_addRest_1 : decode cX0_addRest 1 = .ok (.iconst 0, 1) := dk_3 (dk_at dksX0_addRest_0 1 rfl rfl)
theorem dX0_addRest_2 : decode cX0_addRest 2 = .ok (.aload_n 0, 1) := dk_42 (dk_at dksX0_addRest_0 2 rfl rfl)
theorem dX0_addRest_3 : decode cX0_addRest 3 = .ok (.iload_n 1, 1) := dk_27 (dk_at dksX0_addRest_0 3 rfl rfl)
theorem dX0_addRest_4 : decode cX0_addRest 4 = .ok (.iload_n 2, 1) := dk_28 (dk_at dksX0_addRest_0 4 rfl rfl)
theorem dX0_addRest_5 : decode cX0_addRest 5 = .ok (.invokevirtual 26, 3) := dk_182 0 26 (dk_at dksX0_addRest_0 5 rfl rfl)
theorem dX0_addRest_8 : decode cX0_addRest 8 = .ok (.i2l, 1) := dk_133 (dk_at dksX0_addRest_0 8 rfl rfl)
theorem dX0_addRest_9 : decode cX0_addRest 9 = .ok (.lastore, 1) := dk_80 (dk_at dksX0_addRest_0 9 rfl rfl)
theorem dX0_addRest_10 : decode cX0_addRest 10 = .ok (.goto 15, 3) := dk_167 0 15 (dk_at dksX0_addRest_0 10 rfl rfl)
theorem dX0_addRest_13 : decode cX0_addRest 13 = .ok (.astore 4, 2) := dk_58 4 (dk_at dksX0_addRest_0 13 rfl rfl)
theorem dX0_addRest_15 : decode cX0_addRest 15 = .ok (.iconst 1, 1) := dk_4 (dk_at dksX0_addRest_0 15 rfl rfl)
theorem dX0_addRest_16 : decode cX0_addRest 16 = .ok (.ireturn, 1) := dk_172 (dk_at dksX0_addRest_0 16 rfl rfl)
theorem dX0_addRest_17 : decode cX0_addRest 17 = .ok (.astore 4, 2) := dk_58 4 (dk_at dksX0_addRest_0 17 rfl rfl)
theorem dX0_addRest_19 : decode cX0_addRest 19 = .ok (.iconst 2, 1) := dk_5 (dk_at dksX0_addRest_0 19 rfl rfl)
theorem dX0_addRest_20 : decode cX0_addRest 20 = .ok (.ireturn, 1) := dk_172 (dk_at dksX0_addRest_0 20 rfl rfl)
theorem dX0_addRest_21 : decode cX0_addRest 21 = .ok (.astore 4, 2) := dk_58 4 (dk_at dksX0_addRest_0 21 rfl rfl)
theorem dX0_addRest_23 : decode cX0_addRest 23 = .ok (.iconst 3, 1) := dk_6 (dk_at dksX0_addRest_0 23 rfl rfl)
theorem dX0_addRest_24 : decode cX0_addRest 24 = .ok (.ireturn, 1) := dk_172 (dk_at dksX0_addRest_1 0 rfl rfl)
theorem dX0_addRest_25 : decode cX0_addRest 25 = .ok (.iconst 0, 1) := dk_3 (dk_at dksX0_addRest_1 1 rfl rfl)
theorem dX0_addRest_26 : decode cX0_addRest 26 = .ok (.ireturn, 1) := dk_172 (dk_at dksX0_addRest_1 2 rfl rfl)
abbrev cX0_sendToBed : ByteArray := method_7_code
def yX0_sendToBed : MethodName := ⟨RX0, "sendToBed", "(LPostChaiseYard;I[J)I"⟩
def dkwX0_sendToBed_0 : List UInt8 := [44, 3, 42, 27, 182, 0, 29, 133, 80, 167, 0, 9, 78, 4, 172, 78, 5, 172, 3, 172]
abbrev dktX0_sendToBed_0 : List UInt8 := dkwX0_sendToBed_0 ++ []
theorem dksX0_sendToBed_0 : cX0_sendToBed.data.toList.drop 0 = dktX0_sendToBed_0 := by decide +kernel
theorem dX0_sendToBed_0 : decode cX0_sendToBed 0 = .ok (.aload_n 2, 1) := dk_44 (dk_at dksX0_sendToBed_0 0 rfl rfl)
theorem dX0_sendToBed_1 : decode cX0_sendToBed 1 = .ok (.iconst 0, 1) := dk_3 (dk_at dksX0_sendToBed_0 1 rfl rfl)
theorem dX0_sendToBed_2 : decode cX0_sendToBed 2 = .ok (.aload_n 0, 1) := dk_42 (dk_at dksX0_sendToBed_0 2 rfl rfl)
theorem dX0_sendToBed_3 : decode cX0_sendToBed 3 = .ok (.iload_n 1, 1) := dk_27 (dk_at dksX0_sendToBed_0 3 rfl rfl)
theorem dX0_sendToBed_4 : decode cX0_sendToBed 4 = .ok (.invokevirtual 29, 3) := dk_182 0 29 (dk_at dksX0_sendToBed_0 4 rfl rfl)
theorem dX0_sendToBed_7 : decode cX0_sendToBed 7 = .ok (.i2l, 1) := dk_133 (dk_at dksX0_sendToBed_0 7 rfl rfl)
theorem dX0_sendToBed_8 : decode cX0_sendToBed 8 = .ok (.lastore, 1) := dk_80 (dk_at dksX0_sendToBed_0 8 rfl rfl)
theorem dX0_sendToBed_9 : decode cX0_sendToBed 9 = .ok (.goto 9, 3) := dk_167 0 9 (dk_at dksX0_sendToBed_0 9 rfl rfl)
theorem dX0_sendToBed_12 : decode cX0_sendToBed 12 = .ok (.astore_n 3, 1) := dk_78 (dk_at dksX0_sendToBed_0 12 rfl rfl)
theorem dX0_sendToBed_13 : decode cX0_sendToBed 13 = .ok (.iconst 1, 1) := dk_4 (dk_at dksX0_sendToBed_0 13 rfl rfl)
theorem dX0_sendToBed_14 : decode cX0_sendToBed 14 = .ok (.ireturn, 1) := dk_172 (dk_at dksX0_sendToBed_0 14 rfl rfl)
theorem dX0_sendToBed_15 : decode cX0_sendToBed 15 = .ok (.astore_n 3, 1) := dk_78 (dk_at dksX0_sendToBed_0 15 rfl rfl)
theorem dX0_sendToBed_16 : decode cX0_sendToBed 16 = .ok (.iconst 2, 1) := dk_5 (dk_at dksX0_sendToBed_0 16 rfl rfl)
theorem dX0_sendToBed_17 : decode cX0_sendToBed 17 = .ok (.ireturn, 1) := dk_172 (dk_at dksX0_sendToBed_0 17 rfl rfl)
theorem dX0_sendToBed_18 : decode cX0_sendToBed 18 = .ok (.iconst 0, 1) := dk_3 (dk_at dksX0_sendToBed_0 18 rfl rfl)
theorem dX0_sendToBed_19 : decode cX0_sendToBed 19 = .ok (.ireturn, 1) := dk_172 (dk_at dksX0_sendToBed_0 19 rfl rfl)
abbrev cX0_callBoy : ByteArray := method_8_code
def yX0_callBoy : MethodName := ⟨RX0, "callBoy", "(LPostChaiseYard;I[J)I"⟩
def dkwX0_callBoy_0 : List UInt8 := [44, 3, 42, 27, 182, 0, 32, 133, 80, 167, 0, 9, 78, 4, 172, 78, 5, 172, 3, 172]
abbrev dktX0_callBoy_0 : List UInt8 := dkwX0_callBoy_0 ++ []
theorem dksX0_callBoy_0 : cX0_callBoy.data.toList.drop 0 = dktX0_callBoy_0 := by decide +kernel
theorem dX0_callBoy_0 : decode cX0_callBoy 0 = .ok (.aload_n 2, 1) := dk_44 (dk_at dksX0_callBoy_0 0 rfl rfl)
theorem dX0_callBoy_1 : decode cX0_callBoy 1 = .ok (.iconst 0, 1) := dk_3 (dk_at dksX0_callBoy_0 1 rfl rfl)
theorem dX0_callBoy_2 : decode cX0_callBoy 2 = .ok (.aload_n 0, 1) := dk_42 (dk_at dksX0_callBoy_0 2 rfl rfl)
theorem dX0_callBoy_3 : decode cX0_callBoy 3 = .ok (.iload_n 1, 1) := dk_27 (dk_at dksX0_callBoy_0 3 rfl rfl)
theorem dX0_callBoy_4 : decode cX0_callBoy 4 = .ok (.invokevirtual 32, 3) := dk_182 0 32 (dk_at dksX0_callBoy_0 4 rfl rfl)
theorem dX0_callBoy_7 : decode cX0_callBoy 7 = .ok (.i2l, 1) := dk_133 (dk_at dksX0_callBoy_0 7 rfl rfl)
theorem dX0_callBoy_8 : decode cX0_callBoy 8 = .ok (.lastore, 1) := dk_80 (dk_at dksX0_callBoy_0 8 rfl rfl)
theorem dX0_callBoy_9 : decode cX0_callBoy 9 = .ok (.goto 9, 3) := dk_167 0 9 (dk_at dksX0_callBoy_0 9 rfl rfl)
theorem dX0_callBoy_12 : decode cX0_callBoy 12 = .ok (.astore_n 3, 1) := dk_78 (dk_at dksX0_callBoy_0 12 rfl rfl)
theorem dX0_callBoy_13 : decode cX0_callBoy 13 = .ok (.iconst 1, 1) := dk_4 (dk_at dksX0_callBoy_0 13 rfl rfl)
theorem dX0_callBoy_14 : decode cX0_callBoy 14 = .ok (.ireturn, 1) := dk_172 (dk_at dksX0_callBoy_0 14 rfl rfl)
theorem dX0_callBoy_15 : decode cX0_callBoy 15 = .ok (.astore_n 3, 1) := dk_78 (dk_at dksX0_callBoy_0 15 rfl rfl)
theorem dX0_callBoy_16 : decode cX0_callBoy 16 = .ok (.iconst 2, 1) := dk_5 (dk_at dksX0_callBoy_0 16 rfl rfl)
theorem dX0_callBoy_17 : decode cX0_callBoy 17 = .ok (.ireturn, 1) := dk_172 (dk_at dksX0_callBoy_0 17 rfl rfl)
theorem dX0_callBoy_18 : decode cX0_callBoy 18 = .ok (.iconst 0, 1) := dk_3 (dk_at dksX0_callBoy_0 18 rfl rfl)
theorem dX0_callBoy_19 : decode cX0_callBoy 19 = .ok (.ireturn, 1) := dk_172 (dk_at dksX0_callBoy_0 19 rfl rfl)
abbrev cX0_putOnPole : ByteArray := method_9_code
def yX0_putOnPole : MethodName := ⟨RX0, "putOnPole", "(LPostChaiseYard;I[J)I"⟩
def dkwX0_putOnPole_0 : List UInt8 := [44, 3, 42, 27, 182, 0, 35, 133, 80, 167, 0, 9, 78, 4, 172, 78, 5, 172, 3, 172]
abbrev dktX0_putOnPole_0 : List UInt8 := dkwX0_putOnPole_0 ++ []
theorem dksX0_putOnPole_0 : cX0_putOnPole.data.toList.drop 0 = dktX0_putOnPole_0 := by decide +kernel
theorem dX0_putOnPole_0 : decode cX0_putOnPole 0 = .ok (.aload_n 2, 1) := dk_44 (dk_at dksX0_putOnPole_0 0 rfl rfl)
theorem dX0_putOnPole_1 : decode cX0_putOnPole 1 = .ok (.iconst 0, 1) := dk_3 (dk_at dksX0_putOnPole_0 1 rfl rfl)
theorem dX0_putOnPole_2 : decode cX0_putOnPole 2 = .ok (.aload_n 0, 1) := dk_42 (dk_at dksX0_putOnPole_0 2 rfl rfl)
theorem dX0_putOnPole_3 : decode cX0_putOnPole 3 = .ok (.iload_n 1, 1) := dk_27 (dk_at dksX0_putOnPole_0 3 rfl rfl)
theorem dX0_putOnPole_4 : decode cX0_putOnPole 4 = .ok (.invokevirtual 35, 3) := dk_182 0 35 (dk_at dksX0_putOnPole_0 4 rfl rfl)
theorem dX0_putOnPole_7 : decode cX0_putOnPole 7 = .ok (.i2l, 1) := dk_133 (dk_at dksX0_putOnPole_0 7 rfl rfl)
theorem dX0_putOnPole_8 : decode cX0_putOnPole 8 = .ok (.lastore, 1) := dk_80 (dk_at dksX0_putOnPole_0 8 rfl rfl)
theorem dX0_putOnPole_9 : decode cX0_putOnPole 9 = .ok (.goto 9, 3) := dk_167 0 9 (dk_at dksX0_putOnPole_0 9 rfl rfl)
theorem dX0_putOnPole_12 : decode cX0_putOnPole 12 = .ok (.astore_n 3, 1) := dk_78 (dk_at dksX0_putOnPole_0 12 rfl rfl)
theorem dX0_putOnPole_13 : decode cX0_putOnPole 13 = .ok (.iconst 1, 1) := dk_4 (dk_at dksX0_putOnPole_0 13 rfl rfl)
theorem dX0_putOnPole_14 : decode cX0_putOnPole 14 = .ok (.ireturn, 1) := dk_172 (dk_at dksX0_putOnPole_0 14 rfl rfl)
theorem dX0_putOnPole_15 : decode cX0_putOnPole 15 = .ok (.astore_n 3, 1) := dk_78 (dk_at dksX0_putOnPole_0 15 rfl rfl)
theorem dX0_putOnPole_16 : decode cX0_putOnPole 16 = .ok (.iconst 2, 1) := dk_5 (dk_at dksX0_putOnPole_0 16 rfl rfl)
theorem dX0_putOnPole_17 : decode cX0_putOnPole 17 = .ok (.ireturn, 1) := dk_172 (dk_at dksX0_putOnPole_0 17 rfl rfl)
theorem dX0_putOnPole_18 : decode cX0_putOnPole 18 = .ok (.iconst 0, 1) := dk_3 (dk_at dksX0_putOnPole_0 18 rfl rfl)
theorem dX0_putOnPole_19 : decode cX0_putOnPole 19 = .ok (.ireturn, 1) := dk_172 (dk_at dksX0_putOnPole_0 19 rfl rfl)
abbrev cX0_setPace : ByteArray := method_10_code
def yX0_setPace : MethodName := ⟨RX0, "setPace", "(LPostChaiseYard;I[J)I"⟩
def dkwX0_setPace_0 : List UInt8 := [44, 3, 42, 27, 182, 0, 38, 133, 80, 167, 0, 6, 78, 4, 172, 3, 172]
abbrev dktX0_setPace_0 : List UInt8 := dkwX0_setPace_0 ++ []
theorem dksX0_setPace_0 : cX0_setPace.data.toList.drop 0 = dktX0_setPace_0 := by decide +kernel
theorem dX0_setPace_0 : decode cX0_setPace 0 = .ok (.aload_n 2, 1) := dk_44 (dk_at dksX0_setPace_0 0 rfl rfl)
theorem dX0_setPace_1 : decode cX0_setPace 1 = .ok (.iconst 0, 1) := dk_3 (dk_at dksX0_setPace_0 1 rfl rfl)
theorem dX0_setPace_2 : decode cX0_setPace 2 = .ok (.aload_n 0, 1) := dk_42 (dk_at dksX0_setPace_0 2 rfl rfl)
theorem dX0_setPace_3 : decode cX0_setPace 3 = .ok (.iload_n 1, 1) := dk_27 (dk_at dksX0_setPace_0 3 rfl rfl)
theorem dX0_setPace_4 : decode cX0_setPace 4 = .ok (.invokevirtual 38, 3) := dk_182 0 38 (dk_at dksX0_setPace_0 4 rfl rfl)
theorem dX0_setPace_7 : decode cX0_setPace 7 = .ok (.i2l, 1) := dk_133 (dk_at dksX0_setPace_0 7 rfl rfl)
theorem dX0_setPace_8 : decode cX0_setPace 8 = .ok (.lastore, 1) := dk_80 (dk_at dksX0_setPace_0 8 rfl rfl)
theorem dX0_setPace_9 : decode cX0_setPace 9 = .ok (.goto 6, 3) := dk_167 0 6 (dk_at dksX0_setPace_0 9 rfl rfl)
theorem dX0_setPace_12 : decode cX0_setPace 12 = .ok (.astore_n 3, 1) := dk_78 (dk_at dksX0_setPace_0 12 rfl rfl)
theorem dX0_setPace_13 : decode cX0_setPace 13 = .ok (.iconst 1, 1) := dk_4 (dk_at dksX0_setPace_0 13 rfl rfl)
theorem dX0_setPace_14 : decode cX0_setPace 14 = .ok (.ireturn, 1) := dk_172 (dk_at dksX0_setPace_0 14 rfl rfl)
theorem dX0_setPace_15 : decode cX0_setPace 15 = .ok (.iconst 0, 1) := dk_3 (dk_at dksX0_setPace_0 15 rfl rfl)
theorem dX0_setPace_16 : decode cX0_setPace 16 = .ok (.ireturn, 1) := dk_172 (dk_at dksX0_setPace_0 16 rfl rfl)
abbrev cX0_setPoleLimit : ByteArray := method_11_code
def yX0_setPoleLimit : MethodName := ⟨RX0, "setPoleLimit", "(LPostChaiseYard;I[J)I"⟩
def dkwX0_setPoleLimit_0 : List UInt8 := [44, 3, 42, 27, 182, 0, 41, 133, 80, 167, 0, 6, 78, 4, 172, 3, 172]
abbrev dktX0_setPoleLimit_0 : List UInt8 := dkwX0_setPoleLimit_0 ++ []
theorem dksX0_setPoleLimit_0 : cX0_setPoleLimit.data.toList.drop 0 = dktX0_setPoleLimit_0 := by decide +kernel
theorem dX0_setPoleLimit_0 : decode cX0_setPoleLimit 0 = .ok (.aload_n 2, 1) := dk_44 (dk_at dksX0_setPoleLimit_0 0 rfl rfl)
theorem dX0_setPoleLimit_1 : decode cX0_setPoleLimit 1 = .ok (.iconst 0, 1) := dk_3 (dk_at dksX0_setPoleLimit_0 1 rfl rfl)
theorem dX0_setPoleLimit_2 : decode cX0_setPoleLimit 2 = .ok (.aload_n 0, 1) := dk_42 (dk_at dksX0_setPoleLimit_0 2 rfl rfl)
theorem dX0_setPoleLimit_3 : decode cX0_setPoleLimit 3 = .ok (.iload_n 1, 1) := dk_27 (dk_at dksX0_setPoleLimit_0 3 rfl rfl)
theorem dX0_setPoleLimit_4 : decode cX0_setPoleLimit 4 = .ok (.invokevirtual 41, 3) := dk_182 0 41 (dk_at dksX0_setPoleLimit_0 4 rfl rfl)
theorem dX0_setPoleLimit_7 : decode cX0_setPoleLimit 7 = .ok (.i2l, 1) := dk_133 (dk_at dksX0_setPoleLimit_0 7 rfl rfl)
theorem dX0_setPoleLimit_8 : decode cX0_setPoleLimit 8 = .ok (.lastore, 1) := dk_80 (dk_at dksX0_setPoleLimit_0 8 rfl rfl)
theorem dX0_setPoleLimit_9 : decode cX0_setPoleLimit 9 = .ok (.goto 6, 3) := dk_167 0 6 (dk_at dksX0_setPoleLimit_0 9 rfl rfl)
theorem dX0_setPoleLimit_12 : decode cX0_setPoleLimit 12 = .ok (.astore_n 3, 1) := dk_78 (dk_at dksX0_setPoleLimit_0 12 rfl rfl)
theorem dX0_setPoleLimit_13 : decode cX0_setPoleLimit 13 = .ok (.iconst 1, 1) := dk_4 (dk_at dksX0_setPoleLimit_0 13 rfl rfl)
theorem dX0_setPoleLimit_14 : decode cX0_setPoleLimit 14 = .ok (.ireturn, 1) := dk_172 (dk_at dksX0_setPoleLimit_0 14 rfl rfl)
theorem dX0_setPoleLimit_15 : decode cX0_setPoleLimit 15 = .ok (.iconst 0, 1) := dk_3 (dk_at dksX0_setPoleLimit_0 15 rfl rfl)
theorem dX0_setPoleLimit_16 : decode cX0_setPoleLimit 16 = .ok (.ireturn, 1) := dk_172 (dk_at dksX0_setPoleLimit_0 16 rfl rfl)
abbrev cX0_rankOf : ByteArray := method_12_code
def yX0_rankOf : MethodName := ⟨RX0, "rankOf", "(LPostChaiseYard;I[J)I"⟩
def dkwX0_rankOf_0 : List UInt8 := [44, 3, 42, 27, 182, 0, 44, 133, 80, 167, 0, 6, 78, 4, 172, 3, 172]
abbrev dktX0_rankOf_0 : List UInt8 := dkwX0_rankOf_0 ++ []
theorem dksX0_rankOf_0 : cX0_rankOf.data.toList.drop 0 = dktX0_rankOf_0 := by decide +kernel
theorem dX0_rankOf_0 : decode cX0_rankOf 0 = .ok (.aload_n 2, 1) := dk_44 (dk_at dksX0_rankOf_0 0 rfl rfl)
theorem dX0_rankOf_1 : decode cX0_rankOf 1 = .ok (.iconst 0, 1) := dk_3 (dk_at dksX0_rankOf_0 1 rfl rfl)
theorem dX0_rankOf_2 : decode cX0_rankOf 2 = .ok (.aload_n 0, 1) := dk_42 (dk_at dksX0_rankOf_0 2 rfl rfl)
theorem dX0_rankOf_3 : decode cX0_rankOf 3 = .ok (.iload_n 1, 1) := dk_27 (dk_at dksX0_rankOf_0 3 rfl rfl)
theorem dX0_rankOf_4 : decode cX0_rankOf 4 = .ok (.invokevirtual 44, 3) := dk_182 0 44 (dk_at dksX0_rankOf_0 4 rfl rfl)
theorem dX0_rankOf_7 : decode cX0_rankOf 7 = .ok (.i2l, 1) := dk_133 (dk_at dksX0_rankOf_0 7 rfl rfl)
theorem dX0_rankOf_8 : decode cX0_rankOf 8 = .ok (.lastore, 1) := dk_80 (dk_at dksX0_rankOf_0 8 rfl rfl)
theorem dX0_rankOf_9 : decode cX0_rankOf 9 = .ok (.goto 6, 3) := dk_167 0 6 (dk_at dksX0_rankOf_0 9 rfl rfl)
theorem dX0_rankOf_12 : decode cX0_rankOf 12 = .ok (.astore_n 3, 1) := dk_78 (dk_at dksX0_rankOf_0 12 rfl rfl)
theorem dX0_rankOf_13 : decode cX0_rankOf 13 = .ok (.iconst 1, 1) := dk_4 (dk_at dksX0_rankOf_0 13 rfl rfl)
theorem dX0_rankOf_14 : decode cX0_rankOf 14 = .ok (.ireturn, 1) := dk_172 (dk_at dksX0_rankOf_0 14 rfl rfl)
theorem dX0_rankOf_15 : decode cX0_rankOf 15 = .ok (.iconst 0, 1) := dk_3 (dk_at dksX0_rankOf_0 15 rfl rfl)
theorem dX0_rankOf_16 : decode cX0_rankOf 16 = .ok (.ireturn, 1) := dk_172 (dk_at dksX0_rankOf_0 16 rfl rfl)
abbrev cX0_roadOf : ByteArray := method_13_code
def yX0_roadOf : MethodName := ⟨RX0, "roadOf", "(LPostChaiseYard;I[J)I"⟩
def dkwX0_roadOf_0 : List UInt8 := [44, 3, 42, 27, 182, 0, 47, 133, 80, 167, 0, 6, 78, 4, 172, 3, 172]
abbrev dktX0_roadOf_0 : List UInt8 := dkwX0_roadOf_0 ++ []
theorem dksX0_roadOf_0 : cX0_roadOf.data.toList.drop 0 = dktX0_roadOf_0 := by decide +kernel
theorem dX0_roadOf_0 : decode cX0_roadOf 0 = .ok (.aload_n 2, 1) := dk_44 (dk_at dksX0_roadOf_0 0 rfl rfl)
theorem dX0_roadOf_1 : decode cX0_roadOf 1 = .ok (.iconst 0, 1) := dk_3 (dk_at dksX0_roadOf_0 1 rfl rfl)
theorem dX0_roadOf_2 : decode cX0_roadOf 2 = .ok (.aload_n 0, 1) := dk_42 (dk_at dksX0_roadOf_0 2 rfl rfl)
theorem dX0_roadOf_3 : decode cX0_roadOf 3 = .ok (.iload_n 1, 1) := dk_27 (dk_at dksX0_roadOf_0 3 rfl rfl)
theorem dX0_roadOf_4 : decode cX0_roadOf 4 = .ok (.invokevirtual 47, 3) := dk_182 0 47 (dk_at dksX0_roadOf_0 4 rfl rfl)
theorem dX0_roadOf_7 : decode cX0_roadOf 7 = .ok (.i2l, 1) := dk_133 (dk_at dksX0_roadOf_0 7 rfl rfl)
theorem dX0_roadOf_8 : decode cX0_roadOf 8 = .ok (.lastore, 1) := dk_80 (dk_at dksX0_roadOf_0 8 rfl rfl)
theorem dX0_roadOf_9 : decode cX0_roadOf 9 = .ok (.goto 6, 3) := dk_167 0 6 (dk_at dksX0_roadOf_0 9 rfl rfl)
theorem dX0_roadOf_12 : decode cX0_roadOf 12 = .ok (.astore_n 3, 1) := dk_78 (dk_at dksX0_roadOf_0 12 rfl rfl)
theorem dX0_roadOf_13 : decode cX0_roadOf 13 = .ok (.iconst 1, 1) := dk_4 (dk_at dksX0_roadOf_0 13 rfl rfl)
theorem dX0_roadOf_14 : decode cX0_roadOf 14 = .ok (.ireturn, 1) := dk_172 (dk_at dksX0_roadOf_0 14 rfl rfl)
theorem dX0_roadOf_15 : decode cX0_roadOf 15 = .ok (.iconst 0, 1) := dk_3 (dk_at dksX0_roadOf_0 15 rfl rfl)
theorem dX0_roadOf_16 : decode cX0_roadOf 16 = .ok (.ireturn, 1) := dk_172 (dk_at dksX0_roadOf_0 16 rfl rfl)
abbrev cX0_isWaiting : ByteArray := method_14_code
def yX0_isWaiting : MethodName := ⟨RX0, "isWaiting", "(LPostChaiseYard;I[J)I"⟩
def dkwX0_isWaiting_0 : List UInt8 := [44, 3, 42, 27, 182, 0, 50, 153, 0, 7, 10, 167, 0, 4, 9, 80, 167, 0, 6, 78, 4, 172, 3, 172]
abbrev dktX0_isWaiting_0 : List UInt8 := dkwX0_isWaiting_0 ++ []
theorem dksX0_isWaiting_0 : cX0_isWaiting.data.toList.drop 0 = dktX0_isWaiting_0 := by decide +kernel
theorem dX0_isWaiting_0 : decode cX0_isWaiting 0 = .ok (.aload_n 2, 1) := dk_44 (dk_at dksX0_isWaiting_0 0 rfl rfl)
theorem dX0_isWaiting_1 : decode cX0_isWaiting 1 = .ok (.iconst 0, 1) := dk_3 (dk_at dksX0_isWaiting_0 1 rfl rfl)
theorem dX0_isWaiting_2 : decode cX0_isWaiting 2 = .ok (.aload_n 0, 1) := dk_42 (dk_at dksX0_isWaiting_0 2 rfl rfl)
theorem dX0_isWaiting_3 : decode cX0_isWaiting 3 = .ok (.iload_n 1, 1) := dk_27 (dk_at dksX0_isWaiting_0 3 rfl rfl)
theorem dX0_isWaiting_4 : decode cX0_isWaiting 4 = .ok (.invokevirtual 50, 3) := dk_182 0 50 (dk_at dksX0_isWaiting_0 4 rfl rfl)
theorem dX0_isWaiting_7 : decode cX0_isWaiting 7 = .ok (.ifCond .eq 7, 3) := dk_153 0 7 (dk_at dksX0_isWaiting_0 7 rfl rfl)
theorem dX0_isWaiting_10 : decode cX0_isWaiting 10 = .ok (.lconst 1, 1) := dk_10 (dk_at dksX0_isWaiting_0 10 rfl rfl)
theorem dX0_isWaiting_11 : decode cX0_isWaiting 11 = .ok (.goto 4, 3) := dk_167 0 4 (dk_at dksX0_isWaiting_0 11 rfl rfl)
theorem dX0_isWaiting_14 : decode cX0_isWaiting 14 = .ok (.lconst 0, 1) := dk_9 (dk_at dksX0_isWaiting_0 14 rfl rfl)
theorem dX0_isWaiting_15 : decode cX0_isWaiting 15 = .ok (.lastore, 1) := dk_80 (dk_at dksX0_isWaiting_0 15 rfl rfl)
theorem dX0_isWaiting_16 : decode cX0_isWaiting 16 = .ok (.goto 6, 3) := dk_167 0 6 (dk_at dksX0_isWaiting_0 16 rfl rfl)
theorem dX0_isWaiting_19 : decode cX0_isWaiting 19 = .ok (.astore_n 3, 1) := dk_78 (dk_at dksX0_isWaiting_0 19 rfl rfl)
theorem dX0_isWaiting_20 : decode cX0_isWaiting 20 = .ok (.iconst 1, 1) := dk_4 (dk_at dksX0_isWaiting_0 20 rfl rfl)
theorem dX0_isWaiting_21 : decode cX0_isWaiting 21 = .ok (.ireturn, 1) := dk_172 (dk_at dksX0_isWaiting_0 21 rfl rfl)
theorem dX0_isWaiting_22 : decode cX0_isWaiting 22 = .ok (.iconst 0, 1) := dk_3 (dk_at dksX0_isWaiting_0 22 rfl rfl)
theorem dX0_isWaiting_23 : decode cX0_isWaiting 23 = .ok (.ireturn, 1) := dk_172 (dk_at dksX0_isWaiting_0 23 rfl rfl)
abbrev cX0_isUnderWay : ByteArray := method_15_code
def yX0_isUnderWay : MethodName := ⟨RX0, "isUnderWay", "(LPostChaiseYard;I[J)I"⟩
def dkwX0_isUnderWay_0 : List UInt8 := [44, 3, 42, 27, 182, 0, 54, 153, 0, 7, 10, 167, 0, 4, 9, 80, 167, 0, 6, 78, 4, 172, 3, 172]
abbrev dktX0_isUnderWay_0 : List UInt8 := dkwX0_isUnderWay_0 ++ []
theorem dksX0_isUnderWay_0 : cX0_isUnderWay.data.toList.drop 0 = dktX0_isUnderWay_0 := by decide +kernel
theorem dX0_isUnderWay_0 : decode cX0_isUnderWay 0 = .ok (.aload_n 2, 1) := dk_44 (dk_at dksX0_isUnderWay_0 0 rfl rfl)
theorem dX0_isUnderWay_1 : decode cX0_isUnderWay 1 = .ok (.iconst 0, 1) := dk_3 (dk_at dksX0_isUnderWay_0 1 rfl rfl)
theorem dX0_isUnderWay_2 : decode cX0_isUnderWay 2 = .ok (.aload_n 0, 1) := dk_42 (dk_at dksX0_isUnderWay_0 2 rfl rfl)
theorem dX0_isUnderWay_3 : decode cX0_isUnderWay 3 = .ok (.iload_n 1, 1) := dk_27 (dk_at dksX0_isUnderWay_0 3 rfl rfl)
theorem dX0_isUnderWay_4 : decode cX0_isUnderWay 4 = .ok (.invokevirtual 54, 3) := dk_182 0 54 (dk_at dksX0_isUnderWay_0 4 rfl rfl)
theorem dX0_isUnderWay_7 : decode cX0_isUnderWay 7 = .ok (.ifCond .eq 7, 3) := dk_153 0 7 (dk_at dksX0_isUnderWay_0 7 rfl rfl)
theorem dX0_isUnderWay_10 : decode cX0_isUnderWay 10 = .ok (.lconst 1, 1) := dk_10 (dk_at dksX0_isUnderWay_0 10 rfl rfl)
theorem dX0_isUnderWay_11 : decode cX0_isUnderWay 11 = .ok (.goto 4, 3) := dk_167 0 4 (dk_at dksX0_isUnderWay_0 11 rfl rfl)
theorem dX0_isUnderWay_14 : decode cX0_isUnderWay 14 = .ok (.lconst 0, 1) := dk_9 (dk_at dksX0_isUnderWay_0 14 rfl rfl)
theorem dX0_isUnderWay_15 : decode cX0_isUnderWay 15 = .ok (.lastore, 1) := dk_80 (dk_at dksX0_isUnderWay_0 15 rfl rfl)
theorem dX0_isUnderWay_16 : decode cX0_isUnderWay 16 = .ok (.goto 6, 3) := dk_167 0 6 (dk_at dksX0_isUnderWay_0 16 rfl rfl)
theorem dX0_isUnderWay_19 : decode cX0_isUnderWay 19 = .ok (.astore_n 3, 1) := dk_78 (dk_at dksX0_isUnderWay_0 19 rfl rfl)
theorem dX0_isUnderWay_20 : decode cX0_isUnderWay 20 = .ok (.iconst 1, 1) := dk_4 (dk_at dksX0_isUnderWay_0 20 rfl rfl)
theorem dX0_isUnderWay_21 : decode cX0_isUnderWay 21 = .ok (.ireturn, 1) := dk_172 (dk_at dksX0_isUnderWay_0 21 rfl rfl)
theorem dX0_isUnderWay_22 : decode cX0_isUnderWay 22 = .ok (.iconst 0, 1) := dk_3 (dk_at dksX0_isUnderWay_0 22 rfl rfl)
theorem dX0_isUnderWay_23 : decode cX0_isUnderWay 23 = .ok (.ireturn, 1) := dk_172 (dk_at dksX0_isUnderWay_0 23 rfl rfl)
abbrev cX0_hasArrived : ByteArray := method_16_code
def yX0_hasArrived : MethodName := ⟨RX0, "hasArrived", "(LPostChaiseYard;I[J)I"⟩
def dkwX0_hasArrived_0 : List UInt8 := [44, 3, 42, 27, 182, 0, 57, 153, 0, 7, 10, 167, 0, 4, 9, 80, 167, 0, 6, 78, 4, 172, 3, 172]
abbrev dktX0_hasArrived_0 : List UInt8 := dkwX0_hasArrived_0 ++ []
theorem dksX0_hasArrived_0 : cX0_hasArrived.data.toList.drop 0 = dktX0_hasArrived_0 := by decide +kernel
theorem dX0_hasArrived_0 : decode cX0_hasArrived 0 = .ok (.aload_n 2, 1) := dk_44 (dk_at dksX0_hasArrived_0 0 rfl rfl)
theorem dX0_hasArrived_1 : decode cX0_hasArrived 1 = .ok (.iconst 0, 1) := dk_3 (dk_at dksX0_hasArrived_0 1 rfl rfl)
theorem dX0_hasArrived_2 : decode cX0_hasArrived 2 = .ok (.aload_n 0, 1) := dk_42 (dk_at dksX0_hasArrived_0 2 rfl rfl)
theorem dX0_hasArrived_3 : decode cX0_hasArrived 3 = .ok (.iload_n 1, 1) := dk_27 (dk_at dksX0_hasArrived_0 3 rfl rfl)
theorem dX0_hasArrived_4 : decode cX0_hasArrived 4 = .ok (.invokevirtual 57, 3) := dk_182 0 57 (dk_at dksX0_hasArrived_0 4 rfl rfl)
theorem dX0_hasArrived_7 : decode cX0_hasArrived 7 = .ok (.ifCond .eq 7, 3) := dk_153 0 7 (dk_at dksX0_hasArrived_0 7 rfl rfl)
theorem dX0_hasArrived_10 : decode cX0_hasArrived 10 = .ok (.lconst 1, 1) := dk_10 (dk_at dksX0_hasArrived_0 10 rfl rfl)
theorem dX0_hasArrived_11 : decode cX0_hasArrived 11 = .ok (.goto 4, 3) := dk_167 0 4 (dk_at dksX0_hasArrived_0 11 rfl rfl)
theorem dX0_hasArrived_14 : decode cX0_hasArrived 14 = .ok (.lconst 0, 1) := dk_9 (dk_at dksX0_hasArrived_0 14 rfl rfl)
theorem dX0_hasArrived_15 : decode cX0_hasArrived 15 = .ok (.lastore, 1) := dk_80 (dk_at dksX0_hasArrived_0 15 rfl rfl)
theorem dX0_hasArrived_16 : decode cX0_hasArrived 16 = .ok (.goto 6, 3) := dk_167 0 6 (dk_at dksX0_hasArrived_0 16 rfl rfl)
theorem dX0_hasArrived_19 : decode cX0_hasArrived 19 = .ok (.astore_n 3, 1) := dk_78 (dk_at dksX0_hasArrived_0 19 rfl rfl)
theorem dX0_hasArrived_20 : decode cX0_hasArrived 20 = .ok (.iconst 1, 1) := dk_4 (dk_at dksX0_hasArrived_0 20 rfl rfl)
theorem dX0_hasArrived_21 : decode cX0_hasArrived 21 = .ok (.ireturn, 1) := dk_172 (dk_at dksX0_hasArrived_0 21 rfl rfl)
theorem dX0_hasArrived_22 : decode cX0_hasArrived 22 = .ok (.iconst 0, 1) := dk_3 (dk_at dksX0_hasArrived_0 22 rfl rfl)
theorem dX0_hasArrived_23 : decode cX0_hasArrived 23 = .ok (.ireturn, 1) := dk_172 (dk_at dksX0_hasArrived_0 23 rfl rfl)
abbrev cX0_hasGivenUp : ByteArray := method_17_code
def yX0_hasGivenUp : MethodName := ⟨RX0, "hasGivenUp", "(LPostChaiseYard;I[J)I"⟩
def dkwX0_hasGivenUp_0 : List UInt8 := [44, 3, 42, 27, 182, 0, 60, 153, 0, 7, 10, 167, 0, 4, 9, 80, 167, 0, 6, 78, 4, 172, 3, 172]
abbrev dktX0_hasGivenUp_0 : List UInt8 := dkwX0_hasGivenUp_0 ++ []
theorem dksX0_hasGivenUp_0 : cX0_hasGivenUp.data.toList.drop 0 = dktX0_hasGivenUp_0 := by decide +kernel
theorem dX0_hasGivenUp_0 : decode cX0_hasGivenUp 0 = .ok (.aload_n 2, 1) := dk_44 (dk_at dksX0_hasGivenUp_0 0 rfl rfl)
theorem dX0_hasGivenUp_1 : decode cX0_hasGivenUp 1 = .ok (.iconst 0, 1) := dk_3 (dk_at dksX0_hasGivenUp_0 1 rfl rfl)
theorem dX0_hasGivenUp_2 : decode cX0_hasGivenUp 2 = .ok (.aload_n 0, 1) := dk_42 (dk_at dksX0_hasGivenUp_0 2 rfl rfl)
theorem dX0_hasGivenUp_3 : decode cX0_hasGivenUp 3 = .ok (.iload_n 1, 1) := dk_27 (dk_at dksX0_hasGivenUp_0 3 rfl rfl)
theorem dX0_hasGivenUp_4 : decode cX0_hasGivenUp 4 = .ok (.invokevirtual 60, 3) := dk_182 0 60 (dk_at dksX0_hasGivenUp_0 4 rfl rfl)
theorem dX0_hasGivenUp_7 : decode cX0_hasGivenUp 7 = .ok (.ifCond .eq 7, 3) := dk_153 0 7 (dk_at dksX0_hasGivenUp_0 7 rfl rfl)
theorem dX0_hasGivenUp_10 : decode cX0_hasGivenUp 10 = .ok (.lconst 1, 1) := dk_10 (dk_at dksX0_hasGivenUp_0 10 rfl rfl)
theorem dX0_hasGivenUp_11 : decode cX0_hasGivenUp 11 = .ok (.goto 4, 3) := dk_167 0 4 (dk_at dksX0_hasGivenUp_0 11 rfl rfl)
theorem dX0_hasGivenUp_14 : decode cX0_hasGivenUp 14 = .ok (.lconst 0, 1) := dk_9 (dk_at dksX0_hasGivenUp_0 14 rfl rfl)
theorem dX0_hasGivenUp_15 : decode cX0_hasGivenUp 15 = .ok (.lastore, 1) := dk_80 (dk_at dksX0_hasGivenUp_0 15 rfl rfl)
theorem dX0_hasGivenUp_16 : decode cX0_hasGivenUp 16 = .ok (.goto 6, 3) := dk_167 0 6 (dk_at dksX0_hasGivenUp_0 16 rfl rfl)
theorem dX0_hasGivenUp_19 : decode cX0_hasGivenUp 19 = .ok (.astore_n 3, 1) := dk_78 (dk_at dksX0_hasGivenUp_0 19 rfl rfl)
theorem dX0_hasGivenUp_20 : decode cX0_hasGivenUp 20 = .ok (.iconst 1, 1) := dk_4 (dk_at dksX0_hasGivenUp_0 20 rfl rfl)
theorem dX0_hasGivenUp_21 : decode cX0_hasGivenUp 21 = .ok (.ireturn, 1) := dk_172 (dk_at dksX0_hasGivenUp_0 21 rfl rfl)
theorem dX0_hasGivenUp_22 : decode cX0_hasGivenUp 22 = .ok (.iconst 0, 1) := dk_3 (dk_at dksX0_hasGivenUp_0 22 rfl rfl)
theorem dX0_hasGivenUp_23 : decode cX0_hasGivenUp 23 = .ok (.ireturn, 1) := dk_172 (dk_at dksX0_hasGivenUp_0 23 rfl rfl)
abbrev cX0_waitOf : ByteArray := method_18_code
def yX0_waitOf : MethodName := ⟨RX0, "waitOf", "(LPostChaiseYard;I[J)I"⟩
def dkwX0_waitOf_0 : List UInt8 := [44, 3, 42, 27, 182, 0, 63, 133, 80, 167, 0, 6, 78, 4, 172, 3, 172]
abbrev dktX0_waitOf_0 : List UInt8 := dkwX0_waitOf_0 ++ []
theorem dksX0_waitOf_0 : cX0_waitOf.data.toList.drop 0 = dktX0_waitOf_0 := by decide +kernel
theorem dX0_waitOf_0 : decode cX0_waitOf 0 = .ok (.aload_n 2, 1) := dk_44 (dk_at dksX0_waitOf_0 0 rfl rfl)
theorem dX0_waitOf_1 : decode cX0_waitOf 1 = .ok (.iconst 0, 1) := dk_3 (dk_at dksX0_waitOf_0 1 rfl rfl)
theorem dX0_waitOf_2 : decode cX0_waitOf 2 = .ok (.aload_n 0, 1) := dk_42 (dk_at dksX0_waitOf_0 2 rfl rfl)
theorem dX0_waitOf_3 : decode cX0_waitOf 3 = .ok (.iload_n 1, 1) := dk_27 (dk_at dksX0_waitOf_0 3 rfl rfl)
theorem dX0_waitOf_4 : decode cX0_waitOf 4 = .ok (.invokevirtual 63, 3) := dk_182 0 63 (dk_at dksX0_waitOf_0 4 rfl rfl)
theorem dX0_waitOf_7 : decode cX0_waitOf 7 = .ok (.i2l, 1) := dk_133 (dk_at dksX0_waitOf_0 7 rfl rfl)
theorem dX0_waitOf_8 : decode cX0_waitOf 8 = .ok (.lastore, 1) := dk_80 (dk_at dksX0_waitOf_0 8 rfl rfl)
theorem dX0_waitOf_9 : decode cX0_waitOf 9 = .ok (.goto 6, 3) := dk_167 0 6 (dk_at dksX0_waitOf_0 9 rfl rfl)
theorem dX0_waitOf_12 : decode cX0_waitOf 12 = .ok (.astore_n 3, 1) := dk_78 (dk_at dksX0_waitOf_0 12 rfl rfl)
theorem dX0_waitOf_13 : decode cX0_waitOf 13 = .ok (.iconst 1, 1) := dk_4 (dk_at dksX0_waitOf_0 13 rfl rfl)
theorem dX0_waitOf_14 : decode cX0_waitOf 14 = .ok (.ireturn, 1) := dk_172 (dk_at dksX0_waitOf_0 14 rfl rfl)
theorem dX0_waitOf_15 : decode cX0_waitOf 15 = .ok (.iconst 0, 1) := dk_3 (dk_at dksX0_waitOf_0 15 rfl rfl)
theorem dX0_waitOf_16 : decode cX0_waitOf 16 = .ok (.ireturn, 1) := dk_172 (dk_at dksX0_waitOf_0 16 rfl rfl)
abbrev cX0_fareOf : ByteArray := method_19_code
def yX0_fareOf : MethodName := ⟨RX0, "fareOf", "(LPostChaiseYard;I[J)I"⟩
def dkwX0_fareOf_0 : List UInt8 := [44, 3, 42, 27, 182, 0, 66, 133, 80, 167, 0, 6, 78, 4, 172, 3, 172]
abbrev dktX0_fareOf_0 : List UInt8 := dkwX0_fareOf_0 ++ []
theorem dksX0_fareOf_0 : cX0_fareOf.data.toList.drop 0 = dktX0_fareOf_0 := by decide +kernel
theorem dX0_fareOf_0 : decode cX0_fareOf 0 = .ok (.aload_n 2, 1) := dk_44 (dk_at dksX0_fareOf_0 0 rfl rfl)
theorem dX0_fareOf_1 : decode cX0_fareOf 1 = .ok (.iconst 0, 1) := dk_3 (dk_at dksX0_fareOf_0 1 rfl rfl)
theorem dX0_fareOf_2 : decode cX0_fareOf 2 = .ok (.aload_n 0, 1) := dk_42 (dk_at dksX0_fareOf_0 2 rfl rfl)
theorem dX0_fareOf_3 : decode cX0_fareOf 3 = .ok (.iload_n 1, 1) := dk_27 (dk_at dksX0_fareOf_0 3 rfl rfl)
theorem dX0_fareOf_4 : decode cX0_fareOf 4 = .ok (.invokevirtual 66, 3) := dk_182 0 66 (dk_at dksX0_fareOf_0 4 rfl rfl)
theorem dX0_fareOf_7 : decode cX0_fareOf 7 = .ok (.i2l, 1) := dk_133 (dk_at dksX0_fareOf_0 7 rfl rfl)
theorem dX0_fareOf_8 : decode cX0_fareOf 8 = .ok (.lastore, 1) := dk_80 (dk_at dksX0_fareOf_0 8 rfl rfl)
theorem dX0_fareOf_9 : decode cX0_fareOf 9 = .ok (.goto 6, 3) := dk_167 0 6 (dk_at dksX0_fareOf_0 9 rfl rfl)
theorem dX0_fareOf_12 : decode cX0_fareOf 12 = .ok (.astore_n 3, 1) := dk_78 (dk_at dksX0_fareOf_0 12 rfl rfl)
theorem dX0_fareOf_13 : decode cX0_fareOf 13 = .ok (.iconst 1, 1) := dk_4 (dk_at dksX0_fareOf_0 13 rfl rfl)
theorem dX0_fareOf_14 : decode cX0_fareOf 14 = .ok (.ireturn, 1) := dk_172 (dk_at dksX0_fareOf_0 14 rfl rfl)
theorem dX0_fareOf_15 : decode cX0_fareOf 15 = .ok (.iconst 0, 1) := dk_3 (dk_at dksX0_fareOf_0 15 rfl rfl)
theorem dX0_fareOf_16 : decode cX0_fareOf 16 = .ok (.ireturn, 1) := dk_172 (dk_at dksX0_fareOf_0 16 rfl rfl)
abbrev cX0_guestAt : ByteArray := method_20_code
def yX0_guestAt : MethodName := ⟨RX0, "guestAt", "(LPostChaiseYard;I[J)I"⟩
def dkwX0_guestAt_0 : List UInt8 := [44, 3, 42, 27, 182, 0, 69, 133, 80, 167, 0, 6, 78, 4, 172, 3, 172]
abbrev dktX0_guestAt_0 : List UInt8 := dkwX0_guestAt_0 ++ []
theorem dksX0_guestAt_0 : cX0_guestAt.data.toList.drop 0 = dktX0_guestAt_0 := by decide +kernel
theorem dX0_guestAt_0 : decode cX0_guestAt 0 = .ok (.aload_n 2, 1) := dk_44 (dk_at dksX0_guestAt_0 0 rfl rfl)
theorem dX0_guestAt_1 : decode cX0_guestAt 1 = .ok (.iconst 0, 1) := dk_3 (dk_at dksX0_guestAt_0 1 rfl rfl)
theorem dX0_guestAt_2 : decode cX0_guestAt 2 = .ok (.aload_n 0, 1) := dk_42 (dk_at dksX0_guestAt_0 2 rfl rfl)
theorem dX0_guestAt_3 : decode cX0_guestAt 3 = .ok (.iload_n 1, 1) := dk_27 (dk_at dksX0_guestAt_0 3 rfl rfl)
theorem dX0_guestAt_4 : decode cX0_guestAt 4 = .ok (.invokevirtual 69, 3) := dk_182 0 69 (dk_at dksX0_guestAt_0 4 rfl rfl)
theorem dX0_guestAt_7 : decode cX0_guestAt 7 = .ok (.i2l, 1) := dk_133 (dk_at dksX0_guestAt_0 7 rfl rfl)
theorem dX0_guestAt_8 : decode cX0_guestAt 8 = .ok (.lastore, 1) := dk_80 (dk_at dksX0_guestAt_0 8 rfl rfl)
theorem dX0_guestAt_9 : decode cX0_guestAt 9 = .ok (.goto 6, 3) := dk_167 0 6 (dk_at dksX0_guestAt_0 9 rfl rfl)
theorem dX0_guestAt_12 : decode cX0_guestAt 12 = .ok (.astore_n 3, 1) := dk_78 (dk_at dksX0_guestAt_0 12 rfl rfl)
theorem dX0_guestAt_13 : decode cX0_guestAt 13 = .ok (.iconst 1, 1) := dk_4 (dk_at dksX0_guestAt_0 13 rfl rfl)
theorem dX0_guestAt_14 : decode cX0_guestAt 14 = .ok (.ireturn, 1) := dk_172 (dk_at dksX0_guestAt_0 14 rfl rfl)
theorem dX0_guestAt_15 : decode cX0_guestAt 15 = .ok (.iconst 0, 1) := dk_3 (dk_at dksX0_guestAt_0 15 rfl rfl)
theorem dX0_guestAt_16 : decode cX0_guestAt 16 = .ok (.ireturn, 1) := dk_172 (dk_at dksX0_guestAt_0 16 rfl rfl)
abbrev cX0_isPairOut : ByteArray := method_21_code
def yX0_isPairOut : MethodName := ⟨RX0, "isPairOut", "(LPostChaiseYard;I[J)I"⟩
def dkwX0_isPairOut_0 : List UInt8 := [44, 3, 42, 27, 182, 0, 72, 153, 0, 7, 10, 167, 0, 4, 9, 80, 167, 0, 6, 78, 4, 172, 3, 172]
abbrev dktX0_isPairOut_0 : List UInt8 := dkwX0_isPairOut_0 ++ []
theorem dksX0_isPairOut_0 : cX0_isPairOut.data.toList.drop 0 = dktX0_isPairOut_0 := by decide +kernel
theorem dX0_isPairOut_0 : decode cX0_isPairOut 0 = .ok (.aload_n 2, 1) := dk_44 (dk_at dksX0_isPairOut_0 0 rfl rfl)
theorem dX0_isPairOut_1 : decode cX0_isPairOut 1 = .ok (.iconst 0, 1) := dk_3 (dk_at dksX0_isPairOut_0 1 rfl rfl)
theorem dX0_isPairOut_2 : decode cX0_isPairOut 2 = .ok (.aload_n 0, 1) := dk_42 (dk_at dksX0_isPairOut_0 2 rfl rfl)
theorem dX0_isPairOut_3 : decode cX0_isPairOut 3 = .ok (.iload_n 1, 1) := dk_27 (dk_at dksX0_isPairOut_0 3 rfl rfl)
theorem dX0_isPairOut_4 : decode cX0_isPairOut 4 = .ok (.invokevirtual 72, 3) := dk_182 0 72 (dk_at dksX0_isPairOut_0 4 rfl rfl)
theorem dX0_isPairOut_7 : decode cX0_isPairOut 7 = .ok (.ifCond .eq 7, 3) := dk_153 0 7 (dk_at dksX0_isPairOut_0 7 rfl rfl)
theorem dX0_isPairOut_10 : decode cX0_isPairOut 10 = .ok (.lconst 1, 1) := dk_10 (dk_at dksX0_isPairOut_0 10 rfl rfl)
theorem dX0_isPairOut_11 : decode cX0_isPairOut 11 = .ok (.goto 4, 3) := dk_167 0 4 (dk_at dksX0_isPairOut_0 11 rfl rfl)
theorem dX0_isPairOut_14 : decode cX0_isPairOut 14 = .ok (.lconst 0, 1) := dk_9 (dk_at dksX0_isPairOut_0 14 rfl rfl)
theorem dX0_isPairOut_15 : decode cX0_isPairOut 15 = .ok (.lastore, 1) := dk_80 (dk_at dksX0_isPairOut_0 15 rfl rfl)
theorem dX0_isPairOut_16 : decode cX0_isPairOut 16 = .ok (.goto 6, 3) := dk_167 0 6 (dk_at dksX0_isPairOut_0 16 rfl rfl)
theorem dX0_isPairOut_19 : decode cX0_isPairOut 19 = .ok (.astore_n 3, 1) := dk_78 (dk_at dksX0_isPairOut_0 19 rfl rfl)
theorem dX0_isPairOut_20 : decode cX0_isPairOut 20 = .ok (.iconst 1, 1) := dk_4 (dk_at dksX0_isPairOut_0 20 rfl rfl)
theorem dX0_isPairOut_21 : decode cX0_isPairOut 21 = .ok (.ireturn, 1) := dk_172 (dk_at dksX0_isPairOut_0 21 rfl rfl)
theorem dX0_isPairOut_22 : decode cX0_isPairOut 22 = .ok (.iconst 0, 1) := dk_3 (dk_at dksX0_isPairOut_0 22 rfl rfl)
theorem dX0_isPairOut_23 : decode cX0_isPairOut 23 = .ok (.ireturn, 1) := dk_172 (dk_at dksX0_isPairOut_0 23 rfl rfl)
abbrev cX0_restOf : ByteArray := method_22_code
def yX0_restOf : MethodName := ⟨RX0, "restOf", "(LPostChaiseYard;I[J)I"⟩
def dkwX0_restOf_0 : List UInt8 := [44, 3, 42, 27, 182, 0, 75, 133, 80, 167, 0, 6, 78, 4, 172, 3, 172]
abbrev dktX0_restOf_0 : List UInt8 := dkwX0_restOf_0 ++ []
theorem dksX0_restOf_0 : cX0_restOf.data.toList.drop 0 = dktX0_restOf_0 := by decide +kernel
theorem dX0_restOf_0 : decode cX0_restOf 0 = .ok (.aload_n 2, 1) := dk_44 (dk_at dksX0_restOf_0 0 rfl rfl)
theorem dX0_restOf_1 : decode cX0_restOf 1 = .ok (.iconst 0, 1) := dk_3 (dk_at dksX0_restOf_0 1 rfl rfl)
theorem dX0_restOf_2 : decode cX0_restOf 2 = .ok (.aload_n 0, 1) := dk_42 (dk_at dksX0_restOf_0 2 rfl rfl)
theorem dX0_restOf_3 : decode cX0_restOf 3 = .ok (.iload_n 1, 1) := dk_27 (dk_at dksX0_restOf_0 3 rfl rfl)
theorem dX0_restOf_4 : decode cX0_restOf 4 = .ok (.invokevirtual 75, 3) := dk_182 0 75 (dk_at dksX0_restOf_0 4 rfl rfl)
theorem dX0_restOf_7 : decode cX0_restOf 7 = .ok (.i2l, 1) := dk_133 (dk_at dksX0_restOf_0 7 rfl rfl)
theorem dX0_restOf_8 : decode cX0_restOf 8 = .ok (.lastore, 1) := dk_80 (dk_at dksX0_restOf_0 8 rfl rfl)
theorem dX0_restOf_9 : decode cX0_restOf 9 = .ok (.goto 6, 3) := dk_167 0 6 (dk_at dksX0_restOf_0 9 rfl rfl)
theorem dX0_restOf_12 : decode cX0_restOf 12 = .ok (.astore_n 3, 1) := dk_78 (dk_at dksX0_restOf_0 12 rfl rfl)
theorem dX0_restOf_13 : decode cX0_restOf 13 = .ok (.iconst 1, 1) := dk_4 (dk_at dksX0_restOf_0 13 rfl rfl)
theorem dX0_restOf_14 : decode cX0_restOf 14 = .ok (.ireturn, 1) := dk_172 (dk_at dksX0_restOf_0 14 rfl rfl)
theorem dX0_restOf_15 : decode cX0_restOf 15 = .ok (.iconst 0, 1) := dk_3 (dk_at dksX0_restOf_0 15 rfl rfl)
theorem dX0_restOf_16 : decode cX0_restOf 16 = .ok (.ireturn, 1) := dk_172 (dk_at dksX0_restOf_0 16 rfl rfl)
abbrev cX0_milesOfPair : ByteArray := method_23_code
def yX0_milesOfPair : MethodName := ⟨RX0, "milesOfPair", "(LPostChaiseYard;I[J)I"⟩
def dkwX0_milesOfPair_0 : List UInt8 := [44, 3, 42, 27, 182, 0, 78, 133, 80, 167, 0, 6, 78, 4, 172, 3, 172]
abbrev dktX0_milesOfPair_0 : List UInt8 := dkwX0_milesOfPair_0 ++ []
theorem dksX0_milesOfPair_0 : cX0_milesOfPair.data.toList.drop 0 = dktX0_milesOfPair_0 := by decide +kernel
theorem dX0_milesOfPair_0 : decode cX0_milesOfPair 0 = .ok (.aload_n 2, 1) := dk_44 (dk_at dksX0_milesOfPair_0 0 rfl rfl)
theorem dX0_milesOfPair_1 : decode cX0_milesOfPair 1 = .ok (.iconst 0, 1) := dk_3 (dk_at dksX0_milesOfPair_0 1 rfl rfl)
theorem dX0_milesOfPair_2 : decode cX0_milesOfPair 2 = .ok (.aload_n 0, 1) := dk_42 (dk_at dksX0_milesOfPair_0 2 rfl rfl)
theorem dX0_milesOfPair_3 : decode cX0_milesOfPair 3 = .ok (.iload_n 1, 1) := dk_27 (dk_at dksX0_milesOfPair_0 3 rfl rfl)
theorem dX0_milesOfPair_4 : decode cX0_milesOfPair 4 = .ok (.invokevirtual 78, 3) := dk_182 0 78 (dk_at dksX0_milesOfPair_0 4 rfl rfl)
theorem dX0_milesOfPair_7 : decode cX0_milesOfPair 7 = .ok (.i2l, 1) := dk_133 (dk_at dksX0_milesOfPair_0 7 rfl rfl)
theorem dX0_milesOfPair_8 : decode cX0_milesOfPair 8 = .ok (.lastore, 1) := dk_80 (dk_at dksX0_milesOfPair_0 8 rfl rfl)
theorem dX0_milesOfPair_9 : decode cX0_milesOfPair 9 = .ok (.goto 6, 3) := dk_167 0 6 (dk_at dksX0_milesOfPair_0 9 rfl rfl)
theorem dX0_milesOfPair_12 : decode cX0_milesOfPair 12 = .ok (.astore_n 3, 1) := dk_78 (dk_at dksX0_milesOfPair_0 12 rfl rfl)
theorem dX0_milesOfPair_13 : decode cX0_milesOfPair 13 = .ok (.iconst 1, 1) := dk_4 (dk_at dksX0_milesOfPair_0 13 rfl rfl)
theorem dX0_milesOfPair_14 : decode cX0_milesOfPair 14 = .ok (.ireturn, 1) := dk_172 (dk_at dksX0_milesOfPair_0 14 rfl rfl)
theorem dX0_milesOfPair_15 : decode cX0_milesOfPair 15 = .ok (.iconst 0, 1) := dk_3 (dk_at dksX0_milesOfPair_0 15 rfl rfl)
theorem dX0_milesOfPair_16 : decode cX0_milesOfPair 16 = .ok (.ireturn, 1) := dk_172 (dk_at dksX0_milesOfPair_0 16 rfl rfl)
abbrev cX0_nextPair : ByteArray := method_24_code
def yX0_nextPair : MethodName := ⟨RX0, "nextPair", "(LPostChaiseYard;[J)I"⟩
def dkwX0_nextPair_0 : List UInt8 := [43, 3, 42, 182, 0, 81, 133, 80, 167, 0, 6, 77, 4, 172, 3, 172]
abbrev dktX0_nextPair_0 : List UInt8 := dkwX0_nextPair_0 ++ []
theorem dksX0_nextPair_0 : cX0_nextPair.data.toList.drop 0 = dktX0_nextPair_0 := by decide +kernel
theorem dX0_nextPair_0 : decode cX0_nextPair 0 = .ok (.aload_n 1, 1) := dk_43 (dk_at dksX0_nextPair_0 0 rfl rfl)
theorem dX0_nextPair_1 : decode cX0_nextPair 1 = .ok (.iconst 0, 1) := dk_3 (dk_at dksX0_nextPair_0 1 rfl rfl)
theorem dX0_nextPair_2 : decode cX0_nextPair 2 = .ok (.aload_n 0, 1) := dk_42 (dk_at dksX0_nextPair_0 2 rfl rfl)
theorem dX0_nextPair_3 : decode cX0_nextPair 3 = .ok (.invokevirtual 81, 3) := dk_182 0 81 (dk_at dksX0_nextPair_0 3 rfl rfl)
theorem dX0_nextPair_6 : decode cX0_nextPair 6 = .ok (.i2l, 1) := dk_133 (dk_at dksX0_nextPair_0 6 rfl rfl)
theorem dX0_nextPair_7 : decode cX0_nextPair 7 = .ok (.lastore, 1) := dk_80 (dk_at dksX0_nextPair_0 7 rfl rfl)
theorem dX0_nextPair_8 : decode cX0_nextPair 8 = .ok (.goto 6, 3) := dk_167 0 6 (dk_at dksX0_nextPair_0 8 rfl rfl)
theorem dX0_nextPair_11 : decode cX0_nextPair 11 = .ok (.astore_n 2, 1) := dk_77 (dk_at dksX0_nextPair_0 11 rfl rfl)
theorem dX0_nextPair_12 : decode cX0_nextPair 12 = .ok (.iconst 1, 1) := dk_4 (dk_at dksX0_nextPair_0 12 rfl rfl)
theorem dX0_nextPair_13 : decode cX0_nextPair 13 = .ok (.ireturn, 1) := dk_172 (dk_at dksX0_nextPair_0 13 rfl rfl)
theorem dX0_nextPair_14 : decode cX0_nextPair 14 = .ok (.iconst 0, 1) := dk_3 (dk_at dksX0_nextPair_0 14 rfl rfl)
theorem dX0_nextPair_15 : decode cX0_nextPair 15 = .ok (.ireturn, 1) := dk_172 (dk_at dksX0_nextPair_0 15 rfl rfl)
abbrev cX0_isBoyOut : ByteArray := method_25_code
def yX0_isBoyOut : MethodName := ⟨RX0, "isBoyOut", "(LPostChaiseYard;I[J)I"⟩
def dkwX0_isBoyOut_0 : List UInt8 := [44, 3, 42, 27, 182, 0, 87, 153, 0, 7, 10, 167, 0, 4, 9, 80, 167, 0, 6, 78, 4, 172, 3, 172]
abbrev dktX0_isBoyOut_0 : List UInt8 := dkwX0_isBoyOut_0 ++ []
theorem dksX0_isBoyOut_0 : cX0_isBoyOut.data.toList.drop 0 = dktX0_isBoyOut_0 := by decide +kernel
theorem dX0_isBoyOut_0 : decode cX0_isBoyOut 0 = .ok (.aload_n 2, 1) := dk_44 (dk_at dksX0_isBoyOut_0 0 rfl rfl)
theorem dX0_isBoyOut_1 : decode cX0_isBoyOut 1 = .ok (.iconst 0, 1) := dk_3 (dk_at dksX0_isBoyOut_0 1 rfl rfl)
theorem dX0_isBoyOut_2 : decode cX0_isBoyOut 2 = .ok (.aload_n 0, 1) := dk_42 (dk_at dksX0_isBoyOut_0 2 rfl rfl)
theorem dX0_isBoyOut_3 : decode cX0_isBoyOut 3 = .ok (.iload_n 1, 1) := dk_27 (dk_at dksX0_isBoyOut_0 3 rfl rfl)
theorem dX0_isBoyOut_4 : decode cX0_isBoyOut 4 = .ok (.invokevirtual 87, 3) := dk_182 0 87 (dk_at dksX0_isBoyOut_0 4 rfl rfl)
theorem dX0_isBoyOut_7 : decode cX0_isBoyOut 7 = .ok (.ifCond .eq 7, 3) := dk_153 0 7 (dk_at dksX0_isBoyOut_0 7 rfl rfl)
theorem dX0_isBoyOut_10 : decode cX0_isBoyOut 10 = .ok (.lconst 1, 1) := dk_10 (dk_at dksX0_isBoyOut_0 10 rfl rfl)
theorem dX0_isBoyOut_11 : decode cX0_isBoyOut 11 = .ok (.goto 4, 3) := dk_167 0 4 (dk_at dksX0_isBoyOut_0 11 rfl rfl)
theorem dX0_isBoyOut_14 : decode cX0_isBoyOut 14 = .ok (.lconst 0, 1) := dk_9 (dk_at dksX0_isBoyOut_0 14 rfl rfl)
theorem dX0_isBoyOut_15 : decode cX0_isBoyOut 15 = .ok (.lastore, 1) := dk_80 (dk_at dksX0_isBoyOut_0 15 rfl rfl)
theorem dX0_isBoyOut_16 : decode cX0_isBoyOut 16 = .ok (.goto 6, 3) := dk_167 0 6 (dk_at dksX0_isBoyOut_0 16 rfl rfl)
theorem dX0_isBoyOut_19 : decode cX0_isBoyOut 19 = .ok (.astore_n 3, 1) := dk_78 (dk_at dksX0_isBoyOut_0 19 rfl rfl)
theorem dX0_isBoyOut_20 : decode cX0_isBoyOut 20 = .ok (.iconst 1, 1) := dk_4 (dk_at dksX0_isBoyOut_0 20 rfl rfl)
theorem dX0_isBoyOut_21 : decode cX0_isBoyOut 21 = .ok (.ireturn, 1) := dk_172 (dk_at dksX0_isBoyOut_0 21 rfl rfl)
theorem dX0_isBoyOut_22 : decode cX0_isBoyOut 22 = .ok (.iconst 0, 1) := dk_3 (dk_at dksX0_isBoyOut_0 22 rfl rfl)
theorem dX0_isBoyOut_23 : decode cX0_isBoyOut 23 = .ok (.ireturn, 1) := dk_172 (dk_at dksX0_isBoyOut_0 23 rfl rfl)
abbrev cX0_isInBed : ByteArray := method_26_code
def yX0_isInBed : MethodName := ⟨RX0, "isInBed", "(LPostChaiseYard;I[J)I"⟩
def dkwX0_isInBed_0 : List UInt8 := [44, 3, 42, 27, 182, 0, 90, 153, 0, 7, 10, 167, 0, 4, 9, 80, 167, 0, 6, 78, 4, 172, 3, 172]
abbrev dktX0_isInBed_0 : List UInt8 := dkwX0_isInBed_0 ++ []
theorem dksX0_isInBed_0 : cX0_isInBed.data.toList.drop 0 = dktX0_isInBed_0 := by decide +kernel
theorem dX0_isInBed_0 : decode cX0_isInBed 0 = .ok (.aload_n 2, 1) := dk_44 (dk_at dksX0_isInBed_0 0 rfl rfl)
theorem dX0_isInBed_1 : decode cX0_isInBed 1 = .ok (.iconst 0, 1) := dk_3 (dk_at dksX0_isInBed_0 1 rfl rfl)
theorem dX0_isInBed_2 : decode cX0_isInBed 2 = .ok (.aload_n 0, 1) := dk_42 (dk_at dksX0_isInBed_0 2 rfl rfl)
theorem dX0_isInBed_3 : decode cX0_isInBed 3 = .ok (.iload_n 1, 1) := dk_27 (dk_at dksX0_isInBed_0 3 rfl rfl)
theorem dX0_isInBed_4 : decode cX0_isInBed 4 = .ok (.invokevirtual 90, 3) := dk_182 0 90 (dk_at dksX0_isInBed_0 4 rfl rfl)
theorem dX0_isInBed_7 : decode cX0_isInBed 7 = .ok (.ifCond .eq 7, 3) := dk_153 0 7 (dk_at dksX0_isInBed_0 7 rfl rfl)
theorem dX0_isInBed_10 : decode cX0_isInBed 10 = .ok (.lconst 1, 1) := dk_10 (dk_at dksX0_isInBed_0 10 rfl rfl)
theorem dX0_isInBed_11 : decode cX0_isInBed 11 = .ok (.goto 4, 3) := dk_167 0 4 (dk_at dksX0_isInBed_0 11 rfl rfl)
theorem dX0_isInBed_14 : decode cX0_isInBed 14 = .ok (.lconst 0, 1) := dk_9 (dk_at dksX0_isInBed_0 14 rfl rfl)
theorem dX0_isInBed_15 : decode cX0_isInBed 15 = .ok (.lastore, 1) := dk_80 (dk_at dksX0_isInBed_0 15 rfl rfl)
theorem dX0_isInBed_16 : decode cX0_isInBed 16 = .ok (.goto 6, 3) := dk_167 0 6 (dk_at dksX0_isInBed_0 16 rfl rfl)
theorem dX0_isInBed_19 : decode cX0_isInBed 19 = .ok (.astore_n 3, 1) := dk_78 (dk_at dksX0_isInBed_0 19 rfl rfl)
theorem dX0_isInBed_20 : decode cX0_isInBed 20 = .ok (.iconst 1, 1) := dk_4 (dk_at dksX0_isInBed_0 20 rfl rfl)
theorem dX0_isInBed_21 : decode cX0_isInBed 21 = .ok (.ireturn, 1) := dk_172 (dk_at dksX0_isInBed_0 21 rfl rfl)
theorem dX0_isInBed_22 : decode cX0_isInBed 22 = .ok (.iconst 0, 1) := dk_3 (dk_at dksX0_isInBed_0 22 rfl rfl)
theorem dX0_isInBed_23 : decode cX0_isInBed 23 = .ok (.ireturn, 1) := dk_172 (dk_at dksX0_isInBed_0 23 rfl rfl)
abbrev cX0_placeOf : ByteArray := method_27_code
def yX0_placeOf : MethodName := ⟨RX0, "placeOf", "(LPostChaiseYard;I[J)I"⟩
def dkwX0_placeOf_0 : List UInt8 := [44, 3, 42, 27, 182, 0, 93, 133, 80, 167, 0, 9, 78, 4, 172, 78, 5, 172, 3, 172]
abbrev dktX0_placeOf_0 : List UInt8 := dkwX0_placeOf_0 ++ []
theorem dksX0_placeOf_0 : cX0_placeOf.data.toList.drop 0 = dktX0_placeOf_0 := by decide +kernel
theorem dX0_placeOf_0 : decode cX0_placeOf 0 = .ok (.aload_n 2, 1) := dk_44 (dk_at dksX0_placeOf_0 0 rfl rfl)
theorem dX0_placeOf_1 : decode cX0_placeOf 1 = .ok (.iconst 0, 1) := dk_3 (dk_at dksX0_placeOf_0 1 rfl rfl)
theorem dX0_placeOf_2 : decode cX0_placeOf 2 = .ok (.aload_n 0, 1) := dk_42 (dk_at dksX0_placeOf_0 2 rfl rfl)
theorem dX0_placeOf_3 : decode cX0_placeOf 3 = .ok (.iload_n 1, 1) := dk_27 (dk_at dksX0_placeOf_0 3 rfl rfl)
theorem dX0_placeOf_4 : decode cX0_placeOf 4 = .ok (.invokevirtual 93, 3) := dk_182 0 93 (dk_at dksX0_placeOf_0 4 rfl rfl)
theorem dX0_placeOf_7 : decode cX0_placeOf 7 = .ok (.i2l, 1) := dk_133 (dk_at dksX0_placeOf_0 7 rfl rfl)
theorem dX0_placeOf_8 : decode cX0_placeOf 8 = .ok (.lastore, 1) := dk_80 (dk_at dksX0_placeOf_0 8 rfl rfl)
theorem dX0_placeOf_9 : decode cX0_placeOf 9 = .ok (.goto 9, 3) := dk_167 0 9 (dk_at dksX0_placeOf_0 9 rfl rfl)
theorem dX0_placeOf_12 : decode cX0_placeOf 12 = .ok (.astore_n 3, 1) := dk_78 (dk_at dksX0_placeOf_0 12 rfl rfl)
theorem dX0_placeOf_13 : decode cX0_placeOf 13 = .ok (.iconst 1, 1) := dk_4 (dk_at dksX0_placeOf_0 13 rfl rfl)
theorem dX0_placeOf_14 : decode cX0_placeOf 14 = .ok (.ireturn, 1) := dk_172 (dk_at dksX0_placeOf_0 14 rfl rfl)
theorem dX0_placeOf_15 : decode cX0_placeOf 15 = .ok (.astore_n 3, 1) := dk_78 (dk_at dksX0_placeOf_0 15 rfl rfl)
theorem dX0_placeOf_16 : decode cX0_placeOf 16 = .ok (.iconst 2, 1) := dk_5 (dk_at dksX0_placeOf_0 16 rfl rfl)
theorem dX0_placeOf_17 : decode cX0_placeOf 17 = .ok (.ireturn, 1) := dk_172 (dk_at dksX0_placeOf_0 17 rfl rfl)
theorem dX0_placeOf_18 : decode cX0_placeOf 18 = .ok (.iconst 0, 1) := dk_3 (dk_at dksX0_placeOf_0 18 rfl rfl)
theorem dX0_placeOf_19 : decode cX0_placeOf 19 = .ok (.ireturn, 1) := dk_172 (dk_at dksX0_placeOf_0 19 rfl rfl)
abbrev cX0_tripsOf : ByteArray := method_28_code
def yX0_tripsOf : MethodName := ⟨RX0, "tripsOf", "(LPostChaiseYard;I[J)I"⟩
def dkwX0_tripsOf_0 : List UInt8 := [44, 3, 42, 27, 182, 0, 96, 133, 80, 167, 0, 6, 78, 4, 172, 3, 172]
abbrev dktX0_tripsOf_0 : List UInt8 := dkwX0_tripsOf_0 ++ []
theorem dksX0_tripsOf_0 : cX0_tripsOf.data.toList.drop 0 = dktX0_tripsOf_0 := by decide +kernel
theorem dX0_tripsOf_0 : decode cX0_tripsOf 0 = .ok (.aload_n 2, 1) := dk_44 (dk_at dksX0_tripsOf_0 0 rfl rfl)
theorem dX0_tripsOf_1 : decode cX0_tripsOf 1 = .ok (.iconst 0, 1) := dk_3 (dk_at dksX0_tripsOf_0 1 rfl rfl)
theorem dX0_tripsOf_2 : decode cX0_tripsOf 2 = .ok (.aload_n 0, 1) := dk_42 (dk_at dksX0_tripsOf_0 2 rfl rfl)
theorem dX0_tripsOf_3 : decode cX0_tripsOf 3 = .ok (.iload_n 1, 1) := dk_27 (dk_at dksX0_tripsOf_0 3 rfl rfl)
theorem dX0_tripsOf_4 : decode cX0_tripsOf 4 = .ok (.invokevirtual 96, 3) := dk_182 0 96 (dk_at dksX0_tripsOf_0 4 rfl rfl)
theorem dX0_tripsOf_7 : decode cX0_tripsOf 7 = .ok (.i2l, 1) := dk_133 (dk_at dksX0_tripsOf_0 7 rfl rfl)
theorem dX0_tripsOf_8 : decode cX0_tripsOf 8 = .ok (.lastore, 1) := dk_80 (dk_at dksX0_tripsOf_0 8 rfl rfl)
theorem dX0_tripsOf_9 : decode cX0_tripsOf 9 = .ok (.goto 6, 3) := dk_167 0 6 (dk_at dksX0_tripsOf_0 9 rfl rfl)
theorem dX0_tripsOf_12 : decode cX0_tripsOf 12 = .ok (.astore_n 3, 1) := dk_78 (dk_at dksX0_tripsOf_0 12 rfl rfl)
theorem dX0_tripsOf_13 : decode cX0_tripsOf 13 = .ok (.iconst 1, 1) := dk_4 (dk_at dksX0_tripsOf_0 13 rfl rfl)
theorem dX0_tripsOf_14 : decode cX0_tripsOf 14 = .ok (.ireturn, 1) := dk_172 (dk_at dksX0_tripsOf_0 14 rfl rfl)
theorem dX0_tripsOf_15 : decode cX0_tripsOf 15 = .ok (.iconst 0, 1) := dk_3 (dk_at dksX0_tripsOf_0 15 rfl rfl)
theorem dX0_tripsOf_16 : decode cX0_tripsOf 16 = .ok (.ireturn, 1) := dk_172 (dk_at dksX0_tripsOf_0 16 rfl rfl)
abbrev cX0_nextBoy : ByteArray := method_29_code
def yX0_nextBoy : MethodName := ⟨RX0, "nextBoy", "(LPostChaiseYard;[J)I"⟩
def dkwX0_nextBoy_0 : List UInt8 := [43, 3, 42, 182, 0, 99, 133, 80, 167, 0, 6, 77, 4, 172, 3, 172]
abbrev dktX0_nextBoy_0 : List UInt8 := dkwX0_nextBoy_0 ++ []
theorem dksX0_nextBoy_0 : cX0_nextBoy.data.toList.drop 0 = dktX0_nextBoy_0 := by decide +kernel
theorem dX0_nextBoy_0 : decode cX0_nextBoy 0 = .ok (.aload_n 1, 1) := dk_43 (dk_at dksX0_nextBoy_0 0 rfl rfl)
theorem dX0_nextBoy_1 : decode cX0_nextBoy 1 = .ok (.iconst 0, 1) := dk_3 (dk_at dksX0_nextBoy_0 1 rfl rfl)
theorem dX0_nextBoy_2 : decode cX0_nextBoy 2 = .ok (.aload_n 0, 1) := dk_42 (dk_at dksX0_nextBoy_0 2 rfl rfl)
theorem dX0_nextBoy_3 : decode cX0_nextBoy 3 = .ok (.invokevirtual 99, 3) := dk_182 0 99 (dk_at dksX0_nextBoy_0 3 rfl rfl)
theorem dX0_nextBoy_6 : decode cX0_nextBoy 6 = .ok (.i2l, 1) := dk_133 (dk_at dksX0_nextBoy_0 6 rfl rfl)
theorem dX0_nextBoy_7 : decode cX0_nextBoy 7 = .ok (.lastore, 1) := dk_80 (dk_at dksX0_nextBoy_0 7 rfl rfl)
theorem dX0_nextBoy_8 : decode cX0_nextBoy 8 = .ok (.goto 6, 3) := dk_167 0 6 (dk_at dksX0_nextBoy_0 8 rfl rfl)
theorem dX0_nextBoy_11 : decode cX0_nextBoy 11 = .ok (.astore_n 2, 1) := dk_77 (dk_at dksX0_nextBoy_0 11 rfl rfl)
theorem dX0_nextBoy_12 : decode cX0_nextBoy 12 = .ok (.iconst 1, 1) := dk_4 (dk_at dksX0_nextBoy_0 12 rfl rfl)
theorem dX0_nextBoy_13 : decode cX0_nextBoy 13 = .ok (.ireturn, 1) := dk_172 (dk_at dksX0_nextBoy_0 13 rfl rfl)
theorem dX0_nextBoy_14 : decode cX0_nextBoy 14 = .ok (.iconst 0, 1) := dk_3 (dk_at dksX0_nextBoy_0 14 rfl rfl)
theorem dX0_nextBoy_15 : decode cX0_nextBoy 15 = .ok (.ireturn, 1) := dk_172 (dk_at dksX0_nextBoy_0 15 rfl rfl)
abbrev cX0_isChaiseOut : ByteArray := method_30_code
def yX0_isChaiseOut : MethodName := ⟨RX0, "isChaiseOut", "(LPostChaiseYard;I[J)I"⟩
def dkwX0_isChaiseOut_0 : List UInt8 := [44, 3, 42, 27, 182, 0, 102, 153, 0, 7, 10, 167, 0, 4, 9, 80, 167, 0, 6, 78, 4, 172, 3, 172]
abbrev dktX0_isChaiseOut_0 : List UInt8 := dkwX0_isChaiseOut_0 ++ []
theorem dksX0_isChaiseOut_0 : cX0_isChaiseOut.data.toList.drop 0 = dktX0_isChaiseOut_0 := by decide +kernel
theorem dX0_isChaiseOut_0 : decode cX0_isChaiseOut 0 = .ok (.aload_n 2, 1) := dk_44 (dk_at dksX0_isChaiseOut_0 0 rfl rfl)
theorem dX0_isChaiseOut_1 : decode cX0_isChaiseOut 1 = .ok (.iconst 0, 1) := dk_3 (dk_at dksX0_isChaiseOut_0 1 rfl rfl)
theorem dX0_isChaiseOut_2 : decode cX0_isChaiseOut 2 = .ok (.aload_n 0, 1) := dk_42 (dk_at dksX0_isChaiseOut_0 2 rfl rfl)
theorem dX0_isChaiseOut_3 : decode cX0_isChaiseOut 3 = .ok (.iload_n 1, 1) := dk_27 (dk_at dksX0_isChaiseOut_0 3 rfl rfl)
theorem dX0_isChaiseOut_4 : decode cX0_isChaiseOut 4 = .ok (.invokevirtual 102, 3) := dk_182 0 102 (dk_at dksX0_isChaiseOut_0 4 rfl rfl)
theorem dX0_isChaiseOut_7 : decode cX0_isChaiseOut 7 = .ok (.ifCond .eq 7, 3) := dk_153 0 7 (dk_at dksX0_isChaiseOut_0 7 rfl rfl)
theorem dX0_isChaiseOut_10 : decode cX0_isChaiseOut 10 = .ok (.lconst 1, 1) := dk_10 (dk_at dksX0_isChaiseOut_0 10 rfl rfl)
theorem dX0_isChaiseOut_11 : decode cX0_isChaiseOut 11 = .ok (.goto 4, 3) := dk_167 0 4 (dk_at dksX0_isChaiseOut_0 11 rfl rfl)
theorem dX0_isChaiseOut_14 : decode cX0_isChaiseOut 14 = .ok (.lconst 0, 1) := dk_9 (dk_at dksX0_isChaiseOut_0 14 rfl rfl)
theorem dX0_isChaiseOut_15 : decode cX0_isChaiseOut 15 = .ok (.lastore, 1) := dk_80 (dk_at dksX0_isChaiseOut_0 15 rfl rfl)
theorem dX0_isChaiseOut_16 : decode cX0_isChaiseOut 16 = .ok (.goto 6, 3) := dk_167 0 6 (dk_at dksX0_isChaiseOut_0 16 rfl rfl)
theorem dX0_isChaiseOut_19 : decode cX0_isChaiseOut 19 = .ok (.astore_n 3, 1) := dk_78 (dk_at dksX0_isChaiseOut_0 19 rfl rfl)
theorem dX0_isChaiseOut_20 : decode cX0_isChaiseOut 20 = .ok (.iconst 1, 1) := dk_4 (dk_at dksX0_isChaiseOut_0 20 rfl rfl)
theorem dX0_isChaiseOut_21 : decode cX0_isChaiseOut 21 = .ok (.ireturn, 1) := dk_172 (dk_at dksX0_isChaiseOut_0 21 rfl rfl)
theorem dX0_isChaiseOut_22 : decode cX0_isChaiseOut 22 = .ok (.iconst 0, 1) := dk_3 (dk_at dksX0_isChaiseOut_0 22 rfl rfl)
theorem dX0_isChaiseOut_23 : decode cX0_isChaiseOut 23 = .ok (.ireturn, 1) := dk_172 (dk_at dksX0_isChaiseOut_0 23 rfl rfl)
abbrev cX0_isBroken : ByteArray := method_31_code
def yX0_isBroken : MethodName := ⟨RX0, "isBroken", "(LPostChaiseYard;I[J)I"⟩
def dkwX0_isBroken_0 : List UInt8 := [44, 3, 42, 27, 182, 0, 105, 153, 0, 7, 10, 167, 0, 4, 9, 80, 167, 0, 6, 78, 4, 172, 3, 172]
abbrev dktX0_isBroken_0 : List UInt8 := dkwX0_isBroken_0 ++ []
theorem dksX0_isBroken_0 : cX0_isBroken.data.toList.drop 0 = dktX0_isBroken_0 := by decide +kernel
theorem dX0_isBroken_0 : decode cX0_isBroken 0 = .ok (.aload_n 2, 1) := dk_44 (dk_at dksX0_isBroken_0 0 rfl rfl)
theorem dX0_isBroken_1 : decode cX0_isBroken 1 = .ok (.iconst 0, 1) := dk_3 (dk_at dksX0_isBroken_0 1 rfl rfl)
theorem dX0_isBroken_2 : decode cX0_isBroken 2 = .ok (.aload_n 0, 1) := dk_42 (dk_at dksX0_isBroken_0 2 rfl rfl)
theorem dX0_isBroken_3 : decode cX0_isBroken 3 = .ok (.iload_n 1, 1) := dk_27 (dk_at dksX0_isBroken_0 3 rfl rfl)
theorem dX0_isBroken_4 : decode cX0_isBroken 4 = .ok (.invokevirtual 105, 3) := dk_182 0 105 (dk_at dksX0_isBroken_0 4 rfl rfl)
theorem dX0_isBroken_7 : decode cX0_isBroken 7 = .ok (.ifCond .eq 7, 3) := dk_153 0 7 (dk_at dksX0_isBroken_0 7 rfl rfl)
theorem dX0_isBroken_10 : decode cX0_isBroken 10 = .ok (.lconst 1, 1) := dk_10 (dk_at dksX0_isBroken_0 10 rfl rfl)
theorem dX0_isBroken_11 : decode cX0_isBroken 11 = .ok (.goto 4, 3) := dk_167 0 4 (dk_at dksX0_isBroken_0 11 rfl rfl)
theorem dX0_isBroken_14 : decode cX0_isBroken 14 = .ok (.lconst 0, 1) := dk_9 (dk_at dksX0_isBroken_0 14 rfl rfl)
theorem dX0_isBroken_15 : decode cX0_isBroken 15 = .ok (.lastore, 1) := dk_80 (dk_at dksX0_isBroken_0 15 rfl rfl)
theorem dX0_isBroken_16 : decode cX0_isBroken 16 = .ok (.goto 6, 3) := dk_167 0 6 (dk_at dksX0_isBroken_0 16 rfl rfl)
theorem dX0_isBroken_19 : decode cX0_isBroken 19 = .ok (.astore_n 3, 1) := dk_78 (dk_at dksX0_isBroken_0 19 rfl rfl)
theorem dX0_isBroken_20 : decode cX0_isBroken 20 = .ok (.iconst 1, 1) := dk_4 (dk_at dksX0_isBroken_0 20 rfl rfl)
theorem dX0_isBroken_21 : decode cX0_isBroken 21 = .ok (.ireturn, 1) := dk_172 (dk_at dksX0_isBroken_0 21 rfl rfl)
theorem dX0_isBroken_22 : decode cX0_isBroken 22 = .ok (.iconst 0, 1) := dk_3 (dk_at dksX0_isBroken_0 22 rfl rfl)
theorem dX0_isBroken_23 : decode cX0_isBroken 23 = .ok (.ireturn, 1) := dk_172 (dk_at dksX0_isBroken_0 23 rfl rfl)
abbrev cX0_wearOf : ByteArray := method_32_code
def yX0_wearOf : MethodName := ⟨RX0, "wearOf", "(LPostChaiseYard;I[J)I"⟩
def dkwX0_wearOf_0 : List UInt8 := [44, 3, 42, 27, 182, 0, 108, 133, 80, 167, 0, 6, 78, 4, 172, 3, 172]
abbrev dktX0_wearOf_0 : List UInt8 := dkwX0_wearOf_0 ++ []
theorem dksX0_wearOf_0 : cX0_wearOf.data.toList.drop 0 = dktX0_wearOf_0 := by decide +kernel
theorem dX0_wearOf_0 : decode cX0_wearOf 0 = .ok (.aload_n 2, 1) := dk_44 (dk_at dksX0_wearOf_0 0 rfl rfl)
theorem dX0_wearOf_1 : decode cX0_wearOf 1 = .ok (.iconst 0, 1) := dk_3 (dk_at dksX0_wearOf_0 1 rfl rfl)
theorem dX0_wearOf_2 : decode cX0_wearOf 2 = .ok (.aload_n 0, 1) := dk_42 (dk_at dksX0_wearOf_0 2 rfl rfl)
theorem dX0_wearOf_3 : decode cX0_wearOf 3 = .ok (.iload_n 1, 1) := dk_27 (dk_at dksX0_wearOf_0 3 rfl rfl)
theorem dX0_wearOf_4 : decode cX0_wearOf 4 = .ok (.invokevirtual 108, 3) := dk_182 0 108 (dk_at dksX0_wearOf_0 4 rfl rfl)
theorem dX0_wearOf_7 : decode cX0_wearOf 7 = .ok (.i2l, 1) := dk_133 (dk_at dksX0_wearOf_0 7 rfl rfl)
theorem dX0_wearOf_8 : decode cX0_wearOf 8 = .ok (.lastore, 1) := dk_80 (dk_at dksX0_wearOf_0 8 rfl rfl)
theorem dX0_wearOf_9 : decode cX0_wearOf 9 = .ok (.goto 6, 3) := dk_167 0 6 (dk_at dksX0_wearOf_0 9 rfl rfl)
theorem dX0_wearOf_12 : decode cX0_wearOf 12 = .ok (.astore_n 3, 1) := dk_78 (dk_at dksX0_wearOf_0 12 rfl rfl)
theorem dX0_wearOf_13 : decode cX0_wearOf 13 = .ok (.iconst 1, 1) := dk_4 (dk_at dksX0_wearOf_0 13 rfl rfl)
theorem dX0_wearOf_14 : decode cX0_wearOf 14 = .ok (.ireturn, 1) := dk_172 (dk_at dksX0_wearOf_0 14 rfl rfl)
theorem dX0_wearOf_15 : decode cX0_wearOf 15 = .ok (.iconst 0, 1) := dk_3 (dk_at dksX0_wearOf_0 15 rfl rfl)
theorem dX0_wearOf_16 : decode cX0_wearOf 16 = .ok (.ireturn, 1) := dk_172 (dk_at dksX0_wearOf_0 16 rfl rfl)
abbrev cX0_milesOfChaise : ByteArray := method_33_code
def yX0_milesOfChaise : MethodName := ⟨RX0, "milesOfChaise", "(LPostChaiseYard;I[J)I"⟩
def dkwX0_milesOfChaise_0 : List UInt8 := [44, 3, 42, 27, 182, 0, 111, 133, 80, 167, 0, 6, 78, 4, 172, 3, 172]
abbrev dktX0_milesOfChaise_0 : List UInt8 := dkwX0_milesOfChaise_0 ++ []
theorem dksX0_milesOfChaise_0 : cX0_milesOfChaise.data.toList.drop 0 = dktX0_milesOfChaise_0 := by decide +kernel
theorem dX0_milesOfChaise_0 : decode cX0_milesOfChaise 0 = .ok (.aload_n 2, 1) := dk_44 (dk_at dksX0_milesOfChaise_0 0 rfl rfl)
theorem dX0_milesOfChaise_1 : decode cX0_milesOfChaise 1 = .ok (.iconst 0, 1) := dk_3 (dk_at dksX0_milesOfChaise_0 1 rfl rfl)
theorem dX0_milesOfChaise_2 : decode cX0_milesOfChaise 2 = .ok (.aload_n 0, 1) := dk_42 (dk_at dksX0_milesOfChaise_0 2 rfl rfl)
theorem dX0_milesOfChaise_3 : decode cX0_milesOfChaise 3 = .ok (.iload_n 1, 1) := dk_27 (dk_at dksX0_milesOfChaise_0 3 rfl rfl)
theorem dX0_milesOfChaise_4 : decode cX0_milesOfChaise 4 = .ok (.invokevirtual 111, 3) := dk_182 0 111 (dk_at dksX0_milesOfChaise_0 4 rfl rfl)
theorem dX0_milesOfChaise_7 : decode cX0_milesOfChaise 7 = .ok (.i2l, 1) := dk_133 (dk_at dksX0_milesOfChaise_0 7 rfl rfl)
theorem dX0_milesOfChaise_8 : decode cX0_milesOfChaise 8 = .ok (.lastore, 1) := dk_80 (dk_at dksX0_milesOfChaise_0 8 rfl rfl)
theorem dX0_milesOfChaise_9 : decode cX0_milesOfChaise 9 = .ok (.goto 6, 3) := dk_167 0 6 (dk_at dksX0_milesOfChaise_0 9 rfl rfl)
theorem dX0_milesOfChaise_12 : decode cX0_milesOfChaise 12 = .ok (.astore_n 3, 1) := dk_78 (dk_at dksX0_milesOfChaise_0 12 rfl rfl)
theorem dX0_milesOfChaise_13 : decode cX0_milesOfChaise 13 = .ok (.iconst 1, 1) := dk_4 (dk_at dksX0_milesOfChaise_0 13 rfl rfl)
theorem dX0_milesOfChaise_14 : decode cX0_milesOfChaise 14 = .ok (.ireturn, 1) := dk_172 (dk_at dksX0_milesOfChaise_0 14 rfl rfl)
theorem dX0_milesOfChaise_15 : decode cX0_milesOfChaise 15 = .ok (.iconst 0, 1) := dk_3 (dk_at dksX0_milesOfChaise_0 15 rfl rfl)
theorem dX0_milesOfChaise_16 : decode cX0_milesOfChaise 16 = .ok (.ireturn, 1) := dk_172 (dk_at dksX0_milesOfChaise_0 16 rfl rfl)
abbrev cX0_guestOf : ByteArray := method_34_code
def yX0_guestOf : MethodName := ⟨RX0, "guestOf", "(LPostChaiseYard;I[J)I"⟩
def dkwX0_guestOf_0 : List UInt8 := [44, 3, 42, 27, 182, 0, 114, 133, 80, 167, 0, 9, 78, 4, 172, 78, 5, 172, 3, 172]
abbrev dktX0_guestOf_0 : List UInt8 := dkwX0_guestOf_0 ++ []
theorem dksX0_guestOf_0 : cX0_guestOf.data.toList.drop 0 = dktX0_guestOf_0 := by decide +kernel
theorem dX0_guestOf_0 : decode cX0_guestOf 0 = .ok (.aload_n 2, 1) := dk_44 (dk_at dksX0_guestOf_0 0 rfl rfl)
theorem dX0_guestOf_1 : decode cX0_guestOf 1 = .ok (.iconst 0, 1) := dk_3 (dk_at dksX0_guestOf_0 1 rfl rfl)
theorem dX0_guestOf_2 : decode cX0_guestOf 2 = .ok (.aload_n 0, 1) := dk_42 (dk_at dksX0_guestOf_0 2 rfl rfl)
theorem dX0_guestOf_3 : decode cX0_guestOf 3 = .ok (.iload_n 1, 1) := dk_27 (dk_at dksX0_guestOf_0 3 rfl rfl)
theorem dX0_guestOf_4 : decode cX0_guestOf 4 = .ok (.invokevirtual 114, 3) := dk_182 0 114 (dk_at dksX0_guestOf_0 4 rfl rfl)
theorem dX0_guestOf_7 : decode cX0_guestOf 7 = .ok (.i2l, 1) := dk_133 (dk_at dksX0_guestOf_0 7 rfl rfl)
theorem dX0_guestOf_8 : decode cX0_guestOf 8 = .ok (.lastore, 1) := dk_80 (dk_at dksX0_guestOf_0 8 rfl rfl)
theorem dX0_guestOf_9 : decode cX0_guestOf 9 = .ok (.goto 9, 3) := dk_167 0 9 (dk_at dksX0_guestOf_0 9 rfl rfl)
theorem dX0_guestOf_12 : decode cX0_guestOf 12 = .ok (.astore_n 3, 1) := dk_78 (dk_at dksX0_guestOf_0 12 rfl rfl)
theorem dX0_guestOf_13 : decode cX0_guestOf 13 = .ok (.iconst 1, 1) := dk_4 (dk_at dksX0_guestOf_0 13 rfl rfl)
theorem dX0_guestOf_14 : decode cX0_guestOf 14 = .ok (.ireturn, 1) := dk_172 (dk_at dksX0_guestOf_0 14 rfl rfl)
theorem dX0_guestOf_15 : decode cX0_guestOf 15 = .ok (.astore_n 3, 1) := dk_78 (dk_at dksX0_guestOf_0 15 rfl rfl)
theorem dX0_guestOf_16 : decode cX0_guestOf 16 = .ok (.iconst 2, 1) := dk_5 (dk_at dksX0_guestOf_0 16 rfl rfl)
theorem dX0_guestOf_17 : decode cX0_guestOf 17 = .ok (.ireturn, 1) := dk_172 (dk_at dksX0_guestOf_0 17 rfl rfl)
theorem dX0_guestOf_18 : decode cX0_guestOf 18 = .ok (.iconst 0, 1) := dk_3 (dk_at dksX0_guestOf_0 18 rfl rfl)
theorem dX0_guestOf_19 : decode cX0_guestOf 19 = .ok (.ireturn, 1) := dk_172 (dk_at dksX0_guestOf_0 19 rfl rfl)
abbrev cX0_quartersLeft : ByteArray := method_35_code
def yX0_quartersLeft : MethodName := ⟨RX0, "quartersLeft", "(LPostChaiseYard;I[J)I"⟩
def dkwX0_quartersLeft_0 : List UInt8 := [44, 3, 42, 27, 182, 0, 117, 133, 80, 167, 0, 9, 78, 4, 172, 78, 5, 172, 3, 172]
abbrev dktX0_quartersLeft_0 : List UInt8 := dkwX0_quartersLeft_0 ++ []
theorem dksX0_quartersLeft_0 : cX0_quartersLeft.data.toList.drop 0 = dktX0_quartersLeft_0 := by decide +kernel
theorem dX0_quartersLeft_0 : decode cX0_quartersLeft 0 = .ok (.aload_n 2, 1) := dk_44 (dk_at dksX0_quartersLeft_0 0 rfl rfl)
theorem dX0_quartersLeft_1 : decode cX0_quartersLeft 1 = .ok (.iconst 0, 1) := dk_3 (dk_at dksX0_quartersLeft_0 1 rfl rfl)
theorem dX0_quartersLeft_2 : decode cX0_quartersLeft 2 = .ok (.aload_n 0, 1) := dk_42 (dk_at dksX0_quartersLeft_0 2 rfl rfl)
theorem dX0_quartersLeft_3 : decode cX0_quartersLeft 3 = .ok (.iload_n 1, 1) := dk_27 (dk_at dksX0_quartersLeft_0 3 rfl rfl)
theorem dX0_quartersLeft_4 : decode cX0_quartersLeft 4 = .ok (.invokevirtual 117, 3) := dk_182 0 117 (dk_at dksX0_quartersLeft_0 4 rfl rfl)
theorem dX0_quartersLeft_7 : decode cX0_quartersLeft 7 = .ok (.i2l, 1) := dk_133 (dk_at dksX0_quartersLeft_0 7 rfl rfl)
theorem dX0_quartersLeft_8 : decode cX0_quartersLeft 8 = .ok (.lastore, 1) := dk_80 (dk_at dksX0_quartersLeft_0 8 rfl rfl)
theorem dX0_quartersLeft_9 : decode cX0_quartersLeft 9 = .ok (.goto 9, 3) := dk_167 0 9 (dk_at dksX0_quartersLeft_0 9 rfl rfl)
theorem dX0_quartersLeft_12 : decode cX0_quartersLeft 12 = .ok (.astore_n 3, 1) := dk_78 (dk_at dksX0_quartersLeft_0 12 rfl rfl)
theorem dX0_quartersLeft_13 : decode cX0_quartersLeft 13 = .ok (.iconst 1, 1) := dk_4 (dk_at dksX0_quartersLeft_0 13 rfl rfl)
theorem dX0_quartersLeft_14 : decode cX0_quartersLeft 14 = .ok (.ireturn, 1) := dk_172 (dk_at dksX0_quartersLeft_0 14 rfl rfl)
theorem dX0_quartersLeft_15 : decode cX0_quartersLeft 15 = .ok (.astore_n 3, 1) := dk_78 (dk_at dksX0_quartersLeft_0 15 rfl rfl)
theorem dX0_quartersLeft_16 : decode cX0_quartersLeft 16 = .ok (.iconst 2, 1) := dk_5 (dk_at dksX0_quartersLeft_0 16 rfl rfl)
theorem dX0_quartersLeft_17 : decode cX0_quartersLeft 17 = .ok (.ireturn, 1) := dk_172 (dk_at dksX0_quartersLeft_0 17 rfl rfl)
theorem dX0_quartersLeft_18 : decode cX0_quartersLeft 18 = .ok (.iconst 0, 1) := dk_3 (dk_at dksX0_quartersLeft_0 18 rfl rfl)
theorem dX0_quartersLeft_19 : decode cX0_quartersLeft 19 = .ok (.ireturn, 1) := dk_172 (dk_at dksX0_quartersLeft_0 19 rfl rfl)
abbrev cX0_nextChaise : ByteArray := method_36_code
def yX0_nextChaise : MethodName := ⟨RX0, "nextChaise", "(LPostChaiseYard;[J)I"⟩
def dkwX0_nextChaise_0 : List UInt8 := [43, 3, 42, 182, 0, 120, 133, 80, 167, 0, 6, 77, 4, 172, 3, 172]
abbrev dktX0_nextChaise_0 : List UInt8 := dkwX0_nextChaise_0 ++ []
theorem dksX0_nextChaise_0 : cX0_nextChaise.data.toList.drop 0 = dktX0_nextChaise_0 := by decide +kernel
theorem dX0_nextChaise_0 : decode cX0_nextChaise 0 = .ok (.aload_n 1, 1) := dk_43 (dk_at dksX0_nextChaise_0 0 rfl rfl)
theorem dX0_nextChaise_1 : decode cX0_nextChaise 1 = .ok (.iconst 0, 1) := dk_3 (dk_at dksX0_nextChaise_0 1 rfl rfl)
theorem dX0_nextChaise_2 : decode cX0_nextChaise 2 = .ok (.aload_n 0, 1) := dk_42 (dk_at dksX0_nextChaise_0 2 rfl rfl)
theorem dX0_nextChaise_3 : decode cX0_nextChaise 3 = .ok (.invokevirtual 120, 3) := dk_182 0 120 (dk_at dksX0_nextChaise_0 3 rfl rfl)
theorem dX0_nextChaise_6 : decode cX0_nextChaise 6 = .ok (.i2l, 1) := dk_133 (dk_at dksX0_nextChaise_0 6 rfl rfl)
theorem dX0_nextChaise_7 : decode cX0_nextChaise 7 = .ok (.lastore, 1) := dk_80 (dk_at dksX0_nextChaise_0 7 rfl rfl)
theorem dX0_nextChaise_8 : decode cX0_nextChaise 8 = .ok (.goto 6, 3) := dk_167 0 6 (dk_at dksX0_nextChaise_0 8 rfl rfl)
theorem dX0_nextChaise_11 : decode cX0_nextChaise 11 = .ok (.astore_n 2, 1) := dk_77 (dk_at dksX0_nextChaise_0 11 rfl rfl)
theorem dX0_nextChaise_12 : decode cX0_nextChaise 12 = .ok (.iconst 1, 1) := dk_4 (dk_at dksX0_nextChaise_0 12 rfl rfl)
theorem dX0_nextChaise_13 : decode cX0_nextChaise 13 = .ok (.ireturn, 1) := dk_172 (dk_at dksX0_nextChaise_0 13 rfl rfl)
theorem dX0_nextChaise_14 : decode cX0_nextChaise 14 = .ok (.iconst 0, 1) := dk_3 (dk_at dksX0_nextChaise_0 14 rfl rfl)
theorem dX0_nextChaise_15 : decode cX0_nextChaise 15 = .ok (.ireturn, 1) := dk_172 (dk_at dksX0_nextChaise_0 15 rfl rfl)
abbrev cX0_chaiseInRepair : ByteArray := method_37_code
def yX0_chaiseInRepair : MethodName := ⟨RX0, "chaiseInRepair", "(LPostChaiseYard;[J)I"⟩
def dkwX0_chaiseInRepair_0 : List UInt8 := [43, 3, 42, 182, 0, 123, 133, 80, 167, 0, 6, 77, 4, 172, 3, 172]
abbrev dktX0_chaiseInRepair_0 : List UInt8 := dkwX0_chaiseInRepair_0 ++ []
theorem dksX0_chaiseInRepair_0 : cX0_chaiseInRepair.data.toList.drop 0 = dktX0_chaiseInRepair_0 := by decide +kernel
theorem dX0_chaiseInRepair_0 : decode cX0_chaiseInRepair 0 = .ok (.aload_n 1, 1) := dk_43 (dk_at dksX0_chaiseInRepair_0 0 rfl rfl)
theorem dX0_chaiseInRepair_1 : decode cX0_chaiseInRepair 1 = .ok (.iconst 0, 1) := dk_3 (dk_at dksX0_chaiseInRepair_0 1 rfl rfl)
theorem dX0_chaiseInRepair_2 : decode cX0_chaiseInRepair 2 = .ok (.aload_n 0, 1) := dk_42 (dk_at dksX0_chaiseInRepair_0 2 rfl rfl)
theorem dX0_chaiseInRepair_3 : decode cX0_chaiseInRepair 3 = .ok (.invokevirtual 123, 3) := dk_182 0 123 (dk_at dksX0_chaiseInRepair_0 3 rfl rfl)
theorem dX0_chaiseInRepair_6 : decode cX0_chaiseInRepair 6 = .ok (.i2l, 1) := dk_133 (dk_at dksX0_chaiseInRepair_0 6 rfl rfl)
theorem dX0_chaiseInRepair_7 : decode cX0_chaiseInRepair 7 = .ok (.lastore, 1) := dk_80 (dk_at dksX0_chaiseInRepair_0 7 rfl rfl)
theorem dX0_chaiseInRepair_8 : decode cX0_chaiseInRepair 8 = .ok (.goto 6, 3) := dk_167 0 6 (dk_at dksX0_chaiseInRepair_0 8 rfl rfl)
theorem dX0_chaiseInRepair_11 : decode cX0_chaiseInRepair 11 = .ok (.astore_n 2, 1) := dk_77 (dk_at dksX0_chaiseInRepair_0 11 rfl rfl)
theorem dX0_chaiseInRepair_12 : decode cX0_chaiseInRepair 12 = .ok (.iconst 1, 1) := dk_4 (dk_at dksX0_chaiseInRepair_0 12 rfl rfl)
theorem dX0_chaiseInRepair_13 : decode cX0_chaiseInRepair 13 = .ok (.ireturn, 1) := dk_172 (dk_at dksX0_chaiseInRepair_0 13 rfl rfl)
theorem dX0_chaiseInRepair_14 : decode cX0_chaiseInRepair 14 = .ok (.iconst 0, 1) := dk_3 (dk_at dksX0_chaiseInRepair_0 14 rfl rfl)
theorem dX0_chaiseInRepair_15 : decode cX0_chaiseInRepair 15 = .ok (.ireturn, 1) := dk_172 (dk_at dksX0_chaiseInRepair_0 15 rfl rfl)
abbrev cX0_repairLeft : ByteArray := method_38_code
def yX0_repairLeft : MethodName := ⟨RX0, "repairLeft", "(LPostChaiseYard;[J)I"⟩
def dkwX0_repairLeft_0 : List UInt8 := [43, 3, 42, 182, 0, 126, 133, 80, 167, 0, 6, 77, 4, 172, 3, 172]
abbrev dktX0_repairLeft_0 : List UInt8 := dkwX0_repairLeft_0 ++ []
theorem dksX0_repairLeft_0 : cX0_repairLeft.data.toList.drop 0 = dktX0_repairLeft_0 := by decide +kernel
theorem dX0_repairLeft_0 : decode cX0_repairLeft 0 = .ok (.aload_n 1, 1) := dk_43 (dk_at dksX0_repairLeft_0 0 rfl rfl)
theorem dX0_repairLeft_1 : decode cX0_repairLeft 1 = .ok (.iconst 0, 1) := dk_3 (dk_at dksX0_repairLeft_0 1 rfl rfl)
theorem dX0_repairLeft_2 : decode cX0_repairLeft 2 = .ok (.aload_n 0, 1) := dk_42 (dk_at dksX0_repairLeft_0 2 rfl rfl)
theorem dX0_repairLeft_3 : decode cX0_repairLeft 3 = .ok (.invokevirtual 126, 3) := dk_182 0 126 (dk_at dksX0_repairLeft_0 3 rfl rfl)
theorem dX0_repairLeft_6 : decode cX0_repairLeft 6 = .ok (.i2l, 1) := dk_133 (dk_at dksX0_repairLeft_0 6 rfl rfl)
theorem dX0_repairLeft_7 : decode cX0_repairLeft 7 = .ok (.lastore, 1) := dk_80 (dk_at dksX0_repairLeft_0 7 rfl rfl)
theorem dX0_repairLeft_8 : decode cX0_repairLeft 8 = .ok (.goto 6, 3) := dk_167 0 6 (dk_at dksX0_repairLeft_0 8 rfl rfl)
theorem dX0_repairLeft_11 : decode cX0_repairLeft 11 = .ok (.astore_n 2, 1) := dk_77 (dk_at dksX0_repairLeft_0 11 rfl rfl)
theorem dX0_repairLeft_12 : decode cX0_repairLeft 12 = .ok (.iconst 1, 1) := dk_4 (dk_at dksX0_repairLeft_0 12 rfl rfl)
theorem dX0_repairLeft_13 : decode cX0_repairLeft 13 = .ok (.ireturn, 1) := dk_172 (dk_at dksX0_repairLeft_0 13 rfl rfl)
theorem dX0_repairLeft_14 : decode cX0_repairLeft 14 = .ok (.iconst 0, 1) := dk_3 (dk_at dksX0_repairLeft_0 14 rfl rfl)
theorem dX0_repairLeft_15 : decode cX0_repairLeft 15 = .ok (.ireturn, 1) := dk_172 (dk_at dksX0_repairLeft_0 15 rfl rfl)
abbrev cX0_quartersToArrival : ByteArray := method_39_code
def yX0_quartersToArrival : MethodName := ⟨RX0, "quartersToArrival", "(LPostChaiseYard;I[J)I"⟩
def dkwX0_quartersToArrival_0 : List UInt8 := [44, 3, 42, 27, 182, 0, 129, 133, 80, 167, 0, 9, 78, 4, 172, 78, 5, 172, 3, 172]
abbrev dktX0_quartersToArrival_0 : List UInt8 := dkwX0_quartersToArrival_0 ++ []
theorem dksX0_quartersToArrival_0 : cX0_quartersToArrival.data.toList.drop 0 = dktX0_quartersToArrival_0 := by decide +kernel
theorem dX0_quartersToArrival_0 : decode cX0_quartersToArrival 0 = .ok (.aload_n 2, 1) := dk_44 (dk_at dksX0_quartersToArrival_0 0 rfl rfl)
theorem dX0_quartersToArrival_1 : decode cX0_quartersToArrival 1 = .ok (.iconst 0, 1) := dk_3 (dk_at dksX0_quartersToArrival_0 1 rfl rfl)
theorem dX0_quartersToArrival_2 : decode cX0_quartersToArrival 2 = .ok (.aload_n 0, 1) := dk_42 (dk_at dksX0_quartersToArrival_0 2 rfl rfl)
theorem dX0_quartersToArrival_3 : decode cX0_quartersToArrival 3 = .ok (.iload_n 1, 1) := dk_27 (dk_at dksX0_quartersToArrival_0 3 rfl rfl)
theorem dX0_quartersToArrival_4 : decode cX0_quartersToArrival 4 = .ok (.invokevirtual 129, 3) := dk_182 0 129 (dk_at dksX0_quartersToArrival_0 4 rfl rfl)
theorem dX0_quartersToArrival_7 : decode cX0_quartersToArrival 7 = .ok (.i2l, 1) := dk_133 (dk_at dksX0_quartersToArrival_0 7 rfl rfl)
theorem dX0_quartersToArrival_8 : decode cX0_quartersToArrival 8 = .ok (.lastore, 1) := dk_80 (dk_at dksX0_quartersToArrival_0 8 rfl rfl)
theorem dX0_quartersToArrival_9 : decode cX0_quartersToArrival 9 = .ok (.goto 9, 3) := dk_167 0 9 (dk_at dksX0_quartersToArrival_0 9 rfl rfl)
theorem dX0_quartersToArrival_12 : decode cX0_quartersToArrival 12 = .ok (.astore_n 3, 1) := dk_78 (dk_at dksX0_quartersToArrival_0 12 rfl rfl)
theorem dX0_quartersToArrival_13 : decode cX0_quartersToArrival 13 = .ok (.iconst 1, 1) := dk_4 (dk_at dksX0_quartersToArrival_0 13 rfl rfl)
theorem dX0_quartersToArrival_14 : decode cX0_quartersToArrival 14 = .ok (.ireturn, 1) := dk_172 (dk_at dksX0_quartersToArrival_0 14 rfl rfl)
theorem dX0_quartersToArrival_15 : decode cX0_quartersToArrival 15 = .ok (.astore_n 3, 1) := dk_78 (dk_at dksX0_quartersToArrival_0 15 rfl rfl)
theorem dX0_quartersToArrival_16 : decode cX0_quartersToArrival 16 = .ok (.iconst 2, 1) := dk_5 (dk_at dksX0_quartersToArrival_0 16 rfl rfl)
theorem dX0_quartersToArrival_17 : decode cX0_quartersToArrival 17 = .ok (.ireturn, 1) := dk_172 (dk_at dksX0_quartersToArrival_0 17 rfl rfl)
theorem dX0_quartersToArrival_18 : decode cX0_quartersToArrival 18 = .ok (.iconst 0, 1) := dk_3 (dk_at dksX0_quartersToArrival_0 18 rfl rfl)
theorem dX0_quartersToArrival_19 : decode cX0_quartersToArrival 19 = .ok (.ireturn, 1) := dk_172 (dk_at dksX0_quartersToArrival_0 19 rfl rfl)
abbrev cX0_departuresIn : ByteArray := method_40_code
def yX0_departuresIn : MethodName := ⟨RX0, "departuresIn", "(LPostChaiseYard;I[J)I"⟩
def dkwX0_departuresIn_0 : List UInt8 := [44, 3, 42, 27, 182, 0, 132, 133, 80, 167, 0, 6, 78, 4, 172, 3, 172]
abbrev dktX0_departuresIn_0 : List UInt8 := dkwX0_departuresIn_0 ++ []
theorem dksX0_departuresIn_0 : cX0_departuresIn.data.toList.drop 0 = dktX0_departuresIn_0 := by decide +kernel
theorem dX0_departuresIn_0 : decode cX0_departuresIn 0 = .ok (.aload_n 2, 1) := dk_44 (dk_at dksX0_departuresIn_0 0 rfl rfl)
theorem dX0_departuresIn_1 : decode cX0_departuresIn 1 = .ok (.iconst 0, 1) := dk_3 (dk_at dksX0_departuresIn_0 1 rfl rfl)
theorem dX0_departuresIn_2 : decode cX0_departuresIn 2 = .ok (.aload_n 0, 1) := dk_42 (dk_at dksX0_departuresIn_0 2 rfl rfl)
theorem dX0_departuresIn_3 : decode cX0_departuresIn 3 = .ok (.iload_n 1, 1) := dk_27 (dk_at dksX0_departuresIn_0 3 rfl rfl)
theorem dX0_departuresIn_4 : decode cX0_departuresIn 4 = .ok (.invokevirtual 132, 3) := dk_182 0 132 (dk_at dksX0_departuresIn_0 4 rfl rfl)
theorem dX0_departuresIn_7 : decode cX0_departuresIn 7 = .ok (.i2l, 1) := dk_133 (dk_at dksX0_departuresIn_0 7 rfl rfl)
theorem dX0_departuresIn_8 : decode cX0_departuresIn 8 = .ok (.lastore, 1) := dk_80 (dk_at dksX0_departuresIn_0 8 rfl rfl)
theorem dX0_departuresIn_9 : decode cX0_departuresIn 9 = .ok (.goto 6, 3) := dk_167 0 6 (dk_at dksX0_departuresIn_0 9 rfl rfl)
theorem dX0_departuresIn_12 : decode cX0_departuresIn 12 = .ok (.astore_n 3, 1) := dk_78 (dk_at dksX0_departuresIn_0 12 rfl rfl)
theorem dX0_departuresIn_13 : decode cX0_departuresIn 13 = .ok (.iconst 1, 1) := dk_4 (dk_at dksX0_departuresIn_0 13 rfl rfl)
theorem dX0_departuresIn_14 : decode cX0_departuresIn 14 = .ok (.ireturn, 1) := dk_172 (dk_at dksX0_departuresIn_0 14 rfl rfl)
theorem dX0_departuresIn_15 : decode cX0_departuresIn 15 = .ok (.iconst 0, 1) := dk_3 (dk_at dksX0_departuresIn_0 15 rfl rfl)
theorem dX0_departuresIn_16 : decode cX0_departuresIn 16 = .ok (.ireturn, 1) := dk_172 (dk_at dksX0_departuresIn_0 16 rfl rfl)
abbrev cX0_incomeFrom : ByteArray := method_41_code
def yX0_incomeFrom : MethodName := ⟨RX0, "incomeFrom", "(LPostChaiseYard;I[J)I"⟩
def dkwX0_incomeFrom_0 : List UInt8 := [44, 3, 42, 27, 182, 0, 135, 133, 80, 167, 0, 6, 78, 4, 172, 3, 172]
abbrev dktX0_incomeFrom_0 : List UInt8 := dkwX0_incomeFrom_0 ++ []
theorem dksX0_incomeFrom_0 : cX0_incomeFrom.data.toList.drop 0 = dktX0_incomeFrom_0 := by decide +kernel
theorem dX0_incomeFrom_0 : decode cX0_incomeFrom 0 = .ok (.aload_n 2, 1) := dk_44 (dk_at dksX0_incomeFrom_0 0 rfl rfl)
theorem dX0_incomeFrom_1 : decode cX0_incomeFrom 1 = .ok (.iconst 0, 1) := dk_3 (dk_at dksX0_incomeFrom_0 1 rfl rfl)
theorem dX0_incomeFrom_2 : decode cX0_incomeFrom 2 = .ok (.aload_n 0, 1) := dk_42 (dk_at dksX0_incomeFrom_0 2 rfl rfl)
theorem dX0_incomeFrom_3 : decode cX0_incomeFrom 3 = .ok (.iload_n 1, 1) := dk_27 (dk_at dksX0_incomeFrom_0 3 rfl rfl)
theorem dX0_incomeFrom_4 : decode cX0_incomeFrom 4 = .ok (.invokevirtual 135, 3) := dk_182 0 135 (dk_at dksX0_incomeFrom_0 4 rfl rfl)
theorem dX0_incomeFrom_7 : decode cX0_incomeFrom 7 = .ok (.i2l, 1) := dk_133 (dk_at dksX0_incomeFrom_0 7 rfl rfl)
theorem dX0_incomeFrom_8 : decode cX0_incomeFrom 8 = .ok (.lastore, 1) := dk_80 (dk_at dksX0_incomeFrom_0 8 rfl rfl)
theorem dX0_incomeFrom_9 : decode cX0_incomeFrom 9 = .ok (.goto 6, 3) := dk_167 0 6 (dk_at dksX0_incomeFrom_0 9 rfl rfl)
theorem dX0_incomeFrom_12 : decode cX0_incomeFrom 12 = .ok (.astore_n 3, 1) := dk_78 (dk_at dksX0_incomeFrom_0 12 rfl rfl)
theorem dX0_incomeFrom_13 : decode cX0_incomeFrom 13 = .ok (.iconst 1, 1) := dk_4 (dk_at dksX0_incomeFrom_0 13 rfl rfl)
theorem dX0_incomeFrom_14 : decode cX0_incomeFrom 14 = .ok (.ireturn, 1) := dk_172 (dk_at dksX0_incomeFrom_0 14 rfl rfl)
theorem dX0_incomeFrom_15 : decode cX0_incomeFrom 15 = .ok (.iconst 0, 1) := dk_3 (dk_at dksX0_incomeFrom_0 15 rfl rfl)
theorem dX0_incomeFrom_16 : decode cX0_incomeFrom 16 = .ok (.ireturn, 1) := dk_172 (dk_at dksX0_incomeFrom_0 16 rfl rfl)
abbrev cX0_append : ByteArray := method_42_code
def yX0_append : MethodName := ⟨RX0, "append", "(LPostChaiseYard;I[J)I"⟩
def dkwX0_append_0 : List UInt8 := [44, 3, 42, 27, 182, 0, 138, 133, 80, 167, 0, 9, 78, 4, 172, 78, 5, 172, 3, 172]
abbrev dktX0_append_0 : List UInt8 := dkwX0_append_0 ++ []
theorem dksX0_append_0 : cX0_append.data.toList.drop 0 = dktX0_append_0 := by decide +kernel
theorem dX0_append_0 : decode cX0_append 0 = .ok (.aload_n 2, 1) := dk_44 (dk_at dksX0_append_0 0 rfl rfl)
theorem dX0_append_1 : decode cX0_append 1 = .ok (.iconst 0, 1) := dk_3 (dk_at dksX0_append_0 1 rfl rfl)
theorem dX0_append_2 : decode cX0_append 2 = .ok (.aload_n 0, 1) := dk_42 (dk_at dksX0_append_0 2 rfl rfl)
theorem dX0_append_3 : decode cX0_append 3 = .ok (.iload_n 1, 1) := dk_27 (dk_at dksX0_append_0 3 rfl rfl)
theorem dX0_append_4 : decode cX0_append 4 = .ok (.invokevirtual 138, 3) := dk_182 0 138 (dk_at dksX0_append_0 4 rfl rfl)
theorem dX0_append_7 : decode cX0_append 7 = .ok (.i2l, 1) := dk_133 (dk_at dksX0_append_0 7 rfl rfl)
theorem dX0_append_8 : decode cX0_append 8 = .ok (.lastore, 1) := dk_80 (dk_at dksX0_append_0 8 rfl rfl)
theorem dX0_append_9 : decode cX0_append 9 = .ok (.goto 9, 3) := dk_167 0 9 (dk_at dksX0_append_0 9 rfl rfl)
theorem dX0_append_12 : decode cX0_append 12 = .ok (.astore_n 3, 1) := dk_78 (dk_at dksX0_append_0 12 rfl rfl)
theorem dX0_append_13 : decode cX0_append 13 = .ok (.iconst 1, 1) := dk_4 (dk_at dksX0_append_0 13 rfl rfl)
theorem dX0_append_14 : decode cX0_append 14 = .ok (.ireturn, 1) := dk_172 (dk_at dksX0_append_0 14 rfl rfl)
theorem dX0_append_15 : decode cX0_append 15 = .ok (.astore_n 3, 1) := dk_78 (dk_at dksX0_append_0 15 rfl rfl)
theorem dX0_append_16 : decode cX0_append 16 = .ok (.iconst 2, 1) := dk_5 (dk_at dksX0_append_0 16 rfl rfl)
theorem dX0_append_17 : decode cX0_append 17 = .ok (.ireturn, 1) := dk_172 (dk_at dksX0_append_0 17 rfl rfl)
theorem dX0_append_18 : decode cX0_append 18 = .ok (.iconst 0, 1) := dk_3 (dk_at dksX0_append_0 18 rfl rfl)
theorem dX0_append_19 : decode cX0_append 19 = .ok (.ireturn, 1) := dk_172 (dk_at dksX0_append_0 19 rfl rfl)
abbrev cX0_runText : ByteArray := method_43_code
def yX0_runText : MethodName := ⟨RX0, "runText", "(LPostChaiseYard;[J)I"⟩
def dkwX0_runText_0 : List UInt8 := [43, 3, 42, 182, 0, 141, 133, 80, 167, 0, 6, 77, 4, 172, 3, 172]
abbrev dktX0_runText_0 : List UInt8 := dkwX0_runText_0 ++ []
theorem dksX0_runText_0 : cX0_runText.data.toList.drop 0 = dktX0_runText_0 := by decide +kernel
theorem dX0_runText_0 : decode cX0_runText 0 = .ok (.aload_n 1, 1) := dk_43 (dk_at dksX0_runText_0 0 rfl rfl)
theorem dX0_runText_1 : decode cX0_runText 1 = .ok (.iconst 0, 1) := dk_3 (dk_at dksX0_runText_0 1 rfl rfl)
theorem dX0_runText_2 : decode cX0_runText 2 = .ok (.aload_n 0, 1) := dk_42 (dk_at dksX0_runText_0 2 rfl rfl)
theorem dX0_runText_3 : decode cX0_runText 3 = .ok (.invokevirtual 141, 3) := dk_182 0 141 (dk_at dksX0_runText_0 3 rfl rfl)
theorem dX0_runText_6 : decode cX0_runText 6 = .ok (.i2l, 1) := dk_133 (dk_at dksX0_runText_0 6 rfl rfl)
theorem dX0_runText_7 : decode cX0_runText 7 = .ok (.lastore, 1) := dk_80 (dk_at dksX0_runText_0 7 rfl rfl)
theorem dX0_runText_8 : decode cX0_runText 8 = .ok (.goto 6, 3) := dk_167 0 6 (dk_at dksX0_runText_0 8 rfl rfl)
theorem dX0_runText_11 : decode cX0_runText 11 = .ok (.astore_n 2, 1) := dk_77 (dk_at dksX0_runText_0 11 rfl rfl)
theorem dX0_runText_12 : decode cX0_runText 12 = .ok (.iconst 1, 1) := dk_4 (dk_at dksX0_runText_0 12 rfl rfl)
theorem dX0_runText_13 : decode cX0_runText 13 = .ok (.ireturn, 1) := dk_172 (dk_at dksX0_runText_0 13 rfl rfl)
theorem dX0_runText_14 : decode cX0_runText 14 = .ok (.iconst 0, 1) := dk_3 (dk_at dksX0_runText_0 14 rfl rfl)
theorem dX0_runText_15 : decode cX0_runText 15 = .ok (.ireturn, 1) := dk_172 (dk_at dksX0_runText_0 15 rfl rfl)
abbrev cX0_undo : ByteArray := method_44_code
def yX0_undo : MethodName := ⟨RX0, "undo", "(LPostChaiseYard;[J)I"⟩
def dkwX0_undo_0 : List UInt8 := [43, 3, 42, 182, 0, 144, 133, 80, 167, 0, 6, 77, 4, 172, 3, 172]
abbrev dktX0_undo_0 : List UInt8 := dkwX0_undo_0 ++ []
theorem dksX0_undo_0 : cX0_undo.data.toList.drop 0 = dktX0_undo_0 := by decide +kernel
theorem dX0_undo_0 : decode cX0_undo 0 = .ok (.aload_n 1, 1) := dk_43 (dk_at dksX0_undo_0 0 rfl rfl)
theorem dX0_undo_1 : decode cX0_undo 1 = .ok (.iconst 0, 1) := dk_3 (dk_at dksX0_undo_0 1 rfl rfl)
theorem dX0_undo_2 : decode cX0_undo 2 = .ok (.aload_n 0, 1) := dk_42 (dk_at dksX0_undo_0 2 rfl rfl)
theorem dX0_undo_3 : decode cX0_undo 3 = .ok (.invokevirtual 144, 3) := dk_182 0 144 (dk_at dksX0_undo_0 3 rfl rfl)
theorem dX0_undo_6 : decode cX0_undo 6 = .ok (.i2l, 1) := dk_133 (dk_at dksX0_undo_0 6 rfl rfl)
theorem dX0_undo_7 : decode cX0_undo 7 = .ok (.lastore, 1) := dk_80 (dk_at dksX0_undo_0 7 rfl rfl)
theorem dX0_undo_8 : decode cX0_undo 8 = .ok (.goto 6, 3) := dk_167 0 6 (dk_at dksX0_undo_0 8 rfl rfl)
theorem dX0_undo_11 : decode cX0_undo 11 = .ok (.astore_n 2, 1) := dk_77 (dk_at dksX0_undo_0 11 rfl rfl)
theorem dX0_undo_12 : decode cX0_undo 12 = .ok (.iconst 1, 1) := dk_4 (dk_at dksX0_undo_0 12 rfl rfl)
theorem dX0_undo_13 : decode cX0_undo 13 = .ok (.ireturn, 1) := dk_172 (dk_at dksX0_undo_0 13 rfl rfl)
theorem dX0_undo_14 : decode cX0_undo 14 = .ok (.iconst 0, 1) := dk_3 (dk_at dksX0_undo_0 14 rfl rfl)
theorem dX0_undo_15 : decode cX0_undo 15 = .ok (.ireturn, 1) := dk_172 (dk_at dksX0_undo_0 15 rfl rfl)
abbrev cX0_restoreSnapshot : ByteArray := method_45_code
def yX0_restoreSnapshot : MethodName := ⟨RX0, "restoreSnapshot", "(LPostChaiseYard;[J)I"⟩
def dkwX0_restoreSnapshot_0 : List UInt8 := [43, 3, 42, 182, 0, 147, 133, 80, 167, 0, 6, 77, 4, 172, 3, 172]
abbrev dktX0_restoreSnapshot_0 : List UInt8 := dkwX0_restoreSnapshot_0 ++ []
theorem dksX0_restoreSnapshot_0 : cX0_restoreSnapshot.data.toList.drop 0 = dktX0_restoreSnapshot_0 := by decide +kernel
theorem dX0_restoreSnapshot_0 : decode cX0_restoreSnapshot 0 = .ok (.aload_n 1, 1) := dk_43 (dk_at dksX0_restoreSnapshot_0 0 rfl rfl)
theorem dX0_restoreSnapshot_1 : decode cX0_restoreSnapshot 1 = .ok (.iconst 0, 1) := dk_3 (dk_at dksX0_restoreSnapshot_0 1 rfl rfl)
theorem dX0_restoreSnapshot_2 : decode cX0_restoreSnapshot 2 = .ok (.aload_n 0, 1) := dk_42 (dk_at dksX0_restoreSnapshot_0 2 rfl rfl)
theorem dX0_restoreSnapshot_3 : decode cX0_restoreSnapshot 3 = .ok (.invokevirtual 147, 3) := dk_182 0 147 (dk_at dksX0_restoreSnapshot_0 3 rfl rfl)
theorem dX0_restoreSnapshot_6 : decode cX0_restoreSnapshot 6 = .ok (.i2l, 1) := dk_133 (dk_at dksX0_restoreSnapshot_0 6 rfl rfl)
theorem dX0_restoreSnapshot_7 : decode cX0_restoreSnapshot 7 = .ok (.lastore, 1) := dk_80 (dk_at dksX0_restoreSnapshot_0 7 rfl rfl)
theorem dX0_restoreSnapshot_8 : decode cX0_restoreSnapshot 8 = .ok (.goto 6, 3) := dk_167 0 6 (dk_at dksX0_restoreSnapshot_0 8 rfl rfl)
theorem dX0_restoreSnapshot_11 : decode cX0_restoreSnapshot 11 = .ok (.astore_n 2, 1) := dk_77 (dk_at dksX0_restoreSnapshot_0 11 rfl rfl)
theorem dX0_restoreSnapshot_12 : decode cX0_restoreSnapshot 12 = .ok (.iconst 1, 1) := dk_4 (dk_at dksX0_restoreSnapshot_0 12 rfl rfl)
theorem dX0_restoreSnapshot_13 : decode cX0_restoreSnapshot 13 = .ok (.ireturn, 1) := dk_172 (dk_at dksX0_restoreSnapshot_0 13 rfl rfl)
theorem dX0_restoreSnapshot_14 : decode cX0_restoreSnapshot 14 = .ok (.iconst 0, 1) := dk_3 (dk_at dksX0_restoreSnapshot_0 14 rfl rfl)
theorem dX0_restoreSnapshot_15 : decode cX0_restoreSnapshot 15 = .ok (.ireturn, 1) := dk_172 (dk_at dksX0_restoreSnapshot_0 15 rfl rfl)
theorem q76 : (Jvm.Cond.initialized "PostChaiseYardLaw") ∈ lw_all := lw_g (lw_at lw_m1 0 rfl) rfl
theorem q128 : (Jvm.Cond.classLink "PostChaiseYardLaw" (8 : Nat) "PostChaiseYard") ∈ lw_all := lw_g (lw_at lw_m1 52 rfl) rfl
theorem q130 : (Jvm.Cond.methodLink "PostChaiseYardLaw" (150 : Nat) ({ cls := "PostChaiseYard", name := "<init>", desc := "()V" } : Jvm.MethodName)) ∈ lw_all := lw_g (lw_at lw_m1 54 rfl) rfl
theorem q1011 : (Jvm.Cond.methodLink "PostChaiseYardLaw" (188 : Nat) ({ cls := "PostChaiseYard", name := "time", desc := "()I" } : Jvm.MethodName)) ∈ lw_all := lw_g (lw_at lw_m4 215 rfl) rfl
theorem q1015 : (Jvm.Cond.methodLink "PostChaiseYardLaw" (192 : Nat) ({ cls := "PostChaiseYard", name := "pace", desc := "()I" } : Jvm.MethodName)) ∈ lw_all := lw_g (lw_at lw_m4 219 rfl) rfl
theorem q1019 : (Jvm.Cond.methodLink "PostChaiseYardLaw" (196 : Nat) ({ cls := "PostChaiseYard", name := "poleLimit", desc := "()I" } : Jvm.MethodName)) ∈ lw_all := lw_g (lw_at lw_m4 223 rfl) rfl
theorem q1023 : (Jvm.Cond.methodLink "PostChaiseYardLaw" (200 : Nat) ({ cls := "PostChaiseYard", name := "guestCount", desc := "()I" } : Jvm.MethodName)) ∈ lw_all := lw_g (lw_at lw_m4 227 rfl) rfl
theorem q1036 : (Jvm.Cond.methodLink "PostChaiseYardLaw" (228 : Nat) ({ cls := "PostChaiseYard", name := "lineLength", desc := "()I" } : Jvm.MethodName)) ∈ lw_all := lw_g (lw_at lw_m5 0 rfl) rfl
theorem q1044 : (Jvm.Cond.methodLink "PostChaiseYardLaw" (290 : Nat) ({ cls := "PostChaiseYard", name := "whyNoDeparture", desc := "()I" } : Jvm.MethodName)) ∈ lw_all := lw_g (lw_at lw_m5 8 rfl) rfl
theorem q1111 : (Jvm.Cond.methodLink "PostChaiseYardLaw" (300 : Nat) ({ cls := "PostChaiseYard", name := "incomeByGuests", desc := "()I" } : Jvm.MethodName)) ∈ lw_all := lw_g (lw_at lw_m5 75 rfl) rfl
theorem q1133 : (Jvm.Cond.methodLink "PostChaiseYardLaw" (304 : Nat) ({ cls := "PostChaiseYard", name := "incomeByRoads", desc := "()I" } : Jvm.MethodName)) ∈ lw_all := lw_g (lw_at lw_m5 97 rfl) rfl
theorem q1155 : (Jvm.Cond.methodLink "PostChaiseYardLaw" (311 : Nat) ({ cls := "PostChaiseYard", name := "spentOnPoles", desc := "()I" } : Jvm.MethodName)) ∈ lw_all := lw_g (lw_at lw_m5 119 rfl) rfl
theorem q1159 : (Jvm.Cond.methodLink "PostChaiseYardLaw" (315 : Nat) ({ cls := "PostChaiseYard", name := "milesByPairs", desc := "()I" } : Jvm.MethodName)) ∈ lw_all := lw_g (lw_at lw_m5 123 rfl) rfl
theorem q1164 : (Jvm.Cond.methodLink "PostChaiseYardLaw" (319 : Nat) ({ cls := "PostChaiseYard", name := "milesByChaises", desc := "()I" } : Jvm.MethodName)) ∈ lw_all := lw_g (lw_at lw_m5 128 rfl) rfl
theorem q1169 : (Jvm.Cond.methodLink "PostChaiseYardLaw" (323 : Nat) ({ cls := "PostChaiseYard", name := "brokenPoles", desc := "()I" } : Jvm.MethodName)) ∈ lw_all := lw_g (lw_at lw_m5 133 rfl) rfl
theorem q1173 : (Jvm.Cond.methodLink "PostChaiseYardLaw" (327 : Nat) ({ cls := "PostChaiseYard", name := "meanWait", desc := "()D" } : Jvm.MethodName)) ∈ lw_all := lw_g (lw_at lw_m5 137 rfl) rfl
theorem q1177 : (Jvm.Cond.methodLink "PostChaiseYardLaw" (335 : Nat) ({ cls := "PostChaiseYard", name := "clearText", desc := "()I" } : Jvm.MethodName)) ∈ lw_all := lw_g (lw_at lw_m5 141 rfl) rfl
theorem q1430 : (Jvm.Cond.methodLink "PostChaiseYardLaw" (339 : Nat) ({ cls := "PostChaiseYard", name := "textLength", desc := "()I" } : Jvm.MethodName)) ∈ lw_all := lw_g (lw_at lw_m6 154 rfl) rfl
theorem q1434 : (Jvm.Cond.methodLink "PostChaiseYardLaw" (343 : Nat) ({ cls := "PostChaiseYard", name := "isValid", desc := "()Z" } : Jvm.MethodName)) ∈ lw_all := lw_g (lw_at lw_m6 158 rfl) rfl
theorem q1613 : (Jvm.Cond.methodLink "PostChaiseYardLaw" (348 : Nat) ({ cls := "PostChaiseYard", name := "errorPosition", desc := "()I" } : Jvm.MethodName)) ∈ lw_all := lw_g (lw_at lw_m7 97 rfl) rfl
theorem q1617 : (Jvm.Cond.methodLink "PostChaiseYardLaw" (358 : Nat) ({ cls := "PostChaiseYard", name := "savedStates", desc := "()I" } : Jvm.MethodName)) ∈ lw_all := lw_g (lw_at lw_m7 101 rfl) rfl
theorem q1622 : (Jvm.Cond.methodLink "PostChaiseYardLaw" (362 : Nat) ({ cls := "PostChaiseYard", name := "takeSnapshot", desc := "()I" } : Jvm.MethodName)) ∈ lw_all := lw_g (lw_at lw_m7 106 rfl) rfl
theorem q1735 : (Jvm.Cond.methodLink "PostChaiseYardLaw" (154 : Nat) ({ cls := "PostChaiseYardLaw", name := "arrive", desc := "(LPostChaiseYard;II[J)I" } : Jvm.MethodName)) ∈ lw_all := lw_g (lw_at lw_m7 219 rfl) rfl
theorem q1736 : (Jvm.Cond.static ({ cls := "PostChaiseYardLaw", name := "arrive", desc := "(LPostChaiseYard;II[J)I" } : Jvm.MethodName)) ∈ lw_all := lw_g (lw_at lw_m7 220 rfl) rfl
theorem q1737 : (Jvm.Cond.codeWith ({ cls := "PostChaiseYardLaw", name := "arrive", desc := "(LPostChaiseYard;II[J)I" } : Jvm.MethodName) method_3_code (5 : Nat) (Option.some Jvm.ClassFile.FieldType.int) [((0 : Nat), (10 : Nat), (13 : Nat), (13 : Nat)), ((0 : Nat), (10 : Nat), (17 : Nat), (15 : Nat)), ((0 : Nat), (10 : Nat), (21 : Nat), (17 : Nat))]) ∈ lw_all := lw_g (lw_at lw_m7 221 rfl) rfl
theorem q1738 : (Jvm.Cond.classLink "PostChaiseYardLaw" (13 : Nat) "java/lang/IllegalArgumentException") ∈ lw_all := lw_g (lw_at lw_m7 222 rfl) rfl
theorem q1739 : (Jvm.Cond.classLink "PostChaiseYardLaw" (15 : Nat) "java/lang/IndexOutOfBoundsException") ∈ lw_all := lw_g (lw_at lw_m7 223 rfl) rfl
theorem q1742 : (Jvm.Cond.classLink "PostChaiseYardLaw" (17 : Nat) "java/lang/IllegalStateException") ∈ lw_all := lw_g (lw_at lw_m7 226 rfl) rfl
theorem q1743 : (Jvm.Cond.methodLink "PostChaiseYardLaw" (7 : Nat) ({ cls := "PostChaiseYard", name := "arrive", desc := "(II)I" } : Jvm.MethodName)) ∈ lw_all := lw_g (lw_at lw_m7 227 rfl) rfl
theorem q1876 : (Jvm.Cond.methodLink "PostChaiseYardLaw" (163 : Nat) ({ cls := "PostChaiseYardLaw", name := "giveUp", desc := "(LPostChaiseYard;I[J)I" } : Jvm.MethodName)) ∈ lw_all := lw_g (lw_at lw_m8 120 rfl) rfl
theorem q1877 : (Jvm.Cond.static ({ cls := "PostChaiseYardLaw", name := "giveUp", desc := "(LPostChaiseYard;I[J)I" } : Jvm.MethodName)) ∈ lw_all := lw_g (lw_at lw_m8 121 rfl) rfl
theorem q1878 : (Jvm.Cond.codeWith ({ cls := "PostChaiseYardLaw", name := "giveUp", desc := "(LPostChaiseYard;I[J)I" } : Jvm.MethodName) method_4_code (4 : Nat) (Option.some Jvm.ClassFile.FieldType.int) [((0 : Nat), (9 : Nat), (12 : Nat), (15 : Nat)), ((0 : Nat), (9 : Nat), (15 : Nat), (17 : Nat))]) ∈ lw_all := lw_g (lw_at lw_m8 122 rfl) rfl
theorem q1879 : (Jvm.Cond.methodLink "PostChaiseYardLaw" (19 : Nat) ({ cls := "PostChaiseYard", name := "giveUp", desc := "(I)I" } : Jvm.MethodName)) ∈ lw_all := lw_g (lw_at lw_m8 123 rfl) rfl
theorem q1898 : (Jvm.Cond.methodLink "PostChaiseYardLaw" (167 : Nat) ({ cls := "PostChaiseYardLaw", name := "pass", desc := "(LPostChaiseYard;I[J)I" } : Jvm.MethodName)) ∈ lw_all := lw_g (lw_at lw_m8 142 rfl) rfl
theorem q1899 : (Jvm.Cond.static ({ cls := "PostChaiseYardLaw", name := "pass", desc := "(LPostChaiseYard;I[J)I" } : Jvm.MethodName)) ∈ lw_all := lw_g (lw_at lw_m8 143 rfl) rfl
theorem q1900 : (Jvm.Cond.codeWith ({ cls := "PostChaiseYardLaw", name := "pass", desc := "(LPostChaiseYard;I[J)I" } : Jvm.MethodName) method_5_code (4 : Nat) (Option.some Jvm.ClassFile.FieldType.int) [((0 : Nat), (9 : Nat), (12 : Nat), (13 : Nat)), ((0 : Nat), (9 : Nat), (15 : Nat), (17 : Nat))]) ∈ lw_all := lw_g (lw_at lw_m8 144 rfl) rfl
theorem q1901 : (Jvm.Cond.methodLink "PostChaiseYardLaw" (23 : Nat) ({ cls := "PostChaiseYard", name := "pass", desc := "(I)I" } : Jvm.MethodName)) ∈ lw_all := lw_g (lw_at lw_m8 145 rfl) rfl
theorem q2063 : (Jvm.Cond.methodLink "PostChaiseYardLaw" (170 : Nat) ({ cls := "PostChaiseYardLaw", name := "addRest", desc := "(LPostChaiseYard;II[J)I" } : Jvm.MethodName)) ∈ lw_all := lw_g (lw_at lw_m9 67 rfl) rfl
theorem q2064 : (Jvm.Cond.static ({ cls := "PostChaiseYardLaw", name := "addRest", desc := "(LPostChaiseYard;II[J)I" } : Jvm.MethodName)) ∈ lw_all := lw_g (lw_at lw_m9 68 rfl) rfl
theorem q2065 : (Jvm.Cond.codeWith ({ cls := "PostChaiseYardLaw", name := "addRest", desc := "(LPostChaiseYard;II[J)I" } : Jvm.MethodName) method_6_code (5 : Nat) (Option.some Jvm.ClassFile.FieldType.int) [((0 : Nat), (10 : Nat), (13 : Nat), (15 : Nat)), ((0 : Nat), (10 : Nat), (17 : Nat), (13 : Nat)), ((0 : Nat), (10 : Nat), (21 : Nat), (17 : Nat))]) ∈ lw_all := lw_g (lw_at lw_m9 69 rfl) rfl
theorem q2066 : (Jvm.Cond.methodLink "PostChaiseYardLaw" (26 : Nat) ({ cls := "PostChaiseYard", name := "addRest", desc := "(II)I" } : Jvm.MethodName)) ∈ lw_all := lw_g (lw_at lw_m9 70 rfl) rfl
theorem q2074 : (Jvm.Cond.methodLink "PostChaiseYardLaw" (173 : Nat) ({ cls := "PostChaiseYardLaw", name := "sendToBed", desc := "(LPostChaiseYard;I[J)I" } : Jvm.MethodName)) ∈ lw_all := lw_g (lw_at lw_m9 78 rfl) rfl
theorem q2075 : (Jvm.Cond.static ({ cls := "PostChaiseYardLaw", name := "sendToBed", desc := "(LPostChaiseYard;I[J)I" } : Jvm.MethodName)) ∈ lw_all := lw_g (lw_at lw_m9 79 rfl) rfl
theorem q2076 : (Jvm.Cond.codeWith ({ cls := "PostChaiseYardLaw", name := "sendToBed", desc := "(LPostChaiseYard;I[J)I" } : Jvm.MethodName) method_7_code (4 : Nat) (Option.some Jvm.ClassFile.FieldType.int) [((0 : Nat), (9 : Nat), (12 : Nat), (15 : Nat)), ((0 : Nat), (9 : Nat), (15 : Nat), (17 : Nat))]) ∈ lw_all := lw_g (lw_at lw_m9 80 rfl) rfl
theorem q2077 : (Jvm.Cond.methodLink "PostChaiseYardLaw" (29 : Nat) ({ cls := "PostChaiseYard", name := "sendToBed", desc := "(I)I" } : Jvm.MethodName)) ∈ lw_all := lw_g (lw_at lw_m9 81 rfl) rfl
theorem q2137 : (Jvm.Cond.methodLink "PostChaiseYardLaw" (176 : Nat) ({ cls := "PostChaiseYardLaw", name := "callBoy", desc := "(LPostChaiseYard;I[J)I" } : Jvm.MethodName)) ∈ lw_all := lw_g (lw_at lw_m9 141 rfl) rfl
theorem q2138 : (Jvm.Cond.static ({ cls := "PostChaiseYardLaw", name := "callBoy", desc := "(LPostChaiseYard;I[J)I" } : Jvm.MethodName)) ∈ lw_all := lw_g (lw_at lw_m9 142 rfl) rfl
theorem q2139 : (Jvm.Cond.codeWith ({ cls := "PostChaiseYardLaw", name := "callBoy", desc := "(LPostChaiseYard;I[J)I" } : Jvm.MethodName) method_8_code (4 : Nat) (Option.some Jvm.ClassFile.FieldType.int) [((0 : Nat), (9 : Nat), (12 : Nat), (15 : Nat)), ((0 : Nat), (9 : Nat), (15 : Nat), (17 : Nat))]) ∈ lw_all := lw_g (lw_at lw_m9 143 rfl) rfl
theorem q2140 : (Jvm.Cond.methodLink "PostChaiseYardLaw" (32 : Nat) ({ cls := "PostChaiseYard", name := "callBoy", desc := "(I)I" } : Jvm.MethodName)) ∈ lw_all := lw_g (lw_at lw_m9 144 rfl) rfl
theorem q2148 : (Jvm.Cond.methodLink "PostChaiseYardLaw" (179 : Nat) ({ cls := "PostChaiseYardLaw", name := "putOnPole", desc := "(LPostChaiseYard;I[J)I" } : Jvm.MethodName)) ∈ lw_all := lw_g (lw_at lw_m9 152 rfl) rfl
theorem q2149 : (Jvm.Cond.static ({ cls := "PostChaiseYardLaw", name := "putOnPole", desc := "(LPostChaiseYard;I[J)I" } : Jvm.MethodName)) ∈ lw_all := lw_g (lw_at lw_m9 153 rfl) rfl
theorem q2150 : (Jvm.Cond.codeWith ({ cls := "PostChaiseYardLaw", name := "putOnPole", desc := "(LPostChaiseYard;I[J)I" } : Jvm.MethodName) method_9_code (4 : Nat) (Option.some Jvm.ClassFile.FieldType.int) [((0 : Nat), (9 : Nat), (12 : Nat), (15 : Nat)), ((0 : Nat), (9 : Nat), (15 : Nat), (17 : Nat))]) ∈ lw_all := lw_g (lw_at lw_m9 154 rfl) rfl
theorem q2151 : (Jvm.Cond.methodLink "PostChaiseYardLaw" (35 : Nat) ({ cls := "PostChaiseYard", name := "putOnPole", desc := "(I)I" } : Jvm.MethodName)) ∈ lw_all := lw_g (lw_at lw_m9 155 rfl) rfl
theorem q2163 : (Jvm.Cond.methodLink "PostChaiseYardLaw" (182 : Nat) ({ cls := "PostChaiseYardLaw", name := "setPace", desc := "(LPostChaiseYard;I[J)I" } : Jvm.MethodName)) ∈ lw_all := lw_g (lw_at lw_m9 167 rfl) rfl
theorem q2164 : (Jvm.Cond.static ({ cls := "PostChaiseYardLaw", name := "setPace", desc := "(LPostChaiseYard;I[J)I" } : Jvm.MethodName)) ∈ lw_all := lw_g (lw_at lw_m9 168 rfl) rfl
theorem q2165 : (Jvm.Cond.codeWith ({ cls := "PostChaiseYardLaw", name := "setPace", desc := "(LPostChaiseYard;I[J)I" } : Jvm.MethodName) method_10_code (4 : Nat) (Option.some Jvm.ClassFile.FieldType.int) [((0 : Nat), (9 : Nat), (12 : Nat), (13 : Nat))]) ∈ lw_all := lw_g (lw_at lw_m9 169 rfl) rfl
theorem q2166 : (Jvm.Cond.methodLink "PostChaiseYardLaw" (38 : Nat) ({ cls := "PostChaiseYard", name := "setPace", desc := "(I)I" } : Jvm.MethodName)) ∈ lw_all := lw_g (lw_at lw_m9 170 rfl) rfl
theorem q2170 : (Jvm.Cond.methodLink "PostChaiseYardLaw" (185 : Nat) ({ cls := "PostChaiseYardLaw", name := "setPoleLimit", desc := "(LPostChaiseYard;I[J)I" } : Jvm.MethodName)) ∈ lw_all := lw_g (lw_at lw_m9 174 rfl) rfl
theorem q2171 : (Jvm.Cond.static ({ cls := "PostChaiseYardLaw", name := "setPoleLimit", desc := "(LPostChaiseYard;I[J)I" } : Jvm.MethodName)) ∈ lw_all := lw_g (lw_at lw_m9 175 rfl) rfl
theorem q2172 : (Jvm.Cond.codeWith ({ cls := "PostChaiseYardLaw", name := "setPoleLimit", desc := "(LPostChaiseYard;I[J)I" } : Jvm.MethodName) method_11_code (4 : Nat) (Option.some Jvm.ClassFile.FieldType.int) [((0 : Nat), (9 : Nat), (12 : Nat), (13 : Nat))]) ∈ lw_all := lw_g (lw_at lw_m9 176 rfl) rfl
theorem q2173 : (Jvm.Cond.methodLink "PostChaiseYardLaw" (41 : Nat) ({ cls := "PostChaiseYard", name := "setPoleLimit", desc := "(I)I" } : Jvm.MethodName)) ∈ lw_all := lw_g (lw_at lw_m9 177 rfl) rfl
theorem q2177 : (Jvm.Cond.methodLink "PostChaiseYardLaw" (204 : Nat) ({ cls := "PostChaiseYardLaw", name := "rankOf", desc := "(LPostChaiseYard;I[J)I" } : Jvm.MethodName)) ∈ lw_all := lw_g (lw_at lw_m9 181 rfl) rfl
theorem q2178 : (Jvm.Cond.static ({ cls := "PostChaiseYardLaw", name := "rankOf", desc := "(LPostChaiseYard;I[J)I" } : Jvm.MethodName)) ∈ lw_all := lw_g (lw_at lw_m9 182 rfl) rfl
theorem q2179 : (Jvm.Cond.codeWith ({ cls := "PostChaiseYardLaw", name := "rankOf", desc := "(LPostChaiseYard;I[J)I" } : Jvm.MethodName) method_12_code (4 : Nat) (Option.some Jvm.ClassFile.FieldType.int) [((0 : Nat), (9 : Nat), (12 : Nat), (15 : Nat))]) ∈ lw_all := lw_g (lw_at lw_m9 183 rfl) rfl
theorem q2180 : (Jvm.Cond.methodLink "PostChaiseYardLaw" (44 : Nat) ({ cls := "PostChaiseYard", name := "rankOf", desc := "(I)I" } : Jvm.MethodName)) ∈ lw_all := lw_g (lw_at lw_m9 184 rfl) rfl
theorem q2184 : (Jvm.Cond.methodLink "PostChaiseYardLaw" (207 : Nat) ({ cls := "PostChaiseYardLaw", name := "roadOf", desc := "(LPostChaiseYard;I[J)I" } : Jvm.MethodName)) ∈ lw_all := lw_g (lw_at lw_m9 188 rfl) rfl
theorem q2185 : (Jvm.Cond.static ({ cls := "PostChaiseYardLaw", name := "roadOf", desc := "(LPostChaiseYard;I[J)I" } : Jvm.MethodName)) ∈ lw_all := lw_g (lw_at lw_m9 189 rfl) rfl
theorem q2186 : (Jvm.Cond.codeWith ({ cls := "PostChaiseYardLaw", name := "roadOf", desc := "(LPostChaiseYard;I[J)I" } : Jvm.MethodName) method_13_code (4 : Nat) (Option.some Jvm.ClassFile.FieldType.int) [((0 : Nat), (9 : Nat), (12 : Nat), (15 : Nat))]) ∈ lw_all := lw_g (lw_at lw_m9 190 rfl) rfl
theorem q2187 : (Jvm.Cond.methodLink "PostChaiseYardLaw" (47 : Nat) ({ cls := "PostChaiseYard", name := "roadOf", desc := "(I)I" } : Jvm.MethodName)) ∈ lw_all := lw_g (lw_at lw_m9 191 rfl) rfl
theorem q2191 : (Jvm.Cond.methodLink "PostChaiseYardLaw" (210 : Nat) ({ cls := "PostChaiseYardLaw", name := "isWaiting", desc := "(LPostChaiseYard;I[J)I" } : Jvm.MethodName)) ∈ lw_all := lw_g (lw_at lw_m9 195 rfl) rfl
theorem q2192 : (Jvm.Cond.static ({ cls := "PostChaiseYardLaw", name := "isWaiting", desc := "(LPostChaiseYard;I[J)I" } : Jvm.MethodName)) ∈ lw_all := lw_g (lw_at lw_m9 196 rfl) rfl
theorem q2193 : (Jvm.Cond.codeWith ({ cls := "PostChaiseYardLaw", name := "isWaiting", desc := "(LPostChaiseYard;I[J)I" } : Jvm.MethodName) method_14_code (4 : Nat) (Option.some Jvm.ClassFile.FieldType.int) [((0 : Nat), (16 : Nat), (19 : Nat), (15 : Nat))]) ∈ lw_all := lw_g (lw_at lw_m9 197 rfl) rfl
theorem q2194 : (Jvm.Cond.methodLink "PostChaiseYardLaw" (50 : Nat) ({ cls := "PostChaiseYard", name := "isWaiting", desc := "(I)Z" } : Jvm.MethodName)) ∈ lw_all := lw_g (lw_at lw_m9 198 rfl) rfl
theorem q2198 : (Jvm.Cond.methodLink "PostChaiseYardLaw" (213 : Nat) ({ cls := "PostChaiseYardLaw", name := "isUnderWay", desc := "(LPostChaiseYard;I[J)I" } : Jvm.MethodName)) ∈ lw_all := lw_g (lw_at lw_m9 202 rfl) rfl
theorem q2199 : (Jvm.Cond.static ({ cls := "PostChaiseYardLaw", name := "isUnderWay", desc := "(LPostChaiseYard;I[J)I" } : Jvm.MethodName)) ∈ lw_all := lw_g (lw_at lw_m9 203 rfl) rfl
theorem q2200 : (Jvm.Cond.codeWith ({ cls := "PostChaiseYardLaw", name := "isUnderWay", desc := "(LPostChaiseYard;I[J)I" } : Jvm.MethodName) method_15_code (4 : Nat) (Option.some Jvm.ClassFile.FieldType.int) [((0 : Nat), (16 : Nat), (19 : Nat), (15 : Nat))]) ∈ lw_all := lw_g (lw_at lw_m9 204 rfl) rfl
theorem q2201 : (Jvm.Cond.methodLink "PostChaiseYardLaw" (54 : Nat) ({ cls := "PostChaiseYard", name := "isUnderWay", desc := "(I)Z" } : Jvm.MethodName)) ∈ lw_all := lw_g (lw_at lw_m9 205 rfl) rfl
theorem q2206 : (Jvm.Cond.methodLink "PostChaiseYardLaw" (216 : Nat) ({ cls := "PostChaiseYardLaw", name := "hasArrived", desc := "(LPostChaiseYard;I[J)I" } : Jvm.MethodName)) ∈ lw_all := lw_g (lw_at lw_m9 210 rfl) rfl
theorem q2207 : (Jvm.Cond.static ({ cls := "PostChaiseYardLaw", name := "hasArrived", desc := "(LPostChaiseYard;I[J)I" } : Jvm.MethodName)) ∈ lw_all := lw_g (lw_at lw_m9 211 rfl) rfl
theorem q2208 : (Jvm.Cond.codeWith ({ cls := "PostChaiseYardLaw", name := "hasArrived", desc := "(LPostChaiseYard;I[J)I" } : Jvm.MethodName) method_16_code (4 : Nat) (Option.some Jvm.ClassFile.FieldType.int) [((0 : Nat), (16 : Nat), (19 : Nat), (15 : Nat))]) ∈ lw_all := lw_g (lw_at lw_m9 212 rfl) rfl
theorem q2209 : (Jvm.Cond.methodLink "PostChaiseYardLaw" (57 : Nat) ({ cls := "PostChaiseYard", name := "hasArrived", desc := "(I)Z" } : Jvm.MethodName)) ∈ lw_all := lw_g (lw_at lw_m9 213 rfl) rfl
theorem q2214 : (Jvm.Cond.methodLink "PostChaiseYardLaw" (219 : Nat) ({ cls := "PostChaiseYardLaw", name := "hasGivenUp", desc := "(LPostChaiseYard;I[J)I" } : Jvm.MethodName)) ∈ lw_all := lw_g (lw_at lw_m9 218 rfl) rfl
theorem q2215 : (Jvm.Cond.static ({ cls := "PostChaiseYardLaw", name := "hasGivenUp", desc := "(LPostChaiseYard;I[J)I" } : Jvm.MethodName)) ∈ lw_all := lw_g (lw_at lw_m9 219 rfl) rfl
theorem q2216 : (Jvm.Cond.codeWith ({ cls := "PostChaiseYardLaw", name := "hasGivenUp", desc := "(LPostChaiseYard;I[J)I" } : Jvm.MethodName) method_17_code (4 : Nat) (Option.some Jvm.ClassFile.FieldType.int) [((0 : Nat), (16 : Nat), (19 : Nat), (15 : Nat))]) ∈ lw_all := lw_g (lw_at lw_m9 220 rfl) rfl
theorem q2217 : (Jvm.Cond.methodLink "PostChaiseYardLaw" (60 : Nat) ({ cls := "PostChaiseYard", name := "hasGivenUp", desc := "(I)Z" } : Jvm.MethodName)) ∈ lw_all := lw_g (lw_at lw_m9 221 rfl) rfl
theorem q2222 : (Jvm.Cond.methodLink "PostChaiseYardLaw" (222 : Nat) ({ cls := "PostChaiseYardLaw", name := "waitOf", desc := "(LPostChaiseYard;I[J)I" } : Jvm.MethodName)) ∈ lw_all := lw_g (lw_at lw_m9 226 rfl) rfl
theorem q2223 : (Jvm.Cond.static ({ cls := "PostChaiseYardLaw", name := "waitOf", desc := "(LPostChaiseYard;I[J)I" } : Jvm.MethodName)) ∈ lw_all := lw_g (lw_at lw_m9 227 rfl) rfl
theorem q2224 : (Jvm.Cond.codeWith ({ cls := "PostChaiseYardLaw", name := "waitOf", desc := "(LPostChaiseYard;I[J)I" } : Jvm.MethodName) method_18_code (4 : Nat) (Option.some Jvm.ClassFile.FieldType.int) [((0 : Nat), (9 : Nat), (12 : Nat), (15 : Nat))]) ∈ lw_all := lw_g (lw_at lw_m9 228 rfl) rfl
theorem q2225 : (Jvm.Cond.methodLink "PostChaiseYardLaw" (63 : Nat) ({ cls := "PostChaiseYard", name := "waitOf", desc := "(I)I" } : Jvm.MethodName)) ∈ lw_all := lw_g (lw_at lw_m9 229 rfl) rfl
theorem q2233 : (Jvm.Cond.methodLink "PostChaiseYardLaw" (225 : Nat) ({ cls := "PostChaiseYardLaw", name := "fareOf", desc := "(LPostChaiseYard;I[J)I" } : Jvm.MethodName)) ∈ lw_all := lw_g (lw_at lw_m9 237 rfl) rfl
theorem q2234 : (Jvm.Cond.static ({ cls := "PostChaiseYardLaw", name := "fareOf", desc := "(LPostChaiseYard;I[J)I" } : Jvm.MethodName)) ∈ lw_all := lw_g (lw_at lw_m9 238 rfl) rfl
theorem q2235 : (Jvm.Cond.codeWith ({ cls := "PostChaiseYardLaw", name := "fareOf", desc := "(LPostChaiseYard;I[J)I" } : Jvm.MethodName) method_19_code (4 : Nat) (Option.some Jvm.ClassFile.FieldType.int) [((0 : Nat), (9 : Nat), (12 : Nat), (15 : Nat))]) ∈ lw_all := lw_g (lw_at lw_m9 239 rfl) rfl
theorem q2236 : (Jvm.Cond.methodLink "PostChaiseYardLaw" (66 : Nat) ({ cls := "PostChaiseYard", name := "fareOf", desc := "(I)I" } : Jvm.MethodName)) ∈ lw_all := lw_g (lw_at lw_m10 0 rfl) rfl
theorem q2240 : (Jvm.Cond.methodLink "PostChaiseYardLaw" (232 : Nat) ({ cls := "PostChaiseYardLaw", name := "guestAt", desc := "(LPostChaiseYard;I[J)I" } : Jvm.MethodName)) ∈ lw_all := lw_g (lw_at lw_m10 4 rfl) rfl
theorem q2241 : (Jvm.Cond.static ({ cls := "PostChaiseYardLaw", name := "guestAt", desc := "(LPostChaiseYard;I[J)I" } : Jvm.MethodName)) ∈ lw_all := lw_g (lw_at lw_m10 5 rfl) rfl
theorem q2242 : (Jvm.Cond.codeWith ({ cls := "PostChaiseYardLaw", name := "guestAt", desc := "(LPostChaiseYard;I[J)I" } : Jvm.MethodName) method_20_code (4 : Nat) (Option.some Jvm.ClassFile.FieldType.int) [((0 : Nat), (9 : Nat), (12 : Nat), (15 : Nat))]) ∈ lw_all := lw_g (lw_at lw_m10 6 rfl) rfl
theorem q2243 : (Jvm.Cond.methodLink "PostChaiseYardLaw" (69 : Nat) ({ cls := "PostChaiseYard", name := "guestAt", desc := "(I)I" } : Jvm.MethodName)) ∈ lw_all := lw_g (lw_at lw_m10 7 rfl) rfl
theorem q2249 : (Jvm.Cond.methodLink "PostChaiseYardLaw" (235 : Nat) ({ cls := "PostChaiseYardLaw", name := "isPairOut", desc := "(LPostChaiseYard;I[J)I" } : Jvm.MethodName)) ∈ lw_all := lw_g (lw_at lw_m10 13 rfl) rfl
theorem q2250 : (Jvm.Cond.static ({ cls := "PostChaiseYardLaw", name := "isPairOut", desc := "(LPostChaiseYard;I[J)I" } : Jvm.MethodName)) ∈ lw_all := lw_g (lw_at lw_m10 14 rfl) rfl
theorem q2251 : (Jvm.Cond.codeWith ({ cls := "PostChaiseYardLaw", name := "isPairOut", desc := "(LPostChaiseYard;I[J)I" } : Jvm.MethodName) method_21_code (4 : Nat) (Option.some Jvm.ClassFile.FieldType.int) [((0 : Nat), (16 : Nat), (19 : Nat), (15 : Nat))]) ∈ lw_all := lw_g (lw_at lw_m10 15 rfl) rfl
theorem q2252 : (Jvm.Cond.methodLink "PostChaiseYardLaw" (72 : Nat) ({ cls := "PostChaiseYard", name := "isPairOut", desc := "(I)Z" } : Jvm.MethodName)) ∈ lw_all := lw_g (lw_at lw_m10 16 rfl) rfl
theorem q2256 : (Jvm.Cond.methodLink "PostChaiseYardLaw" (238 : Nat) ({ cls := "PostChaiseYardLaw", name := "restOf", desc := "(LPostChaiseYard;I[J)I" } : Jvm.MethodName)) ∈ lw_all := lw_g (lw_at lw_m10 20 rfl) rfl
theorem q2257 : (Jvm.Cond.static ({ cls := "PostChaiseYardLaw", name := "restOf", desc := "(LPostChaiseYard;I[J)I" } : Jvm.MethodName)) ∈ lw_all := lw_g (lw_at lw_m10 21 rfl) rfl
theorem q2258 : (Jvm.Cond.codeWith ({ cls := "PostChaiseYardLaw", name := "restOf", desc := "(LPostChaiseYard;I[J)I" } : Jvm.MethodName) method_22_code (4 : Nat) (Option.some Jvm.ClassFile.FieldType.int) [((0 : Nat), (9 : Nat), (12 : Nat), (15 : Nat))]) ∈ lw_all := lw_g (lw_at lw_m10 22 rfl) rfl
theorem q2259 : (Jvm.Cond.methodLink "PostChaiseYardLaw" (75 : Nat) ({ cls := "PostChaiseYard", name := "restOf", desc := "(I)I" } : Jvm.MethodName)) ∈ lw_all := lw_g (lw_at lw_m10 23 rfl) rfl
theorem q2263 : (Jvm.Cond.methodLink "PostChaiseYardLaw" (241 : Nat) ({ cls := "PostChaiseYardLaw", name := "milesOfPair", desc := "(LPostChaiseYard;I[J)I" } : Jvm.MethodName)) ∈ lw_all := lw_g (lw_at lw_m10 27 rfl) rfl
theorem q2264 : (Jvm.Cond.static ({ cls := "PostChaiseYardLaw", name := "milesOfPair", desc := "(LPostChaiseYard;I[J)I" } : Jvm.MethodName)) ∈ lw_all := lw_g (lw_at lw_m10 28 rfl) rfl
theorem q2265 : (Jvm.Cond.codeWith ({ cls := "PostChaiseYardLaw", name := "milesOfPair", desc := "(LPostChaiseYard;I[J)I" } : Jvm.MethodName) method_23_code (4 : Nat) (Option.some Jvm.ClassFile.FieldType.int) [((0 : Nat), (9 : Nat), (12 : Nat), (15 : Nat))]) ∈ lw_all := lw_g (lw_at lw_m10 29 rfl) rfl
theorem q2266 : (Jvm.Cond.methodLink "PostChaiseYardLaw" (78 : Nat) ({ cls := "PostChaiseYard", name := "milesOfPair", desc := "(I)I" } : Jvm.MethodName)) ∈ lw_all := lw_g (lw_at lw_m10 30 rfl) rfl
theorem q2270 : (Jvm.Cond.methodLink "PostChaiseYardLaw" (244 : Nat) ({ cls := "PostChaiseYardLaw", name := "nextPair", desc := "(LPostChaiseYard;[J)I" } : Jvm.MethodName)) ∈ lw_all := lw_g (lw_at lw_m10 34 rfl) rfl
theorem q2271 : (Jvm.Cond.static ({ cls := "PostChaiseYardLaw", name := "nextPair", desc := "(LPostChaiseYard;[J)I" } : Jvm.MethodName)) ∈ lw_all := lw_g (lw_at lw_m10 35 rfl) rfl
theorem q2272 : (Jvm.Cond.codeWith ({ cls := "PostChaiseYardLaw", name := "nextPair", desc := "(LPostChaiseYard;[J)I" } : Jvm.MethodName) method_24_code (3 : Nat) (Option.some Jvm.ClassFile.FieldType.int) [((0 : Nat), (8 : Nat), (11 : Nat), (85 : Nat))]) ∈ lw_all := lw_g (lw_at lw_m10 36 rfl) rfl
theorem q2273 : (Jvm.Cond.classLink "PostChaiseYardLaw" (85 : Nat) "java/util/NoSuchElementException") ∈ lw_all := lw_g (lw_at lw_m10 37 rfl) rfl
theorem q2274 : (Jvm.Cond.methodLink "PostChaiseYardLaw" (81 : Nat) ({ cls := "PostChaiseYard", name := "nextPair", desc := "()I" } : Jvm.MethodName)) ∈ lw_all := lw_g (lw_at lw_m10 38 rfl) rfl
theorem q2284 : (Jvm.Cond.methodLink "PostChaiseYardLaw" (248 : Nat) ({ cls := "PostChaiseYardLaw", name := "isBoyOut", desc := "(LPostChaiseYard;I[J)I" } : Jvm.MethodName)) ∈ lw_all := lw_g (lw_at lw_m10 48 rfl) rfl
theorem q2285 : (Jvm.Cond.static ({ cls := "PostChaiseYardLaw", name := "isBoyOut", desc := "(LPostChaiseYard;I[J)I" } : Jvm.MethodName)) ∈ lw_all := lw_g (lw_at lw_m10 49 rfl) rfl
theorem q2286 : (Jvm.Cond.codeWith ({ cls := "PostChaiseYardLaw", name := "isBoyOut", desc := "(LPostChaiseYard;I[J)I" } : Jvm.MethodName) method_25_code (4 : Nat) (Option.some Jvm.ClassFile.FieldType.int) [((0 : Nat), (16 : Nat), (19 : Nat), (15 : Nat))]) ∈ lw_all := lw_g (lw_at lw_m10 50 rfl) rfl
theorem q2287 : (Jvm.Cond.methodLink "PostChaiseYardLaw" (87 : Nat) ({ cls := "PostChaiseYard", name := "isBoyOut", desc := "(I)Z" } : Jvm.MethodName)) ∈ lw_all := lw_g (lw_at lw_m10 51 rfl) rfl
theorem q2291 : (Jvm.Cond.methodLink "PostChaiseYardLaw" (251 : Nat) ({ cls := "PostChaiseYardLaw", name := "isInBed", desc := "(LPostChaiseYard;I[J)I" } : Jvm.MethodName)) ∈ lw_all := lw_g (lw_at lw_m10 55 rfl) rfl
theorem q2292 : (Jvm.Cond.static ({ cls := "PostChaiseYardLaw", name := "isInBed", desc := "(LPostChaiseYard;I[J)I" } : Jvm.MethodName)) ∈ lw_all := lw_g (lw_at lw_m10 56 rfl) rfl
theorem q2293 : (Jvm.Cond.codeWith ({ cls := "PostChaiseYardLaw", name := "isInBed", desc := "(LPostChaiseYard;I[J)I" } : Jvm.MethodName) method_26_code (4 : Nat) (Option.some Jvm.ClassFile.FieldType.int) [((0 : Nat), (16 : Nat), (19 : Nat), (15 : Nat))]) ∈ lw_all := lw_g (lw_at lw_m10 57 rfl) rfl
theorem q2294 : (Jvm.Cond.methodLink "PostChaiseYardLaw" (90 : Nat) ({ cls := "PostChaiseYard", name := "isInBed", desc := "(I)Z" } : Jvm.MethodName)) ∈ lw_all := lw_g (lw_at lw_m10 58 rfl) rfl
theorem q2298 : (Jvm.Cond.methodLink "PostChaiseYardLaw" (254 : Nat) ({ cls := "PostChaiseYardLaw", name := "placeOf", desc := "(LPostChaiseYard;I[J)I" } : Jvm.MethodName)) ∈ lw_all := lw_g (lw_at lw_m10 62 rfl) rfl
theorem q2299 : (Jvm.Cond.static ({ cls := "PostChaiseYardLaw", name := "placeOf", desc := "(LPostChaiseYard;I[J)I" } : Jvm.MethodName)) ∈ lw_all := lw_g (lw_at lw_m10 63 rfl) rfl
theorem q2300 : (Jvm.Cond.codeWith ({ cls := "PostChaiseYardLaw", name := "placeOf", desc := "(LPostChaiseYard;I[J)I" } : Jvm.MethodName) method_27_code (4 : Nat) (Option.some Jvm.ClassFile.FieldType.int) [((0 : Nat), (9 : Nat), (12 : Nat), (15 : Nat)), ((0 : Nat), (9 : Nat), (15 : Nat), (85 : Nat))]) ∈ lw_all := lw_g (lw_at lw_m10 64 rfl) rfl
theorem q2301 : (Jvm.Cond.methodLink "PostChaiseYardLaw" (93 : Nat) ({ cls := "PostChaiseYard", name := "placeOf", desc := "(I)I" } : Jvm.MethodName)) ∈ lw_all := lw_g (lw_at lw_m10 65 rfl) rfl
theorem q2305 : (Jvm.Cond.methodLink "PostChaiseYardLaw" (257 : Nat) ({ cls := "PostChaiseYardLaw", name := "tripsOf", desc := "(LPostChaiseYard;I[J)I" } : Jvm.MethodName)) ∈ lw_all := lw_g (lw_at lw_m10 69 rfl) rfl
theorem q2306 : (Jvm.Cond.static ({ cls := "PostChaiseYardLaw", name := "tripsOf", desc := "(LPostChaiseYard;I[J)I" } : Jvm.MethodName)) ∈ lw_all := lw_g (lw_at lw_m10 70 rfl) rfl
theorem q2307 : (Jvm.Cond.codeWith ({ cls := "PostChaiseYardLaw", name := "tripsOf", desc := "(LPostChaiseYard;I[J)I" } : Jvm.MethodName) method_28_code (4 : Nat) (Option.some Jvm.ClassFile.FieldType.int) [((0 : Nat), (9 : Nat), (12 : Nat), (15 : Nat))]) ∈ lw_all := lw_g (lw_at lw_m10 71 rfl) rfl
theorem q2308 : (Jvm.Cond.methodLink "PostChaiseYardLaw" (96 : Nat) ({ cls := "PostChaiseYard", name := "tripsOf", desc := "(I)I" } : Jvm.MethodName)) ∈ lw_all := lw_g (lw_at lw_m10 72 rfl) rfl
theorem q2312 : (Jvm.Cond.methodLink "PostChaiseYardLaw" (260 : Nat) ({ cls := "PostChaiseYardLaw", name := "nextBoy", desc := "(LPostChaiseYard;[J)I" } : Jvm.MethodName)) ∈ lw_all := lw_g (lw_at lw_m10 76 rfl) rfl
theorem q2313 : (Jvm.Cond.static ({ cls := "PostChaiseYardLaw", name := "nextBoy", desc := "(LPostChaiseYard;[J)I" } : Jvm.MethodName)) ∈ lw_all := lw_g (lw_at lw_m10 77 rfl) rfl
theorem q2314 : (Jvm.Cond.codeWith ({ cls := "PostChaiseYardLaw", name := "nextBoy", desc := "(LPostChaiseYard;[J)I" } : Jvm.MethodName) method_29_code (3 : Nat) (Option.some Jvm.ClassFile.FieldType.int) [((0 : Nat), (8 : Nat), (11 : Nat), (85 : Nat))]) ∈ lw_all := lw_g (lw_at lw_m10 78 rfl) rfl
theorem q2315 : (Jvm.Cond.methodLink "PostChaiseYardLaw" (99 : Nat) ({ cls := "PostChaiseYard", name := "nextBoy", desc := "()I" } : Jvm.MethodName)) ∈ lw_all := lw_g (lw_at lw_m10 79 rfl) rfl
theorem q2321 : (Jvm.Cond.methodLink "PostChaiseYardLaw" (263 : Nat) ({ cls := "PostChaiseYardLaw", name := "isChaiseOut", desc := "(LPostChaiseYard;I[J)I" } : Jvm.MethodName)) ∈ lw_all := lw_g (lw_at lw_m10 85 rfl) rfl
theorem q2322 : (Jvm.Cond.static ({ cls := "PostChaiseYardLaw", name := "isChaiseOut", desc := "(LPostChaiseYard;I[J)I" } : Jvm.MethodName)) ∈ lw_all := lw_g (lw_at lw_m10 86 rfl) rfl
theorem q2323 : (Jvm.Cond.codeWith ({ cls := "PostChaiseYardLaw", name := "isChaiseOut", desc := "(LPostChaiseYard;I[J)I" } : Jvm.MethodName) method_30_code (4 : Nat) (Option.some Jvm.ClassFile.FieldType.int) [((0 : Nat), (16 : Nat), (19 : Nat), (15 : Nat))]) ∈ lw_all := lw_g (lw_at lw_m10 87 rfl) rfl
theorem q2324 : (Jvm.Cond.methodLink "PostChaiseYardLaw" (102 : Nat) ({ cls := "PostChaiseYard", name := "isChaiseOut", desc := "(I)Z" } : Jvm.MethodName)) ∈ lw_all := lw_g (lw_at lw_m10 88 rfl) rfl
theorem q2328 : (Jvm.Cond.methodLink "PostChaiseYardLaw" (266 : Nat) ({ cls := "PostChaiseYardLaw", name := "isBroken", desc := "(LPostChaiseYard;I[J)I" } : Jvm.MethodName)) ∈ lw_all := lw_g (lw_at lw_m10 92 rfl) rfl
theorem q2329 : (Jvm.Cond.static ({ cls := "PostChaiseYardLaw", name := "isBroken", desc := "(LPostChaiseYard;I[J)I" } : Jvm.MethodName)) ∈ lw_all := lw_g (lw_at lw_m10 93 rfl) rfl
theorem q2330 : (Jvm.Cond.codeWith ({ cls := "PostChaiseYardLaw", name := "isBroken", desc := "(LPostChaiseYard;I[J)I" } : Jvm.MethodName) method_31_code (4 : Nat) (Option.some Jvm.ClassFile.FieldType.int) [((0 : Nat), (16 : Nat), (19 : Nat), (15 : Nat))]) ∈ lw_all := lw_g (lw_at lw_m10 94 rfl) rfl
theorem q2331 : (Jvm.Cond.methodLink "PostChaiseYardLaw" (105 : Nat) ({ cls := "PostChaiseYard", name := "isBroken", desc := "(I)Z" } : Jvm.MethodName)) ∈ lw_all := lw_g (lw_at lw_m10 95 rfl) rfl
theorem q2335 : (Jvm.Cond.methodLink "PostChaiseYardLaw" (269 : Nat) ({ cls := "PostChaiseYardLaw", name := "wearOf", desc := "(LPostChaiseYard;I[J)I" } : Jvm.MethodName)) ∈ lw_all := lw_g (lw_at lw_m10 99 rfl) rfl
theorem q2336 : (Jvm.Cond.static ({ cls := "PostChaiseYardLaw", name := "wearOf", desc := "(LPostChaiseYard;I[J)I" } : Jvm.MethodName)) ∈ lw_all := lw_g (lw_at lw_m10 100 rfl) rfl
theorem q2337 : (Jvm.Cond.codeWith ({ cls := "PostChaiseYardLaw", name := "wearOf", desc := "(LPostChaiseYard;I[J)I" } : Jvm.MethodName) method_32_code (4 : Nat) (Option.some Jvm.ClassFile.FieldType.int) [((0 : Nat), (9 : Nat), (12 : Nat), (15 : Nat))]) ∈ lw_all := lw_g (lw_at lw_m10 101 rfl) rfl
theorem q2338 : (Jvm.Cond.methodLink "PostChaiseYardLaw" (108 : Nat) ({ cls := "PostChaiseYard", name := "wearOf", desc := "(I)I" } : Jvm.MethodName)) ∈ lw_all := lw_g (lw_at lw_m10 102 rfl) rfl
theorem q2342 : (Jvm.Cond.methodLink "PostChaiseYardLaw" (272 : Nat) ({ cls := "PostChaiseYardLaw", name := "milesOfChaise", desc := "(LPostChaiseYard;I[J)I" } : Jvm.MethodName)) ∈ lw_all := lw_g (lw_at lw_m10 106 rfl) rfl
theorem q2343 : (Jvm.Cond.static ({ cls := "PostChaiseYardLaw", name := "milesOfChaise", desc := "(LPostChaiseYard;I[J)I" } : Jvm.MethodName)) ∈ lw_all := lw_g (lw_at lw_m10 107 rfl) rfl
theorem q2344 : (Jvm.Cond.codeWith ({ cls := "PostChaiseYardLaw", name := "milesOfChaise", desc := "(LPostChaiseYard;I[J)I" } : Jvm.MethodName) method_33_code (4 : Nat) (Option.some Jvm.ClassFile.FieldType.int) [((0 : Nat), (9 : Nat), (12 : Nat), (15 : Nat))]) ∈ lw_all := lw_g (lw_at lw_m10 108 rfl) rfl
theorem q2345 : (Jvm.Cond.methodLink "PostChaiseYardLaw" (111 : Nat) ({ cls := "PostChaiseYard", name := "milesOfChaise", desc := "(I)I" } : Jvm.MethodName)) ∈ lw_all := lw_g (lw_at lw_m10 109 rfl) rfl
theorem q2349 : (Jvm.Cond.methodLink "PostChaiseYardLaw" (275 : Nat) ({ cls := "PostChaiseYardLaw", name := "guestOf", desc := "(LPostChaiseYard;I[J)I" } : Jvm.MethodName)) ∈ lw_all := lw_g (lw_at lw_m10 113 rfl) rfl
theorem q2350 : (Jvm.Cond.static ({ cls := "PostChaiseYardLaw", name := "guestOf", desc := "(LPostChaiseYard;I[J)I" } : Jvm.MethodName)) ∈ lw_all := lw_g (lw_at lw_m10 114 rfl) rfl
theorem q2351 : (Jvm.Cond.codeWith ({ cls := "PostChaiseYardLaw", name := "guestOf", desc := "(LPostChaiseYard;I[J)I" } : Jvm.MethodName) method_34_code (4 : Nat) (Option.some Jvm.ClassFile.FieldType.int) [((0 : Nat), (9 : Nat), (12 : Nat), (15 : Nat)), ((0 : Nat), (9 : Nat), (15 : Nat), (85 : Nat))]) ∈ lw_all := lw_g (lw_at lw_m10 115 rfl) rfl
theorem q2352 : (Jvm.Cond.methodLink "PostChaiseYardLaw" (114 : Nat) ({ cls := "PostChaiseYard", name := "guestOf", desc := "(I)I" } : Jvm.MethodName)) ∈ lw_all := lw_g (lw_at lw_m10 116 rfl) rfl
theorem q2356 : (Jvm.Cond.methodLink "PostChaiseYardLaw" (278 : Nat) ({ cls := "PostChaiseYardLaw", name := "quartersLeft", desc := "(LPostChaiseYard;I[J)I" } : Jvm.MethodName)) ∈ lw_all := lw_g (lw_at lw_m10 120 rfl) rfl
theorem q2357 : (Jvm.Cond.static ({ cls := "PostChaiseYardLaw", name := "quartersLeft", desc := "(LPostChaiseYard;I[J)I" } : Jvm.MethodName)) ∈ lw_all := lw_g (lw_at lw_m10 121 rfl) rfl
theorem q2358 : (Jvm.Cond.codeWith ({ cls := "PostChaiseYardLaw", name := "quartersLeft", desc := "(LPostChaiseYard;I[J)I" } : Jvm.MethodName) method_35_code (4 : Nat) (Option.some Jvm.ClassFile.FieldType.int) [((0 : Nat), (9 : Nat), (12 : Nat), (15 : Nat)), ((0 : Nat), (9 : Nat), (15 : Nat), (85 : Nat))]) ∈ lw_all := lw_g (lw_at lw_m10 122 rfl) rfl
theorem q2359 : (Jvm.Cond.methodLink "PostChaiseYardLaw" (117 : Nat) ({ cls := "PostChaiseYard", name := "quartersLeft", desc := "(I)I" } : Jvm.MethodName)) ∈ lw_all := lw_g (lw_at lw_m10 123 rfl) rfl
theorem q2363 : (Jvm.Cond.methodLink "PostChaiseYardLaw" (281 : Nat) ({ cls := "PostChaiseYardLaw", name := "nextChaise", desc := "(LPostChaiseYard;[J)I" } : Jvm.MethodName)) ∈ lw_all := lw_g (lw_at lw_m10 127 rfl) rfl
theorem q2364 : (Jvm.Cond.static ({ cls := "PostChaiseYardLaw", name := "nextChaise", desc := "(LPostChaiseYard;[J)I" } : Jvm.MethodName)) ∈ lw_all := lw_g (lw_at lw_m10 128 rfl) rfl
theorem q2365 : (Jvm.Cond.codeWith ({ cls := "PostChaiseYardLaw", name := "nextChaise", desc := "(LPostChaiseYard;[J)I" } : Jvm.MethodName) method_36_code (3 : Nat) (Option.some Jvm.ClassFile.FieldType.int) [((0 : Nat), (8 : Nat), (11 : Nat), (85 : Nat))]) ∈ lw_all := lw_g (lw_at lw_m10 129 rfl) rfl
theorem q2366 : (Jvm.Cond.methodLink "PostChaiseYardLaw" (120 : Nat) ({ cls := "PostChaiseYard", name := "nextChaise", desc := "()I" } : Jvm.MethodName)) ∈ lw_all := lw_g (lw_at lw_m10 130 rfl) rfl
theorem q2371 : (Jvm.Cond.methodLink "PostChaiseYardLaw" (284 : Nat) ({ cls := "PostChaiseYardLaw", name := "chaiseInRepair", desc := "(LPostChaiseYard;[J)I" } : Jvm.MethodName)) ∈ lw_all := lw_g (lw_at lw_m10 135 rfl) rfl
theorem q2372 : (Jvm.Cond.static ({ cls := "PostChaiseYardLaw", name := "chaiseInRepair", desc := "(LPostChaiseYard;[J)I" } : Jvm.MethodName)) ∈ lw_all := lw_g (lw_at lw_m10 136 rfl) rfl
theorem q2373 : (Jvm.Cond.codeWith ({ cls := "PostChaiseYardLaw", name := "chaiseInRepair", desc := "(LPostChaiseYard;[J)I" } : Jvm.MethodName) method_37_code (3 : Nat) (Option.some Jvm.ClassFile.FieldType.int) [((0 : Nat), (8 : Nat), (11 : Nat), (85 : Nat))]) ∈ lw_all := lw_g (lw_at lw_m10 137 rfl) rfl
theorem q2374 : (Jvm.Cond.methodLink "PostChaiseYardLaw" (123 : Nat) ({ cls := "PostChaiseYard", name := "chaiseInRepair", desc := "()I" } : Jvm.MethodName)) ∈ lw_all := lw_g (lw_at lw_m10 138 rfl) rfl
theorem q2378 : (Jvm.Cond.methodLink "PostChaiseYardLaw" (287 : Nat) ({ cls := "PostChaiseYardLaw", name := "repairLeft", desc := "(LPostChaiseYard;[J)I" } : Jvm.MethodName)) ∈ lw_all := lw_g (lw_at lw_m10 142 rfl) rfl
theorem q2379 : (Jvm.Cond.static ({ cls := "PostChaiseYardLaw", name := "repairLeft", desc := "(LPostChaiseYard;[J)I" } : Jvm.MethodName)) ∈ lw_all := lw_g (lw_at lw_m10 143 rfl) rfl
theorem q2380 : (Jvm.Cond.codeWith ({ cls := "PostChaiseYardLaw", name := "repairLeft", desc := "(LPostChaiseYard;[J)I" } : Jvm.MethodName) method_38_code (3 : Nat) (Option.some Jvm.ClassFile.FieldType.int) [((0 : Nat), (8 : Nat), (11 : Nat), (85 : Nat))]) ∈ lw_all := lw_g (lw_at lw_m10 144 rfl) rfl
theorem q2381 : (Jvm.Cond.methodLink "PostChaiseYardLaw" (126 : Nat) ({ cls := "PostChaiseYard", name := "repairLeft", desc := "()I" } : Jvm.MethodName)) ∈ lw_all := lw_g (lw_at lw_m10 145 rfl) rfl
theorem q2385 : (Jvm.Cond.methodLink "PostChaiseYardLaw" (294 : Nat) ({ cls := "PostChaiseYardLaw", name := "quartersToArrival", desc := "(LPostChaiseYard;I[J)I" } : Jvm.MethodName)) ∈ lw_all := lw_g (lw_at lw_m10 149 rfl) rfl
theorem q2386 : (Jvm.Cond.static ({ cls := "PostChaiseYardLaw", name := "quartersToArrival", desc := "(LPostChaiseYard;I[J)I" } : Jvm.MethodName)) ∈ lw_all := lw_g (lw_at lw_m10 150 rfl) rfl
theorem q2387 : (Jvm.Cond.codeWith ({ cls := "PostChaiseYardLaw", name := "quartersToArrival", desc := "(LPostChaiseYard;I[J)I" } : Jvm.MethodName) method_39_code (4 : Nat) (Option.some Jvm.ClassFile.FieldType.int) [((0 : Nat), (9 : Nat), (12 : Nat), (15 : Nat)), ((0 : Nat), (9 : Nat), (15 : Nat), (85 : Nat))]) ∈ lw_all := lw_g (lw_at lw_m10 151 rfl) rfl
theorem q2388 : (Jvm.Cond.methodLink "PostChaiseYardLaw" (129 : Nat) ({ cls := "PostChaiseYard", name := "quartersToArrival", desc := "(I)I" } : Jvm.MethodName)) ∈ lw_all := lw_g (lw_at lw_m10 152 rfl) rfl
theorem q2393 : (Jvm.Cond.methodLink "PostChaiseYardLaw" (297 : Nat) ({ cls := "PostChaiseYardLaw", name := "departuresIn", desc := "(LPostChaiseYard;I[J)I" } : Jvm.MethodName)) ∈ lw_all := lw_g (lw_at lw_m10 157 rfl) rfl
theorem q2394 : (Jvm.Cond.static ({ cls := "PostChaiseYardLaw", name := "departuresIn", desc := "(LPostChaiseYard;I[J)I" } : Jvm.MethodName)) ∈ lw_all := lw_g (lw_at lw_m10 158 rfl) rfl
theorem q2395 : (Jvm.Cond.codeWith ({ cls := "PostChaiseYardLaw", name := "departuresIn", desc := "(LPostChaiseYard;I[J)I" } : Jvm.MethodName) method_40_code (4 : Nat) (Option.some Jvm.ClassFile.FieldType.int) [((0 : Nat), (9 : Nat), (12 : Nat), (13 : Nat))]) ∈ lw_all := lw_g (lw_at lw_m10 159 rfl) rfl
theorem q2396 : (Jvm.Cond.methodLink "PostChaiseYardLaw" (132 : Nat) ({ cls := "PostChaiseYard", name := "departuresIn", desc := "(I)I" } : Jvm.MethodName)) ∈ lw_all := lw_g (lw_at lw_m10 160 rfl) rfl
theorem q2400 : (Jvm.Cond.methodLink "PostChaiseYardLaw" (308 : Nat) ({ cls := "PostChaiseYardLaw", name := "incomeFrom", desc := "(LPostChaiseYard;I[J)I" } : Jvm.MethodName)) ∈ lw_all := lw_g (lw_at lw_m10 164 rfl) rfl
theorem q2401 : (Jvm.Cond.static ({ cls := "PostChaiseYardLaw", name := "incomeFrom", desc := "(LPostChaiseYard;I[J)I" } : Jvm.MethodName)) ∈ lw_all := lw_g (lw_at lw_m10 165 rfl) rfl
theorem q2402 : (Jvm.Cond.codeWith ({ cls := "PostChaiseYardLaw", name := "incomeFrom", desc := "(LPostChaiseYard;I[J)I" } : Jvm.MethodName) method_41_code (4 : Nat) (Option.some Jvm.ClassFile.FieldType.int) [((0 : Nat), (9 : Nat), (12 : Nat), (15 : Nat))]) ∈ lw_all := lw_g (lw_at lw_m10 166 rfl) rfl
theorem q2403 : (Jvm.Cond.methodLink "PostChaiseYardLaw" (135 : Nat) ({ cls := "PostChaiseYard", name := "incomeFrom", desc := "(I)I" } : Jvm.MethodName)) ∈ lw_all := lw_g (lw_at lw_m10 167 rfl) rfl
theorem q2407 : (Jvm.Cond.methodLink "PostChaiseYardLaw" (332 : Nat) ({ cls := "PostChaiseYardLaw", name := "append", desc := "(LPostChaiseYard;I[J)I" } : Jvm.MethodName)) ∈ lw_all := lw_g (lw_at lw_m10 171 rfl) rfl
theorem q2408 : (Jvm.Cond.static ({ cls := "PostChaiseYardLaw", name := "append", desc := "(LPostChaiseYard;I[J)I" } : Jvm.MethodName)) ∈ lw_all := lw_g (lw_at lw_m10 172 rfl) rfl
theorem q2409 : (Jvm.Cond.codeWith ({ cls := "PostChaiseYardLaw", name := "append", desc := "(LPostChaiseYard;I[J)I" } : Jvm.MethodName) method_42_code (4 : Nat) (Option.some Jvm.ClassFile.FieldType.int) [((0 : Nat), (9 : Nat), (12 : Nat), (13 : Nat)), ((0 : Nat), (9 : Nat), (15 : Nat), (17 : Nat))]) ∈ lw_all := lw_g (lw_at lw_m10 173 rfl) rfl
theorem q2410 : (Jvm.Cond.methodLink "PostChaiseYardLaw" (138 : Nat) ({ cls := "PostChaiseYard", name := "append", desc := "(I)I" } : Jvm.MethodName)) ∈ lw_all := lw_g (lw_at lw_m10 174 rfl) rfl
theorem q2415 : (Jvm.Cond.methodLink "PostChaiseYardLaw" (352 : Nat) ({ cls := "PostChaiseYardLaw", name := "runText", desc := "(LPostChaiseYard;[J)I" } : Jvm.MethodName)) ∈ lw_all := lw_g (lw_at lw_m10 179 rfl) rfl
theorem q2416 : (Jvm.Cond.static ({ cls := "PostChaiseYardLaw", name := "runText", desc := "(LPostChaiseYard;[J)I" } : Jvm.MethodName)) ∈ lw_all := lw_g (lw_at lw_m10 180 rfl) rfl
theorem q2417 : (Jvm.Cond.codeWith ({ cls := "PostChaiseYardLaw", name := "runText", desc := "(LPostChaiseYard;[J)I" } : Jvm.MethodName) method_43_code (3 : Nat) (Option.some Jvm.ClassFile.FieldType.int) [((0 : Nat), (8 : Nat), (11 : Nat), (13 : Nat))]) ∈ lw_all := lw_g (lw_at lw_m10 181 rfl) rfl
theorem q2418 : (Jvm.Cond.methodLink "PostChaiseYardLaw" (141 : Nat) ({ cls := "PostChaiseYard", name := "runText", desc := "()I" } : Jvm.MethodName)) ∈ lw_all := lw_g (lw_at lw_m10 182 rfl) rfl
theorem q2454 : (Jvm.Cond.methodLink "PostChaiseYardLaw" (355 : Nat) ({ cls := "PostChaiseYardLaw", name := "undo", desc := "(LPostChaiseYard;[J)I" } : Jvm.MethodName)) ∈ lw_all := lw_g (lw_at lw_m10 218 rfl) rfl
theorem q2455 : (Jvm.Cond.static ({ cls := "PostChaiseYardLaw", name := "undo", desc := "(LPostChaiseYard;[J)I" } : Jvm.MethodName)) ∈ lw_all := lw_g (lw_at lw_m10 219 rfl) rfl
theorem q2456 : (Jvm.Cond.codeWith ({ cls := "PostChaiseYardLaw", name := "undo", desc := "(LPostChaiseYard;[J)I" } : Jvm.MethodName) method_44_code (3 : Nat) (Option.some Jvm.ClassFile.FieldType.int) [((0 : Nat), (8 : Nat), (11 : Nat), (17 : Nat))]) ∈ lw_all := lw_g (lw_at lw_m10 220 rfl) rfl
theorem q2457 : (Jvm.Cond.methodLink "PostChaiseYardLaw" (144 : Nat) ({ cls := "PostChaiseYard", name := "undo", desc := "()I" } : Jvm.MethodName)) ∈ lw_all := lw_g (lw_at lw_m10 221 rfl) rfl
theorem q2476 : (Jvm.Cond.methodLink "PostChaiseYardLaw" (366 : Nat) ({ cls := "PostChaiseYardLaw", name := "restoreSnapshot", desc := "(LPostChaiseYard;[J)I" } : Jvm.MethodName)) ∈ lw_all := lw_g (lw_at lw_m11 0 rfl) rfl
theorem q2477 : (Jvm.Cond.static ({ cls := "PostChaiseYardLaw", name := "restoreSnapshot", desc := "(LPostChaiseYard;[J)I" } : Jvm.MethodName)) ∈ lw_all := lw_g (lw_at lw_m11 1 rfl) rfl
theorem q2478 : (Jvm.Cond.codeWith ({ cls := "PostChaiseYardLaw", name := "restoreSnapshot", desc := "(LPostChaiseYard;[J)I" } : Jvm.MethodName) method_45_code (3 : Nat) (Option.some Jvm.ClassFile.FieldType.int) [((0 : Nat), (8 : Nat), (11 : Nat), (17 : Nat))]) ∈ lw_all := lw_g (lw_at lw_m11 2 rfl) rfl
theorem q2479 : (Jvm.Cond.methodLink "PostChaiseYardLaw" (147 : Nat) ({ cls := "PostChaiseYard", name := "restoreSnapshot", desc := "()I" } : Jvm.MethodName)) ∈ lw_all := lw_g (lw_at lw_m11 3 rfl) rfl
theorem q2483 : (Jvm.Cond.classLink "PostChaiseYardLaw" (151 : Nat) "PostChaiseYardModel") ∈ lw_all := lw_g (lw_at lw_m11 7 rfl) rfl
theorem q2485 : (Jvm.Cond.methodLink "PostChaiseYardLaw" (153 : Nat) ({ cls := "PostChaiseYardModel", name := "<init>", desc := "()V" } : Jvm.MethodName)) ∈ lw_all := lw_g (lw_at lw_m11 9 rfl) rfl
theorem q2523 : (Jvm.Cond.methodLink "PostChaiseYardLaw" (160 : Nat) ({ cls := "PostChaiseYardModel", name := "thrown", desc := "()I" } : Jvm.MethodName)) ∈ lw_all := lw_g (lw_at lw_m11 47 rfl) rfl
theorem q2527 : (Jvm.Cond.methodLink "PostChaiseYardLaw" (159 : Nat) ({ cls := "PostChaiseYardModel", name := "arrive", desc := "(II)I" } : Jvm.MethodName)) ∈ lw_all := lw_g (lw_at lw_m11 51 rfl) rfl
theorem q2550 : (Jvm.Cond.methodLink "PostChaiseYardLaw" (166 : Nat) ({ cls := "PostChaiseYardModel", name := "giveUp", desc := "(I)I" } : Jvm.MethodName)) ∈ lw_all := lw_g (lw_at lw_m11 74 rfl) rfl
theorem q2566 : (Jvm.Cond.methodLink "PostChaiseYardLaw" (169 : Nat) ({ cls := "PostChaiseYardModel", name := "pass", desc := "(I)I" } : Jvm.MethodName)) ∈ lw_all := lw_g (lw_at lw_m11 90 rfl) rfl
theorem q2645 : (Jvm.Cond.methodLink "PostChaiseYardLaw" (172 : Nat) ({ cls := "PostChaiseYardModel", name := "addRest", desc := "(II)I" } : Jvm.MethodName)) ∈ lw_all := lw_g (lw_at lw_m11 169 rfl) rfl
theorem q2652 : (Jvm.Cond.methodLink "PostChaiseYardLaw" (175 : Nat) ({ cls := "PostChaiseYardModel", name := "sendToBed", desc := "(I)I" } : Jvm.MethodName)) ∈ lw_all := lw_g (lw_at lw_m11 176 rfl) rfl
theorem q2663 : (Jvm.Cond.methodLink "PostChaiseYardLaw" (178 : Nat) ({ cls := "PostChaiseYardModel", name := "callBoy", desc := "(I)I" } : Jvm.MethodName)) ∈ lw_all := lw_g (lw_at lw_m11 187 rfl) rfl
theorem q2671 : (Jvm.Cond.methodLink "PostChaiseYardLaw" (181 : Nat) ({ cls := "PostChaiseYardModel", name := "putOnPole", desc := "(I)I" } : Jvm.MethodName)) ∈ lw_all := lw_g (lw_at lw_m11 195 rfl) rfl
theorem q2682 : (Jvm.Cond.methodLink "PostChaiseYardLaw" (184 : Nat) ({ cls := "PostChaiseYardModel", name := "setPace", desc := "(I)I" } : Jvm.MethodName)) ∈ lw_all := lw_g (lw_at lw_m11 206 rfl) rfl
theorem q2690 : (Jvm.Cond.methodLink "PostChaiseYardLaw" (187 : Nat) ({ cls := "PostChaiseYardModel", name := "setPoleLimit", desc := "(I)I" } : Jvm.MethodName)) ∈ lw_all := lw_g (lw_at lw_m11 214 rfl) rfl
theorem q2694 : (Jvm.Cond.methodLink "PostChaiseYardLaw" (191 : Nat) ({ cls := "PostChaiseYardModel", name := "time", desc := "()I" } : Jvm.MethodName)) ∈ lw_all := lw_g (lw_at lw_m11 218 rfl) rfl
theorem q2698 : (Jvm.Cond.methodLink "PostChaiseYardLaw" (195 : Nat) ({ cls := "PostChaiseYardModel", name := "pace", desc := "()I" } : Jvm.MethodName)) ∈ lw_all := lw_g (lw_at lw_m11 222 rfl) rfl
theorem q2702 : (Jvm.Cond.methodLink "PostChaiseYardLaw" (199 : Nat) ({ cls := "PostChaiseYardModel", name := "poleLimit", desc := "()I" } : Jvm.MethodName)) ∈ lw_all := lw_g (lw_at lw_m11 226 rfl) rfl
theorem q2706 : (Jvm.Cond.methodLink "PostChaiseYardLaw" (203 : Nat) ({ cls := "PostChaiseYardModel", name := "guestCount", desc := "()I" } : Jvm.MethodName)) ∈ lw_all := lw_g (lw_at lw_m11 230 rfl) rfl
theorem q2710 : (Jvm.Cond.methodLink "PostChaiseYardLaw" (206 : Nat) ({ cls := "PostChaiseYardModel", name := "rankOf", desc := "(I)I" } : Jvm.MethodName)) ∈ lw_all := lw_g (lw_at lw_m11 234 rfl) rfl
theorem q2718 : (Jvm.Cond.methodLink "PostChaiseYardLaw" (209 : Nat) ({ cls := "PostChaiseYardModel", name := "roadOf", desc := "(I)I" } : Jvm.MethodName)) ∈ lw_all := lw_g (lw_at lw_m12 2 rfl) rfl
theorem q2722 : (Jvm.Cond.methodLink "PostChaiseYardLaw" (212 : Nat) ({ cls := "PostChaiseYardModel", name := "isWaiting", desc := "(I)Z" } : Jvm.MethodName)) ∈ lw_all := lw_g (lw_at lw_m12 6 rfl) rfl
theorem q2730 : (Jvm.Cond.methodLink "PostChaiseYardLaw" (215 : Nat) ({ cls := "PostChaiseYardModel", name := "isUnderWay", desc := "(I)Z" } : Jvm.MethodName)) ∈ lw_all := lw_g (lw_at lw_m12 14 rfl) rfl
theorem q2734 : (Jvm.Cond.methodLink "PostChaiseYardLaw" (218 : Nat) ({ cls := "PostChaiseYardModel", name := "hasArrived", desc := "(I)Z" } : Jvm.MethodName)) ∈ lw_all := lw_g (lw_at lw_m12 18 rfl) rfl
theorem q2738 : (Jvm.Cond.methodLink "PostChaiseYardLaw" (221 : Nat) ({ cls := "PostChaiseYardModel", name := "hasGivenUp", desc := "(I)Z" } : Jvm.MethodName)) ∈ lw_all := lw_g (lw_at lw_m12 22 rfl) rfl
theorem q2742 : (Jvm.Cond.methodLink "PostChaiseYardLaw" (224 : Nat) ({ cls := "PostChaiseYardModel", name := "waitOf", desc := "(I)I" } : Jvm.MethodName)) ∈ lw_all := lw_g (lw_at lw_m12 26 rfl) rfl
theorem q2746 : (Jvm.Cond.methodLink "PostChaiseYardLaw" (227 : Nat) ({ cls := "PostChaiseYardModel", name := "fareOf", desc := "(I)I" } : Jvm.MethodName)) ∈ lw_all := lw_g (lw_at lw_m12 30 rfl) rfl
theorem q2750 : (Jvm.Cond.methodLink "PostChaiseYardLaw" (231 : Nat) ({ cls := "PostChaiseYardModel", name := "lineLength", desc := "()I" } : Jvm.MethodName)) ∈ lw_all := lw_g (lw_at lw_m12 34 rfl) rfl
theorem q2754 : (Jvm.Cond.methodLink "PostChaiseYardLaw" (234 : Nat) ({ cls := "PostChaiseYardModel", name := "guestAt", desc := "(I)I" } : Jvm.MethodName)) ∈ lw_all := lw_g (lw_at lw_m12 38 rfl) rfl
theorem q2758 : (Jvm.Cond.methodLink "PostChaiseYardLaw" (237 : Nat) ({ cls := "PostChaiseYardModel", name := "isPairOut", desc := "(I)Z" } : Jvm.MethodName)) ∈ lw_all := lw_g (lw_at lw_m12 42 rfl) rfl
theorem q2766 : (Jvm.Cond.methodLink "PostChaiseYardLaw" (240 : Nat) ({ cls := "PostChaiseYardModel", name := "restOf", desc := "(I)I" } : Jvm.MethodName)) ∈ lw_all := lw_g (lw_at lw_m12 50 rfl) rfl
theorem q2770 : (Jvm.Cond.methodLink "PostChaiseYardLaw" (243 : Nat) ({ cls := "PostChaiseYardModel", name := "milesOfPair", desc := "(I)I" } : Jvm.MethodName)) ∈ lw_all := lw_g (lw_at lw_m12 54 rfl) rfl
theorem q2774 : (Jvm.Cond.methodLink "PostChaiseYardLaw" (247 : Nat) ({ cls := "PostChaiseYardModel", name := "nextPair", desc := "()I" } : Jvm.MethodName)) ∈ lw_all := lw_g (lw_at lw_m12 58 rfl) rfl
theorem q2782 : (Jvm.Cond.methodLink "PostChaiseYardLaw" (250 : Nat) ({ cls := "PostChaiseYardModel", name := "isBoyOut", desc := "(I)Z" } : Jvm.MethodName)) ∈ lw_all := lw_g (lw_at lw_m12 66 rfl) rfl
theorem q2790 : (Jvm.Cond.methodLink "PostChaiseYardLaw" (253 : Nat) ({ cls := "PostChaiseYardModel", name := "isInBed", desc := "(I)Z" } : Jvm.MethodName)) ∈ lw_all := lw_g (lw_at lw_m12 74 rfl) rfl
theorem q2794 : (Jvm.Cond.methodLink "PostChaiseYardLaw" (256 : Nat) ({ cls := "PostChaiseYardModel", name := "placeOf", desc := "(I)I" } : Jvm.MethodName)) ∈ lw_all := lw_g (lw_at lw_m12 78 rfl) rfl
theorem q2798 : (Jvm.Cond.methodLink "PostChaiseYardLaw" (259 : Nat) ({ cls := "PostChaiseYardModel", name := "tripsOf", desc := "(I)I" } : Jvm.MethodName)) ∈ lw_all := lw_g (lw_at lw_m12 82 rfl) rfl
theorem q2802 : (Jvm.Cond.methodLink "PostChaiseYardLaw" (262 : Nat) ({ cls := "PostChaiseYardModel", name := "nextBoy", desc := "()I" } : Jvm.MethodName)) ∈ lw_all := lw_g (lw_at lw_m12 86 rfl) rfl
theorem q2806 : (Jvm.Cond.methodLink "PostChaiseYardLaw" (265 : Nat) ({ cls := "PostChaiseYardModel", name := "isChaiseOut", desc := "(I)Z" } : Jvm.MethodName)) ∈ lw_all := lw_g (lw_at lw_m12 90 rfl) rfl
theorem q2814 : (Jvm.Cond.methodLink "PostChaiseYardLaw" (268 : Nat) ({ cls := "PostChaiseYardModel", name := "isBroken", desc := "(I)Z" } : Jvm.MethodName)) ∈ lw_all := lw_g (lw_at lw_m12 98 rfl) rfl
theorem q2818 : (Jvm.Cond.methodLink "PostChaiseYardLaw" (271 : Nat) ({ cls := "PostChaiseYardModel", name := "wearOf", desc := "(I)I" } : Jvm.MethodName)) ∈ lw_all := lw_g (lw_at lw_m12 102 rfl) rfl
theorem q2822 : (Jvm.Cond.methodLink "PostChaiseYardLaw" (274 : Nat) ({ cls := "PostChaiseYardModel", name := "milesOfChaise", desc := "(I)I" } : Jvm.MethodName)) ∈ lw_all := lw_g (lw_at lw_m12 106 rfl) rfl
theorem q2826 : (Jvm.Cond.methodLink "PostChaiseYardLaw" (277 : Nat) ({ cls := "PostChaiseYardModel", name := "guestOf", desc := "(I)I" } : Jvm.MethodName)) ∈ lw_all := lw_g (lw_at lw_m12 110 rfl) rfl
theorem q2834 : (Jvm.Cond.methodLink "PostChaiseYardLaw" (280 : Nat) ({ cls := "PostChaiseYardModel", name := "quartersLeft", desc := "(I)I" } : Jvm.MethodName)) ∈ lw_all := lw_g (lw_at lw_m12 118 rfl) rfl
theorem q2838 : (Jvm.Cond.methodLink "PostChaiseYardLaw" (283 : Nat) ({ cls := "PostChaiseYardModel", name := "nextChaise", desc := "()I" } : Jvm.MethodName)) ∈ lw_all := lw_g (lw_at lw_m12 122 rfl) rfl
theorem q2842 : (Jvm.Cond.methodLink "PostChaiseYardLaw" (286 : Nat) ({ cls := "PostChaiseYardModel", name := "chaiseInRepair", desc := "()I" } : Jvm.MethodName)) ∈ lw_all := lw_g (lw_at lw_m12 126 rfl) rfl
theorem q2846 : (Jvm.Cond.methodLink "PostChaiseYardLaw" (289 : Nat) ({ cls := "PostChaiseYardModel", name := "repairLeft", desc := "()I" } : Jvm.MethodName)) ∈ lw_all := lw_g (lw_at lw_m12 130 rfl) rfl
theorem q2850 : (Jvm.Cond.methodLink "PostChaiseYardLaw" (293 : Nat) ({ cls := "PostChaiseYardModel", name := "whyNoDeparture", desc := "()I" } : Jvm.MethodName)) ∈ lw_all := lw_g (lw_at lw_m12 134 rfl) rfl
theorem q2854 : (Jvm.Cond.methodLink "PostChaiseYardLaw" (296 : Nat) ({ cls := "PostChaiseYardModel", name := "quartersToArrival", desc := "(I)I" } : Jvm.MethodName)) ∈ lw_all := lw_g (lw_at lw_m12 138 rfl) rfl
theorem q2866 : (Jvm.Cond.methodLink "PostChaiseYardLaw" (299 : Nat) ({ cls := "PostChaiseYardModel", name := "departuresIn", desc := "(I)I" } : Jvm.MethodName)) ∈ lw_all := lw_g (lw_at lw_m12 150 rfl) rfl
theorem q2870 : (Jvm.Cond.methodLink "PostChaiseYardLaw" (303 : Nat) ({ cls := "PostChaiseYardModel", name := "incomeByGuests", desc := "()I" } : Jvm.MethodName)) ∈ lw_all := lw_g (lw_at lw_m12 154 rfl) rfl
theorem q2878 : (Jvm.Cond.methodLink "PostChaiseYardLaw" (307 : Nat) ({ cls := "PostChaiseYardModel", name := "incomeByRoads", desc := "()I" } : Jvm.MethodName)) ∈ lw_all := lw_g (lw_at lw_m12 162 rfl) rfl
theorem q2882 : (Jvm.Cond.methodLink "PostChaiseYardLaw" (310 : Nat) ({ cls := "PostChaiseYardModel", name := "incomeFrom", desc := "(I)I" } : Jvm.MethodName)) ∈ lw_all := lw_g (lw_at lw_m12 166 rfl) rfl
theorem q2886 : (Jvm.Cond.methodLink "PostChaiseYardLaw" (314 : Nat) ({ cls := "PostChaiseYardModel", name := "spentOnPoles", desc := "()I" } : Jvm.MethodName)) ∈ lw_all := lw_g (lw_at lw_m12 170 rfl) rfl
theorem q2890 : (Jvm.Cond.methodLink "PostChaiseYardLaw" (318 : Nat) ({ cls := "PostChaiseYardModel", name := "milesByPairs", desc := "()I" } : Jvm.MethodName)) ∈ lw_all := lw_g (lw_at lw_m12 174 rfl) rfl
theorem q2898 : (Jvm.Cond.methodLink "PostChaiseYardLaw" (322 : Nat) ({ cls := "PostChaiseYardModel", name := "milesByChaises", desc := "()I" } : Jvm.MethodName)) ∈ lw_all := lw_g (lw_at lw_m12 182 rfl) rfl
theorem q2902 : (Jvm.Cond.methodLink "PostChaiseYardLaw" (326 : Nat) ({ cls := "PostChaiseYardModel", name := "brokenPoles", desc := "()I" } : Jvm.MethodName)) ∈ lw_all := lw_g (lw_at lw_m12 186 rfl) rfl
theorem q2906 : (Jvm.Cond.methodLink "PostChaiseYardLaw" (331 : Nat) ({ cls := "PostChaiseYardModel", name := "meanWait", desc := "()D" } : Jvm.MethodName)) ∈ lw_all := lw_g (lw_at lw_m12 190 rfl) rfl
theorem q2910 : (Jvm.Cond.methodLink "PostChaiseYardLaw" (334 : Nat) ({ cls := "PostChaiseYardModel", name := "append", desc := "(I)I" } : Jvm.MethodName)) ∈ lw_all := lw_g (lw_at lw_m12 194 rfl) rfl
theorem q2914 : (Jvm.Cond.methodLink "PostChaiseYardLaw" (338 : Nat) ({ cls := "PostChaiseYardModel", name := "clearText", desc := "()I" } : Jvm.MethodName)) ∈ lw_all := lw_g (lw_at lw_m12 198 rfl) rfl
theorem q2918 : (Jvm.Cond.methodLink "PostChaiseYardLaw" (342 : Nat) ({ cls := "PostChaiseYardModel", name := "textLength", desc := "()I" } : Jvm.MethodName)) ∈ lw_all := lw_g (lw_at lw_m12 202 rfl) rfl
theorem q2922 : (Jvm.Cond.methodLink "PostChaiseYardLaw" (347 : Nat) ({ cls := "PostChaiseYardModel", name := "isValid", desc := "()Z" } : Jvm.MethodName)) ∈ lw_all := lw_g (lw_at lw_m12 206 rfl) rfl
theorem q2946 : (Jvm.Cond.methodLink "PostChaiseYardLaw" (351 : Nat) ({ cls := "PostChaiseYardModel", name := "errorPosition", desc := "()I" } : Jvm.MethodName)) ∈ lw_all := lw_g (lw_at lw_m12 230 rfl) rfl
theorem q2950 : (Jvm.Cond.methodLink "PostChaiseYardLaw" (354 : Nat) ({ cls := "PostChaiseYardModel", name := "runText", desc := "()I" } : Jvm.MethodName)) ∈ lw_all := lw_g (lw_at lw_m12 234 rfl) rfl
theorem q2954 : (Jvm.Cond.methodLink "PostChaiseYardLaw" (357 : Nat) ({ cls := "PostChaiseYardModel", name := "undo", desc := "()I" } : Jvm.MethodName)) ∈ lw_all := lw_g (lw_at lw_m12 238 rfl) rfl
theorem q2958 : (Jvm.Cond.methodLink "PostChaiseYardLaw" (361 : Nat) ({ cls := "PostChaiseYardModel", name := "savedStates", desc := "()I" } : Jvm.MethodName)) ∈ lw_all := lw_g (lw_at lw_m13 2 rfl) rfl
theorem q2962 : (Jvm.Cond.methodLink "PostChaiseYardLaw" (365 : Nat) ({ cls := "PostChaiseYardModel", name := "takeSnapshot", desc := "()I" } : Jvm.MethodName)) ∈ lw_all := lw_g (lw_at lw_m13 6 rfl) rfl
theorem q2966 : (Jvm.Cond.methodLink "PostChaiseYardLaw" (368 : Nat) ({ cls := "PostChaiseYardModel", name := "restoreSnapshot", desc := "()I" } : Jvm.MethodName)) ∈ lw_all := lw_g (lw_at lw_m13 10 rfl) rfl

/-! the law's own entry -/
set_option maxRecDepth 100000
abbrev cL_law : ByteArray := code
def dkwL_law_118 : List UInt8 := [4, 172]
abbrev dktL_law_118 : List UInt8 := dkwL_law_118 ++ []
def dkwL_law_117 : List UInt8 := [154, 0, 15, 45, 3, 47, 21, 6, 133, 148, 153, 0, 5, 3, 172, 167, 0, 3, 132, 4, 3, 167, 244, 118]
abbrev dktL_law_117 : List UInt8 := dkwL_law_117 ++ dktL_law_118
def dkwL_law_116 : List UInt8 := [184, 1, 110, 54, 5, 44, 182, 1, 112, 54, 6, 44, 182, 0, 160, 21, 5, 159, 0, 5, 3, 172, 21, 5]
abbrev dktL_law_116 : List UInt8 := dkwL_law_116 ++ dktL_law_117
def dkwL_law_115 : List UInt8 := [182, 1, 105, 159, 0, 62, 3, 172, 43, 182, 1, 106, 44, 182, 1, 109, 159, 0, 49, 3, 172, 43, 45]
abbrev dktL_law_115 : List UInt8 := dkwL_law_115 ++ dktL_law_116
def dkwL_law_114 : List UInt8 := [154, 0, 15, 45, 3, 47, 21, 6, 133, 148, 153, 0, 5, 3, 172, 167, 0, 73, 43, 182, 1, 102, 44]
abbrev dktL_law_114 : List UInt8 := dkwL_law_114 ++ dktL_law_115
def dkwL_law_113 : List UInt8 := [184, 1, 99, 54, 5, 44, 182, 1, 101, 54, 6, 44, 182, 0, 160, 21, 5, 159, 0, 5, 3, 172, 21, 5]
abbrev dktL_law_113 : List UInt8 := dkwL_law_113 ++ dktL_law_114
def dkwL_law_112 : List UInt8 := [172, 21, 5, 154, 0, 15, 45, 3, 47, 21, 6, 133, 148, 153, 0, 5, 3, 172, 167, 0, 117, 43, 45]
abbrev dktL_law_112 : List UInt8 := dkwL_law_112 ++ dktL_law_113
def dkwL_law_111 : List UInt8 := [172, 43, 45, 184, 1, 96, 54, 5, 44, 182, 1, 98, 54, 6, 44, 182, 0, 160, 21, 5, 159, 0, 5, 3]
abbrev dktL_law_111 : List UInt8 := dkwL_law_111 ++ dktL_law_112
def dkwL_law_110 : List UInt8 := [182, 1, 87, 44, 182, 1, 91, 159, 0, 176, 3, 172, 43, 182, 1, 92, 44, 182, 1, 95, 159, 0, 163, 3]
abbrev dktL_law_110 : List UInt8 := dkwL_law_110 ++ dktL_law_111
def dkwL_law_109 : List UInt8 := [182, 1, 82, 159, 0, 202, 3, 172, 43, 182, 1, 83, 44, 182, 1, 86, 159, 0, 189, 3, 172, 43]
abbrev dktL_law_109 : List UInt8 := dkwL_law_109 ++ dktL_law_110
def dkwL_law_108 : List UInt8 := [154, 0, 15, 45, 3, 47, 21, 6, 133, 148, 153, 0, 5, 3, 172, 167, 0, 213, 43, 182, 1, 79, 44]
abbrev dktL_law_108 : List UInt8 := dkwL_law_108 ++ dktL_law_109
def dkwL_law_107 : List UInt8 := [21, 4, 4, 96, 46, 182, 1, 78, 54, 6, 44, 182, 0, 160, 21, 5, 159, 0, 5, 3, 172, 21, 5]
abbrev dktL_law_107 : List UInt8 := dkwL_law_107 ++ dktL_law_108
def dkwL_law_106 : List UInt8 := [154, 0, 5, 3, 172, 167, 1, 13, 43, 42, 21, 4, 4, 96, 46, 45, 184, 1, 76, 54, 5, 44, 42]
abbrev dktL_law_106 : List UInt8 := dkwL_law_106 ++ dktL_law_107
def dkwL_law_105 : List UInt8 := [57, 7, 24, 5, 24, 7, 151, 153, 0, 21, 24, 5, 24, 5, 151, 153, 0, 11, 24, 7, 24, 7, 151]
abbrev dktL_law_105 : List UInt8 := dkwL_law_105 ++ dktL_law_106
def dkwL_law_104 : List UInt8 := [172, 43, 182, 1, 67, 44, 182, 1, 70, 159, 1, 56, 3, 172, 43, 182, 1, 71, 57, 5, 44, 182, 1, 75]
abbrev dktL_law_104 : List UInt8 := dkwL_law_104 ++ dktL_law_105
def dkwL_law_103 : List UInt8 := [182, 1, 59, 44, 182, 1, 62, 159, 1, 82, 3, 172, 43, 182, 1, 63, 44, 182, 1, 66, 159, 1, 69, 3]
abbrev dktL_law_103 : List UInt8 := dkwL_law_103 ++ dktL_law_104
def dkwL_law_102 : List UInt8 := [153, 0, 5, 3, 172, 167, 1, 106, 43, 182, 1, 55, 44, 182, 1, 58, 159, 1, 95, 3, 172, 43]
abbrev dktL_law_102 : List UInt8 := dkwL_law_102 ++ dktL_law_103
def dkwL_law_101 : List UInt8 := [182, 0, 160, 21, 5, 159, 0, 5, 3, 172, 21, 5, 154, 0, 15, 45, 3, 47, 21, 6, 133, 148]
abbrev dktL_law_101 : List UInt8 := dkwL_law_101 ++ dktL_law_102
def dkwL_law_100 : List UInt8 := [21, 4, 4, 96, 46, 45, 184, 1, 52, 54, 5, 44, 42, 21, 4, 4, 96, 46, 182, 1, 54, 54, 6, 44]
abbrev dktL_law_100 : List UInt8 := dkwL_law_100 ++ dktL_law_101
def dkwL_law_99 : List UInt8 := [182, 1, 47, 159, 1, 177, 3, 172, 43, 182, 1, 48, 44, 182, 1, 51, 159, 1, 164, 3, 172, 43, 42]
abbrev dktL_law_99 : List UInt8 := dkwL_law_99 ++ dktL_law_100
def dkwL_law_98 : List UInt8 := [154, 0, 15, 45, 3, 47, 21, 6, 133, 148, 153, 0, 5, 3, 172, 167, 1, 188, 43, 182, 1, 44, 44]
abbrev dktL_law_98 : List UInt8 := dkwL_law_98 ++ dktL_law_99
def dkwL_law_97 : List UInt8 := [21, 4, 4, 96, 46, 182, 1, 43, 54, 6, 44, 182, 0, 160, 21, 5, 159, 0, 5, 3, 172, 21, 5]
abbrev dktL_law_97 : List UInt8 := dkwL_law_97 ++ dktL_law_98
def dkwL_law_96 : List UInt8 := [153, 0, 5, 3, 172, 167, 1, 244, 43, 42, 21, 4, 4, 96, 46, 45, 184, 1, 41, 54, 5, 44, 42]
abbrev dktL_law_96 : List UInt8 := dkwL_law_96 ++ dktL_law_97
def dkwL_law_95 : List UInt8 := [182, 0, 160, 21, 5, 159, 0, 5, 3, 172, 21, 5, 154, 0, 15, 45, 3, 47, 21, 6, 133, 148]
abbrev dktL_law_95 : List UInt8 := dkwL_law_95 ++ dktL_law_96
def dkwL_law_94 : List UInt8 := [21, 4, 4, 96, 46, 45, 184, 1, 38, 54, 5, 44, 42, 21, 4, 4, 96, 46, 182, 1, 40, 54, 6, 44]
abbrev dktL_law_94 : List UInt8 := dkwL_law_94 ++ dktL_law_95
def dkwL_law_93 : List UInt8 := [153, 0, 5, 3, 172, 167, 2, 57, 43, 182, 1, 34, 44, 182, 1, 37, 159, 2, 46, 3, 172, 43, 42]
abbrev dktL_law_93 : List UInt8 := dkwL_law_93 ++ dktL_law_94
def dkwL_law_92 : List UInt8 := [182, 0, 160, 21, 5, 159, 0, 5, 3, 172, 21, 5, 154, 0, 15, 45, 3, 47, 21, 6, 133, 148]
abbrev dktL_law_92 : List UInt8 := dkwL_law_92 ++ dktL_law_93
def dkwL_law_91 : List UInt8 := [153, 0, 5, 3, 172, 167, 2, 101, 43, 45, 184, 1, 31, 54, 5, 44, 182, 1, 33, 54, 6, 44]
abbrev dktL_law_91 : List UInt8 := dkwL_law_91 ++ dktL_law_92
def dkwL_law_90 : List UInt8 := [182, 0, 160, 21, 5, 159, 0, 5, 3, 172, 21, 5, 154, 0, 15, 45, 3, 47, 21, 6, 133, 148]
abbrev dktL_law_90 : List UInt8 := dkwL_law_90 ++ dktL_law_91
def dkwL_law_89 : List UInt8 := [153, 0, 5, 3, 172, 167, 2, 145, 43, 45, 184, 1, 28, 54, 5, 44, 182, 1, 30, 54, 6, 44]
abbrev dktL_law_89 : List UInt8 := dkwL_law_89 ++ dktL_law_90
def dkwL_law_88 : List UInt8 := [182, 0, 160, 21, 5, 159, 0, 5, 3, 172, 21, 5, 154, 0, 15, 45, 3, 47, 21, 6, 133, 148]
abbrev dktL_law_88 : List UInt8 := dkwL_law_88 ++ dktL_law_89
def dkwL_law_87 : List UInt8 := [153, 0, 5, 3, 172, 167, 2, 189, 43, 45, 184, 1, 25, 54, 5, 44, 182, 1, 27, 54, 6, 44]
abbrev dktL_law_87 : List UInt8 := dkwL_law_87 ++ dktL_law_88
def dkwL_law_86 : List UInt8 := [182, 0, 160, 21, 5, 159, 0, 5, 3, 172, 21, 5, 154, 0, 15, 45, 3, 47, 21, 6, 133, 148]
abbrev dktL_law_86 : List UInt8 := dkwL_law_86 ++ dktL_law_87
def dkwL_law_85 : List UInt8 := [21, 4, 4, 96, 46, 45, 184, 1, 22, 54, 5, 44, 42, 21, 4, 4, 96, 46, 182, 1, 24, 54, 6, 44]
abbrev dktL_law_85 : List UInt8 := dkwL_law_85 ++ dktL_law_86
def dkwL_law_84 : List UInt8 := [172, 21, 5, 154, 0, 15, 45, 3, 47, 21, 6, 133, 148, 153, 0, 5, 3, 172, 167, 2, 245, 43, 42]
abbrev dktL_law_84 : List UInt8 := dkwL_law_84 ++ dktL_law_85
def dkwL_law_83 : List UInt8 := [54, 5, 44, 42, 21, 4, 4, 96, 46, 182, 1, 21, 54, 6, 44, 182, 0, 160, 21, 5, 159, 0, 5, 3]
abbrev dktL_law_83 : List UInt8 := dkwL_law_83 ++ dktL_law_84
def dkwL_law_82 : List UInt8 := [21, 6, 133, 148, 153, 0, 5, 3, 172, 167, 3, 45, 43, 42, 21, 4, 4, 96, 46, 45, 184, 1, 19]
abbrev dktL_law_82 : List UInt8 := dkwL_law_82 ++ dktL_law_83
def dkwL_law_81 : List UInt8 := [182, 1, 18, 54, 6, 44, 182, 0, 160, 21, 5, 159, 0, 5, 3, 172, 21, 5, 154, 0, 15, 45, 3, 47]
abbrev dktL_law_81 : List UInt8 := dkwL_law_81 ++ dktL_law_82
def dkwL_law_80 : List UInt8 := [167, 3, 101, 43, 42, 21, 4, 4, 96, 46, 45, 184, 1, 16, 54, 5, 44, 42, 21, 4, 4, 96, 46]
abbrev dktL_law_80 : List UInt8 := dkwL_law_80 ++ dktL_law_81
def dkwL_law_79 : List UInt8 := [21, 5, 159, 0, 5, 3, 172, 21, 5, 154, 0, 15, 45, 3, 47, 21, 6, 133, 148, 153, 0, 5, 3, 172]
abbrev dktL_law_79 : List UInt8 := dkwL_law_79 ++ dktL_law_80
def dkwL_law_78 : List UInt8 := [96, 46, 45, 184, 1, 13, 54, 5, 44, 42, 21, 4, 4, 96, 46, 182, 1, 15, 54, 6, 44, 182, 0, 160]
abbrev dktL_law_78 : List UInt8 := dkwL_law_78 ++ dktL_law_79
def dkwL_law_77 : List UInt8 := [21, 6, 153, 0, 7, 10, 167, 0, 4, 9, 148, 153, 0, 5, 3, 172, 167, 3, 157, 43, 42, 21, 4, 4]
abbrev dktL_law_77 : List UInt8 := dkwL_law_77 ++ dktL_law_78
def dkwL_law_76 : List UInt8 := [182, 1, 12, 54, 6, 44, 182, 0, 160, 21, 5, 159, 0, 5, 3, 172, 21, 5, 154, 0, 22, 45, 3, 47]
abbrev dktL_law_76 : List UInt8 := dkwL_law_76 ++ dktL_law_77
def dkwL_law_75 : List UInt8 := [167, 3, 220, 43, 42, 21, 4, 4, 96, 46, 45, 184, 1, 10, 54, 5, 44, 42, 21, 4, 4, 96, 46]
abbrev dktL_law_75 : List UInt8 := dkwL_law_75 ++ dktL_law_76
def dkwL_law_74 : List UInt8 := [154, 0, 22, 45, 3, 47, 21, 6, 153, 0, 7, 10, 167, 0, 4, 9, 148, 153, 0, 5, 3, 172]
abbrev dktL_law_74 : List UInt8 := dkwL_law_74 ++ dktL_law_75
def dkwL_law_73 : List UInt8 := [21, 4, 4, 96, 46, 182, 1, 9, 54, 6, 44, 182, 0, 160, 21, 5, 159, 0, 5, 3, 172, 21, 5]
abbrev dktL_law_73 : List UInt8 := dkwL_law_73 ++ dktL_law_74
def dkwL_law_72 : List UInt8 := [148, 153, 0, 5, 3, 172, 167, 4, 27, 43, 42, 21, 4, 4, 96, 46, 45, 184, 1, 7, 54, 5, 44, 42]
abbrev dktL_law_72 : List UInt8 := dkwL_law_72 ++ dktL_law_73
def dkwL_law_71 : List UInt8 := [54, 6, 44, 182, 0, 160, 21, 5, 159, 0, 5, 3, 172, 21, 5, 154, 0, 15, 45, 3, 47, 21, 6, 133]
abbrev dktL_law_71 : List UInt8 := dkwL_law_71 ++ dktL_law_72
def dkwL_law_70 : List UInt8 := [21, 6, 133, 148, 153, 0, 5, 3, 172, 167, 4, 71, 43, 45, 184, 1, 4, 54, 5, 44, 182, 1, 6]
abbrev dktL_law_70 : List UInt8 := dkwL_law_70 ++ dktL_law_71
def dkwL_law_69 : List UInt8 := [182, 1, 3, 54, 6, 44, 182, 0, 160, 21, 5, 159, 0, 5, 3, 172, 21, 5, 154, 0, 15, 45, 3, 47]
abbrev dktL_law_69 : List UInt8 := dkwL_law_69 ++ dktL_law_70
def dkwL_law_68 : List UInt8 := [167, 4, 127, 43, 42, 21, 4, 4, 96, 46, 45, 184, 1, 1, 54, 5, 44, 42, 21, 4, 4, 96, 46]
abbrev dktL_law_68 : List UInt8 := dkwL_law_68 ++ dktL_law_69
def dkwL_law_67 : List UInt8 := [21, 5, 159, 0, 5, 3, 172, 21, 5, 154, 0, 15, 45, 3, 47, 21, 6, 133, 148, 153, 0, 5, 3, 172]
abbrev dktL_law_67 : List UInt8 := dkwL_law_67 ++ dktL_law_68
def dkwL_law_66 : List UInt8 := [96, 46, 45, 184, 0, 254, 54, 5, 44, 42, 21, 4, 4, 96, 46, 182, 1, 0, 54, 6, 44, 182, 0, 160]
abbrev dktL_law_66 : List UInt8 := dkwL_law_66 ++ dktL_law_67
def dkwL_law_65 : List UInt8 := [21, 6, 153, 0, 7, 10, 167, 0, 4, 9, 148, 153, 0, 5, 3, 172, 167, 4, 183, 43, 42, 21, 4, 4]
abbrev dktL_law_65 : List UInt8 := dkwL_law_65 ++ dktL_law_66
def dkwL_law_64 : List UInt8 := [182, 0, 253, 54, 6, 44, 182, 0, 160, 21, 5, 159, 0, 5, 3, 172, 21, 5, 154, 0, 22, 45, 3, 47]
abbrev dktL_law_64 : List UInt8 := dkwL_law_64 ++ dktL_law_65
def dkwL_law_63 : List UInt8 := [167, 4, 246, 43, 42, 21, 4, 4, 96, 46, 45, 184, 0, 251, 54, 5, 44, 42, 21, 4, 4, 96, 46]
abbrev dktL_law_63 : List UInt8 := dkwL_law_63 ++ dktL_law_64
def dkwL_law_62 : List UInt8 := [154, 0, 22, 45, 3, 47, 21, 6, 153, 0, 7, 10, 167, 0, 4, 9, 148, 153, 0, 5, 3, 172]
abbrev dktL_law_62 : List UInt8 := dkwL_law_62 ++ dktL_law_63
def dkwL_law_61 : List UInt8 := [21, 4, 4, 96, 46, 182, 0, 250, 54, 6, 44, 182, 0, 160, 21, 5, 159, 0, 5, 3, 172, 21, 5]
abbrev dktL_law_61 : List UInt8 := dkwL_law_61 ++ dktL_law_62
def dkwL_law_60 : List UInt8 := [148, 153, 0, 5, 3, 172, 167, 5, 53, 43, 42, 21, 4, 4, 96, 46, 45, 184, 0, 248, 54, 5, 44, 42]
abbrev dktL_law_60 : List UInt8 := dkwL_law_60 ++ dktL_law_61
def dkwL_law_59 : List UInt8 := [54, 6, 44, 182, 0, 160, 21, 5, 159, 0, 5, 3, 172, 21, 5, 154, 0, 15, 45, 3, 47, 21, 6, 133]
abbrev dktL_law_59 : List UInt8 := dkwL_law_59 ++ dktL_law_60
def dkwL_law_58 : List UInt8 := [21, 6, 133, 148, 153, 0, 5, 3, 172, 167, 5, 97, 43, 45, 184, 0, 244, 54, 5, 44, 182, 0, 247]
abbrev dktL_law_58 : List UInt8 := dkwL_law_58 ++ dktL_law_59
def dkwL_law_57 : List UInt8 := [182, 0, 243, 54, 6, 44, 182, 0, 160, 21, 5, 159, 0, 5, 3, 172, 21, 5, 154, 0, 15, 45, 3, 47]
abbrev dktL_law_57 : List UInt8 := dkwL_law_57 ++ dktL_law_58
def dkwL_law_56 : List UInt8 := [167, 5, 153, 43, 42, 21, 4, 4, 96, 46, 45, 184, 0, 241, 54, 5, 44, 42, 21, 4, 4, 96, 46]
abbrev dktL_law_56 : List UInt8 := dkwL_law_56 ++ dktL_law_57
def dkwL_law_55 : List UInt8 := [21, 5, 159, 0, 5, 3, 172, 21, 5, 154, 0, 15, 45, 3, 47, 21, 6, 133, 148, 153, 0, 5, 3, 172]
abbrev dktL_law_55 : List UInt8 := dkwL_law_55 ++ dktL_law_56
def dkwL_law_54 : List UInt8 := [96, 46, 45, 184, 0, 238, 54, 5, 44, 42, 21, 4, 4, 96, 46, 182, 0, 240, 54, 6, 44, 182, 0, 160]
abbrev dktL_law_54 : List UInt8 := dkwL_law_54 ++ dktL_law_55
def dkwL_law_53 : List UInt8 := [21, 6, 153, 0, 7, 10, 167, 0, 4, 9, 148, 153, 0, 5, 3, 172, 167, 5, 209, 43, 42, 21, 4, 4]
abbrev dktL_law_53 : List UInt8 := dkwL_law_53 ++ dktL_law_54
def dkwL_law_52 : List UInt8 := [182, 0, 237, 54, 6, 44, 182, 0, 160, 21, 5, 159, 0, 5, 3, 172, 21, 5, 154, 0, 22, 45, 3, 47]
abbrev dktL_law_52 : List UInt8 := dkwL_law_52 ++ dktL_law_53
def dkwL_law_51 : List UInt8 := [167, 6, 16, 43, 42, 21, 4, 4, 96, 46, 45, 184, 0, 235, 54, 5, 44, 42, 21, 4, 4, 96, 46]
abbrev dktL_law_51 : List UInt8 := dkwL_law_51 ++ dktL_law_52
def dkwL_law_50 : List UInt8 := [159, 0, 5, 3, 172, 21, 5, 154, 0, 15, 45, 3, 47, 21, 6, 133, 148, 153, 0, 5, 3, 172]
abbrev dktL_law_50 : List UInt8 := dkwL_law_50 ++ dktL_law_51
def dkwL_law_49 : List UInt8 := [184, 0, 232, 54, 5, 44, 42, 21, 4, 4, 96, 46, 182, 0, 234, 54, 6, 44, 182, 0, 160, 21, 5]
abbrev dktL_law_49 : List UInt8 := dkwL_law_49 ++ dktL_law_50
def dkwL_law_48 : List UInt8 := [167, 6, 85, 43, 182, 0, 228, 44, 182, 0, 231, 159, 6, 74, 3, 172, 43, 42, 21, 4, 4, 96, 46, 45]
abbrev dktL_law_48 : List UInt8 := dkwL_law_48 ++ dktL_law_49
def dkwL_law_47 : List UInt8 := [21, 5, 159, 0, 5, 3, 172, 21, 5, 154, 0, 15, 45, 3, 47, 21, 6, 133, 148, 153, 0, 5, 3, 172]
abbrev dktL_law_47 : List UInt8 := dkwL_law_47 ++ dktL_law_48
def dkwL_law_46 : List UInt8 := [46, 45, 184, 0, 225, 54, 5, 44, 42, 21, 4, 4, 96, 46, 182, 0, 227, 54, 6, 44, 182, 0, 160]
abbrev dktL_law_46 : List UInt8 := dkwL_law_46 ++ dktL_law_47
def dkwL_law_45 : List UInt8 := [154, 0, 15, 45, 3, 47, 21, 6, 133, 148, 153, 0, 5, 3, 172, 167, 6, 141, 43, 42, 21, 4, 4, 96]
abbrev dktL_law_45 : List UInt8 := dkwL_law_45 ++ dktL_law_46
def dkwL_law_44 : List UInt8 := [42, 21, 4, 4, 96, 46, 182, 0, 224, 54, 6, 44, 182, 0, 160, 21, 5, 159, 0, 5, 3, 172, 21, 5]
abbrev dktL_law_44 : List UInt8 := dkwL_law_44 ++ dktL_law_45
def dkwL_law_43 : List UInt8 := [9, 148, 153, 0, 5, 3, 172, 167, 6, 197, 43, 42, 21, 4, 4, 96, 46, 45, 184, 0, 222, 54, 5, 44]
abbrev dktL_law_43 : List UInt8 := dkwL_law_43 ++ dktL_law_44
def dkwL_law_42 : List UInt8 := [21, 5, 159, 0, 5, 3, 172, 21, 5, 154, 0, 22, 45, 3, 47, 21, 6, 153, 0, 7, 10, 167, 0, 4]
abbrev dktL_law_42 : List UInt8 := dkwL_law_42 ++ dktL_law_43
def dkwL_law_41 : List UInt8 := [96, 46, 45, 184, 0, 219, 54, 5, 44, 42, 21, 4, 4, 96, 46, 182, 0, 221, 54, 6, 44, 182, 0, 160]
abbrev dktL_law_41 : List UInt8 := dkwL_law_41 ++ dktL_law_42
def dkwL_law_40 : List UInt8 := [21, 6, 153, 0, 7, 10, 167, 0, 4, 9, 148, 153, 0, 5, 3, 172, 167, 7, 4, 43, 42, 21, 4, 4]
abbrev dktL_law_40 : List UInt8 := dkwL_law_40 ++ dktL_law_41
def dkwL_law_39 : List UInt8 := [182, 0, 218, 54, 6, 44, 182, 0, 160, 21, 5, 159, 0, 5, 3, 172, 21, 5, 154, 0, 22, 45, 3, 47]
abbrev dktL_law_39 : List UInt8 := dkwL_law_39 ++ dktL_law_40
def dkwL_law_38 : List UInt8 := [167, 7, 67, 43, 42, 21, 4, 4, 96, 46, 45, 184, 0, 216, 54, 5, 44, 42, 21, 4, 4, 96, 46]
abbrev dktL_law_38 : List UInt8 := dkwL_law_38 ++ dktL_law_39
def dkwL_law_37 : List UInt8 := [154, 0, 22, 45, 3, 47, 21, 6, 153, 0, 7, 10, 167, 0, 4, 9, 148, 153, 0, 5, 3, 172]
abbrev dktL_law_37 : List UInt8 := dkwL_law_37 ++ dktL_law_38
def dkwL_law_36 : List UInt8 := [42, 21, 4, 4, 96, 46, 182, 0, 215, 54, 6, 44, 182, 0, 160, 21, 5, 159, 0, 5, 3, 172, 21, 5]
abbrev dktL_law_36 : List UInt8 := dkwL_law_36 ++ dktL_law_37
def dkwL_law_35 : List UInt8 := [9, 148, 153, 0, 5, 3, 172, 167, 7, 130, 43, 42, 21, 4, 4, 96, 46, 45, 184, 0, 213, 54, 5, 44]
abbrev dktL_law_35 : List UInt8 := dkwL_law_35 ++ dktL_law_36
def dkwL_law_34 : List UInt8 := [21, 5, 159, 0, 5, 3, 172, 21, 5, 154, 0, 22, 45, 3, 47, 21, 6, 153, 0, 7, 10, 167, 0, 4]
abbrev dktL_law_34 : List UInt8 := dkwL_law_34 ++ dktL_law_35
def dkwL_law_33 : List UInt8 := [46, 45, 184, 0, 210, 54, 5, 44, 42, 21, 4, 4, 96, 46, 182, 0, 212, 54, 6, 44, 182, 0, 160]
abbrev dktL_law_33 : List UInt8 := dkwL_law_33 ++ dktL_law_34
def dkwL_law_32 : List UInt8 := [154, 0, 15, 45, 3, 47, 21, 6, 133, 148, 153, 0, 5, 3, 172, 167, 7, 193, 43, 42, 21, 4, 4, 96]
abbrev dktL_law_32 : List UInt8 := dkwL_law_32 ++ dktL_law_33
def dkwL_law_31 : List UInt8 := [21, 4, 4, 96, 46, 182, 0, 209, 54, 6, 44, 182, 0, 160, 21, 5, 159, 0, 5, 3, 172, 21, 5]
abbrev dktL_law_31 : List UInt8 := dkwL_law_31 ++ dktL_law_32
def dkwL_law_30 : List UInt8 := [148, 153, 0, 5, 3, 172, 167, 7, 249, 43, 42, 21, 4, 4, 96, 46, 45, 184, 0, 207, 54, 5, 44, 42]
abbrev dktL_law_30 : List UInt8 := dkwL_law_30 ++ dktL_law_31
def dkwL_law_29 : List UInt8 := [54, 6, 44, 182, 0, 160, 21, 5, 159, 0, 5, 3, 172, 21, 5, 154, 0, 15, 45, 3, 47, 21, 6, 133]
abbrev dktL_law_29 : List UInt8 := dkwL_law_29 ++ dktL_law_30
def dkwL_law_28 : List UInt8 := [172, 43, 42, 21, 4, 4, 96, 46, 45, 184, 0, 204, 54, 5, 44, 42, 21, 4, 4, 96, 46, 182, 0, 206]
abbrev dktL_law_28 : List UInt8 := dkwL_law_28 ++ dktL_law_29
def dkwL_law_27 : List UInt8 := [182, 0, 196, 44, 182, 0, 199, 159, 8, 64, 3, 172, 43, 182, 0, 200, 44, 182, 0, 203, 159, 8, 51, 3]
abbrev dktL_law_27 : List UInt8 := dkwL_law_27 ++ dktL_law_28
def dkwL_law_26 : List UInt8 := [182, 0, 191, 159, 8, 90, 3, 172, 43, 182, 0, 192, 44, 182, 0, 195, 159, 8, 77, 3, 172, 43]
abbrev dktL_law_26 : List UInt8 := dkwL_law_26 ++ dktL_law_27
def dkwL_law_25 : List UInt8 := [154, 0, 15, 45, 3, 47, 21, 6, 133, 148, 153, 0, 5, 3, 172, 167, 8, 101, 43, 182, 0, 188, 44]
abbrev dktL_law_25 : List UInt8 := dkwL_law_25 ++ dktL_law_26
def dkwL_law_24 : List UInt8 := [21, 4, 4, 96, 46, 182, 0, 187, 54, 6, 44, 182, 0, 160, 21, 5, 159, 0, 5, 3, 172, 21, 5]
abbrev dktL_law_24 : List UInt8 := dkwL_law_24 ++ dktL_law_25
def dkwL_law_23 : List UInt8 := [153, 0, 5, 3, 172, 167, 8, 157, 43, 42, 21, 4, 4, 96, 46, 45, 184, 0, 185, 54, 5, 44, 42]
abbrev dktL_law_23 : List UInt8 := dkwL_law_23 ++ dktL_law_24
def dkwL_law_22 : List UInt8 := [182, 0, 160, 21, 5, 159, 0, 5, 3, 172, 21, 5, 154, 0, 15, 45, 3, 47, 21, 6, 133, 148]
abbrev dktL_law_22 : List UInt8 := dkwL_law_22 ++ dktL_law_23
def dkwL_law_21 : List UInt8 := [21, 4, 4, 96, 46, 45, 184, 0, 182, 54, 5, 44, 42, 21, 4, 4, 96, 46, 182, 0, 184, 54, 6, 44]
abbrev dktL_law_21 : List UInt8 := dkwL_law_21 ++ dktL_law_22
def dkwL_law_20 : List UInt8 := [172, 21, 5, 154, 0, 15, 45, 3, 47, 21, 6, 133, 148, 153, 0, 5, 3, 172, 167, 8, 213, 43, 42]
abbrev dktL_law_20 : List UInt8 := dkwL_law_20 ++ dktL_law_21
def dkwL_law_19 : List UInt8 := [54, 5, 44, 42, 21, 4, 4, 96, 46, 182, 0, 181, 54, 6, 44, 182, 0, 160, 21, 5, 159, 0, 5, 3]
abbrev dktL_law_19 : List UInt8 := dkwL_law_19 ++ dktL_law_20
def dkwL_law_18 : List UInt8 := [21, 6, 133, 148, 153, 0, 5, 3, 172, 167, 9, 13, 43, 42, 21, 4, 4, 96, 46, 45, 184, 0, 179]
abbrev dktL_law_18 : List UInt8 := dkwL_law_18 ++ dktL_law_19
def dkwL_law_17 : List UInt8 := [182, 0, 178, 54, 6, 44, 182, 0, 160, 21, 5, 159, 0, 5, 3, 172, 21, 5, 154, 0, 15, 45, 3, 47]
abbrev dktL_law_17 : List UInt8 := dkwL_law_17 ++ dktL_law_18
def dkwL_law_16 : List UInt8 := [167, 9, 69, 43, 42, 21, 4, 4, 96, 46, 45, 184, 0, 176, 54, 5, 44, 42, 21, 4, 4, 96, 46]
abbrev dktL_law_16 : List UInt8 := dkwL_law_16 ++ dktL_law_17
def dkwL_law_15 : List UInt8 := [159, 0, 5, 3, 172, 21, 5, 154, 0, 15, 45, 3, 47, 21, 6, 133, 148, 153, 0, 5, 3, 172]
abbrev dktL_law_15 : List UInt8 := dkwL_law_15 ++ dktL_law_16
def dkwL_law_14 : List UInt8 := [184, 0, 173, 54, 5, 44, 42, 21, 4, 4, 96, 46, 182, 0, 175, 54, 6, 44, 182, 0, 160, 21, 5]
abbrev dktL_law_14 : List UInt8 := dkwL_law_14 ++ dktL_law_15
def dkwL_law_13 : List UInt8 := [3, 47, 21, 6, 133, 148, 153, 0, 5, 3, 172, 167, 9, 125, 43, 42, 21, 4, 4, 96, 46, 45]
abbrev dktL_law_13 : List UInt8 := dkwL_law_13 ++ dktL_law_14
def dkwL_law_12 : List UInt8 := [96, 46, 182, 0, 172, 54, 6, 44, 182, 0, 160, 21, 5, 159, 0, 5, 3, 172, 21, 5, 154, 0, 15, 45]
abbrev dktL_law_12 : List UInt8 := dkwL_law_12 ++ dktL_law_13
def dkwL_law_11 : List UInt8 := [46, 42, 21, 4, 5, 96, 46, 45, 184, 0, 170, 54, 5, 44, 42, 21, 4, 4, 96, 46, 42, 21, 4, 5]
abbrev dktL_law_11 : List UInt8 := dkwL_law_11 ++ dktL_law_12
def dkwL_law_10 : List UInt8 := [154, 0, 15, 45, 3, 47, 21, 6, 133, 148, 153, 0, 5, 3, 172, 167, 9, 193, 43, 42, 21, 4, 4, 96]
abbrev dktL_law_10 : List UInt8 := dkwL_law_10 ++ dktL_law_11
def dkwL_law_9 : List UInt8 := [21, 4, 4, 96, 46, 182, 0, 169, 54, 6, 44, 182, 0, 160, 21, 5, 159, 0, 5, 3, 172, 21, 5]
abbrev dktL_law_9 : List UInt8 := dkwL_law_9 ++ dktL_law_10
def dkwL_law_8 : List UInt8 := [153, 0, 5, 3, 172, 167, 9, 249, 43, 42, 21, 4, 4, 96, 46, 45, 184, 0, 167, 54, 5, 44, 42]
abbrev dktL_law_8 : List UInt8 := dkwL_law_8 ++ dktL_law_9
def dkwL_law_7 : List UInt8 := [182, 0, 160, 21, 5, 159, 0, 5, 3, 172, 21, 5, 154, 0, 15, 45, 3, 47, 21, 6, 133, 148]
abbrev dktL_law_7 : List UInt8 := dkwL_law_7 ++ dktL_law_8
def dkwL_law_6 : List UInt8 := [4, 96, 46, 45, 184, 0, 163, 54, 5, 44, 42, 21, 4, 4, 96, 46, 182, 0, 166, 54, 6, 44]
abbrev dktL_law_6 : List UInt8 := dkwL_law_6 ++ dktL_law_7
def dkwL_law_5 : List UInt8 := [21, 5, 154, 0, 15, 45, 3, 47, 21, 6, 133, 148, 153, 0, 5, 3, 172, 167, 10, 49, 43, 42, 21, 4]
abbrev dktL_law_5 : List UInt8 := dkwL_law_5 ++ dktL_law_6
def dkwL_law_4 : List UInt8 := [96, 46, 42, 21, 4, 5, 96, 46, 182, 0, 159, 54, 6, 44, 182, 0, 160, 21, 5, 159, 0, 5, 3, 172]
abbrev dktL_law_4 : List UInt8 := dkwL_law_4 ++ dktL_law_5
def dkwL_law_3 : List UInt8 := [43, 42, 21, 4, 4, 96, 46, 42, 21, 4, 5, 96, 46, 45, 184, 0, 154, 54, 5, 44, 42, 21, 4, 4]
abbrev dktL_law_3 : List UInt8 := dkwL_law_3 ++ dktL_law_4
def dkwL_law_2 : List UInt8 := [170, 0, 0, 11, 119, 0, 0, 0, 0, 0, 0, 0, 61, 0, 0, 1, 5, 0, 0, 1, 73, 0, 0, 1, 129, 0, 0, 1, 185, 0, 0, 1, 253, 0, 0, 2, 53, 0, 0, 2, 109, 0, 0, 2, 165, 0, 0, 2, 221, 0, 0, 3, 21, 0, 0, 3, 34, 0, 0, 3, 47, 0, 0, 3, 60, 0, 0, 3, 73, 0, 0, 3, 129, 0, 0, 3, 185, 0, 0, 3, 248, 0, 0, 4, 55, 0, 0, 4, 118, 0, 0, 4, 181, 0, 0, 4, 237, 0, 0, 5, 37, 0, 0, 5, 50, 0, 0, 5, 106, 0, 0, 5, 169, 0, 0, 5, 225, 0, 0, 6, 25, 0, 0, 6, 69, 0, 0, 6, 132, 0, 0, 6, 195, 0, 0, 6, 251, 0, 0, 7, 51, 0, 0, 7, 95, 0, 0, 7, 158, 0, 0, 7, 221, 0, 0, 8, 21, 0, 0, 8, 77, 0, 0, 8, 133, 0, 0, 8, 189, 0, 0, 8, 233, 0, 0, 9, 21, 0, 0, 9, 65, 0, 0, 9, 78, 0, 0, 9, 134, 0, 0, 9, 190, 0, 0, 9, 203, 0, 0, 9, 216, 0, 0, 10, 16, 0, 0, 10, 29, 0, 0, 10, 42, 0, 0, 10, 55, 0, 0, 10, 68, 0, 0, 10, 109, 0, 0, 10, 165, 0, 0, 10, 178, 0, 0, 10, 191, 0, 0, 10, 204, 0, 0, 10, 217, 0, 0, 11, 5, 0, 0, 11, 49, 0, 0, 11, 62, 0, 0, 11, 75]
abbrev dktL_law_2 : List UInt8 := dkwL_law_2 ++ dktL_law_3
def dkwL_law_1 : List UInt8 := [21, 4, 42, 190, 6, 100, 163, 11, 135, 42, 21, 4, 46, 16, 63, 126]
abbrev dktL_law_1 : List UInt8 := dkwL_law_1 ++ dktL_law_2
def dkwL_law_0 : List UInt8 := [187, 0, 8, 89, 183, 0, 150, 76, 187, 0, 151, 89, 183, 0, 153, 77, 4, 188, 11, 78, 3, 54, 4]
abbrev dktL_law_0 : List UInt8 := dkwL_law_0 ++ dktL_law_1
theorem dksL_law_0 : cL_law.data.toList.drop 0 = dktL_law_0 := by decide +kernel
theorem dksL_law_1 : cL_law.data.toList.drop 23 = dktL_law_1 := dk_seg dksL_law_0 23 rfl rfl
theorem dksL_law_2 : cL_law.data.toList.drop 39 = dktL_law_2 := dk_seg dksL_law_1 16 rfl rfl
theorem dksL_law_3 : cL_law.data.toList.drop 300 = dktL_law_3 := dk_seg dksL_law_2 261 rfl rfl
theorem dksL_law_4 : cL_law.data.toList.drop 324 = dktL_law_4 := dk_seg dksL_law_3 24 rfl rfl
theorem dksL_law_5 : cL_law.data.toList.drop 348 = dktL_law_5 := dk_seg dksL_law_4 24 rfl rfl
theorem dksL_law_6 : cL_law.data.toList.drop 372 = dktL_law_6 := dk_seg dksL_law_5 24 rfl rfl
theorem dksL_law_7 : cL_law.data.toList.drop 394 = dktL_law_7 := dk_seg dksL_law_6 22 rfl rfl
theorem dksL_law_8 : cL_law.data.toList.drop 416 = dktL_law_8 := dk_seg dksL_law_7 22 rfl rfl
theorem dksL_law_9 : cL_law.data.toList.drop 439 = dktL_law_9 := dk_seg dksL_law_8 23 rfl rfl
theorem dksL_law_10 : cL_law.data.toList.drop 462 = dktL_law_10 := dk_seg dksL_law_9 23 rfl rfl
theorem dksL_law_11 : cL_law.data.toList.drop 486 = dktL_law_11 := dk_seg dksL_law_10 24 rfl rfl
theorem dksL_law_12 : cL_law.data.toList.drop 510 = dktL_law_12 := dk_seg dksL_law_11 24 rfl rfl
theorem dksL_law_13 : cL_law.data.toList.drop 534 = dktL_law_13 := dk_seg dksL_law_12 24 rfl rfl
theorem dksL_law_14 : cL_law.data.toList.drop 556 = dktL_law_14 := dk_seg dksL_law_13 22 rfl rfl
theorem dksL_law_15 : cL_law.data.toList.drop 579 = dktL_law_15 := dk_seg dksL_law_14 23 rfl rfl
theorem dksL_law_16 : cL_law.data.toList.drop 601 = dktL_law_16 := dk_seg dksL_law_15 22 rfl rfl
theorem dksL_law_17 : cL_law.data.toList.drop 624 = dktL_law_17 := dk_seg dksL_law_16 23 rfl rfl
theorem dksL_law_18 : cL_law.data.toList.drop 648 = dktL_law_18 := dk_seg dksL_law_17 24 rfl rfl
theorem dksL_law_19 : cL_law.data.toList.drop 671 = dktL_law_19 := dk_seg dksL_law_18 23 rfl rfl
theorem dksL_law_20 : cL_law.data.toList.drop 695 = dktL_law_20 := dk_seg dksL_law_19 24 rfl rfl
theorem dksL_law_21 : cL_law.data.toList.drop 718 = dktL_law_21 := dk_seg dksL_law_20 23 rfl rfl
theorem dksL_law_22 : cL_law.data.toList.drop 742 = dktL_law_22 := dk_seg dksL_law_21 24 rfl rfl
theorem dksL_law_23 : cL_law.data.toList.drop 764 = dktL_law_23 := dk_seg dksL_law_22 22 rfl rfl
theorem dksL_law_24 : cL_law.data.toList.drop 787 = dktL_law_24 := dk_seg dksL_law_23 23 rfl rfl
theorem dksL_law_25 : cL_law.data.toList.drop 810 = dktL_law_25 := dk_seg dksL_law_24 23 rfl rfl
theorem dksL_law_26 : cL_law.data.toList.drop 833 = dktL_law_26 := dk_seg dksL_law_25 23 rfl rfl
theorem dksL_law_27 : cL_law.data.toList.drop 855 = dktL_law_27 := dk_seg dksL_law_26 22 rfl rfl
theorem dksL_law_28 : cL_law.data.toList.drop 879 = dktL_law_28 := dk_seg dksL_law_27 24 rfl rfl
theorem dksL_law_29 : cL_law.data.toList.drop 903 = dktL_law_29 := dk_seg dksL_law_28 24 rfl rfl
theorem dksL_law_30 : cL_law.data.toList.drop 927 = dktL_law_30 := dk_seg dksL_law_29 24 rfl rfl
theorem dksL_law_31 : cL_law.data.toList.drop 951 = dktL_law_31 := dk_seg dksL_law_30 24 rfl rfl
theorem dksL_law_32 : cL_law.data.toList.drop 974 = dktL_law_32 := dk_seg dksL_law_31 23 rfl rfl
theorem dksL_law_33 : cL_law.data.toList.drop 998 = dktL_law_33 := dk_seg dksL_law_32 24 rfl rfl
theorem dksL_law_34 : cL_law.data.toList.drop 1021 = dktL_law_34 := dk_seg dksL_law_33 23 rfl rfl
theorem dksL_law_35 : cL_law.data.toList.drop 1045 = dktL_law_35 := dk_seg dksL_law_34 24 rfl rfl
theorem dksL_law_36 : cL_law.data.toList.drop 1069 = dktL_law_36 := dk_seg dksL_law_35 24 rfl rfl
theorem dksL_law_37 : cL_law.data.toList.drop 1093 = dktL_law_37 := dk_seg dksL_law_36 24 rfl rfl
theorem dksL_law_38 : cL_law.data.toList.drop 1115 = dktL_law_38 := dk_seg dksL_law_37 22 rfl rfl
theorem dksL_law_39 : cL_law.data.toList.drop 1138 = dktL_law_39 := dk_seg dksL_law_38 23 rfl rfl
theorem dksL_law_40 : cL_law.data.toList.drop 1162 = dktL_law_40 := dk_seg dksL_law_39 24 rfl rfl
theorem dksL_law_41 : cL_law.data.toList.drop 1186 = dktL_law_41 := dk_seg dksL_law_40 24 rfl rfl
theorem dksL_law_42 : cL_law.data.toList.drop 1210 = dktL_law_42 := dk_seg dksL_law_41 24 rfl rfl
theorem dksL_law_43 : cL_law.data.toList.drop 1234 = dktL_law_43 := dk_seg dksL_law_42 24 rfl rfl
theorem dksL_law_44 : cL_law.data.toList.drop 1258 = dktL_law_44 := dk_seg dksL_law_43 24 rfl rfl
theorem dksL_law_45 : cL_law.data.toList.drop 1282 = dktL_law_45 := dk_seg dksL_law_44 24 rfl rfl
theorem dksL_law_46 : cL_law.data.toList.drop 1306 = dktL_law_46 := dk_seg dksL_law_45 24 rfl rfl
theorem dksL_law_47 : cL_law.data.toList.drop 1329 = dktL_law_47 := dk_seg dksL_law_46 23 rfl rfl
theorem dksL_law_48 : cL_law.data.toList.drop 1353 = dktL_law_48 := dk_seg dksL_law_47 24 rfl rfl
theorem dksL_law_49 : cL_law.data.toList.drop 1377 = dktL_law_49 := dk_seg dksL_law_48 24 rfl rfl
theorem dksL_law_50 : cL_law.data.toList.drop 1400 = dktL_law_50 := dk_seg dksL_law_49 23 rfl rfl
theorem dksL_law_51 : cL_law.data.toList.drop 1422 = dktL_law_51 := dk_seg dksL_law_50 22 rfl rfl
theorem dksL_law_52 : cL_law.data.toList.drop 1445 = dktL_law_52 := dk_seg dksL_law_51 23 rfl rfl
theorem dksL_law_53 : cL_law.data.toList.drop 1469 = dktL_law_53 := dk_seg dksL_law_52 24 rfl rfl
theorem dksL_law_54 : cL_law.data.toList.drop 1493 = dktL_law_54 := dk_seg dksL_law_53 24 rfl rfl
theorem dksL_law_55 : cL_law.data.toList.drop 1517 = dktL_law_55 := dk_seg dksL_law_54 24 rfl rfl
theorem dksL_law_56 : cL_law.data.toList.drop 1541 = dktL_law_56 := dk_seg dksL_law_55 24 rfl rfl
theorem dksL_law_57 : cL_law.data.toList.drop 1564 = dktL_law_57 := dk_seg dksL_law_56 23 rfl rfl
theorem dksL_law_58 : cL_law.data.toList.drop 1588 = dktL_law_58 := dk_seg dksL_law_57 24 rfl rfl
theorem dksL_law_59 : cL_law.data.toList.drop 1611 = dktL_law_59 := dk_seg dksL_law_58 23 rfl rfl
theorem dksL_law_60 : cL_law.data.toList.drop 1635 = dktL_law_60 := dk_seg dksL_law_59 24 rfl rfl
theorem dksL_law_61 : cL_law.data.toList.drop 1659 = dktL_law_61 := dk_seg dksL_law_60 24 rfl rfl
theorem dksL_law_62 : cL_law.data.toList.drop 1682 = dktL_law_62 := dk_seg dksL_law_61 23 rfl rfl
theorem dksL_law_63 : cL_law.data.toList.drop 1704 = dktL_law_63 := dk_seg dksL_law_62 22 rfl rfl
theorem dksL_law_64 : cL_law.data.toList.drop 1727 = dktL_law_64 := dk_seg dksL_law_63 23 rfl rfl
theorem dksL_law_65 : cL_law.data.toList.drop 1751 = dktL_law_65 := dk_seg dksL_law_64 24 rfl rfl
theorem dksL_law_66 : cL_law.data.toList.drop 1775 = dktL_law_66 := dk_seg dksL_law_65 24 rfl rfl
theorem dksL_law_67 : cL_law.data.toList.drop 1799 = dktL_law_67 := dk_seg dksL_law_66 24 rfl rfl
theorem dksL_law_68 : cL_law.data.toList.drop 1823 = dktL_law_68 := dk_seg dksL_law_67 24 rfl rfl
theorem dksL_law_69 : cL_law.data.toList.drop 1846 = dktL_law_69 := dk_seg dksL_law_68 23 rfl rfl
theorem dksL_law_70 : cL_law.data.toList.drop 1870 = dktL_law_70 := dk_seg dksL_law_69 24 rfl rfl
theorem dksL_law_71 : cL_law.data.toList.drop 1893 = dktL_law_71 := dk_seg dksL_law_70 23 rfl rfl
theorem dksL_law_72 : cL_law.data.toList.drop 1917 = dktL_law_72 := dk_seg dksL_law_71 24 rfl rfl
theorem dksL_law_73 : cL_law.data.toList.drop 1941 = dktL_law_73 := dk_seg dksL_law_72 24 rfl rfl
theorem dksL_law_74 : cL_law.data.toList.drop 1964 = dktL_law_74 := dk_seg dksL_law_73 23 rfl rfl
theorem dksL_law_75 : cL_law.data.toList.drop 1986 = dktL_law_75 := dk_seg dksL_law_74 22 rfl rfl
theorem dksL_law_76 : cL_law.data.toList.drop 2009 = dktL_law_76 := dk_seg dksL_law_75 23 rfl rfl
theorem dksL_law_77 : cL_law.data.toList.drop 2033 = dktL_law_77 := dk_seg dksL_law_76 24 rfl rfl
theorem dksL_law_78 : cL_law.data.toList.drop 2057 = dktL_law_78 := dk_seg dksL_law_77 24 rfl rfl
theorem dksL_law_79 : cL_law.data.toList.drop 2081 = dktL_law_79 := dk_seg dksL_law_78 24 rfl rfl
theorem dksL_law_80 : cL_law.data.toList.drop 2105 = dktL_law_80 := dk_seg dksL_law_79 24 rfl rfl
theorem dksL_law_81 : cL_law.data.toList.drop 2128 = dktL_law_81 := dk_seg dksL_law_80 23 rfl rfl
theorem dksL_law_82 : cL_law.data.toList.drop 2152 = dktL_law_82 := dk_seg dksL_law_81 24 rfl rfl
theorem dksL_law_83 : cL_law.data.toList.drop 2175 = dktL_law_83 := dk_seg dksL_law_82 23 rfl rfl
theorem dksL_law_84 : cL_law.data.toList.drop 2199 = dktL_law_84 := dk_seg dksL_law_83 24 rfl rfl
theorem dksL_law_85 : cL_law.data.toList.drop 2222 = dktL_law_85 := dk_seg dksL_law_84 23 rfl rfl
theorem dksL_law_86 : cL_law.data.toList.drop 2246 = dktL_law_86 := dk_seg dksL_law_85 24 rfl rfl
theorem dksL_law_87 : cL_law.data.toList.drop 2268 = dktL_law_87 := dk_seg dksL_law_86 22 rfl rfl
theorem dksL_law_88 : cL_law.data.toList.drop 2290 = dktL_law_88 := dk_seg dksL_law_87 22 rfl rfl
theorem dksL_law_89 : cL_law.data.toList.drop 2312 = dktL_law_89 := dk_seg dksL_law_88 22 rfl rfl
theorem dksL_law_90 : cL_law.data.toList.drop 2334 = dktL_law_90 := dk_seg dksL_law_89 22 rfl rfl
theorem dksL_law_91 : cL_law.data.toList.drop 2356 = dktL_law_91 := dk_seg dksL_law_90 22 rfl rfl
theorem dksL_law_92 : cL_law.data.toList.drop 2378 = dktL_law_92 := dk_seg dksL_law_91 22 rfl rfl
theorem dksL_law_93 : cL_law.data.toList.drop 2400 = dktL_law_93 := dk_seg dksL_law_92 22 rfl rfl
theorem dksL_law_94 : cL_law.data.toList.drop 2423 = dktL_law_94 := dk_seg dksL_law_93 23 rfl rfl
theorem dksL_law_95 : cL_law.data.toList.drop 2447 = dktL_law_95 := dk_seg dksL_law_94 24 rfl rfl
theorem dksL_law_96 : cL_law.data.toList.drop 2469 = dktL_law_96 := dk_seg dksL_law_95 22 rfl rfl
theorem dksL_law_97 : cL_law.data.toList.drop 2492 = dktL_law_97 := dk_seg dksL_law_96 23 rfl rfl
theorem dksL_law_98 : cL_law.data.toList.drop 2515 = dktL_law_98 := dk_seg dksL_law_97 23 rfl rfl
theorem dksL_law_99 : cL_law.data.toList.drop 2538 = dktL_law_99 := dk_seg dksL_law_98 23 rfl rfl
theorem dksL_law_100 : cL_law.data.toList.drop 2561 = dktL_law_100 := dk_seg dksL_law_99 23 rfl rfl
theorem dksL_law_101 : cL_law.data.toList.drop 2585 = dktL_law_101 := dk_seg dksL_law_100 24 rfl rfl
theorem dksL_law_102 : cL_law.data.toList.drop 2607 = dktL_law_102 := dk_seg dksL_law_101 22 rfl rfl
theorem dksL_law_103 : cL_law.data.toList.drop 2629 = dktL_law_103 := dk_seg dksL_law_102 22 rfl rfl
theorem dksL_law_104 : cL_law.data.toList.drop 2653 = dktL_law_104 := dk_seg dksL_law_103 24 rfl rfl
theorem dksL_law_105 : cL_law.data.toList.drop 2677 = dktL_law_105 := dk_seg dksL_law_104 24 rfl rfl
theorem dksL_law_106 : cL_law.data.toList.drop 2700 = dktL_law_106 := dk_seg dksL_law_105 23 rfl rfl
theorem dksL_law_107 : cL_law.data.toList.drop 2723 = dktL_law_107 := dk_seg dksL_law_106 23 rfl rfl
theorem dksL_law_108 : cL_law.data.toList.drop 2746 = dktL_law_108 := dk_seg dksL_law_107 23 rfl rfl
theorem dksL_law_109 : cL_law.data.toList.drop 2769 = dktL_law_109 := dk_seg dksL_law_108 23 rfl rfl
theorem dksL_law_110 : cL_law.data.toList.drop 2791 = dktL_law_110 := dk_seg dksL_law_109 22 rfl rfl
theorem dksL_law_111 : cL_law.data.toList.drop 2815 = dktL_law_111 := dk_seg dksL_law_110 24 rfl rfl
theorem dksL_law_112 : cL_law.data.toList.drop 2839 = dktL_law_112 := dk_seg dksL_law_111 24 rfl rfl
theorem dksL_law_113 : cL_law.data.toList.drop 2862 = dktL_law_113 := dk_seg dksL_law_112 23 rfl rfl
theorem dksL_law_114 : cL_law.data.toList.drop 2886 = dktL_law_114 := dk_seg dksL_law_113 24 rfl rfl
theorem dksL_law_115 : cL_law.data.toList.drop 2909 = dktL_law_115 := dk_seg dksL_law_114 23 rfl rfl
theorem dksL_law_116 : cL_law.data.toList.drop 2932 = dktL_law_116 := dk_seg dksL_law_115 23 rfl rfl
theorem dksL_law_117 : cL_law.data.toList.drop 2956 = dktL_law_117 := dk_seg dksL_law_116 24 rfl rfl
theorem dksL_law_118 : cL_law.data.toList.drop 2980 = dktL_law_118 := dk_seg dksL_law_117 24 rfl rfl
theorem dL_law_0 : decode cL_law 0 = .ok (.new 8, 3) := dk_187 0 8 (dk_at dksL_law_0 0 rfl rfl)
theorem dL_law_3 : decode cL_law 3 = .ok (.dup, 1) := dk_89 (dk_at dksL_law_0 3 rfl rfl)
theorem dL_law_4 : decode cL_law 4 = .ok (.invokespecial 150, 3) := dk_183 0 150 (dk_at dksL_law_0 4 rfl rfl)
theorem dL_law_7 : decode cL_law 7 = .ok (.astore_n 1, 1) := dk_76 (dk_at dksL_law_0 7 rfl rfl)
theorem dL_law_8 : decode cL_law 8 = .ok (.new 151, 3) := dk_187 0 151 (dk_at dksL_law_0 8 rfl rfl)
theorem dL_law_11 : decode cL_law 11 = .ok (.dup, 1) := dk_89 (dk_at dksL_law_0 11 rfl rfl)
theorem dL_law_12 : decode cL_law 12 = .ok (.invokespecial 153, 3) := dk_183 0 153 (dk_at dksL_law_0 12 rfl rfl)
theorem dL_law_15 : decode cL_law 15 = .ok (.astore_n 2, 1) := dk_77 (dk_at dksL_law_0 15 rfl rfl)
theorem dL_law_16 : decode cL_law 16 = .ok (.iconst 1, 1) := dk_4 (dk_at dksL_law_0 16 rfl rfl)
theorem dL_law_17 : decode cL_law 17 = .ok (.newarray .long, 2) := dk_188_11 (dk_at dksL_law_0 17 rfl rfl)
theorem dL_law_19 : decode cL_law 19 = .ok (.astore_n 3, 1) := dk_78 (dk_at dksL_law_0 19 rfl rfl)
theorem dL_law_20 : decode cL_law 20 = .ok (.iconst 0, 1) := dk_3 (dk_at dksL_law_0 20 rfl rfl)
theorem dL_law_21 : decode cL_law 21 = .ok (.istore 4, 2) := dk_54 4 (dk_at dksL_law_0 21 rfl rfl)
theorem dL_law_23 : decode cL_law 23 = .ok (.iload 4, 2) := dk_21 4 (dk_at dksL_law_1 0 rfl rfl)
theorem dL_law_25 : decode cL_law 25 = .ok (.aload_n 0, 1) := dk_42 (dk_at dksL_law_1 2 rfl rfl)
theorem dL_law_26 : decode cL_law 26 = .ok (.arraylength, 1) := dk_190 (dk_at dksL_law_1 3 rfl rfl)
theorem dL_law_27 : decode cL_law 27 = .ok (.iconst 3, 1) := dk_6 (dk_at dksL_law_1 4 rfl rfl)
theorem dL_law_28 : decode cL_law 28 = .ok (.isub, 1) := dk_100 (dk_at dksL_law_1 5 rfl rfl)
theorem dL_law_29 : decode cL_law 29 = .ok (.if_icmp .gt 2951, 3) := dk_163 11 135 (dk_at dksL_law_1 6 rfl rfl)
theorem dL_law_32 : decode cL_law 32 = .ok (.aload_n 0, 1) := dk_42 (dk_at dksL_law_1 9 rfl rfl)
theorem dL_law_33 : decode cL_law 33 = .ok (.iload 4, 2) := dk_21 4 (dk_at dksL_law_1 10 rfl rfl)
theorem dL_law_35 : decode cL_law 35 = .ok (.iaload, 1) := dk_46 (dk_at dksL_law_1 12 rfl rfl)
theorem dL_law_36 : decode cL_law 36 = .ok (.bipush 63, 2) := dk_16 63 (dk_at dksL_law_1 13 rfl rfl)
theorem dL_law_38 : decode cL_law 38 = .ok (.iand, 1) := dk_126 (dk_at dksL_law_1 15 rfl rfl)
theorem dL_law_39 : decode cL_law 39 = .ok (.tableswitch 2935 0 61 #[261, 329, 385, 441, 509, 565, 621, 677, 733, 789, 802, 815, 828, 841, 897, 953, 1016, 1079, 1142, 1205, 1261, 1317, 1330, 1386, 1449, 1505, 1561, 1605, 1668, 1731, 1787, 1843, 1887, 1950, 2013, 2069, 2125, 2181, 2237, 2281, 2325, 2369, 2382, 2438, 2494, 2507, 2520, 2576, 2589, 2602, 2615, 2628, 2669, 2725, 2738, 2751, 2764, 2777, 2821, 2865, 2878, 2891], 261) := by decide +kernel
theorem dL_law_300 : decode cL_law 300 = .ok (.aload_n 1, 1) := dk_43 (dk_at dksL_law_3 0 rfl rfl)
theorem dL_law_301 : decode cL_law 301 = .ok (.aload_n 0, 1) := dk_42 (dk_at dksL_law_3 1 rfl rfl)
theorem dL_law_302 : decode cL_law 302 = .ok (.iload 4, 2) := dk_21 4 (dk_at dksL_law_3 2 rfl rfl)
theorem dL_law_304 : decode cL_law 304 = .ok (.iconst 1, 1) := dk_4 (dk_at dksL_law_3 4 rfl rfl)
theorem dL_law_305 : decode cL_law 305 = .ok (.iadd, 1) := dk_96 (dk_at dksL_law_3 5 rfl rfl)
theorem dL_law_306 : decode cL_law 306 = .ok (.iaload, 1) := dk_46 (dk_at dksL_law_3 6 rfl rfl)
theorem dL_law_307 : decode cL_law 307 = .ok (.aload_n 0, 1) := dk_42 (dk_at dksL_law_3 7 rfl rfl)
theorem dL_law_308 : decode cL_law 308 = .ok (.iload 4, 2) := dk_21 4 (dk_at dksL_law_3 8 rfl rfl)
theorem dL_law_310 : decode cL_law 310 = .ok (.iconst 2, 1) := dk_5 (dk_at dksL_law_3 10 rfl rfl)
theorem dL_law_311 : decode cL_law 311 = .ok (.iadd, 1) := dk_96 (dk_at dksL_law_3 11 rfl rfl)
theorem dL_law_312 : decode cL_law 312 = .ok (.iaload, 1) := dk_46 (dk_at dksL_law_3 12 rfl rfl)
theorem dL_law_313 : decode cL_law 313 = .ok (.aload_n 3, 1) := dk_45 (dk_at dksL_law_3 13 rfl rfl)
theorem dL_law_314 : decode cL_law 314 = .ok (.invokestatic 154, 3) := dk_184 0 154 (dk_at dksL_law_3 14 rfl rfl)
theorem dL_law_317 : decode cL_law 317 = .ok (.istore 5, 2) := dk_54 5 (dk_at dksL_law_3 17 rfl rfl)
theorem dL_law_319 : decode cL_law 319 = .ok (.aload_n 2, 1) := dk_44 (dk_at dksL_law_3 19 rfl rfl)
theorem dL_law_320 : decode cL_law 320 = .ok (.aload_n 0, 1) := dk_42 (dk_at dksL_law_3 20 rfl rfl)
theorem dL_law_321 : decode cL_law 321 = .ok (.iload 4, 2) := dk_21 4 (dk_at dksL_law_3 21 rfl rfl)
theorem dL_law_323 : decode cL_law 323 = .ok (.iconst 1, 1) := dk_4 (dk_at dksL_law_3 23 rfl rfl)
theorem dL_law_324 : decode cL_law 324 = .ok (.iadd, 1) := dk_96 (dk_at dksL_law_4 0 rfl rfl)
theorem dL_law_325 : decode cL_law 325 = .ok (.iaload, 1) := dk_46 (dk_at dksL_law_4 1 rfl rfl)
theorem dL_law_326 : decode cL_law 326 = .ok (.aload_n 0, 1) := dk_42 (dk_at dksL_law_4 2 rfl rfl)
theorem dL_law_327 : decode cL_law 327 = .ok (.iload 4, 2) := dk_21 4 (dk_at dksL_law_4 3 rfl rfl)
theorem dL_law_329 : decode cL_law 329 = .ok (.iconst 2, 1) := dk_5 (dk_at dksL_law_4 5 rfl rfl)
theorem dL_law_330 : decode cL_law 330 = .ok (.iadd, 1) := dk_96 (dk_at dksL_law_4 6 rfl rfl)
theorem dL_law_331 : decode cL_law 331 = .ok (.iaload, 1) := dk_46 (dk_at dksL_law_4 7 rfl rfl)
theorem dL_law_332 : decode cL_law 332 = .ok (.invokevirtual 159, 3) := dk_182 0 159 (dk_at dksL_law_4 8 rfl rfl)
theorem dL_law_335 : decode cL_law 335 = .ok (.istore 6, 2) := dk_54 6 (dk_at dksL_law_4 11 rfl rfl)
theorem dL_law_337 : decode cL_law 337 = .ok (.aload_n 2, 1) := dk_44 (dk_at dksL_law_4 13 rfl rfl)
theorem dL_law_338 : decode cL_law 338 = .ok (.invokevirtual 160, 3) := dk_182 0 160 (dk_at dksL_law_4 14 rfl rfl)
theorem dL_law_341 : decode cL_law 341 = .ok (.iload 5, 2) := dk_21 5 (dk_at dksL_law_4 17 rfl rfl)
theorem dL_law_343 : decode cL_law 343 = .ok (.if_icmp .eq 5, 3) := dk_159 0 5 (dk_at dksL_law_4 19 rfl rfl)
theorem dL_law_346 : decode cL_law 346 = .ok (.iconst 0, 1) := dk_3 (dk_at dksL_law_4 22 rfl rfl)
theorem dL_law_347 : decode cL_law 347 = .ok (.ireturn, 1) := dk_172 (dk_at dksL_law_4 23 rfl rfl)
theorem dL_law_348 : decode cL_law 348 = .ok (.iload 5, 2) := dk_21 5 (dk_at dksL_law_5 0 rfl rfl)
theorem dL_law_350 : decode cL_law 350 = .ok (.ifCond .ne 15, 3) := dk_154 0 15 (dk_at dksL_law_5 2 rfl rfl)
theorem dL_law_353 : decode cL_law 353 = .ok (.aload_n 3, 1) := dk_45 (dk_at dksL_law_5 5 rfl rfl)
theorem dL_law_354 : decode cL_law 354 = .ok (.iconst 0, 1) := dk_3 (dk_at dksL_law_5 6 rfl rfl)
theorem dL_law_355 : decode cL_law 355 = .ok (.laload, 1) := dk_47 (dk_at dksL_law_5 7 rfl rfl)
theorem dL_law_356 : decode cL_law 356 = .ok (.iload 6, 2) := dk_21 6 (dk_at dksL_law_5 8 rfl rfl)
theorem dL_law_358 : decode cL_law 358 = .ok (.i2l, 1) := dk_133 (dk_at dksL_law_5 10 rfl rfl)
theorem dL_law_359 : decode cL_law 359 = .ok (.lcmp, 1) := dk_148 (dk_at dksL_law_5 11 rfl rfl)
theorem dL_law_360 : decode cL_law 360 = .ok (.ifCond .eq 5, 3) := dk_153 0 5 (dk_at dksL_law_5 12 rfl rfl)
theorem dL_law_363 : decode cL_law 363 = .ok (.iconst 0, 1) := dk_3 (dk_at dksL_law_5 15 rfl rfl)
theorem dL_law_364 : decode cL_law 364 = .ok (.ireturn, 1) := dk_172 (dk_at dksL_law_5 16 rfl rfl)
theorem dL_law_365 : decode cL_law 365 = .ok (.goto 2609, 3) := dk_167 10 49 (dk_at dksL_law_5 17 rfl rfl)
theorem dL_law_368 : decode cL_law 368 = .ok (.aload_n 1, 1) := dk_43 (dk_at dksL_law_5 20 rfl rfl)
theorem dL_law_369 : decode cL_law 369 = .ok (.aload_n 0, 1) := dk_42 (dk_at dksL_law_5 21 rfl rfl)
theorem dL_law_370 : decode cL_law 370 = .ok (.iload 4, 2) := dk_21 4 (dk_at dksL_law_5 22 rfl rfl)
theorem dL_law_372 : decode cL_law 372 = .ok (.iconst 1, 1) := dk_4 (dk_at dksL_law_6 0 rfl rfl)
theorem dL_law_373 : decode cL_law 373 = .ok (.iadd, 1) := dk_96 (dk_at dksL_law_6 1 rfl rfl)
theorem dL_law_374 : decode cL_law 374 = .ok (.iaload, 1) := dk_46 (dk_at dksL_law_6 2 rfl rfl)
theorem dL_law_375 : decode cL_law 375 = .ok (.aload_n 3, 1) := dk_45 (dk_at dksL_law_6 3 rfl rfl)
theorem dL_law_376 : decode cL_law 376 = .ok (.invokestatic 163, 3) := dk_184 0 163 (dk_at dksL_law_6 4 rfl rfl)
theorem dL_law_379 : decode cL_law 379 = .ok (.istore 5, 2) := dk_54 5 (dk_at dksL_law_6 7 rfl rfl)
theorem dL_law_381 : decode cL_law 381 = .ok (.aload_n 2, 1) := dk_44 (dk_at dksL_law_6 9 rfl rfl)
theorem dL_law_382 : decode cL_law 382 = .ok (.aload_n 0, 1) := dk_42 (dk_at dksL_law_6 10 rfl rfl)
theorem dL_law_383 : decode cL_law 383 = .ok (.iload 4, 2) := dk_21 4 (dk_at dksL_law_6 11 rfl rfl)
theorem dL_law_385 : decode cL_law 385 = .ok (.iconst 1, 1) := dk_4 (dk_at dksL_law_6 13 rfl rfl)
theorem dL_law_386 : decode cL_law 386 = .ok (.iadd, 1) := dk_96 (dk_at dksL_law_6 14 rfl rfl)
theorem dL_law_387 : decode cL_law 387 = .ok (.iaload, 1) := dk_46 (dk_at dksL_law_6 15 rfl rfl)
theorem dL_law_388 : decode cL_law 388 = .ok (.invokevirtual 166, 3) := dk_182 0 166 (dk_at dksL_law_6 16 rfl rfl)
theorem dL_law_391 : decode cL_law 391 = .ok (.istore 6, 2) := dk_54 6 (dk_at dksL_law_6 19 rfl rfl)
theorem dL_law_393 : decode cL_law 393 = .ok (.aload_n 2, 1) := dk_44 (dk_at dksL_law_6 21 rfl rfl)
theorem dL_law_394 : decode cL_law 394 = .ok (.invokevirtual 160, 3) := dk_182 0 160 (dk_at dksL_law_7 0 rfl rfl)
theorem dL_law_397 : decode cL_law 397 = .ok (.iload 5, 2) := dk_21 5 (dk_at dksL_law_7 3 rfl rfl)
theorem dL_law_399 : decode cL_law 399 = .ok (.if_icmp .eq 5, 3) := dk_159 0 5 (dk_at dksL_law_7 5 rfl rfl)
theorem dL_law_402 : decode cL_law 402 = .ok (.iconst 0, 1) := dk_3 (dk_at dksL_law_7 8 rfl rfl)
theorem dL_law_403 : decode cL_law 403 = .ok (.ireturn, 1) := dk_172 (dk_at dksL_law_7 9 rfl rfl)
theorem dL_law_404 : decode cL_law 404 = .ok (.iload 5, 2) := dk_21 5 (dk_at dksL_law_7 10 rfl rfl)
theorem dL_law_406 : decode cL_law 406 = .ok (.ifCond .ne 15, 3) := dk_154 0 15 (dk_at dksL_law_7 12 rfl rfl)
theorem dL_law_409 : decode cL_law 409 = .ok (.aload_n 3, 1) := dk_45 (dk_at dksL_law_7 15 rfl rfl)
theorem dL_law_410 : decode cL_law 410 = .ok (.iconst 0, 1) := dk_3 (dk_at dksL_law_7 16 rfl rfl)
theorem dL_law_411 : decode cL_law 411 = .ok (.laload, 1) := dk_47 (dk_at dksL_law_7 17 rfl rfl)
theorem dL_law_412 : decode cL_law 412 = .ok (.iload 6, 2) := dk_21 6 (dk_at dksL_law_7 18 rfl rfl)
theorem dL_law_414 : decode cL_law 414 = .ok (.i2l, 1) := dk_133 (dk_at dksL_law_7 20 rfl rfl)
theorem dL_law_415 : decode cL_law 415 = .ok (.lcmp, 1) := dk_148 (dk_at dksL_law_7 21 rfl rfl)
theorem dL_law_416 : decode cL_law 416 = .ok (.ifCond .eq 5, 3) := dk_153 0 5 (dk_at dksL_law_8 0 rfl rfl)
theorem dL_law_419 : decode cL_law 419 = .ok (.iconst 0, 1) := dk_3 (dk_at dksL_law_8 3 rfl rfl)
theorem dL_law_420 : decode cL_law 420 = .ok (.ireturn, 1) := dk_172 (dk_at dksL_law_8 4 rfl rfl)
theorem dL_law_421 : decode cL_law 421 = .ok (.goto 2553, 3) := dk_167 9 249 (dk_at dksL_law_8 5 rfl rfl)
theorem dL_law_424 : decode cL_law 424 = .ok (.aload_n 1, 1) := dk_43 (dk_at dksL_law_8 8 rfl rfl)
theorem dL_law_425 : decode cL_law 425 = .ok (.aload_n 0, 1) := dk_42 (dk_at dksL_law_8 9 rfl rfl)
theorem dL_law_426 : decode cL_law 426 = .ok (.iload 4, 2) := dk_21 4 (dk_at dksL_law_8 10 rfl rfl)
theorem dL_law_428 : decode cL_law 428 = .ok (.iconst 1, 1) := dk_4 (dk_at dksL_law_8 12 rfl rfl)
theorem dL_law_429 : decode cL_law 429 = .ok (.iadd, 1) := dk_96 (dk_at dksL_law_8 13 rfl rfl)
theorem dL_law_430 : decode cL_law 430 = .ok (.iaload, 1) := dk_46 (dk_at dksL_law_8 14 rfl rfl)
theorem dL_law_431 : decode cL_law 431 = .ok (.aload_n 3, 1) := dk_45 (dk_at dksL_law_8 15 rfl rfl)
theorem dL_law_432 : decode cL_law 432 = .ok (.invokestatic 167, 3) := dk_184 0 167 (dk_at dksL_law_8 16 rfl rfl)
theorem dL_law_435 : decode cL_law 435 = .ok (.istore 5, 2) := dk_54 5 (dk_at dksL_law_8 19 rfl rfl)
theorem dL_law_437 : decode cL_law 437 = .ok (.aload_n 2, 1) := dk_44 (dk_at dksL_law_8 21 rfl rfl)
theorem dL_law_438 : decode cL_law 438 = .ok (.aload_n 0, 1) := dk_42 (dk_at dksL_law_8 22 rfl rfl)
theorem dL_law_439 : decode cL_law 439 = .ok (.iload 4, 2) := dk_21 4 (dk_at dksL_law_9 0 rfl rfl)
theorem dL_law_441 : decode cL_law 441 = .ok (.iconst 1, 1) := dk_4 (dk_at dksL_law_9 2 rfl rfl)
theorem dL_law_442 : decode cL_law 442 = .ok (.iadd, 1) := dk_96 (dk_at dksL_law_9 3 rfl rfl)
theorem dL_law_443 : decode cL_law 443 = .ok (.iaload, 1) := dk_46 (dk_at dksL_law_9 4 rfl rfl)
theorem dL_law_444 : decode cL_law 444 = .ok (.invokevirtual 169, 3) := dk_182 0 169 (dk_at dksL_law_9 5 rfl rfl)
theorem dL_law_447 : decode cL_law 447 = .ok (.istore 6, 2) := dk_54 6 (dk_at dksL_law_9 8 rfl rfl)
theorem dL_law_449 : decode cL_law 449 = .ok (.aload_n 2, 1) := dk_44 (dk_at dksL_law_9 10 rfl rfl)
theorem dL_law_450 : decode cL_law 450 = .ok (.invokevirtual 160, 3) := dk_182 0 160 (dk_at dksL_law_9 11 rfl rfl)
theorem dL_law_453 : decode cL_law 453 = .ok (.iload 5, 2) := dk_21 5 (dk_at dksL_law_9 14 rfl rfl)
theorem dL_law_455 : decode cL_law 455 = .ok (.if_icmp .eq 5, 3) := dk_159 0 5 (dk_at dksL_law_9 16 rfl rfl)
theorem dL_law_458 : decode cL_law 458 = .ok (.iconst 0, 1) := dk_3 (dk_at dksL_law_9 19 rfl rfl)
theorem dL_law_459 : decode cL_law 459 = .ok (.ireturn, 1) := dk_172 (dk_at dksL_law_9 20 rfl rfl)
theorem dL_law_460 : decode cL_law 460 = .ok (.iload 5, 2) := dk_21 5 (dk_at dksL_law_9 21 rfl rfl)
theorem dL_law_462 : decode cL_law 462 = .ok (.ifCond .ne 15, 3) := dk_154 0 15 (dk_at dksL_law_10 0 rfl rfl)
theorem dL_law_465 : decode cL_law 465 = .ok (.aload_n 3, 1) := dk_45 (dk_at dksL_law_10 3 rfl rfl)
theorem dL_law_466 : decode cL_law 466 = .ok (.iconst 0, 1) := dk_3 (dk_at dksL_law_10 4 rfl rfl)
theorem dL_law_467 : decode cL_law 467 = .ok (.laload, 1) := dk_47 (dk_at dksL_law_10 5 rfl rfl)
theorem dL_law_468 : decode cL_law 468 = .ok (.iload 6, 2) := dk_21 6 (dk_at dksL_law_10 6 rfl rfl)
theorem dL_law_470 : decode cL_law 470 = .ok (.i2l, 1) := dk_133 (dk_at dksL_law_10 8 rfl rfl)
theorem dL_law_471 : decode cL_law 471 = .ok (.lcmp, 1) := dk_148 (dk_at dksL_law_10 9 rfl rfl)
theorem dL_law_472 : decode cL_law 472 = .ok (.ifCond .eq 5, 3) := dk_153 0 5 (dk_at dksL_law_10 10 rfl rfl)
theorem dL_law_475 : decode cL_law 475 = .ok (.iconst 0, 1) := dk_3 (dk_at dksL_law_10 13 rfl rfl)
theorem dL_law_476 : decode cL_law 476 = .ok (.ireturn, 1) := dk_172 (dk_at dksL_law_10 14 rfl rfl)
theorem dL_law_477 : decode cL_law 477 = .ok (.goto 2497, 3) := dk_167 9 193 (dk_at dksL_law_10 15 rfl rfl)
theorem dL_law_480 : decode cL_law 480 = .ok (.aload_n 1, 1) := dk_43 (dk_at dksL_law_10 18 rfl rfl)
theorem dL_law_481 : decode cL_law 481 = .ok (.aload_n 0, 1) := dk_42 (dk_at dksL_law_10 19 rfl rfl)
theorem dL_law_482 : decode cL_law 482 = .ok (.iload 4, 2) := dk_21 4 (dk_at dksL_law_10 20 rfl rfl)
theorem dL_law_484 : decode cL_law 484 = .ok (.iconst 1, 1) := dk_4 (dk_at dksL_law_10 22 rfl rfl)
theorem dL_law_485 : decode cL_law 485 = .ok (.iadd, 1) := dk_96 (dk_at dksL_law_10 23 rfl rfl)
theorem dL_law_486 : decode cL_law 486 = .ok (.iaload, 1) := dk_46 (dk_at dksL_law_11 0 rfl rfl)
theorem dL_law_487 : decode cL_law 487 = .ok (.aload_n 0, 1) := dk_42 (dk_at dksL_law_11 1 rfl rfl)
theorem dL_law_488 : decode cL_law 488 = .ok (.iload 4, 2) := dk_21 4 (dk_at dksL_law_11 2 rfl rfl)
theorem dL_law_490 : decode cL_law 490 = .ok (.iconst 2, 1) := dk_5 (dk_at dksL_law_11 4 rfl rfl)
theorem dL_law_491 : decode cL_law 491 = .ok (.iadd, 1) := dk_96 (dk_at dksL_law_11 5 rfl rfl)
theorem dL_law_492 : decode cL_law 492 = .ok (.iaload, 1) := dk_46 (dk_at dksL_law_11 6 rfl rfl)
theorem dL_law_493 : decode cL_law 493 = .ok (.aload_n 3, 1) := dk_45 (dk_at dksL_law_11 7 rfl rfl)
theorem dL_law_494 : decode cL_law 494 = .ok (.invokestatic 170, 3) := dk_184 0 170 (dk_at dksL_law_11 8 rfl rfl)
theorem dL_law_497 : decode cL_law 497 = .ok (.istore 5, 2) := dk_54 5 (dk_at dksL_law_11 11 rfl rfl)
theorem dL_law_499 : decode cL_law 499 = .ok (.aload_n 2, 1) := dk_44 (dk_at dksL_law_11 13 rfl rfl)
theorem dL_law_500 : decode cL_law 500 = .ok (.aload_n 0, 1) := dk_42 (dk_at dksL_law_11 14 rfl rfl)
theorem dL_law_501 : decode cL_law 501 = .ok (.iload 4, 2) := dk_21 4 (dk_at dksL_law_11 15 rfl rfl)
theorem dL_law_503 : decode cL_law 503 = .ok (.iconst 1, 1) := dk_4 (dk_at dksL_law_11 17 rfl rfl)
theorem dL_law_504 : decode cL_law 504 = .ok (.iadd, 1) := dk_96 (dk_at dksL_law_11 18 rfl rfl)
theorem dL_law_505 : decode cL_law 505 = .ok (.iaload, 1) := dk_46 (dk_at dksL_law_11 19 rfl rfl)
theorem dL_law_506 : decode cL_law 506 = .ok (.aload_n 0, 1) := dk_42 (dk_at dksL_law_11 20 rfl rfl)
theorem dL_law_507 : decode cL_law 507 = .ok (.iload 4, 2) := dk_21 4 (dk_at dksL_law_11 21 rfl rfl)
theorem dL_law_509 : decode cL_law 509 = .ok (.iconst 2, 1) := dk_5 (dk_at dksL_law_11 23 rfl rfl)
theorem dL_law_510 : decode cL_law 510 = .ok (.iadd, 1) := dk_96 (dk_at dksL_law_12 0 rfl rfl)
theorem dL_law_511 : decode cL_law 511 = .ok (.iaload, 1) := dk_46 (dk_at dksL_law_12 1 rfl rfl)
theorem dL_law_512 : decode cL_law 512 = .ok (.invokevirtual 172, 3) := dk_182 0 172 (dk_at dksL_law_12 2 rfl rfl)
theorem dL_law_515 : decode cL_law 515 = .ok (.istore 6, 2) := dk_54 6 (dk_at dksL_law_12 5 rfl rfl)
theorem dL_law_517 : decode cL_law 517 = .ok (.aload_n 2, 1) := dk_44 (dk_at dksL_law_12 7 rfl rfl)
theorem dL_law_518 : decode cL_law 518 = .ok (.invokevirtual 160, 3) := dk_182 0 160 (dk_at dksL_law_12 8 rfl rfl)
theorem dL_law_521 : decode cL_law 521 = .ok (.iload 5, 2) := dk_21 5 (dk_at dksL_law_12 11 rfl rfl)
theorem dL_law_523 : decode cL_law 523 = .ok (.if_icmp .eq 5, 3) := dk_159 0 5 (dk_at dksL_law_12 13 rfl rfl)
theorem dL_law_526 : decode cL_law 526 = .ok (.iconst 0, 1) := dk_3 (dk_at dksL_law_12 16 rfl rfl)
theorem dL_law_527 : decode cL_law 527 = .ok (.ireturn, 1) := dk_172 (dk_at dksL_law_12 17 rfl rfl)
theorem dL_law_528 : decode cL_law 528 = .ok (.iload 5, 2) := dk_21 5 (dk_at dksL_law_12 18 rfl rfl)
theorem dL_law_530 : decode cL_law 530 = .ok (.ifCond .ne 15, 3) := dk_154 0 15 (dk_at dksL_law_12 20 rfl rfl)
theorem dL_law_533 : decode cL_law 533 = .ok (.aload_n 3, 1) := dk_45 (dk_at dksL_law_12 23 rfl rfl)
theorem dL_law_534 : decode cL_law 534 = .ok (.iconst 0, 1) := dk_3 (dk_at dksL_law_13 0 rfl rfl)
theorem dL_law_535 : decode cL_law 535 = .ok (.laload, 1) := dk_47 (dk_at dksL_law_13 1 rfl rfl)
theorem dL_law_536 : decode cL_law 536 = .ok (.iload 6, 2) := dk_21 6 (dk_at dksL_law_13 2 rfl rfl)
theorem dL_law_538 : decode cL_law 538 = .ok (.i2l, 1) := dk_133 (dk_at dksL_law_13 4 rfl rfl)
theorem dL_law_539 : decode cL_law 539 = .ok (.lcmp, 1) := dk_148 (dk_at dksL_law_13 5 rfl rfl)
theorem dL_law_540 : decode cL_law 540 = .ok (.ifCond .eq 5, 3) := dk_153 0 5 (dk_at dksL_law_13 6 rfl rfl)
theorem dL_law_543 : decode cL_law 543 = .ok (.iconst 0, 1) := dk_3 (dk_at dksL_law_13 9 rfl rfl)
theorem dL_law_544 : decode cL_law 544 = .ok (.ireturn, 1) := dk_172 (dk_at dksL_law_13 10 rfl rfl)
theorem dL_law_545 : decode cL_law 545 = .ok (.goto 2429, 3) := dk_167 9 125 (dk_at dksL_law_13 11 rfl rfl)
theorem dL_law_548 : decode cL_law 548 = .ok (.aload_n 1, 1) := dk_43 (dk_at dksL_law_13 14 rfl rfl)
theorem dL_law_549 : decode cL_law 549 = .ok (.aload_n 0, 1) := dk_42 (dk_at dksL_law_13 15 rfl rfl)
theorem dL_law_550 : decode cL_law 550 = .ok (.iload 4, 2) := dk_21 4 (dk_at dksL_law_13 16 rfl rfl)
theorem dL_law_552 : decode cL_law 552 = .ok (.iconst 1, 1) := dk_4 (dk_at dksL_law_13 18 rfl rfl)
theorem dL_law_553 : decode cL_law 553 = .ok (.iadd, 1) := dk_96 (dk_at dksL_law_13 19 rfl rfl)
theorem dL_law_554 : decode cL_law 554 = .ok (.iaload, 1) := dk_46 (dk_at dksL_law_13 20 rfl rfl)
theorem dL_law_555 : decode cL_law 555 = .ok (.aload_n 3, 1) := dk_45 (dk_at dksL_law_13 21 rfl rfl)
theorem dL_law_556 : decode cL_law 556 = .ok (.invokestatic 173, 3) := dk_184 0 173 (dk_at dksL_law_14 0 rfl rfl)
theorem dL_law_559 : decode cL_law 559 = .ok (.istore 5, 2) := dk_54 5 (dk_at dksL_law_14 3 rfl rfl)
theorem dL_law_561 : decode cL_law 561 = .ok (.aload_n 2, 1) := dk_44 (dk_at dksL_law_14 5 rfl rfl)
theorem dL_law_562 : decode cL_law 562 = .ok (.aload_n 0, 1) := dk_42 (dk_at dksL_law_14 6 rfl rfl)
theorem dL_law_563 : decode cL_law 563 = .ok (.iload 4, 2) := dk_21 4 (dk_at dksL_law_14 7 rfl rfl)
theorem dL_law_565 : decode cL_law 565 = .ok (.iconst 1, 1) := dk_4 (dk_at dksL_law_14 9 rfl rfl)
theorem dL_law_566 : decode cL_law 566 = .ok (.iadd, 1) := dk_96 (dk_at dksL_law_14 10 rfl rfl)
theorem dL_law_567 : decode cL_law 567 = .ok (.iaload, 1) := dk_46 (dk_at dksL_law_14 11 rfl rfl)
theorem dL_law_568 : decode cL_law 568 = .ok (.invokevirtual 175, 3) := dk_182 0 175 (dk_at dksL_law_14 12 rfl rfl)
theorem dL_law_571 : decode cL_law 571 = .ok (.istore 6, 2) := dk_54 6 (dk_at dksL_law_14 15 rfl rfl)
theorem dL_law_573 : decode cL_law 573 = .ok (.aload_n 2, 1) := dk_44 (dk_at dksL_law_14 17 rfl rfl)
theorem dL_law_574 : decode cL_law 574 = .ok (.invokevirtual 160, 3) := dk_182 0 160 (dk_at dksL_law_14 18 rfl rfl)
theorem dL_law_577 : decode cL_law 577 = .ok (.iload 5, 2) := dk_21 5 (dk_at dksL_law_14 21 rfl rfl)
theorem dL_law_579 : decode cL_law 579 = .ok (.if_icmp .eq 5, 3) := dk_159 0 5 (dk_at dksL_law_15 0 rfl rfl)
theorem dL_law_582 : decode cL_law 582 = .ok (.iconst 0, 1) := dk_3 (dk_at dksL_law_15 3 rfl rfl)
theorem dL_law_583 : decode cL_law 583 = .ok (.ireturn, 1) := dk_172 (dk_at dksL_law_15 4 rfl rfl)
theorem dL_law_584 : decode cL_law 584 = .ok (.iload 5, 2) := dk_21 5 (dk_at dksL_law_15 5 rfl rfl)
theorem dL_law_586 : decode cL_law 586 = .ok (.ifCond .ne 15, 3) := dk_154 0 15 (dk_at dksL_law_15 7 rfl rfl)
theorem dL_law_589 : decode cL_law 589 = .ok (.aload_n 3, 1) := dk_45 (dk_at dksL_law_15 10 rfl rfl)
theorem dL_law_590 : decode cL_law 590 = .ok (.iconst 0, 1) := dk_3 (dk_at dksL_law_15 11 rfl rfl)
theorem dL_law_591 : decode cL_law 591 = .ok (.laload, 1) := dk_47 (dk_at dksL_law_15 12 rfl rfl)
theorem dL_law_592 : decode cL_law 592 = .ok (.iload 6, 2) := dk_21 6 (dk_at dksL_law_15 13 rfl rfl)
theorem dL_law_594 : decode cL_law 594 = .ok (.i2l, 1) := dk_133 (dk_at dksL_law_15 15 rfl rfl)
theorem dL_law_595 : decode cL_law 595 = .ok (.lcmp, 1) := dk_148 (dk_at dksL_law_15 16 rfl rfl)
theorem dL_law_596 : decode cL_law 596 = .ok (.ifCond .eq 5, 3) := dk_153 0 5 (dk_at dksL_law_15 17 rfl rfl)
theorem dL_law_599 : decode cL_law 599 = .ok (.iconst 0, 1) := dk_3 (dk_at dksL_law_15 20 rfl rfl)
theorem dL_law_600 : decode cL_law 600 = .ok (.ireturn, 1) := dk_172 (dk_at dksL_law_15 21 rfl rfl)
theorem dL_law_601 : decode cL_law 601 = .ok (.goto 2373, 3) := dk_167 9 69 (dk_at dksL_law_16 0 rfl rfl)
theorem dL_law_604 : decode cL_law 604 = .ok (.aload_n 1, 1) := dk_43 (dk_at dksL_law_16 3 rfl rfl)
theorem dL_law_605 : decode cL_law 605 = .ok (.aload_n 0, 1) := dk_42 (dk_at dksL_law_16 4 rfl rfl)
theorem dL_law_606 : decode cL_law 606 = .ok (.iload 4, 2) := dk_21 4 (dk_at dksL_law_16 5 rfl rfl)
theorem dL_law_608 : decode cL_law 608 = .ok (.iconst 1, 1) := dk_4 (dk_at dksL_law_16 7 rfl rfl)
theorem dL_law_609 : decode cL_law 609 = .ok (.iadd, 1) := dk_96 (dk_at dksL_law_16 8 rfl rfl)
theorem dL_law_610 : decode cL_law 610 = .ok (.iaload, 1) := dk_46 (dk_at dksL_law_16 9 rfl rfl)
theorem dL_law_611 : decode cL_law 611 = .ok (.aload_n 3, 1) := dk_45 (dk_at dksL_law_16 10 rfl rfl)
theorem dL_law_612 : decode cL_law 612 = .ok (.invokestatic 176, 3) := dk_184 0 176 (dk_at dksL_law_16 11 rfl rfl)
theorem dL_law_615 : decode cL_law 615 = .ok (.istore 5, 2) := dk_54 5 (dk_at dksL_law_16 14 rfl rfl)
theorem dL_law_617 : decode cL_law 617 = .ok (.aload_n 2, 1) := dk_44 (dk_at dksL_law_16 16 rfl rfl)
theorem dL_law_618 : decode cL_law 618 = .ok (.aload_n 0, 1) := dk_42 (dk_at dksL_law_16 17 rfl rfl)
theorem dL_law_619 : decode cL_law 619 = .ok (.iload 4, 2) := dk_21 4 (dk_at dksL_law_16 18 rfl rfl)
theorem dL_law_621 : decode cL_law 621 = .ok (.iconst 1, 1) := dk_4 (dk_at dksL_law_16 20 rfl rfl)
theorem dL_law_622 : decode cL_law 622 = .ok (.iadd, 1) := dk_96 (dk_at dksL_law_16 21 rfl rfl)
theorem dL_law_623 : decode cL_law 623 = .ok (.iaload, 1) := dk_46 (dk_at dksL_law_16 22 rfl rfl)
theorem dL_law_624 : decode cL_law 624 = .ok (.invokevirtual 178, 3) := dk_182 0 178 (dk_at dksL_law_17 0 rfl rfl)
theorem dL_law_627 : decode cL_law 627 = .ok (.istore 6, 2) := dk_54 6 (dk_at dksL_law_17 3 rfl rfl)
theorem dL_law_629 : decode cL_law 629 = .ok (.aload_n 2, 1) := dk_44 (dk_at dksL_law_17 5 rfl rfl)
theorem dL_law_630 : decode cL_law 630 = .ok (.invokevirtual 160, 3) := dk_182 0 160 (dk_at dksL_law_17 6 rfl rfl)
theorem dL_law_633 : decode cL_law 633 = .ok (.iload 5, 2) := dk_21 5 (dk_at dksL_law_17 9 rfl rfl)
theorem dL_law_635 : decode cL_law 635 = .ok (.if_icmp .eq 5, 3) := dk_159 0 5 (dk_at dksL_law_17 11 rfl rfl)
theorem dL_law_638 : decode cL_law 638 = .ok (.iconst 0, 1) := dk_3 (dk_at dksL_law_17 14 rfl rfl)
theorem dL_law_639 : decode cL_law 639 = .ok (.ireturn, 1) := dk_172 (dk_at dksL_law_17 15 rfl rfl)
theorem dL_law_640 : decode cL_law 640 = .ok (.iload 5, 2) := dk_21 5 (dk_at dksL_law_17 16 rfl rfl)
theorem dL_law_642 : decode cL_law 642 = .ok (.ifCond .ne 15, 3) := dk_154 0 15 (dk_at dksL_law_17 18 rfl rfl)
theorem dL_law_645 : decode cL_law 645 = .ok (.aload_n 3, 1) := dk_45 (dk_at dksL_law_17 21 rfl rfl)
theorem dL_law_646 : decode cL_law 646 = .ok (.iconst 0, 1) := dk_3 (dk_at dksL_law_17 22 rfl rfl)
theorem dL_law_647 : decode cL_law 647 = .ok (.laload, 1) := dk_47 (dk_at dksL_law_17 23 rfl rfl)
theorem dL_law_648 : decode cL_law 648 = .ok (.iload 6, 2) := dk_21 6 (dk_at dksL_law_18 0 rfl rfl)
theorem dL_law_650 : decode cL_law 650 = .ok (.i2l, 1) := dk_133 (dk_at dksL_law_18 2 rfl rfl)
theorem dL_law_651 : decode cL_law 651 = .ok (.lcmp, 1) := dk_148 (dk_at dksL_law_18 3 rfl rfl)
theorem dL_law_652 : decode cL_law 652 = .ok (.ifCond .eq 5, 3) := dk_153 0 5 (dk_at dksL_law_18 4 rfl rfl)
theorem dL_law_655 : decode cL_law 655 = .ok (.iconst 0, 1) := dk_3 (dk_at dksL_law_18 7 rfl rfl)
theorem dL_law_656 : decode cL_law 656 = .ok (.ireturn, 1) := dk_172 (dk_at dksL_law_18 8 rfl rfl)
theorem dL_law_657 : decode cL_law 657 = .ok (.goto 2317, 3) := dk_167 9 13 (dk_at dksL_law_18 9 rfl rfl)
theorem dL_law_660 : decode cL_law 660 = .ok (.aload_n 1, 1) := dk_43 (dk_at dksL_law_18 12 rfl rfl)
theorem dL_law_661 : decode cL_law 661 = .ok (.aload_n 0, 1) := dk_42 (dk_at dksL_law_18 13 rfl rfl)
theorem dL_law_662 : decode cL_law 662 = .ok (.iload 4, 2) := dk_21 4 (dk_at dksL_law_18 14 rfl rfl)
theorem dL_law_664 : decode cL_law 664 = .ok (.iconst 1, 1) := dk_4 (dk_at dksL_law_18 16 rfl rfl)
theorem dL_law_665 : decode cL_law 665 = .ok (.iadd, 1) := dk_96 (dk_at dksL_law_18 17 rfl rfl)
theorem dL_law_666 : decode cL_law 666 = .ok (.iaload, 1) := dk_46 (dk_at dksL_law_18 18 rfl rfl)
theorem dL_law_667 : decode cL_law 667 = .ok (.aload_n 3, 1) := dk_45 (dk_at dksL_law_18 19 rfl rfl)
theorem dL_law_668 : decode cL_law 668 = .ok (.invokestatic 179, 3) := dk_184 0 179 (dk_at dksL_law_18 20 rfl rfl)
theorem dL_law_671 : decode cL_law 671 = .ok (.istore 5, 2) := dk_54 5 (dk_at dksL_law_19 0 rfl rfl)
theorem dL_law_673 : decode cL_law 673 = .ok (.aload_n 2, 1) := dk_44 (dk_at dksL_law_19 2 rfl rfl)
theorem dL_law_674 : decode cL_law 674 = .ok (.aload_n 0, 1) := dk_42 (dk_at dksL_law_19 3 rfl rfl)
theorem dL_law_675 : decode cL_law 675 = .ok (.iload 4, 2) := dk_21 4 (dk_at dksL_law_19 4 rfl rfl)
theorem dL_law_677 : decode cL_law 677 = .ok (.iconst 1, 1) := dk_4 (dk_at dksL_law_19 6 rfl rfl)
theorem dL_law_678 : decode cL_law 678 = .ok (.iadd, 1) := dk_96 (dk_at dksL_law_19 7 rfl rfl)
theorem dL_law_679 : decode cL_law 679 = .ok (.iaload, 1) := dk_46 (dk_at dksL_law_19 8 rfl rfl)
theorem dL_law_680 : decode cL_law 680 = .ok (.invokevirtual 181, 3) := dk_182 0 181 (dk_at dksL_law_19 9 rfl rfl)
theorem dL_law_683 : decode cL_law 683 = .ok (.istore 6, 2) := dk_54 6 (dk_at dksL_law_19 12 rfl rfl)
theorem dL_law_685 : decode cL_law 685 = .ok (.aload_n 2, 1) := dk_44 (dk_at dksL_law_19 14 rfl rfl)
theorem dL_law_686 : decode cL_law 686 = .ok (.invokevirtual 160, 3) := dk_182 0 160 (dk_at dksL_law_19 15 rfl rfl)
theorem dL_law_689 : decode cL_law 689 = .ok (.iload 5, 2) := dk_21 5 (dk_at dksL_law_19 18 rfl rfl)
theorem dL_law_691 : decode cL_law 691 = .ok (.if_icmp .eq 5, 3) := dk_159 0 5 (dk_at dksL_law_19 20 rfl rfl)
theorem dL_law_694 : decode cL_law 694 = .ok (.iconst 0, 1) := dk_3 (dk_at dksL_law_19 23 rfl rfl)
theorem dL_law_695 : decode cL_law 695 = .ok (.ireturn, 1) := dk_172 (dk_at dksL_law_20 0 rfl rfl)
theorem dL_law_696 : decode cL_law 696 = .ok (.iload 5, 2) := dk_21 5 (dk_at dksL_law_20 1 rfl rfl)
theorem dL_law_698 : decode cL_law 698 = .ok (.ifCond .ne 15, 3) := dk_154 0 15 (dk_at dksL_law_20 3 rfl rfl)
theorem dL_law_701 : decode cL_law 701 = .ok (.aload_n 3, 1) := dk_45 (dk_at dksL_law_20 6 rfl rfl)
theorem dL_law_702 : decode cL_law 702 = .ok (.iconst 0, 1) := dk_3 (dk_at dksL_law_20 7 rfl rfl)
theorem dL_law_703 : decode cL_law 703 = .ok (.laload, 1) := dk_47 (dk_at dksL_law_20 8 rfl rfl)
theorem dL_law_704 : decode cL_law 704 = .ok (.iload 6, 2) := dk_21 6 (dk_at dksL_law_20 9 rfl rfl)
theorem dL_law_706 : decode cL_law 706 = .ok (.i2l, 1) := dk_133 (dk_at dksL_law_20 11 rfl rfl)
theorem dL_law_707 : decode cL_law 707 = .ok (.lcmp, 1) := dk_148 (dk_at dksL_law_20 12 rfl rfl)
theorem dL_law_708 : decode cL_law 708 = .ok (.ifCond .eq 5, 3) := dk_153 0 5 (dk_at dksL_law_20 13 rfl rfl)
theorem dL_law_711 : decode cL_law 711 = .ok (.iconst 0, 1) := dk_3 (dk_at dksL_law_20 16 rfl rfl)
theorem dL_law_712 : decode cL_law 712 = .ok (.ireturn, 1) := dk_172 (dk_at dksL_law_20 17 rfl rfl)
theorem dL_law_713 : decode cL_law 713 = .ok (.goto 2261, 3) := dk_167 8 213 (dk_at dksL_law_20 18 rfl rfl)
theorem dL_law_716 : decode cL_law 716 = .ok (.aload_n 1, 1) := dk_43 (dk_at dksL_law_20 21 rfl rfl)
theorem dL_law_717 : decode cL_law 717 = .ok (.aload_n 0, 1) := dk_42 (dk_at dksL_law_20 22 rfl rfl)
theorem dL_law_718 : decode cL_law 718 = .ok (.iload 4, 2) := dk_21 4 (dk_at dksL_law_21 0 rfl rfl)
theorem dL_law_720 : decode cL_law 720 = .ok (.iconst 1, 1) := dk_4 (dk_at dksL_law_21 2 rfl rfl)
theorem dL_law_721 : decode cL_law 721 = .ok (.iadd, 1) := dk_96 (dk_at dksL_law_21 3 rfl rfl)
theorem dL_law_722 : decode cL_law 722 = .ok (.iaload, 1) := dk_46 (dk_at dksL_law_21 4 rfl rfl)
theorem dL_law_723 : decode cL_law 723 = .ok (.aload_n 3, 1) := dk_45 (dk_at dksL_law_21 5 rfl rfl)
theorem dL_law_724 : decode cL_law 724 = .ok (.invokestatic 182, 3) := dk_184 0 182 (dk_at dksL_law_21 6 rfl rfl)
theorem dL_law_727 : decode cL_law 727 = .ok (.istore 5, 2) := dk_54 5 (dk_at dksL_law_21 9 rfl rfl)
theorem dL_law_729 : decode cL_law 729 = .ok (.aload_n 2, 1) := dk_44 (dk_at dksL_law_21 11 rfl rfl)
theorem dL_law_730 : decode cL_law 730 = .ok (.aload_n 0, 1) := dk_42 (dk_at dksL_law_21 12 rfl rfl)
theorem dL_law_731 : decode cL_law 731 = .ok (.iload 4, 2) := dk_21 4 (dk_at dksL_law_21 13 rfl rfl)
theorem dL_law_733 : decode cL_law 733 = .ok (.iconst 1, 1) := dk_4 (dk_at dksL_law_21 15 rfl rfl)
theorem dL_law_734 : decode cL_law 734 = .ok (.iadd, 1) := dk_96 (dk_at dksL_law_21 16 rfl rfl)
theorem dL_law_735 : decode cL_law 735 = .ok (.iaload, 1) := dk_46 (dk_at dksL_law_21 17 rfl rfl)
theorem dL_law_736 : decode cL_law 736 = .ok (.invokevirtual 184, 3) := dk_182 0 184 (dk_at dksL_law_21 18 rfl rfl)
theorem dL_law_739 : decode cL_law 739 = .ok (.istore 6, 2) := dk_54 6 (dk_at dksL_law_21 21 rfl rfl)
theorem dL_law_741 : decode cL_law 741 = .ok (.aload_n 2, 1) := dk_44 (dk_at dksL_law_21 23 rfl rfl)
theorem dL_law_742 : decode cL_law 742 = .ok (.invokevirtual 160, 3) := dk_182 0 160 (dk_at dksL_law_22 0 rfl rfl)
theorem dL_law_745 : decode cL_law 745 = .ok (.iload 5, 2) := dk_21 5 (dk_at dksL_law_22 3 rfl rfl)
theorem dL_law_747 : decode cL_law 747 = .ok (.if_icmp .eq 5, 3) := dk_159 0 5 (dk_at dksL_law_22 5 rfl rfl)
theorem dL_law_750 : decode cL_law 750 = .ok (.iconst 0, 1) := dk_3 (dk_at dksL_law_22 8 rfl rfl)
theorem dL_law_751 : decode cL_law 751 = .ok (.ireturn, 1) := dk_172 (dk_at dksL_law_22 9 rfl rfl)
theorem dL_law_752 : decode cL_law 752 = .ok (.iload 5, 2) := dk_21 5 (dk_at dksL_law_22 10 rfl rfl)
theorem dL_law_754 : decode cL_law 754 = .ok (.ifCond .ne 15, 3) := dk_154 0 15 (dk_at dksL_law_22 12 rfl rfl)
theorem dL_law_757 : decode cL_law 757 = .ok (.aload_n 3, 1) := dk_45 (dk_at dksL_law_22 15 rfl rfl)
theorem dL_law_758 : decode cL_law 758 = .ok (.iconst 0, 1) := dk_3 (dk_at dksL_law_22 16 rfl rfl)
theorem dL_law_759 : decode cL_law 759 = .ok (.laload, 1) := dk_47 (dk_at dksL_law_22 17 rfl rfl)
theorem dL_law_760 : decode cL_law 760 = .ok (.iload 6, 2) := dk_21 6 (dk_at dksL_law_22 18 rfl rfl)
theorem dL_law_762 : decode cL_law 762 = .ok (.i2l, 1) := dk_133 (dk_at dksL_law_22 20 rfl rfl)
theorem dL_law_763 : decode cL_law 763 = .ok (.lcmp, 1) := dk_148 (dk_at dksL_law_22 21 rfl rfl)
theorem dL_law_764 : decode cL_law 764 = .ok (.ifCond .eq 5, 3) := dk_153 0 5 (dk_at dksL_law_23 0 rfl rfl)
theorem dL_law_767 : decode cL_law 767 = .ok (.iconst 0, 1) := dk_3 (dk_at dksL_law_23 3 rfl rfl)
theorem dL_law_768 : decode cL_law 768 = .ok (.ireturn, 1) := dk_172 (dk_at dksL_law_23 4 rfl rfl)
theorem dL_law_769 : decode cL_law 769 = .ok (.goto 2205, 3) := dk_167 8 157 (dk_at dksL_law_23 5 rfl rfl)
theorem dL_law_772 : decode cL_law 772 = .ok (.aload_n 1, 1) := dk_43 (dk_at dksL_law_23 8 rfl rfl)
theorem dL_law_773 : decode cL_law 773 = .ok (.aload_n 0, 1) := dk_42 (dk_at dksL_law_23 9 rfl rfl)
theorem dL_law_774 : decode cL_law 774 = .ok (.iload 4, 2) := dk_21 4 (dk_at dksL_law_23 10 rfl rfl)
theorem dL_law_776 : decode cL_law 776 = .ok (.iconst 1, 1) := dk_4 (dk_at dksL_law_23 12 rfl rfl)
theorem dL_law_777 : decode cL_law 777 = .ok (.iadd, 1) := dk_96 (dk_at dksL_law_23 13 rfl rfl)
theorem dL_law_778 : decode cL_law 778 = .ok (.iaload, 1) := dk_46 (dk_at dksL_law_23 14 rfl rfl)
theorem dL_law_779 : decode cL_law 779 = .ok (.aload_n 3, 1) := dk_45 (dk_at dksL_law_23 15 rfl rfl)
theorem dL_law_780 : decode cL_law 780 = .ok (.invokestatic 185, 3) := dk_184 0 185 (dk_at dksL_law_23 16 rfl rfl)
theorem dL_law_783 : decode cL_law 783 = .ok (.istore 5, 2) := dk_54 5 (dk_at dksL_law_23 19 rfl rfl)
theorem dL_law_785 : decode cL_law 785 = .ok (.aload_n 2, 1) := dk_44 (dk_at dksL_law_23 21 rfl rfl)
theorem dL_law_786 : decode cL_law 786 = .ok (.aload_n 0, 1) := dk_42 (dk_at dksL_law_23 22 rfl rfl)
theorem dL_law_787 : decode cL_law 787 = .ok (.iload 4, 2) := dk_21 4 (dk_at dksL_law_24 0 rfl rfl)
theorem dL_law_789 : decode cL_law 789 = .ok (.iconst 1, 1) := dk_4 (dk_at dksL_law_24 2 rfl rfl)
theorem dL_law_790 : decode cL_law 790 = .ok (.iadd, 1) := dk_96 (dk_at dksL_law_24 3 rfl rfl)
theorem dL_law_791 : decode cL_law 791 = .ok (.iaload, 1) := dk_46 (dk_at dksL_law_24 4 rfl rfl)
theorem dL_law_792 : decode cL_law 792 = .ok (.invokevirtual 187, 3) := dk_182 0 187 (dk_at dksL_law_24 5 rfl rfl)
theorem dL_law_795 : decode cL_law 795 = .ok (.istore 6, 2) := dk_54 6 (dk_at dksL_law_24 8 rfl rfl)
theorem dL_law_797 : decode cL_law 797 = .ok (.aload_n 2, 1) := dk_44 (dk_at dksL_law_24 10 rfl rfl)
theorem dL_law_798 : decode cL_law 798 = .ok (.invokevirtual 160, 3) := dk_182 0 160 (dk_at dksL_law_24 11 rfl rfl)
theorem dL_law_801 : decode cL_law 801 = .ok (.iload 5, 2) := dk_21 5 (dk_at dksL_law_24 14 rfl rfl)
theorem dL_law_803 : decode cL_law 803 = .ok (.if_icmp .eq 5, 3) := dk_159 0 5 (dk_at dksL_law_24 16 rfl rfl)
theorem dL_law_806 : decode cL_law 806 = .ok (.iconst 0, 1) := dk_3 (dk_at dksL_law_24 19 rfl rfl)
theorem dL_law_807 : decode cL_law 807 = .ok (.ireturn, 1) := dk_172 (dk_at dksL_law_24 20 rfl rfl)
theorem dL_law_808 : decode cL_law 808 = .ok (.iload 5, 2) := dk_21 5 (dk_at dksL_law_24 21 rfl rfl)
theorem dL_law_810 : decode cL_law 810 = .ok (.ifCond .ne 15, 3) := dk_154 0 15 (dk_at dksL_law_25 0 rfl rfl)
theorem dL_law_813 : decode cL_law 813 = .ok (.aload_n 3, 1) := dk_45 (dk_at dksL_law_25 3 rfl rfl)
theorem dL_law_814 : decode cL_law 814 = .ok (.iconst 0, 1) := dk_3 (dk_at dksL_law_25 4 rfl rfl)
theorem dL_law_815 : decode cL_law 815 = .ok (.laload, 1) := dk_47 (dk_at dksL_law_25 5 rfl rfl)
theorem dL_law_816 : decode cL_law 816 = .ok (.iload 6, 2) := dk_21 6 (dk_at dksL_law_25 6 rfl rfl)
theorem dL_law_818 : decode cL_law 818 = .ok (.i2l, 1) := dk_133 (dk_at dksL_law_25 8 rfl rfl)
theorem dL_law_819 : decode cL_law 819 = .ok (.lcmp, 1) := dk_148 (dk_at dksL_law_25 9 rfl rfl)
theorem dL_law_820 : decode cL_law 820 = .ok (.ifCond .eq 5, 3) := dk_153 0 5 (dk_at dksL_law_25 10 rfl rfl)
theorem dL_law_823 : decode cL_law 823 = .ok (.iconst 0, 1) := dk_3 (dk_at dksL_law_25 13 rfl rfl)
theorem dL_law_824 : decode cL_law 824 = .ok (.ireturn, 1) := dk_172 (dk_at dksL_law_25 14 rfl rfl)
theorem dL_law_825 : decode cL_law 825 = .ok (.goto 2149, 3) := dk_167 8 101 (dk_at dksL_law_25 15 rfl rfl)
theorem dL_law_828 : decode cL_law 828 = .ok (.aload_n 1, 1) := dk_43 (dk_at dksL_law_25 18 rfl rfl)
theorem dL_law_829 : decode cL_law 829 = .ok (.invokevirtual 188, 3) := dk_182 0 188 (dk_at dksL_law_25 19 rfl rfl)
theorem dL_law_832 : decode cL_law 832 = .ok (.aload_n 2, 1) := dk_44 (dk_at dksL_law_25 22 rfl rfl)
theorem dL_law_833 : decode cL_law 833 = .ok (.invokevirtual 191, 3) := dk_182 0 191 (dk_at dksL_law_26 0 rfl rfl)
theorem dL_law_836 : decode cL_law 836 = .ok (.if_icmp .eq 2138, 3) := dk_159 8 90 (dk_at dksL_law_26 3 rfl rfl)
theorem dL_law_839 : decode cL_law 839 = .ok (.iconst 0, 1) := dk_3 (dk_at dksL_law_26 6 rfl rfl)
theorem dL_law_840 : decode cL_law 840 = .ok (.ireturn, 1) := dk_172 (dk_at dksL_law_26 7 rfl rfl)
theorem dL_law_841 : decode cL_law 841 = .ok (.aload_n 1, 1) := dk_43 (dk_at dksL_law_26 8 rfl rfl)
theorem dL_law_842 : decode cL_law 842 = .ok (.invokevirtual 192, 3) := dk_182 0 192 (dk_at dksL_law_26 9 rfl rfl)
theorem dL_law_845 : decode cL_law 845 = .ok (.aload_n 2, 1) := dk_44 (dk_at dksL_law_26 12 rfl rfl)
theorem dL_law_846 : decode cL_law 846 = .ok (.invokevirtual 195, 3) := dk_182 0 195 (dk_at dksL_law_26 13 rfl rfl)
theorem dL_law_849 : decode cL_law 849 = .ok (.if_icmp .eq 2125, 3) := dk_159 8 77 (dk_at dksL_law_26 16 rfl rfl)
theorem dL_law_852 : decode cL_law 852 = .ok (.iconst 0, 1) := dk_3 (dk_at dksL_law_26 19 rfl rfl)
theorem dL_law_853 : decode cL_law 853 = .ok (.ireturn, 1) := dk_172 (dk_at dksL_law_26 20 rfl rfl)
theorem dL_law_854 : decode cL_law 854 = .ok (.aload_n 1, 1) := dk_43 (dk_at dksL_law_26 21 rfl rfl)
theorem dL_law_855 : decode cL_law 855 = .ok (.invokevirtual 196, 3) := dk_182 0 196 (dk_at dksL_law_27 0 rfl rfl)
theorem dL_law_858 : decode cL_law 858 = .ok (.aload_n 2, 1) := dk_44 (dk_at dksL_law_27 3 rfl rfl)
theorem dL_law_859 : decode cL_law 859 = .ok (.invokevirtual 199, 3) := dk_182 0 199 (dk_at dksL_law_27 4 rfl rfl)
theorem dL_law_862 : decode cL_law 862 = .ok (.if_icmp .eq 2112, 3) := dk_159 8 64 (dk_at dksL_law_27 7 rfl rfl)
theorem dL_law_865 : decode cL_law 865 = .ok (.iconst 0, 1) := dk_3 (dk_at dksL_law_27 10 rfl rfl)
theorem dL_law_866 : decode cL_law 866 = .ok (.ireturn, 1) := dk_172 (dk_at dksL_law_27 11 rfl rfl)
theorem dL_law_867 : decode cL_law 867 = .ok (.aload_n 1, 1) := dk_43 (dk_at dksL_law_27 12 rfl rfl)
theorem dL_law_868 : decode cL_law 868 = .ok (.invokevirtual 200, 3) := dk_182 0 200 (dk_at dksL_law_27 13 rfl rfl)
theorem dL_law_871 : decode cL_law 871 = .ok (.aload_n 2, 1) := dk_44 (dk_at dksL_law_27 16 rfl rfl)
theorem dL_law_872 : decode cL_law 872 = .ok (.invokevirtual 203, 3) := dk_182 0 203 (dk_at dksL_law_27 17 rfl rfl)
theorem dL_law_875 : decode cL_law 875 = .ok (.if_icmp .eq 2099, 3) := dk_159 8 51 (dk_at dksL_law_27 20 rfl rfl)
theorem dL_law_878 : decode cL_law 878 = .ok (.iconst 0, 1) := dk_3 (dk_at dksL_law_27 23 rfl rfl)
theorem dL_law_879 : decode cL_law 879 = .ok (.ireturn, 1) := dk_172 (dk_at dksL_law_28 0 rfl rfl)
theorem dL_law_880 : decode cL_law 880 = .ok (.aload_n 1, 1) := dk_43 (dk_at dksL_law_28 1 rfl rfl)
theorem dL_law_881 : decode cL_law 881 = .ok (.aload_n 0, 1) := dk_42 (dk_at dksL_law_28 2 rfl rfl)
theorem dL_law_882 : decode cL_law 882 = .ok (.iload 4, 2) := dk_21 4 (dk_at dksL_law_28 3 rfl rfl)
theorem dL_law_884 : decode cL_law 884 = .ok (.iconst 1, 1) := dk_4 (dk_at dksL_law_28 5 rfl rfl)
theorem dL_law_885 : decode cL_law 885 = .ok (.iadd, 1) := dk_96 (dk_at dksL_law_28 6 rfl rfl)
theorem dL_law_886 : decode cL_law 886 = .ok (.iaload, 1) := dk_46 (dk_at dksL_law_28 7 rfl rfl)
theorem dL_law_887 : decode cL_law 887 = .ok (.aload_n 3, 1) := dk_45 (dk_at dksL_law_28 8 rfl rfl)
theorem dL_law_888 : decode cL_law 888 = .ok (.invokestatic 204, 3) := dk_184 0 204 (dk_at dksL_law_28 9 rfl rfl)
theorem dL_law_891 : decode cL_law 891 = .ok (.istore 5, 2) := dk_54 5 (dk_at dksL_law_28 12 rfl rfl)
theorem dL_law_893 : decode cL_law 893 = .ok (.aload_n 2, 1) := dk_44 (dk_at dksL_law_28 14 rfl rfl)
theorem dL_law_894 : decode cL_law 894 = .ok (.aload_n 0, 1) := dk_42 (dk_at dksL_law_28 15 rfl rfl)
theorem dL_law_895 : decode cL_law 895 = .ok (.iload 4, 2) := dk_21 4 (dk_at dksL_law_28 16 rfl rfl)
theorem dL_law_897 : decode cL_law 897 = .ok (.iconst 1, 1) := dk_4 (dk_at dksL_law_28 18 rfl rfl)
theorem dL_law_898 : decode cL_law 898 = .ok (.iadd, 1) := dk_96 (dk_at dksL_law_28 19 rfl rfl)
theorem dL_law_899 : decode cL_law 899 = .ok (.iaload, 1) := dk_46 (dk_at dksL_law_28 20 rfl rfl)
theorem dL_law_900 : decode cL_law 900 = .ok (.invokevirtual 206, 3) := dk_182 0 206 (dk_at dksL_law_28 21 rfl rfl)
theorem dL_law_903 : decode cL_law 903 = .ok (.istore 6, 2) := dk_54 6 (dk_at dksL_law_29 0 rfl rfl)
theorem dL_law_905 : decode cL_law 905 = .ok (.aload_n 2, 1) := dk_44 (dk_at dksL_law_29 2 rfl rfl)
theorem dL_law_906 : decode cL_law 906 = .ok (.invokevirtual 160, 3) := dk_182 0 160 (dk_at dksL_law_29 3 rfl rfl)
theorem dL_law_909 : decode cL_law 909 = .ok (.iload 5, 2) := dk_21 5 (dk_at dksL_law_29 6 rfl rfl)
theorem dL_law_911 : decode cL_law 911 = .ok (.if_icmp .eq 5, 3) := dk_159 0 5 (dk_at dksL_law_29 8 rfl rfl)
theorem dL_law_914 : decode cL_law 914 = .ok (.iconst 0, 1) := dk_3 (dk_at dksL_law_29 11 rfl rfl)
theorem dL_law_915 : decode cL_law 915 = .ok (.ireturn, 1) := dk_172 (dk_at dksL_law_29 12 rfl rfl)
theorem dL_law_916 : decode cL_law 916 = .ok (.iload 5, 2) := dk_21 5 (dk_at dksL_law_29 13 rfl rfl)
theorem dL_law_918 : decode cL_law 918 = .ok (.ifCond .ne 15, 3) := dk_154 0 15 (dk_at dksL_law_29 15 rfl rfl)
theorem dL_law_921 : decode cL_law 921 = .ok (.aload_n 3, 1) := dk_45 (dk_at dksL_law_29 18 rfl rfl)
theorem dL_law_922 : decode cL_law 922 = .ok (.iconst 0, 1) := dk_3 (dk_at dksL_law_29 19 rfl rfl)
theorem dL_law_923 : decode cL_law 923 = .ok (.laload, 1) := dk_47 (dk_at dksL_law_29 20 rfl rfl)
theorem dL_law_924 : decode cL_law 924 = .ok (.iload 6, 2) := dk_21 6 (dk_at dksL_law_29 21 rfl rfl)
theorem dL_law_926 : decode cL_law 926 = .ok (.i2l, 1) := dk_133 (dk_at dksL_law_29 23 rfl rfl)
theorem dL_law_927 : decode cL_law 927 = .ok (.lcmp, 1) := dk_148 (dk_at dksL_law_30 0 rfl rfl)
theorem dL_law_928 : decode cL_law 928 = .ok (.ifCond .eq 5, 3) := dk_153 0 5 (dk_at dksL_law_30 1 rfl rfl)
theorem dL_law_931 : decode cL_law 931 = .ok (.iconst 0, 1) := dk_3 (dk_at dksL_law_30 4 rfl rfl)
theorem dL_law_932 : decode cL_law 932 = .ok (.ireturn, 1) := dk_172 (dk_at dksL_law_30 5 rfl rfl)
theorem dL_law_933 : decode cL_law 933 = .ok (.goto 2041, 3) := dk_167 7 249 (dk_at dksL_law_30 6 rfl rfl)
theorem dL_law_936 : decode cL_law 936 = .ok (.aload_n 1, 1) := dk_43 (dk_at dksL_law_30 9 rfl rfl)
theorem dL_law_937 : decode cL_law 937 = .ok (.aload_n 0, 1) := dk_42 (dk_at dksL_law_30 10 rfl rfl)
theorem dL_law_938 : decode cL_law 938 = .ok (.iload 4, 2) := dk_21 4 (dk_at dksL_law_30 11 rfl rfl)
theorem dL_law_940 : decode cL_law 940 = .ok (.iconst 1, 1) := dk_4 (dk_at dksL_law_30 13 rfl rfl)
theorem dL_law_941 : decode cL_law 941 = .ok (.iadd, 1) := dk_96 (dk_at dksL_law_30 14 rfl rfl)
theorem dL_law_942 : decode cL_law 942 = .ok (.iaload, 1) := dk_46 (dk_at dksL_law_30 15 rfl rfl)
theorem dL_law_943 : decode cL_law 943 = .ok (.aload_n 3, 1) := dk_45 (dk_at dksL_law_30 16 rfl rfl)
theorem dL_law_944 : decode cL_law 944 = .ok (.invokestatic 207, 3) := dk_184 0 207 (dk_at dksL_law_30 17 rfl rfl)
theorem dL_law_947 : decode cL_law 947 = .ok (.istore 5, 2) := dk_54 5 (dk_at dksL_law_30 20 rfl rfl)
theorem dL_law_949 : decode cL_law 949 = .ok (.aload_n 2, 1) := dk_44 (dk_at dksL_law_30 22 rfl rfl)
theorem dL_law_950 : decode cL_law 950 = .ok (.aload_n 0, 1) := dk_42 (dk_at dksL_law_30 23 rfl rfl)
theorem dL_law_951 : decode cL_law 951 = .ok (.iload 4, 2) := dk_21 4 (dk_at dksL_law_31 0 rfl rfl)
theorem dL_law_953 : decode cL_law 953 = .ok (.iconst 1, 1) := dk_4 (dk_at dksL_law_31 2 rfl rfl)
theorem dL_law_954 : decode cL_law 954 = .ok (.iadd, 1) := dk_96 (dk_at dksL_law_31 3 rfl rfl)
theorem dL_law_955 : decode cL_law 955 = .ok (.iaload, 1) := dk_46 (dk_at dksL_law_31 4 rfl rfl)
theorem dL_law_956 : decode cL_law 956 = .ok (.invokevirtual 209, 3) := dk_182 0 209 (dk_at dksL_law_31 5 rfl rfl)
theorem dL_law_959 : decode cL_law 959 = .ok (.istore 6, 2) := dk_54 6 (dk_at dksL_law_31 8 rfl rfl)
theorem dL_law_961 : decode cL_law 961 = .ok (.aload_n 2, 1) := dk_44 (dk_at dksL_law_31 10 rfl rfl)
theorem dL_law_962 : decode cL_law 962 = .ok (.invokevirtual 160, 3) := dk_182 0 160 (dk_at dksL_law_31 11 rfl rfl)
theorem dL_law_965 : decode cL_law 965 = .ok (.iload 5, 2) := dk_21 5 (dk_at dksL_law_31 14 rfl rfl)
theorem dL_law_967 : decode cL_law 967 = .ok (.if_icmp .eq 5, 3) := dk_159 0 5 (dk_at dksL_law_31 16 rfl rfl)
theorem dL_law_970 : decode cL_law 970 = .ok (.iconst 0, 1) := dk_3 (dk_at dksL_law_31 19 rfl rfl)
theorem dL_law_971 : decode cL_law 971 = .ok (.ireturn, 1) := dk_172 (dk_at dksL_law_31 20 rfl rfl)
theorem dL_law_972 : decode cL_law 972 = .ok (.iload 5, 2) := dk_21 5 (dk_at dksL_law_31 21 rfl rfl)
theorem dL_law_974 : decode cL_law 974 = .ok (.ifCond .ne 15, 3) := dk_154 0 15 (dk_at dksL_law_32 0 rfl rfl)
theorem dL_law_977 : decode cL_law 977 = .ok (.aload_n 3, 1) := dk_45 (dk_at dksL_law_32 3 rfl rfl)
theorem dL_law_978 : decode cL_law 978 = .ok (.iconst 0, 1) := dk_3 (dk_at dksL_law_32 4 rfl rfl)
theorem dL_law_979 : decode cL_law 979 = .ok (.laload, 1) := dk_47 (dk_at dksL_law_32 5 rfl rfl)
theorem dL_law_980 : decode cL_law 980 = .ok (.iload 6, 2) := dk_21 6 (dk_at dksL_law_32 6 rfl rfl)
theorem dL_law_982 : decode cL_law 982 = .ok (.i2l, 1) := dk_133 (dk_at dksL_law_32 8 rfl rfl)
theorem dL_law_983 : decode cL_law 983 = .ok (.lcmp, 1) := dk_148 (dk_at dksL_law_32 9 rfl rfl)
theorem dL_law_984 : decode cL_law 984 = .ok (.ifCond .eq 5, 3) := dk_153 0 5 (dk_at dksL_law_32 10 rfl rfl)
theorem dL_law_987 : decode cL_law 987 = .ok (.iconst 0, 1) := dk_3 (dk_at dksL_law_32 13 rfl rfl)
theorem dL_law_988 : decode cL_law 988 = .ok (.ireturn, 1) := dk_172 (dk_at dksL_law_32 14 rfl rfl)
theorem dL_law_989 : decode cL_law 989 = .ok (.goto 1985, 3) := dk_167 7 193 (dk_at dksL_law_32 15 rfl rfl)
theorem dL_law_992 : decode cL_law 992 = .ok (.aload_n 1, 1) := dk_43 (dk_at dksL_law_32 18 rfl rfl)
theorem dL_law_993 : decode cL_law 993 = .ok (.aload_n 0, 1) := dk_42 (dk_at dksL_law_32 19 rfl rfl)
theorem dL_law_994 : decode cL_law 994 = .ok (.iload 4, 2) := dk_21 4 (dk_at dksL_law_32 20 rfl rfl)
theorem dL_law_996 : decode cL_law 996 = .ok (.iconst 1, 1) := dk_4 (dk_at dksL_law_32 22 rfl rfl)
theorem dL_law_997 : decode cL_law 997 = .ok (.iadd, 1) := dk_96 (dk_at dksL_law_32 23 rfl rfl)
theorem dL_law_998 : decode cL_law 998 = .ok (.iaload, 1) := dk_46 (dk_at dksL_law_33 0 rfl rfl)
theorem dL_law_999 : decode cL_law 999 = .ok (.aload_n 3, 1) := dk_45 (dk_at dksL_law_33 1 rfl rfl)
theorem dL_law_1000 : decode cL_law 1000 = .ok (.invokestatic 210, 3) := dk_184 0 210 (dk_at dksL_law_33 2 rfl rfl)
theorem dL_law_1003 : decode cL_law 1003 = .ok (.istore 5, 2) := dk_54 5 (dk_at dksL_law_33 5 rfl rfl)
theorem dL_law_1005 : decode cL_law 1005 = .ok (.aload_n 2, 1) := dk_44 (dk_at dksL_law_33 7 rfl rfl)
theorem dL_law_1006 : decode cL_law 1006 = .ok (.aload_n 0, 1) := dk_42 (dk_at dksL_law_33 8 rfl rfl)
theorem dL_law_1007 : decode cL_law 1007 = .ok (.iload 4, 2) := dk_21 4 (dk_at dksL_law_33 9 rfl rfl)
theorem dL_law_1009 : decode cL_law 1009 = .ok (.iconst 1, 1) := dk_4 (dk_at dksL_law_33 11 rfl rfl)
theorem dL_law_1010 : decode cL_law 1010 = .ok (.iadd, 1) := dk_96 (dk_at dksL_law_33 12 rfl rfl)
theorem dL_law_1011 : decode cL_law 1011 = .ok (.iaload, 1) := dk_46 (dk_at dksL_law_33 13 rfl rfl)
theorem dL_law_1012 : decode cL_law 1012 = .ok (.invokevirtual 212, 3) := dk_182 0 212 (dk_at dksL_law_33 14 rfl rfl)
theorem dL_law_1015 : decode cL_law 1015 = .ok (.istore 6, 2) := dk_54 6 (dk_at dksL_law_33 17 rfl rfl)
theorem dL_law_1017 : decode cL_law 1017 = .ok (.aload_n 2, 1) := dk_44 (dk_at dksL_law_33 19 rfl rfl)
theorem dL_law_1018 : decode cL_law 1018 = .ok (.invokevirtual 160, 3) := dk_182 0 160 (dk_at dksL_law_33 20 rfl rfl)
theorem dL_law_1021 : decode cL_law 1021 = .ok (.iload 5, 2) := dk_21 5 (dk_at dksL_law_34 0 rfl rfl)
theorem dL_law_1023 : decode cL_law 1023 = .ok (.if_icmp .eq 5, 3) := dk_159 0 5 (dk_at dksL_law_34 2 rfl rfl)
theorem dL_law_1026 : decode cL_law 1026 = .ok (.iconst 0, 1) := dk_3 (dk_at dksL_law_34 5 rfl rfl)
theorem dL_law_1027 : decode cL_law 1027 = .ok (.ireturn, 1) := dk_172 (dk_at dksL_law_34 6 rfl rfl)
theorem dL_law_1028 : decode cL_law 1028 = .ok (.iload 5, 2) := dk_21 5 (dk_at dksL_law_34 7 rfl rfl)
theorem dL_law_1030 : decode cL_law 1030 = .ok (.ifCond .ne 22, 3) := dk_154 0 22 (dk_at dksL_law_34 9 rfl rfl)
theorem dL_law_1033 : decode cL_law 1033 = .ok (.aload_n 3, 1) := dk_45 (dk_at dksL_law_34 12 rfl rfl)
theorem dL_law_1034 : decode cL_law 1034 = .ok (.iconst 0, 1) := dk_3 (dk_at dksL_law_34 13 rfl rfl)
theorem dL_law_1035 : decode cL_law 1035 = .ok (.laload, 1) := dk_47 (dk_at dksL_law_34 14 rfl rfl)
theorem dL_law_1036 : decode cL_law 1036 = .ok (.iload 6, 2) := dk_21 6 (dk_at dksL_law_34 15 rfl rfl)
theorem dL_law_1038 : decode cL_law 1038 = .ok (.ifCond .eq 7, 3) := dk_153 0 7 (dk_at dksL_law_34 17 rfl rfl)
theorem dL_law_1041 : decode cL_law 1041 = .ok (.lconst 1, 1) := dk_10 (dk_at dksL_law_34 20 rfl rfl)
theorem dL_law_1042 : decode cL_law 1042 = .ok (.goto 4, 3) := dk_167 0 4 (dk_at dksL_law_34 21 rfl rfl)
theorem dL_law_1045 : decode cL_law 1045 = .ok (.lconst 0, 1) := dk_9 (dk_at dksL_law_35 0 rfl rfl)
theorem dL_law_1046 : decode cL_law 1046 = .ok (.lcmp, 1) := dk_148 (dk_at dksL_law_35 1 rfl rfl)
theorem dL_law_1047 : decode cL_law 1047 = .ok (.ifCond .eq 5, 3) := dk_153 0 5 (dk_at dksL_law_35 2 rfl rfl)
theorem dL_law_1050 : decode cL_law 1050 = .ok (.iconst 0, 1) := dk_3 (dk_at dksL_law_35 5 rfl rfl)
theorem dL_law_1051 : decode cL_law 1051 = .ok (.ireturn, 1) := dk_172 (dk_at dksL_law_35 6 rfl rfl)
theorem dL_law_1052 : decode cL_law 1052 = .ok (.goto 1922, 3) := dk_167 7 130 (dk_at dksL_law_35 7 rfl rfl)
theorem dL_law_1055 : decode cL_law 1055 = .ok (.aload_n 1, 1) := dk_43 (dk_at dksL_law_35 10 rfl rfl)
theorem dL_law_1056 : decode cL_law 1056 = .ok (.aload_n 0, 1) := dk_42 (dk_at dksL_law_35 11 rfl rfl)
theorem dL_law_1057 : decode cL_law 1057 = .ok (.iload 4, 2) := dk_21 4 (dk_at dksL_law_35 12 rfl rfl)
theorem dL_law_1059 : decode cL_law 1059 = .ok (.iconst 1, 1) := dk_4 (dk_at dksL_law_35 14 rfl rfl)
theorem dL_law_1060 : decode cL_law 1060 = .ok (.iadd, 1) := dk_96 (dk_at dksL_law_35 15 rfl rfl)
theorem dL_law_1061 : decode cL_law 1061 = .ok (.iaload, 1) := dk_46 (dk_at dksL_law_35 16 rfl rfl)
theorem dL_law_1062 : decode cL_law 1062 = .ok (.aload_n 3, 1) := dk_45 (dk_at dksL_law_35 17 rfl rfl)
theorem dL_law_1063 : decode cL_law 1063 = .ok (.invokestatic 213, 3) := dk_184 0 213 (dk_at dksL_law_35 18 rfl rfl)
theorem dL_law_1066 : decode cL_law 1066 = .ok (.istore 5, 2) := dk_54 5 (dk_at dksL_law_35 21 rfl rfl)
theorem dL_law_1068 : decode cL_law 1068 = .ok (.aload_n 2, 1) := dk_44 (dk_at dksL_law_35 23 rfl rfl)
theorem dL_law_1069 : decode cL_law 1069 = .ok (.aload_n 0, 1) := dk_42 (dk_at dksL_law_36 0 rfl rfl)
theorem dL_law_1070 : decode cL_law 1070 = .ok (.iload 4, 2) := dk_21 4 (dk_at dksL_law_36 1 rfl rfl)
theorem dL_law_1072 : decode cL_law 1072 = .ok (.iconst 1, 1) := dk_4 (dk_at dksL_law_36 3 rfl rfl)
theorem dL_law_1073 : decode cL_law 1073 = .ok (.iadd, 1) := dk_96 (dk_at dksL_law_36 4 rfl rfl)
theorem dL_law_1074 : decode cL_law 1074 = .ok (.iaload, 1) := dk_46 (dk_at dksL_law_36 5 rfl rfl)
theorem dL_law_1075 : decode cL_law 1075 = .ok (.invokevirtual 215, 3) := dk_182 0 215 (dk_at dksL_law_36 6 rfl rfl)
theorem dL_law_1078 : decode cL_law 1078 = .ok (.istore 6, 2) := dk_54 6 (dk_at dksL_law_36 9 rfl rfl)
theorem dL_law_1080 : decode cL_law 1080 = .ok (.aload_n 2, 1) := dk_44 (dk_at dksL_law_36 11 rfl rfl)
theorem dL_law_1081 : decode cL_law 1081 = .ok (.invokevirtual 160, 3) := dk_182 0 160 (dk_at dksL_law_36 12 rfl rfl)
theorem dL_law_1084 : decode cL_law 1084 = .ok (.iload 5, 2) := dk_21 5 (dk_at dksL_law_36 15 rfl rfl)
theorem dL_law_1086 : decode cL_law 1086 = .ok (.if_icmp .eq 5, 3) := dk_159 0 5 (dk_at dksL_law_36 17 rfl rfl)
theorem dL_law_1089 : decode cL_law 1089 = .ok (.iconst 0, 1) := dk_3 (dk_at dksL_law_36 20 rfl rfl)
theorem dL_law_1090 : decode cL_law 1090 = .ok (.ireturn, 1) := dk_172 (dk_at dksL_law_36 21 rfl rfl)
theorem dL_law_1091 : decode cL_law 1091 = .ok (.iload 5, 2) := dk_21 5 (dk_at dksL_law_36 22 rfl rfl)
theorem dL_law_1093 : decode cL_law 1093 = .ok (.ifCond .ne 22, 3) := dk_154 0 22 (dk_at dksL_law_37 0 rfl rfl)
theorem dL_law_1096 : decode cL_law 1096 = .ok (.aload_n 3, 1) := dk_45 (dk_at dksL_law_37 3 rfl rfl)
theorem dL_law_1097 : decode cL_law 1097 = .ok (.iconst 0, 1) := dk_3 (dk_at dksL_law_37 4 rfl rfl)
theorem dL_law_1098 : decode cL_law 1098 = .ok (.laload, 1) := dk_47 (dk_at dksL_law_37 5 rfl rfl)
theorem dL_law_1099 : decode cL_law 1099 = .ok (.iload 6, 2) := dk_21 6 (dk_at dksL_law_37 6 rfl rfl)
theorem dL_law_1101 : decode cL_law 1101 = .ok (.ifCond .eq 7, 3) := dk_153 0 7 (dk_at dksL_law_37 8 rfl rfl)
theorem dL_law_1104 : decode cL_law 1104 = .ok (.lconst 1, 1) := dk_10 (dk_at dksL_law_37 11 rfl rfl)
theorem dL_law_1105 : decode cL_law 1105 = .ok (.goto 4, 3) := dk_167 0 4 (dk_at dksL_law_37 12 rfl rfl)
theorem dL_law_1108 : decode cL_law 1108 = .ok (.lconst 0, 1) := dk_9 (dk_at dksL_law_37 15 rfl rfl)
theorem dL_law_1109 : decode cL_law 1109 = .ok (.lcmp, 1) := dk_148 (dk_at dksL_law_37 16 rfl rfl)
theorem dL_law_1110 : decode cL_law 1110 = .ok (.ifCond .eq 5, 3) := dk_153 0 5 (dk_at dksL_law_37 17 rfl rfl)
theorem dL_law_1113 : decode cL_law 1113 = .ok (.iconst 0, 1) := dk_3 (dk_at dksL_law_37 20 rfl rfl)
theorem dL_law_1114 : decode cL_law 1114 = .ok (.ireturn, 1) := dk_172 (dk_at dksL_law_37 21 rfl rfl)
theorem dL_law_1115 : decode cL_law 1115 = .ok (.goto 1859, 3) := dk_167 7 67 (dk_at dksL_law_38 0 rfl rfl)
theorem dL_law_1118 : decode cL_law 1118 = .ok (.aload_n 1, 1) := dk_43 (dk_at dksL_law_38 3 rfl rfl)
theorem dL_law_1119 : decode cL_law 1119 = .ok (.aload_n 0, 1) := dk_42 (dk_at dksL_law_38 4 rfl rfl)
theorem dL_law_1120 : decode cL_law 1120 = .ok (.iload 4, 2) := dk_21 4 (dk_at dksL_law_38 5 rfl rfl)
theorem dL_law_1122 : decode cL_law 1122 = .ok (.iconst 1, 1) := dk_4 (dk_at dksL_law_38 7 rfl rfl)
theorem dL_law_1123 : decode cL_law 1123 = .ok (.iadd, 1) := dk_96 (dk_at dksL_law_38 8 rfl rfl)
theorem dL_law_1124 : decode cL_law 1124 = .ok (.iaload, 1) := dk_46 (dk_at dksL_law_38 9 rfl rfl)
theorem dL_law_1125 : decode cL_law 1125 = .ok (.aload_n 3, 1) := dk_45 (dk_at dksL_law_38 10 rfl rfl)
theorem dL_law_1126 : decode cL_law 1126 = .ok (.invokestatic 216, 3) := dk_184 0 216 (dk_at dksL_law_38 11 rfl rfl)
theorem dL_law_1129 : decode cL_law 1129 = .ok (.istore 5, 2) := dk_54 5 (dk_at dksL_law_38 14 rfl rfl)
theorem dL_law_1131 : decode cL_law 1131 = .ok (.aload_n 2, 1) := dk_44 (dk_at dksL_law_38 16 rfl rfl)
theorem dL_law_1132 : decode cL_law 1132 = .ok (.aload_n 0, 1) := dk_42 (dk_at dksL_law_38 17 rfl rfl)
theorem dL_law_1133 : decode cL_law 1133 = .ok (.iload 4, 2) := dk_21 4 (dk_at dksL_law_38 18 rfl rfl)
theorem dL_law_1135 : decode cL_law 1135 = .ok (.iconst 1, 1) := dk_4 (dk_at dksL_law_38 20 rfl rfl)
theorem dL_law_1136 : decode cL_law 1136 = .ok (.iadd, 1) := dk_96 (dk_at dksL_law_38 21 rfl rfl)
theorem dL_law_1137 : decode cL_law 1137 = .ok (.iaload, 1) := dk_46 (dk_at dksL_law_38 22 rfl rfl)
theorem dL_law_1138 : decode cL_law 1138 = .ok (.invokevirtual 218, 3) := dk_182 0 218 (dk_at dksL_law_39 0 rfl rfl)
theorem dL_law_1141 : decode cL_law 1141 = .ok (.istore 6, 2) := dk_54 6 (dk_at dksL_law_39 3 rfl rfl)
theorem dL_law_1143 : decode cL_law 1143 = .ok (.aload_n 2, 1) := dk_44 (dk_at dksL_law_39 5 rfl rfl)
theorem dL_law_1144 : decode cL_law 1144 = .ok (.invokevirtual 160, 3) := dk_182 0 160 (dk_at dksL_law_39 6 rfl rfl)
theorem dL_law_1147 : decode cL_law 1147 = .ok (.iload 5, 2) := dk_21 5 (dk_at dksL_law_39 9 rfl rfl)
theorem dL_law_1149 : decode cL_law 1149 = .ok (.if_icmp .eq 5, 3) := dk_159 0 5 (dk_at dksL_law_39 11 rfl rfl)
theorem dL_law_1152 : decode cL_law 1152 = .ok (.iconst 0, 1) := dk_3 (dk_at dksL_law_39 14 rfl rfl)
theorem dL_law_1153 : decode cL_law 1153 = .ok (.ireturn, 1) := dk_172 (dk_at dksL_law_39 15 rfl rfl)
theorem dL_law_1154 : decode cL_law 1154 = .ok (.iload 5, 2) := dk_21 5 (dk_at dksL_law_39 16 rfl rfl)
theorem dL_law_1156 : decode cL_law 1156 = .ok (.ifCond .ne 22, 3) := dk_154 0 22 (dk_at dksL_law_39 18 rfl rfl)
theorem dL_law_1159 : decode cL_law 1159 = .ok (.aload_n 3, 1) := dk_45 (dk_at dksL_law_39 21 rfl rfl)
theorem dL_law_1160 : decode cL_law 1160 = .ok (.iconst 0, 1) := dk_3 (dk_at dksL_law_39 22 rfl rfl)
theorem dL_law_1161 : decode cL_law 1161 = .ok (.laload, 1) := dk_47 (dk_at dksL_law_39 23 rfl rfl)
theorem dL_law_1162 : decode cL_law 1162 = .ok (.iload 6, 2) := dk_21 6 (dk_at dksL_law_40 0 rfl rfl)
theorem dL_law_1164 : decode cL_law 1164 = .ok (.ifCond .eq 7, 3) := dk_153 0 7 (dk_at dksL_law_40 2 rfl rfl)
theorem dL_law_1167 : decode cL_law 1167 = .ok (.lconst 1, 1) := dk_10 (dk_at dksL_law_40 5 rfl rfl)
theorem dL_law_1168 : decode cL_law 1168 = .ok (.goto 4, 3) := dk_167 0 4 (dk_at dksL_law_40 6 rfl rfl)
theorem dL_law_1171 : decode cL_law 1171 = .ok (.lconst 0, 1) := dk_9 (dk_at dksL_law_40 9 rfl rfl)
theorem dL_law_1172 : decode cL_law 1172 = .ok (.lcmp, 1) := dk_148 (dk_at dksL_law_40 10 rfl rfl)
theorem dL_law_1173 : decode cL_law 1173 = .ok (.ifCond .eq 5, 3) := dk_153 0 5 (dk_at dksL_law_40 11 rfl rfl)
theorem dL_law_1176 : decode cL_law 1176 = .ok (.iconst 0, 1) := dk_3 (dk_at dksL_law_40 14 rfl rfl)
theorem dL_law_1177 : decode cL_law 1177 = .ok (.ireturn, 1) := dk_172 (dk_at dksL_law_40 15 rfl rfl)
theorem dL_law_1178 : decode cL_law 1178 = .ok (.goto 1796, 3) := dk_167 7 4 (dk_at dksL_law_40 16 rfl rfl)
theorem dL_law_1181 : decode cL_law 1181 = .ok (.aload_n 1, 1) := dk_43 (dk_at dksL_law_40 19 rfl rfl)
theorem dL_law_1182 : decode cL_law 1182 = .ok (.aload_n 0, 1) := dk_42 (dk_at dksL_law_40 20 rfl rfl)
theorem dL_law_1183 : decode cL_law 1183 = .ok (.iload 4, 2) := dk_21 4 (dk_at dksL_law_40 21 rfl rfl)
theorem dL_law_1185 : decode cL_law 1185 = .ok (.iconst 1, 1) := dk_4 (dk_at dksL_law_40 23 rfl rfl)
theorem dL_law_1186 : decode cL_law 1186 = .ok (.iadd, 1) := dk_96 (dk_at dksL_law_41 0 rfl rfl)
theorem dL_law_1187 : decode cL_law 1187 = .ok (.iaload, 1) := dk_46 (dk_at dksL_law_41 1 rfl rfl)
theorem dL_law_1188 : decode cL_law 1188 = .ok (.aload_n 3, 1) := dk_45 (dk_at dksL_law_41 2 rfl rfl)
theorem dL_law_1189 : decode cL_law 1189 = .ok (.invokestatic 219, 3) := dk_184 0 219 (dk_at dksL_law_41 3 rfl rfl)
theorem dL_law_1192 : decode cL_law 1192 = .ok (.istore 5, 2) := dk_54 5 (dk_at dksL_law_41 6 rfl rfl)
theorem dL_law_1194 : decode cL_law 1194 = .ok (.aload_n 2, 1) := dk_44 (dk_at dksL_law_41 8 rfl rfl)
theorem dL_law_1195 : decode cL_law 1195 = .ok (.aload_n 0, 1) := dk_42 (dk_at dksL_law_41 9 rfl rfl)
theorem dL_law_1196 : decode cL_law 1196 = .ok (.iload 4, 2) := dk_21 4 (dk_at dksL_law_41 10 rfl rfl)
theorem dL_law_1198 : decode cL_law 1198 = .ok (.iconst 1, 1) := dk_4 (dk_at dksL_law_41 12 rfl rfl)
theorem dL_law_1199 : decode cL_law 1199 = .ok (.iadd, 1) := dk_96 (dk_at dksL_law_41 13 rfl rfl)
theorem dL_law_1200 : decode cL_law 1200 = .ok (.iaload, 1) := dk_46 (dk_at dksL_law_41 14 rfl rfl)
theorem dL_law_1201 : decode cL_law 1201 = .ok (.invokevirtual 221, 3) := dk_182 0 221 (dk_at dksL_law_41 15 rfl rfl)
theorem dL_law_1204 : decode cL_law 1204 = .ok (.istore 6, 2) := dk_54 6 (dk_at dksL_law_41 18 rfl rfl)
theorem dL_law_1206 : decode cL_law 1206 = .ok (.aload_n 2, 1) := dk_44 (dk_at dksL_law_41 20 rfl rfl)
theorem dL_law_1207 : decode cL_law 1207 = .ok (.invokevirtual 160, 3) := dk_182 0 160 (dk_at dksL_law_41 21 rfl rfl)
theorem dL_law_1210 : decode cL_law 1210 = .ok (.iload 5, 2) := dk_21 5 (dk_at dksL_law_42 0 rfl rfl)
theorem dL_law_1212 : decode cL_law 1212 = .ok (.if_icmp .eq 5, 3) := dk_159 0 5 (dk_at dksL_law_42 2 rfl rfl)
theorem dL_law_1215 : decode cL_law 1215 = .ok (.iconst 0, 1) := dk_3 (dk_at dksL_law_42 5 rfl rfl)
theorem dL_law_1216 : decode cL_law 1216 = .ok (.ireturn, 1) := dk_172 (dk_at dksL_law_42 6 rfl rfl)
theorem dL_law_1217 : decode cL_law 1217 = .ok (.iload 5, 2) := dk_21 5 (dk_at dksL_law_42 7 rfl rfl)
theorem dL_law_1219 : decode cL_law 1219 = .ok (.ifCond .ne 22, 3) := dk_154 0 22 (dk_at dksL_law_42 9 rfl rfl)
theorem dL_law_1222 : decode cL_law 1222 = .ok (.aload_n 3, 1) := dk_45 (dk_at dksL_law_42 12 rfl rfl)
theorem dL_law_1223 : decode cL_law 1223 = .ok (.iconst 0, 1) := dk_3 (dk_at dksL_law_42 13 rfl rfl)
theorem dL_law_1224 : decode cL_law 1224 = .ok (.laload, 1) := dk_47 (dk_at dksL_law_42 14 rfl rfl)
theorem dL_law_1225 : decode cL_law 1225 = .ok (.iload 6, 2) := dk_21 6 (dk_at dksL_law_42 15 rfl rfl)
theorem dL_law_1227 : decode cL_law 1227 = .ok (.ifCond .eq 7, 3) := dk_153 0 7 (dk_at dksL_law_42 17 rfl rfl)
theorem dL_law_1230 : decode cL_law 1230 = .ok (.lconst 1, 1) := dk_10 (dk_at dksL_law_42 20 rfl rfl)
theorem dL_law_1231 : decode cL_law 1231 = .ok (.goto 4, 3) := dk_167 0 4 (dk_at dksL_law_42 21 rfl rfl)
theorem dL_law_1234 : decode cL_law 1234 = .ok (.lconst 0, 1) := dk_9 (dk_at dksL_law_43 0 rfl rfl)
theorem dL_law_1235 : decode cL_law 1235 = .ok (.lcmp, 1) := dk_148 (dk_at dksL_law_43 1 rfl rfl)
theorem dL_law_1236 : decode cL_law 1236 = .ok (.ifCond .eq 5, 3) := dk_153 0 5 (dk_at dksL_law_43 2 rfl rfl)
theorem dL_law_1239 : decode cL_law 1239 = .ok (.iconst 0, 1) := dk_3 (dk_at dksL_law_43 5 rfl rfl)
theorem dL_law_1240 : decode cL_law 1240 = .ok (.ireturn, 1) := dk_172 (dk_at dksL_law_43 6 rfl rfl)
theorem dL_law_1241 : decode cL_law 1241 = .ok (.goto 1733, 3) := dk_167 6 197 (dk_at dksL_law_43 7 rfl rfl)
theorem dL_law_1244 : decode cL_law 1244 = .ok (.aload_n 1, 1) := dk_43 (dk_at dksL_law_43 10 rfl rfl)
theorem dL_law_1245 : decode cL_law 1245 = .ok (.aload_n 0, 1) := dk_42 (dk_at dksL_law_43 11 rfl rfl)
theorem dL_law_1246 : decode cL_law 1246 = .ok (.iload 4, 2) := dk_21 4 (dk_at dksL_law_43 12 rfl rfl)
theorem dL_law_1248 : decode cL_law 1248 = .ok (.iconst 1, 1) := dk_4 (dk_at dksL_law_43 14 rfl rfl)
theorem dL_law_1249 : decode cL_law 1249 = .ok (.iadd, 1) := dk_96 (dk_at dksL_law_43 15 rfl rfl)
theorem dL_law_1250 : decode cL_law 1250 = .ok (.iaload, 1) := dk_46 (dk_at dksL_law_43 16 rfl rfl)
theorem dL_law_1251 : decode cL_law 1251 = .ok (.aload_n 3, 1) := dk_45 (dk_at dksL_law_43 17 rfl rfl)
theorem dL_law_1252 : decode cL_law 1252 = .ok (.invokestatic 222, 3) := dk_184 0 222 (dk_at dksL_law_43 18 rfl rfl)
theorem dL_law_1255 : decode cL_law 1255 = .ok (.istore 5, 2) := dk_54 5 (dk_at dksL_law_43 21 rfl rfl)
theorem dL_law_1257 : decode cL_law 1257 = .ok (.aload_n 2, 1) := dk_44 (dk_at dksL_law_43 23 rfl rfl)
theorem dL_law_1258 : decode cL_law 1258 = .ok (.aload_n 0, 1) := dk_42 (dk_at dksL_law_44 0 rfl rfl)
theorem dL_law_1259 : decode cL_law 1259 = .ok (.iload 4, 2) := dk_21 4 (dk_at dksL_law_44 1 rfl rfl)
theorem dL_law_1261 : decode cL_law 1261 = .ok (.iconst 1, 1) := dk_4 (dk_at dksL_law_44 3 rfl rfl)
theorem dL_law_1262 : decode cL_law 1262 = .ok (.iadd, 1) := dk_96 (dk_at dksL_law_44 4 rfl rfl)
theorem dL_law_1263 : decode cL_law 1263 = .ok (.iaload, 1) := dk_46 (dk_at dksL_law_44 5 rfl rfl)
theorem dL_law_1264 : decode cL_law 1264 = .ok (.invokevirtual 224, 3) := dk_182 0 224 (dk_at dksL_law_44 6 rfl rfl)
theorem dL_law_1267 : decode cL_law 1267 = .ok (.istore 6, 2) := dk_54 6 (dk_at dksL_law_44 9 rfl rfl)
theorem dL_law_1269 : decode cL_law 1269 = .ok (.aload_n 2, 1) := dk_44 (dk_at dksL_law_44 11 rfl rfl)
theorem dL_law_1270 : decode cL_law 1270 = .ok (.invokevirtual 160, 3) := dk_182 0 160 (dk_at dksL_law_44 12 rfl rfl)
theorem dL_law_1273 : decode cL_law 1273 = .ok (.iload 5, 2) := dk_21 5 (dk_at dksL_law_44 15 rfl rfl)
theorem dL_law_1275 : decode cL_law 1275 = .ok (.if_icmp .eq 5, 3) := dk_159 0 5 (dk_at dksL_law_44 17 rfl rfl)
theorem dL_law_1278 : decode cL_law 1278 = .ok (.iconst 0, 1) := dk_3 (dk_at dksL_law_44 20 rfl rfl)
theorem dL_law_1279 : decode cL_law 1279 = .ok (.ireturn, 1) := dk_172 (dk_at dksL_law_44 21 rfl rfl)
theorem dL_law_1280 : decode cL_law 1280 = .ok (.iload 5, 2) := dk_21 5 (dk_at dksL_law_44 22 rfl rfl)
theorem dL_law_1282 : decode cL_law 1282 = .ok (.ifCond .ne 15, 3) := dk_154 0 15 (dk_at dksL_law_45 0 rfl rfl)
theorem dL_law_1285 : decode cL_law 1285 = .ok (.aload_n 3, 1) := dk_45 (dk_at dksL_law_45 3 rfl rfl)
theorem dL_law_1286 : decode cL_law 1286 = .ok (.iconst 0, 1) := dk_3 (dk_at dksL_law_45 4 rfl rfl)
theorem dL_law_1287 : decode cL_law 1287 = .ok (.laload, 1) := dk_47 (dk_at dksL_law_45 5 rfl rfl)
theorem dL_law_1288 : decode cL_law 1288 = .ok (.iload 6, 2) := dk_21 6 (dk_at dksL_law_45 6 rfl rfl)
theorem dL_law_1290 : decode cL_law 1290 = .ok (.i2l, 1) := dk_133 (dk_at dksL_law_45 8 rfl rfl)
theorem dL_law_1291 : decode cL_law 1291 = .ok (.lcmp, 1) := dk_148 (dk_at dksL_law_45 9 rfl rfl)
theorem dL_law_1292 : decode cL_law 1292 = .ok (.ifCond .eq 5, 3) := dk_153 0 5 (dk_at dksL_law_45 10 rfl rfl)
theorem dL_law_1295 : decode cL_law 1295 = .ok (.iconst 0, 1) := dk_3 (dk_at dksL_law_45 13 rfl rfl)
theorem dL_law_1296 : decode cL_law 1296 = .ok (.ireturn, 1) := dk_172 (dk_at dksL_law_45 14 rfl rfl)
theorem dL_law_1297 : decode cL_law 1297 = .ok (.goto 1677, 3) := dk_167 6 141 (dk_at dksL_law_45 15 rfl rfl)
theorem dL_law_1300 : decode cL_law 1300 = .ok (.aload_n 1, 1) := dk_43 (dk_at dksL_law_45 18 rfl rfl)
theorem dL_law_1301 : decode cL_law 1301 = .ok (.aload_n 0, 1) := dk_42 (dk_at dksL_law_45 19 rfl rfl)
theorem dL_law_1302 : decode cL_law 1302 = .ok (.iload 4, 2) := dk_21 4 (dk_at dksL_law_45 20 rfl rfl)
theorem dL_law_1304 : decode cL_law 1304 = .ok (.iconst 1, 1) := dk_4 (dk_at dksL_law_45 22 rfl rfl)
theorem dL_law_1305 : decode cL_law 1305 = .ok (.iadd, 1) := dk_96 (dk_at dksL_law_45 23 rfl rfl)
theorem dL_law_1306 : decode cL_law 1306 = .ok (.iaload, 1) := dk_46 (dk_at dksL_law_46 0 rfl rfl)
theorem dL_law_1307 : decode cL_law 1307 = .ok (.aload_n 3, 1) := dk_45 (dk_at dksL_law_46 1 rfl rfl)
theorem dL_law_1308 : decode cL_law 1308 = .ok (.invokestatic 225, 3) := dk_184 0 225 (dk_at dksL_law_46 2 rfl rfl)
theorem dL_law_1311 : decode cL_law 1311 = .ok (.istore 5, 2) := dk_54 5 (dk_at dksL_law_46 5 rfl rfl)
theorem dL_law_1313 : decode cL_law 1313 = .ok (.aload_n 2, 1) := dk_44 (dk_at dksL_law_46 7 rfl rfl)
theorem dL_law_1314 : decode cL_law 1314 = .ok (.aload_n 0, 1) := dk_42 (dk_at dksL_law_46 8 rfl rfl)
theorem dL_law_1315 : decode cL_law 1315 = .ok (.iload 4, 2) := dk_21 4 (dk_at dksL_law_46 9 rfl rfl)
theorem dL_law_1317 : decode cL_law 1317 = .ok (.iconst 1, 1) := dk_4 (dk_at dksL_law_46 11 rfl rfl)
theorem dL_law_1318 : decode cL_law 1318 = .ok (.iadd, 1) := dk_96 (dk_at dksL_law_46 12 rfl rfl)
theorem dL_law_1319 : decode cL_law 1319 = .ok (.iaload, 1) := dk_46 (dk_at dksL_law_46 13 rfl rfl)
theorem dL_law_1320 : decode cL_law 1320 = .ok (.invokevirtual 227, 3) := dk_182 0 227 (dk_at dksL_law_46 14 rfl rfl)
theorem dL_law_1323 : decode cL_law 1323 = .ok (.istore 6, 2) := dk_54 6 (dk_at dksL_law_46 17 rfl rfl)
theorem dL_law_1325 : decode cL_law 1325 = .ok (.aload_n 2, 1) := dk_44 (dk_at dksL_law_46 19 rfl rfl)
theorem dL_law_1326 : decode cL_law 1326 = .ok (.invokevirtual 160, 3) := dk_182 0 160 (dk_at dksL_law_46 20 rfl rfl)
theorem dL_law_1329 : decode cL_law 1329 = .ok (.iload 5, 2) := dk_21 5 (dk_at dksL_law_47 0 rfl rfl)
theorem dL_law_1331 : decode cL_law 1331 = .ok (.if_icmp .eq 5, 3) := dk_159 0 5 (dk_at dksL_law_47 2 rfl rfl)
theorem dL_law_1334 : decode cL_law 1334 = .ok (.iconst 0, 1) := dk_3 (dk_at dksL_law_47 5 rfl rfl)
theorem dL_law_1335 : decode cL_law 1335 = .ok (.ireturn, 1) := dk_172 (dk_at dksL_law_47 6 rfl rfl)
theorem dL_law_1336 : decode cL_law 1336 = .ok (.iload 5, 2) := dk_21 5 (dk_at dksL_law_47 7 rfl rfl)
theorem dL_law_1338 : decode cL_law 1338 = .ok (.ifCond .ne 15, 3) := dk_154 0 15 (dk_at dksL_law_47 9 rfl rfl)
theorem dL_law_1341 : decode cL_law 1341 = .ok (.aload_n 3, 1) := dk_45 (dk_at dksL_law_47 12 rfl rfl)
theorem dL_law_1342 : decode cL_law 1342 = .ok (.iconst 0, 1) := dk_3 (dk_at dksL_law_47 13 rfl rfl)
theorem dL_law_1343 : decode cL_law 1343 = .ok (.laload, 1) := dk_47 (dk_at dksL_law_47 14 rfl rfl)
theorem dL_law_1344 : decode cL_law 1344 = .ok (.iload 6, 2) := dk_21 6 (dk_at dksL_law_47 15 rfl rfl)
theorem dL_law_1346 : decode cL_law 1346 = .ok (.i2l, 1) := dk_133 (dk_at dksL_law_47 17 rfl rfl)
theorem dL_law_1347 : decode cL_law 1347 = .ok (.lcmp, 1) := dk_148 (dk_at dksL_law_47 18 rfl rfl)
theorem dL_law_1348 : decode cL_law 1348 = .ok (.ifCond .eq 5, 3) := dk_153 0 5 (dk_at dksL_law_47 19 rfl rfl)
theorem dL_law_1351 : decode cL_law 1351 = .ok (.iconst 0, 1) := dk_3 (dk_at dksL_law_47 22 rfl rfl)
theorem dL_law_1352 : decode cL_law 1352 = .ok (.ireturn, 1) := dk_172 (dk_at dksL_law_47 23 rfl rfl)
theorem dL_law_1353 : decode cL_law 1353 = .ok (.goto 1621, 3) := dk_167 6 85 (dk_at dksL_law_48 0 rfl rfl)
theorem dL_law_1356 : decode cL_law 1356 = .ok (.aload_n 1, 1) := dk_43 (dk_at dksL_law_48 3 rfl rfl)
theorem dL_law_1357 : decode cL_law 1357 = .ok (.invokevirtual 228, 3) := dk_182 0 228 (dk_at dksL_law_48 4 rfl rfl)
theorem dL_law_1360 : decode cL_law 1360 = .ok (.aload_n 2, 1) := dk_44 (dk_at dksL_law_48 7 rfl rfl)
theorem dL_law_1361 : decode cL_law 1361 = .ok (.invokevirtual 231, 3) := dk_182 0 231 (dk_at dksL_law_48 8 rfl rfl)
theorem dL_law_1364 : decode cL_law 1364 = .ok (.if_icmp .eq 1610, 3) := dk_159 6 74 (dk_at dksL_law_48 11 rfl rfl)
theorem dL_law_1367 : decode cL_law 1367 = .ok (.iconst 0, 1) := dk_3 (dk_at dksL_law_48 14 rfl rfl)
theorem dL_law_1368 : decode cL_law 1368 = .ok (.ireturn, 1) := dk_172 (dk_at dksL_law_48 15 rfl rfl)
theorem dL_law_1369 : decode cL_law 1369 = .ok (.aload_n 1, 1) := dk_43 (dk_at dksL_law_48 16 rfl rfl)
theorem dL_law_1370 : decode cL_law 1370 = .ok (.aload_n 0, 1) := dk_42 (dk_at dksL_law_48 17 rfl rfl)
theorem dL_law_1371 : decode cL_law 1371 = .ok (.iload 4, 2) := dk_21 4 (dk_at dksL_law_48 18 rfl rfl)
theorem dL_law_1373 : decode cL_law 1373 = .ok (.iconst 1, 1) := dk_4 (dk_at dksL_law_48 20 rfl rfl)
theorem dL_law_1374 : decode cL_law 1374 = .ok (.iadd, 1) := dk_96 (dk_at dksL_law_48 21 rfl rfl)
theorem dL_law_1375 : decode cL_law 1375 = .ok (.iaload, 1) := dk_46 (dk_at dksL_law_48 22 rfl rfl)
theorem dL_law_1376 : decode cL_law 1376 = .ok (.aload_n 3, 1) := dk_45 (dk_at dksL_law_48 23 rfl rfl)
theorem dL_law_1377 : decode cL_law 1377 = .ok (.invokestatic 232, 3) := dk_184 0 232 (dk_at dksL_law_49 0 rfl rfl)
theorem dL_law_1380 : decode cL_law 1380 = .ok (.istore 5, 2) := dk_54 5 (dk_at dksL_law_49 3 rfl rfl)
theorem dL_law_1382 : decode cL_law 1382 = .ok (.aload_n 2, 1) := dk_44 (dk_at dksL_law_49 5 rfl rfl)
theorem dL_law_1383 : decode cL_law 1383 = .ok (.aload_n 0, 1) := dk_42 (dk_at dksL_law_49 6 rfl rfl)
theorem dL_law_1384 : decode cL_law 1384 = .ok (.iload 4, 2) := dk_21 4 (dk_at dksL_law_49 7 rfl rfl)
theorem dL_law_1386 : decode cL_law 1386 = .ok (.iconst 1, 1) := dk_4 (dk_at dksL_law_49 9 rfl rfl)
theorem dL_law_1387 : decode cL_law 1387 = .ok (.iadd, 1) := dk_96 (dk_at dksL_law_49 10 rfl rfl)
theorem dL_law_1388 : decode cL_law 1388 = .ok (.iaload, 1) := dk_46 (dk_at dksL_law_49 11 rfl rfl)
theorem dL_law_1389 : decode cL_law 1389 = .ok (.invokevirtual 234, 3) := dk_182 0 234 (dk_at dksL_law_49 12 rfl rfl)
theorem dL_law_1392 : decode cL_law 1392 = .ok (.istore 6, 2) := dk_54 6 (dk_at dksL_law_49 15 rfl rfl)
theorem dL_law_1394 : decode cL_law 1394 = .ok (.aload_n 2, 1) := dk_44 (dk_at dksL_law_49 17 rfl rfl)
theorem dL_law_1395 : decode cL_law 1395 = .ok (.invokevirtual 160, 3) := dk_182 0 160 (dk_at dksL_law_49 18 rfl rfl)
theorem dL_law_1398 : decode cL_law 1398 = .ok (.iload 5, 2) := dk_21 5 (dk_at dksL_law_49 21 rfl rfl)
theorem dL_law_1400 : decode cL_law 1400 = .ok (.if_icmp .eq 5, 3) := dk_159 0 5 (dk_at dksL_law_50 0 rfl rfl)
theorem dL_law_1403 : decode cL_law 1403 = .ok (.iconst 0, 1) := dk_3 (dk_at dksL_law_50 3 rfl rfl)
theorem dL_law_1404 : decode cL_law 1404 = .ok (.ireturn, 1) := dk_172 (dk_at dksL_law_50 4 rfl rfl)
theorem dL_law_1405 : decode cL_law 1405 = .ok (.iload 5, 2) := dk_21 5 (dk_at dksL_law_50 5 rfl rfl)
theorem dL_law_1407 : decode cL_law 1407 = .ok (.ifCond .ne 15, 3) := dk_154 0 15 (dk_at dksL_law_50 7 rfl rfl)
theorem dL_law_1410 : decode cL_law 1410 = .ok (.aload_n 3, 1) := dk_45 (dk_at dksL_law_50 10 rfl rfl)
theorem dL_law_1411 : decode cL_law 1411 = .ok (.iconst 0, 1) := dk_3 (dk_at dksL_law_50 11 rfl rfl)
theorem dL_law_1412 : decode cL_law 1412 = .ok (.laload, 1) := dk_47 (dk_at dksL_law_50 12 rfl rfl)
theorem dL_law_1413 : decode cL_law 1413 = .ok (.iload 6, 2) := dk_21 6 (dk_at dksL_law_50 13 rfl rfl)
theorem dL_law_1415 : decode cL_law 1415 = .ok (.i2l, 1) := dk_133 (dk_at dksL_law_50 15 rfl rfl)
theorem dL_law_1416 : decode cL_law 1416 = .ok (.lcmp, 1) := dk_148 (dk_at dksL_law_50 16 rfl rfl)
theorem dL_law_1417 : decode cL_law 1417 = .ok (.ifCond .eq 5, 3) := dk_153 0 5 (dk_at dksL_law_50 17 rfl rfl)
theorem dL_law_1420 : decode cL_law 1420 = .ok (.iconst 0, 1) := dk_3 (dk_at dksL_law_50 20 rfl rfl)
theorem dL_law_1421 : decode cL_law 1421 = .ok (.ireturn, 1) := dk_172 (dk_at dksL_law_50 21 rfl rfl)
theorem dL_law_1422 : decode cL_law 1422 = .ok (.goto 1552, 3) := dk_167 6 16 (dk_at dksL_law_51 0 rfl rfl)
theorem dL_law_1425 : decode cL_law 1425 = .ok (.aload_n 1, 1) := dk_43 (dk_at dksL_law_51 3 rfl rfl)
theorem dL_law_1426 : decode cL_law 1426 = .ok (.aload_n 0, 1) := dk_42 (dk_at dksL_law_51 4 rfl rfl)
theorem dL_law_1427 : decode cL_law 1427 = .ok (.iload 4, 2) := dk_21 4 (dk_at dksL_law_51 5 rfl rfl)
theorem dL_law_1429 : decode cL_law 1429 = .ok (.iconst 1, 1) := dk_4 (dk_at dksL_law_51 7 rfl rfl)
theorem dL_law_1430 : decode cL_law 1430 = .ok (.iadd, 1) := dk_96 (dk_at dksL_law_51 8 rfl rfl)
theorem dL_law_1431 : decode cL_law 1431 = .ok (.iaload, 1) := dk_46 (dk_at dksL_law_51 9 rfl rfl)
theorem dL_law_1432 : decode cL_law 1432 = .ok (.aload_n 3, 1) := dk_45 (dk_at dksL_law_51 10 rfl rfl)
theorem dL_law_1433 : decode cL_law 1433 = .ok (.invokestatic 235, 3) := dk_184 0 235 (dk_at dksL_law_51 11 rfl rfl)
theorem dL_law_1436 : decode cL_law 1436 = .ok (.istore 5, 2) := dk_54 5 (dk_at dksL_law_51 14 rfl rfl)
theorem dL_law_1438 : decode cL_law 1438 = .ok (.aload_n 2, 1) := dk_44 (dk_at dksL_law_51 16 rfl rfl)
theorem dL_law_1439 : decode cL_law 1439 = .ok (.aload_n 0, 1) := dk_42 (dk_at dksL_law_51 17 rfl rfl)
theorem dL_law_1440 : decode cL_law 1440 = .ok (.iload 4, 2) := dk_21 4 (dk_at dksL_law_51 18 rfl rfl)
theorem dL_law_1442 : decode cL_law 1442 = .ok (.iconst 1, 1) := dk_4 (dk_at dksL_law_51 20 rfl rfl)
theorem dL_law_1443 : decode cL_law 1443 = .ok (.iadd, 1) := dk_96 (dk_at dksL_law_51 21 rfl rfl)
theorem dL_law_1444 : decode cL_law 1444 = .ok (.iaload, 1) := dk_46 (dk_at dksL_law_51 22 rfl rfl)
theorem dL_law_1445 : decode cL_law 1445 = .ok (.invokevirtual 237, 3) := dk_182 0 237 (dk_at dksL_law_52 0 rfl rfl)
theorem dL_law_1448 : decode cL_law 1448 = .ok (.istore 6, 2) := dk_54 6 (dk_at dksL_law_52 3 rfl rfl)
theorem dL_law_1450 : decode cL_law 1450 = .ok (.aload_n 2, 1) := dk_44 (dk_at dksL_law_52 5 rfl rfl)
theorem dL_law_1451 : decode cL_law 1451 = .ok (.invokevirtual 160, 3) := dk_182 0 160 (dk_at dksL_law_52 6 rfl rfl)
theorem dL_law_1454 : decode cL_law 1454 = .ok (.iload 5, 2) := dk_21 5 (dk_at dksL_law_52 9 rfl rfl)
theorem dL_law_1456 : decode cL_law 1456 = .ok (.if_icmp .eq 5, 3) := dk_159 0 5 (dk_at dksL_law_52 11 rfl rfl)
theorem dL_law_1459 : decode cL_law 1459 = .ok (.iconst 0, 1) := dk_3 (dk_at dksL_law_52 14 rfl rfl)
theorem dL_law_1460 : decode cL_law 1460 = .ok (.ireturn, 1) := dk_172 (dk_at dksL_law_52 15 rfl rfl)
theorem dL_law_1461 : decode cL_law 1461 = .ok (.iload 5, 2) := dk_21 5 (dk_at dksL_law_52 16 rfl rfl)
theorem dL_law_1463 : decode cL_law 1463 = .ok (.ifCond .ne 22, 3) := dk_154 0 22 (dk_at dksL_law_52 18 rfl rfl)
theorem dL_law_1466 : decode cL_law 1466 = .ok (.aload_n 3, 1) := dk_45 (dk_at dksL_law_52 21 rfl rfl)
theorem dL_law_1467 : decode cL_law 1467 = .ok (.iconst 0, 1) := dk_3 (dk_at dksL_law_52 22 rfl rfl)
theorem dL_law_1468 : decode cL_law 1468 = .ok (.laload, 1) := dk_47 (dk_at dksL_law_52 23 rfl rfl)
theorem dL_law_1469 : decode cL_law 1469 = .ok (.iload 6, 2) := dk_21 6 (dk_at dksL_law_53 0 rfl rfl)
theorem dL_law_1471 : decode cL_law 1471 = .ok (.ifCond .eq 7, 3) := dk_153 0 7 (dk_at dksL_law_53 2 rfl rfl)
theorem dL_law_1474 : decode cL_law 1474 = .ok (.lconst 1, 1) := dk_10 (dk_at dksL_law_53 5 rfl rfl)
theorem dL_law_1475 : decode cL_law 1475 = .ok (.goto 4, 3) := dk_167 0 4 (dk_at dksL_law_53 6 rfl rfl)
theorem dL_law_1478 : decode cL_law 1478 = .ok (.lconst 0, 1) := dk_9 (dk_at dksL_law_53 9 rfl rfl)
theorem dL_law_1479 : decode cL_law 1479 = .ok (.lcmp, 1) := dk_148 (dk_at dksL_law_53 10 rfl rfl)
theorem dL_law_1480 : decode cL_law 1480 = .ok (.ifCond .eq 5, 3) := dk_153 0 5 (dk_at dksL_law_53 11 rfl rfl)
theorem dL_law_1483 : decode cL_law 1483 = .ok (.iconst 0, 1) := dk_3 (dk_at dksL_law_53 14 rfl rfl)
theorem dL_law_1484 : decode cL_law 1484 = .ok (.ireturn, 1) := dk_172 (dk_at dksL_law_53 15 rfl rfl)
theorem dL_law_1485 : decode cL_law 1485 = .ok (.goto 1489, 3) := dk_167 5 209 (dk_at dksL_law_53 16 rfl rfl)
theorem dL_law_1488 : decode cL_law 1488 = .ok (.aload_n 1, 1) := dk_43 (dk_at dksL_law_53 19 rfl rfl)
theorem dL_law_1489 : decode cL_law 1489 = .ok (.aload_n 0, 1) := dk_42 (dk_at dksL_law_53 20 rfl rfl)
theorem dL_law_1490 : decode cL_law 1490 = .ok (.iload 4, 2) := dk_21 4 (dk_at dksL_law_53 21 rfl rfl)
theorem dL_law_1492 : decode cL_law 1492 = .ok (.iconst 1, 1) := dk_4 (dk_at dksL_law_53 23 rfl rfl)
theorem dL_law_1493 : decode cL_law 1493 = .ok (.iadd, 1) := dk_96 (dk_at dksL_law_54 0 rfl rfl)
theorem dL_law_1494 : decode cL_law 1494 = .ok (.iaload, 1) := dk_46 (dk_at dksL_law_54 1 rfl rfl)
theorem dL_law_1495 : decode cL_law 1495 = .ok (.aload_n 3, 1) := dk_45 (dk_at dksL_law_54 2 rfl rfl)
theorem dL_law_1496 : decode cL_law 1496 = .ok (.invokestatic 238, 3) := dk_184 0 238 (dk_at dksL_law_54 3 rfl rfl)
theorem dL_law_1499 : decode cL_law 1499 = .ok (.istore 5, 2) := dk_54 5 (dk_at dksL_law_54 6 rfl rfl)
theorem dL_law_1501 : decode cL_law 1501 = .ok (.aload_n 2, 1) := dk_44 (dk_at dksL_law_54 8 rfl rfl)
theorem dL_law_1502 : decode cL_law 1502 = .ok (.aload_n 0, 1) := dk_42 (dk_at dksL_law_54 9 rfl rfl)
theorem dL_law_1503 : decode cL_law 1503 = .ok (.iload 4, 2) := dk_21 4 (dk_at dksL_law_54 10 rfl rfl)
theorem dL_law_1505 : decode cL_law 1505 = .ok (.iconst 1, 1) := dk_4 (dk_at dksL_law_54 12 rfl rfl)
theorem dL_law_1506 : decode cL_law 1506 = .ok (.iadd, 1) := dk_96 (dk_at dksL_law_54 13 rfl rfl)
theorem dL_law_1507 : decode cL_law 1507 = .ok (.iaload, 1) := dk_46 (dk_at dksL_law_54 14 rfl rfl)
theorem dL_law_1508 : decode cL_law 1508 = .ok (.invokevirtual 240, 3) := dk_182 0 240 (dk_at dksL_law_54 15 rfl rfl)
theorem dL_law_1511 : decode cL_law 1511 = .ok (.istore 6, 2) := dk_54 6 (dk_at dksL_law_54 18 rfl rfl)
theorem dL_law_1513 : decode cL_law 1513 = .ok (.aload_n 2, 1) := dk_44 (dk_at dksL_law_54 20 rfl rfl)
theorem dL_law_1514 : decode cL_law 1514 = .ok (.invokevirtual 160, 3) := dk_182 0 160 (dk_at dksL_law_54 21 rfl rfl)
theorem dL_law_1517 : decode cL_law 1517 = .ok (.iload 5, 2) := dk_21 5 (dk_at dksL_law_55 0 rfl rfl)
theorem dL_law_1519 : decode cL_law 1519 = .ok (.if_icmp .eq 5, 3) := dk_159 0 5 (dk_at dksL_law_55 2 rfl rfl)
theorem dL_law_1522 : decode cL_law 1522 = .ok (.iconst 0, 1) := dk_3 (dk_at dksL_law_55 5 rfl rfl)
theorem dL_law_1523 : decode cL_law 1523 = .ok (.ireturn, 1) := dk_172 (dk_at dksL_law_55 6 rfl rfl)
theorem dL_law_1524 : decode cL_law 1524 = .ok (.iload 5, 2) := dk_21 5 (dk_at dksL_law_55 7 rfl rfl)
theorem dL_law_1526 : decode cL_law 1526 = .ok (.ifCond .ne 15, 3) := dk_154 0 15 (dk_at dksL_law_55 9 rfl rfl)
theorem dL_law_1529 : decode cL_law 1529 = .ok (.aload_n 3, 1) := dk_45 (dk_at dksL_law_55 12 rfl rfl)
theorem dL_law_1530 : decode cL_law 1530 = .ok (.iconst 0, 1) := dk_3 (dk_at dksL_law_55 13 rfl rfl)
theorem dL_law_1531 : decode cL_law 1531 = .ok (.laload, 1) := dk_47 (dk_at dksL_law_55 14 rfl rfl)
theorem dL_law_1532 : decode cL_law 1532 = .ok (.iload 6, 2) := dk_21 6 (dk_at dksL_law_55 15 rfl rfl)
theorem dL_law_1534 : decode cL_law 1534 = .ok (.i2l, 1) := dk_133 (dk_at dksL_law_55 17 rfl rfl)
theorem dL_law_1535 : decode cL_law 1535 = .ok (.lcmp, 1) := dk_148 (dk_at dksL_law_55 18 rfl rfl)
theorem dL_law_1536 : decode cL_law 1536 = .ok (.ifCond .eq 5, 3) := dk_153 0 5 (dk_at dksL_law_55 19 rfl rfl)
theorem dL_law_1539 : decode cL_law 1539 = .ok (.iconst 0, 1) := dk_3 (dk_at dksL_law_55 22 rfl rfl)
theorem dL_law_1540 : decode cL_law 1540 = .ok (.ireturn, 1) := dk_172 (dk_at dksL_law_55 23 rfl rfl)
theorem dL_law_1541 : decode cL_law 1541 = .ok (.goto 1433, 3) := dk_167 5 153 (dk_at dksL_law_56 0 rfl rfl)
theorem dL_law_1544 : decode cL_law 1544 = .ok (.aload_n 1, 1) := dk_43 (dk_at dksL_law_56 3 rfl rfl)
theorem dL_law_1545 : decode cL_law 1545 = .ok (.aload_n 0, 1) := dk_42 (dk_at dksL_law_56 4 rfl rfl)
theorem dL_law_1546 : decode cL_law 1546 = .ok (.iload 4, 2) := dk_21 4 (dk_at dksL_law_56 5 rfl rfl)
theorem dL_law_1548 : decode cL_law 1548 = .ok (.iconst 1, 1) := dk_4 (dk_at dksL_law_56 7 rfl rfl)
theorem dL_law_1549 : decode cL_law 1549 = .ok (.iadd, 1) := dk_96 (dk_at dksL_law_56 8 rfl rfl)
theorem dL_law_1550 : decode cL_law 1550 = .ok (.iaload, 1) := dk_46 (dk_at dksL_law_56 9 rfl rfl)
theorem dL_law_1551 : decode cL_law 1551 = .ok (.aload_n 3, 1) := dk_45 (dk_at dksL_law_56 10 rfl rfl)
theorem dL_law_1552 : decode cL_law 1552 = .ok (.invokestatic 241, 3) := dk_184 0 241 (dk_at dksL_law_56 11 rfl rfl)
theorem dL_law_1555 : decode cL_law 1555 = .ok (.istore 5, 2) := dk_54 5 (dk_at dksL_law_56 14 rfl rfl)
theorem dL_law_1557 : decode cL_law 1557 = .ok (.aload_n 2, 1) := dk_44 (dk_at dksL_law_56 16 rfl rfl)
theorem dL_law_1558 : decode cL_law 1558 = .ok (.aload_n 0, 1) := dk_42 (dk_at dksL_law_56 17 rfl rfl)
theorem dL_law_1559 : decode cL_law 1559 = .ok (.iload 4, 2) := dk_21 4 (dk_at dksL_law_56 18 rfl rfl)
theorem dL_law_1561 : decode cL_law 1561 = .ok (.iconst 1, 1) := dk_4 (dk_at dksL_law_56 20 rfl rfl)
theorem dL_law_1562 : decode cL_law 1562 = .ok (.iadd, 1) := dk_96 (dk_at dksL_law_56 21 rfl rfl)
theorem dL_law_1563 : decode cL_law 1563 = .ok (.iaload, 1) := dk_46 (dk_at dksL_law_56 22 rfl rfl)
theorem dL_law_1564 : decode cL_law 1564 = .ok (.invokevirtual 243, 3) := dk_182 0 243 (dk_at dksL_law_57 0 rfl rfl)
theorem dL_law_1567 : decode cL_law 1567 = .ok (.istore 6, 2) := dk_54 6 (dk_at dksL_law_57 3 rfl rfl)
theorem dL_law_1569 : decode cL_law 1569 = .ok (.aload_n 2, 1) := dk_44 (dk_at dksL_law_57 5 rfl rfl)
theorem dL_law_1570 : decode cL_law 1570 = .ok (.invokevirtual 160, 3) := dk_182 0 160 (dk_at dksL_law_57 6 rfl rfl)
theorem dL_law_1573 : decode cL_law 1573 = .ok (.iload 5, 2) := dk_21 5 (dk_at dksL_law_57 9 rfl rfl)
theorem dL_law_1575 : decode cL_law 1575 = .ok (.if_icmp .eq 5, 3) := dk_159 0 5 (dk_at dksL_law_57 11 rfl rfl)
theorem dL_law_1578 : decode cL_law 1578 = .ok (.iconst 0, 1) := dk_3 (dk_at dksL_law_57 14 rfl rfl)
theorem dL_law_1579 : decode cL_law 1579 = .ok (.ireturn, 1) := dk_172 (dk_at dksL_law_57 15 rfl rfl)
theorem dL_law_1580 : decode cL_law 1580 = .ok (.iload 5, 2) := dk_21 5 (dk_at dksL_law_57 16 rfl rfl)
theorem dL_law_1582 : decode cL_law 1582 = .ok (.ifCond .ne 15, 3) := dk_154 0 15 (dk_at dksL_law_57 18 rfl rfl)
theorem dL_law_1585 : decode cL_law 1585 = .ok (.aload_n 3, 1) := dk_45 (dk_at dksL_law_57 21 rfl rfl)
theorem dL_law_1586 : decode cL_law 1586 = .ok (.iconst 0, 1) := dk_3 (dk_at dksL_law_57 22 rfl rfl)
theorem dL_law_1587 : decode cL_law 1587 = .ok (.laload, 1) := dk_47 (dk_at dksL_law_57 23 rfl rfl)
theorem dL_law_1588 : decode cL_law 1588 = .ok (.iload 6, 2) := dk_21 6 (dk_at dksL_law_58 0 rfl rfl)
theorem dL_law_1590 : decode cL_law 1590 = .ok (.i2l, 1) := dk_133 (dk_at dksL_law_58 2 rfl rfl)
theorem dL_law_1591 : decode cL_law 1591 = .ok (.lcmp, 1) := dk_148 (dk_at dksL_law_58 3 rfl rfl)
theorem dL_law_1592 : decode cL_law 1592 = .ok (.ifCond .eq 5, 3) := dk_153 0 5 (dk_at dksL_law_58 4 rfl rfl)
theorem dL_law_1595 : decode cL_law 1595 = .ok (.iconst 0, 1) := dk_3 (dk_at dksL_law_58 7 rfl rfl)
theorem dL_law_1596 : decode cL_law 1596 = .ok (.ireturn, 1) := dk_172 (dk_at dksL_law_58 8 rfl rfl)
theorem dL_law_1597 : decode cL_law 1597 = .ok (.goto 1377, 3) := dk_167 5 97 (dk_at dksL_law_58 9 rfl rfl)
theorem dL_law_1600 : decode cL_law 1600 = .ok (.aload_n 1, 1) := dk_43 (dk_at dksL_law_58 12 rfl rfl)
theorem dL_law_1601 : decode cL_law 1601 = .ok (.aload_n 3, 1) := dk_45 (dk_at dksL_law_58 13 rfl rfl)
theorem dL_law_1602 : decode cL_law 1602 = .ok (.invokestatic 244, 3) := dk_184 0 244 (dk_at dksL_law_58 14 rfl rfl)
theorem dL_law_1605 : decode cL_law 1605 = .ok (.istore 5, 2) := dk_54 5 (dk_at dksL_law_58 17 rfl rfl)
theorem dL_law_1607 : decode cL_law 1607 = .ok (.aload_n 2, 1) := dk_44 (dk_at dksL_law_58 19 rfl rfl)
theorem dL_law_1608 : decode cL_law 1608 = .ok (.invokevirtual 247, 3) := dk_182 0 247 (dk_at dksL_law_58 20 rfl rfl)
theorem dL_law_1611 : decode cL_law 1611 = .ok (.istore 6, 2) := dk_54 6 (dk_at dksL_law_59 0 rfl rfl)
theorem dL_law_1613 : decode cL_law 1613 = .ok (.aload_n 2, 1) := dk_44 (dk_at dksL_law_59 2 rfl rfl)
theorem dL_law_1614 : decode cL_law 1614 = .ok (.invokevirtual 160, 3) := dk_182 0 160 (dk_at dksL_law_59 3 rfl rfl)
theorem dL_law_1617 : decode cL_law 1617 = .ok (.iload 5, 2) := dk_21 5 (dk_at dksL_law_59 6 rfl rfl)
theorem dL_law_1619 : decode cL_law 1619 = .ok (.if_icmp .eq 5, 3) := dk_159 0 5 (dk_at dksL_law_59 8 rfl rfl)
theorem dL_law_1622 : decode cL_law 1622 = .ok (.iconst 0, 1) := dk_3 (dk_at dksL_law_59 11 rfl rfl)
theorem dL_law_1623 : decode cL_law 1623 = .ok (.ireturn, 1) := dk_172 (dk_at dksL_law_59 12 rfl rfl)
theorem dL_law_1624 : decode cL_law 1624 = .ok (.iload 5, 2) := dk_21 5 (dk_at dksL_law_59 13 rfl rfl)
theorem dL_law_1626 : decode cL_law 1626 = .ok (.ifCond .ne 15, 3) := dk_154 0 15 (dk_at dksL_law_59 15 rfl rfl)
theorem dL_law_1629 : decode cL_law 1629 = .ok (.aload_n 3, 1) := dk_45 (dk_at dksL_law_59 18 rfl rfl)
theorem dL_law_1630 : decode cL_law 1630 = .ok (.iconst 0, 1) := dk_3 (dk_at dksL_law_59 19 rfl rfl)
theorem dL_law_1631 : decode cL_law 1631 = .ok (.laload, 1) := dk_47 (dk_at dksL_law_59 20 rfl rfl)
theorem dL_law_1632 : decode cL_law 1632 = .ok (.iload 6, 2) := dk_21 6 (dk_at dksL_law_59 21 rfl rfl)
theorem dL_law_1634 : decode cL_law 1634 = .ok (.i2l, 1) := dk_133 (dk_at dksL_law_59 23 rfl rfl)
theorem dL_law_1635 : decode cL_law 1635 = .ok (.lcmp, 1) := dk_148 (dk_at dksL_law_60 0 rfl rfl)
theorem dL_law_1636 : decode cL_law 1636 = .ok (.ifCond .eq 5, 3) := dk_153 0 5 (dk_at dksL_law_60 1 rfl rfl)
theorem dL_law_1639 : decode cL_law 1639 = .ok (.iconst 0, 1) := dk_3 (dk_at dksL_law_60 4 rfl rfl)
theorem dL_law_1640 : decode cL_law 1640 = .ok (.ireturn, 1) := dk_172 (dk_at dksL_law_60 5 rfl rfl)
theorem dL_law_1641 : decode cL_law 1641 = .ok (.goto 1333, 3) := dk_167 5 53 (dk_at dksL_law_60 6 rfl rfl)
theorem dL_law_1644 : decode cL_law 1644 = .ok (.aload_n 1, 1) := dk_43 (dk_at dksL_law_60 9 rfl rfl)
theorem dL_law_1645 : decode cL_law 1645 = .ok (.aload_n 0, 1) := dk_42 (dk_at dksL_law_60 10 rfl rfl)
theorem dL_law_1646 : decode cL_law 1646 = .ok (.iload 4, 2) := dk_21 4 (dk_at dksL_law_60 11 rfl rfl)
theorem dL_law_1648 : decode cL_law 1648 = .ok (.iconst 1, 1) := dk_4 (dk_at dksL_law_60 13 rfl rfl)
theorem dL_law_1649 : decode cL_law 1649 = .ok (.iadd, 1) := dk_96 (dk_at dksL_law_60 14 rfl rfl)
theorem dL_law_1650 : decode cL_law 1650 = .ok (.iaload, 1) := dk_46 (dk_at dksL_law_60 15 rfl rfl)
theorem dL_law_1651 : decode cL_law 1651 = .ok (.aload_n 3, 1) := dk_45 (dk_at dksL_law_60 16 rfl rfl)
theorem dL_law_1652 : decode cL_law 1652 = .ok (.invokestatic 248, 3) := dk_184 0 248 (dk_at dksL_law_60 17 rfl rfl)
theorem dL_law_1655 : decode cL_law 1655 = .ok (.istore 5, 2) := dk_54 5 (dk_at dksL_law_60 20 rfl rfl)
theorem dL_law_1657 : decode cL_law 1657 = .ok (.aload_n 2, 1) := dk_44 (dk_at dksL_law_60 22 rfl rfl)
theorem dL_law_1658 : decode cL_law 1658 = .ok (.aload_n 0, 1) := dk_42 (dk_at dksL_law_60 23 rfl rfl)
theorem dL_law_1659 : decode cL_law 1659 = .ok (.iload 4, 2) := dk_21 4 (dk_at dksL_law_61 0 rfl rfl)
theorem dL_law_1661 : decode cL_law 1661 = .ok (.iconst 1, 1) := dk_4 (dk_at dksL_law_61 2 rfl rfl)
theorem dL_law_1662 : decode cL_law 1662 = .ok (.iadd, 1) := dk_96 (dk_at dksL_law_61 3 rfl rfl)
theorem dL_law_1663 : decode cL_law 1663 = .ok (.iaload, 1) := dk_46 (dk_at dksL_law_61 4 rfl rfl)
theorem dL_law_1664 : decode cL_law 1664 = .ok (.invokevirtual 250, 3) := dk_182 0 250 (dk_at dksL_law_61 5 rfl rfl)
theorem dL_law_1667 : decode cL_law 1667 = .ok (.istore 6, 2) := dk_54 6 (dk_at dksL_law_61 8 rfl rfl)
theorem dL_law_1669 : decode cL_law 1669 = .ok (.aload_n 2, 1) := dk_44 (dk_at dksL_law_61 10 rfl rfl)
theorem dL_law_1670 : decode cL_law 1670 = .ok (.invokevirtual 160, 3) := dk_182 0 160 (dk_at dksL_law_61 11 rfl rfl)
theorem dL_law_1673 : decode cL_law 1673 = .ok (.iload 5, 2) := dk_21 5 (dk_at dksL_law_61 14 rfl rfl)
theorem dL_law_1675 : decode cL_law 1675 = .ok (.if_icmp .eq 5, 3) := dk_159 0 5 (dk_at dksL_law_61 16 rfl rfl)
theorem dL_law_1678 : decode cL_law 1678 = .ok (.iconst 0, 1) := dk_3 (dk_at dksL_law_61 19 rfl rfl)
theorem dL_law_1679 : decode cL_law 1679 = .ok (.ireturn, 1) := dk_172 (dk_at dksL_law_61 20 rfl rfl)
theorem dL_law_1680 : decode cL_law 1680 = .ok (.iload 5, 2) := dk_21 5 (dk_at dksL_law_61 21 rfl rfl)
theorem dL_law_1682 : decode cL_law 1682 = .ok (.ifCond .ne 22, 3) := dk_154 0 22 (dk_at dksL_law_62 0 rfl rfl)
theorem dL_law_1685 : decode cL_law 1685 = .ok (.aload_n 3, 1) := dk_45 (dk_at dksL_law_62 3 rfl rfl)
theorem dL_law_1686 : decode cL_law 1686 = .ok (.iconst 0, 1) := dk_3 (dk_at dksL_law_62 4 rfl rfl)
theorem dL_law_1687 : decode cL_law 1687 = .ok (.laload, 1) := dk_47 (dk_at dksL_law_62 5 rfl rfl)
theorem dL_law_1688 : decode cL_law 1688 = .ok (.iload 6, 2) := dk_21 6 (dk_at dksL_law_62 6 rfl rfl)
theorem dL_law_1690 : decode cL_law 1690 = .ok (.ifCond .eq 7, 3) := dk_153 0 7 (dk_at dksL_law_62 8 rfl rfl)
theorem dL_law_1693 : decode cL_law 1693 = .ok (.lconst 1, 1) := dk_10 (dk_at dksL_law_62 11 rfl rfl)
theorem dL_law_1694 : decode cL_law 1694 = .ok (.goto 4, 3) := dk_167 0 4 (dk_at dksL_law_62 12 rfl rfl)
theorem dL_law_1697 : decode cL_law 1697 = .ok (.lconst 0, 1) := dk_9 (dk_at dksL_law_62 15 rfl rfl)
theorem dL_law_1698 : decode cL_law 1698 = .ok (.lcmp, 1) := dk_148 (dk_at dksL_law_62 16 rfl rfl)
theorem dL_law_1699 : decode cL_law 1699 = .ok (.ifCond .eq 5, 3) := dk_153 0 5 (dk_at dksL_law_62 17 rfl rfl)
theorem dL_law_1702 : decode cL_law 1702 = .ok (.iconst 0, 1) := dk_3 (dk_at dksL_law_62 20 rfl rfl)
theorem dL_law_1703 : decode cL_law 1703 = .ok (.ireturn, 1) := dk_172 (dk_at dksL_law_62 21 rfl rfl)
theorem dL_law_1704 : decode cL_law 1704 = .ok (.goto 1270, 3) := dk_167 4 246 (dk_at dksL_law_63 0 rfl rfl)
theorem dL_law_1707 : decode cL_law 1707 = .ok (.aload_n 1, 1) := dk_43 (dk_at dksL_law_63 3 rfl rfl)
theorem dL_law_1708 : decode cL_law 1708 = .ok (.aload_n 0, 1) := dk_42 (dk_at dksL_law_63 4 rfl rfl)
theorem dL_law_1709 : decode cL_law 1709 = .ok (.iload 4, 2) := dk_21 4 (dk_at dksL_law_63 5 rfl rfl)
theorem dL_law_1711 : decode cL_law 1711 = .ok (.iconst 1, 1) := dk_4 (dk_at dksL_law_63 7 rfl rfl)
theorem dL_law_1712 : decode cL_law 1712 = .ok (.iadd, 1) := dk_96 (dk_at dksL_law_63 8 rfl rfl)
theorem dL_law_1713 : decode cL_law 1713 = .ok (.iaload, 1) := dk_46 (dk_at dksL_law_63 9 rfl rfl)
theorem dL_law_1714 : decode cL_law 1714 = .ok (.aload_n 3, 1) := dk_45 (dk_at dksL_law_63 10 rfl rfl)
theorem dL_law_1715 : decode cL_law 1715 = .ok (.invokestatic 251, 3) := dk_184 0 251 (dk_at dksL_law_63 11 rfl rfl)
theorem dL_law_1718 : decode cL_law 1718 = .ok (.istore 5, 2) := dk_54 5 (dk_at dksL_law_63 14 rfl rfl)
theorem dL_law_1720 : decode cL_law 1720 = .ok (.aload_n 2, 1) := dk_44 (dk_at dksL_law_63 16 rfl rfl)
theorem dL_law_1721 : decode cL_law 1721 = .ok (.aload_n 0, 1) := dk_42 (dk_at dksL_law_63 17 rfl rfl)
theorem dL_law_1722 : decode cL_law 1722 = .ok (.iload 4, 2) := dk_21 4 (dk_at dksL_law_63 18 rfl rfl)
theorem dL_law_1724 : decode cL_law 1724 = .ok (.iconst 1, 1) := dk_4 (dk_at dksL_law_63 20 rfl rfl)
theorem dL_law_1725 : decode cL_law 1725 = .ok (.iadd, 1) := dk_96 (dk_at dksL_law_63 21 rfl rfl)
theorem dL_law_1726 : decode cL_law 1726 = .ok (.iaload, 1) := dk_46 (dk_at dksL_law_63 22 rfl rfl)
theorem dL_law_1727 : decode cL_law 1727 = .ok (.invokevirtual 253, 3) := dk_182 0 253 (dk_at dksL_law_64 0 rfl rfl)
theorem dL_law_1730 : decode cL_law 1730 = .ok (.istore 6, 2) := dk_54 6 (dk_at dksL_law_64 3 rfl rfl)
theorem dL_law_1732 : decode cL_law 1732 = .ok (.aload_n 2, 1) := dk_44 (dk_at dksL_law_64 5 rfl rfl)
theorem dL_law_1733 : decode cL_law 1733 = .ok (.invokevirtual 160, 3) := dk_182 0 160 (dk_at dksL_law_64 6 rfl rfl)
theorem dL_law_1736 : decode cL_law 1736 = .ok (.iload 5, 2) := dk_21 5 (dk_at dksL_law_64 9 rfl rfl)
theorem dL_law_1738 : decode cL_law 1738 = .ok (.if_icmp .eq 5, 3) := dk_159 0 5 (dk_at dksL_law_64 11 rfl rfl)
theorem dL_law_1741 : decode cL_law 1741 = .ok (.iconst 0, 1) := dk_3 (dk_at dksL_law_64 14 rfl rfl)
theorem dL_law_1742 : decode cL_law 1742 = .ok (.ireturn, 1) := dk_172 (dk_at dksL_law_64 15 rfl rfl)
theorem dL_law_1743 : decode cL_law 1743 = .ok (.iload 5, 2) := dk_21 5 (dk_at dksL_law_64 16 rfl rfl)
theorem dL_law_1745 : decode cL_law 1745 = .ok (.ifCond .ne 22, 3) := dk_154 0 22 (dk_at dksL_law_64 18 rfl rfl)
theorem dL_law_1748 : decode cL_law 1748 = .ok (.aload_n 3, 1) := dk_45 (dk_at dksL_law_64 21 rfl rfl)
theorem dL_law_1749 : decode cL_law 1749 = .ok (.iconst 0, 1) := dk_3 (dk_at dksL_law_64 22 rfl rfl)
theorem dL_law_1750 : decode cL_law 1750 = .ok (.laload, 1) := dk_47 (dk_at dksL_law_64 23 rfl rfl)
theorem dL_law_1751 : decode cL_law 1751 = .ok (.iload 6, 2) := dk_21 6 (dk_at dksL_law_65 0 rfl rfl)
theorem dL_law_1753 : decode cL_law 1753 = .ok (.ifCond .eq 7, 3) := dk_153 0 7 (dk_at dksL_law_65 2 rfl rfl)
theorem dL_law_1756 : decode cL_law 1756 = .ok (.lconst 1, 1) := dk_10 (dk_at dksL_law_65 5 rfl rfl)
theorem dL_law_1757 : decode cL_law 1757 = .ok (.goto 4, 3) := dk_167 0 4 (dk_at dksL_law_65 6 rfl rfl)
theorem dL_law_1760 : decode cL_law 1760 = .ok (.lconst 0, 1) := dk_9 (dk_at dksL_law_65 9 rfl rfl)
theorem dL_law_1761 : decode cL_law 1761 = .ok (.lcmp, 1) := dk_148 (dk_at dksL_law_65 10 rfl rfl)
theorem dL_law_1762 : decode cL_law 1762 = .ok (.ifCond .eq 5, 3) := dk_153 0 5 (dk_at dksL_law_65 11 rfl rfl)
theorem dL_law_1765 : decode cL_law 1765 = .ok (.iconst 0, 1) := dk_3 (dk_at dksL_law_65 14 rfl rfl)
theorem dL_law_1766 : decode cL_law 1766 = .ok (.ireturn, 1) := dk_172 (dk_at dksL_law_65 15 rfl rfl)
theorem dL_law_1767 : decode cL_law 1767 = .ok (.goto 1207, 3) := dk_167 4 183 (dk_at dksL_law_65 16 rfl rfl)
theorem dL_law_1770 : decode cL_law 1770 = .ok (.aload_n 1, 1) := dk_43 (dk_at dksL_law_65 19 rfl rfl)
theorem dL_law_1771 : decode cL_law 1771 = .ok (.aload_n 0, 1) := dk_42 (dk_at dksL_law_65 20 rfl rfl)
theorem dL_law_1772 : decode cL_law 1772 = .ok (.iload 4, 2) := dk_21 4 (dk_at dksL_law_65 21 rfl rfl)
theorem dL_law_1774 : decode cL_law 1774 = .ok (.iconst 1, 1) := dk_4 (dk_at dksL_law_65 23 rfl rfl)
theorem dL_law_1775 : decode cL_law 1775 = .ok (.iadd, 1) := dk_96 (dk_at dksL_law_66 0 rfl rfl)
theorem dL_law_1776 : decode cL_law 1776 = .ok (.iaload, 1) := dk_46 (dk_at dksL_law_66 1 rfl rfl)
theorem dL_law_1777 : decode cL_law 1777 = .ok (.aload_n 3, 1) := dk_45 (dk_at dksL_law_66 2 rfl rfl)
theorem dL_law_1778 : decode cL_law 1778 = .ok (.invokestatic 254, 3) := dk_184 0 254 (dk_at dksL_law_66 3 rfl rfl)
theorem dL_law_1781 : decode cL_law 1781 = .ok (.istore 5, 2) := dk_54 5 (dk_at dksL_law_66 6 rfl rfl)
theorem dL_law_1783 : decode cL_law 1783 = .ok (.aload_n 2, 1) := dk_44 (dk_at dksL_law_66 8 rfl rfl)
theorem dL_law_1784 : decode cL_law 1784 = .ok (.aload_n 0, 1) := dk_42 (dk_at dksL_law_66 9 rfl rfl)
theorem dL_law_1785 : decode cL_law 1785 = .ok (.iload 4, 2) := dk_21 4 (dk_at dksL_law_66 10 rfl rfl)
theorem dL_law_1787 : decode cL_law 1787 = .ok (.iconst 1, 1) := dk_4 (dk_at dksL_law_66 12 rfl rfl)
theorem dL_law_1788 : decode cL_law 1788 = .ok (.iadd, 1) := dk_96 (dk_at dksL_law_66 13 rfl rfl)
theorem dL_law_1789 : decode cL_law 1789 = .ok (.iaload, 1) := dk_46 (dk_at dksL_law_66 14 rfl rfl)
theorem dL_law_1790 : decode cL_law 1790 = .ok (.invokevirtual 256, 3) := dk_182 1 0 (dk_at dksL_law_66 15 rfl rfl)
theorem dL_law_1793 : decode cL_law 1793 = .ok (.istore 6, 2) := dk_54 6 (dk_at dksL_law_66 18 rfl rfl)
theorem dL_law_1795 : decode cL_law 1795 = .ok (.aload_n 2, 1) := dk_44 (dk_at dksL_law_66 20 rfl rfl)
theorem dL_law_1796 : decode cL_law 1796 = .ok (.invokevirtual 160, 3) := dk_182 0 160 (dk_at dksL_law_66 21 rfl rfl)
theorem dL_law_1799 : decode cL_law 1799 = .ok (.iload 5, 2) := dk_21 5 (dk_at dksL_law_67 0 rfl rfl)
theorem dL_law_1801 : decode cL_law 1801 = .ok (.if_icmp .eq 5, 3) := dk_159 0 5 (dk_at dksL_law_67 2 rfl rfl)
theorem dL_law_1804 : decode cL_law 1804 = .ok (.iconst 0, 1) := dk_3 (dk_at dksL_law_67 5 rfl rfl)
theorem dL_law_1805 : decode cL_law 1805 = .ok (.ireturn, 1) := dk_172 (dk_at dksL_law_67 6 rfl rfl)
theorem dL_law_1806 : decode cL_law 1806 = .ok (.iload 5, 2) := dk_21 5 (dk_at dksL_law_67 7 rfl rfl)
theorem dL_law_1808 : decode cL_law 1808 = .ok (.ifCond .ne 15, 3) := dk_154 0 15 (dk_at dksL_law_67 9 rfl rfl)
theorem dL_law_1811 : decode cL_law 1811 = .ok (.aload_n 3, 1) := dk_45 (dk_at dksL_law_67 12 rfl rfl)
theorem dL_law_1812 : decode cL_law 1812 = .ok (.iconst 0, 1) := dk_3 (dk_at dksL_law_67 13 rfl rfl)
theorem dL_law_1813 : decode cL_law 1813 = .ok (.laload, 1) := dk_47 (dk_at dksL_law_67 14 rfl rfl)
theorem dL_law_1814 : decode cL_law 1814 = .ok (.iload 6, 2) := dk_21 6 (dk_at dksL_law_67 15 rfl rfl)
theorem dL_law_1816 : decode cL_law 1816 = .ok (.i2l, 1) := dk_133 (dk_at dksL_law_67 17 rfl rfl)
theorem dL_law_1817 : decode cL_law 1817 = .ok (.lcmp, 1) := dk_148 (dk_at dksL_law_67 18 rfl rfl)
theorem dL_law_1818 : decode cL_law 1818 = .ok (.ifCond .eq 5, 3) := dk_153 0 5 (dk_at dksL_law_67 19 rfl rfl)
theorem dL_law_1821 : decode cL_law 1821 = .ok (.iconst 0, 1) := dk_3 (dk_at dksL_law_67 22 rfl rfl)
theorem dL_law_1822 : decode cL_law 1822 = .ok (.ireturn, 1) := dk_172 (dk_at dksL_law_67 23 rfl rfl)
theorem dL_law_1823 : decode cL_law 1823 = .ok (.goto 1151, 3) := dk_167 4 127 (dk_at dksL_law_68 0 rfl rfl)
theorem dL_law_1826 : decode cL_law 1826 = .ok (.aload_n 1, 1) := dk_43 (dk_at dksL_law_68 3 rfl rfl)
theorem dL_law_1827 : decode cL_law 1827 = .ok (.aload_n 0, 1) := dk_42 (dk_at dksL_law_68 4 rfl rfl)
theorem dL_law_1828 : decode cL_law 1828 = .ok (.iload 4, 2) := dk_21 4 (dk_at dksL_law_68 5 rfl rfl)
theorem dL_law_1830 : decode cL_law 1830 = .ok (.iconst 1, 1) := dk_4 (dk_at dksL_law_68 7 rfl rfl)
theorem dL_law_1831 : decode cL_law 1831 = .ok (.iadd, 1) := dk_96 (dk_at dksL_law_68 8 rfl rfl)
theorem dL_law_1832 : decode cL_law 1832 = .ok (.iaload, 1) := dk_46 (dk_at dksL_law_68 9 rfl rfl)
theorem dL_law_1833 : decode cL_law 1833 = .ok (.aload_n 3, 1) := dk_45 (dk_at dksL_law_68 10 rfl rfl)
theorem dL_law_1834 : decode cL_law 1834 = .ok (.invokestatic 257, 3) := dk_184 1 1 (dk_at dksL_law_68 11 rfl rfl)
theorem dL_law_1837 : decode cL_law 1837 = .ok (.istore 5, 2) := dk_54 5 (dk_at dksL_law_68 14 rfl rfl)
theorem dL_law_1839 : decode cL_law 1839 = .ok (.aload_n 2, 1) := dk_44 (dk_at dksL_law_68 16 rfl rfl)
theorem dL_law_1840 : decode cL_law 1840 = .ok (.aload_n 0, 1) := dk_42 (dk_at dksL_law_68 17 rfl rfl)
theorem dL_law_1841 : decode cL_law 1841 = .ok (.iload 4, 2) := dk_21 4 (dk_at dksL_law_68 18 rfl rfl)
theorem dL_law_1843 : decode cL_law 1843 = .ok (.iconst 1, 1) := dk_4 (dk_at dksL_law_68 20 rfl rfl)
theorem dL_law_1844 : decode cL_law 1844 = .ok (.iadd, 1) := dk_96 (dk_at dksL_law_68 21 rfl rfl)
theorem dL_law_1845 : decode cL_law 1845 = .ok (.iaload, 1) := dk_46 (dk_at dksL_law_68 22 rfl rfl)
theorem dL_law_1846 : decode cL_law 1846 = .ok (.invokevirtual 259, 3) := dk_182 1 3 (dk_at dksL_law_69 0 rfl rfl)
theorem dL_law_1849 : decode cL_law 1849 = .ok (.istore 6, 2) := dk_54 6 (dk_at dksL_law_69 3 rfl rfl)
theorem dL_law_1851 : decode cL_law 1851 = .ok (.aload_n 2, 1) := dk_44 (dk_at dksL_law_69 5 rfl rfl)
theorem dL_law_1852 : decode cL_law 1852 = .ok (.invokevirtual 160, 3) := dk_182 0 160 (dk_at dksL_law_69 6 rfl rfl)
theorem dL_law_1855 : decode cL_law 1855 = .ok (.iload 5, 2) := dk_21 5 (dk_at dksL_law_69 9 rfl rfl)
theorem dL_law_1857 : decode cL_law 1857 = .ok (.if_icmp .eq 5, 3) := dk_159 0 5 (dk_at dksL_law_69 11 rfl rfl)
theorem dL_law_1860 : decode cL_law 1860 = .ok (.iconst 0, 1) := dk_3 (dk_at dksL_law_69 14 rfl rfl)
theorem dL_law_1861 : decode cL_law 1861 = .ok (.ireturn, 1) := dk_172 (dk_at dksL_law_69 15 rfl rfl)
theorem dL_law_1862 : decode cL_law 1862 = .ok (.iload 5, 2) := dk_21 5 (dk_at dksL_law_69 16 rfl rfl)
theorem dL_law_1864 : decode cL_law 1864 = .ok (.ifCond .ne 15, 3) := dk_154 0 15 (dk_at dksL_law_69 18 rfl rfl)
theorem dL_law_1867 : decode cL_law 1867 = .ok (.aload_n 3, 1) := dk_45 (dk_at dksL_law_69 21 rfl rfl)
theorem dL_law_1868 : decode cL_law 1868 = .ok (.iconst 0, 1) := dk_3 (dk_at dksL_law_69 22 rfl rfl)
theorem dL_law_1869 : decode cL_law 1869 = .ok (.laload, 1) := dk_47 (dk_at dksL_law_69 23 rfl rfl)
theorem dL_law_1870 : decode cL_law 1870 = .ok (.iload 6, 2) := dk_21 6 (dk_at dksL_law_70 0 rfl rfl)
theorem dL_law_1872 : decode cL_law 1872 = .ok (.i2l, 1) := dk_133 (dk_at dksL_law_70 2 rfl rfl)
theorem dL_law_1873 : decode cL_law 1873 = .ok (.lcmp, 1) := dk_148 (dk_at dksL_law_70 3 rfl rfl)
theorem dL_law_1874 : decode cL_law 1874 = .ok (.ifCond .eq 5, 3) := dk_153 0 5 (dk_at dksL_law_70 4 rfl rfl)
theorem dL_law_1877 : decode cL_law 1877 = .ok (.iconst 0, 1) := dk_3 (dk_at dksL_law_70 7 rfl rfl)
theorem dL_law_1878 : decode cL_law 1878 = .ok (.ireturn, 1) := dk_172 (dk_at dksL_law_70 8 rfl rfl)
theorem dL_law_1879 : decode cL_law 1879 = .ok (.goto 1095, 3) := dk_167 4 71 (dk_at dksL_law_70 9 rfl rfl)
theorem dL_law_1882 : decode cL_law 1882 = .ok (.aload_n 1, 1) := dk_43 (dk_at dksL_law_70 12 rfl rfl)
theorem dL_law_1883 : decode cL_law 1883 = .ok (.aload_n 3, 1) := dk_45 (dk_at dksL_law_70 13 rfl rfl)
theorem dL_law_1884 : decode cL_law 1884 = .ok (.invokestatic 260, 3) := dk_184 1 4 (dk_at dksL_law_70 14 rfl rfl)
theorem dL_law_1887 : decode cL_law 1887 = .ok (.istore 5, 2) := dk_54 5 (dk_at dksL_law_70 17 rfl rfl)
theorem dL_law_1889 : decode cL_law 1889 = .ok (.aload_n 2, 1) := dk_44 (dk_at dksL_law_70 19 rfl rfl)
theorem dL_law_1890 : decode cL_law 1890 = .ok (.invokevirtual 262, 3) := dk_182 1 6 (dk_at dksL_law_70 20 rfl rfl)
theorem dL_law_1893 : decode cL_law 1893 = .ok (.istore 6, 2) := dk_54 6 (dk_at dksL_law_71 0 rfl rfl)
theorem dL_law_1895 : decode cL_law 1895 = .ok (.aload_n 2, 1) := dk_44 (dk_at dksL_law_71 2 rfl rfl)
theorem dL_law_1896 : decode cL_law 1896 = .ok (.invokevirtual 160, 3) := dk_182 0 160 (dk_at dksL_law_71 3 rfl rfl)
theorem dL_law_1899 : decode cL_law 1899 = .ok (.iload 5, 2) := dk_21 5 (dk_at dksL_law_71 6 rfl rfl)
theorem dL_law_1901 : decode cL_law 1901 = .ok (.if_icmp .eq 5, 3) := dk_159 0 5 (dk_at dksL_law_71 8 rfl rfl)
theorem dL_law_1904 : decode cL_law 1904 = .ok (.iconst 0, 1) := dk_3 (dk_at dksL_law_71 11 rfl rfl)
theorem dL_law_1905 : decode cL_law 1905 = .ok (.ireturn, 1) := dk_172 (dk_at dksL_law_71 12 rfl rfl)
theorem dL_law_1906 : decode cL_law 1906 = .ok (.iload 5, 2) := dk_21 5 (dk_at dksL_law_71 13 rfl rfl)
theorem dL_law_1908 : decode cL_law 1908 = .ok (.ifCond .ne 15, 3) := dk_154 0 15 (dk_at dksL_law_71 15 rfl rfl)
theorem dL_law_1911 : decode cL_law 1911 = .ok (.aload_n 3, 1) := dk_45 (dk_at dksL_law_71 18 rfl rfl)
theorem dL_law_1912 : decode cL_law 1912 = .ok (.iconst 0, 1) := dk_3 (dk_at dksL_law_71 19 rfl rfl)
theorem dL_law_1913 : decode cL_law 1913 = .ok (.laload, 1) := dk_47 (dk_at dksL_law_71 20 rfl rfl)
theorem dL_law_1914 : decode cL_law 1914 = .ok (.iload 6, 2) := dk_21 6 (dk_at dksL_law_71 21 rfl rfl)
theorem dL_law_1916 : decode cL_law 1916 = .ok (.i2l, 1) := dk_133 (dk_at dksL_law_71 23 rfl rfl)
theorem dL_law_1917 : decode cL_law 1917 = .ok (.lcmp, 1) := dk_148 (dk_at dksL_law_72 0 rfl rfl)
theorem dL_law_1918 : decode cL_law 1918 = .ok (.ifCond .eq 5, 3) := dk_153 0 5 (dk_at dksL_law_72 1 rfl rfl)
theorem dL_law_1921 : decode cL_law 1921 = .ok (.iconst 0, 1) := dk_3 (dk_at dksL_law_72 4 rfl rfl)
theorem dL_law_1922 : decode cL_law 1922 = .ok (.ireturn, 1) := dk_172 (dk_at dksL_law_72 5 rfl rfl)
theorem dL_law_1923 : decode cL_law 1923 = .ok (.goto 1051, 3) := dk_167 4 27 (dk_at dksL_law_72 6 rfl rfl)
theorem dL_law_1926 : decode cL_law 1926 = .ok (.aload_n 1, 1) := dk_43 (dk_at dksL_law_72 9 rfl rfl)
theorem dL_law_1927 : decode cL_law 1927 = .ok (.aload_n 0, 1) := dk_42 (dk_at dksL_law_72 10 rfl rfl)
theorem dL_law_1928 : decode cL_law 1928 = .ok (.iload 4, 2) := dk_21 4 (dk_at dksL_law_72 11 rfl rfl)
theorem dL_law_1930 : decode cL_law 1930 = .ok (.iconst 1, 1) := dk_4 (dk_at dksL_law_72 13 rfl rfl)
theorem dL_law_1931 : decode cL_law 1931 = .ok (.iadd, 1) := dk_96 (dk_at dksL_law_72 14 rfl rfl)
theorem dL_law_1932 : decode cL_law 1932 = .ok (.iaload, 1) := dk_46 (dk_at dksL_law_72 15 rfl rfl)
theorem dL_law_1933 : decode cL_law 1933 = .ok (.aload_n 3, 1) := dk_45 (dk_at dksL_law_72 16 rfl rfl)
theorem dL_law_1934 : decode cL_law 1934 = .ok (.invokestatic 263, 3) := dk_184 1 7 (dk_at dksL_law_72 17 rfl rfl)
theorem dL_law_1937 : decode cL_law 1937 = .ok (.istore 5, 2) := dk_54 5 (dk_at dksL_law_72 20 rfl rfl)
theorem dL_law_1939 : decode cL_law 1939 = .ok (.aload_n 2, 1) := dk_44 (dk_at dksL_law_72 22 rfl rfl)
theorem dL_law_1940 : decode cL_law 1940 = .ok (.aload_n 0, 1) := dk_42 (dk_at dksL_law_72 23 rfl rfl)
theorem dL_law_1941 : decode cL_law 1941 = .ok (.iload 4, 2) := dk_21 4 (dk_at dksL_law_73 0 rfl rfl)
theorem dL_law_1943 : decode cL_law 1943 = .ok (.iconst 1, 1) := dk_4 (dk_at dksL_law_73 2 rfl rfl)
theorem dL_law_1944 : decode cL_law 1944 = .ok (.iadd, 1) := dk_96 (dk_at dksL_law_73 3 rfl rfl)
theorem dL_law_1945 : decode cL_law 1945 = .ok (.iaload, 1) := dk_46 (dk_at dksL_law_73 4 rfl rfl)
theorem dL_law_1946 : decode cL_law 1946 = .ok (.invokevirtual 265, 3) := dk_182 1 9 (dk_at dksL_law_73 5 rfl rfl)
theorem dL_law_1949 : decode cL_law 1949 = .ok (.istore 6, 2) := dk_54 6 (dk_at dksL_law_73 8 rfl rfl)
theorem dL_law_1951 : decode cL_law 1951 = .ok (.aload_n 2, 1) := dk_44 (dk_at dksL_law_73 10 rfl rfl)
theorem dL_law_1952 : decode cL_law 1952 = .ok (.invokevirtual 160, 3) := dk_182 0 160 (dk_at dksL_law_73 11 rfl rfl)
theorem dL_law_1955 : decode cL_law 1955 = .ok (.iload 5, 2) := dk_21 5 (dk_at dksL_law_73 14 rfl rfl)
theorem dL_law_1957 : decode cL_law 1957 = .ok (.if_icmp .eq 5, 3) := dk_159 0 5 (dk_at dksL_law_73 16 rfl rfl)
theorem dL_law_1960 : decode cL_law 1960 = .ok (.iconst 0, 1) := dk_3 (dk_at dksL_law_73 19 rfl rfl)
theorem dL_law_1961 : decode cL_law 1961 = .ok (.ireturn, 1) := dk_172 (dk_at dksL_law_73 20 rfl rfl)
theorem dL_law_1962 : decode cL_law 1962 = .ok (.iload 5, 2) := dk_21 5 (dk_at dksL_law_73 21 rfl rfl)
theorem dL_law_1964 : decode cL_law 1964 = .ok (.ifCond .ne 22, 3) := dk_154 0 22 (dk_at dksL_law_74 0 rfl rfl)
theorem dL_law_1967 : decode cL_law 1967 = .ok (.aload_n 3, 1) := dk_45 (dk_at dksL_law_74 3 rfl rfl)
theorem dL_law_1968 : decode cL_law 1968 = .ok (.iconst 0, 1) := dk_3 (dk_at dksL_law_74 4 rfl rfl)
theorem dL_law_1969 : decode cL_law 1969 = .ok (.laload, 1) := dk_47 (dk_at dksL_law_74 5 rfl rfl)
theorem dL_law_1970 : decode cL_law 1970 = .ok (.iload 6, 2) := dk_21 6 (dk_at dksL_law_74 6 rfl rfl)
theorem dL_law_1972 : decode cL_law 1972 = .ok (.ifCond .eq 7, 3) := dk_153 0 7 (dk_at dksL_law_74 8 rfl rfl)
theorem dL_law_1975 : decode cL_law 1975 = .ok (.lconst 1, 1) := dk_10 (dk_at dksL_law_74 11 rfl rfl)
theorem dL_law_1976 : decode cL_law 1976 = .ok (.goto 4, 3) := dk_167 0 4 (dk_at dksL_law_74 12 rfl rfl)
theorem dL_law_1979 : decode cL_law 1979 = .ok (.lconst 0, 1) := dk_9 (dk_at dksL_law_74 15 rfl rfl)
theorem dL_law_1980 : decode cL_law 1980 = .ok (.lcmp, 1) := dk_148 (dk_at dksL_law_74 16 rfl rfl)
theorem dL_law_1981 : decode cL_law 1981 = .ok (.ifCond .eq 5, 3) := dk_153 0 5 (dk_at dksL_law_74 17 rfl rfl)
theorem dL_law_1984 : decode cL_law 1984 = .ok (.iconst 0, 1) := dk_3 (dk_at dksL_law_74 20 rfl rfl)
theorem dL_law_1985 : decode cL_law 1985 = .ok (.ireturn, 1) := dk_172 (dk_at dksL_law_74 21 rfl rfl)
theorem dL_law_1986 : decode cL_law 1986 = .ok (.goto 988, 3) := dk_167 3 220 (dk_at dksL_law_75 0 rfl rfl)
theorem dL_law_1989 : decode cL_law 1989 = .ok (.aload_n 1, 1) := dk_43 (dk_at dksL_law_75 3 rfl rfl)
theorem dL_law_1990 : decode cL_law 1990 = .ok (.aload_n 0, 1) := dk_42 (dk_at dksL_law_75 4 rfl rfl)
theorem dL_law_1991 : decode cL_law 1991 = .ok (.iload 4, 2) := dk_21 4 (dk_at dksL_law_75 5 rfl rfl)
theorem dL_law_1993 : decode cL_law 1993 = .ok (.iconst 1, 1) := dk_4 (dk_at dksL_law_75 7 rfl rfl)
theorem dL_law_1994 : decode cL_law 1994 = .ok (.iadd, 1) := dk_96 (dk_at dksL_law_75 8 rfl rfl)
theorem dL_law_1995 : decode cL_law 1995 = .ok (.iaload, 1) := dk_46 (dk_at dksL_law_75 9 rfl rfl)
theorem dL_law_1996 : decode cL_law 1996 = .ok (.aload_n 3, 1) := dk_45 (dk_at dksL_law_75 10 rfl rfl)
theorem dL_law_1997 : decode cL_law 1997 = .ok (.invokestatic 266, 3) := dk_184 1 10 (dk_at dksL_law_75 11 rfl rfl)
theorem dL_law_2000 : decode cL_law 2000 = .ok (.istore 5, 2) := dk_54 5 (dk_at dksL_law_75 14 rfl rfl)
theorem dL_law_2002 : decode cL_law 2002 = .ok (.aload_n 2, 1) := dk_44 (dk_at dksL_law_75 16 rfl rfl)
theorem dL_law_2003 : decode cL_law 2003 = .ok (.aload_n 0, 1) := dk_42 (dk_at dksL_law_75 17 rfl rfl)
theorem dL_law_2004 : decode cL_law 2004 = .ok (.iload 4, 2) := dk_21 4 (dk_at dksL_law_75 18 rfl rfl)
theorem dL_law_2006 : decode cL_law 2006 = .ok (.iconst 1, 1) := dk_4 (dk_at dksL_law_75 20 rfl rfl)
theorem dL_law_2007 : decode cL_law 2007 = .ok (.iadd, 1) := dk_96 (dk_at dksL_law_75 21 rfl rfl)
theorem dL_law_2008 : decode cL_law 2008 = .ok (.iaload, 1) := dk_46 (dk_at dksL_law_75 22 rfl rfl)
theorem dL_law_2009 : decode cL_law 2009 = .ok (.invokevirtual 268, 3) := dk_182 1 12 (dk_at dksL_law_76 0 rfl rfl)
theorem dL_law_2012 : decode cL_law 2012 = .ok (.istore 6, 2) := dk_54 6 (dk_at dksL_law_76 3 rfl rfl)
theorem dL_law_2014 : decode cL_law 2014 = .ok (.aload_n 2, 1) := dk_44 (dk_at dksL_law_76 5 rfl rfl)
theorem dL_law_2015 : decode cL_law 2015 = .ok (.invokevirtual 160, 3) := dk_182 0 160 (dk_at dksL_law_76 6 rfl rfl)
theorem dL_law_2018 : decode cL_law 2018 = .ok (.iload 5, 2) := dk_21 5 (dk_at dksL_law_76 9 rfl rfl)
theorem dL_law_2020 : decode cL_law 2020 = .ok (.if_icmp .eq 5, 3) := dk_159 0 5 (dk_at dksL_law_76 11 rfl rfl)
theorem dL_law_2023 : decode cL_law 2023 = .ok (.iconst 0, 1) := dk_3 (dk_at dksL_law_76 14 rfl rfl)
theorem dL_law_2024 : decode cL_law 2024 = .ok (.ireturn, 1) := dk_172 (dk_at dksL_law_76 15 rfl rfl)
theorem dL_law_2025 : decode cL_law 2025 = .ok (.iload 5, 2) := dk_21 5 (dk_at dksL_law_76 16 rfl rfl)
theorem dL_law_2027 : decode cL_law 2027 = .ok (.ifCond .ne 22, 3) := dk_154 0 22 (dk_at dksL_law_76 18 rfl rfl)
theorem dL_law_2030 : decode cL_law 2030 = .ok (.aload_n 3, 1) := dk_45 (dk_at dksL_law_76 21 rfl rfl)
theorem dL_law_2031 : decode cL_law 2031 = .ok (.iconst 0, 1) := dk_3 (dk_at dksL_law_76 22 rfl rfl)
theorem dL_law_2032 : decode cL_law 2032 = .ok (.laload, 1) := dk_47 (dk_at dksL_law_76 23 rfl rfl)
theorem dL_law_2033 : decode cL_law 2033 = .ok (.iload 6, 2) := dk_21 6 (dk_at dksL_law_77 0 rfl rfl)
theorem dL_law_2035 : decode cL_law 2035 = .ok (.ifCond .eq 7, 3) := dk_153 0 7 (dk_at dksL_law_77 2 rfl rfl)
theorem dL_law_2038 : decode cL_law 2038 = .ok (.lconst 1, 1) := dk_10 (dk_at dksL_law_77 5 rfl rfl)
theorem dL_law_2039 : decode cL_law 2039 = .ok (.goto 4, 3) := dk_167 0 4 (dk_at dksL_law_77 6 rfl rfl)
theorem dL_law_2042 : decode cL_law 2042 = .ok (.lconst 0, 1) := dk_9 (dk_at dksL_law_77 9 rfl rfl)
theorem dL_law_2043 : decode cL_law 2043 = .ok (.lcmp, 1) := dk_148 (dk_at dksL_law_77 10 rfl rfl)
theorem dL_law_2044 : decode cL_law 2044 = .ok (.ifCond .eq 5, 3) := dk_153 0 5 (dk_at dksL_law_77 11 rfl rfl)
theorem dL_law_2047 : decode cL_law 2047 = .ok (.iconst 0, 1) := dk_3 (dk_at dksL_law_77 14 rfl rfl)
theorem dL_law_2048 : decode cL_law 2048 = .ok (.ireturn, 1) := dk_172 (dk_at dksL_law_77 15 rfl rfl)
theorem dL_law_2049 : decode cL_law 2049 = .ok (.goto 925, 3) := dk_167 3 157 (dk_at dksL_law_77 16 rfl rfl)
theorem dL_law_2052 : decode cL_law 2052 = .ok (.aload_n 1, 1) := dk_43 (dk_at dksL_law_77 19 rfl rfl)
theorem dL_law_2053 : decode cL_law 2053 = .ok (.aload_n 0, 1) := dk_42 (dk_at dksL_law_77 20 rfl rfl)
theorem dL_law_2054 : decode cL_law 2054 = .ok (.iload 4, 2) := dk_21 4 (dk_at dksL_law_77 21 rfl rfl)
theorem dL_law_2056 : decode cL_law 2056 = .ok (.iconst 1, 1) := dk_4 (dk_at dksL_law_77 23 rfl rfl)
theorem dL_law_2057 : decode cL_law 2057 = .ok (.iadd, 1) := dk_96 (dk_at dksL_law_78 0 rfl rfl)
theorem dL_law_2058 : decode cL_law 2058 = .ok (.iaload, 1) := dk_46 (dk_at dksL_law_78 1 rfl rfl)
theorem dL_law_2059 : decode cL_law 2059 = .ok (.aload_n 3, 1) := dk_45 (dk_at dksL_law_78 2 rfl rfl)
theorem dL_law_2060 : decode cL_law 2060 = .ok (.invokestatic 269, 3) := dk_184 1 13 (dk_at dksL_law_78 3 rfl rfl)
theorem dL_law_2063 : decode cL_law 2063 = .ok (.istore 5, 2) := dk_54 5 (dk_at dksL_law_78 6 rfl rfl)
theorem dL_law_2065 : decode cL_law 2065 = .ok (.aload_n 2, 1) := dk_44 (dk_at dksL_law_78 8 rfl rfl)
theorem dL_law_2066 : decode cL_law 2066 = .ok (.aload_n 0, 1) := dk_42 (dk_at dksL_law_78 9 rfl rfl)
theorem dL_law_2067 : decode cL_law 2067 = .ok (.iload 4, 2) := dk_21 4 (dk_at dksL_law_78 10 rfl rfl)
theorem dL_law_2069 : decode cL_law 2069 = .ok (.iconst 1, 1) := dk_4 (dk_at dksL_law_78 12 rfl rfl)
theorem dL_law_2070 : decode cL_law 2070 = .ok (.iadd, 1) := dk_96 (dk_at dksL_law_78 13 rfl rfl)
theorem dL_law_2071 : decode cL_law 2071 = .ok (.iaload, 1) := dk_46 (dk_at dksL_law_78 14 rfl rfl)
theorem dL_law_2072 : decode cL_law 2072 = .ok (.invokevirtual 271, 3) := dk_182 1 15 (dk_at dksL_law_78 15 rfl rfl)
theorem dL_law_2075 : decode cL_law 2075 = .ok (.istore 6, 2) := dk_54 6 (dk_at dksL_law_78 18 rfl rfl)
theorem dL_law_2077 : decode cL_law 2077 = .ok (.aload_n 2, 1) := dk_44 (dk_at dksL_law_78 20 rfl rfl)
theorem dL_law_2078 : decode cL_law 2078 = .ok (.invokevirtual 160, 3) := dk_182 0 160 (dk_at dksL_law_78 21 rfl rfl)
theorem dL_law_2081 : decode cL_law 2081 = .ok (.iload 5, 2) := dk_21 5 (dk_at dksL_law_79 0 rfl rfl)
theorem dL_law_2083 : decode cL_law 2083 = .ok (.if_icmp .eq 5, 3) := dk_159 0 5 (dk_at dksL_law_79 2 rfl rfl)
theorem dL_law_2086 : decode cL_law 2086 = .ok (.iconst 0, 1) := dk_3 (dk_at dksL_law_79 5 rfl rfl)
theorem dL_law_2087 : decode cL_law 2087 = .ok (.ireturn, 1) := dk_172 (dk_at dksL_law_79 6 rfl rfl)
theorem dL_law_2088 : decode cL_law 2088 = .ok (.iload 5, 2) := dk_21 5 (dk_at dksL_law_79 7 rfl rfl)
theorem dL_law_2090 : decode cL_law 2090 = .ok (.ifCond .ne 15, 3) := dk_154 0 15 (dk_at dksL_law_79 9 rfl rfl)
theorem dL_law_2093 : decode cL_law 2093 = .ok (.aload_n 3, 1) := dk_45 (dk_at dksL_law_79 12 rfl rfl)
theorem dL_law_2094 : decode cL_law 2094 = .ok (.iconst 0, 1) := dk_3 (dk_at dksL_law_79 13 rfl rfl)
theorem dL_law_2095 : decode cL_law 2095 = .ok (.laload, 1) := dk_47 (dk_at dksL_law_79 14 rfl rfl)
theorem dL_law_2096 : decode cL_law 2096 = .ok (.iload 6, 2) := dk_21 6 (dk_at dksL_law_79 15 rfl rfl)
theorem dL_law_2098 : decode cL_law 2098 = .ok (.i2l, 1) := dk_133 (dk_at dksL_law_79 17 rfl rfl)
theorem dL_law_2099 : decode cL_law 2099 = .ok (.lcmp, 1) := dk_148 (dk_at dksL_law_79 18 rfl rfl)
theorem dL_law_2100 : decode cL_law 2100 = .ok (.ifCond .eq 5, 3) := dk_153 0 5 (dk_at dksL_law_79 19 rfl rfl)
theorem dL_law_2103 : decode cL_law 2103 = .ok (.iconst 0, 1) := dk_3 (dk_at dksL_law_79 22 rfl rfl)
theorem dL_law_2104 : decode cL_law 2104 = .ok (.ireturn, 1) := dk_172 (dk_at dksL_law_79 23 rfl rfl)
theorem dL_law_2105 : decode cL_law 2105 = .ok (.goto 869, 3) := dk_167 3 101 (dk_at dksL_law_80 0 rfl rfl)
theorem dL_law_2108 : decode cL_law 2108 = .ok (.aload_n 1, 1) := dk_43 (dk_at dksL_law_80 3 rfl rfl)
theorem dL_law_2109 : decode cL_law 2109 = .ok (.aload_n 0, 1) := dk_42 (dk_at dksL_law_80 4 rfl rfl)
theorem dL_law_2110 : decode cL_law 2110 = .ok (.iload 4, 2) := dk_21 4 (dk_at dksL_law_80 5 rfl rfl)
theorem dL_law_2112 : decode cL_law 2112 = .ok (.iconst 1, 1) := dk_4 (dk_at dksL_law_80 7 rfl rfl)
theorem dL_law_2113 : decode cL_law 2113 = .ok (.iadd, 1) := dk_96 (dk_at dksL_law_80 8 rfl rfl)
theorem dL_law_2114 : decode cL_law 2114 = .ok (.iaload, 1) := dk_46 (dk_at dksL_law_80 9 rfl rfl)
theorem dL_law_2115 : decode cL_law 2115 = .ok (.aload_n 3, 1) := dk_45 (dk_at dksL_law_80 10 rfl rfl)
theorem dL_law_2116 : decode cL_law 2116 = .ok (.invokestatic 272, 3) := dk_184 1 16 (dk_at dksL_law_80 11 rfl rfl)
theorem dL_law_2119 : decode cL_law 2119 = .ok (.istore 5, 2) := dk_54 5 (dk_at dksL_law_80 14 rfl rfl)
theorem dL_law_2121 : decode cL_law 2121 = .ok (.aload_n 2, 1) := dk_44 (dk_at dksL_law_80 16 rfl rfl)
theorem dL_law_2122 : decode cL_law 2122 = .ok (.aload_n 0, 1) := dk_42 (dk_at dksL_law_80 17 rfl rfl)
theorem dL_law_2123 : decode cL_law 2123 = .ok (.iload 4, 2) := dk_21 4 (dk_at dksL_law_80 18 rfl rfl)
theorem dL_law_2125 : decode cL_law 2125 = .ok (.iconst 1, 1) := dk_4 (dk_at dksL_law_80 20 rfl rfl)
theorem dL_law_2126 : decode cL_law 2126 = .ok (.iadd, 1) := dk_96 (dk_at dksL_law_80 21 rfl rfl)
theorem dL_law_2127 : decode cL_law 2127 = .ok (.iaload, 1) := dk_46 (dk_at dksL_law_80 22 rfl rfl)
theorem dL_law_2128 : decode cL_law 2128 = .ok (.invokevirtual 274, 3) := dk_182 1 18 (dk_at dksL_law_81 0 rfl rfl)
theorem dL_law_2131 : decode cL_law 2131 = .ok (.istore 6, 2) := dk_54 6 (dk_at dksL_law_81 3 rfl rfl)
theorem dL_law_2133 : decode cL_law 2133 = .ok (.aload_n 2, 1) := dk_44 (dk_at dksL_law_81 5 rfl rfl)
theorem dL_law_2134 : decode cL_law 2134 = .ok (.invokevirtual 160, 3) := dk_182 0 160 (dk_at dksL_law_81 6 rfl rfl)
theorem dL_law_2137 : decode cL_law 2137 = .ok (.iload 5, 2) := dk_21 5 (dk_at dksL_law_81 9 rfl rfl)
theorem dL_law_2139 : decode cL_law 2139 = .ok (.if_icmp .eq 5, 3) := dk_159 0 5 (dk_at dksL_law_81 11 rfl rfl)
theorem dL_law_2142 : decode cL_law 2142 = .ok (.iconst 0, 1) := dk_3 (dk_at dksL_law_81 14 rfl rfl)
theorem dL_law_2143 : decode cL_law 2143 = .ok (.ireturn, 1) := dk_172 (dk_at dksL_law_81 15 rfl rfl)
theorem dL_law_2144 : decode cL_law 2144 = .ok (.iload 5, 2) := dk_21 5 (dk_at dksL_law_81 16 rfl rfl)
theorem dL_law_2146 : decode cL_law 2146 = .ok (.ifCond .ne 15, 3) := dk_154 0 15 (dk_at dksL_law_81 18 rfl rfl)
theorem dL_law_2149 : decode cL_law 2149 = .ok (.aload_n 3, 1) := dk_45 (dk_at dksL_law_81 21 rfl rfl)
theorem dL_law_2150 : decode cL_law 2150 = .ok (.iconst 0, 1) := dk_3 (dk_at dksL_law_81 22 rfl rfl)
theorem dL_law_2151 : decode cL_law 2151 = .ok (.laload, 1) := dk_47 (dk_at dksL_law_81 23 rfl rfl)
theorem dL_law_2152 : decode cL_law 2152 = .ok (.iload 6, 2) := dk_21 6 (dk_at dksL_law_82 0 rfl rfl)
theorem dL_law_2154 : decode cL_law 2154 = .ok (.i2l, 1) := dk_133 (dk_at dksL_law_82 2 rfl rfl)
theorem dL_law_2155 : decode cL_law 2155 = .ok (.lcmp, 1) := dk_148 (dk_at dksL_law_82 3 rfl rfl)
theorem dL_law_2156 : decode cL_law 2156 = .ok (.ifCond .eq 5, 3) := dk_153 0 5 (dk_at dksL_law_82 4 rfl rfl)
theorem dL_law_2159 : decode cL_law 2159 = .ok (.iconst 0, 1) := dk_3 (dk_at dksL_law_82 7 rfl rfl)
theorem dL_law_2160 : decode cL_law 2160 = .ok (.ireturn, 1) := dk_172 (dk_at dksL_law_82 8 rfl rfl)
theorem dL_law_2161 : decode cL_law 2161 = .ok (.goto 813, 3) := dk_167 3 45 (dk_at dksL_law_82 9 rfl rfl)
theorem dL_law_2164 : decode cL_law 2164 = .ok (.aload_n 1, 1) := dk_43 (dk_at dksL_law_82 12 rfl rfl)
theorem dL_law_2165 : decode cL_law 2165 = .ok (.aload_n 0, 1) := dk_42 (dk_at dksL_law_82 13 rfl rfl)
theorem dL_law_2166 : decode cL_law 2166 = .ok (.iload 4, 2) := dk_21 4 (dk_at dksL_law_82 14 rfl rfl)
theorem dL_law_2168 : decode cL_law 2168 = .ok (.iconst 1, 1) := dk_4 (dk_at dksL_law_82 16 rfl rfl)
theorem dL_law_2169 : decode cL_law 2169 = .ok (.iadd, 1) := dk_96 (dk_at dksL_law_82 17 rfl rfl)
theorem dL_law_2170 : decode cL_law 2170 = .ok (.iaload, 1) := dk_46 (dk_at dksL_law_82 18 rfl rfl)
theorem dL_law_2171 : decode cL_law 2171 = .ok (.aload_n 3, 1) := dk_45 (dk_at dksL_law_82 19 rfl rfl)
theorem dL_law_2172 : decode cL_law 2172 = .ok (.invokestatic 275, 3) := dk_184 1 19 (dk_at dksL_law_82 20 rfl rfl)
theorem dL_law_2175 : decode cL_law 2175 = .ok (.istore 5, 2) := dk_54 5 (dk_at dksL_law_83 0 rfl rfl)
theorem dL_law_2177 : decode cL_law 2177 = .ok (.aload_n 2, 1) := dk_44 (dk_at dksL_law_83 2 rfl rfl)
theorem dL_law_2178 : decode cL_law 2178 = .ok (.aload_n 0, 1) := dk_42 (dk_at dksL_law_83 3 rfl rfl)
theorem dL_law_2179 : decode cL_law 2179 = .ok (.iload 4, 2) := dk_21 4 (dk_at dksL_law_83 4 rfl rfl)
theorem dL_law_2181 : decode cL_law 2181 = .ok (.iconst 1, 1) := dk_4 (dk_at dksL_law_83 6 rfl rfl)
theorem dL_law_2182 : decode cL_law 2182 = .ok (.iadd, 1) := dk_96 (dk_at dksL_law_83 7 rfl rfl)
theorem dL_law_2183 : decode cL_law 2183 = .ok (.iaload, 1) := dk_46 (dk_at dksL_law_83 8 rfl rfl)
theorem dL_law_2184 : decode cL_law 2184 = .ok (.invokevirtual 277, 3) := dk_182 1 21 (dk_at dksL_law_83 9 rfl rfl)
theorem dL_law_2187 : decode cL_law 2187 = .ok (.istore 6, 2) := dk_54 6 (dk_at dksL_law_83 12 rfl rfl)
theorem dL_law_2189 : decode cL_law 2189 = .ok (.aload_n 2, 1) := dk_44 (dk_at dksL_law_83 14 rfl rfl)
theorem dL_law_2190 : decode cL_law 2190 = .ok (.invokevirtual 160, 3) := dk_182 0 160 (dk_at dksL_law_83 15 rfl rfl)
theorem dL_law_2193 : decode cL_law 2193 = .ok (.iload 5, 2) := dk_21 5 (dk_at dksL_law_83 18 rfl rfl)
theorem dL_law_2195 : decode cL_law 2195 = .ok (.if_icmp .eq 5, 3) := dk_159 0 5 (dk_at dksL_law_83 20 rfl rfl)
theorem dL_law_2198 : decode cL_law 2198 = .ok (.iconst 0, 1) := dk_3 (dk_at dksL_law_83 23 rfl rfl)
theorem dL_law_2199 : decode cL_law 2199 = .ok (.ireturn, 1) := dk_172 (dk_at dksL_law_84 0 rfl rfl)
theorem dL_law_2200 : decode cL_law 2200 = .ok (.iload 5, 2) := dk_21 5 (dk_at dksL_law_84 1 rfl rfl)
theorem dL_law_2202 : decode cL_law 2202 = .ok (.ifCond .ne 15, 3) := dk_154 0 15 (dk_at dksL_law_84 3 rfl rfl)
theorem dL_law_2205 : decode cL_law 2205 = .ok (.aload_n 3, 1) := dk_45 (dk_at dksL_law_84 6 rfl rfl)
theorem dL_law_2206 : decode cL_law 2206 = .ok (.iconst 0, 1) := dk_3 (dk_at dksL_law_84 7 rfl rfl)
theorem dL_law_2207 : decode cL_law 2207 = .ok (.laload, 1) := dk_47 (dk_at dksL_law_84 8 rfl rfl)
theorem dL_law_2208 : decode cL_law 2208 = .ok (.iload 6, 2) := dk_21 6 (dk_at dksL_law_84 9 rfl rfl)
theorem dL_law_2210 : decode cL_law 2210 = .ok (.i2l, 1) := dk_133 (dk_at dksL_law_84 11 rfl rfl)
theorem dL_law_2211 : decode cL_law 2211 = .ok (.lcmp, 1) := dk_148 (dk_at dksL_law_84 12 rfl rfl)
theorem dL_law_2212 : decode cL_law 2212 = .ok (.ifCond .eq 5, 3) := dk_153 0 5 (dk_at dksL_law_84 13 rfl rfl)
theorem dL_law_2215 : decode cL_law 2215 = .ok (.iconst 0, 1) := dk_3 (dk_at dksL_law_84 16 rfl rfl)
theorem dL_law_2216 : decode cL_law 2216 = .ok (.ireturn, 1) := dk_172 (dk_at dksL_law_84 17 rfl rfl)
theorem dL_law_2217 : decode cL_law 2217 = .ok (.goto 757, 3) := dk_167 2 245 (dk_at dksL_law_84 18 rfl rfl)
theorem dL_law_2220 : decode cL_law 2220 = .ok (.aload_n 1, 1) := dk_43 (dk_at dksL_law_84 21 rfl rfl)
theorem dL_law_2221 : decode cL_law 2221 = .ok (.aload_n 0, 1) := dk_42 (dk_at dksL_law_84 22 rfl rfl)
theorem dL_law_2222 : decode cL_law 2222 = .ok (.iload 4, 2) := dk_21 4 (dk_at dksL_law_85 0 rfl rfl)
theorem dL_law_2224 : decode cL_law 2224 = .ok (.iconst 1, 1) := dk_4 (dk_at dksL_law_85 2 rfl rfl)
theorem dL_law_2225 : decode cL_law 2225 = .ok (.iadd, 1) := dk_96 (dk_at dksL_law_85 3 rfl rfl)
theorem dL_law_2226 : decode cL_law 2226 = .ok (.iaload, 1) := dk_46 (dk_at dksL_law_85 4 rfl rfl)
theorem dL_law_2227 : decode cL_law 2227 = .ok (.aload_n 3, 1) := dk_45 (dk_at dksL_law_85 5 rfl rfl)
theorem dL_law_2228 : decode cL_law 2228 = .ok (.invokestatic 278, 3) := dk_184 1 22 (dk_at dksL_law_85 6 rfl rfl)
theorem dL_law_2231 : decode cL_law 2231 = .ok (.istore 5, 2) := dk_54 5 (dk_at dksL_law_85 9 rfl rfl)
theorem dL_law_2233 : decode cL_law 2233 = .ok (.aload_n 2, 1) := dk_44 (dk_at dksL_law_85 11 rfl rfl)
theorem dL_law_2234 : decode cL_law 2234 = .ok (.aload_n 0, 1) := dk_42 (dk_at dksL_law_85 12 rfl rfl)
theorem dL_law_2235 : decode cL_law 2235 = .ok (.iload 4, 2) := dk_21 4 (dk_at dksL_law_85 13 rfl rfl)
theorem dL_law_2237 : decode cL_law 2237 = .ok (.iconst 1, 1) := dk_4 (dk_at dksL_law_85 15 rfl rfl)
theorem dL_law_2238 : decode cL_law 2238 = .ok (.iadd, 1) := dk_96 (dk_at dksL_law_85 16 rfl rfl)
theorem dL_law_2239 : decode cL_law 2239 = .ok (.iaload, 1) := dk_46 (dk_at dksL_law_85 17 rfl rfl)
theorem dL_law_2240 : decode cL_law 2240 = .ok (.invokevirtual 280, 3) := dk_182 1 24 (dk_at dksL_law_85 18 rfl rfl)
theorem dL_law_2243 : decode cL_law 2243 = .ok (.istore 6, 2) := dk_54 6 (dk_at dksL_law_85 21 rfl rfl)
theorem dL_law_2245 : decode cL_law 2245 = .ok (.aload_n 2, 1) := dk_44 (dk_at dksL_law_85 23 rfl rfl)
theorem dL_law_2246 : decode cL_law 2246 = .ok (.invokevirtual 160, 3) := dk_182 0 160 (dk_at dksL_law_86 0 rfl rfl)
theorem dL_law_2249 : decode cL_law 2249 = .ok (.iload 5, 2) := dk_21 5 (dk_at dksL_law_86 3 rfl rfl)
theorem dL_law_2251 : decode cL_law 2251 = .ok (.if_icmp .eq 5, 3) := dk_159 0 5 (dk_at dksL_law_86 5 rfl rfl)
theorem dL_law_2254 : decode cL_law 2254 = .ok (.iconst 0, 1) := dk_3 (dk_at dksL_law_86 8 rfl rfl)
theorem dL_law_2255 : decode cL_law 2255 = .ok (.ireturn, 1) := dk_172 (dk_at dksL_law_86 9 rfl rfl)
theorem dL_law_2256 : decode cL_law 2256 = .ok (.iload 5, 2) := dk_21 5 (dk_at dksL_law_86 10 rfl rfl)
theorem dL_law_2258 : decode cL_law 2258 = .ok (.ifCond .ne 15, 3) := dk_154 0 15 (dk_at dksL_law_86 12 rfl rfl)
theorem dL_law_2261 : decode cL_law 2261 = .ok (.aload_n 3, 1) := dk_45 (dk_at dksL_law_86 15 rfl rfl)
theorem dL_law_2262 : decode cL_law 2262 = .ok (.iconst 0, 1) := dk_3 (dk_at dksL_law_86 16 rfl rfl)
theorem dL_law_2263 : decode cL_law 2263 = .ok (.laload, 1) := dk_47 (dk_at dksL_law_86 17 rfl rfl)
theorem dL_law_2264 : decode cL_law 2264 = .ok (.iload 6, 2) := dk_21 6 (dk_at dksL_law_86 18 rfl rfl)
theorem dL_law_2266 : decode cL_law 2266 = .ok (.i2l, 1) := dk_133 (dk_at dksL_law_86 20 rfl rfl)
theorem dL_law_2267 : decode cL_law 2267 = .ok (.lcmp, 1) := dk_148 (dk_at dksL_law_86 21 rfl rfl)
theorem dL_law_2268 : decode cL_law 2268 = .ok (.ifCond .eq 5, 3) := dk_153 0 5 (dk_at dksL_law_87 0 rfl rfl)
theorem dL_law_2271 : decode cL_law 2271 = .ok (.iconst 0, 1) := dk_3 (dk_at dksL_law_87 3 rfl rfl)
theorem dL_law_2272 : decode cL_law 2272 = .ok (.ireturn, 1) := dk_172 (dk_at dksL_law_87 4 rfl rfl)
theorem dL_law_2273 : decode cL_law 2273 = .ok (.goto 701, 3) := dk_167 2 189 (dk_at dksL_law_87 5 rfl rfl)
theorem dL_law_2276 : decode cL_law 2276 = .ok (.aload_n 1, 1) := dk_43 (dk_at dksL_law_87 8 rfl rfl)
theorem dL_law_2277 : decode cL_law 2277 = .ok (.aload_n 3, 1) := dk_45 (dk_at dksL_law_87 9 rfl rfl)
theorem dL_law_2278 : decode cL_law 2278 = .ok (.invokestatic 281, 3) := dk_184 1 25 (dk_at dksL_law_87 10 rfl rfl)
theorem dL_law_2281 : decode cL_law 2281 = .ok (.istore 5, 2) := dk_54 5 (dk_at dksL_law_87 13 rfl rfl)
theorem dL_law_2283 : decode cL_law 2283 = .ok (.aload_n 2, 1) := dk_44 (dk_at dksL_law_87 15 rfl rfl)
theorem dL_law_2284 : decode cL_law 2284 = .ok (.invokevirtual 283, 3) := dk_182 1 27 (dk_at dksL_law_87 16 rfl rfl)
theorem dL_law_2287 : decode cL_law 2287 = .ok (.istore 6, 2) := dk_54 6 (dk_at dksL_law_87 19 rfl rfl)
theorem dL_law_2289 : decode cL_law 2289 = .ok (.aload_n 2, 1) := dk_44 (dk_at dksL_law_87 21 rfl rfl)
theorem dL_law_2290 : decode cL_law 2290 = .ok (.invokevirtual 160, 3) := dk_182 0 160 (dk_at dksL_law_88 0 rfl rfl)
theorem dL_law_2293 : decode cL_law 2293 = .ok (.iload 5, 2) := dk_21 5 (dk_at dksL_law_88 3 rfl rfl)
theorem dL_law_2295 : decode cL_law 2295 = .ok (.if_icmp .eq 5, 3) := dk_159 0 5 (dk_at dksL_law_88 5 rfl rfl)
theorem dL_law_2298 : decode cL_law 2298 = .ok (.iconst 0, 1) := dk_3 (dk_at dksL_law_88 8 rfl rfl)
theorem dL_law_2299 : decode cL_law 2299 = .ok (.ireturn, 1) := dk_172 (dk_at dksL_law_88 9 rfl rfl)
theorem dL_law_2300 : decode cL_law 2300 = .ok (.iload 5, 2) := dk_21 5 (dk_at dksL_law_88 10 rfl rfl)
theorem dL_law_2302 : decode cL_law 2302 = .ok (.ifCond .ne 15, 3) := dk_154 0 15 (dk_at dksL_law_88 12 rfl rfl)
theorem dL_law_2305 : decode cL_law 2305 = .ok (.aload_n 3, 1) := dk_45 (dk_at dksL_law_88 15 rfl rfl)
theorem dL_law_2306 : decode cL_law 2306 = .ok (.iconst 0, 1) := dk_3 (dk_at dksL_law_88 16 rfl rfl)
theorem dL_law_2307 : decode cL_law 2307 = .ok (.laload, 1) := dk_47 (dk_at dksL_law_88 17 rfl rfl)
theorem dL_law_2308 : decode cL_law 2308 = .ok (.iload 6, 2) := dk_21 6 (dk_at dksL_law_88 18 rfl rfl)
theorem dL_law_2310 : decode cL_law 2310 = .ok (.i2l, 1) := dk_133 (dk_at dksL_law_88 20 rfl rfl)
theorem dL_law_2311 : decode cL_law 2311 = .ok (.lcmp, 1) := dk_148 (dk_at dksL_law_88 21 rfl rfl)
theorem dL_law_2312 : decode cL_law 2312 = .ok (.ifCond .eq 5, 3) := dk_153 0 5 (dk_at dksL_law_89 0 rfl rfl)
theorem dL_law_2315 : decode cL_law 2315 = .ok (.iconst 0, 1) := dk_3 (dk_at dksL_law_89 3 rfl rfl)
theorem dL_law_2316 : decode cL_law 2316 = .ok (.ireturn, 1) := dk_172 (dk_at dksL_law_89 4 rfl rfl)
theorem dL_law_2317 : decode cL_law 2317 = .ok (.goto 657, 3) := dk_167 2 145 (dk_at dksL_law_89 5 rfl rfl)
theorem dL_law_2320 : decode cL_law 2320 = .ok (.aload_n 1, 1) := dk_43 (dk_at dksL_law_89 8 rfl rfl)
theorem dL_law_2321 : decode cL_law 2321 = .ok (.aload_n 3, 1) := dk_45 (dk_at dksL_law_89 9 rfl rfl)
theorem dL_law_2322 : decode cL_law 2322 = .ok (.invokestatic 284, 3) := dk_184 1 28 (dk_at dksL_law_89 10 rfl rfl)
theorem dL_law_2325 : decode cL_law 2325 = .ok (.istore 5, 2) := dk_54 5 (dk_at dksL_law_89 13 rfl rfl)
theorem dL_law_2327 : decode cL_law 2327 = .ok (.aload_n 2, 1) := dk_44 (dk_at dksL_law_89 15 rfl rfl)
theorem dL_law_2328 : decode cL_law 2328 = .ok (.invokevirtual 286, 3) := dk_182 1 30 (dk_at dksL_law_89 16 rfl rfl)
theorem dL_law_2331 : decode cL_law 2331 = .ok (.istore 6, 2) := dk_54 6 (dk_at dksL_law_89 19 rfl rfl)
theorem dL_law_2333 : decode cL_law 2333 = .ok (.aload_n 2, 1) := dk_44 (dk_at dksL_law_89 21 rfl rfl)
theorem dL_law_2334 : decode cL_law 2334 = .ok (.invokevirtual 160, 3) := dk_182 0 160 (dk_at dksL_law_90 0 rfl rfl)
theorem dL_law_2337 : decode cL_law 2337 = .ok (.iload 5, 2) := dk_21 5 (dk_at dksL_law_90 3 rfl rfl)
theorem dL_law_2339 : decode cL_law 2339 = .ok (.if_icmp .eq 5, 3) := dk_159 0 5 (dk_at dksL_law_90 5 rfl rfl)
theorem dL_law_2342 : decode cL_law 2342 = .ok (.iconst 0, 1) := dk_3 (dk_at dksL_law_90 8 rfl rfl)
theorem dL_law_2343 : decode cL_law 2343 = .ok (.ireturn, 1) := dk_172 (dk_at dksL_law_90 9 rfl rfl)
theorem dL_law_2344 : decode cL_law 2344 = .ok (.iload 5, 2) := dk_21 5 (dk_at dksL_law_90 10 rfl rfl)
theorem dL_law_2346 : decode cL_law 2346 = .ok (.ifCond .ne 15, 3) := dk_154 0 15 (dk_at dksL_law_90 12 rfl rfl)
theorem dL_law_2349 : decode cL_law 2349 = .ok (.aload_n 3, 1) := dk_45 (dk_at dksL_law_90 15 rfl rfl)
theorem dL_law_2350 : decode cL_law 2350 = .ok (.iconst 0, 1) := dk_3 (dk_at dksL_law_90 16 rfl rfl)
theorem dL_law_2351 : decode cL_law 2351 = .ok (.laload, 1) := dk_47 (dk_at dksL_law_90 17 rfl rfl)
theorem dL_law_2352 : decode cL_law 2352 = .ok (.iload 6, 2) := dk_21 6 (dk_at dksL_law_90 18 rfl rfl)
theorem dL_law_2354 : decode cL_law 2354 = .ok (.i2l, 1) := dk_133 (dk_at dksL_law_90 20 rfl rfl)
theorem dL_law_2355 : decode cL_law 2355 = .ok (.lcmp, 1) := dk_148 (dk_at dksL_law_90 21 rfl rfl)
theorem dL_law_2356 : decode cL_law 2356 = .ok (.ifCond .eq 5, 3) := dk_153 0 5 (dk_at dksL_law_91 0 rfl rfl)
theorem dL_law_2359 : decode cL_law 2359 = .ok (.iconst 0, 1) := dk_3 (dk_at dksL_law_91 3 rfl rfl)
theorem dL_law_2360 : decode cL_law 2360 = .ok (.ireturn, 1) := dk_172 (dk_at dksL_law_91 4 rfl rfl)
theorem dL_law_2361 : decode cL_law 2361 = .ok (.goto 613, 3) := dk_167 2 101 (dk_at dksL_law_91 5 rfl rfl)
theorem dL_law_2364 : decode cL_law 2364 = .ok (.aload_n 1, 1) := dk_43 (dk_at dksL_law_91 8 rfl rfl)
theorem dL_law_2365 : decode cL_law 2365 = .ok (.aload_n 3, 1) := dk_45 (dk_at dksL_law_91 9 rfl rfl)
theorem dL_law_2366 : decode cL_law 2366 = .ok (.invokestatic 287, 3) := dk_184 1 31 (dk_at dksL_law_91 10 rfl rfl)
theorem dL_law_2369 : decode cL_law 2369 = .ok (.istore 5, 2) := dk_54 5 (dk_at dksL_law_91 13 rfl rfl)
theorem dL_law_2371 : decode cL_law 2371 = .ok (.aload_n 2, 1) := dk_44 (dk_at dksL_law_91 15 rfl rfl)
theorem dL_law_2372 : decode cL_law 2372 = .ok (.invokevirtual 289, 3) := dk_182 1 33 (dk_at dksL_law_91 16 rfl rfl)
theorem dL_law_2375 : decode cL_law 2375 = .ok (.istore 6, 2) := dk_54 6 (dk_at dksL_law_91 19 rfl rfl)
theorem dL_law_2377 : decode cL_law 2377 = .ok (.aload_n 2, 1) := dk_44 (dk_at dksL_law_91 21 rfl rfl)
theorem dL_law_2378 : decode cL_law 2378 = .ok (.invokevirtual 160, 3) := dk_182 0 160 (dk_at dksL_law_92 0 rfl rfl)
theorem dL_law_2381 : decode cL_law 2381 = .ok (.iload 5, 2) := dk_21 5 (dk_at dksL_law_92 3 rfl rfl)
theorem dL_law_2383 : decode cL_law 2383 = .ok (.if_icmp .eq 5, 3) := dk_159 0 5 (dk_at dksL_law_92 5 rfl rfl)
theorem dL_law_2386 : decode cL_law 2386 = .ok (.iconst 0, 1) := dk_3 (dk_at dksL_law_92 8 rfl rfl)
theorem dL_law_2387 : decode cL_law 2387 = .ok (.ireturn, 1) := dk_172 (dk_at dksL_law_92 9 rfl rfl)
theorem dL_law_2388 : decode cL_law 2388 = .ok (.iload 5, 2) := dk_21 5 (dk_at dksL_law_92 10 rfl rfl)
theorem dL_law_2390 : decode cL_law 2390 = .ok (.ifCond .ne 15, 3) := dk_154 0 15 (dk_at dksL_law_92 12 rfl rfl)
theorem dL_law_2393 : decode cL_law 2393 = .ok (.aload_n 3, 1) := dk_45 (dk_at dksL_law_92 15 rfl rfl)
theorem dL_law_2394 : decode cL_law 2394 = .ok (.iconst 0, 1) := dk_3 (dk_at dksL_law_92 16 rfl rfl)
theorem dL_law_2395 : decode cL_law 2395 = .ok (.laload, 1) := dk_47 (dk_at dksL_law_92 17 rfl rfl)
theorem dL_law_2396 : decode cL_law 2396 = .ok (.iload 6, 2) := dk_21 6 (dk_at dksL_law_92 18 rfl rfl)
theorem dL_law_2398 : decode cL_law 2398 = .ok (.i2l, 1) := dk_133 (dk_at dksL_law_92 20 rfl rfl)
theorem dL_law_2399 : decode cL_law 2399 = .ok (.lcmp, 1) := dk_148 (dk_at dksL_law_92 21 rfl rfl)
theorem dL_law_2400 : decode cL_law 2400 = .ok (.ifCond .eq 5, 3) := dk_153 0 5 (dk_at dksL_law_93 0 rfl rfl)
theorem dL_law_2403 : decode cL_law 2403 = .ok (.iconst 0, 1) := dk_3 (dk_at dksL_law_93 3 rfl rfl)
theorem dL_law_2404 : decode cL_law 2404 = .ok (.ireturn, 1) := dk_172 (dk_at dksL_law_93 4 rfl rfl)
theorem dL_law_2405 : decode cL_law 2405 = .ok (.goto 569, 3) := dk_167 2 57 (dk_at dksL_law_93 5 rfl rfl)
theorem dL_law_2408 : decode cL_law 2408 = .ok (.aload_n 1, 1) := dk_43 (dk_at dksL_law_93 8 rfl rfl)
theorem dL_law_2409 : decode cL_law 2409 = .ok (.invokevirtual 290, 3) := dk_182 1 34 (dk_at dksL_law_93 9 rfl rfl)
theorem dL_law_2412 : decode cL_law 2412 = .ok (.aload_n 2, 1) := dk_44 (dk_at dksL_law_93 12 rfl rfl)
theorem dL_law_2413 : decode cL_law 2413 = .ok (.invokevirtual 293, 3) := dk_182 1 37 (dk_at dksL_law_93 13 rfl rfl)
theorem dL_law_2416 : decode cL_law 2416 = .ok (.if_icmp .eq 558, 3) := dk_159 2 46 (dk_at dksL_law_93 16 rfl rfl)
theorem dL_law_2419 : decode cL_law 2419 = .ok (.iconst 0, 1) := dk_3 (dk_at dksL_law_93 19 rfl rfl)
theorem dL_law_2420 : decode cL_law 2420 = .ok (.ireturn, 1) := dk_172 (dk_at dksL_law_93 20 rfl rfl)
theorem dL_law_2421 : decode cL_law 2421 = .ok (.aload_n 1, 1) := dk_43 (dk_at dksL_law_93 21 rfl rfl)
theorem dL_law_2422 : decode cL_law 2422 = .ok (.aload_n 0, 1) := dk_42 (dk_at dksL_law_93 22 rfl rfl)
theorem dL_law_2423 : decode cL_law 2423 = .ok (.iload 4, 2) := dk_21 4 (dk_at dksL_law_94 0 rfl rfl)
theorem dL_law_2425 : decode cL_law 2425 = .ok (.iconst 1, 1) := dk_4 (dk_at dksL_law_94 2 rfl rfl)
theorem dL_law_2426 : decode cL_law 2426 = .ok (.iadd, 1) := dk_96 (dk_at dksL_law_94 3 rfl rfl)
theorem dL_law_2427 : decode cL_law 2427 = .ok (.iaload, 1) := dk_46 (dk_at dksL_law_94 4 rfl rfl)
theorem dL_law_2428 : decode cL_law 2428 = .ok (.aload_n 3, 1) := dk_45 (dk_at dksL_law_94 5 rfl rfl)
theorem dL_law_2429 : decode cL_law 2429 = .ok (.invokestatic 294, 3) := dk_184 1 38 (dk_at dksL_law_94 6 rfl rfl)
theorem dL_law_2432 : decode cL_law 2432 = .ok (.istore 5, 2) := dk_54 5 (dk_at dksL_law_94 9 rfl rfl)
theorem dL_law_2434 : decode cL_law 2434 = .ok (.aload_n 2, 1) := dk_44 (dk_at dksL_law_94 11 rfl rfl)
theorem dL_law_2435 : decode cL_law 2435 = .ok (.aload_n 0, 1) := dk_42 (dk_at dksL_law_94 12 rfl rfl)
theorem dL_law_2436 : decode cL_law 2436 = .ok (.iload 4, 2) := dk_21 4 (dk_at dksL_law_94 13 rfl rfl)
theorem dL_law_2438 : decode cL_law 2438 = .ok (.iconst 1, 1) := dk_4 (dk_at dksL_law_94 15 rfl rfl)
theorem dL_law_2439 : decode cL_law 2439 = .ok (.iadd, 1) := dk_96 (dk_at dksL_law_94 16 rfl rfl)
theorem dL_law_2440 : decode cL_law 2440 = .ok (.iaload, 1) := dk_46 (dk_at dksL_law_94 17 rfl rfl)
theorem dL_law_2441 : decode cL_law 2441 = .ok (.invokevirtual 296, 3) := dk_182 1 40 (dk_at dksL_law_94 18 rfl rfl)
theorem dL_law_2444 : decode cL_law 2444 = .ok (.istore 6, 2) := dk_54 6 (dk_at dksL_law_94 21 rfl rfl)
theorem dL_law_2446 : decode cL_law 2446 = .ok (.aload_n 2, 1) := dk_44 (dk_at dksL_law_94 23 rfl rfl)
theorem dL_law_2447 : decode cL_law 2447 = .ok (.invokevirtual 160, 3) := dk_182 0 160 (dk_at dksL_law_95 0 rfl rfl)
theorem dL_law_2450 : decode cL_law 2450 = .ok (.iload 5, 2) := dk_21 5 (dk_at dksL_law_95 3 rfl rfl)
theorem dL_law_2452 : decode cL_law 2452 = .ok (.if_icmp .eq 5, 3) := dk_159 0 5 (dk_at dksL_law_95 5 rfl rfl)
theorem dL_law_2455 : decode cL_law 2455 = .ok (.iconst 0, 1) := dk_3 (dk_at dksL_law_95 8 rfl rfl)
theorem dL_law_2456 : decode cL_law 2456 = .ok (.ireturn, 1) := dk_172 (dk_at dksL_law_95 9 rfl rfl)
theorem dL_law_2457 : decode cL_law 2457 = .ok (.iload 5, 2) := dk_21 5 (dk_at dksL_law_95 10 rfl rfl)
theorem dL_law_2459 : decode cL_law 2459 = .ok (.ifCond .ne 15, 3) := dk_154 0 15 (dk_at dksL_law_95 12 rfl rfl)
theorem dL_law_2462 : decode cL_law 2462 = .ok (.aload_n 3, 1) := dk_45 (dk_at dksL_law_95 15 rfl rfl)
theorem dL_law_2463 : decode cL_law 2463 = .ok (.iconst 0, 1) := dk_3 (dk_at dksL_law_95 16 rfl rfl)
theorem dL_law_2464 : decode cL_law 2464 = .ok (.laload, 1) := dk_47 (dk_at dksL_law_95 17 rfl rfl)
theorem dL_law_2465 : decode cL_law 2465 = .ok (.iload 6, 2) := dk_21 6 (dk_at dksL_law_95 18 rfl rfl)
theorem dL_law_2467 : decode cL_law 2467 = .ok (.i2l, 1) := dk_133 (dk_at dksL_law_95 20 rfl rfl)
theorem dL_law_2468 : decode cL_law 2468 = .ok (.lcmp, 1) := dk_148 (dk_at dksL_law_95 21 rfl rfl)
theorem dL_law_2469 : decode cL_law 2469 = .ok (.ifCond .eq 5, 3) := dk_153 0 5 (dk_at dksL_law_96 0 rfl rfl)
theorem dL_law_2472 : decode cL_law 2472 = .ok (.iconst 0, 1) := dk_3 (dk_at dksL_law_96 3 rfl rfl)
theorem dL_law_2473 : decode cL_law 2473 = .ok (.ireturn, 1) := dk_172 (dk_at dksL_law_96 4 rfl rfl)
theorem dL_law_2474 : decode cL_law 2474 = .ok (.goto 500, 3) := dk_167 1 244 (dk_at dksL_law_96 5 rfl rfl)
theorem dL_law_2477 : decode cL_law 2477 = .ok (.aload_n 1, 1) := dk_43 (dk_at dksL_law_96 8 rfl rfl)
theorem dL_law_2478 : decode cL_law 2478 = .ok (.aload_n 0, 1) := dk_42 (dk_at dksL_law_96 9 rfl rfl)
theorem dL_law_2479 : decode cL_law 2479 = .ok (.iload 4, 2) := dk_21 4 (dk_at dksL_law_96 10 rfl rfl)
theorem dL_law_2481 : decode cL_law 2481 = .ok (.iconst 1, 1) := dk_4 (dk_at dksL_law_96 12 rfl rfl)
theorem dL_law_2482 : decode cL_law 2482 = .ok (.iadd, 1) := dk_96 (dk_at dksL_law_96 13 rfl rfl)
theorem dL_law_2483 : decode cL_law 2483 = .ok (.iaload, 1) := dk_46 (dk_at dksL_law_96 14 rfl rfl)
theorem dL_law_2484 : decode cL_law 2484 = .ok (.aload_n 3, 1) := dk_45 (dk_at dksL_law_96 15 rfl rfl)
theorem dL_law_2485 : decode cL_law 2485 = .ok (.invokestatic 297, 3) := dk_184 1 41 (dk_at dksL_law_96 16 rfl rfl)
theorem dL_law_2488 : decode cL_law 2488 = .ok (.istore 5, 2) := dk_54 5 (dk_at dksL_law_96 19 rfl rfl)
theorem dL_law_2490 : decode cL_law 2490 = .ok (.aload_n 2, 1) := dk_44 (dk_at dksL_law_96 21 rfl rfl)
theorem dL_law_2491 : decode cL_law 2491 = .ok (.aload_n 0, 1) := dk_42 (dk_at dksL_law_96 22 rfl rfl)
theorem dL_law_2492 : decode cL_law 2492 = .ok (.iload 4, 2) := dk_21 4 (dk_at dksL_law_97 0 rfl rfl)
theorem dL_law_2494 : decode cL_law 2494 = .ok (.iconst 1, 1) := dk_4 (dk_at dksL_law_97 2 rfl rfl)
theorem dL_law_2495 : decode cL_law 2495 = .ok (.iadd, 1) := dk_96 (dk_at dksL_law_97 3 rfl rfl)
theorem dL_law_2496 : decode cL_law 2496 = .ok (.iaload, 1) := dk_46 (dk_at dksL_law_97 4 rfl rfl)
theorem dL_law_2497 : decode cL_law 2497 = .ok (.invokevirtual 299, 3) := dk_182 1 43 (dk_at dksL_law_97 5 rfl rfl)
theorem dL_law_2500 : decode cL_law 2500 = .ok (.istore 6, 2) := dk_54 6 (dk_at dksL_law_97 8 rfl rfl)
theorem dL_law_2502 : decode cL_law 2502 = .ok (.aload_n 2, 1) := dk_44 (dk_at dksL_law_97 10 rfl rfl)
theorem dL_law_2503 : decode cL_law 2503 = .ok (.invokevirtual 160, 3) := dk_182 0 160 (dk_at dksL_law_97 11 rfl rfl)
theorem dL_law_2506 : decode cL_law 2506 = .ok (.iload 5, 2) := dk_21 5 (dk_at dksL_law_97 14 rfl rfl)
theorem dL_law_2508 : decode cL_law 2508 = .ok (.if_icmp .eq 5, 3) := dk_159 0 5 (dk_at dksL_law_97 16 rfl rfl)
theorem dL_law_2511 : decode cL_law 2511 = .ok (.iconst 0, 1) := dk_3 (dk_at dksL_law_97 19 rfl rfl)
theorem dL_law_2512 : decode cL_law 2512 = .ok (.ireturn, 1) := dk_172 (dk_at dksL_law_97 20 rfl rfl)
theorem dL_law_2513 : decode cL_law 2513 = .ok (.iload 5, 2) := dk_21 5 (dk_at dksL_law_97 21 rfl rfl)
theorem dL_law_2515 : decode cL_law 2515 = .ok (.ifCond .ne 15, 3) := dk_154 0 15 (dk_at dksL_law_98 0 rfl rfl)
theorem dL_law_2518 : decode cL_law 2518 = .ok (.aload_n 3, 1) := dk_45 (dk_at dksL_law_98 3 rfl rfl)
theorem dL_law_2519 : decode cL_law 2519 = .ok (.iconst 0, 1) := dk_3 (dk_at dksL_law_98 4 rfl rfl)
theorem dL_law_2520 : decode cL_law 2520 = .ok (.laload, 1) := dk_47 (dk_at dksL_law_98 5 rfl rfl)
theorem dL_law_2521 : decode cL_law 2521 = .ok (.iload 6, 2) := dk_21 6 (dk_at dksL_law_98 6 rfl rfl)
theorem dL_law_2523 : decode cL_law 2523 = .ok (.i2l, 1) := dk_133 (dk_at dksL_law_98 8 rfl rfl)
theorem dL_law_2524 : decode cL_law 2524 = .ok (.lcmp, 1) := dk_148 (dk_at dksL_law_98 9 rfl rfl)
theorem dL_law_2525 : decode cL_law 2525 = .ok (.ifCond .eq 5, 3) := dk_153 0 5 (dk_at dksL_law_98 10 rfl rfl)
theorem dL_law_2528 : decode cL_law 2528 = .ok (.iconst 0, 1) := dk_3 (dk_at dksL_law_98 13 rfl rfl)
theorem dL_law_2529 : decode cL_law 2529 = .ok (.ireturn, 1) := dk_172 (dk_at dksL_law_98 14 rfl rfl)
theorem dL_law_2530 : decode cL_law 2530 = .ok (.goto 444, 3) := dk_167 1 188 (dk_at dksL_law_98 15 rfl rfl)
theorem dL_law_2533 : decode cL_law 2533 = .ok (.aload_n 1, 1) := dk_43 (dk_at dksL_law_98 18 rfl rfl)
theorem dL_law_2534 : decode cL_law 2534 = .ok (.invokevirtual 300, 3) := dk_182 1 44 (dk_at dksL_law_98 19 rfl rfl)
theorem dL_law_2537 : decode cL_law 2537 = .ok (.aload_n 2, 1) := dk_44 (dk_at dksL_law_98 22 rfl rfl)
theorem dL_law_2538 : decode cL_law 2538 = .ok (.invokevirtual 303, 3) := dk_182 1 47 (dk_at dksL_law_99 0 rfl rfl)
theorem dL_law_2541 : decode cL_law 2541 = .ok (.if_icmp .eq 433, 3) := dk_159 1 177 (dk_at dksL_law_99 3 rfl rfl)
theorem dL_law_2544 : decode cL_law 2544 = .ok (.iconst 0, 1) := dk_3 (dk_at dksL_law_99 6 rfl rfl)
theorem dL_law_2545 : decode cL_law 2545 = .ok (.ireturn, 1) := dk_172 (dk_at dksL_law_99 7 rfl rfl)
theorem dL_law_2546 : decode cL_law 2546 = .ok (.aload_n 1, 1) := dk_43 (dk_at dksL_law_99 8 rfl rfl)
theorem dL_law_2547 : decode cL_law 2547 = .ok (.invokevirtual 304, 3) := dk_182 1 48 (dk_at dksL_law_99 9 rfl rfl)
theorem dL_law_2550 : decode cL_law 2550 = .ok (.aload_n 2, 1) := dk_44 (dk_at dksL_law_99 12 rfl rfl)
theorem dL_law_2551 : decode cL_law 2551 = .ok (.invokevirtual 307, 3) := dk_182 1 51 (dk_at dksL_law_99 13 rfl rfl)
theorem dL_law_2554 : decode cL_law 2554 = .ok (.if_icmp .eq 420, 3) := dk_159 1 164 (dk_at dksL_law_99 16 rfl rfl)
theorem dL_law_2557 : decode cL_law 2557 = .ok (.iconst 0, 1) := dk_3 (dk_at dksL_law_99 19 rfl rfl)
theorem dL_law_2558 : decode cL_law 2558 = .ok (.ireturn, 1) := dk_172 (dk_at dksL_law_99 20 rfl rfl)
theorem dL_law_2559 : decode cL_law 2559 = .ok (.aload_n 1, 1) := dk_43 (dk_at dksL_law_99 21 rfl rfl)
theorem dL_law_2560 : decode cL_law 2560 = .ok (.aload_n 0, 1) := dk_42 (dk_at dksL_law_99 22 rfl rfl)
theorem dL_law_2561 : decode cL_law 2561 = .ok (.iload 4, 2) := dk_21 4 (dk_at dksL_law_100 0 rfl rfl)
theorem dL_law_2563 : decode cL_law 2563 = .ok (.iconst 1, 1) := dk_4 (dk_at dksL_law_100 2 rfl rfl)
theorem dL_law_2564 : decode cL_law 2564 = .ok (.iadd, 1) := dk_96 (dk_at dksL_law_100 3 rfl rfl)
theorem dL_law_2565 : decode cL_law 2565 = .ok (.iaload, 1) := dk_46 (dk_at dksL_law_100 4 rfl rfl)
theorem dL_law_2566 : decode cL_law 2566 = .ok (.aload_n 3, 1) := dk_45 (dk_at dksL_law_100 5 rfl rfl)
theorem dL_law_2567 : decode cL_law 2567 = .ok (.invokestatic 308, 3) := dk_184 1 52 (dk_at dksL_law_100 6 rfl rfl)
theorem dL_law_2570 : decode cL_law 2570 = .ok (.istore 5, 2) := dk_54 5 (dk_at dksL_law_100 9 rfl rfl)
theorem dL_law_2572 : decode cL_law 2572 = .ok (.aload_n 2, 1) := dk_44 (dk_at dksL_law_100 11 rfl rfl)
theorem dL_law_2573 : decode cL_law 2573 = .ok (.aload_n 0, 1) := dk_42 (dk_at dksL_law_100 12 rfl rfl)
theorem dL_law_2574 : decode cL_law 2574 = .ok (.iload 4, 2) := dk_21 4 (dk_at dksL_law_100 13 rfl rfl)
theorem dL_law_2576 : decode cL_law 2576 = .ok (.iconst 1, 1) := dk_4 (dk_at dksL_law_100 15 rfl rfl)
theorem dL_law_2577 : decode cL_law 2577 = .ok (.iadd, 1) := dk_96 (dk_at dksL_law_100 16 rfl rfl)
theorem dL_law_2578 : decode cL_law 2578 = .ok (.iaload, 1) := dk_46 (dk_at dksL_law_100 17 rfl rfl)
theorem dL_law_2579 : decode cL_law 2579 = .ok (.invokevirtual 310, 3) := dk_182 1 54 (dk_at dksL_law_100 18 rfl rfl)
theorem dL_law_2582 : decode cL_law 2582 = .ok (.istore 6, 2) := dk_54 6 (dk_at dksL_law_100 21 rfl rfl)
theorem dL_law_2584 : decode cL_law 2584 = .ok (.aload_n 2, 1) := dk_44 (dk_at dksL_law_100 23 rfl rfl)
theorem dL_law_2585 : decode cL_law 2585 = .ok (.invokevirtual 160, 3) := dk_182 0 160 (dk_at dksL_law_101 0 rfl rfl)
theorem dL_law_2588 : decode cL_law 2588 = .ok (.iload 5, 2) := dk_21 5 (dk_at dksL_law_101 3 rfl rfl)
theorem dL_law_2590 : decode cL_law 2590 = .ok (.if_icmp .eq 5, 3) := dk_159 0 5 (dk_at dksL_law_101 5 rfl rfl)
theorem dL_law_2593 : decode cL_law 2593 = .ok (.iconst 0, 1) := dk_3 (dk_at dksL_law_101 8 rfl rfl)
theorem dL_law_2594 : decode cL_law 2594 = .ok (.ireturn, 1) := dk_172 (dk_at dksL_law_101 9 rfl rfl)
theorem dL_law_2595 : decode cL_law 2595 = .ok (.iload 5, 2) := dk_21 5 (dk_at dksL_law_101 10 rfl rfl)
theorem dL_law_2597 : decode cL_law 2597 = .ok (.ifCond .ne 15, 3) := dk_154 0 15 (dk_at dksL_law_101 12 rfl rfl)
theorem dL_law_2600 : decode cL_law 2600 = .ok (.aload_n 3, 1) := dk_45 (dk_at dksL_law_101 15 rfl rfl)
theorem dL_law_2601 : decode cL_law 2601 = .ok (.iconst 0, 1) := dk_3 (dk_at dksL_law_101 16 rfl rfl)
theorem dL_law_2602 : decode cL_law 2602 = .ok (.laload, 1) := dk_47 (dk_at dksL_law_101 17 rfl rfl)
theorem dL_law_2603 : decode cL_law 2603 = .ok (.iload 6, 2) := dk_21 6 (dk_at dksL_law_101 18 rfl rfl)
theorem dL_law_2605 : decode cL_law 2605 = .ok (.i2l, 1) := dk_133 (dk_at dksL_law_101 20 rfl rfl)
theorem dL_law_2606 : decode cL_law 2606 = .ok (.lcmp, 1) := dk_148 (dk_at dksL_law_101 21 rfl rfl)
theorem dL_law_2607 : decode cL_law 2607 = .ok (.ifCond .eq 5, 3) := dk_153 0 5 (dk_at dksL_law_102 0 rfl rfl)
theorem dL_law_2610 : decode cL_law 2610 = .ok (.iconst 0, 1) := dk_3 (dk_at dksL_law_102 3 rfl rfl)
theorem dL_law_2611 : decode cL_law 2611 = .ok (.ireturn, 1) := dk_172 (dk_at dksL_law_102 4 rfl rfl)
theorem dL_law_2612 : decode cL_law 2612 = .ok (.goto 362, 3) := dk_167 1 106 (dk_at dksL_law_102 5 rfl rfl)
theorem dL_law_2615 : decode cL_law 2615 = .ok (.aload_n 1, 1) := dk_43 (dk_at dksL_law_102 8 rfl rfl)
theorem dL_law_2616 : decode cL_law 2616 = .ok (.invokevirtual 311, 3) := dk_182 1 55 (dk_at dksL_law_102 9 rfl rfl)
theorem dL_law_2619 : decode cL_law 2619 = .ok (.aload_n 2, 1) := dk_44 (dk_at dksL_law_102 12 rfl rfl)
theorem dL_law_2620 : decode cL_law 2620 = .ok (.invokevirtual 314, 3) := dk_182 1 58 (dk_at dksL_law_102 13 rfl rfl)
theorem dL_law_2623 : decode cL_law 2623 = .ok (.if_icmp .eq 351, 3) := dk_159 1 95 (dk_at dksL_law_102 16 rfl rfl)
theorem dL_law_2626 : decode cL_law 2626 = .ok (.iconst 0, 1) := dk_3 (dk_at dksL_law_102 19 rfl rfl)
theorem dL_law_2627 : decode cL_law 2627 = .ok (.ireturn, 1) := dk_172 (dk_at dksL_law_102 20 rfl rfl)
theorem dL_law_2628 : decode cL_law 2628 = .ok (.aload_n 1, 1) := dk_43 (dk_at dksL_law_102 21 rfl rfl)
theorem dL_law_2629 : decode cL_law 2629 = .ok (.invokevirtual 315, 3) := dk_182 1 59 (dk_at dksL_law_103 0 rfl rfl)
theorem dL_law_2632 : decode cL_law 2632 = .ok (.aload_n 2, 1) := dk_44 (dk_at dksL_law_103 3 rfl rfl)
theorem dL_law_2633 : decode cL_law 2633 = .ok (.invokevirtual 318, 3) := dk_182 1 62 (dk_at dksL_law_103 4 rfl rfl)
theorem dL_law_2636 : decode cL_law 2636 = .ok (.if_icmp .eq 338, 3) := dk_159 1 82 (dk_at dksL_law_103 7 rfl rfl)
theorem dL_law_2639 : decode cL_law 2639 = .ok (.iconst 0, 1) := dk_3 (dk_at dksL_law_103 10 rfl rfl)
theorem dL_law_2640 : decode cL_law 2640 = .ok (.ireturn, 1) := dk_172 (dk_at dksL_law_103 11 rfl rfl)
theorem dL_law_2641 : decode cL_law 2641 = .ok (.aload_n 1, 1) := dk_43 (dk_at dksL_law_103 12 rfl rfl)
theorem dL_law_2642 : decode cL_law 2642 = .ok (.invokevirtual 319, 3) := dk_182 1 63 (dk_at dksL_law_103 13 rfl rfl)
theorem dL_law_2645 : decode cL_law 2645 = .ok (.aload_n 2, 1) := dk_44 (dk_at dksL_law_103 16 rfl rfl)
theorem dL_law_2646 : decode cL_law 2646 = .ok (.invokevirtual 322, 3) := dk_182 1 66 (dk_at dksL_law_103 17 rfl rfl)
theorem dL_law_2649 : decode cL_law 2649 = .ok (.if_icmp .eq 325, 3) := dk_159 1 69 (dk_at dksL_law_103 20 rfl rfl)
theorem dL_law_2652 : decode cL_law 2652 = .ok (.iconst 0, 1) := dk_3 (dk_at dksL_law_103 23 rfl rfl)
theorem dL_law_2653 : decode cL_law 2653 = .ok (.ireturn, 1) := dk_172 (dk_at dksL_law_104 0 rfl rfl)
theorem dL_law_2654 : decode cL_law 2654 = .ok (.aload_n 1, 1) := dk_43 (dk_at dksL_law_104 1 rfl rfl)
theorem dL_law_2655 : decode cL_law 2655 = .ok (.invokevirtual 323, 3) := dk_182 1 67 (dk_at dksL_law_104 2 rfl rfl)
theorem dL_law_2658 : decode cL_law 2658 = .ok (.aload_n 2, 1) := dk_44 (dk_at dksL_law_104 5 rfl rfl)
theorem dL_law_2659 : decode cL_law 2659 = .ok (.invokevirtual 326, 3) := dk_182 1 70 (dk_at dksL_law_104 6 rfl rfl)
theorem dL_law_2662 : decode cL_law 2662 = .ok (.if_icmp .eq 312, 3) := dk_159 1 56 (dk_at dksL_law_104 9 rfl rfl)
theorem dL_law_2665 : decode cL_law 2665 = .ok (.iconst 0, 1) := dk_3 (dk_at dksL_law_104 12 rfl rfl)
theorem dL_law_2666 : decode cL_law 2666 = .ok (.ireturn, 1) := dk_172 (dk_at dksL_law_104 13 rfl rfl)
theorem dL_law_2667 : decode cL_law 2667 = .ok (.aload_n 1, 1) := dk_43 (dk_at dksL_law_104 14 rfl rfl)
theorem dL_law_2668 : decode cL_law 2668 = .ok (.invokevirtual 327, 3) := dk_182 1 71 (dk_at dksL_law_104 15 rfl rfl)
theorem dL_law_2671 : decode cL_law 2671 = .ok (.dstore 5, 2) := dk_57 5 (dk_at dksL_law_104 18 rfl rfl)
theorem dL_law_2673 : decode cL_law 2673 = .ok (.aload_n 2, 1) := dk_44 (dk_at dksL_law_104 20 rfl rfl)
theorem dL_law_2674 : decode cL_law 2674 = .ok (.invokevirtual 331, 3) := dk_182 1 75 (dk_at dksL_law_104 21 rfl rfl)
theorem dL_law_2677 : decode cL_law 2677 = .ok (.dstore 7, 2) := dk_57 7 (dk_at dksL_law_105 0 rfl rfl)
theorem dL_law_2679 : decode cL_law 2679 = .ok (.dload 5, 2) := dk_24 5 (dk_at dksL_law_105 2 rfl rfl)
theorem dL_law_2681 : decode cL_law 2681 = .ok (.dload 7, 2) := dk_24 7 (dk_at dksL_law_105 4 rfl rfl)
theorem dL_law_2683 : decode cL_law 2683 = .ok (.dcmp .l, 1) := dk_151 (dk_at dksL_law_105 6 rfl rfl)
theorem dL_law_2684 : decode cL_law 2684 = .ok (.ifCond .eq 21, 3) := dk_153 0 21 (dk_at dksL_law_105 7 rfl rfl)
theorem dL_law_2687 : decode cL_law 2687 = .ok (.dload 5, 2) := dk_24 5 (dk_at dksL_law_105 10 rfl rfl)
theorem dL_law_2689 : decode cL_law 2689 = .ok (.dload 5, 2) := dk_24 5 (dk_at dksL_law_105 12 rfl rfl)
theorem dL_law_2691 : decode cL_law 2691 = .ok (.dcmp .l, 1) := dk_151 (dk_at dksL_law_105 14 rfl rfl)
theorem dL_law_2692 : decode cL_law 2692 = .ok (.ifCond .eq 11, 3) := dk_153 0 11 (dk_at dksL_law_105 15 rfl rfl)
theorem dL_law_2695 : decode cL_law 2695 = .ok (.dload 7, 2) := dk_24 7 (dk_at dksL_law_105 18 rfl rfl)
theorem dL_law_2697 : decode cL_law 2697 = .ok (.dload 7, 2) := dk_24 7 (dk_at dksL_law_105 20 rfl rfl)
theorem dL_law_2699 : decode cL_law 2699 = .ok (.dcmp .l, 1) := dk_151 (dk_at dksL_law_105 22 rfl rfl)
theorem dL_law_2700 : decode cL_law 2700 = .ok (.ifCond .ne 5, 3) := dk_154 0 5 (dk_at dksL_law_106 0 rfl rfl)
theorem dL_law_2703 : decode cL_law 2703 = .ok (.iconst 0, 1) := dk_3 (dk_at dksL_law_106 3 rfl rfl)
theorem dL_law_2704 : decode cL_law 2704 = .ok (.ireturn, 1) := dk_172 (dk_at dksL_law_106 4 rfl rfl)
theorem dL_law_2705 : decode cL_law 2705 = .ok (.goto 269, 3) := dk_167 1 13 (dk_at dksL_law_106 5 rfl rfl)
theorem dL_law_2708 : decode cL_law 2708 = .ok (.aload_n 1, 1) := dk_43 (dk_at dksL_law_106 8 rfl rfl)
theorem dL_law_2709 : decode cL_law 2709 = .ok (.aload_n 0, 1) := dk_42 (dk_at dksL_law_106 9 rfl rfl)
theorem dL_law_2710 : decode cL_law 2710 = .ok (.iload 4, 2) := dk_21 4 (dk_at dksL_law_106 10 rfl rfl)
theorem dL_law_2712 : decode cL_law 2712 = .ok (.iconst 1, 1) := dk_4 (dk_at dksL_law_106 12 rfl rfl)
theorem dL_law_2713 : decode cL_law 2713 = .ok (.iadd, 1) := dk_96 (dk_at dksL_law_106 13 rfl rfl)
theorem dL_law_2714 : decode cL_law 2714 = .ok (.iaload, 1) := dk_46 (dk_at dksL_law_106 14 rfl rfl)
theorem dL_law_2715 : decode cL_law 2715 = .ok (.aload_n 3, 1) := dk_45 (dk_at dksL_law_106 15 rfl rfl)
theorem dL_law_2716 : decode cL_law 2716 = .ok (.invokestatic 332, 3) := dk_184 1 76 (dk_at dksL_law_106 16 rfl rfl)
theorem dL_law_2719 : decode cL_law 2719 = .ok (.istore 5, 2) := dk_54 5 (dk_at dksL_law_106 19 rfl rfl)
theorem dL_law_2721 : decode cL_law 2721 = .ok (.aload_n 2, 1) := dk_44 (dk_at dksL_law_106 21 rfl rfl)
theorem dL_law_2722 : decode cL_law 2722 = .ok (.aload_n 0, 1) := dk_42 (dk_at dksL_law_106 22 rfl rfl)
theorem dL_law_2723 : decode cL_law 2723 = .ok (.iload 4, 2) := dk_21 4 (dk_at dksL_law_107 0 rfl rfl)
theorem dL_law_2725 : decode cL_law 2725 = .ok (.iconst 1, 1) := dk_4 (dk_at dksL_law_107 2 rfl rfl)
theorem dL_law_2726 : decode cL_law 2726 = .ok (.iadd, 1) := dk_96 (dk_at dksL_law_107 3 rfl rfl)
theorem dL_law_2727 : decode cL_law 2727 = .ok (.iaload, 1) := dk_46 (dk_at dksL_law_107 4 rfl rfl)
theorem dL_law_2728 : decode cL_law 2728 = .ok (.invokevirtual 334, 3) := dk_182 1 78 (dk_at dksL_law_107 5 rfl rfl)
theorem dL_law_2731 : decode cL_law 2731 = .ok (.istore 6, 2) := dk_54 6 (dk_at dksL_law_107 8 rfl rfl)
theorem dL_law_2733 : decode cL_law 2733 = .ok (.aload_n 2, 1) := dk_44 (dk_at dksL_law_107 10 rfl rfl)
theorem dL_law_2734 : decode cL_law 2734 = .ok (.invokevirtual 160, 3) := dk_182 0 160 (dk_at dksL_law_107 11 rfl rfl)
theorem dL_law_2737 : decode cL_law 2737 = .ok (.iload 5, 2) := dk_21 5 (dk_at dksL_law_107 14 rfl rfl)
theorem dL_law_2739 : decode cL_law 2739 = .ok (.if_icmp .eq 5, 3) := dk_159 0 5 (dk_at dksL_law_107 16 rfl rfl)
theorem dL_law_2742 : decode cL_law 2742 = .ok (.iconst 0, 1) := dk_3 (dk_at dksL_law_107 19 rfl rfl)
theorem dL_law_2743 : decode cL_law 2743 = .ok (.ireturn, 1) := dk_172 (dk_at dksL_law_107 20 rfl rfl)
theorem dL_law_2744 : decode cL_law 2744 = .ok (.iload 5, 2) := dk_21 5 (dk_at dksL_law_107 21 rfl rfl)
theorem dL_law_2746 : decode cL_law 2746 = .ok (.ifCond .ne 15, 3) := dk_154 0 15 (dk_at dksL_law_108 0 rfl rfl)
theorem dL_law_2749 : decode cL_law 2749 = .ok (.aload_n 3, 1) := dk_45 (dk_at dksL_law_108 3 rfl rfl)
theorem dL_law_2750 : decode cL_law 2750 = .ok (.iconst 0, 1) := dk_3 (dk_at dksL_law_108 4 rfl rfl)
theorem dL_law_2751 : decode cL_law 2751 = .ok (.laload, 1) := dk_47 (dk_at dksL_law_108 5 rfl rfl)
theorem dL_law_2752 : decode cL_law 2752 = .ok (.iload 6, 2) := dk_21 6 (dk_at dksL_law_108 6 rfl rfl)
theorem dL_law_2754 : decode cL_law 2754 = .ok (.i2l, 1) := dk_133 (dk_at dksL_law_108 8 rfl rfl)
theorem dL_law_2755 : decode cL_law 2755 = .ok (.lcmp, 1) := dk_148 (dk_at dksL_law_108 9 rfl rfl)
theorem dL_law_2756 : decode cL_law 2756 = .ok (.ifCond .eq 5, 3) := dk_153 0 5 (dk_at dksL_law_108 10 rfl rfl)
theorem dL_law_2759 : decode cL_law 2759 = .ok (.iconst 0, 1) := dk_3 (dk_at dksL_law_108 13 rfl rfl)
theorem dL_law_2760 : decode cL_law 2760 = .ok (.ireturn, 1) := dk_172 (dk_at dksL_law_108 14 rfl rfl)
theorem dL_law_2761 : decode cL_law 2761 = .ok (.goto 213, 3) := dk_167 0 213 (dk_at dksL_law_108 15 rfl rfl)
theorem dL_law_2764 : decode cL_law 2764 = .ok (.aload_n 1, 1) := dk_43 (dk_at dksL_law_108 18 rfl rfl)
theorem dL_law_2765 : decode cL_law 2765 = .ok (.invokevirtual 335, 3) := dk_182 1 79 (dk_at dksL_law_108 19 rfl rfl)
theorem dL_law_2768 : decode cL_law 2768 = .ok (.aload_n 2, 1) := dk_44 (dk_at dksL_law_108 22 rfl rfl)
theorem dL_law_2769 : decode cL_law 2769 = .ok (.invokevirtual 338, 3) := dk_182 1 82 (dk_at dksL_law_109 0 rfl rfl)
theorem dL_law_2772 : decode cL_law 2772 = .ok (.if_icmp .eq 202, 3) := dk_159 0 202 (dk_at dksL_law_109 3 rfl rfl)
theorem dL_law_2775 : decode cL_law 2775 = .ok (.iconst 0, 1) := dk_3 (dk_at dksL_law_109 6 rfl rfl)
theorem dL_law_2776 : decode cL_law 2776 = .ok (.ireturn, 1) := dk_172 (dk_at dksL_law_109 7 rfl rfl)
theorem dL_law_2777 : decode cL_law 2777 = .ok (.aload_n 1, 1) := dk_43 (dk_at dksL_law_109 8 rfl rfl)
theorem dL_law_2778 : decode cL_law 2778 = .ok (.invokevirtual 339, 3) := dk_182 1 83 (dk_at dksL_law_109 9 rfl rfl)
theorem dL_law_2781 : decode cL_law 2781 = .ok (.aload_n 2, 1) := dk_44 (dk_at dksL_law_109 12 rfl rfl)
theorem dL_law_2782 : decode cL_law 2782 = .ok (.invokevirtual 342, 3) := dk_182 1 86 (dk_at dksL_law_109 13 rfl rfl)
theorem dL_law_2785 : decode cL_law 2785 = .ok (.if_icmp .eq 189, 3) := dk_159 0 189 (dk_at dksL_law_109 16 rfl rfl)
theorem dL_law_2788 : decode cL_law 2788 = .ok (.iconst 0, 1) := dk_3 (dk_at dksL_law_109 19 rfl rfl)
theorem dL_law_2789 : decode cL_law 2789 = .ok (.ireturn, 1) := dk_172 (dk_at dksL_law_109 20 rfl rfl)
theorem dL_law_2790 : decode cL_law 2790 = .ok (.aload_n 1, 1) := dk_43 (dk_at dksL_law_109 21 rfl rfl)
theorem dL_law_2791 : decode cL_law 2791 = .ok (.invokevirtual 343, 3) := dk_182 1 87 (dk_at dksL_law_110 0 rfl rfl)
theorem dL_law_2794 : decode cL_law 2794 = .ok (.aload_n 2, 1) := dk_44 (dk_at dksL_law_110 3 rfl rfl)
theorem dL_law_2795 : decode cL_law 2795 = .ok (.invokevirtual 347, 3) := dk_182 1 91 (dk_at dksL_law_110 4 rfl rfl)
theorem dL_law_2798 : decode cL_law 2798 = .ok (.if_icmp .eq 176, 3) := dk_159 0 176 (dk_at dksL_law_110 7 rfl rfl)
theorem dL_law_2801 : decode cL_law 2801 = .ok (.iconst 0, 1) := dk_3 (dk_at dksL_law_110 10 rfl rfl)
theorem dL_law_2802 : decode cL_law 2802 = .ok (.ireturn, 1) := dk_172 (dk_at dksL_law_110 11 rfl rfl)
theorem dL_law_2803 : decode cL_law 2803 = .ok (.aload_n 1, 1) := dk_43 (dk_at dksL_law_110 12 rfl rfl)
theorem dL_law_2804 : decode cL_law 2804 = .ok (.invokevirtual 348, 3) := dk_182 1 92 (dk_at dksL_law_110 13 rfl rfl)
theorem dL_law_2807 : decode cL_law 2807 = .ok (.aload_n 2, 1) := dk_44 (dk_at dksL_law_110 16 rfl rfl)
theorem dL_law_2808 : decode cL_law 2808 = .ok (.invokevirtual 351, 3) := dk_182 1 95 (dk_at dksL_law_110 17 rfl rfl)
theorem dL_law_2811 : decode cL_law 2811 = .ok (.if_icmp .eq 163, 3) := dk_159 0 163 (dk_at dksL_law_110 20 rfl rfl)
theorem dL_law_2814 : decode cL_law 2814 = .ok (.iconst 0, 1) := dk_3 (dk_at dksL_law_110 23 rfl rfl)
theorem dL_law_2815 : decode cL_law 2815 = .ok (.ireturn, 1) := dk_172 (dk_at dksL_law_111 0 rfl rfl)
theorem dL_law_2816 : decode cL_law 2816 = .ok (.aload_n 1, 1) := dk_43 (dk_at dksL_law_111 1 rfl rfl)
theorem dL_law_2817 : decode cL_law 2817 = .ok (.aload_n 3, 1) := dk_45 (dk_at dksL_law_111 2 rfl rfl)
theorem dL_law_2818 : decode cL_law 2818 = .ok (.invokestatic 352, 3) := dk_184 1 96 (dk_at dksL_law_111 3 rfl rfl)
theorem dL_law_2821 : decode cL_law 2821 = .ok (.istore 5, 2) := dk_54 5 (dk_at dksL_law_111 6 rfl rfl)
theorem dL_law_2823 : decode cL_law 2823 = .ok (.aload_n 2, 1) := dk_44 (dk_at dksL_law_111 8 rfl rfl)
theorem dL_law_2824 : decode cL_law 2824 = .ok (.invokevirtual 354, 3) := dk_182 1 98 (dk_at dksL_law_111 9 rfl rfl)
theorem dL_law_2827 : decode cL_law 2827 = .ok (.istore 6, 2) := dk_54 6 (dk_at dksL_law_111 12 rfl rfl)
theorem dL_law_2829 : decode cL_law 2829 = .ok (.aload_n 2, 1) := dk_44 (dk_at dksL_law_111 14 rfl rfl)
theorem dL_law_2830 : decode cL_law 2830 = .ok (.invokevirtual 160, 3) := dk_182 0 160 (dk_at dksL_law_111 15 rfl rfl)
theorem dL_law_2833 : decode cL_law 2833 = .ok (.iload 5, 2) := dk_21 5 (dk_at dksL_law_111 18 rfl rfl)
theorem dL_law_2835 : decode cL_law 2835 = .ok (.if_icmp .eq 5, 3) := dk_159 0 5 (dk_at dksL_law_111 20 rfl rfl)
theorem dL_law_2838 : decode cL_law 2838 = .ok (.iconst 0, 1) := dk_3 (dk_at dksL_law_111 23 rfl rfl)
theorem dL_law_2839 : decode cL_law 2839 = .ok (.ireturn, 1) := dk_172 (dk_at dksL_law_112 0 rfl rfl)
theorem dL_law_2840 : decode cL_law 2840 = .ok (.iload 5, 2) := dk_21 5 (dk_at dksL_law_112 1 rfl rfl)
theorem dL_law_2842 : decode cL_law 2842 = .ok (.ifCond .ne 15, 3) := dk_154 0 15 (dk_at dksL_law_112 3 rfl rfl)
theorem dL_law_2845 : decode cL_law 2845 = .ok (.aload_n 3, 1) := dk_45 (dk_at dksL_law_112 6 rfl rfl)
theorem dL_law_2846 : decode cL_law 2846 = .ok (.iconst 0, 1) := dk_3 (dk_at dksL_law_112 7 rfl rfl)
theorem dL_law_2847 : decode cL_law 2847 = .ok (.laload, 1) := dk_47 (dk_at dksL_law_112 8 rfl rfl)
theorem dL_law_2848 : decode cL_law 2848 = .ok (.iload 6, 2) := dk_21 6 (dk_at dksL_law_112 9 rfl rfl)
theorem dL_law_2850 : decode cL_law 2850 = .ok (.i2l, 1) := dk_133 (dk_at dksL_law_112 11 rfl rfl)
theorem dL_law_2851 : decode cL_law 2851 = .ok (.lcmp, 1) := dk_148 (dk_at dksL_law_112 12 rfl rfl)
theorem dL_law_2852 : decode cL_law 2852 = .ok (.ifCond .eq 5, 3) := dk_153 0 5 (dk_at dksL_law_112 13 rfl rfl)
theorem dL_law_2855 : decode cL_law 2855 = .ok (.iconst 0, 1) := dk_3 (dk_at dksL_law_112 16 rfl rfl)
theorem dL_law_2856 : decode cL_law 2856 = .ok (.ireturn, 1) := dk_172 (dk_at dksL_law_112 17 rfl rfl)
theorem dL_law_2857 : decode cL_law 2857 = .ok (.goto 117, 3) := dk_167 0 117 (dk_at dksL_law_112 18 rfl rfl)
theorem dL_law_2860 : decode cL_law 2860 = .ok (.aload_n 1, 1) := dk_43 (dk_at dksL_law_112 21 rfl rfl)
theorem dL_law_2861 : decode cL_law 2861 = .ok (.aload_n 3, 1) := dk_45 (dk_at dksL_law_112 22 rfl rfl)
theorem dL_law_2862 : decode cL_law 2862 = .ok (.invokestatic 355, 3) := dk_184 1 99 (dk_at dksL_law_113 0 rfl rfl)
theorem dL_law_2865 : decode cL_law 2865 = .ok (.istore 5, 2) := dk_54 5 (dk_at dksL_law_113 3 rfl rfl)
theorem dL_law_2867 : decode cL_law 2867 = .ok (.aload_n 2, 1) := dk_44 (dk_at dksL_law_113 5 rfl rfl)
theorem dL_law_2868 : decode cL_law 2868 = .ok (.invokevirtual 357, 3) := dk_182 1 101 (dk_at dksL_law_113 6 rfl rfl)
theorem dL_law_2871 : decode cL_law 2871 = .ok (.istore 6, 2) := dk_54 6 (dk_at dksL_law_113 9 rfl rfl)
theorem dL_law_2873 : decode cL_law 2873 = .ok (.aload_n 2, 1) := dk_44 (dk_at dksL_law_113 11 rfl rfl)
theorem dL_law_2874 : decode cL_law 2874 = .ok (.invokevirtual 160, 3) := dk_182 0 160 (dk_at dksL_law_113 12 rfl rfl)
theorem dL_law_2877 : decode cL_law 2877 = .ok (.iload 5, 2) := dk_21 5 (dk_at dksL_law_113 15 rfl rfl)
theorem dL_law_2879 : decode cL_law 2879 = .ok (.if_icmp .eq 5, 3) := dk_159 0 5 (dk_at dksL_law_113 17 rfl rfl)
theorem dL_law_2882 : decode cL_law 2882 = .ok (.iconst 0, 1) := dk_3 (dk_at dksL_law_113 20 rfl rfl)
theorem dL_law_2883 : decode cL_law 2883 = .ok (.ireturn, 1) := dk_172 (dk_at dksL_law_113 21 rfl rfl)
theorem dL_law_2884 : decode cL_law 2884 = .ok (.iload 5, 2) := dk_21 5 (dk_at dksL_law_113 22 rfl rfl)
theorem dL_law_2886 : decode cL_law 2886 = .ok (.ifCond .ne 15, 3) := dk_154 0 15 (dk_at dksL_law_114 0 rfl rfl)
theorem dL_law_2889 : decode cL_law 2889 = .ok (.aload_n 3, 1) := dk_45 (dk_at dksL_law_114 3 rfl rfl)
theorem dL_law_2890 : decode cL_law 2890 = .ok (.iconst 0, 1) := dk_3 (dk_at dksL_law_114 4 rfl rfl)
theorem dL_law_2891 : decode cL_law 2891 = .ok (.laload, 1) := dk_47 (dk_at dksL_law_114 5 rfl rfl)
theorem dL_law_2892 : decode cL_law 2892 = .ok (.iload 6, 2) := dk_21 6 (dk_at dksL_law_114 6 rfl rfl)
theorem dL_law_2894 : decode cL_law 2894 = .ok (.i2l, 1) := dk_133 (dk_at dksL_law_114 8 rfl rfl)
theorem dL_law_2895 : decode cL_law 2895 = .ok (.lcmp, 1) := dk_148 (dk_at dksL_law_114 9 rfl rfl)
theorem dL_law_2896 : decode cL_law 2896 = .ok (.ifCond .eq 5, 3) := dk_153 0 5 (dk_at dksL_law_114 10 rfl rfl)
theorem dL_law_2899 : decode cL_law 2899 = .ok (.iconst 0, 1) := dk_3 (dk_at dksL_law_114 13 rfl rfl)
theorem dL_law_2900 : decode cL_law 2900 = .ok (.ireturn, 1) := dk_172 (dk_at dksL_law_114 14 rfl rfl)
theorem dL_law_2901 : decode cL_law 2901 = .ok (.goto 73, 3) := dk_167 0 73 (dk_at dksL_law_114 15 rfl rfl)
theorem dL_law_2904 : decode cL_law 2904 = .ok (.aload_n 1, 1) := dk_43 (dk_at dksL_law_114 18 rfl rfl)
theorem dL_law_2905 : decode cL_law 2905 = .ok (.invokevirtual 358, 3) := dk_182 1 102 (dk_at dksL_law_114 19 rfl rfl)
theorem dL_law_2908 : decode cL_law 2908 = .ok (.aload_n 2, 1) := dk_44 (dk_at dksL_law_114 22 rfl rfl)
theorem dL_law_2909 : decode cL_law 2909 = .ok (.invokevirtual 361, 3) := dk_182 1 105 (dk_at dksL_law_115 0 rfl rfl)
theorem dL_law_2912 : decode cL_law 2912 = .ok (.if_icmp .eq 62, 3) := dk_159 0 62 (dk_at dksL_law_115 3 rfl rfl)
theorem dL_law_2915 : decode cL_law 2915 = .ok (.iconst 0, 1) := dk_3 (dk_at dksL_law_115 6 rfl rfl)
theorem dL_law_2916 : decode cL_law 2916 = .ok (.ireturn, 1) := dk_172 (dk_at dksL_law_115 7 rfl rfl)
theorem dL_law_2917 : decode cL_law 2917 = .ok (.aload_n 1, 1) := dk_43 (dk_at dksL_law_115 8 rfl rfl)
theorem dL_law_2918 : decode cL_law 2918 = .ok (.invokevirtual 362, 3) := dk_182 1 106 (dk_at dksL_law_115 9 rfl rfl)
theorem dL_law_2921 : decode cL_law 2921 = .ok (.aload_n 2, 1) := dk_44 (dk_at dksL_law_115 12 rfl rfl)
theorem dL_law_2922 : decode cL_law 2922 = .ok (.invokevirtual 365, 3) := dk_182 1 109 (dk_at dksL_law_115 13 rfl rfl)
theorem dL_law_2925 : decode cL_law 2925 = .ok (.if_icmp .eq 49, 3) := dk_159 0 49 (dk_at dksL_law_115 16 rfl rfl)
theorem dL_law_2928 : decode cL_law 2928 = .ok (.iconst 0, 1) := dk_3 (dk_at dksL_law_115 19 rfl rfl)
theorem dL_law_2929 : decode cL_law 2929 = .ok (.ireturn, 1) := dk_172 (dk_at dksL_law_115 20 rfl rfl)
theorem dL_law_2930 : decode cL_law 2930 = .ok (.aload_n 1, 1) := dk_43 (dk_at dksL_law_115 21 rfl rfl)
theorem dL_law_2931 : decode cL_law 2931 = .ok (.aload_n 3, 1) := dk_45 (dk_at dksL_law_115 22 rfl rfl)
theorem dL_law_2932 : decode cL_law 2932 = .ok (.invokestatic 366, 3) := dk_184 1 110 (dk_at dksL_law_116 0 rfl rfl)
theorem dL_law_2935 : decode cL_law 2935 = .ok (.istore 5, 2) := dk_54 5 (dk_at dksL_law_116 3 rfl rfl)
theorem dL_law_2937 : decode cL_law 2937 = .ok (.aload_n 2, 1) := dk_44 (dk_at dksL_law_116 5 rfl rfl)
theorem dL_law_2938 : decode cL_law 2938 = .ok (.invokevirtual 368, 3) := dk_182 1 112 (dk_at dksL_law_116 6 rfl rfl)
theorem dL_law_2941 : decode cL_law 2941 = .ok (.istore 6, 2) := dk_54 6 (dk_at dksL_law_116 9 rfl rfl)
theorem dL_law_2943 : decode cL_law 2943 = .ok (.aload_n 2, 1) := dk_44 (dk_at dksL_law_116 11 rfl rfl)
theorem dL_law_2944 : decode cL_law 2944 = .ok (.invokevirtual 160, 3) := dk_182 0 160 (dk_at dksL_law_116 12 rfl rfl)
theorem dL_law_2947 : decode cL_law 2947 = .ok (.iload 5, 2) := dk_21 5 (dk_at dksL_law_116 15 rfl rfl)
theorem dL_law_2949 : decode cL_law 2949 = .ok (.if_icmp .eq 5, 3) := dk_159 0 5 (dk_at dksL_law_116 17 rfl rfl)
theorem dL_law_2952 : decode cL_law 2952 = .ok (.iconst 0, 1) := dk_3 (dk_at dksL_law_116 20 rfl rfl)
theorem dL_law_2953 : decode cL_law 2953 = .ok (.ireturn, 1) := dk_172 (dk_at dksL_law_116 21 rfl rfl)
theorem dL_law_2954 : decode cL_law 2954 = .ok (.iload 5, 2) := dk_21 5 (dk_at dksL_law_116 22 rfl rfl)
theorem dL_law_2956 : decode cL_law 2956 = .ok (.ifCond .ne 15, 3) := dk_154 0 15 (dk_at dksL_law_117 0 rfl rfl)
theorem dL_law_2959 : decode cL_law 2959 = .ok (.aload_n 3, 1) := dk_45 (dk_at dksL_law_117 3 rfl rfl)
theorem dL_law_2960 : decode cL_law 2960 = .ok (.iconst 0, 1) := dk_3 (dk_at dksL_law_117 4 rfl rfl)
theorem dL_law_2961 : decode cL_law 2961 = .ok (.laload, 1) := dk_47 (dk_at dksL_law_117 5 rfl rfl)
theorem dL_law_2962 : decode cL_law 2962 = .ok (.iload 6, 2) := dk_21 6 (dk_at dksL_law_117 6 rfl rfl)
theorem dL_law_2964 : decode cL_law 2964 = .ok (.i2l, 1) := dk_133 (dk_at dksL_law_117 8 rfl rfl)
theorem dL_law_2965 : decode cL_law 2965 = .ok (.lcmp, 1) := dk_148 (dk_at dksL_law_117 9 rfl rfl)
theorem dL_law_2966 : decode cL_law 2966 = .ok (.ifCond .eq 5, 3) := dk_153 0 5 (dk_at dksL_law_117 10 rfl rfl)
theorem dL_law_2969 : decode cL_law 2969 = .ok (.iconst 0, 1) := dk_3 (dk_at dksL_law_117 13 rfl rfl)
theorem dL_law_2970 : decode cL_law 2970 = .ok (.ireturn, 1) := dk_172 (dk_at dksL_law_117 14 rfl rfl)
theorem dL_law_2971 : decode cL_law 2971 = .ok (.goto 3, 3) := dk_167 0 3 (dk_at dksL_law_117 15 rfl rfl)
theorem dL_law_2974 : decode cL_law 2974 = .ok (.iinc 4 3, 3) := dk_132 4 3 (dk_at dksL_law_117 18 rfl rfl)
theorem dL_law_2977 : decode cL_law 2977 = .ok (.goto (-2954), 3) := dk_167 244 118 (dk_at dksL_law_117 21 rfl rfl)
theorem dL_law_2980 : decode cL_law 2980 = .ok (.iconst 1, 1) := dk_4 (dk_at dksL_law_118 0 rfl rfl)
theorem dL_law_2981 : decode cL_law 2981 = .ok (.ireturn, 1) := dk_172 (dk_at dksL_law_118 1 rfl rfl)
